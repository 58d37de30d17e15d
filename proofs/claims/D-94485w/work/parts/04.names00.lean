set_option maxRecDepth 100000
/-! FourCars$Term -/
def RX8 : String := "FourCars$Term"
abbrev cX8_init : ByteArray := prog_8_method_1_code
def yX8_init : MethodName := ⟨RX8, "<init>", "()V"⟩
theorem dX8_init_0 : decode cX8_init 0 = .ok (.aload_n 0, 1) := by decide +kernel
theorem dX8_init_1 : decode cX8_init 1 = .ok (.invokespecial 1, 3) := by decide +kernel
theorem dX8_init_4 : decode cX8_init 4 = .ok (.return_, 1) := by decide +kernel
theorem q136 : (Jvm.Cond.initialized "FourCars$Term") ∈ lw_all := lw_g (lw_at lw_m1 19 rfl) rfl
theorem q743 : (Jvm.Cond.instanceMethod ({ cls := "FourCars$Term", name := "<init>", desc := "()V" } : Jvm.MethodName)) ∈ lw_all := lw_g (lw_at lw_m3 146 rfl) rfl
theorem q744 : (Jvm.Cond.code ({ cls := "FourCars$Term", name := "<init>", desc := "()V" } : Jvm.MethodName) prog_8_method_1_code (1 : Nat) (Option.none : Option Jvm.ClassFile.FieldType)) ∈ lw_all := lw_g (lw_at lw_m3 147 rfl) rfl
theorem q745 : (Jvm.Cond.methodLink "FourCars$Term" (1 : Nat) ({ cls := "java/lang/Object", name := "<init>", desc := "()V" } : Jvm.MethodName)) ∈ lw_all := lw_g (lw_at lw_m3 148 rfl) rfl
theorem q908 : (Jvm.Cond.declares ({ cls := "FourCars$Term", name := "of", desc := "([I)I" } : Jvm.MethodName)) ∈ lw_tbl := lw_at lw_m4 71 rfl
theorem q909 : (Jvm.Cond.sameMethod "FourCars$Term" "FourCars$Term" "of" "([I)I") ∈ lw_all := lw_g (lw_at lw_m4 72 rfl) rfl
/-! FourCars$Number -/
def RX9 : String := "FourCars$Number"
def TX9 : u_T := fun k => match k with
  | _ => ("FourCars$Number", "v", "I", true)
def tyX9 : Nat → FieldType := fun k => match k with
  | _ => .int
abbrev wsX90 : List Cond := u_ws RX9 TX9 1
theorem nmX9 : ∀ a, a < 1 → ∀ b, b < 1 → a ≠ b → (TX9 a).2.1 ≠ (TX9 b).2.1 := by decide +kernel
theorem tyX9_ok : ∀ k, k < 1 → parseFieldDescriptor (TX9 k).2.2.1 = some (tyX9 k) := by decide +kernel
abbrev cX9_init : ByteArray := prog_5_method_1_code
def yX9_init : MethodName := ⟨RX9, "<init>", "(I)V"⟩
def dkwX9_init_0 : List UInt8 := [42, 183, 0, 1, 42, 27, 181, 0, 7, 177]
abbrev dktX9_init_0 : List UInt8 := dkwX9_init_0 ++ []
theorem dksX9_init_0 : cX9_init.data.toList.drop 0 = dktX9_init_0 := by decide +kernel
theorem dX9_init_0 : decode cX9_init 0 = .ok (.aload_n 0, 1) := dk_42 (dk_at dksX9_init_0 0 rfl rfl)
theorem dX9_init_1 : decode cX9_init 1 = .ok (.invokespecial 1, 3) := dk_183 0 1 (dk_at dksX9_init_0 1 rfl rfl)
theorem dX9_init_4 : decode cX9_init 4 = .ok (.aload_n 0, 1) := dk_42 (dk_at dksX9_init_0 4 rfl rfl)
theorem dX9_init_5 : decode cX9_init 5 = .ok (.iload_n 1, 1) := dk_27 (dk_at dksX9_init_0 5 rfl rfl)
theorem dX9_init_6 : decode cX9_init 6 = .ok (.putfield 7, 3) := dk_181 0 7 (dk_at dksX9_init_0 6 rfl rfl)
theorem dX9_init_9 : decode cX9_init 9 = .ok (.return_, 1) := dk_177 (dk_at dksX9_init_0 9 rfl rfl)
abbrev cX9_of : ByteArray := prog_5_method_2_code
def yX9_of : MethodName := ⟨RX9, "of", "([I)I"⟩
theorem dX9_of_0 : decode cX9_of 0 = .ok (.aload_n 0, 1) := by decide +kernel
theorem dX9_of_1 : decode cX9_of 1 = .ok (.getfield 7, 3) := by decide +kernel
theorem dX9_of_4 : decode cX9_of 4 = .ok (.ireturn, 1) := by decide +kernel
theorem q137 : (Jvm.Cond.initialized "FourCars$Number") ∈ lw_all := lw_g (lw_at lw_m1 20 rfl) rfl
theorem q738 : (Jvm.Cond.instantiable "FourCars$Number" (1 : Nat)) ∈ lw_all := lw_g (lw_at lw_m3 141 rfl) rfl
theorem q740 : (Jvm.Cond.instanceMethod ({ cls := "FourCars$Number", name := "<init>", desc := "(I)V" } : Jvm.MethodName)) ∈ lw_all := lw_g (lw_at lw_m3 143 rfl) rfl
theorem q741 : (Jvm.Cond.code ({ cls := "FourCars$Number", name := "<init>", desc := "(I)V" } : Jvm.MethodName) prog_5_method_1_code (2 : Nat) (Option.none : Option Jvm.ClassFile.FieldType)) ∈ lw_all := lw_g (lw_at lw_m3 144 rfl) rfl
theorem q742 : (Jvm.Cond.methodLinkNest "FourCars$Number" (1 : Nat) ({ cls := "FourCars$Term", name := "<init>", desc := "()V" } : Jvm.MethodName) "FourCars") ∈ lw_tbl := lw_at lw_m3 145 rfl
theorem q746 : (Jvm.Cond.fieldLink "FourCars$Number" (7 : Nat) "FourCars$Number" "v" "I") ∈ lw_all := lw_g (lw_at lw_m3 149 rfl) rfl
theorem q747 : (Jvm.Cond.laysFinal "FourCars$Number" "FourCars$Number" "v" "I") ∈ lw_all := lw_g (lw_at lw_m3 150 rfl) rfl
theorem q748 : (Jvm.Cond.soleField "FourCars$Number" "v") ∈ lw_all := lw_g (lw_at lw_m3 151 rfl) rfl
theorem q749 : (Jvm.Cond.superclass "FourCars$Number" "FourCars$Term") ∈ lw_all := lw_g (lw_at lw_m3 152 rfl) rfl
theorem q914 : (Jvm.Cond.instanceMethod ({ cls := "FourCars$Number", name := "of", desc := "([I)I" } : Jvm.MethodName)) ∈ lw_all := lw_g (lw_at lw_m4 77 rfl) rfl
theorem q915 : (Jvm.Cond.code ({ cls := "FourCars$Number", name := "of", desc := "([I)I" } : Jvm.MethodName) prog_5_method_2_code (2 : Nat) (Option.some Jvm.ClassFile.FieldType.int)) ∈ lw_all := lw_g (lw_at lw_m4 78 rfl) rfl
theorem q921 : (Jvm.Cond.selects "FourCars$Number" ({ cls := "FourCars$Term", name := "of", desc := "([I)I" } : Jvm.MethodName) ({ cls := "FourCars$Number", name := "of", desc := "([I)I" } : Jvm.MethodName)) ∈ lw_all := lw_g (lw_at lw_m4 84 rfl) rfl
theorem q1637 : (Jvm.Cond.castable "FourCars$Number" "FourCars$Term") ∈ lw_tbl := lw_at lw_m7 80 rfl
theorem in_X9 : ∀ w ∈ wsX90, w ∈ lw_all := lw_in wsX90 [747] (by decide +kernel) (by decide +kernel)
/-! FourCars$Word -/
def RX10 : String := "FourCars$Word"
def TX10 : u_T := fun k => match k with
  | _ => ("FourCars$Word", "k", "I", true)
def tyX10 : Nat → FieldType := fun k => match k with
  | _ => .int
abbrev wsX100 : List Cond := u_ws RX10 TX10 1
theorem nmX10 : ∀ a, a < 1 → ∀ b, b < 1 → a ≠ b → (TX10 a).2.1 ≠ (TX10 b).2.1 := by decide +kernel
theorem tyX10_ok : ∀ k, k < 1 → parseFieldDescriptor (TX10 k).2.2.1 = some (tyX10 k) := by decide +kernel
abbrev cX10_init : ByteArray := prog_13_method_1_code
def yX10_init : MethodName := ⟨RX10, "<init>", "(I)V"⟩
def dkwX10_init_0 : List UInt8 := [42, 183, 0, 1, 42, 27, 181, 0, 7, 177]
abbrev dktX10_init_0 : List UInt8 := dkwX10_init_0 ++ []
theorem dksX10_init_0 : cX10_init.data.toList.drop 0 = dktX10_init_0 := by decide +kernel
theorem dX10_init_0 : decode cX10_init 0 = .ok (.aload_n 0, 1) := dk_42 (dk_at dksX10_init_0 0 rfl rfl)
theorem dX10_init_1 : decode cX10_init 1 = .ok (.invokespecial 1, 3) := dk_183 0 1 (dk_at dksX10_init_0 1 rfl rfl)
theorem dX10_init_4 : decode cX10_init 4 = .ok (.aload_n 0, 1) := dk_42 (dk_at dksX10_init_0 4 rfl rfl)
theorem dX10_init_5 : decode cX10_init 5 = .ok (.iload_n 1, 1) := dk_27 (dk_at dksX10_init_0 5 rfl rfl)
theorem dX10_init_6 : decode cX10_init 6 = .ok (.putfield 7, 3) := dk_181 0 7 (dk_at dksX10_init_0 6 rfl rfl)
theorem dX10_init_9 : decode cX10_init 9 = .ok (.return_, 1) := dk_177 (dk_at dksX10_init_0 9 rfl rfl)
abbrev cX10_of : ByteArray := prog_13_method_2_code
def yX10_of : MethodName := ⟨RX10, "of", "([I)I"⟩
def dkwX10_of_0 : List UInt8 := [43, 42, 180, 0, 7, 46, 172]
abbrev dktX10_of_0 : List UInt8 := dkwX10_of_0 ++ []
theorem dksX10_of_0 : cX10_of.data.toList.drop 0 = dktX10_of_0 := by decide +kernel
theorem dX10_of_0 : decode cX10_of 0 = .ok (.aload_n 1, 1) := dk_43 (dk_at dksX10_of_0 0 rfl rfl)
theorem dX10_of_1 : decode cX10_of 1 = .ok (.aload_n 0, 1) := dk_42 (dk_at dksX10_of_0 1 rfl rfl)
theorem dX10_of_2 : decode cX10_of 2 = .ok (.getfield 7, 3) := dk_180 0 7 (dk_at dksX10_of_0 2 rfl rfl)
theorem dX10_of_5 : decode cX10_of 5 = .ok (.iaload, 1) := dk_46 (dk_at dksX10_of_0 5 rfl rfl)
theorem dX10_of_6 : decode cX10_of 6 = .ok (.ireturn, 1) := dk_172 (dk_at dksX10_of_0 6 rfl rfl)
theorem q138 : (Jvm.Cond.initialized "FourCars$Word") ∈ lw_all := lw_g (lw_at lw_m1 21 rfl) rfl
theorem q751 : (Jvm.Cond.instantiable "FourCars$Word" (1 : Nat)) ∈ lw_all := lw_g (lw_at lw_m3 154 rfl) rfl
theorem q753 : (Jvm.Cond.instanceMethod ({ cls := "FourCars$Word", name := "<init>", desc := "(I)V" } : Jvm.MethodName)) ∈ lw_all := lw_g (lw_at lw_m3 156 rfl) rfl
theorem q754 : (Jvm.Cond.code ({ cls := "FourCars$Word", name := "<init>", desc := "(I)V" } : Jvm.MethodName) prog_13_method_1_code (2 : Nat) (Option.none : Option Jvm.ClassFile.FieldType)) ∈ lw_all := lw_g (lw_at lw_m3 157 rfl) rfl
theorem q755 : (Jvm.Cond.methodLinkNest "FourCars$Word" (1 : Nat) ({ cls := "FourCars$Term", name := "<init>", desc := "()V" } : Jvm.MethodName) "FourCars") ∈ lw_tbl := lw_at lw_m3 158 rfl
theorem q756 : (Jvm.Cond.fieldLink "FourCars$Word" (7 : Nat) "FourCars$Word" "k" "I") ∈ lw_all := lw_g (lw_at lw_m3 159 rfl) rfl
theorem q757 : (Jvm.Cond.laysFinal "FourCars$Word" "FourCars$Word" "k" "I") ∈ lw_all := lw_g (lw_at lw_m3 160 rfl) rfl
theorem q758 : (Jvm.Cond.soleField "FourCars$Word" "k") ∈ lw_all := lw_g (lw_at lw_m3 161 rfl) rfl
theorem q759 : (Jvm.Cond.superclass "FourCars$Word" "FourCars$Term") ∈ lw_all := lw_g (lw_at lw_m3 162 rfl) rfl
theorem q919 : (Jvm.Cond.instanceMethod ({ cls := "FourCars$Word", name := "of", desc := "([I)I" } : Jvm.MethodName)) ∈ lw_all := lw_g (lw_at lw_m4 82 rfl) rfl
theorem q920 : (Jvm.Cond.code ({ cls := "FourCars$Word", name := "of", desc := "([I)I" } : Jvm.MethodName) prog_13_method_2_code (2 : Nat) (Option.some Jvm.ClassFile.FieldType.int)) ∈ lw_all := lw_g (lw_at lw_m4 83 rfl) rfl
theorem q923 : (Jvm.Cond.selects "FourCars$Word" ({ cls := "FourCars$Term", name := "of", desc := "([I)I" } : Jvm.MethodName) ({ cls := "FourCars$Word", name := "of", desc := "([I)I" } : Jvm.MethodName)) ∈ lw_all := lw_g (lw_at lw_m4 86 rfl) rfl
theorem q1638 : (Jvm.Cond.castable "FourCars$Word" "FourCars$Term") ∈ lw_tbl := lw_at lw_m7 81 rfl
theorem in_X10 : ∀ w ∈ wsX100, w ∈ lw_all := lw_in wsX100 [757] (by decide +kernel) (by decide +kernel)
/-! FourCars$Two -/
def RX11 : String := "FourCars$Two"
def TX11 : u_T := fun k => match k with
  | 0 => ("FourCars$Two", "sign", "C", true)
  | 1 => ("FourCars$Two", "a", "LFourCars$Term;", true)
  | _ => ("FourCars$Two", "b", "LFourCars$Term;", true)
def tyX11 : Nat → FieldType := fun k => match k with
  | 0 => .char
  | 1 => .object "FourCars$Term"
  | _ => .object "FourCars$Term"
abbrev wsX110 : List Cond := u_ws RX11 TX11 3
theorem nmX11 : ∀ a, a < 3 → ∀ b, b < 3 → a ≠ b → (TX11 a).2.1 ≠ (TX11 b).2.1 := by decide +kernel
theorem tyX11_ok : ∀ k, k < 3 → parseFieldDescriptor (TX11 k).2.2.1 = some (tyX11 k) := by decide +kernel
abbrev cX11_init : ByteArray := prog_12_method_1_code
def yX11_init : MethodName := ⟨RX11, "<init>", "(CLFourCars$Term;LFourCars$Term;)V"⟩
def dkwX11_init_0 : List UInt8 := [42, 183, 0, 1, 42, 27, 181, 0, 7, 42, 44, 181, 0, 13, 42, 45, 181, 0, 17, 177]
abbrev dktX11_init_0 : List UInt8 := dkwX11_init_0 ++ []
theorem dksX11_init_0 : cX11_init.data.toList.drop 0 = dktX11_init_0 := by decide +kernel
theorem dX11_init_0 : decode cX11_init 0 = .ok (.aload_n 0, 1) := dk_42 (dk_at dksX11_init_0 0 rfl rfl)
theorem dX11_init_1 : decode cX11_init 1 = .ok (.invokespecial 1, 3) := dk_183 0 1 (dk_at dksX11_init_0 1 rfl rfl)
theorem dX11_init_4 : decode cX11_init 4 = .ok (.aload_n 0, 1) := dk_42 (dk_at dksX11_init_0 4 rfl rfl)
theorem dX11_init_5 : decode cX11_init 5 = .ok (.iload_n 1, 1) := dk_27 (dk_at dksX11_init_0 5 rfl rfl)
theorem dX11_init_6 : decode cX11_init 6 = .ok (.putfield 7, 3) := dk_181 0 7 (dk_at dksX11_init_0 6 rfl rfl)
theorem dX11_init_9 : decode cX11_init 9 = .ok (.aload_n 0, 1) := dk_42 (dk_at dksX11_init_0 9 rfl rfl)
theorem dX11_init_10 : decode cX11_init 10 = .ok (.aload_n 2, 1) := dk_44 (dk_at dksX11_init_0 10 rfl rfl)
theorem dX11_init_11 : decode cX11_init 11 = .ok (.putfield 13, 3) := dk_181 0 13 (dk_at dksX11_init_0 11 rfl rfl)
theorem dX11_init_14 : decode cX11_init 14 = .ok (.aload_n 0, 1) := dk_42 (dk_at dksX11_init_0 14 rfl rfl)
theorem dX11_init_15 : decode cX11_init 15 = .ok (.aload_n 3, 1) := dk_45 (dk_at dksX11_init_0 15 rfl rfl)
theorem dX11_init_16 : decode cX11_init 16 = .ok (.putfield 17, 3) := dk_181 0 17 (dk_at dksX11_init_0 16 rfl rfl)
theorem dX11_init_19 : decode cX11_init 19 = .ok (.return_, 1) := dk_177 (dk_at dksX11_init_0 19 rfl rfl)
abbrev cX11_of : ByteArray := prog_12_method_2_code
def yX11_of : MethodName := ⟨RX11, "of", "([I)I"⟩
def dkwX11_of_4 : List UInt8 := [167, 0, 4, 3, 172, 28, 29, 126, 172, 28, 29, 128, 172]
abbrev dktX11_of_4 : List UInt8 := dkwX11_of_4 ++ []
def dkwX11_of_3 : List UInt8 := [167, 0, 4, 3, 172, 28, 29, 160, 0, 7, 4, 167, 0, 4, 3, 172, 28, 29, 164, 0, 7, 4]
abbrev dktX11_of_3 : List UInt8 := dkwX11_of_3 ++ dktX11_of_4
def dkwX11_of_2 : List UInt8 := [28, 29, 96, 172, 28, 29, 100, 172, 28, 29, 104, 172, 28, 29, 108, 172, 28, 29, 162, 0, 7, 4]
abbrev dktX11_of_2 : List UInt8 := dkwX11_of_2 ++ dktX11_of_3
def dkwX11_of_1 : List UInt8 := [170, 0, 0, 0, 0, 167, 0, 0, 0, 38, 0, 0, 0, 62, 0, 0, 0, 163, 0, 0, 0, 167, 0, 0, 0, 167, 0, 0, 0, 167, 0, 0, 0, 122, 0, 0, 0, 114, 0, 0, 0, 167, 0, 0, 0, 118, 0, 0, 0, 167, 0, 0, 0, 126, 0, 0, 0, 167, 0, 0, 0, 167, 0, 0, 0, 167, 0, 0, 0, 167, 0, 0, 0, 167, 0, 0, 0, 167, 0, 0, 0, 167, 0, 0, 0, 167, 0, 0, 0, 167, 0, 0, 0, 167, 0, 0, 0, 167, 0, 0, 0, 167, 0, 0, 0, 130, 0, 0, 0, 141, 0, 0, 0, 152]
abbrev dktX11_of_1 : List UInt8 := dkwX11_of_1 ++ dktX11_of_2
def dkwX11_of_0 : List UInt8 := [42, 180, 0, 13, 43, 182, 0, 20, 61, 42, 180, 0, 17, 43, 182, 0, 20, 62, 42, 180, 0, 7]
abbrev dktX11_of_0 : List UInt8 := dkwX11_of_0 ++ dktX11_of_1
theorem dksX11_of_0 : cX11_of.data.toList.drop 0 = dktX11_of_0 := by decide +kernel
theorem dksX11_of_1 : cX11_of.data.toList.drop 22 = dktX11_of_1 := dk_seg dksX11_of_0 22 rfl rfl
theorem dksX11_of_2 : cX11_of.data.toList.drop 136 = dktX11_of_2 := dk_seg dksX11_of_1 114 rfl rfl
theorem dksX11_of_3 : cX11_of.data.toList.drop 158 = dktX11_of_3 := dk_seg dksX11_of_2 22 rfl rfl
theorem dksX11_of_4 : cX11_of.data.toList.drop 180 = dktX11_of_4 := dk_seg dksX11_of_3 22 rfl rfl
theorem dX11_of_0 : decode cX11_of 0 = .ok (.aload_n 0, 1) := dk_42 (dk_at dksX11_of_0 0 rfl rfl)
theorem dX11_of_1 : decode cX11_of 1 = .ok (.getfield 13, 3) := dk_180 0 13 (dk_at dksX11_of_0 1 rfl rfl)
theorem dX11_of_4 : decode cX11_of 4 = .ok (.aload_n 1, 1) := dk_43 (dk_at dksX11_of_0 4 rfl rfl)
theorem dX11_of_5 : decode cX11_of 5 = .ok (.invokevirtual 20, 3) := dk_182 0 20 (dk_at dksX11_of_0 5 rfl rfl)
theorem dX11_of_8 : decode cX11_of 8 = .ok (.istore_n 2, 1) := dk_61 (dk_at dksX11_of_0 8 rfl rfl)
theorem dX11_of_9 : decode cX11_of 9 = .ok (.aload_n 0, 1) := dk_42 (dk_at dksX11_of_0 9 rfl rfl)
theorem dX11_of_10 : decode cX11_of 10 = .ok (.getfield 17, 3) := dk_180 0 17 (dk_at dksX11_of_0 10 rfl rfl)
theorem dX11_of_13 : decode cX11_of 13 = .ok (.aload_n 1, 1) := dk_43 (dk_at dksX11_of_0 13 rfl rfl)
theorem dX11_of_14 : decode cX11_of 14 = .ok (.invokevirtual 20, 3) := dk_182 0 20 (dk_at dksX11_of_0 14 rfl rfl)
theorem dX11_of_17 : decode cX11_of 17 = .ok (.istore_n 3, 1) := dk_62 (dk_at dksX11_of_0 17 rfl rfl)
theorem dX11_of_18 : decode cX11_of 18 = .ok (.aload_n 0, 1) := dk_42 (dk_at dksX11_of_0 18 rfl rfl)
theorem dX11_of_19 : decode cX11_of 19 = .ok (.getfield 7, 3) := dk_180 0 7 (dk_at dksX11_of_0 19 rfl rfl)
theorem dX11_of_22 : decode cX11_of 22 = .ok (.tableswitch 167 38 62 #[163, 167, 167, 167, 122, 114, 167, 118, 167, 126, 167, 167, 167, 167, 167, 167, 167, 167, 167, 167, 167, 167, 130, 141, 152], 114) := by decide +kernel
theorem dX11_of_136 : decode cX11_of 136 = .ok (.iload_n 2, 1) := dk_28 (dk_at dksX11_of_2 0 rfl rfl)
theorem dX11_of_137 : decode cX11_of 137 = .ok (.iload_n 3, 1) := dk_29 (dk_at dksX11_of_2 1 rfl rfl)
theorem dX11_of_138 : decode cX11_of 138 = .ok (.iadd, 1) := dk_96 (dk_at dksX11_of_2 2 rfl rfl)
theorem dX11_of_139 : decode cX11_of 139 = .ok (.ireturn, 1) := dk_172 (dk_at dksX11_of_2 3 rfl rfl)
theorem dX11_of_140 : decode cX11_of 140 = .ok (.iload_n 2, 1) := dk_28 (dk_at dksX11_of_2 4 rfl rfl)
theorem dX11_of_141 : decode cX11_of 141 = .ok (.iload_n 3, 1) := dk_29 (dk_at dksX11_of_2 5 rfl rfl)
theorem dX11_of_142 : decode cX11_of 142 = .ok (.isub, 1) := dk_100 (dk_at dksX11_of_2 6 rfl rfl)
theorem dX11_of_143 : decode cX11_of 143 = .ok (.ireturn, 1) := dk_172 (dk_at dksX11_of_2 7 rfl rfl)
theorem dX11_of_144 : decode cX11_of 144 = .ok (.iload_n 2, 1) := dk_28 (dk_at dksX11_of_2 8 rfl rfl)
theorem dX11_of_145 : decode cX11_of 145 = .ok (.iload_n 3, 1) := dk_29 (dk_at dksX11_of_2 9 rfl rfl)
theorem dX11_of_146 : decode cX11_of 146 = .ok (.imul, 1) := dk_104 (dk_at dksX11_of_2 10 rfl rfl)
theorem dX11_of_147 : decode cX11_of 147 = .ok (.ireturn, 1) := dk_172 (dk_at dksX11_of_2 11 rfl rfl)
theorem dX11_of_148 : decode cX11_of 148 = .ok (.iload_n 2, 1) := dk_28 (dk_at dksX11_of_2 12 rfl rfl)
theorem dX11_of_149 : decode cX11_of 149 = .ok (.iload_n 3, 1) := dk_29 (dk_at dksX11_of_2 13 rfl rfl)
theorem dX11_of_150 : decode cX11_of 150 = .ok (.idiv, 1) := dk_108 (dk_at dksX11_of_2 14 rfl rfl)
theorem dX11_of_151 : decode cX11_of 151 = .ok (.ireturn, 1) := dk_172 (dk_at dksX11_of_2 15 rfl rfl)
theorem dX11_of_152 : decode cX11_of 152 = .ok (.iload_n 2, 1) := dk_28 (dk_at dksX11_of_2 16 rfl rfl)
theorem dX11_of_153 : decode cX11_of 153 = .ok (.iload_n 3, 1) := dk_29 (dk_at dksX11_of_2 17 rfl rfl)
theorem dX11_of_154 : decode cX11_of 154 = .ok (.if_icmp .ge 7, 3) := dk_162 0 7 (dk_at dksX11_of_2 18 rfl rfl)
theorem dX11_of_157 : decode cX11_of 157 = .ok (.iconst 1, 1) := dk_4 (dk_at dksX11_of_2 21 rfl rfl)
theorem dX11_of_158 : decode cX11_of 158 = .ok (.goto 4, 3) := dk_167 0 4 (dk_at dksX11_of_3 0 rfl rfl)
theorem dX11_of_161 : decode cX11_of 161 = .ok (.iconst 0, 1) := dk_3 (dk_at dksX11_of_3 3 rfl rfl)
theorem dX11_of_162 : decode cX11_of 162 = .ok (.ireturn, 1) := dk_172 (dk_at dksX11_of_3 4 rfl rfl)
theorem dX11_of_163 : decode cX11_of 163 = .ok (.iload_n 2, 1) := dk_28 (dk_at dksX11_of_3 5 rfl rfl)
theorem dX11_of_164 : decode cX11_of 164 = .ok (.iload_n 3, 1) := dk_29 (dk_at dksX11_of_3 6 rfl rfl)
theorem dX11_of_165 : decode cX11_of 165 = .ok (.if_icmp .ne 7, 3) := dk_160 0 7 (dk_at dksX11_of_3 7 rfl rfl)
theorem dX11_of_168 : decode cX11_of 168 = .ok (.iconst 1, 1) := dk_4 (dk_at dksX11_of_3 10 rfl rfl)
theorem dX11_of_169 : decode cX11_of 169 = .ok (.goto 4, 3) := dk_167 0 4 (dk_at dksX11_of_3 11 rfl rfl)
theorem dX11_of_172 : decode cX11_of 172 = .ok (.iconst 0, 1) := dk_3 (dk_at dksX11_of_3 14 rfl rfl)
theorem dX11_of_173 : decode cX11_of 173 = .ok (.ireturn, 1) := dk_172 (dk_at dksX11_of_3 15 rfl rfl)
theorem dX11_of_174 : decode cX11_of 174 = .ok (.iload_n 2, 1) := dk_28 (dk_at dksX11_of_3 16 rfl rfl)
theorem dX11_of_175 : decode cX11_of 175 = .ok (.iload_n 3, 1) := dk_29 (dk_at dksX11_of_3 17 rfl rfl)
theorem dX11_of_176 : decode cX11_of 176 = .ok (.if_icmp .le 7, 3) := dk_164 0 7 (dk_at dksX11_of_3 18 rfl rfl)
theorem dX11_of_179 : decode cX11_of 179 = .ok (.iconst 1, 1) := dk_4 (dk_at dksX11_of_3 21 rfl rfl)
theorem dX11_of_180 : decode cX11_of 180 = .ok (.goto 4, 3) := dk_167 0 4 (dk_at dksX11_of_4 0 rfl rfl)
theorem dX11_of_183 : decode cX11_of 183 = .ok (.iconst 0, 1) := dk_3 (dk_at dksX11_of_4 3 rfl rfl)
theorem dX11_of_184 : decode cX11_of 184 = .ok (.ireturn, 1) := dk_172 (dk_at dksX11_of_4 4 rfl rfl)
theorem dX11_of_185 : decode cX11_of 185 = .ok (.iload_n 2, 1) := dk_28 (dk_at dksX11_of_4 5 rfl rfl)
theorem dX11_of_186 : decode cX11_of 186 = .ok (.iload_n 3, 1) := dk_29 (dk_at dksX11_of_4 6 rfl rfl)
theorem dX11_of_187 : decode cX11_of 187 = .ok (.iand, 1) := dk_126 (dk_at dksX11_of_4 7 rfl rfl)
theorem dX11_of_188 : decode cX11_of 188 = .ok (.ireturn, 1) := dk_172 (dk_at dksX11_of_4 8 rfl rfl)
theorem dX11_of_189 : decode cX11_of 189 = .ok (.iload_n 2, 1) := dk_28 (dk_at dksX11_of_4 9 rfl rfl)
theorem dX11_of_190 : decode cX11_of 190 = .ok (.iload_n 3, 1) := dk_29 (dk_at dksX11_of_4 10 rfl rfl)
theorem dX11_of_191 : decode cX11_of 191 = .ok (.ior, 1) := dk_128 (dk_at dksX11_of_4 11 rfl rfl)
theorem dX11_of_192 : decode cX11_of 192 = .ok (.ireturn, 1) := dk_172 (dk_at dksX11_of_4 12 rfl rfl)
theorem q139 : (Jvm.Cond.initialized "FourCars$Two") ∈ lw_all := lw_g (lw_at lw_m1 22 rfl) rfl
theorem q765 : (Jvm.Cond.instantiable "FourCars$Two" (3 : Nat)) ∈ lw_all := lw_g (lw_at lw_m3 168 rfl) rfl
theorem q767 : (Jvm.Cond.instanceMethod ({ cls := "FourCars$Two", name := "<init>", desc := "(CLFourCars$Term;LFourCars$Term;)V" } : Jvm.MethodName)) ∈ lw_all := lw_g (lw_at lw_m3 170 rfl) rfl
theorem q768 : (Jvm.Cond.code ({ cls := "FourCars$Two", name := "<init>", desc := "(CLFourCars$Term;LFourCars$Term;)V" } : Jvm.MethodName) prog_12_method_1_code (4 : Nat) (Option.none : Option Jvm.ClassFile.FieldType)) ∈ lw_all := lw_g (lw_at lw_m3 171 rfl) rfl
theorem q769 : (Jvm.Cond.methodLinkNest "FourCars$Two" (1 : Nat) ({ cls := "FourCars$Term", name := "<init>", desc := "()V" } : Jvm.MethodName) "FourCars") ∈ lw_tbl := lw_at lw_m3 172 rfl
theorem q770 : (Jvm.Cond.fieldLink "FourCars$Two" (7 : Nat) "FourCars$Two" "sign" "C") ∈ lw_all := lw_g (lw_at lw_m3 173 rfl) rfl
theorem q771 : (Jvm.Cond.fieldLink "FourCars$Two" (13 : Nat) "FourCars$Two" "a" "LFourCars$Term;") ∈ lw_all := lw_g (lw_at lw_m3 174 rfl) rfl
theorem q772 : (Jvm.Cond.fieldLink "FourCars$Two" (17 : Nat) "FourCars$Two" "b" "LFourCars$Term;") ∈ lw_all := lw_g (lw_at lw_m3 175 rfl) rfl
theorem q773 : (Jvm.Cond.laysFinal "FourCars$Two" "FourCars$Two" "sign" "C") ∈ lw_all := lw_g (lw_at lw_m3 176 rfl) rfl
theorem q774 : (Jvm.Cond.soleField "FourCars$Two" "sign") ∈ lw_all := lw_g (lw_at lw_m3 177 rfl) rfl
theorem q775 : (Jvm.Cond.laysFinal "FourCars$Two" "FourCars$Two" "a" "LFourCars$Term;") ∈ lw_all := lw_g (lw_at lw_m3 178 rfl) rfl
theorem q776 : (Jvm.Cond.soleField "FourCars$Two" "a") ∈ lw_all := lw_g (lw_at lw_m3 179 rfl) rfl
theorem q777 : (Jvm.Cond.laysFinal "FourCars$Two" "FourCars$Two" "b" "LFourCars$Term;") ∈ lw_all := lw_g (lw_at lw_m3 180 rfl) rfl
theorem q778 : (Jvm.Cond.soleField "FourCars$Two" "b") ∈ lw_all := lw_g (lw_at lw_m3 181 rfl) rfl
theorem q779 : (Jvm.Cond.superclass "FourCars$Two" "FourCars$Term") ∈ lw_all := lw_g (lw_at lw_m3 182 rfl) rfl
theorem q916 : (Jvm.Cond.instanceMethod ({ cls := "FourCars$Two", name := "of", desc := "([I)I" } : Jvm.MethodName)) ∈ lw_all := lw_g (lw_at lw_m4 79 rfl) rfl
theorem q917 : (Jvm.Cond.code ({ cls := "FourCars$Two", name := "of", desc := "([I)I" } : Jvm.MethodName) prog_12_method_2_code (4 : Nat) (Option.some Jvm.ClassFile.FieldType.int)) ∈ lw_all := lw_g (lw_at lw_m4 80 rfl) rfl
theorem q918 : (Jvm.Cond.methodLink "FourCars$Two" (20 : Nat) ({ cls := "FourCars$Term", name := "of", desc := "([I)I" } : Jvm.MethodName)) ∈ lw_all := lw_g (lw_at lw_m4 81 rfl) rfl
theorem q922 : (Jvm.Cond.selects "FourCars$Two" ({ cls := "FourCars$Term", name := "of", desc := "([I)I" } : Jvm.MethodName) ({ cls := "FourCars$Two", name := "of", desc := "([I)I" } : Jvm.MethodName)) ∈ lw_all := lw_g (lw_at lw_m4 85 rfl) rfl
theorem q1639 : (Jvm.Cond.castable "FourCars$Two" "FourCars$Term") ∈ lw_tbl := lw_at lw_m7 82 rfl
theorem in_X11 : ∀ w ∈ wsX110, w ∈ lw_all := lw_in wsX110 [773, 775, 777] (by decide +kernel) (by decide +kernel)
/-! FourCars$Not -/
def RX12 : String := "FourCars$Not"
def TX12 : u_T := fun k => match k with
  | _ => ("FourCars$Not", "in", "LFourCars$Term;", true)
def tyX12 : Nat → FieldType := fun k => match k with
  | _ => .object "FourCars$Term"
abbrev wsX120 : List Cond := u_ws RX12 TX12 1
theorem nmX12 : ∀ a, a < 1 → ∀ b, b < 1 → a ≠ b → (TX12 a).2.1 ≠ (TX12 b).2.1 := by decide +kernel
theorem tyX12_ok : ∀ k, k < 1 → parseFieldDescriptor (TX12 k).2.2.1 = some (tyX12 k) := by decide +kernel
abbrev cX12_init : ByteArray := prog_4_method_1_code
def yX12_init : MethodName := ⟨RX12, "<init>", "(LFourCars$Term;)V"⟩
def dkwX12_init_0 : List UInt8 := [42, 183, 0, 1, 42, 43, 181, 0, 7, 177]
abbrev dktX12_init_0 : List UInt8 := dkwX12_init_0 ++ []
theorem dksX12_init_0 : cX12_init.data.toList.drop 0 = dktX12_init_0 := by decide +kernel
theorem dX12_init_0 : decode cX12_init 0 = .ok (.aload_n 0, 1) := dk_42 (dk_at dksX12_init_0 0 rfl rfl)
theorem dX12_init_1 : decode cX12_init 1 = .ok (.invokespecial 1, 3) := dk_183 0 1 (dk_at dksX12_init_0 1 rfl rfl)
theorem dX12_init_4 : decode cX12_init 4 = .ok (.aload_n 0, 1) := dk_42 (dk_at dksX12_init_0 4 rfl rfl)
theorem dX12_init_5 : decode cX12_init 5 = .ok (.aload_n 1, 1) := dk_43 (dk_at dksX12_init_0 5 rfl rfl)
theorem dX12_init_6 : decode cX12_init 6 = .ok (.putfield 7, 3) := dk_181 0 7 (dk_at dksX12_init_0 6 rfl rfl)
theorem dX12_init_9 : decode cX12_init 9 = .ok (.return_, 1) := dk_177 (dk_at dksX12_init_0 9 rfl rfl)
abbrev cX12_of : ByteArray := prog_4_method_2_code
def yX12_of : MethodName := ⟨RX12, "of", "([I)I"⟩
def dkwX12_of_0 : List UInt8 := [4, 42, 180, 0, 7, 43, 182, 0, 13, 100, 172]
abbrev dktX12_of_0 : List UInt8 := dkwX12_of_0 ++ []
theorem dksX12_of_0 : cX12_of.data.toList.drop 0 = dktX12_of_0 := by decide +kernel
theorem dX12_of_0 : decode cX12_of 0 = .ok (.iconst 1, 1) := dk_4 (dk_at dksX12_of_0 0 rfl rfl)
theorem dX12_of_1 : decode cX12_of 1 = .ok (.aload_n 0, 1) := dk_42 (dk_at dksX12_of_0 1 rfl rfl)
theorem dX12_of_2 : decode cX12_of 2 = .ok (.getfield 7, 3) := dk_180 0 7 (dk_at dksX12_of_0 2 rfl rfl)
theorem dX12_of_5 : decode cX12_of 5 = .ok (.aload_n 1, 1) := dk_43 (dk_at dksX12_of_0 5 rfl rfl)
theorem dX12_of_6 : decode cX12_of 6 = .ok (.invokevirtual 13, 3) := dk_182 0 13 (dk_at dksX12_of_0 6 rfl rfl)
theorem dX12_of_9 : decode cX12_of 9 = .ok (.isub, 1) := dk_100 (dk_at dksX12_of_0 9 rfl rfl)
theorem dX12_of_10 : decode cX12_of 10 = .ok (.ireturn, 1) := dk_172 (dk_at dksX12_of_0 10 rfl rfl)
theorem q140 : (Jvm.Cond.initialized "FourCars$Not") ∈ lw_all := lw_g (lw_at lw_m1 23 rfl) rfl
theorem q801 : (Jvm.Cond.instantiable "FourCars$Not" (1 : Nat)) ∈ lw_all := lw_g (lw_at lw_m3 204 rfl) rfl
theorem q803 : (Jvm.Cond.instanceMethod ({ cls := "FourCars$Not", name := "<init>", desc := "(LFourCars$Term;)V" } : Jvm.MethodName)) ∈ lw_all := lw_g (lw_at lw_m3 206 rfl) rfl
theorem q804 : (Jvm.Cond.code ({ cls := "FourCars$Not", name := "<init>", desc := "(LFourCars$Term;)V" } : Jvm.MethodName) prog_4_method_1_code (2 : Nat) (Option.none : Option Jvm.ClassFile.FieldType)) ∈ lw_all := lw_g (lw_at lw_m3 207 rfl) rfl
theorem q805 : (Jvm.Cond.methodLinkNest "FourCars$Not" (1 : Nat) ({ cls := "FourCars$Term", name := "<init>", desc := "()V" } : Jvm.MethodName) "FourCars") ∈ lw_tbl := lw_at lw_m3 208 rfl
theorem q806 : (Jvm.Cond.fieldLink "FourCars$Not" (7 : Nat) "FourCars$Not" "in" "LFourCars$Term;") ∈ lw_all := lw_g (lw_at lw_m3 209 rfl) rfl
theorem q807 : (Jvm.Cond.laysFinal "FourCars$Not" "FourCars$Not" "in" "LFourCars$Term;") ∈ lw_all := lw_g (lw_at lw_m3 210 rfl) rfl
theorem q808 : (Jvm.Cond.soleField "FourCars$Not" "in") ∈ lw_all := lw_g (lw_at lw_m3 211 rfl) rfl
theorem q809 : (Jvm.Cond.superclass "FourCars$Not" "FourCars$Term") ∈ lw_all := lw_g (lw_at lw_m3 212 rfl) rfl
theorem q910 : (Jvm.Cond.selects "FourCars$Not" ({ cls := "FourCars$Term", name := "of", desc := "([I)I" } : Jvm.MethodName) ({ cls := "FourCars$Not", name := "of", desc := "([I)I" } : Jvm.MethodName)) ∈ lw_all := lw_g (lw_at lw_m4 73 rfl) rfl
theorem q911 : (Jvm.Cond.instanceMethod ({ cls := "FourCars$Not", name := "of", desc := "([I)I" } : Jvm.MethodName)) ∈ lw_all := lw_g (lw_at lw_m4 74 rfl) rfl
theorem q912 : (Jvm.Cond.code ({ cls := "FourCars$Not", name := "of", desc := "([I)I" } : Jvm.MethodName) prog_4_method_2_code (2 : Nat) (Option.some Jvm.ClassFile.FieldType.int)) ∈ lw_all := lw_g (lw_at lw_m4 75 rfl) rfl
theorem q913 : (Jvm.Cond.methodLink "FourCars$Not" (13 : Nat) ({ cls := "FourCars$Term", name := "of", desc := "([I)I" } : Jvm.MethodName)) ∈ lw_all := lw_g (lw_at lw_m4 76 rfl) rfl
theorem q1640 : (Jvm.Cond.castable "FourCars$Not" "FourCars$Term") ∈ lw_tbl := lw_at lw_m7 83 rfl
theorem in_X12 : ∀ w ∈ wsX120, w ∈ lw_all := lw_in wsX120 [807] (by decide +kernel) (by decide +kernel)
/-! FourCars$Fault -/
def RX7 : String := "FourCars$Fault"
def TX7 : u_T := fun k => match k with
  | 0 => ("java/lang/Throwable", "cause", "Ljava/lang/Throwable;", false)
  | 1 => ("java/lang/Throwable", "stackTrace", "[Ljava/lang/StackTraceElement;", false)
  | 2 => ("java/lang/Throwable", "suppressedExceptions", "Ljava/util/List;", false)
  | 3 => ("java/lang/Throwable", "detailMessage", "Ljava/lang/String;", false)
  | 4 => ("java/lang/Throwable", "backtrace", "Ljava/lang/Object;", false)
  | 5 => ("java/lang/Throwable", "depth", "I", false)
  | 6 => ("FourCars$Fault", "kind", "I", true)
  | _ => ("FourCars$Fault", "place", "I", true)
def tyX7 : Nat → FieldType := fun k => match k with
  | 0 => .object "java/lang/Throwable"
  | 1 => .array (.object "java/lang/StackTraceElement")
  | 2 => .object "java/util/List"
  | 3 => .object "java/lang/String"
  | 4 => .object "java/lang/Object"
  | 5 => .int
  | 6 => .int
  | _ => .int
abbrev wsX70 : List Cond := u_ws RX7 TX7 8
theorem nmX7 : ∀ a, a < 8 → ∀ b, b < 8 → a ≠ b → (TX7 a).2.1 ≠ (TX7 b).2.1 := by decide +kernel
theorem tyX7_ok : ∀ k, k < 8 → parseFieldDescriptor (TX7 k).2.2.1 = some (tyX7 k) := by decide +kernel
abbrev cX7_init : ByteArray := prog_3_method_1_code
def yX7_init : MethodName := ⟨RX7, "<init>", "(II)V"⟩
def dkwX7_init_0 : List UInt8 := [42, 1, 1, 3, 3, 183, 0, 1, 42, 27, 181, 0, 7, 42, 28, 181, 0, 13, 177]
abbrev dktX7_init_0 : List UInt8 := dkwX7_init_0 ++ []
theorem dksX7_init_0 : cX7_init.data.toList.drop 0 = dktX7_init_0 := by decide +kernel
theorem dX7_init_0 : decode cX7_init 0 = .ok (.aload_n 0, 1) := dk_42 (dk_at dksX7_init_0 0 rfl rfl)
theorem dX7_init_1 : decode cX7_init 1 = .ok (.aconst_null, 1) := dk_1 (dk_at dksX7_init_0 1 rfl rfl)
theorem dX7_init_2 : decode cX7_init 2 = .ok (.aconst_null, 1) := dk_1 (dk_at dksX7_init_0 2 rfl rfl)
theorem dX7_init_3 : decode cX7_init 3 = .ok (.iconst 0, 1) := dk_3 (dk_at dksX7_init_0 3 rfl rfl)
theorem dX7_init_4 : decode cX7_init 4 = .ok (.iconst 0, 1) := dk_3 (dk_at dksX7_init_0 4 rfl rfl)
theorem dX7_init_5 : decode cX7_init 5 = .ok (.invokespecial 1, 3) := dk_183 0 1 (dk_at dksX7_init_0 5 rfl rfl)
theorem dX7_init_8 : decode cX7_init 8 = .ok (.aload_n 0, 1) := dk_42 (dk_at dksX7_init_0 8 rfl rfl)
theorem dX7_init_9 : decode cX7_init 9 = .ok (.iload_n 1, 1) := dk_27 (dk_at dksX7_init_0 9 rfl rfl)
theorem dX7_init_10 : decode cX7_init 10 = .ok (.putfield 7, 3) := dk_181 0 7 (dk_at dksX7_init_0 10 rfl rfl)
theorem dX7_init_13 : decode cX7_init 13 = .ok (.aload_n 0, 1) := dk_42 (dk_at dksX7_init_0 13 rfl rfl)
theorem dX7_init_14 : decode cX7_init 14 = .ok (.iload_n 2, 1) := dk_28 (dk_at dksX7_init_0 14 rfl rfl)
theorem dX7_init_15 : decode cX7_init 15 = .ok (.putfield 13, 3) := dk_181 0 13 (dk_at dksX7_init_0 15 rfl rfl)
theorem dX7_init_18 : decode cX7_init 18 = .ok (.return_, 1) := dk_177 (dk_at dksX7_init_0 18 rfl rfl)
theorem q135 : (Jvm.Cond.initialized "FourCars$Fault") ∈ lw_all := lw_g (lw_at lw_m1 18 rfl) rfl
theorem q659 : (Jvm.Cond.instantiable "FourCars$Fault" (8 : Nat)) ∈ lw_all := lw_g (lw_at lw_m3 62 rfl) rfl
theorem q660 : (Jvm.Cond.castable "FourCars$Fault" "FourCars$Fault") ∈ lw_tbl := lw_at lw_m3 63 rfl
theorem q665 : (Jvm.Cond.selects "FourCars$Fault" ({ cls := "java/lang/Throwable", name := "fillInStackTrace", desc := "(I)Ljava/lang/Throwable;" } : Jvm.MethodName) ({ cls := "java/lang/Throwable", name := "fillInStackTrace", desc := "(I)Ljava/lang/Throwable;" } : Jvm.MethodName)) ∈ lw_all := lw_g (lw_at lw_m3 68 rfl) rfl
theorem q666 : (Jvm.Cond.selects "FourCars$Fault" ({ cls := "java/lang/Throwable", name := "fillInStackTrace", desc := "()Ljava/lang/Throwable;" } : Jvm.MethodName) ({ cls := "java/lang/Throwable", name := "fillInStackTrace", desc := "()Ljava/lang/Throwable;" } : Jvm.MethodName)) ∈ lw_all := lw_g (lw_at lw_m3 69 rfl) rfl
theorem q667 : (Jvm.Cond.lays "FourCars$Fault" "java/lang/Throwable" "cause" "Ljava/lang/Throwable;") ∈ lw_all := lw_g (lw_at lw_m3 70 rfl) rfl
theorem q669 : (Jvm.Cond.lays "FourCars$Fault" "java/lang/Throwable" "stackTrace" "[Ljava/lang/StackTraceElement;") ∈ lw_all := lw_g (lw_at lw_m3 72 rfl) rfl
theorem q671 : (Jvm.Cond.lays "FourCars$Fault" "java/lang/Throwable" "suppressedExceptions" "Ljava/util/List;") ∈ lw_all := lw_g (lw_at lw_m3 74 rfl) rfl
theorem q673 : (Jvm.Cond.lays "FourCars$Fault" "java/lang/Throwable" "detailMessage" "Ljava/lang/String;") ∈ lw_all := lw_g (lw_at lw_m3 76 rfl) rfl
theorem q675 : (Jvm.Cond.lays "FourCars$Fault" "java/lang/Throwable" "backtrace" "Ljava/lang/Object;") ∈ lw_all := lw_g (lw_at lw_m3 78 rfl) rfl
theorem q696 : (Jvm.Cond.instanceMethod ({ cls := "FourCars$Fault", name := "<init>", desc := "(II)V" } : Jvm.MethodName)) ∈ lw_all := lw_g (lw_at lw_m3 99 rfl) rfl
theorem q697 : (Jvm.Cond.code ({ cls := "FourCars$Fault", name := "<init>", desc := "(II)V" } : Jvm.MethodName) prog_3_method_1_code (3 : Nat) (Option.none : Option Jvm.ClassFile.FieldType)) ∈ lw_all := lw_g (lw_at lw_m3 100 rfl) rfl
theorem q698 : (Jvm.Cond.methodLink "FourCars$Fault" (1 : Nat) ({ cls := "java/lang/Exception", name := "<init>", desc := "(Ljava/lang/String;Ljava/lang/Throwable;ZZ)V" } : Jvm.MethodName)) ∈ lw_all := lw_g (lw_at lw_m3 101 rfl) rfl
theorem q704 : (Jvm.Cond.fieldLink "FourCars$Fault" (7 : Nat) "FourCars$Fault" "kind" "I") ∈ lw_all := lw_g (lw_at lw_m3 107 rfl) rfl
theorem q706 : (Jvm.Cond.fieldLink "FourCars$Fault" (13 : Nat) "FourCars$Fault" "place" "I") ∈ lw_all := lw_g (lw_at lw_m3 109 rfl) rfl
theorem q713 : (Jvm.Cond.laysFinal "FourCars$Fault" "FourCars$Fault" "kind" "I") ∈ lw_all := lw_g (lw_at lw_m3 116 rfl) rfl
theorem q714 : (Jvm.Cond.soleField "FourCars$Fault" "kind") ∈ lw_all := lw_g (lw_at lw_m3 117 rfl) rfl
theorem q715 : (Jvm.Cond.laysFinal "FourCars$Fault" "FourCars$Fault" "place" "I") ∈ lw_all := lw_g (lw_at lw_m3 118 rfl) rfl
theorem q716 : (Jvm.Cond.soleField "FourCars$Fault" "place") ∈ lw_all := lw_g (lw_at lw_m3 119 rfl) rfl
theorem q721 : (Jvm.Cond.lays "FourCars$Fault" "java/lang/Throwable" "depth" "I") ∈ lw_all := lw_g (lw_at lw_m3 124 rfl) rfl
theorem q724 : (Jvm.Cond.superclass "FourCars$Fault" "java/lang/Exception") ∈ lw_all := lw_g (lw_at lw_m3 127 rfl) rfl
theorem in_X7 : ∀ w ∈ wsX70, w ∈ lw_all := lw_in wsX70 [667, 669, 671, 673, 675, 721, 713, 715] (by decide +kernel) (by decide +kernel)
/-! FourCars$Text -/
def RX1 : String := "FourCars$Text"
def TX1 : u_T := fun k => match k with
  | 0 => ("FourCars$Text", "word", "[I", true)
  | 1 => ("FourCars$Text", "worth", "[LFourCars$Term;", true)
  | 2 => ("FourCars$Text", "when", "[LFourCars$Term;", true)
  | _ => ("FourCars$Text", "many", "I", false)
def tyX1 : Nat → FieldType := fun k => match k with
  | 0 => .array .int
  | 1 => .array (.object "FourCars$Term")
  | 2 => .array (.object "FourCars$Term")
  | _ => .int
abbrev wsX10 : List Cond := u_ws RX1 TX1 4
theorem nmX1 : ∀ a, a < 4 → ∀ b, b < 4 → a ≠ b → (TX1 a).2.1 ≠ (TX1 b).2.1 := by decide +kernel
theorem tyX1_ok : ∀ k, k < 4 → parseFieldDescriptor (TX1 k).2.2.1 = some (tyX1 k) := by decide +kernel
abbrev cX1_init : ByteArray := prog_9_method_1_code
def yX1_init : MethodName := ⟨RX1, "<init>", "()V"⟩
def dkwX1_init_1 : List UInt8 := [189, 0, 15, 181, 0, 21, 177]
abbrev dktX1_init_1 : List UInt8 := dkwX1_init_1 ++ []
def dkwX1_init_0 : List UInt8 := [42, 183, 0, 3, 42, 16, 16, 188, 10, 181, 0, 9, 42, 16, 16, 189, 0, 15, 181, 0, 17, 42, 16, 16]
abbrev dktX1_init_0 : List UInt8 := dkwX1_init_0 ++ dktX1_init_1
theorem dksX1_init_0 : cX1_init.data.toList.drop 0 = dktX1_init_0 := by decide +kernel
theorem dksX1_init_1 : cX1_init.data.toList.drop 24 = dktX1_init_1 := dk_seg dksX1_init_0 24 rfl rfl
theorem dX1_init_0 : decode cX1_init 0 = .ok (.aload_n 0, 1) := dk_42 (dk_at dksX1_init_0 0 rfl rfl)
theorem dX1_init_1 : decode cX1_init 1 = .ok (.invokespecial 3, 3) := dk_183 0 3 (dk_at dksX1_init_0 1 rfl rfl)
theorem dX1_init_4 : decode cX1_init 4 = .ok (.aload_n 0, 1) := dk_42 (dk_at dksX1_init_0 4 rfl rfl)
theorem dX1_init_5 : decode cX1_init 5 = .ok (.bipush 16, 2) := dk_16 16 (dk_at dksX1_init_0 5 rfl rfl)
theorem dX1_init_7 : decode cX1_init 7 = .ok (.newarray .int, 2) := dk_188_10 (dk_at dksX1_init_0 7 rfl rfl)
theorem dX1_init_9 : decode cX1_init 9 = .ok (.putfield 9, 3) := dk_181 0 9 (dk_at dksX1_init_0 9 rfl rfl)
theorem dX1_init_12 : decode cX1_init 12 = .ok (.aload_n 0, 1) := dk_42 (dk_at dksX1_init_0 12 rfl rfl)
theorem dX1_init_13 : decode cX1_init 13 = .ok (.bipush 16, 2) := dk_16 16 (dk_at dksX1_init_0 13 rfl rfl)
theorem dX1_init_15 : decode cX1_init 15 = .ok (.anewarray 15, 3) := dk_189 0 15 (dk_at dksX1_init_0 15 rfl rfl)
theorem dX1_init_18 : decode cX1_init 18 = .ok (.putfield 17, 3) := dk_181 0 17 (dk_at dksX1_init_0 18 rfl rfl)
theorem dX1_init_21 : decode cX1_init 21 = .ok (.aload_n 0, 1) := dk_42 (dk_at dksX1_init_0 21 rfl rfl)
theorem dX1_init_22 : decode cX1_init 22 = .ok (.bipush 16, 2) := dk_16 16 (dk_at dksX1_init_0 22 rfl rfl)
theorem dX1_init_24 : decode cX1_init 24 = .ok (.anewarray 15, 3) := dk_189 0 15 (dk_at dksX1_init_1 0 rfl rfl)
theorem dX1_init_27 : decode cX1_init 27 = .ok (.putfield 21, 3) := dk_181 0 21 (dk_at dksX1_init_1 3 rfl rfl)
theorem dX1_init_30 : decode cX1_init 30 = .ok (.return_, 1) := dk_177 (dk_at dksX1_init_1 6 rfl rfl)
abbrev cX1_first : ByteArray := prog_9_method_2_code
def yX1_first : MethodName := ⟨RX1, "first", "([I)I"⟩
def dkwX1_first_1 : List UInt8 := [50, 43, 182, 0, 28, 153, 0, 5, 28, 172, 132, 2, 1, 167, 255, 221, 2, 172]
abbrev dktX1_first_1 : List UInt8 := dkwX1_first_1 ++ []
def dkwX1_first_0 : List UInt8 := [3, 61, 28, 42, 180, 0, 24, 162, 0, 33, 42, 180, 0, 21, 28, 50, 198, 0, 16, 42, 180, 0, 21, 28]
abbrev dktX1_first_0 : List UInt8 := dkwX1_first_0 ++ dktX1_first_1
theorem dksX1_first_0 : cX1_first.data.toList.drop 0 = dktX1_first_0 := by decide +kernel
theorem dksX1_first_1 : cX1_first.data.toList.drop 24 = dktX1_first_1 := dk_seg dksX1_first_0 24 rfl rfl
theorem dX1_first_0 : decode cX1_first 0 = .ok (.iconst 0, 1) := dk_3 (dk_at dksX1_first_0 0 rfl rfl)
theorem dX1_first_1 : decode cX1_first 1 = .ok (.istore_n 2, 1) := dk_61 (dk_at dksX1_first_0 1 rfl rfl)
theorem dX1_first_2 : decode cX1_first 2 = .ok (.iload_n 2, 1) := dk_28 (dk_at dksX1_first_0 2 rfl rfl)
theorem dX1_first_3 : decode cX1_first 3 = .ok (.aload_n 0, 1) := dk_42 (dk_at dksX1_first_0 3 rfl rfl)
theorem dX1_first_4 : decode cX1_first 4 = .ok (.getfield 24, 3) := dk_180 0 24 (dk_at dksX1_first_0 4 rfl rfl)
theorem dX1_first_7 : decode cX1_first 7 = .ok (.if_icmp .ge 33, 3) := dk_162 0 33 (dk_at dksX1_first_0 7 rfl rfl)
theorem dX1_first_10 : decode cX1_first 10 = .ok (.aload_n 0, 1) := dk_42 (dk_at dksX1_first_0 10 rfl rfl)
theorem dX1_first_11 : decode cX1_first 11 = .ok (.getfield 21, 3) := dk_180 0 21 (dk_at dksX1_first_0 11 rfl rfl)
theorem dX1_first_14 : decode cX1_first 14 = .ok (.iload_n 2, 1) := dk_28 (dk_at dksX1_first_0 14 rfl rfl)
theorem dX1_first_15 : decode cX1_first 15 = .ok (.aaload, 1) := dk_50 (dk_at dksX1_first_0 15 rfl rfl)
theorem dX1_first_16 : decode cX1_first 16 = .ok (.ifnull 16, 3) := dk_198 0 16 (dk_at dksX1_first_0 16 rfl rfl)
theorem dX1_first_19 : decode cX1_first 19 = .ok (.aload_n 0, 1) := dk_42 (dk_at dksX1_first_0 19 rfl rfl)
theorem dX1_first_20 : decode cX1_first 20 = .ok (.getfield 21, 3) := dk_180 0 21 (dk_at dksX1_first_0 20 rfl rfl)
theorem dX1_first_23 : decode cX1_first 23 = .ok (.iload_n 2, 1) := dk_28 (dk_at dksX1_first_0 23 rfl rfl)
theorem dX1_first_24 : decode cX1_first 24 = .ok (.aaload, 1) := dk_50 (dk_at dksX1_first_1 0 rfl rfl)
theorem dX1_first_25 : decode cX1_first 25 = .ok (.aload_n 1, 1) := dk_43 (dk_at dksX1_first_1 1 rfl rfl)
theorem dX1_first_26 : decode cX1_first 26 = .ok (.invokevirtual 28, 3) := dk_182 0 28 (dk_at dksX1_first_1 2 rfl rfl)
theorem dX1_first_29 : decode cX1_first 29 = .ok (.ifCond .eq 5, 3) := dk_153 0 5 (dk_at dksX1_first_1 5 rfl rfl)
theorem dX1_first_32 : decode cX1_first 32 = .ok (.iload_n 2, 1) := dk_28 (dk_at dksX1_first_1 8 rfl rfl)
theorem dX1_first_33 : decode cX1_first 33 = .ok (.ireturn, 1) := dk_172 (dk_at dksX1_first_1 9 rfl rfl)
theorem dX1_first_34 : decode cX1_first 34 = .ok (.iinc 2 1, 3) := dk_132 2 1 (dk_at dksX1_first_1 10 rfl rfl)
theorem dX1_first_37 : decode cX1_first 37 = .ok (.goto (-35), 3) := dk_167 255 221 (dk_at dksX1_first_1 13 rfl rfl)
theorem dX1_first_40 : decode cX1_first 40 = .ok (.iconst (-1), 1) := dk_2 (dk_at dksX1_first_1 16 rfl rfl)
theorem dX1_first_41 : decode cX1_first 41 = .ok (.ireturn, 1) := dk_172 (dk_at dksX1_first_1 17 rfl rfl)
theorem q119 : (Jvm.Cond.initialized "FourCars$Text") ∈ lw_all := lw_g (lw_at lw_m1 2 rfl) rfl
theorem q174 : (Jvm.Cond.instantiable "FourCars$Text" (4 : Nat)) ∈ lw_all := lw_g (lw_at lw_m1 57 rfl) rfl
theorem q176 : (Jvm.Cond.instanceMethod ({ cls := "FourCars$Text", name := "<init>", desc := "()V" } : Jvm.MethodName)) ∈ lw_all := lw_g (lw_at lw_m1 59 rfl) rfl
theorem q177 : (Jvm.Cond.code ({ cls := "FourCars$Text", name := "<init>", desc := "()V" } : Jvm.MethodName) prog_9_method_1_code (1 : Nat) (Option.none : Option Jvm.ClassFile.FieldType)) ∈ lw_all := lw_g (lw_at lw_m1 60 rfl) rfl
theorem q178 : (Jvm.Cond.methodLink "FourCars$Text" (3 : Nat) ({ cls := "java/lang/Object", name := "<init>", desc := "()V" } : Jvm.MethodName)) ∈ lw_all := lw_g (lw_at lw_m1 61 rfl) rfl
theorem q179 : (Jvm.Cond.classLink "FourCars$Text" (15 : Nat) "FourCars$Term") ∈ lw_all := lw_g (lw_at lw_m1 62 rfl) rfl
theorem q181 : (Jvm.Cond.fieldLink "FourCars$Text" (9 : Nat) "FourCars$Text" "word" "[I") ∈ lw_all := lw_g (lw_at lw_m1 64 rfl) rfl
theorem q184 : (Jvm.Cond.fieldLink "FourCars$Text" (17 : Nat) "FourCars$Text" "worth" "[LFourCars$Term;") ∈ lw_all := lw_g (lw_at lw_m1 67 rfl) rfl
theorem q187 : (Jvm.Cond.fieldLink "FourCars$Text" (21 : Nat) "FourCars$Text" "when" "[LFourCars$Term;") ∈ lw_all := lw_g (lw_at lw_m1 70 rfl) rfl
theorem q189 : (Jvm.Cond.fieldLink "FourCars$Text" (24 : Nat) "FourCars$Text" "many" "I") ∈ lw_all := lw_g (lw_at lw_m1 72 rfl) rfl
theorem q191 : (Jvm.Cond.laysFinal "FourCars$Text" "FourCars$Text" "word" "[I") ∈ lw_all := lw_g (lw_at lw_m1 74 rfl) rfl
theorem q192 : (Jvm.Cond.soleField "FourCars$Text" "word") ∈ lw_all := lw_g (lw_at lw_m1 75 rfl) rfl
theorem q193 : (Jvm.Cond.laysFinal "FourCars$Text" "FourCars$Text" "worth" "[LFourCars$Term;") ∈ lw_all := lw_g (lw_at lw_m1 76 rfl) rfl
theorem q194 : (Jvm.Cond.soleField "FourCars$Text" "worth") ∈ lw_all := lw_g (lw_at lw_m1 77 rfl) rfl
theorem q195 : (Jvm.Cond.laysFinal "FourCars$Text" "FourCars$Text" "when" "[LFourCars$Term;") ∈ lw_all := lw_g (lw_at lw_m1 78 rfl) rfl
theorem q196 : (Jvm.Cond.soleField "FourCars$Text" "when") ∈ lw_all := lw_g (lw_at lw_m1 79 rfl) rfl
theorem q197 : (Jvm.Cond.lays "FourCars$Text" "FourCars$Text" "many" "I") ∈ lw_all := lw_g (lw_at lw_m1 80 rfl) rfl
theorem q198 : (Jvm.Cond.soleField "FourCars$Text" "many") ∈ lw_all := lw_g (lw_at lw_m1 81 rfl) rfl
theorem q199 : (Jvm.Cond.superclass "FourCars$Text" "java/lang/Object") ∈ lw_all := lw_g (lw_at lw_m1 82 rfl) rfl
theorem q904 : (Jvm.Cond.instanceMethod ({ cls := "FourCars$Text", name := "first", desc := "([I)I" } : Jvm.MethodName)) ∈ lw_all := lw_g (lw_at lw_m4 67 rfl) rfl
theorem q905 : (Jvm.Cond.selects "FourCars$Text" ({ cls := "FourCars$Text", name := "first", desc := "([I)I" } : Jvm.MethodName) ({ cls := "FourCars$Text", name := "first", desc := "([I)I" } : Jvm.MethodName)) ∈ lw_all := lw_g (lw_at lw_m4 68 rfl) rfl
theorem q906 : (Jvm.Cond.code ({ cls := "FourCars$Text", name := "first", desc := "([I)I" } : Jvm.MethodName) prog_9_method_2_code (3 : Nat) (Option.some Jvm.ClassFile.FieldType.int)) ∈ lw_all := lw_g (lw_at lw_m4 69 rfl) rfl
theorem q907 : (Jvm.Cond.methodLink "FourCars$Text" (28 : Nat) ({ cls := "FourCars$Term", name := "of", desc := "([I)I" } : Jvm.MethodName)) ∈ lw_all := lw_g (lw_at lw_m4 70 rfl) rfl
theorem in_X1 : ∀ w ∈ wsX10, w ∈ lw_all := lw_in wsX10 [191, 193, 195, 197] (by decide +kernel) (by decide +kernel)
/-! FourCars$Plan -/
def RX2 : String := "FourCars$Plan"
def TX2 : u_T := fun k => match k with
  | 0 => ("FourCars$Plan", "floors", "I", false)
  | 1 => ("FourCars$Plan", "cars", "I", false)
  | 2 => ("FourCars$Plan", "lines", "I", false)
  | 3 => ("FourCars$Plan", "room", "[I", true)
  | 4 => ("FourCars$Plan", "speed", "[I", true)
  | 5 => ("FourCars$Plan", "door", "[I", true)
  | 6 => ("FourCars$Plan", "load", "[I", true)
  | 7 => ("FourCars$Plan", "floor", "[I", true)
  | _ => ("FourCars$Plan", "skips", "[[Z", true)
def tyX2 : Nat → FieldType := fun k => match k with
  | 0 => .int
  | 1 => .int
  | 2 => .int
  | 3 => .array .int
  | 4 => .array .int
  | 5 => .array .int
  | 6 => .array .int
  | 7 => .array .int
  | _ => .array (.array .boolean)
abbrev wsX20 : List Cond := u_ws RX2 TX2 9
theorem nmX2 : ∀ a, a < 9 → ∀ b, b < 9 → a ≠ b → (TX2 a).2.1 ≠ (TX2 b).2.1 := by decide +kernel
theorem tyX2_ok : ∀ k, k < 9 → parseFieldDescriptor (TX2 k).2.2.1 = some (tyX2 k) := by decide +kernel
abbrev cX2_init : ByteArray := prog_7_method_1_code
def yX2_init : MethodName := ⟨RX2, "<init>", "()V"⟩
def dkwX2_init_2 : List UInt8 := [197, 0, 27, 2, 181, 0, 29, 177]
abbrev dktX2_init_2 : List UInt8 := dkwX2_init_2 ++ []
def dkwX2_init_1 : List UInt8 := [181, 0, 18, 42, 7, 188, 10, 181, 0, 21, 42, 7, 188, 10, 181, 0, 24, 42, 7, 16, 80]
abbrev dktX2_init_1 : List UInt8 := dkwX2_init_1 ++ dktX2_init_2
def dkwX2_init_0 : List UInt8 := [42, 183, 0, 3, 42, 7, 188, 10, 181, 0, 9, 42, 7, 188, 10, 181, 0, 15, 42, 7, 188, 10]
abbrev dktX2_init_0 : List UInt8 := dkwX2_init_0 ++ dktX2_init_1
theorem dksX2_init_0 : cX2_init.data.toList.drop 0 = dktX2_init_0 := by decide +kernel
theorem dksX2_init_1 : cX2_init.data.toList.drop 22 = dktX2_init_1 := dk_seg dksX2_init_0 22 rfl rfl
theorem dksX2_init_2 : cX2_init.data.toList.drop 43 = dktX2_init_2 := dk_seg dksX2_init_1 21 rfl rfl
theorem dX2_init_0 : decode cX2_init 0 = .ok (.aload_n 0, 1) := dk_42 (dk_at dksX2_init_0 0 rfl rfl)
theorem dX2_init_1 : decode cX2_init 1 = .ok (.invokespecial 3, 3) := dk_183 0 3 (dk_at dksX2_init_0 1 rfl rfl)
theorem dX2_init_4 : decode cX2_init 4 = .ok (.aload_n 0, 1) := dk_42 (dk_at dksX2_init_0 4 rfl rfl)
theorem dX2_init_5 : decode cX2_init 5 = .ok (.iconst 4, 1) := dk_7 (dk_at dksX2_init_0 5 rfl rfl)
theorem dX2_init_6 : decode cX2_init 6 = .ok (.newarray .int, 2) := dk_188_10 (dk_at dksX2_init_0 6 rfl rfl)
theorem dX2_init_8 : decode cX2_init 8 = .ok (.putfield 9, 3) := dk_181 0 9 (dk_at dksX2_init_0 8 rfl rfl)
theorem dX2_init_11 : decode cX2_init 11 = .ok (.aload_n 0, 1) := dk_42 (dk_at dksX2_init_0 11 rfl rfl)
theorem dX2_init_12 : decode cX2_init 12 = .ok (.iconst 4, 1) := dk_7 (dk_at dksX2_init_0 12 rfl rfl)
theorem dX2_init_13 : decode cX2_init 13 = .ok (.newarray .int, 2) := dk_188_10 (dk_at dksX2_init_0 13 rfl rfl)
theorem dX2_init_15 : decode cX2_init 15 = .ok (.putfield 15, 3) := dk_181 0 15 (dk_at dksX2_init_0 15 rfl rfl)
theorem dX2_init_18 : decode cX2_init 18 = .ok (.aload_n 0, 1) := dk_42 (dk_at dksX2_init_0 18 rfl rfl)
theorem dX2_init_19 : decode cX2_init 19 = .ok (.iconst 4, 1) := dk_7 (dk_at dksX2_init_0 19 rfl rfl)
theorem dX2_init_20 : decode cX2_init 20 = .ok (.newarray .int, 2) := dk_188_10 (dk_at dksX2_init_0 20 rfl rfl)
theorem dX2_init_22 : decode cX2_init 22 = .ok (.putfield 18, 3) := dk_181 0 18 (dk_at dksX2_init_1 0 rfl rfl)
theorem dX2_init_25 : decode cX2_init 25 = .ok (.aload_n 0, 1) := dk_42 (dk_at dksX2_init_1 3 rfl rfl)
theorem dX2_init_26 : decode cX2_init 26 = .ok (.iconst 4, 1) := dk_7 (dk_at dksX2_init_1 4 rfl rfl)
theorem dX2_init_27 : decode cX2_init 27 = .ok (.newarray .int, 2) := dk_188_10 (dk_at dksX2_init_1 5 rfl rfl)
theorem dX2_init_29 : decode cX2_init 29 = .ok (.putfield 21, 3) := dk_181 0 21 (dk_at dksX2_init_1 7 rfl rfl)
theorem dX2_init_32 : decode cX2_init 32 = .ok (.aload_n 0, 1) := dk_42 (dk_at dksX2_init_1 10 rfl rfl)
theorem dX2_init_33 : decode cX2_init 33 = .ok (.iconst 4, 1) := dk_7 (dk_at dksX2_init_1 11 rfl rfl)
theorem dX2_init_34 : decode cX2_init 34 = .ok (.newarray .int, 2) := dk_188_10 (dk_at dksX2_init_1 12 rfl rfl)
theorem dX2_init_36 : decode cX2_init 36 = .ok (.putfield 24, 3) := dk_181 0 24 (dk_at dksX2_init_1 14 rfl rfl)
theorem dX2_init_39 : decode cX2_init 39 = .ok (.aload_n 0, 1) := dk_42 (dk_at dksX2_init_1 17 rfl rfl)
theorem dX2_init_40 : decode cX2_init 40 = .ok (.iconst 4, 1) := dk_7 (dk_at dksX2_init_1 18 rfl rfl)
theorem dX2_init_41 : decode cX2_init 41 = .ok (.bipush 80, 2) := dk_16 80 (dk_at dksX2_init_1 19 rfl rfl)
theorem dX2_init_43 : decode cX2_init 43 = .ok (.multianewarray 27 2, 4) := by decide +kernel
theorem dX2_init_47 : decode cX2_init 47 = .ok (.putfield 29, 3) := dk_181 0 29 (dk_at dksX2_init_2 4 rfl rfl)
theorem dX2_init_50 : decode cX2_init 50 = .ok (.return_, 1) := dk_177 (dk_at dksX2_init_2 7 rfl rfl)
abbrev cX2_serves : ByteArray := prog_7_method_2_code
def yX2_serves : MethodName := ⟨RX2, "serves", "(III)Z"⟩
def dkwX2_serves_1 : List UInt8 := [167, 0, 4, 3, 172]
abbrev dktX2_serves_1 : List UInt8 := dkwX2_serves_1 ++ []
def dkwX2_serves_0 : List UInt8 := [42, 180, 0, 29, 27, 50, 28, 51, 154, 0, 18, 42, 180, 0, 29, 27, 50, 29, 51, 154, 0, 7, 4]
abbrev dktX2_serves_0 : List UInt8 := dkwX2_serves_0 ++ dktX2_serves_1
theorem dksX2_serves_0 : cX2_serves.data.toList.drop 0 = dktX2_serves_0 := by decide +kernel
theorem dksX2_serves_1 : cX2_serves.data.toList.drop 23 = dktX2_serves_1 := dk_seg dksX2_serves_0 23 rfl rfl
theorem dX2_serves_0 : decode cX2_serves 0 = .ok (.aload_n 0, 1) := dk_42 (dk_at dksX2_serves_0 0 rfl rfl)
theorem dX2_serves_1 : decode cX2_serves 1 = .ok (.getfield 29, 3) := dk_180 0 29 (dk_at dksX2_serves_0 1 rfl rfl)
theorem dX2_serves_4 : decode cX2_serves 4 = .ok (.iload_n 1, 1) := dk_27 (dk_at dksX2_serves_0 4 rfl rfl)
theorem dX2_serves_5 : decode cX2_serves 5 = .ok (.aaload, 1) := dk_50 (dk_at dksX2_serves_0 5 rfl rfl)
theorem dX2_serves_6 : decode cX2_serves 6 = .ok (.iload_n 2, 1) := dk_28 (dk_at dksX2_serves_0 6 rfl rfl)
theorem dX2_serves_7 : decode cX2_serves 7 = .ok (.baload, 1) := dk_51 (dk_at dksX2_serves_0 7 rfl rfl)
theorem dX2_serves_8 : decode cX2_serves 8 = .ok (.ifCond .ne 18, 3) := dk_154 0 18 (dk_at dksX2_serves_0 8 rfl rfl)
theorem dX2_serves_11 : decode cX2_serves 11 = .ok (.aload_n 0, 1) := dk_42 (dk_at dksX2_serves_0 11 rfl rfl)
theorem dX2_serves_12 : decode cX2_serves 12 = .ok (.getfield 29, 3) := dk_180 0 29 (dk_at dksX2_serves_0 12 rfl rfl)
theorem dX2_serves_15 : decode cX2_serves 15 = .ok (.iload_n 1, 1) := dk_27 (dk_at dksX2_serves_0 15 rfl rfl)
theorem dX2_serves_16 : decode cX2_serves 16 = .ok (.aaload, 1) := dk_50 (dk_at dksX2_serves_0 16 rfl rfl)
theorem dX2_serves_17 : decode cX2_serves 17 = .ok (.iload_n 3, 1) := dk_29 (dk_at dksX2_serves_0 17 rfl rfl)
theorem dX2_serves_18 : decode cX2_serves 18 = .ok (.baload, 1) := dk_51 (dk_at dksX2_serves_0 18 rfl rfl)
theorem dX2_serves_19 : decode cX2_serves 19 = .ok (.ifCond .ne 7, 3) := dk_154 0 7 (dk_at dksX2_serves_0 19 rfl rfl)
theorem dX2_serves_22 : decode cX2_serves 22 = .ok (.iconst 1, 1) := dk_4 (dk_at dksX2_serves_0 22 rfl rfl)
theorem dX2_serves_23 : decode cX2_serves 23 = .ok (.goto 4, 3) := dk_167 0 4 (dk_at dksX2_serves_1 0 rfl rfl)
theorem dX2_serves_26 : decode cX2_serves 26 = .ok (.iconst 0, 1) := dk_3 (dk_at dksX2_serves_1 3 rfl rfl)
theorem dX2_serves_27 : decode cX2_serves 27 = .ok (.ireturn, 1) := dk_172 (dk_at dksX2_serves_1 4 rfl rfl)
theorem q120 : (Jvm.Cond.initialized "FourCars$Plan") ∈ lw_all := lw_g (lw_at lw_m1 3 rfl) rfl
theorem q203 : (Jvm.Cond.instantiable "FourCars$Plan" (9 : Nat)) ∈ lw_all := lw_g (lw_at lw_m1 86 rfl) rfl
theorem q205 : (Jvm.Cond.instanceMethod ({ cls := "FourCars$Plan", name := "<init>", desc := "()V" } : Jvm.MethodName)) ∈ lw_all := lw_g (lw_at lw_m1 88 rfl) rfl
theorem q206 : (Jvm.Cond.code ({ cls := "FourCars$Plan", name := "<init>", desc := "()V" } : Jvm.MethodName) prog_7_method_1_code (1 : Nat) (Option.none : Option Jvm.ClassFile.FieldType)) ∈ lw_all := lw_g (lw_at lw_m1 89 rfl) rfl
theorem q207 : (Jvm.Cond.methodLink "FourCars$Plan" (3 : Nat) ({ cls := "java/lang/Object", name := "<init>", desc := "()V" } : Jvm.MethodName)) ∈ lw_all := lw_g (lw_at lw_m1 90 rfl) rfl
theorem q208 : (Jvm.Cond.classLink "FourCars$Plan" (27 : Nat) "[[Z") ∈ lw_all := lw_g (lw_at lw_m1 91 rfl) rfl
theorem q215 : (Jvm.Cond.fieldLink "FourCars$Plan" (9 : Nat) "FourCars$Plan" "room" "[I") ∈ lw_all := lw_g (lw_at lw_m1 98 rfl) rfl
theorem q218 : (Jvm.Cond.fieldLink "FourCars$Plan" (15 : Nat) "FourCars$Plan" "speed" "[I") ∈ lw_all := lw_g (lw_at lw_m1 101 rfl) rfl
theorem q221 : (Jvm.Cond.fieldLink "FourCars$Plan" (18 : Nat) "FourCars$Plan" "door" "[I") ∈ lw_all := lw_g (lw_at lw_m1 104 rfl) rfl
theorem q224 : (Jvm.Cond.fieldLink "FourCars$Plan" (21 : Nat) "FourCars$Plan" "load" "[I") ∈ lw_all := lw_g (lw_at lw_m1 107 rfl) rfl
theorem q227 : (Jvm.Cond.fieldLink "FourCars$Plan" (24 : Nat) "FourCars$Plan" "floor" "[I") ∈ lw_all := lw_g (lw_at lw_m1 110 rfl) rfl
theorem q230 : (Jvm.Cond.fieldLink "FourCars$Plan" (29 : Nat) "FourCars$Plan" "skips" "[[Z") ∈ lw_all := lw_g (lw_at lw_m1 113 rfl) rfl
theorem q232 : (Jvm.Cond.lays "FourCars$Plan" "FourCars$Plan" "floors" "I") ∈ lw_all := lw_g (lw_at lw_m1 115 rfl) rfl
theorem q233 : (Jvm.Cond.soleField "FourCars$Plan" "floors") ∈ lw_all := lw_g (lw_at lw_m1 116 rfl) rfl
theorem q234 : (Jvm.Cond.lays "FourCars$Plan" "FourCars$Plan" "cars" "I") ∈ lw_all := lw_g (lw_at lw_m1 117 rfl) rfl
theorem q235 : (Jvm.Cond.soleField "FourCars$Plan" "cars") ∈ lw_all := lw_g (lw_at lw_m1 118 rfl) rfl
theorem q236 : (Jvm.Cond.lays "FourCars$Plan" "FourCars$Plan" "lines" "I") ∈ lw_all := lw_g (lw_at lw_m1 119 rfl) rfl
theorem q237 : (Jvm.Cond.soleField "FourCars$Plan" "lines") ∈ lw_all := lw_g (lw_at lw_m1 120 rfl) rfl
theorem q238 : (Jvm.Cond.laysFinal "FourCars$Plan" "FourCars$Plan" "room" "[I") ∈ lw_all := lw_g (lw_at lw_m1 121 rfl) rfl
theorem q239 : (Jvm.Cond.soleField "FourCars$Plan" "room") ∈ lw_all := lw_g (lw_at lw_m1 122 rfl) rfl
theorem q240 : (Jvm.Cond.laysFinal "FourCars$Plan" "FourCars$Plan" "speed" "[I") ∈ lw_all := lw_g (lw_at lw_m1 123 rfl) rfl
theorem q241 : (Jvm.Cond.soleField "FourCars$Plan" "speed") ∈ lw_all := lw_g (lw_at lw_m1 124 rfl) rfl
theorem q242 : (Jvm.Cond.laysFinal "FourCars$Plan" "FourCars$Plan" "door" "[I") ∈ lw_all := lw_g (lw_at lw_m1 125 rfl) rfl
theorem q243 : (Jvm.Cond.soleField "FourCars$Plan" "door") ∈ lw_all := lw_g (lw_at lw_m1 126 rfl) rfl
theorem q244 : (Jvm.Cond.laysFinal "FourCars$Plan" "FourCars$Plan" "load" "[I") ∈ lw_all := lw_g (lw_at lw_m1 127 rfl) rfl
theorem q245 : (Jvm.Cond.soleField "FourCars$Plan" "load") ∈ lw_all := lw_g (lw_at lw_m1 128 rfl) rfl
theorem q246 : (Jvm.Cond.laysFinal "FourCars$Plan" "FourCars$Plan" "floor" "[I") ∈ lw_all := lw_g (lw_at lw_m1 129 rfl) rfl
theorem q247 : (Jvm.Cond.soleField "FourCars$Plan" "floor") ∈ lw_all := lw_g (lw_at lw_m1 130 rfl) rfl
theorem q248 : (Jvm.Cond.laysFinal "FourCars$Plan" "FourCars$Plan" "skips" "[[Z") ∈ lw_all := lw_g (lw_at lw_m1 131 rfl) rfl
theorem q249 : (Jvm.Cond.soleField "FourCars$Plan" "skips") ∈ lw_all := lw_g (lw_at lw_m1 132 rfl) rfl
theorem q250 : (Jvm.Cond.superclass "FourCars$Plan" "java/lang/Object") ∈ lw_all := lw_g (lw_at lw_m1 133 rfl) rfl
theorem q881 : (Jvm.Cond.instanceMethod ({ cls := "FourCars$Plan", name := "serves", desc := "(III)Z" } : Jvm.MethodName)) ∈ lw_all := lw_g (lw_at lw_m4 44 rfl) rfl
theorem q882 : (Jvm.Cond.selects "FourCars$Plan" ({ cls := "FourCars$Plan", name := "serves", desc := "(III)Z" } : Jvm.MethodName) ({ cls := "FourCars$Plan", name := "serves", desc := "(III)Z" } : Jvm.MethodName)) ∈ lw_all := lw_g (lw_at lw_m4 45 rfl) rfl
theorem q883 : (Jvm.Cond.code ({ cls := "FourCars$Plan", name := "serves", desc := "(III)Z" } : Jvm.MethodName) prog_7_method_2_code (4 : Nat) (Option.some Jvm.ClassFile.FieldType.boolean)) ∈ lw_all := lw_g (lw_at lw_m4 46 rfl) rfl
theorem in_X2 : ∀ w ∈ wsX20, w ∈ lw_all := lw_in wsX20 [232, 234, 236, 238, 240, 242, 244, 246, 248] (by decide +kernel) (by decide +kernel)
/-! FourCars$Person -/
def RX4 : String := "FourCars$Person"
def TX4 : u_T := fun k => match k with
  | 0 => ("FourCars$Person", "second", "I", false)
  | 1 => ("FourCars$Person", "from", "I", false)
  | 2 => ("FourCars$Person", "to", "I", false)
  | 3 => ("FourCars$Person", "state", "I", false)
  | 4 => ("FourCars$Person", "car", "I", false)
  | 5 => ("FourCars$Person", "entered", "I", false)
  | _ => ("FourCars$Person", "left", "I", false)
def tyX4 : Nat → FieldType := fun k => match k with
  | 0 => .int
  | 1 => .int
  | 2 => .int
  | 3 => .int
  | 4 => .int
  | 5 => .int
  | _ => .int
abbrev wsX40 : List Cond := u_ws RX4 TX4 7
theorem nmX4 : ∀ a, a < 7 → ∀ b, b < 7 → a ≠ b → (TX4 a).2.1 ≠ (TX4 b).2.1 := by decide +kernel
theorem tyX4_ok : ∀ k, k < 7 → parseFieldDescriptor (TX4 k).2.2.1 = some (tyX4 k) := by decide +kernel
abbrev cX4_init : ByteArray := prog_6_method_1_code
def yX4_init : MethodName := ⟨RX4, "<init>", "()V"⟩
theorem dX4_init_0 : decode cX4_init 0 = .ok (.aload_n 0, 1) := by decide +kernel
theorem dX4_init_1 : decode cX4_init 1 = .ok (.invokespecial 3, 3) := by decide +kernel
theorem dX4_init_4 : decode cX4_init 4 = .ok (.return_, 1) := by decide +kernel
abbrev cX4_is : ByteArray := prog_6_method_2_code
def yX4_is : MethodName := ⟨RX4, "is", "(III)V"⟩
def dkwX4_is_1 : List UInt8 := [181, 0, 24, 177]
abbrev dktX4_is_1 : List UInt8 := dkwX4_is_1 ++ []
def dkwX4_is_0 : List UInt8 := [42, 27, 181, 0, 9, 42, 28, 181, 0, 15, 42, 29, 181, 0, 18, 42, 3, 181, 0, 21, 42, 2]
abbrev dktX4_is_0 : List UInt8 := dkwX4_is_0 ++ dktX4_is_1
theorem dksX4_is_0 : cX4_is.data.toList.drop 0 = dktX4_is_0 := by decide +kernel
theorem dksX4_is_1 : cX4_is.data.toList.drop 22 = dktX4_is_1 := dk_seg dksX4_is_0 22 rfl rfl
theorem dX4_is_0 : decode cX4_is 0 = .ok (.aload_n 0, 1) := dk_42 (dk_at dksX4_is_0 0 rfl rfl)
theorem dX4_is_1 : decode cX4_is 1 = .ok (.iload_n 1, 1) := dk_27 (dk_at dksX4_is_0 1 rfl rfl)
theorem dX4_is_2 : decode cX4_is 2 = .ok (.putfield 9, 3) := dk_181 0 9 (dk_at dksX4_is_0 2 rfl rfl)
theorem dX4_is_5 : decode cX4_is 5 = .ok (.aload_n 0, 1) := dk_42 (dk_at dksX4_is_0 5 rfl rfl)
theorem dX4_is_6 : decode cX4_is 6 = .ok (.iload_n 2, 1) := dk_28 (dk_at dksX4_is_0 6 rfl rfl)
theorem dX4_is_7 : decode cX4_is 7 = .ok (.putfield 15, 3) := dk_181 0 15 (dk_at dksX4_is_0 7 rfl rfl)
theorem dX4_is_10 : decode cX4_is 10 = .ok (.aload_n 0, 1) := dk_42 (dk_at dksX4_is_0 10 rfl rfl)
theorem dX4_is_11 : decode cX4_is 11 = .ok (.iload_n 3, 1) := dk_29 (dk_at dksX4_is_0 11 rfl rfl)
theorem dX4_is_12 : decode cX4_is 12 = .ok (.putfield 18, 3) := dk_181 0 18 (dk_at dksX4_is_0 12 rfl rfl)
theorem dX4_is_15 : decode cX4_is 15 = .ok (.aload_n 0, 1) := dk_42 (dk_at dksX4_is_0 15 rfl rfl)
theorem dX4_is_16 : decode cX4_is 16 = .ok (.iconst 0, 1) := dk_3 (dk_at dksX4_is_0 16 rfl rfl)
theorem dX4_is_17 : decode cX4_is 17 = .ok (.putfield 21, 3) := dk_181 0 21 (dk_at dksX4_is_0 17 rfl rfl)
theorem dX4_is_20 : decode cX4_is 20 = .ok (.aload_n 0, 1) := dk_42 (dk_at dksX4_is_0 20 rfl rfl)
theorem dX4_is_21 : decode cX4_is 21 = .ok (.iconst (-1), 1) := dk_2 (dk_at dksX4_is_0 21 rfl rfl)
theorem dX4_is_22 : decode cX4_is 22 = .ok (.putfield 24, 3) := dk_181 0 24 (dk_at dksX4_is_1 0 rfl rfl)
theorem dX4_is_25 : decode cX4_is 25 = .ok (.return_, 1) := dk_177 (dk_at dksX4_is_1 3 rfl rfl)
abbrev cX4_way : ByteArray := prog_6_method_4_code
def yX4_way : MethodName := ⟨RX4, "way", "()I"⟩
def dkwX4_way_0 : List UInt8 := [42, 180, 0, 18, 42, 180, 0, 15, 164, 0, 7, 4, 167, 0, 4, 2, 172]
abbrev dktX4_way_0 : List UInt8 := dkwX4_way_0 ++ []
theorem dksX4_way_0 : cX4_way.data.toList.drop 0 = dktX4_way_0 := by decide +kernel
theorem dX4_way_0 : decode cX4_way 0 = .ok (.aload_n 0, 1) := dk_42 (dk_at dksX4_way_0 0 rfl rfl)
theorem dX4_way_1 : decode cX4_way 1 = .ok (.getfield 18, 3) := dk_180 0 18 (dk_at dksX4_way_0 1 rfl rfl)
theorem dX4_way_4 : decode cX4_way 4 = .ok (.aload_n 0, 1) := dk_42 (dk_at dksX4_way_0 4 rfl rfl)
theorem dX4_way_5 : decode cX4_way 5 = .ok (.getfield 15, 3) := dk_180 0 15 (dk_at dksX4_way_0 5 rfl rfl)
theorem dX4_way_8 : decode cX4_way 8 = .ok (.if_icmp .le 7, 3) := dk_164 0 7 (dk_at dksX4_way_0 8 rfl rfl)
theorem dX4_way_11 : decode cX4_way 11 = .ok (.iconst 1, 1) := dk_4 (dk_at dksX4_way_0 11 rfl rfl)
theorem dX4_way_12 : decode cX4_way 12 = .ok (.goto 4, 3) := dk_167 0 4 (dk_at dksX4_way_0 12 rfl rfl)
theorem dX4_way_15 : decode cX4_way 15 = .ok (.iconst (-1), 1) := dk_2 (dk_at dksX4_way_0 15 rfl rfl)
theorem dX4_way_16 : decode cX4_way 16 = .ok (.ireturn, 1) := dk_172 (dk_at dksX4_way_0 16 rfl rfl)
abbrev cX4_become : ByteArray := prog_6_method_3_code
def yX4_become : MethodName := ⟨RX4, "become", "(LFourCars$Person;)V"⟩
def dkwX4_become_2 : List UInt8 := [42, 43, 180, 0, 30, 181, 0, 30, 177]
abbrev dktX4_become_2 : List UInt8 := dkwX4_become_2 ++ []
def dkwX4_become_1 : List UInt8 := [42, 43, 180, 0, 21, 181, 0, 21, 42, 43, 180, 0, 24, 181, 0, 24, 42, 43, 180, 0, 27, 181, 0, 27]
abbrev dktX4_become_1 : List UInt8 := dkwX4_become_1 ++ dktX4_become_2
def dkwX4_become_0 : List UInt8 := [42, 43, 180, 0, 9, 181, 0, 9, 42, 43, 180, 0, 15, 181, 0, 15, 42, 43, 180, 0, 18, 181, 0, 18]
abbrev dktX4_become_0 : List UInt8 := dkwX4_become_0 ++ dktX4_become_1
theorem dksX4_become_0 : cX4_become.data.toList.drop 0 = dktX4_become_0 := by decide +kernel
theorem dksX4_become_1 : cX4_become.data.toList.drop 24 = dktX4_become_1 := dk_seg dksX4_become_0 24 rfl rfl
theorem dksX4_become_2 : cX4_become.data.toList.drop 48 = dktX4_become_2 := dk_seg dksX4_become_1 24 rfl rfl
theorem dX4_become_0 : decode cX4_become 0 = .ok (.aload_n 0, 1) := dk_42 (dk_at dksX4_become_0 0 rfl rfl)
theorem dX4_become_1 : decode cX4_become 1 = .ok (.aload_n 1, 1) := dk_43 (dk_at dksX4_become_0 1 rfl rfl)
theorem dX4_become_2 : decode cX4_become 2 = .ok (.getfield 9, 3) := dk_180 0 9 (dk_at dksX4_become_0 2 rfl rfl)
theorem dX4_become_5 : decode cX4_become 5 = .ok (.putfield 9, 3) := dk_181 0 9 (dk_at dksX4_become_0 5 rfl rfl)
theorem dX4_become_8 : decode cX4_become 8 = .ok (.aload_n 0, 1) := dk_42 (dk_at dksX4_become_0 8 rfl rfl)
theorem dX4_become_9 : decode cX4_become 9 = .ok (.aload_n 1, 1) := dk_43 (dk_at dksX4_become_0 9 rfl rfl)
theorem dX4_become_10 : decode cX4_become 10 = .ok (.getfield 15, 3) := dk_180 0 15 (dk_at dksX4_become_0 10 rfl rfl)
theorem dX4_become_13 : decode cX4_become 13 = .ok (.putfield 15, 3) := dk_181 0 15 (dk_at dksX4_become_0 13 rfl rfl)
theorem dX4_become_16 : decode cX4_become 16 = .ok (.aload_n 0, 1) := dk_42 (dk_at dksX4_become_0 16 rfl rfl)
theorem dX4_become_17 : decode cX4_become 17 = .ok (.aload_n 1, 1) := dk_43 (dk_at dksX4_become_0 17 rfl rfl)
theorem dX4_become_18 : decode cX4_become 18 = .ok (.getfield 18, 3) := dk_180 0 18 (dk_at dksX4_become_0 18 rfl rfl)
theorem dX4_become_21 : decode cX4_become 21 = .ok (.putfield 18, 3) := dk_181 0 18 (dk_at dksX4_become_0 21 rfl rfl)
theorem dX4_become_24 : decode cX4_become 24 = .ok (.aload_n 0, 1) := dk_42 (dk_at dksX4_become_1 0 rfl rfl)
theorem dX4_become_25 : decode cX4_become 25 = .ok (.aload_n 1, 1) := dk_43 (dk_at dksX4_become_1 1 rfl rfl)
theorem dX4_become_26 : decode cX4_become 26 = .ok (.getfield 21, 3) := dk_180 0 21 (dk_at dksX4_become_1 2 rfl rfl)
theorem dX4_become_29 : decode cX4_become 29 = .ok (.putfield 21, 3) := dk_181 0 21 (dk_at dksX4_become_1 5 rfl rfl)
theorem dX4_become_32 : decode cX4_become 32 = .ok (.aload_n 0, 1) := dk_42 (dk_at dksX4_become_1 8 rfl rfl)
theorem dX4_become_33 : decode cX4_become 33 = .ok (.aload_n 1, 1) := dk_43 (dk_at dksX4_become_1 9 rfl rfl)
theorem dX4_become_34 : decode cX4_become 34 = .ok (.getfield 24, 3) := dk_180 0 24 (dk_at dksX4_become_1 10 rfl rfl)
theorem dX4_become_37 : decode cX4_become 37 = .ok (.putfield 24, 3) := dk_181 0 24 (dk_at dksX4_become_1 13 rfl rfl)
theorem dX4_become_40 : decode cX4_become 40 = .ok (.aload_n 0, 1) := dk_42 (dk_at dksX4_become_1 16 rfl rfl)
theorem dX4_become_41 : decode cX4_become 41 = .ok (.aload_n 1, 1) := dk_43 (dk_at dksX4_become_1 17 rfl rfl)
theorem dX4_become_42 : decode cX4_become 42 = .ok (.getfield 27, 3) := dk_180 0 27 (dk_at dksX4_become_1 18 rfl rfl)
theorem dX4_become_45 : decode cX4_become 45 = .ok (.putfield 27, 3) := dk_181 0 27 (dk_at dksX4_become_1 21 rfl rfl)
theorem dX4_become_48 : decode cX4_become 48 = .ok (.aload_n 0, 1) := dk_42 (dk_at dksX4_become_2 0 rfl rfl)
theorem dX4_become_49 : decode cX4_become 49 = .ok (.aload_n 1, 1) := dk_43 (dk_at dksX4_become_2 1 rfl rfl)
theorem dX4_become_50 : decode cX4_become 50 = .ok (.getfield 30, 3) := dk_180 0 30 (dk_at dksX4_become_2 2 rfl rfl)
theorem dX4_become_53 : decode cX4_become 53 = .ok (.putfield 30, 3) := dk_181 0 30 (dk_at dksX4_become_2 5 rfl rfl)
theorem dX4_become_56 : decode cX4_become 56 = .ok (.return_, 1) := dk_177 (dk_at dksX4_become_2 8 rfl rfl)
abbrev cX4_over : ByteArray := prog_6_method_5_code
def yX4_over : MethodName := ⟨RX4, "over", "()I"⟩
def dkwX4_over_0 : List UInt8 := [42, 180, 0, 30, 42, 180, 0, 9, 100, 172]
abbrev dktX4_over_0 : List UInt8 := dkwX4_over_0 ++ []
theorem dksX4_over_0 : cX4_over.data.toList.drop 0 = dktX4_over_0 := by decide +kernel
theorem dX4_over_0 : decode cX4_over 0 = .ok (.aload_n 0, 1) := dk_42 (dk_at dksX4_over_0 0 rfl rfl)
theorem dX4_over_1 : decode cX4_over 1 = .ok (.getfield 30, 3) := dk_180 0 30 (dk_at dksX4_over_0 1 rfl rfl)
theorem dX4_over_4 : decode cX4_over 4 = .ok (.aload_n 0, 1) := dk_42 (dk_at dksX4_over_0 4 rfl rfl)
theorem dX4_over_5 : decode cX4_over 5 = .ok (.getfield 9, 3) := dk_180 0 9 (dk_at dksX4_over_0 5 rfl rfl)
theorem dX4_over_8 : decode cX4_over 8 = .ok (.isub, 1) := dk_100 (dk_at dksX4_over_0 8 rfl rfl)
theorem dX4_over_9 : decode cX4_over 9 = .ok (.ireturn, 1) := dk_172 (dk_at dksX4_over_0 9 rfl rfl)
theorem q122 : (Jvm.Cond.initialized "FourCars$Person") ∈ lw_all := lw_g (lw_at lw_m1 5 rfl) rfl
theorem q262 : (Jvm.Cond.instantiable "FourCars$Person" (7 : Nat)) ∈ lw_all := lw_g (lw_at lw_m1 145 rfl) rfl
theorem q264 : (Jvm.Cond.instanceMethod ({ cls := "FourCars$Person", name := "<init>", desc := "()V" } : Jvm.MethodName)) ∈ lw_all := lw_g (lw_at lw_m1 147 rfl) rfl
theorem q265 : (Jvm.Cond.code ({ cls := "FourCars$Person", name := "<init>", desc := "()V" } : Jvm.MethodName) prog_6_method_1_code (1 : Nat) (Option.none : Option Jvm.ClassFile.FieldType)) ∈ lw_all := lw_g (lw_at lw_m1 148 rfl) rfl
theorem q266 : (Jvm.Cond.methodLink "FourCars$Person" (3 : Nat) ({ cls := "java/lang/Object", name := "<init>", desc := "()V" } : Jvm.MethodName)) ∈ lw_all := lw_g (lw_at lw_m1 149 rfl) rfl
theorem q267 : (Jvm.Cond.fieldLink "FourCars$Person" (9 : Nat) "FourCars$Person" "second" "I") ∈ lw_all := lw_g (lw_at lw_m1 150 rfl) rfl
theorem q270 : (Jvm.Cond.fieldLink "FourCars$Person" (15 : Nat) "FourCars$Person" "from" "I") ∈ lw_all := lw_g (lw_at lw_m1 153 rfl) rfl
theorem q273 : (Jvm.Cond.fieldLink "FourCars$Person" (18 : Nat) "FourCars$Person" "to" "I") ∈ lw_all := lw_g (lw_at lw_m1 156 rfl) rfl
theorem q276 : (Jvm.Cond.fieldLink "FourCars$Person" (21 : Nat) "FourCars$Person" "state" "I") ∈ lw_all := lw_g (lw_at lw_m1 159 rfl) rfl
theorem q279 : (Jvm.Cond.fieldLink "FourCars$Person" (24 : Nat) "FourCars$Person" "car" "I") ∈ lw_all := lw_g (lw_at lw_m1 162 rfl) rfl
theorem q282 : (Jvm.Cond.fieldLink "FourCars$Person" (27 : Nat) "FourCars$Person" "entered" "I") ∈ lw_all := lw_g (lw_at lw_m1 165 rfl) rfl
theorem q285 : (Jvm.Cond.fieldLink "FourCars$Person" (30 : Nat) "FourCars$Person" "left" "I") ∈ lw_all := lw_g (lw_at lw_m1 168 rfl) rfl
theorem q288 : (Jvm.Cond.lays "FourCars$Person" "FourCars$Person" "second" "I") ∈ lw_all := lw_g (lw_at lw_m1 171 rfl) rfl
theorem q289 : (Jvm.Cond.soleField "FourCars$Person" "second") ∈ lw_all := lw_g (lw_at lw_m1 172 rfl) rfl
theorem q290 : (Jvm.Cond.lays "FourCars$Person" "FourCars$Person" "from" "I") ∈ lw_all := lw_g (lw_at lw_m1 173 rfl) rfl
theorem q291 : (Jvm.Cond.soleField "FourCars$Person" "from") ∈ lw_all := lw_g (lw_at lw_m1 174 rfl) rfl
theorem q292 : (Jvm.Cond.lays "FourCars$Person" "FourCars$Person" "to" "I") ∈ lw_all := lw_g (lw_at lw_m1 175 rfl) rfl
theorem q293 : (Jvm.Cond.soleField "FourCars$Person" "to") ∈ lw_all := lw_g (lw_at lw_m1 176 rfl) rfl
theorem q294 : (Jvm.Cond.lays "FourCars$Person" "FourCars$Person" "state" "I") ∈ lw_all := lw_g (lw_at lw_m1 177 rfl) rfl
theorem q295 : (Jvm.Cond.soleField "FourCars$Person" "state") ∈ lw_all := lw_g (lw_at lw_m1 178 rfl) rfl
theorem q296 : (Jvm.Cond.lays "FourCars$Person" "FourCars$Person" "car" "I") ∈ lw_all := lw_g (lw_at lw_m1 179 rfl) rfl
theorem q297 : (Jvm.Cond.soleField "FourCars$Person" "car") ∈ lw_all := lw_g (lw_at lw_m1 180 rfl) rfl
theorem q298 : (Jvm.Cond.lays "FourCars$Person" "FourCars$Person" "entered" "I") ∈ lw_all := lw_g (lw_at lw_m1 181 rfl) rfl
theorem q299 : (Jvm.Cond.soleField "FourCars$Person" "entered") ∈ lw_all := lw_g (lw_at lw_m1 182 rfl) rfl
theorem q300 : (Jvm.Cond.lays "FourCars$Person" "FourCars$Person" "left" "I") ∈ lw_all := lw_g (lw_at lw_m1 183 rfl) rfl
theorem q301 : (Jvm.Cond.soleField "FourCars$Person" "left") ∈ lw_all := lw_g (lw_at lw_m1 184 rfl) rfl
theorem q302 : (Jvm.Cond.superclass "FourCars$Person" "java/lang/Object") ∈ lw_all := lw_g (lw_at lw_m1 185 rfl) rfl
theorem q846 : (Jvm.Cond.instanceMethod ({ cls := "FourCars$Person", name := "is", desc := "(III)V" } : Jvm.MethodName)) ∈ lw_all := lw_g (lw_at lw_m4 9 rfl) rfl
theorem q847 : (Jvm.Cond.selects "FourCars$Person" ({ cls := "FourCars$Person", name := "is", desc := "(III)V" } : Jvm.MethodName) ({ cls := "FourCars$Person", name := "is", desc := "(III)V" } : Jvm.MethodName)) ∈ lw_all := lw_g (lw_at lw_m4 10 rfl) rfl
theorem q848 : (Jvm.Cond.code ({ cls := "FourCars$Person", name := "is", desc := "(III)V" } : Jvm.MethodName) prog_6_method_2_code (4 : Nat) (Option.none : Option Jvm.ClassFile.FieldType)) ∈ lw_all := lw_g (lw_at lw_m4 11 rfl) rfl
theorem q893 : (Jvm.Cond.instanceMethod ({ cls := "FourCars$Person", name := "way", desc := "()I" } : Jvm.MethodName)) ∈ lw_all := lw_g (lw_at lw_m4 56 rfl) rfl
theorem q894 : (Jvm.Cond.selects "FourCars$Person" ({ cls := "FourCars$Person", name := "way", desc := "()I" } : Jvm.MethodName) ({ cls := "FourCars$Person", name := "way", desc := "()I" } : Jvm.MethodName)) ∈ lw_all := lw_g (lw_at lw_m4 57 rfl) rfl
theorem q895 : (Jvm.Cond.code ({ cls := "FourCars$Person", name := "way", desc := "()I" } : Jvm.MethodName) prog_6_method_4_code (1 : Nat) (Option.some Jvm.ClassFile.FieldType.int)) ∈ lw_all := lw_g (lw_at lw_m4 58 rfl) rfl
theorem q1010 : (Jvm.Cond.instanceMethod ({ cls := "FourCars$Person", name := "become", desc := "(LFourCars$Person;)V" } : Jvm.MethodName)) ∈ lw_all := lw_g (lw_at lw_m4 173 rfl) rfl
theorem q1011 : (Jvm.Cond.selects "FourCars$Person" ({ cls := "FourCars$Person", name := "become", desc := "(LFourCars$Person;)V" } : Jvm.MethodName) ({ cls := "FourCars$Person", name := "become", desc := "(LFourCars$Person;)V" } : Jvm.MethodName)) ∈ lw_all := lw_g (lw_at lw_m4 174 rfl) rfl
theorem q1012 : (Jvm.Cond.code ({ cls := "FourCars$Person", name := "become", desc := "(LFourCars$Person;)V" } : Jvm.MethodName) prog_6_method_3_code (2 : Nat) (Option.none : Option Jvm.ClassFile.FieldType)) ∈ lw_all := lw_g (lw_at lw_m4 175 rfl) rfl
theorem q1028 : (Jvm.Cond.instanceMethod ({ cls := "FourCars$Person", name := "over", desc := "()I" } : Jvm.MethodName)) ∈ lw_all := lw_g (lw_at lw_m4 191 rfl) rfl
theorem q1029 : (Jvm.Cond.selects "FourCars$Person" ({ cls := "FourCars$Person", name := "over", desc := "()I" } : Jvm.MethodName) ({ cls := "FourCars$Person", name := "over", desc := "()I" } : Jvm.MethodName)) ∈ lw_all := lw_g (lw_at lw_m4 192 rfl) rfl
theorem q1030 : (Jvm.Cond.code ({ cls := "FourCars$Person", name := "over", desc := "()I" } : Jvm.MethodName) prog_6_method_5_code (1 : Nat) (Option.some Jvm.ClassFile.FieldType.int)) ∈ lw_all := lw_g (lw_at lw_m4 193 rfl) rfl
theorem in_X4 : ∀ w ∈ wsX40, w ∈ lw_all := lw_in wsX40 [288, 290, 292, 294, 296, 298, 300] (by decide +kernel) (by decide +kernel)
/-! FourCars$Car -/
def RX5 : String := "FourCars$Car"
def TX5 : u_T := fun k => match k with
  | 0 => ("FourCars$Car", "floor", "I", false)
  | 1 => ("FourCars$Car", "way", "I", false)
  | 2 => ("FourCars$Car", "state", "I", false)
  | 3 => ("FourCars$Car", "more", "I", false)
  | 4 => ("FourCars$Car", "home", "I", false)
  | 5 => ("FourCars$Car", "isOut", "Z", false)
  | 6 => ("FourCars$Car", "fun", "J", false)
  | _ => ("FourCars$Car", "highFun", "J", false)
def tyX5 : Nat → FieldType := fun k => match k with
  | 0 => .int
  | 1 => .int
  | 2 => .int
  | 3 => .int
  | 4 => .int
  | 5 => .boolean
  | 6 => .long
  | _ => .long
abbrev wsX50 : List Cond := u_ws RX5 TX5 8
theorem nmX5 : ∀ a, a < 8 → ∀ b, b < 8 → a ≠ b → (TX5 a).2.1 ≠ (TX5 b).2.1 := by decide +kernel
theorem tyX5_ok : ∀ k, k < 8 → parseFieldDescriptor (TX5 k).2.2.1 = some (tyX5 k) := by decide +kernel
abbrev cX5_init : ByteArray := prog_2_method_1_code
def yX5_init : MethodName := ⟨RX5, "<init>", "()V"⟩
def dkwX5_init_0 : List UInt8 := [42, 183, 0, 3, 42, 2, 181, 0, 9, 177]
abbrev dktX5_init_0 : List UInt8 := dkwX5_init_0 ++ []
theorem dksX5_init_0 : cX5_init.data.toList.drop 0 = dktX5_init_0 := by decide +kernel
theorem dX5_init_0 : decode cX5_init 0 = .ok (.aload_n 0, 1) := dk_42 (dk_at dksX5_init_0 0 rfl rfl)
theorem dX5_init_1 : decode cX5_init 1 = .ok (.invokespecial 3, 3) := dk_183 0 3 (dk_at dksX5_init_0 1 rfl rfl)
theorem dX5_init_4 : decode cX5_init 4 = .ok (.aload_n 0, 1) := dk_42 (dk_at dksX5_init_0 4 rfl rfl)
theorem dX5_init_5 : decode cX5_init 5 = .ok (.iconst (-1), 1) := dk_2 (dk_at dksX5_init_0 5 rfl rfl)
theorem dX5_init_6 : decode cX5_init 6 = .ok (.putfield 9, 3) := dk_181 0 9 (dk_at dksX5_init_0 6 rfl rfl)
theorem dX5_init_9 : decode cX5_init 9 = .ok (.return_, 1) := dk_177 (dk_at dksX5_init_0 9 rfl rfl)
abbrev cX5_isFun : ByteArray := prog_2_method_3_code
def yX5_isFun : MethodName := ⟨RX5, "isFun", "(I)Z"⟩
def dkwX5_isFun_2 : List UInt8 := [172]
abbrev dktX5_isFun_2 : List UInt8 := dkwX5_isFun_2 ++ []
def dkwX5_isFun_1 : List UInt8 := [167, 0, 24, 42, 180, 0, 35, 27, 16, 64, 100, 123, 10, 127, 10, 148, 154, 0, 7, 4, 167, 0, 4, 3]
abbrev dktX5_isFun_1 : List UInt8 := dkwX5_isFun_1 ++ dktX5_isFun_2
def dkwX5_isFun_0 : List UInt8 := [27, 16, 64, 162, 0, 24, 42, 180, 0, 31, 27, 123, 10, 127, 10, 148, 154, 0, 7, 4, 167, 0, 28, 3]
abbrev dktX5_isFun_0 : List UInt8 := dkwX5_isFun_0 ++ dktX5_isFun_1
theorem dksX5_isFun_0 : cX5_isFun.data.toList.drop 0 = dktX5_isFun_0 := by decide +kernel
theorem dksX5_isFun_1 : cX5_isFun.data.toList.drop 24 = dktX5_isFun_1 := dk_seg dksX5_isFun_0 24 rfl rfl
theorem dksX5_isFun_2 : cX5_isFun.data.toList.drop 48 = dktX5_isFun_2 := dk_seg dksX5_isFun_1 24 rfl rfl
theorem dX5_isFun_0 : decode cX5_isFun 0 = .ok (.iload_n 1, 1) := dk_27 (dk_at dksX5_isFun_0 0 rfl rfl)
theorem dX5_isFun_1 : decode cX5_isFun 1 = .ok (.bipush 64, 2) := dk_16 64 (dk_at dksX5_isFun_0 1 rfl rfl)
theorem dX5_isFun_3 : decode cX5_isFun 3 = .ok (.if_icmp .ge 24, 3) := dk_162 0 24 (dk_at dksX5_isFun_0 3 rfl rfl)
theorem dX5_isFun_6 : decode cX5_isFun 6 = .ok (.aload_n 0, 1) := dk_42 (dk_at dksX5_isFun_0 6 rfl rfl)
theorem dX5_isFun_7 : decode cX5_isFun 7 = .ok (.getfield 31, 3) := dk_180 0 31 (dk_at dksX5_isFun_0 7 rfl rfl)
theorem dX5_isFun_10 : decode cX5_isFun 10 = .ok (.iload_n 1, 1) := dk_27 (dk_at dksX5_isFun_0 10 rfl rfl)
theorem dX5_isFun_11 : decode cX5_isFun 11 = .ok (.lshr, 1) := dk_123 (dk_at dksX5_isFun_0 11 rfl rfl)
theorem dX5_isFun_12 : decode cX5_isFun 12 = .ok (.lconst 1, 1) := dk_10 (dk_at dksX5_isFun_0 12 rfl rfl)
theorem dX5_isFun_13 : decode cX5_isFun 13 = .ok (.land, 1) := dk_127 (dk_at dksX5_isFun_0 13 rfl rfl)
theorem dX5_isFun_14 : decode cX5_isFun 14 = .ok (.lconst 1, 1) := dk_10 (dk_at dksX5_isFun_0 14 rfl rfl)
theorem dX5_isFun_15 : decode cX5_isFun 15 = .ok (.lcmp, 1) := dk_148 (dk_at dksX5_isFun_0 15 rfl rfl)
theorem dX5_isFun_16 : decode cX5_isFun 16 = .ok (.ifCond .ne 7, 3) := dk_154 0 7 (dk_at dksX5_isFun_0 16 rfl rfl)
theorem dX5_isFun_19 : decode cX5_isFun 19 = .ok (.iconst 1, 1) := dk_4 (dk_at dksX5_isFun_0 19 rfl rfl)
theorem dX5_isFun_20 : decode cX5_isFun 20 = .ok (.goto 28, 3) := dk_167 0 28 (dk_at dksX5_isFun_0 20 rfl rfl)
theorem dX5_isFun_23 : decode cX5_isFun 23 = .ok (.iconst 0, 1) := dk_3 (dk_at dksX5_isFun_0 23 rfl rfl)
theorem dX5_isFun_24 : decode cX5_isFun 24 = .ok (.goto 24, 3) := dk_167 0 24 (dk_at dksX5_isFun_1 0 rfl rfl)
theorem dX5_isFun_27 : decode cX5_isFun 27 = .ok (.aload_n 0, 1) := dk_42 (dk_at dksX5_isFun_1 3 rfl rfl)
theorem dX5_isFun_28 : decode cX5_isFun 28 = .ok (.getfield 35, 3) := dk_180 0 35 (dk_at dksX5_isFun_1 4 rfl rfl)
theorem dX5_isFun_31 : decode cX5_isFun 31 = .ok (.iload_n 1, 1) := dk_27 (dk_at dksX5_isFun_1 7 rfl rfl)
theorem dX5_isFun_32 : decode cX5_isFun 32 = .ok (.bipush 64, 2) := dk_16 64 (dk_at dksX5_isFun_1 8 rfl rfl)
theorem dX5_isFun_34 : decode cX5_isFun 34 = .ok (.isub, 1) := dk_100 (dk_at dksX5_isFun_1 10 rfl rfl)
theorem dX5_isFun_35 : decode cX5_isFun 35 = .ok (.lshr, 1) := dk_123 (dk_at dksX5_isFun_1 11 rfl rfl)
theorem dX5_isFun_36 : decode cX5_isFun 36 = .ok (.lconst 1, 1) := dk_10 (dk_at dksX5_isFun_1 12 rfl rfl)
theorem dX5_isFun_37 : decode cX5_isFun 37 = .ok (.land, 1) := dk_127 (dk_at dksX5_isFun_1 13 rfl rfl)
theorem dX5_isFun_38 : decode cX5_isFun 38 = .ok (.lconst 1, 1) := dk_10 (dk_at dksX5_isFun_1 14 rfl rfl)
theorem dX5_isFun_39 : decode cX5_isFun 39 = .ok (.lcmp, 1) := dk_148 (dk_at dksX5_isFun_1 15 rfl rfl)
theorem dX5_isFun_40 : decode cX5_isFun 40 = .ok (.ifCond .ne 7, 3) := dk_154 0 7 (dk_at dksX5_isFun_1 16 rfl rfl)
theorem dX5_isFun_43 : decode cX5_isFun 43 = .ok (.iconst 1, 1) := dk_4 (dk_at dksX5_isFun_1 19 rfl rfl)
theorem dX5_isFun_44 : decode cX5_isFun 44 = .ok (.goto 4, 3) := dk_167 0 4 (dk_at dksX5_isFun_1 20 rfl rfl)
theorem dX5_isFun_47 : decode cX5_isFun 47 = .ok (.iconst 0, 1) := dk_3 (dk_at dksX5_isFun_1 23 rfl rfl)
theorem dX5_isFun_48 : decode cX5_isFun 48 = .ok (.ireturn, 1) := dk_172 (dk_at dksX5_isFun_2 0 rfl rfl)
abbrev cX5_turnsFun : ByteArray := prog_2_method_4_code
def yX5_turnsFun : MethodName := ⟨RX5, "turnsFun", "(I)V"⟩
def dkwX5_turnsFun_1 : List UInt8 := [180, 0, 35, 10, 27, 16, 64, 100, 121, 131, 181, 0, 35, 177]
abbrev dktX5_turnsFun_1 : List UInt8 := dkwX5_turnsFun_1 ++ []
def dkwX5_turnsFun_0 : List UInt8 := [27, 16, 64, 162, 0, 18, 42, 89, 180, 0, 31, 10, 27, 121, 131, 181, 0, 31, 167, 0, 18, 42, 89]
abbrev dktX5_turnsFun_0 : List UInt8 := dkwX5_turnsFun_0 ++ dktX5_turnsFun_1
theorem dksX5_turnsFun_0 : cX5_turnsFun.data.toList.drop 0 = dktX5_turnsFun_0 := by decide +kernel
theorem dksX5_turnsFun_1 : cX5_turnsFun.data.toList.drop 23 = dktX5_turnsFun_1 := dk_seg dksX5_turnsFun_0 23 rfl rfl
theorem dX5_turnsFun_0 : decode cX5_turnsFun 0 = .ok (.iload_n 1, 1) := dk_27 (dk_at dksX5_turnsFun_0 0 rfl rfl)
theorem dX5_turnsFun_1 : decode cX5_turnsFun 1 = .ok (.bipush 64, 2) := dk_16 64 (dk_at dksX5_turnsFun_0 1 rfl rfl)
theorem dX5_turnsFun_3 : decode cX5_turnsFun 3 = .ok (.if_icmp .ge 18, 3) := dk_162 0 18 (dk_at dksX5_turnsFun_0 3 rfl rfl)
theorem dX5_turnsFun_6 : decode cX5_turnsFun 6 = .ok (.aload_n 0, 1) := dk_42 (dk_at dksX5_turnsFun_0 6 rfl rfl)
theorem dX5_turnsFun_7 : decode cX5_turnsFun 7 = .ok (.dup, 1) := dk_89 (dk_at dksX5_turnsFun_0 7 rfl rfl)
theorem dX5_turnsFun_8 : decode cX5_turnsFun 8 = .ok (.getfield 31, 3) := dk_180 0 31 (dk_at dksX5_turnsFun_0 8 rfl rfl)
theorem dX5_turnsFun_11 : decode cX5_turnsFun 11 = .ok (.lconst 1, 1) := dk_10 (dk_at dksX5_turnsFun_0 11 rfl rfl)
theorem dX5_turnsFun_12 : decode cX5_turnsFun 12 = .ok (.iload_n 1, 1) := dk_27 (dk_at dksX5_turnsFun_0 12 rfl rfl)
theorem dX5_turnsFun_13 : decode cX5_turnsFun 13 = .ok (.lshl, 1) := dk_121 (dk_at dksX5_turnsFun_0 13 rfl rfl)
theorem dX5_turnsFun_14 : decode cX5_turnsFun 14 = .ok (.lxor, 1) := dk_131 (dk_at dksX5_turnsFun_0 14 rfl rfl)
theorem dX5_turnsFun_15 : decode cX5_turnsFun 15 = .ok (.putfield 31, 3) := dk_181 0 31 (dk_at dksX5_turnsFun_0 15 rfl rfl)
theorem dX5_turnsFun_18 : decode cX5_turnsFun 18 = .ok (.goto 18, 3) := dk_167 0 18 (dk_at dksX5_turnsFun_0 18 rfl rfl)
theorem dX5_turnsFun_21 : decode cX5_turnsFun 21 = .ok (.aload_n 0, 1) := dk_42 (dk_at dksX5_turnsFun_0 21 rfl rfl)
theorem dX5_turnsFun_22 : decode cX5_turnsFun 22 = .ok (.dup, 1) := dk_89 (dk_at dksX5_turnsFun_0 22 rfl rfl)
theorem dX5_turnsFun_23 : decode cX5_turnsFun 23 = .ok (.getfield 35, 3) := dk_180 0 35 (dk_at dksX5_turnsFun_1 0 rfl rfl)
theorem dX5_turnsFun_26 : decode cX5_turnsFun 26 = .ok (.lconst 1, 1) := dk_10 (dk_at dksX5_turnsFun_1 3 rfl rfl)
theorem dX5_turnsFun_27 : decode cX5_turnsFun 27 = .ok (.iload_n 1, 1) := dk_27 (dk_at dksX5_turnsFun_1 4 rfl rfl)
theorem dX5_turnsFun_28 : decode cX5_turnsFun 28 = .ok (.bipush 64, 2) := dk_16 64 (dk_at dksX5_turnsFun_1 5 rfl rfl)
theorem dX5_turnsFun_30 : decode cX5_turnsFun 30 = .ok (.isub, 1) := dk_100 (dk_at dksX5_turnsFun_1 7 rfl rfl)
theorem dX5_turnsFun_31 : decode cX5_turnsFun 31 = .ok (.lshl, 1) := dk_121 (dk_at dksX5_turnsFun_1 8 rfl rfl)
theorem dX5_turnsFun_32 : decode cX5_turnsFun 32 = .ok (.lxor, 1) := dk_131 (dk_at dksX5_turnsFun_1 9 rfl rfl)
theorem dX5_turnsFun_33 : decode cX5_turnsFun 33 = .ok (.putfield 35, 3) := dk_181 0 35 (dk_at dksX5_turnsFun_1 10 rfl rfl)
theorem dX5_turnsFun_36 : decode cX5_turnsFun 36 = .ok (.return_, 1) := dk_177 (dk_at dksX5_turnsFun_1 13 rfl rfl)
abbrev cX5_become : ByteArray := prog_2_method_2_code
def yX5_become : MethodName := ⟨RX5, "become", "(LFourCars$Car;)V"⟩
def dkwX5_become_2 : List UInt8 := [42, 43, 180, 0, 31, 181, 0, 31, 42, 43, 180, 0, 35, 181, 0, 35, 177]
abbrev dktX5_become_2 : List UInt8 := dkwX5_become_2 ++ []
def dkwX5_become_1 : List UInt8 := [42, 43, 180, 0, 24, 181, 0, 24, 42, 43, 180, 0, 9, 181, 0, 9, 42, 43, 180, 0, 27, 181, 0, 27]
abbrev dktX5_become_1 : List UInt8 := dkwX5_become_1 ++ dktX5_become_2
def dkwX5_become_0 : List UInt8 := [42, 43, 180, 0, 15, 181, 0, 15, 42, 43, 180, 0, 18, 181, 0, 18, 42, 43, 180, 0, 21, 181, 0, 21]
abbrev dktX5_become_0 : List UInt8 := dkwX5_become_0 ++ dktX5_become_1
theorem dksX5_become_0 : cX5_become.data.toList.drop 0 = dktX5_become_0 := by decide +kernel
theorem dksX5_become_1 : cX5_become.data.toList.drop 24 = dktX5_become_1 := dk_seg dksX5_become_0 24 rfl rfl
theorem dksX5_become_2 : cX5_become.data.toList.drop 48 = dktX5_become_2 := dk_seg dksX5_become_1 24 rfl rfl
theorem dX5_become_0 : decode cX5_become 0 = .ok (.aload_n 0, 1) := dk_42 (dk_at dksX5_become_0 0 rfl rfl)
theorem dX5_become_1 : decode cX5_become 1 = .ok (.aload_n 1, 1) := dk_43 (dk_at dksX5_become_0 1 rfl rfl)
theorem dX5_become_2 : decode cX5_become 2 = .ok (.getfield 15, 3) := dk_180 0 15 (dk_at dksX5_become_0 2 rfl rfl)
theorem dX5_become_5 : decode cX5_become 5 = .ok (.putfield 15, 3) := dk_181 0 15 (dk_at dksX5_become_0 5 rfl rfl)
theorem dX5_become_8 : decode cX5_become 8 = .ok (.aload_n 0, 1) := dk_42 (dk_at dksX5_become_0 8 rfl rfl)
theorem dX5_become_9 : decode cX5_become 9 = .ok (.aload_n 1, 1) := dk_43 (dk_at dksX5_become_0 9 rfl rfl)
theorem dX5_become_10 : decode cX5_become 10 = .ok (.getfield 18, 3) := dk_180 0 18 (dk_at dksX5_become_0 10 rfl rfl)
theorem dX5_become_13 : decode cX5_become 13 = .ok (.putfield 18, 3) := dk_181 0 18 (dk_at dksX5_become_0 13 rfl rfl)
theorem dX5_become_16 : decode cX5_become 16 = .ok (.aload_n 0, 1) := dk_42 (dk_at dksX5_become_0 16 rfl rfl)
theorem dX5_become_17 : decode cX5_become 17 = .ok (.aload_n 1, 1) := dk_43 (dk_at dksX5_become_0 17 rfl rfl)
theorem dX5_become_18 : decode cX5_become 18 = .ok (.getfield 21, 3) := dk_180 0 21 (dk_at dksX5_become_0 18 rfl rfl)
theorem dX5_become_21 : decode cX5_become 21 = .ok (.putfield 21, 3) := dk_181 0 21 (dk_at dksX5_become_0 21 rfl rfl)
theorem dX5_become_24 : decode cX5_become 24 = .ok (.aload_n 0, 1) := dk_42 (dk_at dksX5_become_1 0 rfl rfl)
theorem dX5_become_25 : decode cX5_become 25 = .ok (.aload_n 1, 1) := dk_43 (dk_at dksX5_become_1 1 rfl rfl)
theorem dX5_become_26 : decode cX5_become 26 = .ok (.getfield 24, 3) := dk_180 0 24 (dk_at dksX5_become_1 2 rfl rfl)
theorem dX5_become_29 : decode cX5_become 29 = .ok (.putfield 24, 3) := dk_181 0 24 (dk_at dksX5_become_1 5 rfl rfl)
theorem dX5_become_32 : decode cX5_become 32 = .ok (.aload_n 0, 1) := dk_42 (dk_at dksX5_become_1 8 rfl rfl)
theorem dX5_become_33 : decode cX5_become 33 = .ok (.aload_n 1, 1) := dk_43 (dk_at dksX5_become_1 9 rfl rfl)
theorem dX5_become_34 : decode cX5_become 34 = .ok (.getfield 9, 3) := dk_180 0 9 (dk_at dksX5_become_1 10 rfl rfl)
theorem dX5_become_37 : decode cX5_become 37 = .ok (.putfield 9, 3) := dk_181 0 9 (dk_at dksX5_become_1 13 rfl rfl)
theorem dX5_become_40 : decode cX5_become 40 = .ok (.aload_n 0, 1) := dk_42 (dk_at dksX5_become_1 16 rfl rfl)
theorem dX5_become_41 : decode cX5_become 41 = .ok (.aload_n 1, 1) := dk_43 (dk_at dksX5_become_1 17 rfl rfl)
theorem dX5_become_42 : decode cX5_become 42 = .ok (.getfield 27, 3) := dk_180 0 27 (dk_at dksX5_become_1 18 rfl rfl)
theorem dX5_become_45 : decode cX5_become 45 = .ok (.putfield 27, 3) := dk_181 0 27 (dk_at dksX5_become_1 21 rfl rfl)
theorem dX5_become_48 : decode cX5_become 48 = .ok (.aload_n 0, 1) := dk_42 (dk_at dksX5_become_2 0 rfl rfl)
theorem dX5_become_49 : decode cX5_become 49 = .ok (.aload_n 1, 1) := dk_43 (dk_at dksX5_become_2 1 rfl rfl)
theorem dX5_become_50 : decode cX5_become 50 = .ok (.getfield 31, 3) := dk_180 0 31 (dk_at dksX5_become_2 2 rfl rfl)
theorem dX5_become_53 : decode cX5_become 53 = .ok (.putfield 31, 3) := dk_181 0 31 (dk_at dksX5_become_2 5 rfl rfl)
theorem dX5_become_56 : decode cX5_become 56 = .ok (.aload_n 0, 1) := dk_42 (dk_at dksX5_become_2 8 rfl rfl)
theorem dX5_become_57 : decode cX5_become 57 = .ok (.aload_n 1, 1) := dk_43 (dk_at dksX5_become_2 9 rfl rfl)
theorem dX5_become_58 : decode cX5_become 58 = .ok (.getfield 35, 3) := dk_180 0 35 (dk_at dksX5_become_2 10 rfl rfl)
theorem dX5_become_61 : decode cX5_become 61 = .ok (.putfield 35, 3) := dk_181 0 35 (dk_at dksX5_become_2 13 rfl rfl)
theorem dX5_become_64 : decode cX5_become 64 = .ok (.return_, 1) := dk_177 (dk_at dksX5_become_2 16 rfl rfl)
theorem q123 : (Jvm.Cond.initialized "FourCars$Car") ∈ lw_all := lw_g (lw_at lw_m1 6 rfl) rfl
theorem q303 : (Jvm.Cond.instantiable "FourCars$Car" (8 : Nat)) ∈ lw_all := lw_g (lw_at lw_m1 186 rfl) rfl
theorem q305 : (Jvm.Cond.instanceMethod ({ cls := "FourCars$Car", name := "<init>", desc := "()V" } : Jvm.MethodName)) ∈ lw_all := lw_g (lw_at lw_m1 188 rfl) rfl
theorem q306 : (Jvm.Cond.code ({ cls := "FourCars$Car", name := "<init>", desc := "()V" } : Jvm.MethodName) prog_2_method_1_code (1 : Nat) (Option.none : Option Jvm.ClassFile.FieldType)) ∈ lw_all := lw_g (lw_at lw_m1 189 rfl) rfl
theorem q307 : (Jvm.Cond.methodLink "FourCars$Car" (3 : Nat) ({ cls := "java/lang/Object", name := "<init>", desc := "()V" } : Jvm.MethodName)) ∈ lw_all := lw_g (lw_at lw_m1 190 rfl) rfl
theorem q308 : (Jvm.Cond.fieldLink "FourCars$Car" (15 : Nat) "FourCars$Car" "floor" "I") ∈ lw_all := lw_g (lw_at lw_m1 191 rfl) rfl
theorem q311 : (Jvm.Cond.fieldLink "FourCars$Car" (18 : Nat) "FourCars$Car" "way" "I") ∈ lw_all := lw_g (lw_at lw_m1 194 rfl) rfl
theorem q314 : (Jvm.Cond.fieldLink "FourCars$Car" (21 : Nat) "FourCars$Car" "state" "I") ∈ lw_all := lw_g (lw_at lw_m1 197 rfl) rfl
theorem q317 : (Jvm.Cond.fieldLink "FourCars$Car" (24 : Nat) "FourCars$Car" "more" "I") ∈ lw_all := lw_g (lw_at lw_m1 200 rfl) rfl
theorem q320 : (Jvm.Cond.fieldLink "FourCars$Car" (9 : Nat) "FourCars$Car" "home" "I") ∈ lw_all := lw_g (lw_at lw_m1 203 rfl) rfl
theorem q323 : (Jvm.Cond.fieldLink "FourCars$Car" (27 : Nat) "FourCars$Car" "isOut" "Z") ∈ lw_all := lw_g (lw_at lw_m1 206 rfl) rfl
theorem q326 : (Jvm.Cond.fieldLink "FourCars$Car" (31 : Nat) "FourCars$Car" "fun" "J") ∈ lw_all := lw_g (lw_at lw_m1 209 rfl) rfl
theorem q328 : (Jvm.Cond.fieldLink "FourCars$Car" (35 : Nat) "FourCars$Car" "highFun" "J") ∈ lw_all := lw_g (lw_at lw_m1 211 rfl) rfl
theorem q330 : (Jvm.Cond.lays "FourCars$Car" "FourCars$Car" "floor" "I") ∈ lw_all := lw_g (lw_at lw_m1 213 rfl) rfl
theorem q331 : (Jvm.Cond.soleField "FourCars$Car" "floor") ∈ lw_all := lw_g (lw_at lw_m1 214 rfl) rfl
theorem q332 : (Jvm.Cond.lays "FourCars$Car" "FourCars$Car" "way" "I") ∈ lw_all := lw_g (lw_at lw_m1 215 rfl) rfl
theorem q333 : (Jvm.Cond.soleField "FourCars$Car" "way") ∈ lw_all := lw_g (lw_at lw_m1 216 rfl) rfl
theorem q334 : (Jvm.Cond.lays "FourCars$Car" "FourCars$Car" "state" "I") ∈ lw_all := lw_g (lw_at lw_m1 217 rfl) rfl
theorem q335 : (Jvm.Cond.soleField "FourCars$Car" "state") ∈ lw_all := lw_g (lw_at lw_m1 218 rfl) rfl
theorem q336 : (Jvm.Cond.lays "FourCars$Car" "FourCars$Car" "more" "I") ∈ lw_all := lw_g (lw_at lw_m1 219 rfl) rfl
theorem q337 : (Jvm.Cond.soleField "FourCars$Car" "more") ∈ lw_all := lw_g (lw_at lw_m1 220 rfl) rfl
theorem q338 : (Jvm.Cond.lays "FourCars$Car" "FourCars$Car" "home" "I") ∈ lw_all := lw_g (lw_at lw_m1 221 rfl) rfl
theorem q339 : (Jvm.Cond.soleField "FourCars$Car" "home") ∈ lw_all := lw_g (lw_at lw_m1 222 rfl) rfl
theorem q340 : (Jvm.Cond.lays "FourCars$Car" "FourCars$Car" "isOut" "Z") ∈ lw_all := lw_g (lw_at lw_m1 223 rfl) rfl
theorem q341 : (Jvm.Cond.soleField "FourCars$Car" "isOut") ∈ lw_all := lw_g (lw_at lw_m1 224 rfl) rfl
theorem q342 : (Jvm.Cond.lays "FourCars$Car" "FourCars$Car" "fun" "J") ∈ lw_all := lw_g (lw_at lw_m1 225 rfl) rfl
theorem q343 : (Jvm.Cond.soleField "FourCars$Car" "fun") ∈ lw_all := lw_g (lw_at lw_m1 226 rfl) rfl
theorem q344 : (Jvm.Cond.lays "FourCars$Car" "FourCars$Car" "highFun" "J") ∈ lw_all := lw_g (lw_at lw_m1 227 rfl) rfl
theorem q345 : (Jvm.Cond.soleField "FourCars$Car" "highFun") ∈ lw_all := lw_g (lw_at lw_m1 228 rfl) rfl
theorem q346 : (Jvm.Cond.superclass "FourCars$Car" "java/lang/Object") ∈ lw_all := lw_g (lw_at lw_m1 229 rfl) rfl
theorem q938 : (Jvm.Cond.instanceMethod ({ cls := "FourCars$Car", name := "isFun", desc := "(I)Z" } : Jvm.MethodName)) ∈ lw_all := lw_g (lw_at lw_m4 101 rfl) rfl
theorem q939 : (Jvm.Cond.selects "FourCars$Car" ({ cls := "FourCars$Car", name := "isFun", desc := "(I)Z" } : Jvm.MethodName) ({ cls := "FourCars$Car", name := "isFun", desc := "(I)Z" } : Jvm.MethodName)) ∈ lw_all := lw_g (lw_at lw_m4 102 rfl) rfl
theorem q940 : (Jvm.Cond.code ({ cls := "FourCars$Car", name := "isFun", desc := "(I)Z" } : Jvm.MethodName) prog_2_method_3_code (2 : Nat) (Option.some Jvm.ClassFile.FieldType.boolean)) ∈ lw_all := lw_g (lw_at lw_m4 103 rfl) rfl
theorem q942 : (Jvm.Cond.instanceMethod ({ cls := "FourCars$Car", name := "turnsFun", desc := "(I)V" } : Jvm.MethodName)) ∈ lw_all := lw_g (lw_at lw_m4 105 rfl) rfl
theorem q943 : (Jvm.Cond.selects "FourCars$Car" ({ cls := "FourCars$Car", name := "turnsFun", desc := "(I)V" } : Jvm.MethodName) ({ cls := "FourCars$Car", name := "turnsFun", desc := "(I)V" } : Jvm.MethodName)) ∈ lw_all := lw_g (lw_at lw_m4 106 rfl) rfl
theorem q944 : (Jvm.Cond.code ({ cls := "FourCars$Car", name := "turnsFun", desc := "(I)V" } : Jvm.MethodName) prog_2_method_4_code (2 : Nat) (Option.none : Option Jvm.ClassFile.FieldType)) ∈ lw_all := lw_g (lw_at lw_m4 107 rfl) rfl
theorem q1014 : (Jvm.Cond.instanceMethod ({ cls := "FourCars$Car", name := "become", desc := "(LFourCars$Car;)V" } : Jvm.MethodName)) ∈ lw_all := lw_g (lw_at lw_m4 177 rfl) rfl
theorem q1015 : (Jvm.Cond.selects "FourCars$Car" ({ cls := "FourCars$Car", name := "become", desc := "(LFourCars$Car;)V" } : Jvm.MethodName) ({ cls := "FourCars$Car", name := "become", desc := "(LFourCars$Car;)V" } : Jvm.MethodName)) ∈ lw_all := lw_g (lw_at lw_m4 178 rfl) rfl
theorem q1016 : (Jvm.Cond.code ({ cls := "FourCars$Car", name := "become", desc := "(LFourCars$Car;)V" } : Jvm.MethodName) prog_2_method_2_code (2 : Nat) (Option.none : Option Jvm.ClassFile.FieldType)) ∈ lw_all := lw_g (lw_at lw_m4 179 rfl) rfl
theorem in_X5 : ∀ w ∈ wsX50, w ∈ lw_all := lw_in wsX50 [330, 332, 334, 336, 338, 340, 342, 344] (by decide +kernel) (by decide +kernel)
/-! FourCars$Tower -/
def RX3 : String := "FourCars$Tower"
def TX3 : u_T := fun k => match k with
  | 0 => ("FourCars$Tower", "people", "[LFourCars$Person;", true)
  | 1 => ("FourCars$Tower", "cars", "[LFourCars$Car;", true)
  | 2 => ("FourCars$Tower", "many", "I", false)
  | 3 => ("FourCars$Tower", "now", "I", false)
  | 4 => ("FourCars$Tower", "rule", "I", false)
  | 5 => ("FourCars$Tower", "giving", "[I", false)
  | 6 => ("FourCars$Tower", "joker", "I", false)
  | 7 => ("FourCars$Tower", "jokeFloor", "I", false)
  | 8 => ("FourCars$Tower", "isNever", "Z", false)
  | 9 => ("FourCars$Tower", "low", "J", false)
  | 10 => ("FourCars$Tower", "high", "J", false)
  | _ => ("FourCars$Tower", "this$0", "LFourCars;", true)
def tyX3 : Nat → FieldType := fun k => match k with
  | 0 => .array (.object "FourCars$Person")
  | 1 => .array (.object "FourCars$Car")
  | 2 => .int
  | 3 => .int
  | 4 => .int
  | 5 => .array .int
  | 6 => .int
  | 7 => .int
  | 8 => .boolean
  | 9 => .long
  | 10 => .long
  | _ => .object "FourCars"
abbrev wsX30 : List Cond := u_ws RX3 TX3 12
theorem nmX3 : ∀ a, a < 12 → ∀ b, b < 12 → a ≠ b → (TX3 a).2.1 ≠ (TX3 b).2.1 := by decide +kernel
theorem tyX3_ok : ∀ k, k < 12 → parseFieldDescriptor (TX3 k).2.2.1 = some (tyX3 k) := by decide +kernel
abbrev cX3_init : ByteArray := prog_11_method_1_code
def yX3_init : MethodName := ⟨RX3, "<init>", "(LFourCars;)V"⟩
def dkwX3_init_3 : List UInt8 := [187, 0, 21, 89, 183, 0, 32, 83, 132, 2, 1, 167, 255, 235, 177]
abbrev dktX3_init_3 : List UInt8 := dkwX3_init_3 ++ []
def dkwX3_init_2 : List UInt8 := [89, 183, 0, 31, 83, 132, 2, 1, 167, 255, 234, 3, 61, 28, 7, 162, 0, 22, 42, 180, 0, 23, 28]
abbrev dktX3_init_2 : List UInt8 := dkwX3_init_2 ++ dktX3_init_3
def dkwX3_init_1 : List UInt8 := [181, 0, 23, 42, 2, 181, 0, 27, 3, 61, 28, 16, 60, 162, 0, 22, 42, 180, 0, 17, 28, 187, 0, 15]
abbrev dktX3_init_1 : List UInt8 := dkwX3_init_1 ++ dktX3_init_2
def dkwX3_init_0 : List UInt8 := [42, 43, 181, 0, 3, 42, 183, 0, 9, 42, 16, 60, 189, 0, 15, 181, 0, 17, 42, 7, 189, 0, 21]
abbrev dktX3_init_0 : List UInt8 := dkwX3_init_0 ++ dktX3_init_1
theorem dksX3_init_0 : cX3_init.data.toList.drop 0 = dktX3_init_0 := by decide +kernel
theorem dksX3_init_1 : cX3_init.data.toList.drop 23 = dktX3_init_1 := dk_seg dksX3_init_0 23 rfl rfl
theorem dksX3_init_2 : cX3_init.data.toList.drop 47 = dktX3_init_2 := dk_seg dksX3_init_1 24 rfl rfl
theorem dksX3_init_3 : cX3_init.data.toList.drop 70 = dktX3_init_3 := dk_seg dksX3_init_2 23 rfl rfl
theorem dX3_init_0 : decode cX3_init 0 = .ok (.aload_n 0, 1) := dk_42 (dk_at dksX3_init_0 0 rfl rfl)
theorem dX3_init_1 : decode cX3_init 1 = .ok (.aload_n 1, 1) := dk_43 (dk_at dksX3_init_0 1 rfl rfl)
theorem dX3_init_2 : decode cX3_init 2 = .ok (.putfield 3, 3) := dk_181 0 3 (dk_at dksX3_init_0 2 rfl rfl)
theorem dX3_init_5 : decode cX3_init 5 = .ok (.aload_n 0, 1) := dk_42 (dk_at dksX3_init_0 5 rfl rfl)
theorem dX3_init_6 : decode cX3_init 6 = .ok (.invokespecial 9, 3) := dk_183 0 9 (dk_at dksX3_init_0 6 rfl rfl)
theorem dX3_init_9 : decode cX3_init 9 = .ok (.aload_n 0, 1) := dk_42 (dk_at dksX3_init_0 9 rfl rfl)
theorem dX3_init_10 : decode cX3_init 10 = .ok (.bipush 60, 2) := dk_16 60 (dk_at dksX3_init_0 10 rfl rfl)
theorem dX3_init_12 : decode cX3_init 12 = .ok (.anewarray 15, 3) := dk_189 0 15 (dk_at dksX3_init_0 12 rfl rfl)
theorem dX3_init_15 : decode cX3_init 15 = .ok (.putfield 17, 3) := dk_181 0 17 (dk_at dksX3_init_0 15 rfl rfl)
theorem dX3_init_18 : decode cX3_init 18 = .ok (.aload_n 0, 1) := dk_42 (dk_at dksX3_init_0 18 rfl rfl)
theorem dX3_init_19 : decode cX3_init 19 = .ok (.iconst 4, 1) := dk_7 (dk_at dksX3_init_0 19 rfl rfl)
theorem dX3_init_20 : decode cX3_init 20 = .ok (.anewarray 21, 3) := dk_189 0 21 (dk_at dksX3_init_0 20 rfl rfl)
theorem dX3_init_23 : decode cX3_init 23 = .ok (.putfield 23, 3) := dk_181 0 23 (dk_at dksX3_init_1 0 rfl rfl)
theorem dX3_init_26 : decode cX3_init 26 = .ok (.aload_n 0, 1) := dk_42 (dk_at dksX3_init_1 3 rfl rfl)
theorem dX3_init_27 : decode cX3_init 27 = .ok (.iconst (-1), 1) := dk_2 (dk_at dksX3_init_1 4 rfl rfl)
theorem dX3_init_28 : decode cX3_init 28 = .ok (.putfield 27, 3) := dk_181 0 27 (dk_at dksX3_init_1 5 rfl rfl)
theorem dX3_init_31 : decode cX3_init 31 = .ok (.iconst 0, 1) := dk_3 (dk_at dksX3_init_1 8 rfl rfl)
theorem dX3_init_32 : decode cX3_init 32 = .ok (.istore_n 2, 1) := dk_61 (dk_at dksX3_init_1 9 rfl rfl)
theorem dX3_init_33 : decode cX3_init 33 = .ok (.iload_n 2, 1) := dk_28 (dk_at dksX3_init_1 10 rfl rfl)
theorem dX3_init_34 : decode cX3_init 34 = .ok (.bipush 60, 2) := dk_16 60 (dk_at dksX3_init_1 11 rfl rfl)
theorem dX3_init_36 : decode cX3_init 36 = .ok (.if_icmp .ge 22, 3) := dk_162 0 22 (dk_at dksX3_init_1 13 rfl rfl)
theorem dX3_init_39 : decode cX3_init 39 = .ok (.aload_n 0, 1) := dk_42 (dk_at dksX3_init_1 16 rfl rfl)
theorem dX3_init_40 : decode cX3_init 40 = .ok (.getfield 17, 3) := dk_180 0 17 (dk_at dksX3_init_1 17 rfl rfl)
theorem dX3_init_43 : decode cX3_init 43 = .ok (.iload_n 2, 1) := dk_28 (dk_at dksX3_init_1 20 rfl rfl)
theorem dX3_init_44 : decode cX3_init 44 = .ok (.new 15, 3) := dk_187 0 15 (dk_at dksX3_init_1 21 rfl rfl)
theorem dX3_init_47 : decode cX3_init 47 = .ok (.dup, 1) := dk_89 (dk_at dksX3_init_2 0 rfl rfl)
theorem dX3_init_48 : decode cX3_init 48 = .ok (.invokespecial 31, 3) := dk_183 0 31 (dk_at dksX3_init_2 1 rfl rfl)
theorem dX3_init_51 : decode cX3_init 51 = .ok (.aastore, 1) := dk_83 (dk_at dksX3_init_2 4 rfl rfl)
theorem dX3_init_52 : decode cX3_init 52 = .ok (.iinc 2 1, 3) := dk_132 2 1 (dk_at dksX3_init_2 5 rfl rfl)
theorem dX3_init_55 : decode cX3_init 55 = .ok (.goto (-22), 3) := dk_167 255 234 (dk_at dksX3_init_2 8 rfl rfl)
theorem dX3_init_58 : decode cX3_init 58 = .ok (.iconst 0, 1) := dk_3 (dk_at dksX3_init_2 11 rfl rfl)
theorem dX3_init_59 : decode cX3_init 59 = .ok (.istore_n 2, 1) := dk_61 (dk_at dksX3_init_2 12 rfl rfl)
theorem dX3_init_60 : decode cX3_init 60 = .ok (.iload_n 2, 1) := dk_28 (dk_at dksX3_init_2 13 rfl rfl)
theorem dX3_init_61 : decode cX3_init 61 = .ok (.iconst 4, 1) := dk_7 (dk_at dksX3_init_2 14 rfl rfl)
theorem dX3_init_62 : decode cX3_init 62 = .ok (.if_icmp .ge 22, 3) := dk_162 0 22 (dk_at dksX3_init_2 15 rfl rfl)
theorem dX3_init_65 : decode cX3_init 65 = .ok (.aload_n 0, 1) := dk_42 (dk_at dksX3_init_2 18 rfl rfl)
theorem dX3_init_66 : decode cX3_init 66 = .ok (.getfield 23, 3) := dk_180 0 23 (dk_at dksX3_init_2 19 rfl rfl)
theorem dX3_init_69 : decode cX3_init 69 = .ok (.iload_n 2, 1) := dk_28 (dk_at dksX3_init_2 22 rfl rfl)
theorem dX3_init_70 : decode cX3_init 70 = .ok (.new 21, 3) := dk_187 0 21 (dk_at dksX3_init_3 0 rfl rfl)
theorem dX3_init_73 : decode cX3_init 73 = .ok (.dup, 1) := dk_89 (dk_at dksX3_init_3 3 rfl rfl)
theorem dX3_init_74 : decode cX3_init 74 = .ok (.invokespecial 32, 3) := dk_183 0 32 (dk_at dksX3_init_3 4 rfl rfl)
theorem dX3_init_77 : decode cX3_init 77 = .ok (.aastore, 1) := dk_83 (dk_at dksX3_init_3 7 rfl rfl)
theorem dX3_init_78 : decode cX3_init 78 = .ok (.iinc 2 1, 3) := dk_132 2 1 (dk_at dksX3_init_3 8 rfl rfl)
theorem dX3_init_81 : decode cX3_init 81 = .ok (.goto (-21), 3) := dk_167 255 235 (dk_at dksX3_init_3 11 rfl rfl)
theorem dX3_init_84 : decode cX3_init 84 = .ok (.return_, 1) := dk_177 (dk_at dksX3_init_3 14 rfl rfl)
abbrev cX3_begins : ByteArray := prog_11_method_3_code
def yX3_begins : MethodName := ⟨RX3, "begins", "()V"⟩
def dkwX3_begins_3 : List UInt8 := [9, 181, 0, 84, 132, 1, 1, 167, 255, 190, 177]
abbrev dktX3_begins_3 : List UInt8 := dkwX3_begins_3 ++ []
def dkwX3_begins_2 : List UInt8 := [181, 0, 67, 44, 3, 181, 0, 70, 44, 2, 181, 0, 73, 44, 3, 181, 0, 76, 44, 9, 181, 0, 80, 44]
abbrev dktX3_begins_2 : List UInt8 := dkwX3_begins_2 ++ dktX3_begins_3
def dkwX3_begins_1 : List UInt8 := [44, 42, 180, 0, 3, 180, 0, 53, 180, 0, 57, 27, 46, 181, 0, 62, 44, 3, 181, 0, 64, 44, 3]
abbrev dktX3_begins_1 : List UInt8 := dkwX3_begins_1 ++ dktX3_begins_2
def dkwX3_begins_0 : List UInt8 := [42, 3, 181, 0, 33, 42, 3, 181, 0, 36, 3, 60, 27, 7, 162, 0, 67, 42, 180, 0, 23, 27, 50, 77]
abbrev dktX3_begins_0 : List UInt8 := dkwX3_begins_0 ++ dktX3_begins_1
theorem dksX3_begins_0 : cX3_begins.data.toList.drop 0 = dktX3_begins_0 := by decide +kernel
theorem dksX3_begins_1 : cX3_begins.data.toList.drop 24 = dktX3_begins_1 := dk_seg dksX3_begins_0 24 rfl rfl
theorem dksX3_begins_2 : cX3_begins.data.toList.drop 47 = dktX3_begins_2 := dk_seg dksX3_begins_1 23 rfl rfl
theorem dksX3_begins_3 : cX3_begins.data.toList.drop 71 = dktX3_begins_3 := dk_seg dksX3_begins_2 24 rfl rfl
theorem dX3_begins_0 : decode cX3_begins 0 = .ok (.aload_n 0, 1) := dk_42 (dk_at dksX3_begins_0 0 rfl rfl)
theorem dX3_begins_1 : decode cX3_begins 1 = .ok (.iconst 0, 1) := dk_3 (dk_at dksX3_begins_0 1 rfl rfl)
theorem dX3_begins_2 : decode cX3_begins 2 = .ok (.putfield 33, 3) := dk_181 0 33 (dk_at dksX3_begins_0 2 rfl rfl)
theorem dX3_begins_5 : decode cX3_begins 5 = .ok (.aload_n 0, 1) := dk_42 (dk_at dksX3_begins_0 5 rfl rfl)
theorem dX3_begins_6 : decode cX3_begins 6 = .ok (.iconst 0, 1) := dk_3 (dk_at dksX3_begins_0 6 rfl rfl)
theorem dX3_begins_7 : decode cX3_begins 7 = .ok (.putfield 36, 3) := dk_181 0 36 (dk_at dksX3_begins_0 7 rfl rfl)
theorem dX3_begins_10 : decode cX3_begins 10 = .ok (.iconst 0, 1) := dk_3 (dk_at dksX3_begins_0 10 rfl rfl)
theorem dX3_begins_11 : decode cX3_begins 11 = .ok (.istore_n 1, 1) := dk_60 (dk_at dksX3_begins_0 11 rfl rfl)
theorem dX3_begins_12 : decode cX3_begins 12 = .ok (.iload_n 1, 1) := dk_27 (dk_at dksX3_begins_0 12 rfl rfl)
theorem dX3_begins_13 : decode cX3_begins 13 = .ok (.iconst 4, 1) := dk_7 (dk_at dksX3_begins_0 13 rfl rfl)
theorem dX3_begins_14 : decode cX3_begins 14 = .ok (.if_icmp .ge 67, 3) := dk_162 0 67 (dk_at dksX3_begins_0 14 rfl rfl)
theorem dX3_begins_17 : decode cX3_begins 17 = .ok (.aload_n 0, 1) := dk_42 (dk_at dksX3_begins_0 17 rfl rfl)
theorem dX3_begins_18 : decode cX3_begins 18 = .ok (.getfield 23, 3) := dk_180 0 23 (dk_at dksX3_begins_0 18 rfl rfl)
theorem dX3_begins_21 : decode cX3_begins 21 = .ok (.iload_n 1, 1) := dk_27 (dk_at dksX3_begins_0 21 rfl rfl)
theorem dX3_begins_22 : decode cX3_begins 22 = .ok (.aaload, 1) := dk_50 (dk_at dksX3_begins_0 22 rfl rfl)
theorem dX3_begins_23 : decode cX3_begins 23 = .ok (.astore_n 2, 1) := dk_77 (dk_at dksX3_begins_0 23 rfl rfl)
theorem dX3_begins_24 : decode cX3_begins 24 = .ok (.aload_n 2, 1) := dk_44 (dk_at dksX3_begins_1 0 rfl rfl)
theorem dX3_begins_25 : decode cX3_begins 25 = .ok (.aload_n 0, 1) := dk_42 (dk_at dksX3_begins_1 1 rfl rfl)
theorem dX3_begins_26 : decode cX3_begins 26 = .ok (.getfield 3, 3) := dk_180 0 3 (dk_at dksX3_begins_1 2 rfl rfl)
theorem dX3_begins_29 : decode cX3_begins 29 = .ok (.getfield 53, 3) := dk_180 0 53 (dk_at dksX3_begins_1 5 rfl rfl)
theorem dX3_begins_32 : decode cX3_begins 32 = .ok (.getfield 57, 3) := dk_180 0 57 (dk_at dksX3_begins_1 8 rfl rfl)
theorem dX3_begins_35 : decode cX3_begins 35 = .ok (.iload_n 1, 1) := dk_27 (dk_at dksX3_begins_1 11 rfl rfl)
theorem dX3_begins_36 : decode cX3_begins 36 = .ok (.iaload, 1) := dk_46 (dk_at dksX3_begins_1 12 rfl rfl)
theorem dX3_begins_37 : decode cX3_begins 37 = .ok (.putfield 62, 3) := dk_181 0 62 (dk_at dksX3_begins_1 13 rfl rfl)
theorem dX3_begins_40 : decode cX3_begins 40 = .ok (.aload_n 2, 1) := dk_44 (dk_at dksX3_begins_1 16 rfl rfl)
theorem dX3_begins_41 : decode cX3_begins 41 = .ok (.iconst 0, 1) := dk_3 (dk_at dksX3_begins_1 17 rfl rfl)
theorem dX3_begins_42 : decode cX3_begins 42 = .ok (.putfield 64, 3) := dk_181 0 64 (dk_at dksX3_begins_1 18 rfl rfl)
theorem dX3_begins_45 : decode cX3_begins 45 = .ok (.aload_n 2, 1) := dk_44 (dk_at dksX3_begins_1 21 rfl rfl)
theorem dX3_begins_46 : decode cX3_begins 46 = .ok (.iconst 0, 1) := dk_3 (dk_at dksX3_begins_1 22 rfl rfl)
theorem dX3_begins_47 : decode cX3_begins 47 = .ok (.putfield 67, 3) := dk_181 0 67 (dk_at dksX3_begins_2 0 rfl rfl)
theorem dX3_begins_50 : decode cX3_begins 50 = .ok (.aload_n 2, 1) := dk_44 (dk_at dksX3_begins_2 3 rfl rfl)
theorem dX3_begins_51 : decode cX3_begins 51 = .ok (.iconst 0, 1) := dk_3 (dk_at dksX3_begins_2 4 rfl rfl)
theorem dX3_begins_52 : decode cX3_begins 52 = .ok (.putfield 70, 3) := dk_181 0 70 (dk_at dksX3_begins_2 5 rfl rfl)
theorem dX3_begins_55 : decode cX3_begins 55 = .ok (.aload_n 2, 1) := dk_44 (dk_at dksX3_begins_2 8 rfl rfl)
theorem dX3_begins_56 : decode cX3_begins 56 = .ok (.iconst (-1), 1) := dk_2 (dk_at dksX3_begins_2 9 rfl rfl)
theorem dX3_begins_57 : decode cX3_begins 57 = .ok (.putfield 73, 3) := dk_181 0 73 (dk_at dksX3_begins_2 10 rfl rfl)
theorem dX3_begins_60 : decode cX3_begins 60 = .ok (.aload_n 2, 1) := dk_44 (dk_at dksX3_begins_2 13 rfl rfl)
theorem dX3_begins_61 : decode cX3_begins 61 = .ok (.iconst 0, 1) := dk_3 (dk_at dksX3_begins_2 14 rfl rfl)
theorem dX3_begins_62 : decode cX3_begins 62 = .ok (.putfield 76, 3) := dk_181 0 76 (dk_at dksX3_begins_2 15 rfl rfl)
theorem dX3_begins_65 : decode cX3_begins 65 = .ok (.aload_n 2, 1) := dk_44 (dk_at dksX3_begins_2 18 rfl rfl)
theorem dX3_begins_66 : decode cX3_begins 66 = .ok (.lconst 0, 1) := dk_9 (dk_at dksX3_begins_2 19 rfl rfl)
theorem dX3_begins_67 : decode cX3_begins 67 = .ok (.putfield 80, 3) := dk_181 0 80 (dk_at dksX3_begins_2 20 rfl rfl)
theorem dX3_begins_70 : decode cX3_begins 70 = .ok (.aload_n 2, 1) := dk_44 (dk_at dksX3_begins_2 23 rfl rfl)
theorem dX3_begins_71 : decode cX3_begins 71 = .ok (.lconst 0, 1) := dk_9 (dk_at dksX3_begins_3 0 rfl rfl)
theorem dX3_begins_72 : decode cX3_begins 72 = .ok (.putfield 84, 3) := dk_181 0 84 (dk_at dksX3_begins_3 1 rfl rfl)
theorem dX3_begins_75 : decode cX3_begins 75 = .ok (.iinc 1 1, 3) := dk_132 1 1 (dk_at dksX3_begins_3 4 rfl rfl)
theorem dX3_begins_78 : decode cX3_begins 78 = .ok (.goto (-66), 3) := dk_167 255 190 (dk_at dksX3_begins_3 7 rfl rfl)
theorem dX3_begins_81 : decode cX3_begins 81 = .ok (.return_, 1) := dk_177 (dk_at dksX3_begins_3 10 rfl rfl)
abbrev cX3_inState : ByteArray := prog_11_method_19_code
def yX3_inState : MethodName := ⟨RX3, "inState", "(I)I"⟩
def dkwX3_inState_1 : List UInt8 := [160, 0, 7, 4, 167, 0, 4, 3, 96, 61, 132, 3, 1, 167, 255, 224, 28, 172]
abbrev dktX3_inState_1 : List UInt8 := dkwX3_inState_1 ++ []
def dkwX3_inState_0 : List UInt8 := [3, 61, 3, 62, 29, 42, 180, 0, 33, 162, 0, 30, 28, 42, 180, 0, 17, 29, 50, 180, 0, 90, 27]
abbrev dktX3_inState_0 : List UInt8 := dkwX3_inState_0 ++ dktX3_inState_1
theorem dksX3_inState_0 : cX3_inState.data.toList.drop 0 = dktX3_inState_0 := by decide +kernel
theorem dksX3_inState_1 : cX3_inState.data.toList.drop 23 = dktX3_inState_1 := dk_seg dksX3_inState_0 23 rfl rfl
theorem dX3_inState_0 : decode cX3_inState 0 = .ok (.iconst 0, 1) := dk_3 (dk_at dksX3_inState_0 0 rfl rfl)
theorem dX3_inState_1 : decode cX3_inState 1 = .ok (.istore_n 2, 1) := dk_61 (dk_at dksX3_inState_0 1 rfl rfl)
theorem dX3_inState_2 : decode cX3_inState 2 = .ok (.iconst 0, 1) := dk_3 (dk_at dksX3_inState_0 2 rfl rfl)
theorem dX3_inState_3 : decode cX3_inState 3 = .ok (.istore_n 3, 1) := dk_62 (dk_at dksX3_inState_0 3 rfl rfl)
theorem dX3_inState_4 : decode cX3_inState 4 = .ok (.iload_n 3, 1) := dk_29 (dk_at dksX3_inState_0 4 rfl rfl)
theorem dX3_inState_5 : decode cX3_inState 5 = .ok (.aload_n 0, 1) := dk_42 (dk_at dksX3_inState_0 5 rfl rfl)
theorem dX3_inState_6 : decode cX3_inState 6 = .ok (.getfield 33, 3) := dk_180 0 33 (dk_at dksX3_inState_0 6 rfl rfl)
theorem dX3_inState_9 : decode cX3_inState 9 = .ok (.if_icmp .ge 30, 3) := dk_162 0 30 (dk_at dksX3_inState_0 9 rfl rfl)
theorem dX3_inState_12 : decode cX3_inState 12 = .ok (.iload_n 2, 1) := dk_28 (dk_at dksX3_inState_0 12 rfl rfl)
theorem dX3_inState_13 : decode cX3_inState 13 = .ok (.aload_n 0, 1) := dk_42 (dk_at dksX3_inState_0 13 rfl rfl)
theorem dX3_inState_14 : decode cX3_inState 14 = .ok (.getfield 17, 3) := dk_180 0 17 (dk_at dksX3_inState_0 14 rfl rfl)
theorem dX3_inState_17 : decode cX3_inState 17 = .ok (.iload_n 3, 1) := dk_29 (dk_at dksX3_inState_0 17 rfl rfl)
theorem dX3_inState_18 : decode cX3_inState 18 = .ok (.aaload, 1) := dk_50 (dk_at dksX3_inState_0 18 rfl rfl)
theorem dX3_inState_19 : decode cX3_inState 19 = .ok (.getfield 90, 3) := dk_180 0 90 (dk_at dksX3_inState_0 19 rfl rfl)
theorem dX3_inState_22 : decode cX3_inState 22 = .ok (.iload_n 1, 1) := dk_27 (dk_at dksX3_inState_0 22 rfl rfl)
theorem dX3_inState_23 : decode cX3_inState 23 = .ok (.if_icmp .ne 7, 3) := dk_160 0 7 (dk_at dksX3_inState_1 0 rfl rfl)
theorem dX3_inState_26 : decode cX3_inState 26 = .ok (.iconst 1, 1) := dk_4 (dk_at dksX3_inState_1 3 rfl rfl)
theorem dX3_inState_27 : decode cX3_inState 27 = .ok (.goto 4, 3) := dk_167 0 4 (dk_at dksX3_inState_1 4 rfl rfl)
theorem dX3_inState_30 : decode cX3_inState 30 = .ok (.iconst 0, 1) := dk_3 (dk_at dksX3_inState_1 7 rfl rfl)
theorem dX3_inState_31 : decode cX3_inState 31 = .ok (.iadd, 1) := dk_96 (dk_at dksX3_inState_1 8 rfl rfl)
theorem dX3_inState_32 : decode cX3_inState 32 = .ok (.istore_n 2, 1) := dk_61 (dk_at dksX3_inState_1 9 rfl rfl)
theorem dX3_inState_33 : decode cX3_inState 33 = .ok (.iinc 3 1, 3) := dk_132 3 1 (dk_at dksX3_inState_1 10 rfl rfl)
theorem dX3_inState_36 : decode cX3_inState 36 = .ok (.goto (-32), 3) := dk_167 255 224 (dk_at dksX3_inState_1 13 rfl rfl)
theorem dX3_inState_39 : decode cX3_inState 39 = .ok (.iload_n 2, 1) := dk_28 (dk_at dksX3_inState_1 16 rfl rfl)
theorem dX3_inState_40 : decode cX3_inState 40 = .ok (.ireturn, 1) := dk_172 (dk_at dksX3_inState_1 17 rfl rfl)
abbrev cX3_goesBy : ByteArray := prog_11_method_18_code
def yX3_goesBy : MethodName := ⟨RX3, "goesBy", "()V"⟩
def dkwX3_goesBy_6 : List UInt8 := [89, 180, 0, 36, 4, 96, 181, 0, 36, 177]
abbrev dktX3_goesBy_6 : List UInt8 := dkwX3_goesBy_6 ++ []
def dkwX3_goesBy_5 : List UInt8 := [180, 0, 3, 180, 0, 53, 180, 0, 142, 162, 0, 14, 42, 27, 182, 0, 231, 132, 1, 1, 167, 255, 234, 42]
abbrev dktX3_goesBy_5 : List UInt8 := dkwX3_goesBy_5 ++ dktX3_goesBy_6
def dkwX3_goesBy_4 : List UInt8 := [180, 0, 17, 27, 50, 42, 27, 182, 0, 228, 181, 0, 87, 132, 1, 1, 167, 255, 205, 3, 60, 27, 42]
abbrev dktX3_goesBy_4 : List UInt8 := dkwX3_goesBy_4 ++ dktX3_goesBy_5
def dkwX3_goesBy_3 : List UInt8 := [50, 180, 0, 90, 4, 160, 0, 30, 42, 180, 0, 17, 27, 50, 180, 0, 87, 2, 160, 0, 17, 42]
abbrev dktX3_goesBy_3 : List UInt8 := dkwX3_goesBy_3 ++ dktX3_goesBy_4
def dkwX3_goesBy_2 : List UInt8 := [181, 0, 90, 132, 1, 1, 167, 255, 207, 3, 60, 27, 42, 180, 0, 33, 162, 0, 49, 42, 180, 0, 17, 27]
abbrev dktX3_goesBy_2 : List UInt8 := dkwX3_goesBy_2 ++ dktX3_goesBy_3
def dkwX3_goesBy_1 : List UInt8 := [180, 0, 17, 27, 50, 180, 0, 110, 42, 180, 0, 36, 160, 0, 13, 42, 180, 0, 17, 27, 50, 4]
abbrev dktX3_goesBy_1 : List UInt8 := dkwX3_goesBy_1 ++ dktX3_goesBy_2
def dkwX3_goesBy_0 : List UInt8 := [3, 60, 27, 42, 180, 0, 33, 162, 0, 47, 42, 180, 0, 17, 27, 50, 180, 0, 90, 154, 0, 29, 42]
abbrev dktX3_goesBy_0 : List UInt8 := dkwX3_goesBy_0 ++ dktX3_goesBy_1
theorem dksX3_goesBy_0 : cX3_goesBy.data.toList.drop 0 = dktX3_goesBy_0 := by decide +kernel
theorem dksX3_goesBy_1 : cX3_goesBy.data.toList.drop 23 = dktX3_goesBy_1 := dk_seg dksX3_goesBy_0 23 rfl rfl
theorem dksX3_goesBy_2 : cX3_goesBy.data.toList.drop 45 = dktX3_goesBy_2 := dk_seg dksX3_goesBy_1 22 rfl rfl
theorem dksX3_goesBy_3 : cX3_goesBy.data.toList.drop 69 = dktX3_goesBy_3 := dk_seg dksX3_goesBy_2 24 rfl rfl
theorem dksX3_goesBy_4 : cX3_goesBy.data.toList.drop 91 = dktX3_goesBy_4 := dk_seg dksX3_goesBy_3 22 rfl rfl
theorem dksX3_goesBy_5 : cX3_goesBy.data.toList.drop 114 = dktX3_goesBy_5 := dk_seg dksX3_goesBy_4 23 rfl rfl
theorem dksX3_goesBy_6 : cX3_goesBy.data.toList.drop 138 = dktX3_goesBy_6 := dk_seg dksX3_goesBy_5 24 rfl rfl
theorem dX3_goesBy_0 : decode cX3_goesBy 0 = .ok (.iconst 0, 1) := dk_3 (dk_at dksX3_goesBy_0 0 rfl rfl)
theorem dX3_goesBy_1 : decode cX3_goesBy 1 = .ok (.istore_n 1, 1) := dk_60 (dk_at dksX3_goesBy_0 1 rfl rfl)
theorem dX3_goesBy_2 : decode cX3_goesBy 2 = .ok (.iload_n 1, 1) := dk_27 (dk_at dksX3_goesBy_0 2 rfl rfl)
theorem dX3_goesBy_3 : decode cX3_goesBy 3 = .ok (.aload_n 0, 1) := dk_42 (dk_at dksX3_goesBy_0 3 rfl rfl)
theorem dX3_goesBy_4 : decode cX3_goesBy 4 = .ok (.getfield 33, 3) := dk_180 0 33 (dk_at dksX3_goesBy_0 4 rfl rfl)
theorem dX3_goesBy_7 : decode cX3_goesBy 7 = .ok (.if_icmp .ge 47, 3) := dk_162 0 47 (dk_at dksX3_goesBy_0 7 rfl rfl)
theorem dX3_goesBy_10 : decode cX3_goesBy 10 = .ok (.aload_n 0, 1) := dk_42 (dk_at dksX3_goesBy_0 10 rfl rfl)
theorem dX3_goesBy_11 : decode cX3_goesBy 11 = .ok (.getfield 17, 3) := dk_180 0 17 (dk_at dksX3_goesBy_0 11 rfl rfl)
theorem dX3_goesBy_14 : decode cX3_goesBy 14 = .ok (.iload_n 1, 1) := dk_27 (dk_at dksX3_goesBy_0 14 rfl rfl)
theorem dX3_goesBy_15 : decode cX3_goesBy 15 = .ok (.aaload, 1) := dk_50 (dk_at dksX3_goesBy_0 15 rfl rfl)
theorem dX3_goesBy_16 : decode cX3_goesBy 16 = .ok (.getfield 90, 3) := dk_180 0 90 (dk_at dksX3_goesBy_0 16 rfl rfl)
theorem dX3_goesBy_19 : decode cX3_goesBy 19 = .ok (.ifCond .ne 29, 3) := dk_154 0 29 (dk_at dksX3_goesBy_0 19 rfl rfl)
theorem dX3_goesBy_22 : decode cX3_goesBy 22 = .ok (.aload_n 0, 1) := dk_42 (dk_at dksX3_goesBy_0 22 rfl rfl)
theorem dX3_goesBy_23 : decode cX3_goesBy 23 = .ok (.getfield 17, 3) := dk_180 0 17 (dk_at dksX3_goesBy_1 0 rfl rfl)
theorem dX3_goesBy_26 : decode cX3_goesBy 26 = .ok (.iload_n 1, 1) := dk_27 (dk_at dksX3_goesBy_1 3 rfl rfl)
theorem dX3_goesBy_27 : decode cX3_goesBy 27 = .ok (.aaload, 1) := dk_50 (dk_at dksX3_goesBy_1 4 rfl rfl)
theorem dX3_goesBy_28 : decode cX3_goesBy 28 = .ok (.getfield 110, 3) := dk_180 0 110 (dk_at dksX3_goesBy_1 5 rfl rfl)
theorem dX3_goesBy_31 : decode cX3_goesBy 31 = .ok (.aload_n 0, 1) := dk_42 (dk_at dksX3_goesBy_1 8 rfl rfl)
theorem dX3_goesBy_32 : decode cX3_goesBy 32 = .ok (.getfield 36, 3) := dk_180 0 36 (dk_at dksX3_goesBy_1 9 rfl rfl)
theorem dX3_goesBy_35 : decode cX3_goesBy 35 = .ok (.if_icmp .ne 13, 3) := dk_160 0 13 (dk_at dksX3_goesBy_1 12 rfl rfl)
theorem dX3_goesBy_38 : decode cX3_goesBy 38 = .ok (.aload_n 0, 1) := dk_42 (dk_at dksX3_goesBy_1 15 rfl rfl)
theorem dX3_goesBy_39 : decode cX3_goesBy 39 = .ok (.getfield 17, 3) := dk_180 0 17 (dk_at dksX3_goesBy_1 16 rfl rfl)
theorem dX3_goesBy_42 : decode cX3_goesBy 42 = .ok (.iload_n 1, 1) := dk_27 (dk_at dksX3_goesBy_1 19 rfl rfl)
theorem dX3_goesBy_43 : decode cX3_goesBy 43 = .ok (.aaload, 1) := dk_50 (dk_at dksX3_goesBy_1 20 rfl rfl)
theorem dX3_goesBy_44 : decode cX3_goesBy 44 = .ok (.iconst 1, 1) := dk_4 (dk_at dksX3_goesBy_1 21 rfl rfl)
theorem dX3_goesBy_45 : decode cX3_goesBy 45 = .ok (.putfield 90, 3) := dk_181 0 90 (dk_at dksX3_goesBy_2 0 rfl rfl)
theorem dX3_goesBy_48 : decode cX3_goesBy 48 = .ok (.iinc 1 1, 3) := dk_132 1 1 (dk_at dksX3_goesBy_2 3 rfl rfl)
theorem dX3_goesBy_51 : decode cX3_goesBy 51 = .ok (.goto (-49), 3) := dk_167 255 207 (dk_at dksX3_goesBy_2 6 rfl rfl)
theorem dX3_goesBy_54 : decode cX3_goesBy 54 = .ok (.iconst 0, 1) := dk_3 (dk_at dksX3_goesBy_2 9 rfl rfl)
theorem dX3_goesBy_55 : decode cX3_goesBy 55 = .ok (.istore_n 1, 1) := dk_60 (dk_at dksX3_goesBy_2 10 rfl rfl)
theorem dX3_goesBy_56 : decode cX3_goesBy 56 = .ok (.iload_n 1, 1) := dk_27 (dk_at dksX3_goesBy_2 11 rfl rfl)
theorem dX3_goesBy_57 : decode cX3_goesBy 57 = .ok (.aload_n 0, 1) := dk_42 (dk_at dksX3_goesBy_2 12 rfl rfl)
theorem dX3_goesBy_58 : decode cX3_goesBy 58 = .ok (.getfield 33, 3) := dk_180 0 33 (dk_at dksX3_goesBy_2 13 rfl rfl)
theorem dX3_goesBy_61 : decode cX3_goesBy 61 = .ok (.if_icmp .ge 49, 3) := dk_162 0 49 (dk_at dksX3_goesBy_2 16 rfl rfl)
theorem dX3_goesBy_64 : decode cX3_goesBy 64 = .ok (.aload_n 0, 1) := dk_42 (dk_at dksX3_goesBy_2 19 rfl rfl)
theorem dX3_goesBy_65 : decode cX3_goesBy 65 = .ok (.getfield 17, 3) := dk_180 0 17 (dk_at dksX3_goesBy_2 20 rfl rfl)
theorem dX3_goesBy_68 : decode cX3_goesBy 68 = .ok (.iload_n 1, 1) := dk_27 (dk_at dksX3_goesBy_2 23 rfl rfl)
theorem dX3_goesBy_69 : decode cX3_goesBy 69 = .ok (.aaload, 1) := dk_50 (dk_at dksX3_goesBy_3 0 rfl rfl)
theorem dX3_goesBy_70 : decode cX3_goesBy 70 = .ok (.getfield 90, 3) := dk_180 0 90 (dk_at dksX3_goesBy_3 1 rfl rfl)
theorem dX3_goesBy_73 : decode cX3_goesBy 73 = .ok (.iconst 1, 1) := dk_4 (dk_at dksX3_goesBy_3 4 rfl rfl)
theorem dX3_goesBy_74 : decode cX3_goesBy 74 = .ok (.if_icmp .ne 30, 3) := dk_160 0 30 (dk_at dksX3_goesBy_3 5 rfl rfl)
theorem dX3_goesBy_77 : decode cX3_goesBy 77 = .ok (.aload_n 0, 1) := dk_42 (dk_at dksX3_goesBy_3 8 rfl rfl)
theorem dX3_goesBy_78 : decode cX3_goesBy 78 = .ok (.getfield 17, 3) := dk_180 0 17 (dk_at dksX3_goesBy_3 9 rfl rfl)
theorem dX3_goesBy_81 : decode cX3_goesBy 81 = .ok (.iload_n 1, 1) := dk_27 (dk_at dksX3_goesBy_3 12 rfl rfl)
theorem dX3_goesBy_82 : decode cX3_goesBy 82 = .ok (.aaload, 1) := dk_50 (dk_at dksX3_goesBy_3 13 rfl rfl)
theorem dX3_goesBy_83 : decode cX3_goesBy 83 = .ok (.getfield 87, 3) := dk_180 0 87 (dk_at dksX3_goesBy_3 14 rfl rfl)
theorem dX3_goesBy_86 : decode cX3_goesBy 86 = .ok (.iconst (-1), 1) := dk_2 (dk_at dksX3_goesBy_3 17 rfl rfl)
theorem dX3_goesBy_87 : decode cX3_goesBy 87 = .ok (.if_icmp .ne 17, 3) := dk_160 0 17 (dk_at dksX3_goesBy_3 18 rfl rfl)
theorem dX3_goesBy_90 : decode cX3_goesBy 90 = .ok (.aload_n 0, 1) := dk_42 (dk_at dksX3_goesBy_3 21 rfl rfl)
theorem dX3_goesBy_91 : decode cX3_goesBy 91 = .ok (.getfield 17, 3) := dk_180 0 17 (dk_at dksX3_goesBy_4 0 rfl rfl)
theorem dX3_goesBy_94 : decode cX3_goesBy 94 = .ok (.iload_n 1, 1) := dk_27 (dk_at dksX3_goesBy_4 3 rfl rfl)
theorem dX3_goesBy_95 : decode cX3_goesBy 95 = .ok (.aaload, 1) := dk_50 (dk_at dksX3_goesBy_4 4 rfl rfl)
theorem dX3_goesBy_96 : decode cX3_goesBy 96 = .ok (.aload_n 0, 1) := dk_42 (dk_at dksX3_goesBy_4 5 rfl rfl)
theorem dX3_goesBy_97 : decode cX3_goesBy 97 = .ok (.iload_n 1, 1) := dk_27 (dk_at dksX3_goesBy_4 6 rfl rfl)
theorem dX3_goesBy_98 : decode cX3_goesBy 98 = .ok (.invokevirtual 228, 3) := dk_182 0 228 (dk_at dksX3_goesBy_4 7 rfl rfl)
theorem dX3_goesBy_101 : decode cX3_goesBy 101 = .ok (.putfield 87, 3) := dk_181 0 87 (dk_at dksX3_goesBy_4 10 rfl rfl)
theorem dX3_goesBy_104 : decode cX3_goesBy 104 = .ok (.iinc 1 1, 3) := dk_132 1 1 (dk_at dksX3_goesBy_4 13 rfl rfl)
theorem dX3_goesBy_107 : decode cX3_goesBy 107 = .ok (.goto (-51), 3) := dk_167 255 205 (dk_at dksX3_goesBy_4 16 rfl rfl)
theorem dX3_goesBy_110 : decode cX3_goesBy 110 = .ok (.iconst 0, 1) := dk_3 (dk_at dksX3_goesBy_4 19 rfl rfl)
theorem dX3_goesBy_111 : decode cX3_goesBy 111 = .ok (.istore_n 1, 1) := dk_60 (dk_at dksX3_goesBy_4 20 rfl rfl)
theorem dX3_goesBy_112 : decode cX3_goesBy 112 = .ok (.iload_n 1, 1) := dk_27 (dk_at dksX3_goesBy_4 21 rfl rfl)
theorem dX3_goesBy_113 : decode cX3_goesBy 113 = .ok (.aload_n 0, 1) := dk_42 (dk_at dksX3_goesBy_4 22 rfl rfl)
theorem dX3_goesBy_114 : decode cX3_goesBy 114 = .ok (.getfield 3, 3) := dk_180 0 3 (dk_at dksX3_goesBy_5 0 rfl rfl)
theorem dX3_goesBy_117 : decode cX3_goesBy 117 = .ok (.getfield 53, 3) := dk_180 0 53 (dk_at dksX3_goesBy_5 3 rfl rfl)
theorem dX3_goesBy_120 : decode cX3_goesBy 120 = .ok (.getfield 142, 3) := dk_180 0 142 (dk_at dksX3_goesBy_5 6 rfl rfl)
theorem dX3_goesBy_123 : decode cX3_goesBy 123 = .ok (.if_icmp .ge 14, 3) := dk_162 0 14 (dk_at dksX3_goesBy_5 9 rfl rfl)
theorem dX3_goesBy_126 : decode cX3_goesBy 126 = .ok (.aload_n 0, 1) := dk_42 (dk_at dksX3_goesBy_5 12 rfl rfl)
theorem dX3_goesBy_127 : decode cX3_goesBy 127 = .ok (.iload_n 1, 1) := dk_27 (dk_at dksX3_goesBy_5 13 rfl rfl)
theorem dX3_goesBy_128 : decode cX3_goesBy 128 = .ok (.invokevirtual 231, 3) := dk_182 0 231 (dk_at dksX3_goesBy_5 14 rfl rfl)
theorem dX3_goesBy_131 : decode cX3_goesBy 131 = .ok (.iinc 1 1, 3) := dk_132 1 1 (dk_at dksX3_goesBy_5 17 rfl rfl)
theorem dX3_goesBy_134 : decode cX3_goesBy 134 = .ok (.goto (-22), 3) := dk_167 255 234 (dk_at dksX3_goesBy_5 20 rfl rfl)
theorem dX3_goesBy_137 : decode cX3_goesBy 137 = .ok (.aload_n 0, 1) := dk_42 (dk_at dksX3_goesBy_5 23 rfl rfl)
theorem dX3_goesBy_138 : decode cX3_goesBy 138 = .ok (.dup, 1) := dk_89 (dk_at dksX3_goesBy_6 0 rfl rfl)
theorem dX3_goesBy_139 : decode cX3_goesBy 139 = .ok (.getfield 36, 3) := dk_180 0 36 (dk_at dksX3_goesBy_6 1 rfl rfl)
theorem dX3_goesBy_142 : decode cX3_goesBy 142 = .ok (.iconst 1, 1) := dk_4 (dk_at dksX3_goesBy_6 4 rfl rfl)
theorem dX3_goesBy_143 : decode cX3_goesBy 143 = .ok (.iadd, 1) := dk_96 (dk_at dksX3_goesBy_6 5 rfl rfl)
theorem dX3_goesBy_144 : decode cX3_goesBy 144 = .ok (.putfield 36, 3) := dk_181 0 36 (dk_at dksX3_goesBy_6 6 rfl rfl)
theorem dX3_goesBy_147 : decode cX3_goesBy 147 = .ok (.return_, 1) := dk_177 (dk_at dksX3_goesBy_6 9 rfl rfl)
abbrev cX3_bestCar : ByteArray := prog_11_method_7_code
def yX3_bestCar : MethodName := ⟨RX3, "bestCar", "(I)I"⟩
def dkwX3_bestCar_5 : List UInt8 := [161, 0, 6, 167, 0, 9, 21, 4, 61, 21, 5, 62, 132, 4, 1, 167, 255, 149, 28, 172]
abbrev dktX3_bestCar_5 : List UInt8 := dkwX3_bestCar_5 ++ []
def dkwX3_bestCar_4 : List UInt8 := [180, 0, 39, 182, 0, 151, 54, 5, 42, 180, 0, 130, 154, 0, 23, 28, 2, 159, 0, 12, 21, 5, 29]
abbrev dktX3_bestCar_4 : List UInt8 := dkwX3_bestCar_4 ++ dktX3_bestCar_5
def dkwX3_bestCar_3 : List UInt8 := [180, 0, 17, 27, 50, 180, 0, 144, 182, 0, 147, 154, 0, 6, 167, 0, 43, 42, 27, 21, 4, 42]
abbrev dktX3_bestCar_3 : List UInt8 := dkwX3_bestCar_3 ++ dktX3_bestCar_4
def dkwX3_bestCar_2 : List UInt8 := [154, 0, 79, 42, 180, 0, 3, 180, 0, 53, 21, 4, 42, 180, 0, 17, 27, 50, 180, 0, 97, 42]
abbrev dktX3_bestCar_2 : List UInt8 := dkwX3_bestCar_2 ++ dktX3_bestCar_3
def dkwX3_bestCar_1 : List UInt8 := [180, 0, 3, 180, 0, 53, 180, 0, 142, 162, 0, 98, 42, 180, 0, 23, 21, 4, 50, 180, 0, 76]
abbrev dktX3_bestCar_1 : List UInt8 := dkwX3_bestCar_1 ++ dktX3_bestCar_2
def dkwX3_bestCar_0 : List UInt8 := [42, 180, 0, 49, 198, 0, 10, 42, 180, 0, 49, 27, 46, 172, 2, 61, 3, 62, 3, 54, 4, 21, 4, 42]
abbrev dktX3_bestCar_0 : List UInt8 := dkwX3_bestCar_0 ++ dktX3_bestCar_1
theorem dksX3_bestCar_0 : cX3_bestCar.data.toList.drop 0 = dktX3_bestCar_0 := by decide +kernel
theorem dksX3_bestCar_1 : cX3_bestCar.data.toList.drop 24 = dktX3_bestCar_1 := dk_seg dksX3_bestCar_0 24 rfl rfl
theorem dksX3_bestCar_2 : cX3_bestCar.data.toList.drop 46 = dktX3_bestCar_2 := dk_seg dksX3_bestCar_1 22 rfl rfl
theorem dksX3_bestCar_3 : cX3_bestCar.data.toList.drop 68 = dktX3_bestCar_3 := dk_seg dksX3_bestCar_2 22 rfl rfl
theorem dksX3_bestCar_4 : cX3_bestCar.data.toList.drop 90 = dktX3_bestCar_4 := dk_seg dksX3_bestCar_3 22 rfl rfl
theorem dksX3_bestCar_5 : cX3_bestCar.data.toList.drop 113 = dktX3_bestCar_5 := dk_seg dksX3_bestCar_4 23 rfl rfl
theorem dX3_bestCar_0 : decode cX3_bestCar 0 = .ok (.aload_n 0, 1) := dk_42 (dk_at dksX3_bestCar_0 0 rfl rfl)
theorem dX3_bestCar_1 : decode cX3_bestCar 1 = .ok (.getfield 49, 3) := dk_180 0 49 (dk_at dksX3_bestCar_0 1 rfl rfl)
theorem dX3_bestCar_4 : decode cX3_bestCar 4 = .ok (.ifnull 10, 3) := dk_198 0 10 (dk_at dksX3_bestCar_0 4 rfl rfl)
theorem dX3_bestCar_7 : decode cX3_bestCar 7 = .ok (.aload_n 0, 1) := dk_42 (dk_at dksX3_bestCar_0 7 rfl rfl)
theorem dX3_bestCar_8 : decode cX3_bestCar 8 = .ok (.getfield 49, 3) := dk_180 0 49 (dk_at dksX3_bestCar_0 8 rfl rfl)
theorem dX3_bestCar_11 : decode cX3_bestCar 11 = .ok (.iload_n 1, 1) := dk_27 (dk_at dksX3_bestCar_0 11 rfl rfl)
theorem dX3_bestCar_12 : decode cX3_bestCar 12 = .ok (.iaload, 1) := dk_46 (dk_at dksX3_bestCar_0 12 rfl rfl)
theorem dX3_bestCar_13 : decode cX3_bestCar 13 = .ok (.ireturn, 1) := dk_172 (dk_at dksX3_bestCar_0 13 rfl rfl)
theorem dX3_bestCar_14 : decode cX3_bestCar 14 = .ok (.iconst (-1), 1) := dk_2 (dk_at dksX3_bestCar_0 14 rfl rfl)
theorem dX3_bestCar_15 : decode cX3_bestCar 15 = .ok (.istore_n 2, 1) := dk_61 (dk_at dksX3_bestCar_0 15 rfl rfl)
theorem dX3_bestCar_16 : decode cX3_bestCar 16 = .ok (.iconst 0, 1) := dk_3 (dk_at dksX3_bestCar_0 16 rfl rfl)
theorem dX3_bestCar_17 : decode cX3_bestCar 17 = .ok (.istore_n 3, 1) := dk_62 (dk_at dksX3_bestCar_0 17 rfl rfl)
theorem dX3_bestCar_18 : decode cX3_bestCar 18 = .ok (.iconst 0, 1) := dk_3 (dk_at dksX3_bestCar_0 18 rfl rfl)
theorem dX3_bestCar_19 : decode cX3_bestCar 19 = .ok (.istore 4, 2) := dk_54 4 (dk_at dksX3_bestCar_0 19 rfl rfl)
theorem dX3_bestCar_21 : decode cX3_bestCar 21 = .ok (.iload 4, 2) := dk_21 4 (dk_at dksX3_bestCar_0 21 rfl rfl)
theorem dX3_bestCar_23 : decode cX3_bestCar 23 = .ok (.aload_n 0, 1) := dk_42 (dk_at dksX3_bestCar_0 23 rfl rfl)
theorem dX3_bestCar_24 : decode cX3_bestCar 24 = .ok (.getfield 3, 3) := dk_180 0 3 (dk_at dksX3_bestCar_1 0 rfl rfl)
theorem dX3_bestCar_27 : decode cX3_bestCar 27 = .ok (.getfield 53, 3) := dk_180 0 53 (dk_at dksX3_bestCar_1 3 rfl rfl)
theorem dX3_bestCar_30 : decode cX3_bestCar 30 = .ok (.getfield 142, 3) := dk_180 0 142 (dk_at dksX3_bestCar_1 6 rfl rfl)
theorem dX3_bestCar_33 : decode cX3_bestCar 33 = .ok (.if_icmp .ge 98, 3) := dk_162 0 98 (dk_at dksX3_bestCar_1 9 rfl rfl)
theorem dX3_bestCar_36 : decode cX3_bestCar 36 = .ok (.aload_n 0, 1) := dk_42 (dk_at dksX3_bestCar_1 12 rfl rfl)
theorem dX3_bestCar_37 : decode cX3_bestCar 37 = .ok (.getfield 23, 3) := dk_180 0 23 (dk_at dksX3_bestCar_1 13 rfl rfl)
theorem dX3_bestCar_40 : decode cX3_bestCar 40 = .ok (.iload 4, 2) := dk_21 4 (dk_at dksX3_bestCar_1 16 rfl rfl)
theorem dX3_bestCar_42 : decode cX3_bestCar 42 = .ok (.aaload, 1) := dk_50 (dk_at dksX3_bestCar_1 18 rfl rfl)
theorem dX3_bestCar_43 : decode cX3_bestCar 43 = .ok (.getfield 76, 3) := dk_180 0 76 (dk_at dksX3_bestCar_1 19 rfl rfl)
theorem dX3_bestCar_46 : decode cX3_bestCar 46 = .ok (.ifCond .ne 79, 3) := dk_154 0 79 (dk_at dksX3_bestCar_2 0 rfl rfl)
theorem dX3_bestCar_49 : decode cX3_bestCar 49 = .ok (.aload_n 0, 1) := dk_42 (dk_at dksX3_bestCar_2 3 rfl rfl)
theorem dX3_bestCar_50 : decode cX3_bestCar 50 = .ok (.getfield 3, 3) := dk_180 0 3 (dk_at dksX3_bestCar_2 4 rfl rfl)
theorem dX3_bestCar_53 : decode cX3_bestCar 53 = .ok (.getfield 53, 3) := dk_180 0 53 (dk_at dksX3_bestCar_2 7 rfl rfl)
theorem dX3_bestCar_56 : decode cX3_bestCar 56 = .ok (.iload 4, 2) := dk_21 4 (dk_at dksX3_bestCar_2 10 rfl rfl)
theorem dX3_bestCar_58 : decode cX3_bestCar 58 = .ok (.aload_n 0, 1) := dk_42 (dk_at dksX3_bestCar_2 12 rfl rfl)
theorem dX3_bestCar_59 : decode cX3_bestCar 59 = .ok (.getfield 17, 3) := dk_180 0 17 (dk_at dksX3_bestCar_2 13 rfl rfl)
theorem dX3_bestCar_62 : decode cX3_bestCar 62 = .ok (.iload_n 1, 1) := dk_27 (dk_at dksX3_bestCar_2 16 rfl rfl)
theorem dX3_bestCar_63 : decode cX3_bestCar 63 = .ok (.aaload, 1) := dk_50 (dk_at dksX3_bestCar_2 17 rfl rfl)
theorem dX3_bestCar_64 : decode cX3_bestCar 64 = .ok (.getfield 97, 3) := dk_180 0 97 (dk_at dksX3_bestCar_2 18 rfl rfl)
theorem dX3_bestCar_67 : decode cX3_bestCar 67 = .ok (.aload_n 0, 1) := dk_42 (dk_at dksX3_bestCar_2 21 rfl rfl)
theorem dX3_bestCar_68 : decode cX3_bestCar 68 = .ok (.getfield 17, 3) := dk_180 0 17 (dk_at dksX3_bestCar_3 0 rfl rfl)
theorem dX3_bestCar_71 : decode cX3_bestCar 71 = .ok (.iload_n 1, 1) := dk_27 (dk_at dksX3_bestCar_3 3 rfl rfl)
theorem dX3_bestCar_72 : decode cX3_bestCar 72 = .ok (.aaload, 1) := dk_50 (dk_at dksX3_bestCar_3 4 rfl rfl)
theorem dX3_bestCar_73 : decode cX3_bestCar 73 = .ok (.getfield 144, 3) := dk_180 0 144 (dk_at dksX3_bestCar_3 5 rfl rfl)
theorem dX3_bestCar_76 : decode cX3_bestCar 76 = .ok (.invokevirtual 147, 3) := dk_182 0 147 (dk_at dksX3_bestCar_3 8 rfl rfl)
theorem dX3_bestCar_79 : decode cX3_bestCar 79 = .ok (.ifCond .ne 6, 3) := dk_154 0 6 (dk_at dksX3_bestCar_3 11 rfl rfl)
theorem dX3_bestCar_82 : decode cX3_bestCar 82 = .ok (.goto 43, 3) := dk_167 0 43 (dk_at dksX3_bestCar_3 14 rfl rfl)
theorem dX3_bestCar_85 : decode cX3_bestCar 85 = .ok (.aload_n 0, 1) := dk_42 (dk_at dksX3_bestCar_3 17 rfl rfl)
theorem dX3_bestCar_86 : decode cX3_bestCar 86 = .ok (.iload_n 1, 1) := dk_27 (dk_at dksX3_bestCar_3 18 rfl rfl)
theorem dX3_bestCar_87 : decode cX3_bestCar 87 = .ok (.iload 4, 2) := dk_21 4 (dk_at dksX3_bestCar_3 19 rfl rfl)
theorem dX3_bestCar_89 : decode cX3_bestCar 89 = .ok (.aload_n 0, 1) := dk_42 (dk_at dksX3_bestCar_3 21 rfl rfl)
theorem dX3_bestCar_90 : decode cX3_bestCar 90 = .ok (.getfield 39, 3) := dk_180 0 39 (dk_at dksX3_bestCar_4 0 rfl rfl)
theorem dX3_bestCar_93 : decode cX3_bestCar 93 = .ok (.invokevirtual 151, 3) := dk_182 0 151 (dk_at dksX3_bestCar_4 3 rfl rfl)
theorem dX3_bestCar_96 : decode cX3_bestCar 96 = .ok (.istore 5, 2) := dk_54 5 (dk_at dksX3_bestCar_4 6 rfl rfl)
theorem dX3_bestCar_98 : decode cX3_bestCar 98 = .ok (.aload_n 0, 1) := dk_42 (dk_at dksX3_bestCar_4 8 rfl rfl)
theorem dX3_bestCar_99 : decode cX3_bestCar 99 = .ok (.getfield 130, 3) := dk_180 0 130 (dk_at dksX3_bestCar_4 9 rfl rfl)
theorem dX3_bestCar_102 : decode cX3_bestCar 102 = .ok (.ifCond .ne 23, 3) := dk_154 0 23 (dk_at dksX3_bestCar_4 12 rfl rfl)
theorem dX3_bestCar_105 : decode cX3_bestCar 105 = .ok (.iload_n 2, 1) := dk_28 (dk_at dksX3_bestCar_4 15 rfl rfl)
theorem dX3_bestCar_106 : decode cX3_bestCar 106 = .ok (.iconst (-1), 1) := dk_2 (dk_at dksX3_bestCar_4 16 rfl rfl)
theorem dX3_bestCar_107 : decode cX3_bestCar 107 = .ok (.if_icmp .eq 12, 3) := dk_159 0 12 (dk_at dksX3_bestCar_4 17 rfl rfl)
theorem dX3_bestCar_110 : decode cX3_bestCar 110 = .ok (.iload 5, 2) := dk_21 5 (dk_at dksX3_bestCar_4 20 rfl rfl)
theorem dX3_bestCar_112 : decode cX3_bestCar 112 = .ok (.iload_n 3, 1) := dk_29 (dk_at dksX3_bestCar_4 22 rfl rfl)
theorem dX3_bestCar_113 : decode cX3_bestCar 113 = .ok (.if_icmp .lt 6, 3) := dk_161 0 6 (dk_at dksX3_bestCar_5 0 rfl rfl)
theorem dX3_bestCar_116 : decode cX3_bestCar 116 = .ok (.goto 9, 3) := dk_167 0 9 (dk_at dksX3_bestCar_5 3 rfl rfl)
theorem dX3_bestCar_119 : decode cX3_bestCar 119 = .ok (.iload 4, 2) := dk_21 4 (dk_at dksX3_bestCar_5 6 rfl rfl)
theorem dX3_bestCar_121 : decode cX3_bestCar 121 = .ok (.istore_n 2, 1) := dk_61 (dk_at dksX3_bestCar_5 8 rfl rfl)
theorem dX3_bestCar_122 : decode cX3_bestCar 122 = .ok (.iload 5, 2) := dk_21 5 (dk_at dksX3_bestCar_5 9 rfl rfl)
theorem dX3_bestCar_124 : decode cX3_bestCar 124 = .ok (.istore_n 3, 1) := dk_62 (dk_at dksX3_bestCar_5 11 rfl rfl)
theorem dX3_bestCar_125 : decode cX3_bestCar 125 = .ok (.iinc 4 1, 3) := dk_132 4 1 (dk_at dksX3_bestCar_5 12 rfl rfl)
theorem dX3_bestCar_128 : decode cX3_bestCar 128 = .ok (.goto (-107), 3) := dk_167 255 149 (dk_at dksX3_bestCar_5 15 rfl rfl)
theorem dX3_bestCar_131 : decode cX3_bestCar 131 = .ok (.iload_n 2, 1) := dk_28 (dk_at dksX3_bestCar_5 18 rfl rfl)
theorem dX3_bestCar_132 : decode cX3_bestCar 132 = .ok (.ireturn, 1) := dk_172 (dk_at dksX3_bestCar_5 19 rfl rfl)
abbrev cX3_costOf : ByteArray := prog_11_method_6_code
def yX3_costOf : MethodName := ⟨RX3, "costOf", "(III)I"⟩
def dkwX3_costOf_3 : List UInt8 := [3, 167, 0, 21, 25, 4, 180, 0, 133, 21, 5, 50, 42, 180, 0, 3, 180, 0, 94, 182, 0, 137, 172]
abbrev dktX3_costOf_3 : List UInt8 := dkwX3_costOf_3 ++ []
def dkwX3_costOf_2 : List UInt8 := [153, 0, 7, 4, 167, 0, 4, 3, 181, 0, 130, 21, 5, 2, 159, 0, 10, 42, 180, 0, 130, 153, 0, 7]
abbrev dktX3_costOf_2 : List UInt8 := dkwX3_costOf_2 ++ dktX3_costOf_3
def dkwX3_costOf_1 : List UInt8 := [180, 0, 94, 182, 0, 121, 54, 5, 42, 21, 5, 2, 159, 0, 18, 25, 4, 180, 0, 127, 21, 5, 46]
abbrev dktX3_costOf_1 : List UInt8 := dkwX3_costOf_1 ++ dktX3_costOf_2
def dkwX3_costOf_0 : List UInt8 := [42, 27, 28, 182, 0, 113, 42, 180, 0, 3, 180, 0, 117, 29, 50, 58, 4, 25, 4, 42, 180, 0, 3]
abbrev dktX3_costOf_0 : List UInt8 := dkwX3_costOf_0 ++ dktX3_costOf_1
theorem dksX3_costOf_0 : cX3_costOf.data.toList.drop 0 = dktX3_costOf_0 := by decide +kernel
theorem dksX3_costOf_1 : cX3_costOf.data.toList.drop 23 = dktX3_costOf_1 := dk_seg dksX3_costOf_0 23 rfl rfl
theorem dksX3_costOf_2 : cX3_costOf.data.toList.drop 46 = dktX3_costOf_2 := dk_seg dksX3_costOf_1 23 rfl rfl
theorem dksX3_costOf_3 : cX3_costOf.data.toList.drop 70 = dktX3_costOf_3 := dk_seg dksX3_costOf_2 24 rfl rfl
theorem dX3_costOf_0 : decode cX3_costOf 0 = .ok (.aload_n 0, 1) := dk_42 (dk_at dksX3_costOf_0 0 rfl rfl)
theorem dX3_costOf_1 : decode cX3_costOf 1 = .ok (.iload_n 1, 1) := dk_27 (dk_at dksX3_costOf_0 1 rfl rfl)
theorem dX3_costOf_2 : decode cX3_costOf 2 = .ok (.iload_n 2, 1) := dk_28 (dk_at dksX3_costOf_0 2 rfl rfl)
theorem dX3_costOf_3 : decode cX3_costOf 3 = .ok (.invokevirtual 113, 3) := dk_182 0 113 (dk_at dksX3_costOf_0 3 rfl rfl)
theorem dX3_costOf_6 : decode cX3_costOf 6 = .ok (.aload_n 0, 1) := dk_42 (dk_at dksX3_costOf_0 6 rfl rfl)
theorem dX3_costOf_7 : decode cX3_costOf 7 = .ok (.getfield 3, 3) := dk_180 0 3 (dk_at dksX3_costOf_0 7 rfl rfl)
theorem dX3_costOf_10 : decode cX3_costOf 10 = .ok (.getfield 117, 3) := dk_180 0 117 (dk_at dksX3_costOf_0 10 rfl rfl)
theorem dX3_costOf_13 : decode cX3_costOf 13 = .ok (.iload_n 3, 1) := dk_29 (dk_at dksX3_costOf_0 13 rfl rfl)
theorem dX3_costOf_14 : decode cX3_costOf 14 = .ok (.aaload, 1) := dk_50 (dk_at dksX3_costOf_0 14 rfl rfl)
theorem dX3_costOf_15 : decode cX3_costOf 15 = .ok (.astore 4, 2) := dk_58 4 (dk_at dksX3_costOf_0 15 rfl rfl)
theorem dX3_costOf_17 : decode cX3_costOf 17 = .ok (.aload 4, 2) := dk_25 4 (dk_at dksX3_costOf_0 17 rfl rfl)
theorem dX3_costOf_19 : decode cX3_costOf 19 = .ok (.aload_n 0, 1) := dk_42 (dk_at dksX3_costOf_0 19 rfl rfl)
theorem dX3_costOf_20 : decode cX3_costOf 20 = .ok (.getfield 3, 3) := dk_180 0 3 (dk_at dksX3_costOf_0 20 rfl rfl)
theorem dX3_costOf_23 : decode cX3_costOf 23 = .ok (.getfield 94, 3) := dk_180 0 94 (dk_at dksX3_costOf_1 0 rfl rfl)
theorem dX3_costOf_26 : decode cX3_costOf 26 = .ok (.invokevirtual 121, 3) := dk_182 0 121 (dk_at dksX3_costOf_1 3 rfl rfl)
theorem dX3_costOf_29 : decode cX3_costOf 29 = .ok (.istore 5, 2) := dk_54 5 (dk_at dksX3_costOf_1 6 rfl rfl)
theorem dX3_costOf_31 : decode cX3_costOf 31 = .ok (.aload_n 0, 1) := dk_42 (dk_at dksX3_costOf_1 8 rfl rfl)
theorem dX3_costOf_32 : decode cX3_costOf 32 = .ok (.iload 5, 2) := dk_21 5 (dk_at dksX3_costOf_1 9 rfl rfl)
theorem dX3_costOf_34 : decode cX3_costOf 34 = .ok (.iconst (-1), 1) := dk_2 (dk_at dksX3_costOf_1 11 rfl rfl)
theorem dX3_costOf_35 : decode cX3_costOf 35 = .ok (.if_icmp .eq 18, 3) := dk_159 0 18 (dk_at dksX3_costOf_1 12 rfl rfl)
theorem dX3_costOf_38 : decode cX3_costOf 38 = .ok (.aload 4, 2) := dk_25 4 (dk_at dksX3_costOf_1 15 rfl rfl)
theorem dX3_costOf_40 : decode cX3_costOf 40 = .ok (.getfield 127, 3) := dk_180 0 127 (dk_at dksX3_costOf_1 17 rfl rfl)
theorem dX3_costOf_43 : decode cX3_costOf 43 = .ok (.iload 5, 2) := dk_21 5 (dk_at dksX3_costOf_1 20 rfl rfl)
theorem dX3_costOf_45 : decode cX3_costOf 45 = .ok (.iaload, 1) := dk_46 (dk_at dksX3_costOf_1 22 rfl rfl)
theorem dX3_costOf_46 : decode cX3_costOf 46 = .ok (.ifCond .eq 7, 3) := dk_153 0 7 (dk_at dksX3_costOf_2 0 rfl rfl)
theorem dX3_costOf_49 : decode cX3_costOf 49 = .ok (.iconst 1, 1) := dk_4 (dk_at dksX3_costOf_2 3 rfl rfl)
theorem dX3_costOf_50 : decode cX3_costOf 50 = .ok (.goto 4, 3) := dk_167 0 4 (dk_at dksX3_costOf_2 4 rfl rfl)
theorem dX3_costOf_53 : decode cX3_costOf 53 = .ok (.iconst 0, 1) := dk_3 (dk_at dksX3_costOf_2 7 rfl rfl)
theorem dX3_costOf_54 : decode cX3_costOf 54 = .ok (.putfield 130, 3) := dk_181 0 130 (dk_at dksX3_costOf_2 8 rfl rfl)
theorem dX3_costOf_57 : decode cX3_costOf 57 = .ok (.iload 5, 2) := dk_21 5 (dk_at dksX3_costOf_2 11 rfl rfl)
theorem dX3_costOf_59 : decode cX3_costOf 59 = .ok (.iconst (-1), 1) := dk_2 (dk_at dksX3_costOf_2 13 rfl rfl)
theorem dX3_costOf_60 : decode cX3_costOf 60 = .ok (.if_icmp .eq 10, 3) := dk_159 0 10 (dk_at dksX3_costOf_2 14 rfl rfl)
theorem dX3_costOf_63 : decode cX3_costOf 63 = .ok (.aload_n 0, 1) := dk_42 (dk_at dksX3_costOf_2 17 rfl rfl)
theorem dX3_costOf_64 : decode cX3_costOf 64 = .ok (.getfield 130, 3) := dk_180 0 130 (dk_at dksX3_costOf_2 18 rfl rfl)
theorem dX3_costOf_67 : decode cX3_costOf 67 = .ok (.ifCond .eq 7, 3) := dk_153 0 7 (dk_at dksX3_costOf_2 21 rfl rfl)
theorem dX3_costOf_70 : decode cX3_costOf 70 = .ok (.iconst 0, 1) := dk_3 (dk_at dksX3_costOf_3 0 rfl rfl)
theorem dX3_costOf_71 : decode cX3_costOf 71 = .ok (.goto 21, 3) := dk_167 0 21 (dk_at dksX3_costOf_3 1 rfl rfl)
theorem dX3_costOf_74 : decode cX3_costOf 74 = .ok (.aload 4, 2) := dk_25 4 (dk_at dksX3_costOf_3 4 rfl rfl)
theorem dX3_costOf_76 : decode cX3_costOf 76 = .ok (.getfield 133, 3) := dk_180 0 133 (dk_at dksX3_costOf_3 6 rfl rfl)
theorem dX3_costOf_79 : decode cX3_costOf 79 = .ok (.iload 5, 2) := dk_21 5 (dk_at dksX3_costOf_3 9 rfl rfl)
theorem dX3_costOf_81 : decode cX3_costOf 81 = .ok (.aaload, 1) := dk_50 (dk_at dksX3_costOf_3 11 rfl rfl)
theorem dX3_costOf_82 : decode cX3_costOf 82 = .ok (.aload_n 0, 1) := dk_42 (dk_at dksX3_costOf_3 12 rfl rfl)
theorem dX3_costOf_83 : decode cX3_costOf 83 = .ok (.getfield 3, 3) := dk_180 0 3 (dk_at dksX3_costOf_3 13 rfl rfl)
theorem dX3_costOf_86 : decode cX3_costOf 86 = .ok (.getfield 94, 3) := dk_180 0 94 (dk_at dksX3_costOf_3 16 rfl rfl)
theorem dX3_costOf_89 : decode cX3_costOf 89 = .ok (.invokevirtual 137, 3) := dk_182 0 137 (dk_at dksX3_costOf_3 19 rfl rfl)
theorem dX3_costOf_92 : decode cX3_costOf 92 = .ok (.ireturn, 1) := dk_172 (dk_at dksX3_costOf_3 22 rfl rfl)
abbrev cX3_asks : ByteArray := prog_11_method_5_code
def yX3_asks : MethodName := ⟨RX3, "asks", "(II)V"⟩
def dkwX3_asks_10 : List UInt8 := [180, 0, 3, 180, 0, 94, 16, 9, 28, 79, 177]
abbrev dktX3_asks_10 : List UInt8 := dkwX3_asks_10 ++ []
def dkwX3_asks_9 : List UInt8 := [180, 0, 97, 79, 42, 180, 0, 3, 180, 0, 94, 16, 8, 42, 180, 0, 36, 45, 180, 0, 110, 100, 79, 42]
abbrev dktX3_asks_9 : List UInt8 := dkwX3_asks_9 ++ dktX3_asks_10
def dkwX3_asks_8 : List UInt8 := [21, 5, 4, 160, 0, 7, 4, 167, 0, 4, 3, 79, 42, 180, 0, 3, 180, 0, 94, 16, 7, 45]
abbrev dktX3_asks_8 : List UInt8 := dkwX3_asks_8 ++ dktX3_asks_9
def dkwX3_asks_7 : List UInt8 := [25, 4, 180, 0, 67, 154, 0, 7, 4, 167, 0, 4, 3, 79, 42, 180, 0, 3, 180, 0, 94, 16, 6]
abbrev dktX3_asks_7 : List UInt8 := dkwX3_asks_7 ++ dktX3_asks_8
def dkwX3_asks_6 : List UInt8 := [42, 180, 0, 3, 180, 0, 94, 7, 42, 28, 4, 182, 0, 106, 79, 42, 180, 0, 3, 180, 0, 94, 8]
abbrev dktX3_asks_6 : List UInt8 := dkwX3_asks_6 ++ dktX3_asks_7
def dkwX3_asks_5 : List UInt8 := [159, 0, 7, 4, 167, 0, 4, 3, 79, 42, 180, 0, 3, 180, 0, 94, 6, 42, 28, 5, 182, 0, 106, 79]
abbrev dktX3_asks_5 : List UInt8 := dkwX3_asks_5 ++ dktX3_asks_6
def dkwX3_asks_4 : List UInt8 := [79, 42, 180, 0, 3, 180, 0, 94, 5, 25, 4, 180, 0, 64, 153, 0, 17, 25, 4, 180, 0, 64, 21, 5]
abbrev dktX3_asks_4 : List UInt8 := dkwX3_asks_4 ++ dktX3_asks_5
def dkwX3_asks_3 : List UInt8 := [160, 0, 23, 45, 180, 0, 97, 25, 4, 180, 0, 62, 100, 21, 5, 104, 155, 0, 7, 4, 167, 0, 4, 3]
abbrev dktX3_asks_3 : List UInt8 := dkwX3_asks_3 ++ dktX3_asks_4
def dkwX3_asks_2 : List UInt8 := [180, 0, 3, 180, 0, 94, 4, 25, 4, 180, 0, 64, 153, 0, 33, 25, 4, 180, 0, 64, 21, 5]
abbrev dktX3_asks_2 : List UInt8 := dkwX3_asks_2 ++ dktX3_asks_3
def dkwX3_asks_1 : List UInt8 := [180, 0, 3, 180, 0, 94, 3, 25, 4, 180, 0, 62, 45, 180, 0, 97, 100, 184, 0, 100, 79, 42]
abbrev dktX3_asks_1 : List UInt8 := dkwX3_asks_1 ++ dktX3_asks_2
def dkwX3_asks_0 : List UInt8 := [42, 180, 0, 17, 27, 50, 78, 42, 180, 0, 23, 28, 50, 58, 4, 45, 182, 0, 91, 54, 5, 42]
abbrev dktX3_asks_0 : List UInt8 := dkwX3_asks_0 ++ dktX3_asks_1
theorem dksX3_asks_0 : cX3_asks.data.toList.drop 0 = dktX3_asks_0 := by decide +kernel
theorem dksX3_asks_1 : cX3_asks.data.toList.drop 22 = dktX3_asks_1 := dk_seg dksX3_asks_0 22 rfl rfl
theorem dksX3_asks_2 : cX3_asks.data.toList.drop 44 = dktX3_asks_2 := dk_seg dksX3_asks_1 22 rfl rfl
theorem dksX3_asks_3 : cX3_asks.data.toList.drop 66 = dktX3_asks_3 := dk_seg dksX3_asks_2 22 rfl rfl
theorem dksX3_asks_4 : cX3_asks.data.toList.drop 90 = dktX3_asks_4 := dk_seg dksX3_asks_3 24 rfl rfl
theorem dksX3_asks_5 : cX3_asks.data.toList.drop 114 = dktX3_asks_5 := dk_seg dksX3_asks_4 24 rfl rfl
theorem dksX3_asks_6 : cX3_asks.data.toList.drop 138 = dktX3_asks_6 := dk_seg dksX3_asks_5 24 rfl rfl
theorem dksX3_asks_7 : cX3_asks.data.toList.drop 161 = dktX3_asks_7 := dk_seg dksX3_asks_6 23 rfl rfl
theorem dksX3_asks_8 : cX3_asks.data.toList.drop 184 = dktX3_asks_8 := dk_seg dksX3_asks_7 23 rfl rfl
theorem dksX3_asks_9 : cX3_asks.data.toList.drop 206 = dktX3_asks_9 := dk_seg dksX3_asks_8 22 rfl rfl
theorem dksX3_asks_10 : cX3_asks.data.toList.drop 230 = dktX3_asks_10 := dk_seg dksX3_asks_9 24 rfl rfl
theorem dX3_asks_0 : decode cX3_asks 0 = .ok (.aload_n 0, 1) := dk_42 (dk_at dksX3_asks_0 0 rfl rfl)
theorem dX3_asks_1 : decode cX3_asks 1 = .ok (.getfield 17, 3) := dk_180 0 17 (dk_at dksX3_asks_0 1 rfl rfl)
theorem dX3_asks_4 : decode cX3_asks 4 = .ok (.iload_n 1, 1) := dk_27 (dk_at dksX3_asks_0 4 rfl rfl)
theorem dX3_asks_5 : decode cX3_asks 5 = .ok (.aaload, 1) := dk_50 (dk_at dksX3_asks_0 5 rfl rfl)
theorem dX3_asks_6 : decode cX3_asks 6 = .ok (.astore_n 3, 1) := dk_78 (dk_at dksX3_asks_0 6 rfl rfl)
theorem dX3_asks_7 : decode cX3_asks 7 = .ok (.aload_n 0, 1) := dk_42 (dk_at dksX3_asks_0 7 rfl rfl)
theorem dX3_asks_8 : decode cX3_asks 8 = .ok (.getfield 23, 3) := dk_180 0 23 (dk_at dksX3_asks_0 8 rfl rfl)
theorem dX3_asks_11 : decode cX3_asks 11 = .ok (.iload_n 2, 1) := dk_28 (dk_at dksX3_asks_0 11 rfl rfl)
theorem dX3_asks_12 : decode cX3_asks 12 = .ok (.aaload, 1) := dk_50 (dk_at dksX3_asks_0 12 rfl rfl)
theorem dX3_asks_13 : decode cX3_asks 13 = .ok (.astore 4, 2) := dk_58 4 (dk_at dksX3_asks_0 13 rfl rfl)
theorem dX3_asks_15 : decode cX3_asks 15 = .ok (.aload_n 3, 1) := dk_45 (dk_at dksX3_asks_0 15 rfl rfl)
theorem dX3_asks_16 : decode cX3_asks 16 = .ok (.invokevirtual 91, 3) := dk_182 0 91 (dk_at dksX3_asks_0 16 rfl rfl)
theorem dX3_asks_19 : decode cX3_asks 19 = .ok (.istore 5, 2) := dk_54 5 (dk_at dksX3_asks_0 19 rfl rfl)
theorem dX3_asks_21 : decode cX3_asks 21 = .ok (.aload_n 0, 1) := dk_42 (dk_at dksX3_asks_0 21 rfl rfl)
theorem dX3_asks_22 : decode cX3_asks 22 = .ok (.getfield 3, 3) := dk_180 0 3 (dk_at dksX3_asks_1 0 rfl rfl)
theorem dX3_asks_25 : decode cX3_asks 25 = .ok (.getfield 94, 3) := dk_180 0 94 (dk_at dksX3_asks_1 3 rfl rfl)
theorem dX3_asks_28 : decode cX3_asks 28 = .ok (.iconst 0, 1) := dk_3 (dk_at dksX3_asks_1 6 rfl rfl)
theorem dX3_asks_29 : decode cX3_asks 29 = .ok (.aload 4, 2) := dk_25 4 (dk_at dksX3_asks_1 7 rfl rfl)
theorem dX3_asks_31 : decode cX3_asks 31 = .ok (.getfield 62, 3) := dk_180 0 62 (dk_at dksX3_asks_1 9 rfl rfl)
theorem dX3_asks_34 : decode cX3_asks 34 = .ok (.aload_n 3, 1) := dk_45 (dk_at dksX3_asks_1 12 rfl rfl)
theorem dX3_asks_35 : decode cX3_asks 35 = .ok (.getfield 97, 3) := dk_180 0 97 (dk_at dksX3_asks_1 13 rfl rfl)
theorem dX3_asks_38 : decode cX3_asks 38 = .ok (.isub, 1) := dk_100 (dk_at dksX3_asks_1 16 rfl rfl)
theorem dX3_asks_39 : decode cX3_asks 39 = .ok (.invokestatic 100, 3) := dk_184 0 100 (dk_at dksX3_asks_1 17 rfl rfl)
theorem dX3_asks_42 : decode cX3_asks 42 = .ok (.iastore, 1) := dk_79 (dk_at dksX3_asks_1 20 rfl rfl)
theorem dX3_asks_43 : decode cX3_asks 43 = .ok (.aload_n 0, 1) := dk_42 (dk_at dksX3_asks_1 21 rfl rfl)
theorem dX3_asks_44 : decode cX3_asks 44 = .ok (.getfield 3, 3) := dk_180 0 3 (dk_at dksX3_asks_2 0 rfl rfl)
theorem dX3_asks_47 : decode cX3_asks 47 = .ok (.getfield 94, 3) := dk_180 0 94 (dk_at dksX3_asks_2 3 rfl rfl)
theorem dX3_asks_50 : decode cX3_asks 50 = .ok (.iconst 1, 1) := dk_4 (dk_at dksX3_asks_2 6 rfl rfl)
theorem dX3_asks_51 : decode cX3_asks 51 = .ok (.aload 4, 2) := dk_25 4 (dk_at dksX3_asks_2 7 rfl rfl)
theorem dX3_asks_53 : decode cX3_asks 53 = .ok (.getfield 64, 3) := dk_180 0 64 (dk_at dksX3_asks_2 9 rfl rfl)
theorem dX3_asks_56 : decode cX3_asks 56 = .ok (.ifCond .eq 33, 3) := dk_153 0 33 (dk_at dksX3_asks_2 12 rfl rfl)
theorem dX3_asks_59 : decode cX3_asks 59 = .ok (.aload 4, 2) := dk_25 4 (dk_at dksX3_asks_2 15 rfl rfl)
theorem dX3_asks_61 : decode cX3_asks 61 = .ok (.getfield 64, 3) := dk_180 0 64 (dk_at dksX3_asks_2 17 rfl rfl)
theorem dX3_asks_64 : decode cX3_asks 64 = .ok (.iload 5, 2) := dk_21 5 (dk_at dksX3_asks_2 20 rfl rfl)
theorem dX3_asks_66 : decode cX3_asks 66 = .ok (.if_icmp .ne 23, 3) := dk_160 0 23 (dk_at dksX3_asks_3 0 rfl rfl)
theorem dX3_asks_69 : decode cX3_asks 69 = .ok (.aload_n 3, 1) := dk_45 (dk_at dksX3_asks_3 3 rfl rfl)
theorem dX3_asks_70 : decode cX3_asks 70 = .ok (.getfield 97, 3) := dk_180 0 97 (dk_at dksX3_asks_3 4 rfl rfl)
theorem dX3_asks_73 : decode cX3_asks 73 = .ok (.aload 4, 2) := dk_25 4 (dk_at dksX3_asks_3 7 rfl rfl)
theorem dX3_asks_75 : decode cX3_asks 75 = .ok (.getfield 62, 3) := dk_180 0 62 (dk_at dksX3_asks_3 9 rfl rfl)
theorem dX3_asks_78 : decode cX3_asks 78 = .ok (.isub, 1) := dk_100 (dk_at dksX3_asks_3 12 rfl rfl)
theorem dX3_asks_79 : decode cX3_asks 79 = .ok (.iload 5, 2) := dk_21 5 (dk_at dksX3_asks_3 13 rfl rfl)
theorem dX3_asks_81 : decode cX3_asks 81 = .ok (.imul, 1) := dk_104 (dk_at dksX3_asks_3 15 rfl rfl)
theorem dX3_asks_82 : decode cX3_asks 82 = .ok (.ifCond .lt 7, 3) := dk_155 0 7 (dk_at dksX3_asks_3 16 rfl rfl)
theorem dX3_asks_85 : decode cX3_asks 85 = .ok (.iconst 1, 1) := dk_4 (dk_at dksX3_asks_3 19 rfl rfl)
theorem dX3_asks_86 : decode cX3_asks 86 = .ok (.goto 4, 3) := dk_167 0 4 (dk_at dksX3_asks_3 20 rfl rfl)
theorem dX3_asks_89 : decode cX3_asks 89 = .ok (.iconst 0, 1) := dk_3 (dk_at dksX3_asks_3 23 rfl rfl)
theorem dX3_asks_90 : decode cX3_asks 90 = .ok (.iastore, 1) := dk_79 (dk_at dksX3_asks_4 0 rfl rfl)
theorem dX3_asks_91 : decode cX3_asks 91 = .ok (.aload_n 0, 1) := dk_42 (dk_at dksX3_asks_4 1 rfl rfl)
theorem dX3_asks_92 : decode cX3_asks 92 = .ok (.getfield 3, 3) := dk_180 0 3 (dk_at dksX3_asks_4 2 rfl rfl)
theorem dX3_asks_95 : decode cX3_asks 95 = .ok (.getfield 94, 3) := dk_180 0 94 (dk_at dksX3_asks_4 5 rfl rfl)
theorem dX3_asks_98 : decode cX3_asks 98 = .ok (.iconst 2, 1) := dk_5 (dk_at dksX3_asks_4 8 rfl rfl)
theorem dX3_asks_99 : decode cX3_asks 99 = .ok (.aload 4, 2) := dk_25 4 (dk_at dksX3_asks_4 9 rfl rfl)
theorem dX3_asks_101 : decode cX3_asks 101 = .ok (.getfield 64, 3) := dk_180 0 64 (dk_at dksX3_asks_4 11 rfl rfl)
theorem dX3_asks_104 : decode cX3_asks 104 = .ok (.ifCond .eq 17, 3) := dk_153 0 17 (dk_at dksX3_asks_4 14 rfl rfl)
theorem dX3_asks_107 : decode cX3_asks 107 = .ok (.aload 4, 2) := dk_25 4 (dk_at dksX3_asks_4 17 rfl rfl)
theorem dX3_asks_109 : decode cX3_asks 109 = .ok (.getfield 64, 3) := dk_180 0 64 (dk_at dksX3_asks_4 19 rfl rfl)
theorem dX3_asks_112 : decode cX3_asks 112 = .ok (.iload 5, 2) := dk_21 5 (dk_at dksX3_asks_4 22 rfl rfl)
theorem dX3_asks_114 : decode cX3_asks 114 = .ok (.if_icmp .eq 7, 3) := dk_159 0 7 (dk_at dksX3_asks_5 0 rfl rfl)
theorem dX3_asks_117 : decode cX3_asks 117 = .ok (.iconst 1, 1) := dk_4 (dk_at dksX3_asks_5 3 rfl rfl)
theorem dX3_asks_118 : decode cX3_asks 118 = .ok (.goto 4, 3) := dk_167 0 4 (dk_at dksX3_asks_5 4 rfl rfl)
theorem dX3_asks_121 : decode cX3_asks 121 = .ok (.iconst 0, 1) := dk_3 (dk_at dksX3_asks_5 7 rfl rfl)
theorem dX3_asks_122 : decode cX3_asks 122 = .ok (.iastore, 1) := dk_79 (dk_at dksX3_asks_5 8 rfl rfl)
theorem dX3_asks_123 : decode cX3_asks 123 = .ok (.aload_n 0, 1) := dk_42 (dk_at dksX3_asks_5 9 rfl rfl)
theorem dX3_asks_124 : decode cX3_asks 124 = .ok (.getfield 3, 3) := dk_180 0 3 (dk_at dksX3_asks_5 10 rfl rfl)
theorem dX3_asks_127 : decode cX3_asks 127 = .ok (.getfield 94, 3) := dk_180 0 94 (dk_at dksX3_asks_5 13 rfl rfl)
theorem dX3_asks_130 : decode cX3_asks 130 = .ok (.iconst 3, 1) := dk_6 (dk_at dksX3_asks_5 16 rfl rfl)
theorem dX3_asks_131 : decode cX3_asks 131 = .ok (.aload_n 0, 1) := dk_42 (dk_at dksX3_asks_5 17 rfl rfl)
theorem dX3_asks_132 : decode cX3_asks 132 = .ok (.iload_n 2, 1) := dk_28 (dk_at dksX3_asks_5 18 rfl rfl)
theorem dX3_asks_133 : decode cX3_asks 133 = .ok (.iconst 2, 1) := dk_5 (dk_at dksX3_asks_5 19 rfl rfl)
theorem dX3_asks_134 : decode cX3_asks 134 = .ok (.invokevirtual 106, 3) := dk_182 0 106 (dk_at dksX3_asks_5 20 rfl rfl)
theorem dX3_asks_137 : decode cX3_asks 137 = .ok (.iastore, 1) := dk_79 (dk_at dksX3_asks_5 23 rfl rfl)
theorem dX3_asks_138 : decode cX3_asks 138 = .ok (.aload_n 0, 1) := dk_42 (dk_at dksX3_asks_6 0 rfl rfl)
theorem dX3_asks_139 : decode cX3_asks 139 = .ok (.getfield 3, 3) := dk_180 0 3 (dk_at dksX3_asks_6 1 rfl rfl)
theorem dX3_asks_142 : decode cX3_asks 142 = .ok (.getfield 94, 3) := dk_180 0 94 (dk_at dksX3_asks_6 4 rfl rfl)
theorem dX3_asks_145 : decode cX3_asks 145 = .ok (.iconst 4, 1) := dk_7 (dk_at dksX3_asks_6 7 rfl rfl)
theorem dX3_asks_146 : decode cX3_asks 146 = .ok (.aload_n 0, 1) := dk_42 (dk_at dksX3_asks_6 8 rfl rfl)
theorem dX3_asks_147 : decode cX3_asks 147 = .ok (.iload_n 2, 1) := dk_28 (dk_at dksX3_asks_6 9 rfl rfl)
theorem dX3_asks_148 : decode cX3_asks 148 = .ok (.iconst 1, 1) := dk_4 (dk_at dksX3_asks_6 10 rfl rfl)
theorem dX3_asks_149 : decode cX3_asks 149 = .ok (.invokevirtual 106, 3) := dk_182 0 106 (dk_at dksX3_asks_6 11 rfl rfl)
theorem dX3_asks_152 : decode cX3_asks 152 = .ok (.iastore, 1) := dk_79 (dk_at dksX3_asks_6 14 rfl rfl)
theorem dX3_asks_153 : decode cX3_asks 153 = .ok (.aload_n 0, 1) := dk_42 (dk_at dksX3_asks_6 15 rfl rfl)
theorem dX3_asks_154 : decode cX3_asks 154 = .ok (.getfield 3, 3) := dk_180 0 3 (dk_at dksX3_asks_6 16 rfl rfl)
theorem dX3_asks_157 : decode cX3_asks 157 = .ok (.getfield 94, 3) := dk_180 0 94 (dk_at dksX3_asks_6 19 rfl rfl)
theorem dX3_asks_160 : decode cX3_asks 160 = .ok (.iconst 5, 1) := dk_8 (dk_at dksX3_asks_6 22 rfl rfl)
theorem dX3_asks_161 : decode cX3_asks 161 = .ok (.aload 4, 2) := dk_25 4 (dk_at dksX3_asks_7 0 rfl rfl)
theorem dX3_asks_163 : decode cX3_asks 163 = .ok (.getfield 67, 3) := dk_180 0 67 (dk_at dksX3_asks_7 2 rfl rfl)
theorem dX3_asks_166 : decode cX3_asks 166 = .ok (.ifCond .ne 7, 3) := dk_154 0 7 (dk_at dksX3_asks_7 5 rfl rfl)
theorem dX3_asks_169 : decode cX3_asks 169 = .ok (.iconst 1, 1) := dk_4 (dk_at dksX3_asks_7 8 rfl rfl)
theorem dX3_asks_170 : decode cX3_asks 170 = .ok (.goto 4, 3) := dk_167 0 4 (dk_at dksX3_asks_7 9 rfl rfl)
theorem dX3_asks_173 : decode cX3_asks 173 = .ok (.iconst 0, 1) := dk_3 (dk_at dksX3_asks_7 12 rfl rfl)
theorem dX3_asks_174 : decode cX3_asks 174 = .ok (.iastore, 1) := dk_79 (dk_at dksX3_asks_7 13 rfl rfl)
theorem dX3_asks_175 : decode cX3_asks 175 = .ok (.aload_n 0, 1) := dk_42 (dk_at dksX3_asks_7 14 rfl rfl)
theorem dX3_asks_176 : decode cX3_asks 176 = .ok (.getfield 3, 3) := dk_180 0 3 (dk_at dksX3_asks_7 15 rfl rfl)
theorem dX3_asks_179 : decode cX3_asks 179 = .ok (.getfield 94, 3) := dk_180 0 94 (dk_at dksX3_asks_7 18 rfl rfl)
theorem dX3_asks_182 : decode cX3_asks 182 = .ok (.bipush 6, 2) := dk_16 6 (dk_at dksX3_asks_7 21 rfl rfl)
theorem dX3_asks_184 : decode cX3_asks 184 = .ok (.iload 5, 2) := dk_21 5 (dk_at dksX3_asks_8 0 rfl rfl)
theorem dX3_asks_186 : decode cX3_asks 186 = .ok (.iconst 1, 1) := dk_4 (dk_at dksX3_asks_8 2 rfl rfl)
theorem dX3_asks_187 : decode cX3_asks 187 = .ok (.if_icmp .ne 7, 3) := dk_160 0 7 (dk_at dksX3_asks_8 3 rfl rfl)
theorem dX3_asks_190 : decode cX3_asks 190 = .ok (.iconst 1, 1) := dk_4 (dk_at dksX3_asks_8 6 rfl rfl)
theorem dX3_asks_191 : decode cX3_asks 191 = .ok (.goto 4, 3) := dk_167 0 4 (dk_at dksX3_asks_8 7 rfl rfl)
theorem dX3_asks_194 : decode cX3_asks 194 = .ok (.iconst 0, 1) := dk_3 (dk_at dksX3_asks_8 10 rfl rfl)
theorem dX3_asks_195 : decode cX3_asks 195 = .ok (.iastore, 1) := dk_79 (dk_at dksX3_asks_8 11 rfl rfl)
theorem dX3_asks_196 : decode cX3_asks 196 = .ok (.aload_n 0, 1) := dk_42 (dk_at dksX3_asks_8 12 rfl rfl)
theorem dX3_asks_197 : decode cX3_asks 197 = .ok (.getfield 3, 3) := dk_180 0 3 (dk_at dksX3_asks_8 13 rfl rfl)
theorem dX3_asks_200 : decode cX3_asks 200 = .ok (.getfield 94, 3) := dk_180 0 94 (dk_at dksX3_asks_8 16 rfl rfl)
theorem dX3_asks_203 : decode cX3_asks 203 = .ok (.bipush 7, 2) := dk_16 7 (dk_at dksX3_asks_8 19 rfl rfl)
theorem dX3_asks_205 : decode cX3_asks 205 = .ok (.aload_n 3, 1) := dk_45 (dk_at dksX3_asks_8 21 rfl rfl)
theorem dX3_asks_206 : decode cX3_asks 206 = .ok (.getfield 97, 3) := dk_180 0 97 (dk_at dksX3_asks_9 0 rfl rfl)
theorem dX3_asks_209 : decode cX3_asks 209 = .ok (.iastore, 1) := dk_79 (dk_at dksX3_asks_9 3 rfl rfl)
theorem dX3_asks_210 : decode cX3_asks 210 = .ok (.aload_n 0, 1) := dk_42 (dk_at dksX3_asks_9 4 rfl rfl)
theorem dX3_asks_211 : decode cX3_asks 211 = .ok (.getfield 3, 3) := dk_180 0 3 (dk_at dksX3_asks_9 5 rfl rfl)
theorem dX3_asks_214 : decode cX3_asks 214 = .ok (.getfield 94, 3) := dk_180 0 94 (dk_at dksX3_asks_9 8 rfl rfl)
theorem dX3_asks_217 : decode cX3_asks 217 = .ok (.bipush 8, 2) := dk_16 8 (dk_at dksX3_asks_9 11 rfl rfl)
theorem dX3_asks_219 : decode cX3_asks 219 = .ok (.aload_n 0, 1) := dk_42 (dk_at dksX3_asks_9 13 rfl rfl)
theorem dX3_asks_220 : decode cX3_asks 220 = .ok (.getfield 36, 3) := dk_180 0 36 (dk_at dksX3_asks_9 14 rfl rfl)
theorem dX3_asks_223 : decode cX3_asks 223 = .ok (.aload_n 3, 1) := dk_45 (dk_at dksX3_asks_9 17 rfl rfl)
theorem dX3_asks_224 : decode cX3_asks 224 = .ok (.getfield 110, 3) := dk_180 0 110 (dk_at dksX3_asks_9 18 rfl rfl)
theorem dX3_asks_227 : decode cX3_asks 227 = .ok (.isub, 1) := dk_100 (dk_at dksX3_asks_9 21 rfl rfl)
theorem dX3_asks_228 : decode cX3_asks 228 = .ok (.iastore, 1) := dk_79 (dk_at dksX3_asks_9 22 rfl rfl)
theorem dX3_asks_229 : decode cX3_asks 229 = .ok (.aload_n 0, 1) := dk_42 (dk_at dksX3_asks_9 23 rfl rfl)
theorem dX3_asks_230 : decode cX3_asks 230 = .ok (.getfield 3, 3) := dk_180 0 3 (dk_at dksX3_asks_10 0 rfl rfl)
theorem dX3_asks_233 : decode cX3_asks 233 = .ok (.getfield 94, 3) := dk_180 0 94 (dk_at dksX3_asks_10 3 rfl rfl)
theorem dX3_asks_236 : decode cX3_asks 236 = .ok (.bipush 9, 2) := dk_16 9 (dk_at dksX3_asks_10 6 rfl rfl)
theorem dX3_asks_238 : decode cX3_asks 238 = .ok (.iload_n 2, 1) := dk_28 (dk_at dksX3_asks_10 8 rfl rfl)
theorem dX3_asks_239 : decode cX3_asks 239 = .ok (.iastore, 1) := dk_79 (dk_at dksX3_asks_10 9 rfl rfl)
theorem dX3_asks_240 : decode cX3_asks 240 = .ok (.return_, 1) := dk_177 (dk_at dksX3_asks_10 10 rfl rfl)
abbrev cX3_inCar : ByteArray := prog_11_method_4_code
def yX3_inCar : MethodName := ⟨RX3, "inCar", "(II)I"⟩
def dkwX3_inCar_2 : List UInt8 := [167, 0, 4, 3, 96, 62, 132, 4, 1, 167, 255, 208, 29, 172]
abbrev dktX3_inCar_2 : List UInt8 := dkwX3_inCar_2 ++ []
def dkwX3_inCar_1 : List UInt8 := [180, 0, 87, 27, 160, 0, 21, 42, 180, 0, 17, 21, 4, 50, 180, 0, 90, 28, 160, 0, 7, 4]
abbrev dktX3_inCar_1 : List UInt8 := dkwX3_inCar_1 ++ dktX3_inCar_2
def dkwX3_inCar_0 : List UInt8 := [3, 62, 3, 54, 4, 21, 4, 42, 180, 0, 33, 162, 0, 45, 29, 42, 180, 0, 17, 21, 4, 50]
abbrev dktX3_inCar_0 : List UInt8 := dkwX3_inCar_0 ++ dktX3_inCar_1
theorem dksX3_inCar_0 : cX3_inCar.data.toList.drop 0 = dktX3_inCar_0 := by decide +kernel
theorem dksX3_inCar_1 : cX3_inCar.data.toList.drop 22 = dktX3_inCar_1 := dk_seg dksX3_inCar_0 22 rfl rfl
theorem dksX3_inCar_2 : cX3_inCar.data.toList.drop 44 = dktX3_inCar_2 := dk_seg dksX3_inCar_1 22 rfl rfl
theorem dX3_inCar_0 : decode cX3_inCar 0 = .ok (.iconst 0, 1) := dk_3 (dk_at dksX3_inCar_0 0 rfl rfl)
theorem dX3_inCar_1 : decode cX3_inCar 1 = .ok (.istore_n 3, 1) := dk_62 (dk_at dksX3_inCar_0 1 rfl rfl)
theorem dX3_inCar_2 : decode cX3_inCar 2 = .ok (.iconst 0, 1) := dk_3 (dk_at dksX3_inCar_0 2 rfl rfl)
theorem dX3_inCar_3 : decode cX3_inCar 3 = .ok (.istore 4, 2) := dk_54 4 (dk_at dksX3_inCar_0 3 rfl rfl)
theorem dX3_inCar_5 : decode cX3_inCar 5 = .ok (.iload 4, 2) := dk_21 4 (dk_at dksX3_inCar_0 5 rfl rfl)
theorem dX3_inCar_7 : decode cX3_inCar 7 = .ok (.aload_n 0, 1) := dk_42 (dk_at dksX3_inCar_0 7 rfl rfl)
theorem dX3_inCar_8 : decode cX3_inCar 8 = .ok (.getfield 33, 3) := dk_180 0 33 (dk_at dksX3_inCar_0 8 rfl rfl)
theorem dX3_inCar_11 : decode cX3_inCar 11 = .ok (.if_icmp .ge 45, 3) := dk_162 0 45 (dk_at dksX3_inCar_0 11 rfl rfl)
theorem dX3_inCar_14 : decode cX3_inCar 14 = .ok (.iload_n 3, 1) := dk_29 (dk_at dksX3_inCar_0 14 rfl rfl)
theorem dX3_inCar_15 : decode cX3_inCar 15 = .ok (.aload_n 0, 1) := dk_42 (dk_at dksX3_inCar_0 15 rfl rfl)
theorem dX3_inCar_16 : decode cX3_inCar 16 = .ok (.getfield 17, 3) := dk_180 0 17 (dk_at dksX3_inCar_0 16 rfl rfl)
theorem dX3_inCar_19 : decode cX3_inCar 19 = .ok (.iload 4, 2) := dk_21 4 (dk_at dksX3_inCar_0 19 rfl rfl)
theorem dX3_inCar_21 : decode cX3_inCar 21 = .ok (.aaload, 1) := dk_50 (dk_at dksX3_inCar_0 21 rfl rfl)
theorem dX3_inCar_22 : decode cX3_inCar 22 = .ok (.getfield 87, 3) := dk_180 0 87 (dk_at dksX3_inCar_1 0 rfl rfl)
theorem dX3_inCar_25 : decode cX3_inCar 25 = .ok (.iload_n 1, 1) := dk_27 (dk_at dksX3_inCar_1 3 rfl rfl)
theorem dX3_inCar_26 : decode cX3_inCar 26 = .ok (.if_icmp .ne 21, 3) := dk_160 0 21 (dk_at dksX3_inCar_1 4 rfl rfl)
theorem dX3_inCar_29 : decode cX3_inCar 29 = .ok (.aload_n 0, 1) := dk_42 (dk_at dksX3_inCar_1 7 rfl rfl)
theorem dX3_inCar_30 : decode cX3_inCar 30 = .ok (.getfield 17, 3) := dk_180 0 17 (dk_at dksX3_inCar_1 8 rfl rfl)
theorem dX3_inCar_33 : decode cX3_inCar 33 = .ok (.iload 4, 2) := dk_21 4 (dk_at dksX3_inCar_1 11 rfl rfl)
theorem dX3_inCar_35 : decode cX3_inCar 35 = .ok (.aaload, 1) := dk_50 (dk_at dksX3_inCar_1 13 rfl rfl)
theorem dX3_inCar_36 : decode cX3_inCar 36 = .ok (.getfield 90, 3) := dk_180 0 90 (dk_at dksX3_inCar_1 14 rfl rfl)
theorem dX3_inCar_39 : decode cX3_inCar 39 = .ok (.iload_n 2, 1) := dk_28 (dk_at dksX3_inCar_1 17 rfl rfl)
theorem dX3_inCar_40 : decode cX3_inCar 40 = .ok (.if_icmp .ne 7, 3) := dk_160 0 7 (dk_at dksX3_inCar_1 18 rfl rfl)
theorem dX3_inCar_43 : decode cX3_inCar 43 = .ok (.iconst 1, 1) := dk_4 (dk_at dksX3_inCar_1 21 rfl rfl)
theorem dX3_inCar_44 : decode cX3_inCar 44 = .ok (.goto 4, 3) := dk_167 0 4 (dk_at dksX3_inCar_2 0 rfl rfl)
theorem dX3_inCar_47 : decode cX3_inCar 47 = .ok (.iconst 0, 1) := dk_3 (dk_at dksX3_inCar_2 3 rfl rfl)
theorem dX3_inCar_48 : decode cX3_inCar 48 = .ok (.iadd, 1) := dk_96 (dk_at dksX3_inCar_2 4 rfl rfl)
theorem dX3_inCar_49 : decode cX3_inCar 49 = .ok (.istore_n 3, 1) := dk_62 (dk_at dksX3_inCar_2 5 rfl rfl)
theorem dX3_inCar_50 : decode cX3_inCar 50 = .ok (.iinc 4 1, 3) := dk_132 4 1 (dk_at dksX3_inCar_2 6 rfl rfl)
theorem dX3_inCar_53 : decode cX3_inCar 53 = .ok (.goto (-48), 3) := dk_167 255 208 (dk_at dksX3_inCar_2 9 rfl rfl)
theorem dX3_inCar_56 : decode cX3_inCar 56 = .ok (.iload_n 3, 1) := dk_29 (dk_at dksX3_inCar_2 12 rfl rfl)
theorem dX3_inCar_57 : decode cX3_inCar 57 = .ok (.ireturn, 1) := dk_172 (dk_at dksX3_inCar_2 13 rfl rfl)
abbrev cX3_carGoes : ByteArray := prog_11_method_17_code
def yX3_carGoes : MethodName := ⟨RX3, "carGoes", "(I)V"⟩
def dkwX3_carGoes_2 : List UInt8 := [44, 89, 180, 0, 62, 44, 180, 0, 64, 96, 181, 0, 62, 42, 27, 182, 0, 225, 177]
abbrev dktX3_carGoes_2 : List UInt8 := dkwX3_carGoes_2 ++ []
def dkwX3_carGoes_1 : List UInt8 := [180, 0, 70, 4, 100, 181, 0, 70, 44, 180, 0, 70, 158, 0, 4, 177, 44, 180, 0, 67, 4, 160, 0, 16]
abbrev dktX3_carGoes_1 : List UInt8 := dkwX3_carGoes_1 ++ dktX3_carGoes_2
def dkwX3_carGoes_0 : List UInt8 := [42, 180, 0, 23, 27, 50, 77, 44, 180, 0, 76, 153, 0, 4, 177, 44, 180, 0, 67, 153, 0, 42, 44, 89]
abbrev dktX3_carGoes_0 : List UInt8 := dkwX3_carGoes_0 ++ dktX3_carGoes_1
theorem dksX3_carGoes_0 : cX3_carGoes.data.toList.drop 0 = dktX3_carGoes_0 := by decide +kernel
theorem dksX3_carGoes_1 : cX3_carGoes.data.toList.drop 24 = dktX3_carGoes_1 := dk_seg dksX3_carGoes_0 24 rfl rfl
theorem dksX3_carGoes_2 : cX3_carGoes.data.toList.drop 48 = dktX3_carGoes_2 := dk_seg dksX3_carGoes_1 24 rfl rfl
theorem dX3_carGoes_0 : decode cX3_carGoes 0 = .ok (.aload_n 0, 1) := dk_42 (dk_at dksX3_carGoes_0 0 rfl rfl)
theorem dX3_carGoes_1 : decode cX3_carGoes 1 = .ok (.getfield 23, 3) := dk_180 0 23 (dk_at dksX3_carGoes_0 1 rfl rfl)
theorem dX3_carGoes_4 : decode cX3_carGoes 4 = .ok (.iload_n 1, 1) := dk_27 (dk_at dksX3_carGoes_0 4 rfl rfl)
theorem dX3_carGoes_5 : decode cX3_carGoes 5 = .ok (.aaload, 1) := dk_50 (dk_at dksX3_carGoes_0 5 rfl rfl)
theorem dX3_carGoes_6 : decode cX3_carGoes 6 = .ok (.astore_n 2, 1) := dk_77 (dk_at dksX3_carGoes_0 6 rfl rfl)
theorem dX3_carGoes_7 : decode cX3_carGoes 7 = .ok (.aload_n 2, 1) := dk_44 (dk_at dksX3_carGoes_0 7 rfl rfl)
theorem dX3_carGoes_8 : decode cX3_carGoes 8 = .ok (.getfield 76, 3) := dk_180 0 76 (dk_at dksX3_carGoes_0 8 rfl rfl)
theorem dX3_carGoes_11 : decode cX3_carGoes 11 = .ok (.ifCond .eq 4, 3) := dk_153 0 4 (dk_at dksX3_carGoes_0 11 rfl rfl)
theorem dX3_carGoes_14 : decode cX3_carGoes 14 = .ok (.return_, 1) := dk_177 (dk_at dksX3_carGoes_0 14 rfl rfl)
theorem dX3_carGoes_15 : decode cX3_carGoes 15 = .ok (.aload_n 2, 1) := dk_44 (dk_at dksX3_carGoes_0 15 rfl rfl)
theorem dX3_carGoes_16 : decode cX3_carGoes 16 = .ok (.getfield 67, 3) := dk_180 0 67 (dk_at dksX3_carGoes_0 16 rfl rfl)
theorem dX3_carGoes_19 : decode cX3_carGoes 19 = .ok (.ifCond .eq 42, 3) := dk_153 0 42 (dk_at dksX3_carGoes_0 19 rfl rfl)
theorem dX3_carGoes_22 : decode cX3_carGoes 22 = .ok (.aload_n 2, 1) := dk_44 (dk_at dksX3_carGoes_0 22 rfl rfl)
theorem dX3_carGoes_23 : decode cX3_carGoes 23 = .ok (.dup, 1) := dk_89 (dk_at dksX3_carGoes_0 23 rfl rfl)
theorem dX3_carGoes_24 : decode cX3_carGoes 24 = .ok (.getfield 70, 3) := dk_180 0 70 (dk_at dksX3_carGoes_1 0 rfl rfl)
theorem dX3_carGoes_27 : decode cX3_carGoes 27 = .ok (.iconst 1, 1) := dk_4 (dk_at dksX3_carGoes_1 3 rfl rfl)
theorem dX3_carGoes_28 : decode cX3_carGoes 28 = .ok (.isub, 1) := dk_100 (dk_at dksX3_carGoes_1 4 rfl rfl)
theorem dX3_carGoes_29 : decode cX3_carGoes 29 = .ok (.putfield 70, 3) := dk_181 0 70 (dk_at dksX3_carGoes_1 5 rfl rfl)
theorem dX3_carGoes_32 : decode cX3_carGoes 32 = .ok (.aload_n 2, 1) := dk_44 (dk_at dksX3_carGoes_1 8 rfl rfl)
theorem dX3_carGoes_33 : decode cX3_carGoes 33 = .ok (.getfield 70, 3) := dk_180 0 70 (dk_at dksX3_carGoes_1 9 rfl rfl)
theorem dX3_carGoes_36 : decode cX3_carGoes 36 = .ok (.ifCond .le 4, 3) := dk_158 0 4 (dk_at dksX3_carGoes_1 12 rfl rfl)
theorem dX3_carGoes_39 : decode cX3_carGoes 39 = .ok (.return_, 1) := dk_177 (dk_at dksX3_carGoes_1 15 rfl rfl)
theorem dX3_carGoes_40 : decode cX3_carGoes 40 = .ok (.aload_n 2, 1) := dk_44 (dk_at dksX3_carGoes_1 16 rfl rfl)
theorem dX3_carGoes_41 : decode cX3_carGoes 41 = .ok (.getfield 67, 3) := dk_180 0 67 (dk_at dksX3_carGoes_1 17 rfl rfl)
theorem dX3_carGoes_44 : decode cX3_carGoes 44 = .ok (.iconst 1, 1) := dk_4 (dk_at dksX3_carGoes_1 20 rfl rfl)
theorem dX3_carGoes_45 : decode cX3_carGoes 45 = .ok (.if_icmp .ne 16, 3) := dk_160 0 16 (dk_at dksX3_carGoes_1 21 rfl rfl)
theorem dX3_carGoes_48 : decode cX3_carGoes 48 = .ok (.aload_n 2, 1) := dk_44 (dk_at dksX3_carGoes_2 0 rfl rfl)
theorem dX3_carGoes_49 : decode cX3_carGoes 49 = .ok (.dup, 1) := dk_89 (dk_at dksX3_carGoes_2 1 rfl rfl)
theorem dX3_carGoes_50 : decode cX3_carGoes 50 = .ok (.getfield 62, 3) := dk_180 0 62 (dk_at dksX3_carGoes_2 2 rfl rfl)
theorem dX3_carGoes_53 : decode cX3_carGoes 53 = .ok (.aload_n 2, 1) := dk_44 (dk_at dksX3_carGoes_2 5 rfl rfl)
theorem dX3_carGoes_54 : decode cX3_carGoes 54 = .ok (.getfield 64, 3) := dk_180 0 64 (dk_at dksX3_carGoes_2 6 rfl rfl)
theorem dX3_carGoes_57 : decode cX3_carGoes 57 = .ok (.iadd, 1) := dk_96 (dk_at dksX3_carGoes_2 9 rfl rfl)
theorem dX3_carGoes_58 : decode cX3_carGoes 58 = .ok (.putfield 62, 3) := dk_181 0 62 (dk_at dksX3_carGoes_2 10 rfl rfl)
theorem dX3_carGoes_61 : decode cX3_carGoes 61 = .ok (.aload_n 0, 1) := dk_42 (dk_at dksX3_carGoes_2 13 rfl rfl)
theorem dX3_carGoes_62 : decode cX3_carGoes 62 = .ok (.iload_n 1, 1) := dk_27 (dk_at dksX3_carGoes_2 14 rfl rfl)
theorem dX3_carGoes_63 : decode cX3_carGoes 63 = .ok (.invokevirtual 225, 3) := dk_182 0 225 (dk_at dksX3_carGoes_2 15 rfl rfl)
theorem dX3_carGoes_66 : decode cX3_carGoes 66 = .ok (.return_, 1) := dk_177 (dk_at dksX3_carGoes_2 18 rfl rfl)
abbrev cX3_looks : ByteArray := prog_11_method_16_code
def yX3_looks : MethodName := ⟨RX3, "looks", "(I)V"⟩
def dkwX3_looks_7 : List UInt8 := [167, 0, 4, 3, 181, 0, 70, 177]
abbrev dktX3_looks_7 : List UInt8 := dkwX3_looks_7 ++ []
def dkwX3_looks_6 : List UInt8 := [167, 0, 27, 44, 180, 0, 67, 4, 160, 0, 18, 42, 180, 0, 3, 180, 0, 53, 180, 0, 222, 27, 46]
abbrev dktX3_looks_6 : List UInt8 := dkwX3_looks_6 ++ dktX3_looks_7
def dkwX3_looks_5 : List UInt8 := [180, 0, 53, 180, 0, 216, 27, 46, 42, 180, 0, 3, 180, 0, 53, 180, 0, 219, 27, 46, 29, 104, 96]
abbrev dktX3_looks_5 : List UInt8 := dkwX3_looks_5 ++ dktX3_looks_6
def dkwX3_looks_4 : List UInt8 := [153, 0, 7, 4, 167, 0, 4, 3, 181, 0, 67, 44, 44, 180, 0, 67, 5, 160, 0, 33, 42, 180, 0, 3]
abbrev dktX3_looks_4 : List UInt8 := dkwX3_looks_4 ++ dktX3_looks_5
def dkwX3_looks_3 : List UInt8 := [182, 0, 213, 96, 62, 44, 29, 157, 0, 8, 21, 4, 153, 0, 7, 5, 167, 0, 15, 44, 180, 0, 64]
abbrev dktX3_looks_3 : List UInt8 := dkwX3_looks_3 ++ dktX3_looks_4
def dkwX3_looks_2 : List UInt8 := [153, 0, 11, 42, 44, 182, 0, 206, 154, 0, 12, 44, 42, 27, 182, 0, 210, 181, 0, 64, 29, 42, 27]
abbrev dktX3_looks_2 : List UInt8 := dkwX3_looks_2 ++ dktX3_looks_3
def dkwX3_looks_1 : List UInt8 := [21, 4, 153, 0, 11, 44, 44, 180, 0, 62, 182, 0, 197, 42, 27, 182, 0, 203, 44, 180, 0, 64]
abbrev dktX3_looks_1 : List UInt8 := dkwX3_looks_1 ++ dktX3_looks_2
def dkwX3_looks_0 : List UInt8 := [42, 180, 0, 23, 27, 50, 77, 42, 27, 182, 0, 200, 62, 44, 44, 180, 0, 62, 182, 0, 194, 54, 4]
abbrev dktX3_looks_0 : List UInt8 := dkwX3_looks_0 ++ dktX3_looks_1
theorem dksX3_looks_0 : cX3_looks.data.toList.drop 0 = dktX3_looks_0 := by decide +kernel
theorem dksX3_looks_1 : cX3_looks.data.toList.drop 23 = dktX3_looks_1 := dk_seg dksX3_looks_0 23 rfl rfl
theorem dksX3_looks_2 : cX3_looks.data.toList.drop 45 = dktX3_looks_2 := dk_seg dksX3_looks_1 22 rfl rfl
theorem dksX3_looks_3 : cX3_looks.data.toList.drop 68 = dktX3_looks_3 := dk_seg dksX3_looks_2 23 rfl rfl
theorem dksX3_looks_4 : cX3_looks.data.toList.drop 91 = dktX3_looks_4 := dk_seg dksX3_looks_3 23 rfl rfl
theorem dksX3_looks_5 : cX3_looks.data.toList.drop 115 = dktX3_looks_5 := dk_seg dksX3_looks_4 24 rfl rfl
theorem dksX3_looks_6 : cX3_looks.data.toList.drop 138 = dktX3_looks_6 := dk_seg dksX3_looks_5 23 rfl rfl
theorem dksX3_looks_7 : cX3_looks.data.toList.drop 161 = dktX3_looks_7 := dk_seg dksX3_looks_6 23 rfl rfl
theorem dX3_looks_0 : decode cX3_looks 0 = .ok (.aload_n 0, 1) := dk_42 (dk_at dksX3_looks_0 0 rfl rfl)
theorem dX3_looks_1 : decode cX3_looks 1 = .ok (.getfield 23, 3) := dk_180 0 23 (dk_at dksX3_looks_0 1 rfl rfl)
theorem dX3_looks_4 : decode cX3_looks 4 = .ok (.iload_n 1, 1) := dk_27 (dk_at dksX3_looks_0 4 rfl rfl)
theorem dX3_looks_5 : decode cX3_looks 5 = .ok (.aaload, 1) := dk_50 (dk_at dksX3_looks_0 5 rfl rfl)
theorem dX3_looks_6 : decode cX3_looks 6 = .ok (.astore_n 2, 1) := dk_77 (dk_at dksX3_looks_0 6 rfl rfl)
theorem dX3_looks_7 : decode cX3_looks 7 = .ok (.aload_n 0, 1) := dk_42 (dk_at dksX3_looks_0 7 rfl rfl)
theorem dX3_looks_8 : decode cX3_looks 8 = .ok (.iload_n 1, 1) := dk_27 (dk_at dksX3_looks_0 8 rfl rfl)
theorem dX3_looks_9 : decode cX3_looks 9 = .ok (.invokevirtual 200, 3) := dk_182 0 200 (dk_at dksX3_looks_0 9 rfl rfl)
theorem dX3_looks_12 : decode cX3_looks 12 = .ok (.istore_n 3, 1) := dk_62 (dk_at dksX3_looks_0 12 rfl rfl)
theorem dX3_looks_13 : decode cX3_looks 13 = .ok (.aload_n 2, 1) := dk_44 (dk_at dksX3_looks_0 13 rfl rfl)
theorem dX3_looks_14 : decode cX3_looks 14 = .ok (.aload_n 2, 1) := dk_44 (dk_at dksX3_looks_0 14 rfl rfl)
theorem dX3_looks_15 : decode cX3_looks 15 = .ok (.getfield 62, 3) := dk_180 0 62 (dk_at dksX3_looks_0 15 rfl rfl)
theorem dX3_looks_18 : decode cX3_looks 18 = .ok (.invokevirtual 194, 3) := dk_182 0 194 (dk_at dksX3_looks_0 18 rfl rfl)
theorem dX3_looks_21 : decode cX3_looks 21 = .ok (.istore 4, 2) := dk_54 4 (dk_at dksX3_looks_0 21 rfl rfl)
theorem dX3_looks_23 : decode cX3_looks 23 = .ok (.iload 4, 2) := dk_21 4 (dk_at dksX3_looks_1 0 rfl rfl)
theorem dX3_looks_25 : decode cX3_looks 25 = .ok (.ifCond .eq 11, 3) := dk_153 0 11 (dk_at dksX3_looks_1 2 rfl rfl)
theorem dX3_looks_28 : decode cX3_looks 28 = .ok (.aload_n 2, 1) := dk_44 (dk_at dksX3_looks_1 5 rfl rfl)
theorem dX3_looks_29 : decode cX3_looks 29 = .ok (.aload_n 2, 1) := dk_44 (dk_at dksX3_looks_1 6 rfl rfl)
theorem dX3_looks_30 : decode cX3_looks 30 = .ok (.getfield 62, 3) := dk_180 0 62 (dk_at dksX3_looks_1 7 rfl rfl)
theorem dX3_looks_33 : decode cX3_looks 33 = .ok (.invokevirtual 197, 3) := dk_182 0 197 (dk_at dksX3_looks_1 10 rfl rfl)
theorem dX3_looks_36 : decode cX3_looks 36 = .ok (.aload_n 0, 1) := dk_42 (dk_at dksX3_looks_1 13 rfl rfl)
theorem dX3_looks_37 : decode cX3_looks 37 = .ok (.iload_n 1, 1) := dk_27 (dk_at dksX3_looks_1 14 rfl rfl)
theorem dX3_looks_38 : decode cX3_looks 38 = .ok (.invokevirtual 203, 3) := dk_182 0 203 (dk_at dksX3_looks_1 15 rfl rfl)
theorem dX3_looks_41 : decode cX3_looks 41 = .ok (.aload_n 2, 1) := dk_44 (dk_at dksX3_looks_1 18 rfl rfl)
theorem dX3_looks_42 : decode cX3_looks 42 = .ok (.getfield 64, 3) := dk_180 0 64 (dk_at dksX3_looks_1 19 rfl rfl)
theorem dX3_looks_45 : decode cX3_looks 45 = .ok (.ifCond .eq 11, 3) := dk_153 0 11 (dk_at dksX3_looks_2 0 rfl rfl)
theorem dX3_looks_48 : decode cX3_looks 48 = .ok (.aload_n 0, 1) := dk_42 (dk_at dksX3_looks_2 3 rfl rfl)
theorem dX3_looks_49 : decode cX3_looks 49 = .ok (.aload_n 2, 1) := dk_44 (dk_at dksX3_looks_2 4 rfl rfl)
theorem dX3_looks_50 : decode cX3_looks 50 = .ok (.invokevirtual 206, 3) := dk_182 0 206 (dk_at dksX3_looks_2 5 rfl rfl)
theorem dX3_looks_53 : decode cX3_looks 53 = .ok (.ifCond .ne 12, 3) := dk_154 0 12 (dk_at dksX3_looks_2 8 rfl rfl)
theorem dX3_looks_56 : decode cX3_looks 56 = .ok (.aload_n 2, 1) := dk_44 (dk_at dksX3_looks_2 11 rfl rfl)
theorem dX3_looks_57 : decode cX3_looks 57 = .ok (.aload_n 0, 1) := dk_42 (dk_at dksX3_looks_2 12 rfl rfl)
theorem dX3_looks_58 : decode cX3_looks 58 = .ok (.iload_n 1, 1) := dk_27 (dk_at dksX3_looks_2 13 rfl rfl)
theorem dX3_looks_59 : decode cX3_looks 59 = .ok (.invokevirtual 210, 3) := dk_182 0 210 (dk_at dksX3_looks_2 14 rfl rfl)
theorem dX3_looks_62 : decode cX3_looks 62 = .ok (.putfield 64, 3) := dk_181 0 64 (dk_at dksX3_looks_2 17 rfl rfl)
theorem dX3_looks_65 : decode cX3_looks 65 = .ok (.iload_n 3, 1) := dk_29 (dk_at dksX3_looks_2 20 rfl rfl)
theorem dX3_looks_66 : decode cX3_looks 66 = .ok (.aload_n 0, 1) := dk_42 (dk_at dksX3_looks_2 21 rfl rfl)
theorem dX3_looks_67 : decode cX3_looks 67 = .ok (.iload_n 1, 1) := dk_27 (dk_at dksX3_looks_2 22 rfl rfl)
theorem dX3_looks_68 : decode cX3_looks 68 = .ok (.invokevirtual 213, 3) := dk_182 0 213 (dk_at dksX3_looks_3 0 rfl rfl)
theorem dX3_looks_71 : decode cX3_looks 71 = .ok (.iadd, 1) := dk_96 (dk_at dksX3_looks_3 3 rfl rfl)
theorem dX3_looks_72 : decode cX3_looks 72 = .ok (.istore_n 3, 1) := dk_62 (dk_at dksX3_looks_3 4 rfl rfl)
theorem dX3_looks_73 : decode cX3_looks 73 = .ok (.aload_n 2, 1) := dk_44 (dk_at dksX3_looks_3 5 rfl rfl)
theorem dX3_looks_74 : decode cX3_looks 74 = .ok (.iload_n 3, 1) := dk_29 (dk_at dksX3_looks_3 6 rfl rfl)
theorem dX3_looks_75 : decode cX3_looks 75 = .ok (.ifCond .gt 8, 3) := dk_157 0 8 (dk_at dksX3_looks_3 7 rfl rfl)
