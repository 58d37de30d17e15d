set_option maxRecDepth 100000
theorem dX6_aLine_136 : decode cX6_aLine 136 = .ok (.aload_n 0, 1) := dk_42 (dk_at dksX6_aLine_5 18 rfl rfl)
theorem dX6_aLine_137 : decode cX6_aLine 137 = .ok (.invokevirtual 196, 3) := dk_182 0 196 (dk_at dksX6_aLine_5 19 rfl rfl)
theorem dX6_aLine_140 : decode cX6_aLine 140 = .ok (.ifCond .ne 5, 3) := dk_154 0 5 (dk_at dksX6_aLine_6 0 rfl rfl)
theorem dX6_aLine_143 : decode cX6_aLine 143 = .ok (.iconst 0, 1) := dk_3 (dk_at dksX6_aLine_6 3 rfl rfl)
theorem dX6_aLine_144 : decode cX6_aLine 144 = .ok (.ireturn, 1) := dk_172 (dk_at dksX6_aLine_6 4 rfl rfl)
theorem dX6_aLine_145 : decode cX6_aLine 145 = .ok (.aload_n 0, 1) := dk_42 (dk_at dksX6_aLine_6 5 rfl rfl)
theorem dX6_aLine_146 : decode cX6_aLine 146 = .ok (.getfield 19, 3) := dk_180 0 19 (dk_at dksX6_aLine_6 6 rfl rfl)
theorem dX6_aLine_149 : decode cX6_aLine 149 = .ok (.iconst 4, 1) := dk_7 (dk_at dksX6_aLine_6 9 rfl rfl)
theorem dX6_aLine_150 : decode cX6_aLine 150 = .ok (.aload_n 0, 1) := dk_42 (dk_at dksX6_aLine_6 10 rfl rfl)
theorem dX6_aLine_151 : decode cX6_aLine 151 = .ok (.getfield 205, 3) := dk_180 0 205 (dk_at dksX6_aLine_6 11 rfl rfl)
theorem dX6_aLine_154 : decode cX6_aLine 154 = .ok (.imul, 1) := dk_104 (dk_at dksX6_aLine_6 14 rfl rfl)
theorem dX6_aLine_155 : decode cX6_aLine 155 = .ok (.iconst 3, 1) := dk_6 (dk_at dksX6_aLine_6 15 rfl rfl)
theorem dX6_aLine_156 : decode cX6_aLine 156 = .ok (.iadd, 1) := dk_96 (dk_at dksX6_aLine_6 16 rfl rfl)
theorem dX6_aLine_157 : decode cX6_aLine 157 = .ok (.aload_n 0, 1) := dk_42 (dk_at dksX6_aLine_6 17 rfl rfl)
theorem dX6_aLine_158 : decode cX6_aLine 158 = .ok (.getfield 170, 3) := dk_180 0 170 (dk_at dksX6_aLine_6 18 rfl rfl)
theorem dX6_aLine_161 : decode cX6_aLine 161 = .ok (.iastore, 1) := dk_79 (dk_at dksX6_aLine_6 21 rfl rfl)
theorem dX6_aLine_162 : decode cX6_aLine 162 = .ok (.aload_n 0, 1) := dk_42 (dk_at dksX6_aLine_6 22 rfl rfl)
theorem dX6_aLine_163 : decode cX6_aLine 163 = .ok (.sipush 159, 3) := dk_17 0 159 (dk_at dksX6_aLine_7 0 rfl rfl)
theorem dX6_aLine_166 : decode cX6_aLine 166 = .ok (.invokevirtual 199, 3) := dk_182 0 199 (dk_at dksX6_aLine_7 3 rfl rfl)
theorem dX6_aLine_169 : decode cX6_aLine 169 = .ok (.ireturn, 1) := dk_172 (dk_at dksX6_aLine_7 6 rfl rfl)
abbrev cX6_bad : ByteArray := prog_15_method_22_code
def yX6_bad : MethodName := ⟨RX6, "bad", "(I)Z"⟩
def dkwX6_bad_0 : List UInt8 := [42, 27, 181, 0, 158, 42, 42, 180, 0, 76, 181, 0, 161, 3, 172]
abbrev dktX6_bad_0 : List UInt8 := dkwX6_bad_0 ++ []
theorem dksX6_bad_0 : cX6_bad.data.toList.drop 0 = dktX6_bad_0 := by decide +kernel
theorem dX6_bad_0 : decode cX6_bad 0 = .ok (.aload_n 0, 1) := dk_42 (dk_at dksX6_bad_0 0 rfl rfl)
theorem dX6_bad_1 : decode cX6_bad 1 = .ok (.iload_n 1, 1) := dk_27 (dk_at dksX6_bad_0 1 rfl rfl)
theorem dX6_bad_2 : decode cX6_bad 2 = .ok (.putfield 158, 3) := dk_181 0 158 (dk_at dksX6_bad_0 2 rfl rfl)
theorem dX6_bad_5 : decode cX6_bad 5 = .ok (.aload_n 0, 1) := dk_42 (dk_at dksX6_bad_0 5 rfl rfl)
theorem dX6_bad_6 : decode cX6_bad 6 = .ok (.aload_n 0, 1) := dk_42 (dk_at dksX6_bad_0 6 rfl rfl)
theorem dX6_bad_7 : decode cX6_bad 7 = .ok (.getfield 76, 3) := dk_180 0 76 (dk_at dksX6_bad_0 7 rfl rfl)
theorem dX6_bad_10 : decode cX6_bad 10 = .ok (.putfield 161, 3) := dk_181 0 161 (dk_at dksX6_bad_0 10 rfl rfl)
theorem dX6_bad_13 : decode cX6_bad 13 = .ok (.iconst 0, 1) := dk_3 (dk_at dksX6_bad_0 13 rfl rfl)
theorem dX6_bad_14 : decode cX6_bad 14 = .ok (.ireturn, 1) := dk_172 (dk_at dksX6_bad_0 14 rfl rfl)
abbrev cX6_sumUp : ByteArray := prog_15_method_27_code
def yX6_sumUp : MethodName := ⟨RX6, "sumUp", "()Z"⟩
def dkwX6_sumUp_2 : List UInt8 := [42, 182, 0, 167, 42, 182, 0, 176, 154, 0, 5, 3, 172, 42, 27, 3, 182, 0, 180, 167, 255, 199, 4, 172]
abbrev dktX6_sumUp_2 : List UInt8 := dkwX6_sumUp_2 ++ []
def dkwX6_sumUp_1 : List UInt8 := [17, 0, 145, 160, 0, 43, 42, 180, 0, 142, 17, 0, 143, 160, 0, 8, 16, 13, 167, 0, 5, 16, 14, 60]
abbrev dktX6_sumUp_1 : List UInt8 := dkwX6_sumUp_1 ++ dktX6_sumUp_2
def dkwX6_sumUp_0 : List UInt8 := [42, 182, 0, 176, 154, 0, 5, 3, 172, 42, 180, 0, 142, 17, 0, 143, 159, 0, 13, 42, 180, 0, 142]
abbrev dktX6_sumUp_0 : List UInt8 := dkwX6_sumUp_0 ++ dktX6_sumUp_1
theorem dksX6_sumUp_0 : cX6_sumUp.data.toList.drop 0 = dktX6_sumUp_0 := by decide +kernel
theorem dksX6_sumUp_1 : cX6_sumUp.data.toList.drop 23 = dktX6_sumUp_1 := dk_seg dksX6_sumUp_0 23 rfl rfl
theorem dksX6_sumUp_2 : cX6_sumUp.data.toList.drop 47 = dktX6_sumUp_2 := dk_seg dksX6_sumUp_1 24 rfl rfl
theorem dX6_sumUp_0 : decode cX6_sumUp 0 = .ok (.aload_n 0, 1) := dk_42 (dk_at dksX6_sumUp_0 0 rfl rfl)
theorem dX6_sumUp_1 : decode cX6_sumUp 1 = .ok (.invokevirtual 176, 3) := dk_182 0 176 (dk_at dksX6_sumUp_0 1 rfl rfl)
theorem dX6_sumUp_4 : decode cX6_sumUp 4 = .ok (.ifCond .ne 5, 3) := dk_154 0 5 (dk_at dksX6_sumUp_0 4 rfl rfl)
theorem dX6_sumUp_7 : decode cX6_sumUp 7 = .ok (.iconst 0, 1) := dk_3 (dk_at dksX6_sumUp_0 7 rfl rfl)
theorem dX6_sumUp_8 : decode cX6_sumUp 8 = .ok (.ireturn, 1) := dk_172 (dk_at dksX6_sumUp_0 8 rfl rfl)
theorem dX6_sumUp_9 : decode cX6_sumUp 9 = .ok (.aload_n 0, 1) := dk_42 (dk_at dksX6_sumUp_0 9 rfl rfl)
theorem dX6_sumUp_10 : decode cX6_sumUp 10 = .ok (.getfield 142, 3) := dk_180 0 142 (dk_at dksX6_sumUp_0 10 rfl rfl)
theorem dX6_sumUp_13 : decode cX6_sumUp 13 = .ok (.sipush 143, 3) := dk_17 0 143 (dk_at dksX6_sumUp_0 13 rfl rfl)
theorem dX6_sumUp_16 : decode cX6_sumUp 16 = .ok (.if_icmp .eq 13, 3) := dk_159 0 13 (dk_at dksX6_sumUp_0 16 rfl rfl)
theorem dX6_sumUp_19 : decode cX6_sumUp 19 = .ok (.aload_n 0, 1) := dk_42 (dk_at dksX6_sumUp_0 19 rfl rfl)
theorem dX6_sumUp_20 : decode cX6_sumUp 20 = .ok (.getfield 142, 3) := dk_180 0 142 (dk_at dksX6_sumUp_0 20 rfl rfl)
theorem dX6_sumUp_23 : decode cX6_sumUp 23 = .ok (.sipush 145, 3) := dk_17 0 145 (dk_at dksX6_sumUp_1 0 rfl rfl)
theorem dX6_sumUp_26 : decode cX6_sumUp 26 = .ok (.if_icmp .ne 43, 3) := dk_160 0 43 (dk_at dksX6_sumUp_1 3 rfl rfl)
theorem dX6_sumUp_29 : decode cX6_sumUp 29 = .ok (.aload_n 0, 1) := dk_42 (dk_at dksX6_sumUp_1 6 rfl rfl)
theorem dX6_sumUp_30 : decode cX6_sumUp 30 = .ok (.getfield 142, 3) := dk_180 0 142 (dk_at dksX6_sumUp_1 7 rfl rfl)
theorem dX6_sumUp_33 : decode cX6_sumUp 33 = .ok (.sipush 143, 3) := dk_17 0 143 (dk_at dksX6_sumUp_1 10 rfl rfl)
theorem dX6_sumUp_36 : decode cX6_sumUp 36 = .ok (.if_icmp .ne 8, 3) := dk_160 0 8 (dk_at dksX6_sumUp_1 13 rfl rfl)
theorem dX6_sumUp_39 : decode cX6_sumUp 39 = .ok (.bipush 13, 2) := dk_16 13 (dk_at dksX6_sumUp_1 16 rfl rfl)
theorem dX6_sumUp_41 : decode cX6_sumUp 41 = .ok (.goto 5, 3) := dk_167 0 5 (dk_at dksX6_sumUp_1 18 rfl rfl)
theorem dX6_sumUp_44 : decode cX6_sumUp 44 = .ok (.bipush 14, 2) := dk_16 14 (dk_at dksX6_sumUp_1 21 rfl rfl)
theorem dX6_sumUp_46 : decode cX6_sumUp 46 = .ok (.istore_n 1, 1) := dk_60 (dk_at dksX6_sumUp_1 23 rfl rfl)
theorem dX6_sumUp_47 : decode cX6_sumUp 47 = .ok (.aload_n 0, 1) := dk_42 (dk_at dksX6_sumUp_2 0 rfl rfl)
theorem dX6_sumUp_48 : decode cX6_sumUp 48 = .ok (.invokevirtual 167, 3) := dk_182 0 167 (dk_at dksX6_sumUp_2 1 rfl rfl)
theorem dX6_sumUp_51 : decode cX6_sumUp 51 = .ok (.aload_n 0, 1) := dk_42 (dk_at dksX6_sumUp_2 4 rfl rfl)
theorem dX6_sumUp_52 : decode cX6_sumUp 52 = .ok (.invokevirtual 176, 3) := dk_182 0 176 (dk_at dksX6_sumUp_2 5 rfl rfl)
theorem dX6_sumUp_55 : decode cX6_sumUp 55 = .ok (.ifCond .ne 5, 3) := dk_154 0 5 (dk_at dksX6_sumUp_2 8 rfl rfl)
theorem dX6_sumUp_58 : decode cX6_sumUp 58 = .ok (.iconst 0, 1) := dk_3 (dk_at dksX6_sumUp_2 11 rfl rfl)
theorem dX6_sumUp_59 : decode cX6_sumUp 59 = .ok (.ireturn, 1) := dk_172 (dk_at dksX6_sumUp_2 12 rfl rfl)
theorem dX6_sumUp_60 : decode cX6_sumUp 60 = .ok (.aload_n 0, 1) := dk_42 (dk_at dksX6_sumUp_2 13 rfl rfl)
theorem dX6_sumUp_61 : decode cX6_sumUp 61 = .ok (.iload_n 1, 1) := dk_27 (dk_at dksX6_sumUp_2 14 rfl rfl)
theorem dX6_sumUp_62 : decode cX6_sumUp 62 = .ok (.iconst 0, 1) := dk_3 (dk_at dksX6_sumUp_2 15 rfl rfl)
theorem dX6_sumUp_63 : decode cX6_sumUp 63 = .ok (.invokevirtual 180, 3) := dk_182 0 180 (dk_at dksX6_sumUp_2 16 rfl rfl)
theorem dX6_sumUp_66 : decode cX6_sumUp 66 = .ok (.goto (-57), 3) := dk_167 255 199 (dk_at dksX6_sumUp_2 19 rfl rfl)
theorem dX6_sumUp_69 : decode cX6_sumUp 69 = .ok (.iconst 1, 1) := dk_4 (dk_at dksX6_sumUp_2 22 rfl rfl)
theorem dX6_sumUp_70 : decode cX6_sumUp 70 = .ok (.ireturn, 1) := dk_172 (dk_at dksX6_sumUp_2 23 rfl rfl)
abbrev cX6_product : ByteArray := prog_15_method_28_code
def yX6_product : MethodName := ⟨RX6, "product", "()Z"⟩
def dkwX6_product_5 : List UInt8 := [167, 255, 153, 4, 172]
abbrev dktX6_product_5 : List UInt8 := dkwX6_product_5 ++ []
def dkwX6_product_4 : List UInt8 := [182, 0, 180, 167, 0, 19, 42, 182, 0, 184, 154, 0, 5, 3, 172, 42, 16, 15, 3, 182, 0, 180]
abbrev dktX6_product_4 : List UInt8 := dkwX6_product_4 ++ dktX6_product_5
def dkwX6_product_3 : List UInt8 := [182, 0, 164, 172, 28, 154, 0, 9, 42, 5, 182, 0, 164, 172, 42, 182, 0, 167, 42, 16, 16, 28]
abbrev dktX6_product_3 : List UInt8 := dkwX6_product_3 ++ dktX6_product_4
def dkwX6_product_2 : List UInt8 := [182, 0, 167, 27, 153, 0, 46, 42, 180, 0, 155, 61, 42, 180, 0, 142, 5, 159, 0, 9, 42, 4]
abbrev dktX6_product_2 : List UInt8 := dkwX6_product_2 ++ dktX6_product_3
def dkwX6_product_1 : List UInt8 := [17, 0, 147, 160, 0, 89, 42, 180, 0, 142, 17, 0, 147, 160, 0, 7, 4, 167, 0, 4, 3, 60, 42]
abbrev dktX6_product_1 : List UInt8 := dkwX6_product_1 ++ dktX6_product_2
def dkwX6_product_0 : List UInt8 := [42, 182, 0, 184, 154, 0, 5, 3, 172, 42, 180, 0, 142, 17, 0, 142, 159, 0, 13, 42, 180, 0, 142]
abbrev dktX6_product_0 : List UInt8 := dkwX6_product_0 ++ dktX6_product_1
theorem dksX6_product_0 : cX6_product.data.toList.drop 0 = dktX6_product_0 := by decide +kernel
theorem dksX6_product_1 : cX6_product.data.toList.drop 23 = dktX6_product_1 := dk_seg dksX6_product_0 23 rfl rfl
theorem dksX6_product_2 : cX6_product.data.toList.drop 46 = dktX6_product_2 := dk_seg dksX6_product_1 23 rfl rfl
theorem dksX6_product_3 : cX6_product.data.toList.drop 68 = dktX6_product_3 := dk_seg dksX6_product_2 22 rfl rfl
theorem dksX6_product_4 : cX6_product.data.toList.drop 90 = dktX6_product_4 := dk_seg dksX6_product_3 22 rfl rfl
theorem dksX6_product_5 : cX6_product.data.toList.drop 112 = dktX6_product_5 := dk_seg dksX6_product_4 22 rfl rfl
theorem dX6_product_0 : decode cX6_product 0 = .ok (.aload_n 0, 1) := dk_42 (dk_at dksX6_product_0 0 rfl rfl)
theorem dX6_product_1 : decode cX6_product 1 = .ok (.invokevirtual 184, 3) := dk_182 0 184 (dk_at dksX6_product_0 1 rfl rfl)
theorem dX6_product_4 : decode cX6_product 4 = .ok (.ifCond .ne 5, 3) := dk_154 0 5 (dk_at dksX6_product_0 4 rfl rfl)
theorem dX6_product_7 : decode cX6_product 7 = .ok (.iconst 0, 1) := dk_3 (dk_at dksX6_product_0 7 rfl rfl)
theorem dX6_product_8 : decode cX6_product 8 = .ok (.ireturn, 1) := dk_172 (dk_at dksX6_product_0 8 rfl rfl)
theorem dX6_product_9 : decode cX6_product 9 = .ok (.aload_n 0, 1) := dk_42 (dk_at dksX6_product_0 9 rfl rfl)
theorem dX6_product_10 : decode cX6_product 10 = .ok (.getfield 142, 3) := dk_180 0 142 (dk_at dksX6_product_0 10 rfl rfl)
theorem dX6_product_13 : decode cX6_product 13 = .ok (.sipush 142, 3) := dk_17 0 142 (dk_at dksX6_product_0 13 rfl rfl)
theorem dX6_product_16 : decode cX6_product 16 = .ok (.if_icmp .eq 13, 3) := dk_159 0 13 (dk_at dksX6_product_0 16 rfl rfl)
theorem dX6_product_19 : decode cX6_product 19 = .ok (.aload_n 0, 1) := dk_42 (dk_at dksX6_product_0 19 rfl rfl)
theorem dX6_product_20 : decode cX6_product 20 = .ok (.getfield 142, 3) := dk_180 0 142 (dk_at dksX6_product_0 20 rfl rfl)
theorem dX6_product_23 : decode cX6_product 23 = .ok (.sipush 147, 3) := dk_17 0 147 (dk_at dksX6_product_1 0 rfl rfl)
theorem dX6_product_26 : decode cX6_product 26 = .ok (.if_icmp .ne 89, 3) := dk_160 0 89 (dk_at dksX6_product_1 3 rfl rfl)
theorem dX6_product_29 : decode cX6_product 29 = .ok (.aload_n 0, 1) := dk_42 (dk_at dksX6_product_1 6 rfl rfl)
theorem dX6_product_30 : decode cX6_product 30 = .ok (.getfield 142, 3) := dk_180 0 142 (dk_at dksX6_product_1 7 rfl rfl)
theorem dX6_product_33 : decode cX6_product 33 = .ok (.sipush 147, 3) := dk_17 0 147 (dk_at dksX6_product_1 10 rfl rfl)
theorem dX6_product_36 : decode cX6_product 36 = .ok (.if_icmp .ne 7, 3) := dk_160 0 7 (dk_at dksX6_product_1 13 rfl rfl)
theorem dX6_product_39 : decode cX6_product 39 = .ok (.iconst 1, 1) := dk_4 (dk_at dksX6_product_1 16 rfl rfl)
theorem dX6_product_40 : decode cX6_product 40 = .ok (.goto 4, 3) := dk_167 0 4 (dk_at dksX6_product_1 17 rfl rfl)
theorem dX6_product_43 : decode cX6_product 43 = .ok (.iconst 0, 1) := dk_3 (dk_at dksX6_product_1 20 rfl rfl)
theorem dX6_product_44 : decode cX6_product 44 = .ok (.istore_n 1, 1) := dk_60 (dk_at dksX6_product_1 21 rfl rfl)
theorem dX6_product_45 : decode cX6_product 45 = .ok (.aload_n 0, 1) := dk_42 (dk_at dksX6_product_1 22 rfl rfl)
theorem dX6_product_46 : decode cX6_product 46 = .ok (.invokevirtual 167, 3) := dk_182 0 167 (dk_at dksX6_product_2 0 rfl rfl)
theorem dX6_product_49 : decode cX6_product 49 = .ok (.iload_n 1, 1) := dk_27 (dk_at dksX6_product_2 3 rfl rfl)
theorem dX6_product_50 : decode cX6_product 50 = .ok (.ifCond .eq 46, 3) := dk_153 0 46 (dk_at dksX6_product_2 4 rfl rfl)
theorem dX6_product_53 : decode cX6_product 53 = .ok (.aload_n 0, 1) := dk_42 (dk_at dksX6_product_2 7 rfl rfl)
theorem dX6_product_54 : decode cX6_product 54 = .ok (.getfield 155, 3) := dk_180 0 155 (dk_at dksX6_product_2 8 rfl rfl)
theorem dX6_product_57 : decode cX6_product 57 = .ok (.istore_n 2, 1) := dk_61 (dk_at dksX6_product_2 11 rfl rfl)
theorem dX6_product_58 : decode cX6_product 58 = .ok (.aload_n 0, 1) := dk_42 (dk_at dksX6_product_2 12 rfl rfl)
theorem dX6_product_59 : decode cX6_product 59 = .ok (.getfield 142, 3) := dk_180 0 142 (dk_at dksX6_product_2 13 rfl rfl)
theorem dX6_product_62 : decode cX6_product 62 = .ok (.iconst 2, 1) := dk_5 (dk_at dksX6_product_2 16 rfl rfl)
theorem dX6_product_63 : decode cX6_product 63 = .ok (.if_icmp .eq 9, 3) := dk_159 0 9 (dk_at dksX6_product_2 17 rfl rfl)
theorem dX6_product_66 : decode cX6_product 66 = .ok (.aload_n 0, 1) := dk_42 (dk_at dksX6_product_2 20 rfl rfl)
theorem dX6_product_67 : decode cX6_product 67 = .ok (.iconst 1, 1) := dk_4 (dk_at dksX6_product_2 21 rfl rfl)
theorem dX6_product_68 : decode cX6_product 68 = .ok (.invokevirtual 164, 3) := dk_182 0 164 (dk_at dksX6_product_3 0 rfl rfl)
theorem dX6_product_71 : decode cX6_product 71 = .ok (.ireturn, 1) := dk_172 (dk_at dksX6_product_3 3 rfl rfl)
theorem dX6_product_72 : decode cX6_product 72 = .ok (.iload_n 2, 1) := dk_28 (dk_at dksX6_product_3 4 rfl rfl)
theorem dX6_product_73 : decode cX6_product 73 = .ok (.ifCond .ne 9, 3) := dk_154 0 9 (dk_at dksX6_product_3 5 rfl rfl)
theorem dX6_product_76 : decode cX6_product 76 = .ok (.aload_n 0, 1) := dk_42 (dk_at dksX6_product_3 8 rfl rfl)
theorem dX6_product_77 : decode cX6_product 77 = .ok (.iconst 2, 1) := dk_5 (dk_at dksX6_product_3 9 rfl rfl)
theorem dX6_product_78 : decode cX6_product 78 = .ok (.invokevirtual 164, 3) := dk_182 0 164 (dk_at dksX6_product_3 10 rfl rfl)
theorem dX6_product_81 : decode cX6_product 81 = .ok (.ireturn, 1) := dk_172 (dk_at dksX6_product_3 13 rfl rfl)
theorem dX6_product_82 : decode cX6_product 82 = .ok (.aload_n 0, 1) := dk_42 (dk_at dksX6_product_3 14 rfl rfl)
theorem dX6_product_83 : decode cX6_product 83 = .ok (.invokevirtual 167, 3) := dk_182 0 167 (dk_at dksX6_product_3 15 rfl rfl)
theorem dX6_product_86 : decode cX6_product 86 = .ok (.aload_n 0, 1) := dk_42 (dk_at dksX6_product_3 18 rfl rfl)
theorem dX6_product_87 : decode cX6_product 87 = .ok (.bipush 16, 2) := dk_16 16 (dk_at dksX6_product_3 19 rfl rfl)
theorem dX6_product_89 : decode cX6_product 89 = .ok (.iload_n 2, 1) := dk_28 (dk_at dksX6_product_3 21 rfl rfl)
theorem dX6_product_90 : decode cX6_product 90 = .ok (.invokevirtual 180, 3) := dk_182 0 180 (dk_at dksX6_product_4 0 rfl rfl)
theorem dX6_product_93 : decode cX6_product 93 = .ok (.goto 19, 3) := dk_167 0 19 (dk_at dksX6_product_4 3 rfl rfl)
theorem dX6_product_96 : decode cX6_product 96 = .ok (.aload_n 0, 1) := dk_42 (dk_at dksX6_product_4 6 rfl rfl)
theorem dX6_product_97 : decode cX6_product 97 = .ok (.invokevirtual 184, 3) := dk_182 0 184 (dk_at dksX6_product_4 7 rfl rfl)
theorem dX6_product_100 : decode cX6_product 100 = .ok (.ifCond .ne 5, 3) := dk_154 0 5 (dk_at dksX6_product_4 10 rfl rfl)
theorem dX6_product_103 : decode cX6_product 103 = .ok (.iconst 0, 1) := dk_3 (dk_at dksX6_product_4 13 rfl rfl)
theorem dX6_product_104 : decode cX6_product 104 = .ok (.ireturn, 1) := dk_172 (dk_at dksX6_product_4 14 rfl rfl)
theorem dX6_product_105 : decode cX6_product 105 = .ok (.aload_n 0, 1) := dk_42 (dk_at dksX6_product_4 15 rfl rfl)
theorem dX6_product_106 : decode cX6_product 106 = .ok (.bipush 15, 2) := dk_16 15 (dk_at dksX6_product_4 16 rfl rfl)
theorem dX6_product_108 : decode cX6_product 108 = .ok (.iconst 0, 1) := dk_3 (dk_at dksX6_product_4 18 rfl rfl)
theorem dX6_product_109 : decode cX6_product 109 = .ok (.invokevirtual 180, 3) := dk_182 0 180 (dk_at dksX6_product_4 19 rfl rfl)
theorem dX6_product_112 : decode cX6_product 112 = .ok (.goto (-103), 3) := dk_167 255 153 (dk_at dksX6_product_5 0 rfl rfl)
theorem dX6_product_115 : decode cX6_product 115 = .ok (.iconst 1, 1) := dk_4 (dk_at dksX6_product_5 3 rfl rfl)
theorem dX6_product_116 : decode cX6_product 116 = .ok (.ireturn, 1) := dk_172 (dk_at dksX6_product_5 4 rfl rfl)
abbrev cX6_unit : ByteArray := prog_15_method_29_code
def yX6_unit : MethodName := ⟨RX6, "unit", "()Z"⟩
def dkwX6_unit_2 : List UInt8 := [180, 0, 155, 182, 0, 180, 42, 182, 0, 167, 4, 172]
abbrev dktX6_unit_2 : List UInt8 := dkwX6_unit_2 ++ []
def dkwX6_unit_1 : List UInt8 := [42, 4, 182, 0, 164, 172, 42, 27, 153, 0, 13, 42, 180, 0, 142, 16, 40, 100, 167, 0, 4, 3, 42]
abbrev dktX6_unit_1 : List UInt8 := dkwX6_unit_1 ++ dktX6_unit_2
def dkwX6_unit_0 : List UInt8 := [42, 180, 0, 142, 16, 41, 16, 50, 184, 0, 66, 60, 42, 180, 0, 142, 5, 159, 0, 13, 27, 154, 0, 9]
abbrev dktX6_unit_0 : List UInt8 := dkwX6_unit_0 ++ dktX6_unit_1
theorem dksX6_unit_0 : cX6_unit.data.toList.drop 0 = dktX6_unit_0 := by decide +kernel
theorem dksX6_unit_1 : cX6_unit.data.toList.drop 24 = dktX6_unit_1 := dk_seg dksX6_unit_0 24 rfl rfl
theorem dksX6_unit_2 : cX6_unit.data.toList.drop 47 = dktX6_unit_2 := dk_seg dksX6_unit_1 23 rfl rfl
theorem dX6_unit_0 : decode cX6_unit 0 = .ok (.aload_n 0, 1) := dk_42 (dk_at dksX6_unit_0 0 rfl rfl)
theorem dX6_unit_1 : decode cX6_unit 1 = .ok (.getfield 142, 3) := dk_180 0 142 (dk_at dksX6_unit_0 1 rfl rfl)
theorem dX6_unit_4 : decode cX6_unit 4 = .ok (.bipush 41, 2) := dk_16 41 (dk_at dksX6_unit_0 4 rfl rfl)
theorem dX6_unit_6 : decode cX6_unit 6 = .ok (.bipush 50, 2) := dk_16 50 (dk_at dksX6_unit_0 6 rfl rfl)
theorem dX6_unit_8 : decode cX6_unit 8 = .ok (.invokestatic 66, 3) := dk_184 0 66 (dk_at dksX6_unit_0 8 rfl rfl)
theorem dX6_unit_11 : decode cX6_unit 11 = .ok (.istore_n 1, 1) := dk_60 (dk_at dksX6_unit_0 11 rfl rfl)
theorem dX6_unit_12 : decode cX6_unit 12 = .ok (.aload_n 0, 1) := dk_42 (dk_at dksX6_unit_0 12 rfl rfl)
theorem dX6_unit_13 : decode cX6_unit 13 = .ok (.getfield 142, 3) := dk_180 0 142 (dk_at dksX6_unit_0 13 rfl rfl)
theorem dX6_unit_16 : decode cX6_unit 16 = .ok (.iconst 2, 1) := dk_5 (dk_at dksX6_unit_0 16 rfl rfl)
theorem dX6_unit_17 : decode cX6_unit 17 = .ok (.if_icmp .eq 13, 3) := dk_159 0 13 (dk_at dksX6_unit_0 17 rfl rfl)
theorem dX6_unit_20 : decode cX6_unit 20 = .ok (.iload_n 1, 1) := dk_27 (dk_at dksX6_unit_0 20 rfl rfl)
theorem dX6_unit_21 : decode cX6_unit 21 = .ok (.ifCond .ne 9, 3) := dk_154 0 9 (dk_at dksX6_unit_0 21 rfl rfl)
theorem dX6_unit_24 : decode cX6_unit 24 = .ok (.aload_n 0, 1) := dk_42 (dk_at dksX6_unit_1 0 rfl rfl)
theorem dX6_unit_25 : decode cX6_unit 25 = .ok (.iconst 1, 1) := dk_4 (dk_at dksX6_unit_1 1 rfl rfl)
theorem dX6_unit_26 : decode cX6_unit 26 = .ok (.invokevirtual 164, 3) := dk_182 0 164 (dk_at dksX6_unit_1 2 rfl rfl)
theorem dX6_unit_29 : decode cX6_unit 29 = .ok (.ireturn, 1) := dk_172 (dk_at dksX6_unit_1 5 rfl rfl)
theorem dX6_unit_30 : decode cX6_unit 30 = .ok (.aload_n 0, 1) := dk_42 (dk_at dksX6_unit_1 6 rfl rfl)
theorem dX6_unit_31 : decode cX6_unit 31 = .ok (.iload_n 1, 1) := dk_27 (dk_at dksX6_unit_1 7 rfl rfl)
theorem dX6_unit_32 : decode cX6_unit 32 = .ok (.ifCond .eq 13, 3) := dk_153 0 13 (dk_at dksX6_unit_1 8 rfl rfl)
theorem dX6_unit_35 : decode cX6_unit 35 = .ok (.aload_n 0, 1) := dk_42 (dk_at dksX6_unit_1 11 rfl rfl)
theorem dX6_unit_36 : decode cX6_unit 36 = .ok (.getfield 142, 3) := dk_180 0 142 (dk_at dksX6_unit_1 12 rfl rfl)
theorem dX6_unit_39 : decode cX6_unit 39 = .ok (.bipush 40, 2) := dk_16 40 (dk_at dksX6_unit_1 15 rfl rfl)
theorem dX6_unit_41 : decode cX6_unit 41 = .ok (.isub, 1) := dk_100 (dk_at dksX6_unit_1 17 rfl rfl)
theorem dX6_unit_42 : decode cX6_unit 42 = .ok (.goto 4, 3) := dk_167 0 4 (dk_at dksX6_unit_1 18 rfl rfl)
theorem dX6_unit_45 : decode cX6_unit 45 = .ok (.iconst 0, 1) := dk_3 (dk_at dksX6_unit_1 21 rfl rfl)
theorem dX6_unit_46 : decode cX6_unit 46 = .ok (.aload_n 0, 1) := dk_42 (dk_at dksX6_unit_1 22 rfl rfl)
theorem dX6_unit_47 : decode cX6_unit 47 = .ok (.getfield 155, 3) := dk_180 0 155 (dk_at dksX6_unit_2 0 rfl rfl)
theorem dX6_unit_50 : decode cX6_unit 50 = .ok (.invokevirtual 180, 3) := dk_182 0 180 (dk_at dksX6_unit_2 3 rfl rfl)
theorem dX6_unit_53 : decode cX6_unit 53 = .ok (.aload_n 0, 1) := dk_42 (dk_at dksX6_unit_2 6 rfl rfl)
theorem dX6_unit_54 : decode cX6_unit 54 = .ok (.invokevirtual 167, 3) := dk_182 0 167 (dk_at dksX6_unit_2 7 rfl rfl)
theorem dX6_unit_57 : decode cX6_unit 57 = .ok (.iconst 1, 1) := dk_4 (dk_at dksX6_unit_2 10 rfl rfl)
theorem dX6_unit_58 : decode cX6_unit 58 = .ok (.ireturn, 1) := dk_172 (dk_at dksX6_unit_2 11 rfl rfl)
abbrev cX6_lay : ByteArray := prog_15_method_25_code
def yX6_lay : MethodName := ⟨RX6, "lay", "(II)V"⟩
def dkwX6_lay_1 : List UInt8 := [28, 79, 42, 89, 180, 0, 170, 4, 96, 181, 0, 170, 177]
abbrev dktX6_lay_1 : List UInt8 := dkwX6_lay_1 ++ []
def dkwX6_lay_0 : List UInt8 := [42, 180, 0, 22, 5, 42, 180, 0, 170, 104, 27, 79, 42, 180, 0, 22, 5, 42, 180, 0, 170, 104, 4, 96]
abbrev dktX6_lay_0 : List UInt8 := dkwX6_lay_0 ++ dktX6_lay_1
theorem dksX6_lay_0 : cX6_lay.data.toList.drop 0 = dktX6_lay_0 := by decide +kernel
theorem dksX6_lay_1 : cX6_lay.data.toList.drop 24 = dktX6_lay_1 := dk_seg dksX6_lay_0 24 rfl rfl
theorem dX6_lay_0 : decode cX6_lay 0 = .ok (.aload_n 0, 1) := dk_42 (dk_at dksX6_lay_0 0 rfl rfl)
theorem dX6_lay_1 : decode cX6_lay 1 = .ok (.getfield 22, 3) := dk_180 0 22 (dk_at dksX6_lay_0 1 rfl rfl)
theorem dX6_lay_4 : decode cX6_lay 4 = .ok (.iconst 2, 1) := dk_5 (dk_at dksX6_lay_0 4 rfl rfl)
theorem dX6_lay_5 : decode cX6_lay 5 = .ok (.aload_n 0, 1) := dk_42 (dk_at dksX6_lay_0 5 rfl rfl)
theorem dX6_lay_6 : decode cX6_lay 6 = .ok (.getfield 170, 3) := dk_180 0 170 (dk_at dksX6_lay_0 6 rfl rfl)
theorem dX6_lay_9 : decode cX6_lay 9 = .ok (.imul, 1) := dk_104 (dk_at dksX6_lay_0 9 rfl rfl)
theorem dX6_lay_10 : decode cX6_lay 10 = .ok (.iload_n 1, 1) := dk_27 (dk_at dksX6_lay_0 10 rfl rfl)
theorem dX6_lay_11 : decode cX6_lay 11 = .ok (.iastore, 1) := dk_79 (dk_at dksX6_lay_0 11 rfl rfl)
theorem dX6_lay_12 : decode cX6_lay 12 = .ok (.aload_n 0, 1) := dk_42 (dk_at dksX6_lay_0 12 rfl rfl)
theorem dX6_lay_13 : decode cX6_lay 13 = .ok (.getfield 22, 3) := dk_180 0 22 (dk_at dksX6_lay_0 13 rfl rfl)
theorem dX6_lay_16 : decode cX6_lay 16 = .ok (.iconst 2, 1) := dk_5 (dk_at dksX6_lay_0 16 rfl rfl)
theorem dX6_lay_17 : decode cX6_lay 17 = .ok (.aload_n 0, 1) := dk_42 (dk_at dksX6_lay_0 17 rfl rfl)
theorem dX6_lay_18 : decode cX6_lay 18 = .ok (.getfield 170, 3) := dk_180 0 170 (dk_at dksX6_lay_0 18 rfl rfl)
theorem dX6_lay_21 : decode cX6_lay 21 = .ok (.imul, 1) := dk_104 (dk_at dksX6_lay_0 21 rfl rfl)
theorem dX6_lay_22 : decode cX6_lay 22 = .ok (.iconst 1, 1) := dk_4 (dk_at dksX6_lay_0 22 rfl rfl)
theorem dX6_lay_23 : decode cX6_lay 23 = .ok (.iadd, 1) := dk_96 (dk_at dksX6_lay_0 23 rfl rfl)
theorem dX6_lay_24 : decode cX6_lay 24 = .ok (.iload_n 2, 1) := dk_28 (dk_at dksX6_lay_1 0 rfl rfl)
theorem dX6_lay_25 : decode cX6_lay 25 = .ok (.iastore, 1) := dk_79 (dk_at dksX6_lay_1 1 rfl rfl)
theorem dX6_lay_26 : decode cX6_lay 26 = .ok (.aload_n 0, 1) := dk_42 (dk_at dksX6_lay_1 2 rfl rfl)
theorem dX6_lay_27 : decode cX6_lay 27 = .ok (.dup, 1) := dk_89 (dk_at dksX6_lay_1 3 rfl rfl)
theorem dX6_lay_28 : decode cX6_lay 28 = .ok (.getfield 170, 3) := dk_180 0 170 (dk_at dksX6_lay_1 4 rfl rfl)
theorem dX6_lay_31 : decode cX6_lay 31 = .ok (.iconst 1, 1) := dk_4 (dk_at dksX6_lay_1 7 rfl rfl)
theorem dX6_lay_32 : decode cX6_lay 32 = .ok (.iadd, 1) := dk_96 (dk_at dksX6_lay_1 8 rfl rfl)
theorem dX6_lay_33 : decode cX6_lay 33 = .ok (.putfield 170, 3) := dk_181 0 170 (dk_at dksX6_lay_1 9 rfl rfl)
theorem dX6_lay_36 : decode cX6_lay 36 = .ok (.return_, 1) := dk_177 (dk_at dksX6_lay_1 12 rfl rfl)
abbrev cX6_any : ByteArray := prog_15_method_30_code
def yX6_any : MethodName := ⟨RX6, "any", "()Z"⟩
def dkwX6_any_1 : List UInt8 := [182, 0, 187, 154, 0, 5, 3, 172, 42, 16, 22, 3, 182, 0, 180, 167, 255, 228, 4, 172]
abbrev dktX6_any_1 : List UInt8 := dkwX6_any_1 ++ []
def dkwX6_any_0 : List UInt8 := [42, 182, 0, 187, 154, 0, 5, 3, 172, 42, 180, 0, 142, 7, 160, 0, 26, 42, 182, 0, 167, 42]
abbrev dktX6_any_0 : List UInt8 := dkwX6_any_0 ++ dktX6_any_1
theorem dksX6_any_0 : cX6_any.data.toList.drop 0 = dktX6_any_0 := by decide +kernel
theorem dksX6_any_1 : cX6_any.data.toList.drop 22 = dktX6_any_1 := dk_seg dksX6_any_0 22 rfl rfl
theorem dX6_any_0 : decode cX6_any 0 = .ok (.aload_n 0, 1) := dk_42 (dk_at dksX6_any_0 0 rfl rfl)
theorem dX6_any_1 : decode cX6_any 1 = .ok (.invokevirtual 187, 3) := dk_182 0 187 (dk_at dksX6_any_0 1 rfl rfl)
theorem dX6_any_4 : decode cX6_any 4 = .ok (.ifCond .ne 5, 3) := dk_154 0 5 (dk_at dksX6_any_0 4 rfl rfl)
theorem dX6_any_7 : decode cX6_any 7 = .ok (.iconst 0, 1) := dk_3 (dk_at dksX6_any_0 7 rfl rfl)
theorem dX6_any_8 : decode cX6_any 8 = .ok (.ireturn, 1) := dk_172 (dk_at dksX6_any_0 8 rfl rfl)
theorem dX6_any_9 : decode cX6_any 9 = .ok (.aload_n 0, 1) := dk_42 (dk_at dksX6_any_0 9 rfl rfl)
theorem dX6_any_10 : decode cX6_any 10 = .ok (.getfield 142, 3) := dk_180 0 142 (dk_at dksX6_any_0 10 rfl rfl)
theorem dX6_any_13 : decode cX6_any 13 = .ok (.iconst 4, 1) := dk_7 (dk_at dksX6_any_0 13 rfl rfl)
theorem dX6_any_14 : decode cX6_any 14 = .ok (.if_icmp .ne 26, 3) := dk_160 0 26 (dk_at dksX6_any_0 14 rfl rfl)
theorem dX6_any_17 : decode cX6_any 17 = .ok (.aload_n 0, 1) := dk_42 (dk_at dksX6_any_0 17 rfl rfl)
theorem dX6_any_18 : decode cX6_any 18 = .ok (.invokevirtual 167, 3) := dk_182 0 167 (dk_at dksX6_any_0 18 rfl rfl)
theorem dX6_any_21 : decode cX6_any 21 = .ok (.aload_n 0, 1) := dk_42 (dk_at dksX6_any_0 21 rfl rfl)
theorem dX6_any_22 : decode cX6_any 22 = .ok (.invokevirtual 187, 3) := dk_182 0 187 (dk_at dksX6_any_1 0 rfl rfl)
theorem dX6_any_25 : decode cX6_any 25 = .ok (.ifCond .ne 5, 3) := dk_154 0 5 (dk_at dksX6_any_1 3 rfl rfl)
theorem dX6_any_28 : decode cX6_any 28 = .ok (.iconst 0, 1) := dk_3 (dk_at dksX6_any_1 6 rfl rfl)
theorem dX6_any_29 : decode cX6_any 29 = .ok (.ireturn, 1) := dk_172 (dk_at dksX6_any_1 7 rfl rfl)
theorem dX6_any_30 : decode cX6_any 30 = .ok (.aload_n 0, 1) := dk_42 (dk_at dksX6_any_1 8 rfl rfl)
theorem dX6_any_31 : decode cX6_any 31 = .ok (.bipush 22, 2) := dk_16 22 (dk_at dksX6_any_1 9 rfl rfl)
theorem dX6_any_33 : decode cX6_any 33 = .ok (.iconst 0, 1) := dk_3 (dk_at dksX6_any_1 11 rfl rfl)
theorem dX6_any_34 : decode cX6_any 34 = .ok (.invokevirtual 180, 3) := dk_182 0 180 (dk_at dksX6_any_1 12 rfl rfl)
theorem dX6_any_37 : decode cX6_any 37 = .ok (.goto (-28), 3) := dk_167 255 228 (dk_at dksX6_any_1 15 rfl rfl)
theorem dX6_any_40 : decode cX6_any 40 = .ok (.iconst 1, 1) := dk_4 (dk_at dksX6_any_1 18 rfl rfl)
theorem dX6_any_41 : decode cX6_any 41 = .ok (.ireturn, 1) := dk_172 (dk_at dksX6_any_1 19 rfl rfl)
abbrev cX6_every : ByteArray := prog_15_method_31_code
def yX6_every : MethodName := ⟨RX6, "every", "()Z"⟩
def dkwX6_every_1 : List UInt8 := [182, 0, 190, 154, 0, 5, 3, 172, 42, 16, 21, 3, 182, 0, 180, 167, 255, 228, 4, 172]
abbrev dktX6_every_1 : List UInt8 := dkwX6_every_1 ++ []
def dkwX6_every_0 : List UInt8 := [42, 182, 0, 190, 154, 0, 5, 3, 172, 42, 180, 0, 142, 8, 160, 0, 26, 42, 182, 0, 167, 42]
abbrev dktX6_every_0 : List UInt8 := dkwX6_every_0 ++ dktX6_every_1
theorem dksX6_every_0 : cX6_every.data.toList.drop 0 = dktX6_every_0 := by decide +kernel
theorem dksX6_every_1 : cX6_every.data.toList.drop 22 = dktX6_every_1 := dk_seg dksX6_every_0 22 rfl rfl
theorem dX6_every_0 : decode cX6_every 0 = .ok (.aload_n 0, 1) := dk_42 (dk_at dksX6_every_0 0 rfl rfl)
theorem dX6_every_1 : decode cX6_every 1 = .ok (.invokevirtual 190, 3) := dk_182 0 190 (dk_at dksX6_every_0 1 rfl rfl)
theorem dX6_every_4 : decode cX6_every 4 = .ok (.ifCond .ne 5, 3) := dk_154 0 5 (dk_at dksX6_every_0 4 rfl rfl)
theorem dX6_every_7 : decode cX6_every 7 = .ok (.iconst 0, 1) := dk_3 (dk_at dksX6_every_0 7 rfl rfl)
theorem dX6_every_8 : decode cX6_every 8 = .ok (.ireturn, 1) := dk_172 (dk_at dksX6_every_0 8 rfl rfl)
theorem dX6_every_9 : decode cX6_every 9 = .ok (.aload_n 0, 1) := dk_42 (dk_at dksX6_every_0 9 rfl rfl)
theorem dX6_every_10 : decode cX6_every 10 = .ok (.getfield 142, 3) := dk_180 0 142 (dk_at dksX6_every_0 10 rfl rfl)
theorem dX6_every_13 : decode cX6_every 13 = .ok (.iconst 5, 1) := dk_8 (dk_at dksX6_every_0 13 rfl rfl)
theorem dX6_every_14 : decode cX6_every 14 = .ok (.if_icmp .ne 26, 3) := dk_160 0 26 (dk_at dksX6_every_0 14 rfl rfl)
theorem dX6_every_17 : decode cX6_every 17 = .ok (.aload_n 0, 1) := dk_42 (dk_at dksX6_every_0 17 rfl rfl)
theorem dX6_every_18 : decode cX6_every 18 = .ok (.invokevirtual 167, 3) := dk_182 0 167 (dk_at dksX6_every_0 18 rfl rfl)
theorem dX6_every_21 : decode cX6_every 21 = .ok (.aload_n 0, 1) := dk_42 (dk_at dksX6_every_0 21 rfl rfl)
theorem dX6_every_22 : decode cX6_every 22 = .ok (.invokevirtual 190, 3) := dk_182 0 190 (dk_at dksX6_every_1 0 rfl rfl)
theorem dX6_every_25 : decode cX6_every 25 = .ok (.ifCond .ne 5, 3) := dk_154 0 5 (dk_at dksX6_every_1 3 rfl rfl)
theorem dX6_every_28 : decode cX6_every 28 = .ok (.iconst 0, 1) := dk_3 (dk_at dksX6_every_1 6 rfl rfl)
theorem dX6_every_29 : decode cX6_every 29 = .ok (.ireturn, 1) := dk_172 (dk_at dksX6_every_1 7 rfl rfl)
theorem dX6_every_30 : decode cX6_every 30 = .ok (.aload_n 0, 1) := dk_42 (dk_at dksX6_every_1 8 rfl rfl)
theorem dX6_every_31 : decode cX6_every 31 = .ok (.bipush 21, 2) := dk_16 21 (dk_at dksX6_every_1 9 rfl rfl)
theorem dX6_every_33 : decode cX6_every 33 = .ok (.iconst 0, 1) := dk_3 (dk_at dksX6_every_1 11 rfl rfl)
theorem dX6_every_34 : decode cX6_every 34 = .ok (.invokevirtual 180, 3) := dk_182 0 180 (dk_at dksX6_every_1 12 rfl rfl)
theorem dX6_every_37 : decode cX6_every 37 = .ok (.goto (-28), 3) := dk_167 255 228 (dk_at dksX6_every_1 15 rfl rfl)
theorem dX6_every_40 : decode cX6_every 40 = .ok (.iconst 1, 1) := dk_4 (dk_at dksX6_every_1 18 rfl rfl)
theorem dX6_every_41 : decode cX6_every 41 = .ok (.ireturn, 1) := dk_172 (dk_at dksX6_every_1 19 rfl rfl)
abbrev cX6_oneTest : ByteArray := prog_15_method_32_code
def yX6_oneTest : MethodName := ⟨RX6, "oneTest", "()Z"⟩
def dkwX6_oneTest_7 : List UInt8 := [154, 0, 5, 3, 172, 42, 27, 3, 182, 0, 180, 4, 172]
abbrev dktX6_oneTest_7 : List UInt8 := dkwX6_oneTest_7 ++ []
def dkwX6_oneTest_6 : List UInt8 := [167, 0, 4, 2, 60, 27, 2, 160, 0, 9, 42, 4, 182, 0, 164, 172, 42, 182, 0, 167, 42, 182, 0, 202]
abbrev dktX6_oneTest_6 : List UInt8 := dkwX6_oneTest_6 ++ dktX6_oneTest_7
def dkwX6_oneTest_5 : List UInt8 := [17, 0, 161, 160, 0, 8, 16, 18, 167, 0, 19, 42, 180, 0, 142, 17, 0, 162, 160, 0, 8, 16, 19]
abbrev dktX6_oneTest_5 : List UInt8 := dkwX6_oneTest_5 ++ dktX6_oneTest_6
def dkwX6_oneTest_4 : List UInt8 := [154, 0, 5, 3, 172, 42, 180, 0, 142, 17, 0, 160, 160, 0, 8, 16, 17, 167, 0, 34, 42, 180, 0, 142]
abbrev dktX6_oneTest_4 : List UInt8 := dkwX6_oneTest_4 ++ dktX6_oneTest_5
def dkwX6_oneTest_3 : List UInt8 := [182, 0, 199, 154, 0, 5, 3, 172, 42, 89, 180, 0, 173, 4, 100, 181, 0, 173, 4, 172, 42, 182, 0, 202]
abbrev dktX6_oneTest_3 : List UInt8 := dkwX6_oneTest_3 ++ dktX6_oneTest_4
def dkwX6_oneTest_2 : List UInt8 := [17, 0, 140, 160, 0, 41, 42, 182, 0, 193, 153, 0, 20, 42, 182, 0, 196, 153, 0, 13, 42, 17, 0, 141]
abbrev dktX6_oneTest_2 : List UInt8 := dkwX6_oneTest_2 ++ dktX6_oneTest_3
def dkwX6_oneTest_1 : List UInt8 := [172, 42, 89, 180, 0, 173, 4, 100, 181, 0, 173, 42, 16, 20, 3, 182, 0, 180, 4, 172, 42, 180, 0, 142]
abbrev dktX6_oneTest_1 : List UInt8 := dkwX6_oneTest_1 ++ dktX6_oneTest_2
def dkwX6_oneTest_0 : List UInt8 := [42, 180, 0, 142, 16, 6, 160, 0, 38, 42, 182, 0, 193, 153, 0, 10, 42, 182, 0, 190, 154, 0, 5, 3]
abbrev dktX6_oneTest_0 : List UInt8 := dkwX6_oneTest_0 ++ dktX6_oneTest_1
theorem dksX6_oneTest_0 : cX6_oneTest.data.toList.drop 0 = dktX6_oneTest_0 := by decide +kernel
theorem dksX6_oneTest_1 : cX6_oneTest.data.toList.drop 24 = dktX6_oneTest_1 := dk_seg dksX6_oneTest_0 24 rfl rfl
theorem dksX6_oneTest_2 : cX6_oneTest.data.toList.drop 48 = dktX6_oneTest_2 := dk_seg dksX6_oneTest_1 24 rfl rfl
theorem dksX6_oneTest_3 : cX6_oneTest.data.toList.drop 72 = dktX6_oneTest_3 := dk_seg dksX6_oneTest_2 24 rfl rfl
theorem dksX6_oneTest_4 : cX6_oneTest.data.toList.drop 96 = dktX6_oneTest_4 := dk_seg dksX6_oneTest_3 24 rfl rfl
theorem dksX6_oneTest_5 : cX6_oneTest.data.toList.drop 120 = dktX6_oneTest_5 := dk_seg dksX6_oneTest_4 24 rfl rfl
theorem dksX6_oneTest_6 : cX6_oneTest.data.toList.drop 143 = dktX6_oneTest_6 := dk_seg dksX6_oneTest_5 23 rfl rfl
theorem dksX6_oneTest_7 : cX6_oneTest.data.toList.drop 167 = dktX6_oneTest_7 := dk_seg dksX6_oneTest_6 24 rfl rfl
theorem dX6_oneTest_0 : decode cX6_oneTest 0 = .ok (.aload_n 0, 1) := dk_42 (dk_at dksX6_oneTest_0 0 rfl rfl)
theorem dX6_oneTest_1 : decode cX6_oneTest 1 = .ok (.getfield 142, 3) := dk_180 0 142 (dk_at dksX6_oneTest_0 1 rfl rfl)
theorem dX6_oneTest_4 : decode cX6_oneTest 4 = .ok (.bipush 6, 2) := dk_16 6 (dk_at dksX6_oneTest_0 4 rfl rfl)
theorem dX6_oneTest_6 : decode cX6_oneTest 6 = .ok (.if_icmp .ne 38, 3) := dk_160 0 38 (dk_at dksX6_oneTest_0 6 rfl rfl)
theorem dX6_oneTest_9 : decode cX6_oneTest 9 = .ok (.aload_n 0, 1) := dk_42 (dk_at dksX6_oneTest_0 9 rfl rfl)
theorem dX6_oneTest_10 : decode cX6_oneTest 10 = .ok (.invokevirtual 193, 3) := dk_182 0 193 (dk_at dksX6_oneTest_0 10 rfl rfl)
theorem dX6_oneTest_13 : decode cX6_oneTest 13 = .ok (.ifCond .eq 10, 3) := dk_153 0 10 (dk_at dksX6_oneTest_0 13 rfl rfl)
theorem dX6_oneTest_16 : decode cX6_oneTest 16 = .ok (.aload_n 0, 1) := dk_42 (dk_at dksX6_oneTest_0 16 rfl rfl)
theorem dX6_oneTest_17 : decode cX6_oneTest 17 = .ok (.invokevirtual 190, 3) := dk_182 0 190 (dk_at dksX6_oneTest_0 17 rfl rfl)
theorem dX6_oneTest_20 : decode cX6_oneTest 20 = .ok (.ifCond .ne 5, 3) := dk_154 0 5 (dk_at dksX6_oneTest_0 20 rfl rfl)
theorem dX6_oneTest_23 : decode cX6_oneTest 23 = .ok (.iconst 0, 1) := dk_3 (dk_at dksX6_oneTest_0 23 rfl rfl)
theorem dX6_oneTest_24 : decode cX6_oneTest 24 = .ok (.ireturn, 1) := dk_172 (dk_at dksX6_oneTest_1 0 rfl rfl)
theorem dX6_oneTest_25 : decode cX6_oneTest 25 = .ok (.aload_n 0, 1) := dk_42 (dk_at dksX6_oneTest_1 1 rfl rfl)
theorem dX6_oneTest_26 : decode cX6_oneTest 26 = .ok (.dup, 1) := dk_89 (dk_at dksX6_oneTest_1 2 rfl rfl)
theorem dX6_oneTest_27 : decode cX6_oneTest 27 = .ok (.getfield 173, 3) := dk_180 0 173 (dk_at dksX6_oneTest_1 3 rfl rfl)
theorem dX6_oneTest_30 : decode cX6_oneTest 30 = .ok (.iconst 1, 1) := dk_4 (dk_at dksX6_oneTest_1 6 rfl rfl)
theorem dX6_oneTest_31 : decode cX6_oneTest 31 = .ok (.isub, 1) := dk_100 (dk_at dksX6_oneTest_1 7 rfl rfl)
theorem dX6_oneTest_32 : decode cX6_oneTest 32 = .ok (.putfield 173, 3) := dk_181 0 173 (dk_at dksX6_oneTest_1 8 rfl rfl)
theorem dX6_oneTest_35 : decode cX6_oneTest 35 = .ok (.aload_n 0, 1) := dk_42 (dk_at dksX6_oneTest_1 11 rfl rfl)
theorem dX6_oneTest_36 : decode cX6_oneTest 36 = .ok (.bipush 20, 2) := dk_16 20 (dk_at dksX6_oneTest_1 12 rfl rfl)
theorem dX6_oneTest_38 : decode cX6_oneTest 38 = .ok (.iconst 0, 1) := dk_3 (dk_at dksX6_oneTest_1 14 rfl rfl)
theorem dX6_oneTest_39 : decode cX6_oneTest 39 = .ok (.invokevirtual 180, 3) := dk_182 0 180 (dk_at dksX6_oneTest_1 15 rfl rfl)
theorem dX6_oneTest_42 : decode cX6_oneTest 42 = .ok (.iconst 1, 1) := dk_4 (dk_at dksX6_oneTest_1 18 rfl rfl)
theorem dX6_oneTest_43 : decode cX6_oneTest 43 = .ok (.ireturn, 1) := dk_172 (dk_at dksX6_oneTest_1 19 rfl rfl)
theorem dX6_oneTest_44 : decode cX6_oneTest 44 = .ok (.aload_n 0, 1) := dk_42 (dk_at dksX6_oneTest_1 20 rfl rfl)
theorem dX6_oneTest_45 : decode cX6_oneTest 45 = .ok (.getfield 142, 3) := dk_180 0 142 (dk_at dksX6_oneTest_1 21 rfl rfl)
theorem dX6_oneTest_48 : decode cX6_oneTest 48 = .ok (.sipush 140, 3) := dk_17 0 140 (dk_at dksX6_oneTest_2 0 rfl rfl)
theorem dX6_oneTest_51 : decode cX6_oneTest 51 = .ok (.if_icmp .ne 41, 3) := dk_160 0 41 (dk_at dksX6_oneTest_2 3 rfl rfl)
theorem dX6_oneTest_54 : decode cX6_oneTest 54 = .ok (.aload_n 0, 1) := dk_42 (dk_at dksX6_oneTest_2 6 rfl rfl)
theorem dX6_oneTest_55 : decode cX6_oneTest 55 = .ok (.invokevirtual 193, 3) := dk_182 0 193 (dk_at dksX6_oneTest_2 7 rfl rfl)
theorem dX6_oneTest_58 : decode cX6_oneTest 58 = .ok (.ifCond .eq 20, 3) := dk_153 0 20 (dk_at dksX6_oneTest_2 10 rfl rfl)
theorem dX6_oneTest_61 : decode cX6_oneTest 61 = .ok (.aload_n 0, 1) := dk_42 (dk_at dksX6_oneTest_2 13 rfl rfl)
theorem dX6_oneTest_62 : decode cX6_oneTest 62 = .ok (.invokevirtual 196, 3) := dk_182 0 196 (dk_at dksX6_oneTest_2 14 rfl rfl)
theorem dX6_oneTest_65 : decode cX6_oneTest 65 = .ok (.ifCond .eq 13, 3) := dk_153 0 13 (dk_at dksX6_oneTest_2 17 rfl rfl)
theorem dX6_oneTest_68 : decode cX6_oneTest 68 = .ok (.aload_n 0, 1) := dk_42 (dk_at dksX6_oneTest_2 20 rfl rfl)
theorem dX6_oneTest_69 : decode cX6_oneTest 69 = .ok (.sipush 141, 3) := dk_17 0 141 (dk_at dksX6_oneTest_2 21 rfl rfl)
theorem dX6_oneTest_72 : decode cX6_oneTest 72 = .ok (.invokevirtual 199, 3) := dk_182 0 199 (dk_at dksX6_oneTest_3 0 rfl rfl)
theorem dX6_oneTest_75 : decode cX6_oneTest 75 = .ok (.ifCond .ne 5, 3) := dk_154 0 5 (dk_at dksX6_oneTest_3 3 rfl rfl)
theorem dX6_oneTest_78 : decode cX6_oneTest 78 = .ok (.iconst 0, 1) := dk_3 (dk_at dksX6_oneTest_3 6 rfl rfl)
theorem dX6_oneTest_79 : decode cX6_oneTest 79 = .ok (.ireturn, 1) := dk_172 (dk_at dksX6_oneTest_3 7 rfl rfl)
theorem dX6_oneTest_80 : decode cX6_oneTest 80 = .ok (.aload_n 0, 1) := dk_42 (dk_at dksX6_oneTest_3 8 rfl rfl)
theorem dX6_oneTest_81 : decode cX6_oneTest 81 = .ok (.dup, 1) := dk_89 (dk_at dksX6_oneTest_3 9 rfl rfl)
theorem dX6_oneTest_82 : decode cX6_oneTest 82 = .ok (.getfield 173, 3) := dk_180 0 173 (dk_at dksX6_oneTest_3 10 rfl rfl)
theorem dX6_oneTest_85 : decode cX6_oneTest 85 = .ok (.iconst 1, 1) := dk_4 (dk_at dksX6_oneTest_3 13 rfl rfl)
theorem dX6_oneTest_86 : decode cX6_oneTest 86 = .ok (.isub, 1) := dk_100 (dk_at dksX6_oneTest_3 14 rfl rfl)
theorem dX6_oneTest_87 : decode cX6_oneTest 87 = .ok (.putfield 173, 3) := dk_181 0 173 (dk_at dksX6_oneTest_3 15 rfl rfl)
theorem dX6_oneTest_90 : decode cX6_oneTest 90 = .ok (.iconst 1, 1) := dk_4 (dk_at dksX6_oneTest_3 18 rfl rfl)
theorem dX6_oneTest_91 : decode cX6_oneTest 91 = .ok (.ireturn, 1) := dk_172 (dk_at dksX6_oneTest_3 19 rfl rfl)
theorem dX6_oneTest_92 : decode cX6_oneTest 92 = .ok (.aload_n 0, 1) := dk_42 (dk_at dksX6_oneTest_3 20 rfl rfl)
theorem dX6_oneTest_93 : decode cX6_oneTest 93 = .ok (.invokevirtual 202, 3) := dk_182 0 202 (dk_at dksX6_oneTest_3 21 rfl rfl)
theorem dX6_oneTest_96 : decode cX6_oneTest 96 = .ok (.ifCond .ne 5, 3) := dk_154 0 5 (dk_at dksX6_oneTest_4 0 rfl rfl)
theorem dX6_oneTest_99 : decode cX6_oneTest 99 = .ok (.iconst 0, 1) := dk_3 (dk_at dksX6_oneTest_4 3 rfl rfl)
theorem dX6_oneTest_100 : decode cX6_oneTest 100 = .ok (.ireturn, 1) := dk_172 (dk_at dksX6_oneTest_4 4 rfl rfl)
theorem dX6_oneTest_101 : decode cX6_oneTest 101 = .ok (.aload_n 0, 1) := dk_42 (dk_at dksX6_oneTest_4 5 rfl rfl)
theorem dX6_oneTest_102 : decode cX6_oneTest 102 = .ok (.getfield 142, 3) := dk_180 0 142 (dk_at dksX6_oneTest_4 6 rfl rfl)
theorem dX6_oneTest_105 : decode cX6_oneTest 105 = .ok (.sipush 160, 3) := dk_17 0 160 (dk_at dksX6_oneTest_4 9 rfl rfl)
theorem dX6_oneTest_108 : decode cX6_oneTest 108 = .ok (.if_icmp .ne 8, 3) := dk_160 0 8 (dk_at dksX6_oneTest_4 12 rfl rfl)
theorem dX6_oneTest_111 : decode cX6_oneTest 111 = .ok (.bipush 17, 2) := dk_16 17 (dk_at dksX6_oneTest_4 15 rfl rfl)
theorem dX6_oneTest_113 : decode cX6_oneTest 113 = .ok (.goto 34, 3) := dk_167 0 34 (dk_at dksX6_oneTest_4 17 rfl rfl)
theorem dX6_oneTest_116 : decode cX6_oneTest 116 = .ok (.aload_n 0, 1) := dk_42 (dk_at dksX6_oneTest_4 20 rfl rfl)
theorem dX6_oneTest_117 : decode cX6_oneTest 117 = .ok (.getfield 142, 3) := dk_180 0 142 (dk_at dksX6_oneTest_4 21 rfl rfl)
theorem dX6_oneTest_120 : decode cX6_oneTest 120 = .ok (.sipush 161, 3) := dk_17 0 161 (dk_at dksX6_oneTest_5 0 rfl rfl)
theorem dX6_oneTest_123 : decode cX6_oneTest 123 = .ok (.if_icmp .ne 8, 3) := dk_160 0 8 (dk_at dksX6_oneTest_5 3 rfl rfl)
theorem dX6_oneTest_126 : decode cX6_oneTest 126 = .ok (.bipush 18, 2) := dk_16 18 (dk_at dksX6_oneTest_5 6 rfl rfl)
theorem dX6_oneTest_128 : decode cX6_oneTest 128 = .ok (.goto 19, 3) := dk_167 0 19 (dk_at dksX6_oneTest_5 8 rfl rfl)
theorem dX6_oneTest_131 : decode cX6_oneTest 131 = .ok (.aload_n 0, 1) := dk_42 (dk_at dksX6_oneTest_5 11 rfl rfl)
theorem dX6_oneTest_132 : decode cX6_oneTest 132 = .ok (.getfield 142, 3) := dk_180 0 142 (dk_at dksX6_oneTest_5 12 rfl rfl)
theorem dX6_oneTest_135 : decode cX6_oneTest 135 = .ok (.sipush 162, 3) := dk_17 0 162 (dk_at dksX6_oneTest_5 15 rfl rfl)
theorem dX6_oneTest_138 : decode cX6_oneTest 138 = .ok (.if_icmp .ne 8, 3) := dk_160 0 8 (dk_at dksX6_oneTest_5 18 rfl rfl)
theorem dX6_oneTest_141 : decode cX6_oneTest 141 = .ok (.bipush 19, 2) := dk_16 19 (dk_at dksX6_oneTest_5 21 rfl rfl)
theorem dX6_oneTest_143 : decode cX6_oneTest 143 = .ok (.goto 4, 3) := dk_167 0 4 (dk_at dksX6_oneTest_6 0 rfl rfl)
theorem dX6_oneTest_146 : decode cX6_oneTest 146 = .ok (.iconst (-1), 1) := dk_2 (dk_at dksX6_oneTest_6 3 rfl rfl)
theorem dX6_oneTest_147 : decode cX6_oneTest 147 = .ok (.istore_n 1, 1) := dk_60 (dk_at dksX6_oneTest_6 4 rfl rfl)
theorem dX6_oneTest_148 : decode cX6_oneTest 148 = .ok (.iload_n 1, 1) := dk_27 (dk_at dksX6_oneTest_6 5 rfl rfl)
theorem dX6_oneTest_149 : decode cX6_oneTest 149 = .ok (.iconst (-1), 1) := dk_2 (dk_at dksX6_oneTest_6 6 rfl rfl)
theorem dX6_oneTest_150 : decode cX6_oneTest 150 = .ok (.if_icmp .ne 9, 3) := dk_160 0 9 (dk_at dksX6_oneTest_6 7 rfl rfl)
theorem dX6_oneTest_153 : decode cX6_oneTest 153 = .ok (.aload_n 0, 1) := dk_42 (dk_at dksX6_oneTest_6 10 rfl rfl)
theorem dX6_oneTest_154 : decode cX6_oneTest 154 = .ok (.iconst 1, 1) := dk_4 (dk_at dksX6_oneTest_6 11 rfl rfl)
theorem dX6_oneTest_155 : decode cX6_oneTest 155 = .ok (.invokevirtual 164, 3) := dk_182 0 164 (dk_at dksX6_oneTest_6 12 rfl rfl)
theorem dX6_oneTest_158 : decode cX6_oneTest 158 = .ok (.ireturn, 1) := dk_172 (dk_at dksX6_oneTest_6 15 rfl rfl)
theorem dX6_oneTest_159 : decode cX6_oneTest 159 = .ok (.aload_n 0, 1) := dk_42 (dk_at dksX6_oneTest_6 16 rfl rfl)
theorem dX6_oneTest_160 : decode cX6_oneTest 160 = .ok (.invokevirtual 167, 3) := dk_182 0 167 (dk_at dksX6_oneTest_6 17 rfl rfl)
theorem dX6_oneTest_163 : decode cX6_oneTest 163 = .ok (.aload_n 0, 1) := dk_42 (dk_at dksX6_oneTest_6 20 rfl rfl)
theorem dX6_oneTest_164 : decode cX6_oneTest 164 = .ok (.invokevirtual 202, 3) := dk_182 0 202 (dk_at dksX6_oneTest_6 21 rfl rfl)
theorem dX6_oneTest_167 : decode cX6_oneTest 167 = .ok (.ifCond .ne 5, 3) := dk_154 0 5 (dk_at dksX6_oneTest_7 0 rfl rfl)
theorem dX6_oneTest_170 : decode cX6_oneTest 170 = .ok (.iconst 0, 1) := dk_3 (dk_at dksX6_oneTest_7 3 rfl rfl)
theorem dX6_oneTest_171 : decode cX6_oneTest 171 = .ok (.ireturn, 1) := dk_172 (dk_at dksX6_oneTest_7 4 rfl rfl)
theorem dX6_oneTest_172 : decode cX6_oneTest 172 = .ok (.aload_n 0, 1) := dk_42 (dk_at dksX6_oneTest_7 5 rfl rfl)
theorem dX6_oneTest_173 : decode cX6_oneTest 173 = .ok (.iload_n 1, 1) := dk_27 (dk_at dksX6_oneTest_7 6 rfl rfl)
theorem dX6_oneTest_174 : decode cX6_oneTest 174 = .ok (.iconst 0, 1) := dk_3 (dk_at dksX6_oneTest_7 7 rfl rfl)
theorem dX6_oneTest_175 : decode cX6_oneTest 175 = .ok (.invokevirtual 180, 3) := dk_182 0 180 (dk_at dksX6_oneTest_7 8 rfl rfl)
theorem dX6_oneTest_178 : decode cX6_oneTest 178 = .ok (.iconst 1, 1) := dk_4 (dk_at dksX6_oneTest_7 11 rfl rfl)
theorem dX6_oneTest_179 : decode cX6_oneTest 179 = .ok (.ireturn, 1) := dk_172 (dk_at dksX6_oneTest_7 12 rfl rfl)
abbrev cX6_opens : ByteArray := prog_15_method_26_code
def yX6_opens : MethodName := ⟨RX6, "opens", "()Z"⟩
def dkwX6_opens_1 : List UInt8 := [181, 0, 173, 42, 182, 0, 167, 4, 172]
abbrev dktX6_opens_1 : List UInt8 := dkwX6_opens_1 ++ []
def dkwX6_opens_0 : List UInt8 := [42, 180, 0, 173, 16, 8, 160, 0, 9, 42, 6, 182, 0, 164, 172, 42, 89, 180, 0, 173, 4, 96]
abbrev dktX6_opens_0 : List UInt8 := dkwX6_opens_0 ++ dktX6_opens_1
theorem dksX6_opens_0 : cX6_opens.data.toList.drop 0 = dktX6_opens_0 := by decide +kernel
theorem dksX6_opens_1 : cX6_opens.data.toList.drop 22 = dktX6_opens_1 := dk_seg dksX6_opens_0 22 rfl rfl
theorem dX6_opens_0 : decode cX6_opens 0 = .ok (.aload_n 0, 1) := dk_42 (dk_at dksX6_opens_0 0 rfl rfl)
theorem dX6_opens_1 : decode cX6_opens 1 = .ok (.getfield 173, 3) := dk_180 0 173 (dk_at dksX6_opens_0 1 rfl rfl)
theorem dX6_opens_4 : decode cX6_opens 4 = .ok (.bipush 8, 2) := dk_16 8 (dk_at dksX6_opens_0 4 rfl rfl)
theorem dX6_opens_6 : decode cX6_opens 6 = .ok (.if_icmp .ne 9, 3) := dk_160 0 9 (dk_at dksX6_opens_0 6 rfl rfl)
theorem dX6_opens_9 : decode cX6_opens 9 = .ok (.aload_n 0, 1) := dk_42 (dk_at dksX6_opens_0 9 rfl rfl)
theorem dX6_opens_10 : decode cX6_opens 10 = .ok (.iconst 3, 1) := dk_6 (dk_at dksX6_opens_0 10 rfl rfl)
theorem dX6_opens_11 : decode cX6_opens 11 = .ok (.invokevirtual 164, 3) := dk_182 0 164 (dk_at dksX6_opens_0 11 rfl rfl)
theorem dX6_opens_14 : decode cX6_opens 14 = .ok (.ireturn, 1) := dk_172 (dk_at dksX6_opens_0 14 rfl rfl)
theorem dX6_opens_15 : decode cX6_opens 15 = .ok (.aload_n 0, 1) := dk_42 (dk_at dksX6_opens_0 15 rfl rfl)
theorem dX6_opens_16 : decode cX6_opens 16 = .ok (.dup, 1) := dk_89 (dk_at dksX6_opens_0 16 rfl rfl)
theorem dX6_opens_17 : decode cX6_opens 17 = .ok (.getfield 173, 3) := dk_180 0 173 (dk_at dksX6_opens_0 17 rfl rfl)
theorem dX6_opens_20 : decode cX6_opens 20 = .ok (.iconst 1, 1) := dk_4 (dk_at dksX6_opens_0 20 rfl rfl)
theorem dX6_opens_21 : decode cX6_opens 21 = .ok (.iadd, 1) := dk_96 (dk_at dksX6_opens_0 21 rfl rfl)
theorem dX6_opens_22 : decode cX6_opens 22 = .ok (.putfield 173, 3) := dk_181 0 173 (dk_at dksX6_opens_1 0 rfl rfl)
theorem dX6_opens_25 : decode cX6_opens 25 = .ok (.aload_n 0, 1) := dk_42 (dk_at dksX6_opens_1 3 rfl rfl)
theorem dX6_opens_26 : decode cX6_opens 26 = .ok (.invokevirtual 167, 3) := dk_182 0 167 (dk_at dksX6_opens_1 4 rfl rfl)
theorem dX6_opens_29 : decode cX6_opens 29 = .ok (.iconst 1, 1) := dk_4 (dk_at dksX6_opens_1 7 rfl rfl)
theorem dX6_opens_30 : decode cX6_opens 30 = .ok (.ireturn, 1) := dk_172 (dk_at dksX6_opens_1 8 rfl rfl)
abbrev cX6_need : ByteArray := prog_15_method_23_code
def yX6_need : MethodName := ⟨RX6, "need", "(I)Z"⟩
def dkwX6_need_0 : List UInt8 := [42, 180, 0, 142, 27, 159, 0, 9, 42, 4, 182, 0, 164, 172, 42, 182, 0, 167, 4, 172]
abbrev dktX6_need_0 : List UInt8 := dkwX6_need_0 ++ []
theorem dksX6_need_0 : cX6_need.data.toList.drop 0 = dktX6_need_0 := by decide +kernel
theorem dX6_need_0 : decode cX6_need 0 = .ok (.aload_n 0, 1) := dk_42 (dk_at dksX6_need_0 0 rfl rfl)
theorem dX6_need_1 : decode cX6_need 1 = .ok (.getfield 142, 3) := dk_180 0 142 (dk_at dksX6_need_0 1 rfl rfl)
theorem dX6_need_4 : decode cX6_need 4 = .ok (.iload_n 1, 1) := dk_27 (dk_at dksX6_need_0 4 rfl rfl)
theorem dX6_need_5 : decode cX6_need 5 = .ok (.if_icmp .eq 9, 3) := dk_159 0 9 (dk_at dksX6_need_0 5 rfl rfl)
theorem dX6_need_8 : decode cX6_need 8 = .ok (.aload_n 0, 1) := dk_42 (dk_at dksX6_need_0 8 rfl rfl)
theorem dX6_need_9 : decode cX6_need 9 = .ok (.iconst 1, 1) := dk_4 (dk_at dksX6_need_0 9 rfl rfl)
theorem dX6_need_10 : decode cX6_need 10 = .ok (.invokevirtual 164, 3) := dk_182 0 164 (dk_at dksX6_need_0 10 rfl rfl)
theorem dX6_need_13 : decode cX6_need 13 = .ok (.ireturn, 1) := dk_172 (dk_at dksX6_need_0 13 rfl rfl)
theorem dX6_need_14 : decode cX6_need 14 = .ok (.aload_n 0, 1) := dk_42 (dk_at dksX6_need_0 14 rfl rfl)
theorem dX6_need_15 : decode cX6_need 15 = .ok (.invokevirtual 167, 3) := dk_182 0 167 (dk_at dksX6_need_0 15 rfl rfl)
theorem dX6_need_18 : decode cX6_need 18 = .ok (.iconst 1, 1) := dk_4 (dk_at dksX6_need_0 18 rfl rfl)
theorem dX6_need_19 : decode cX6_need 19 = .ok (.ireturn, 1) := dk_172 (dk_at dksX6_need_0 19 rfl rfl)
abbrev cX6_aTowerLine : ByteArray := prog_15_method_37_code
def yX6_aTowerLine : MethodName := ⟨RX6, "aTowerLine", "()Z"⟩
def dkwX6_aTowerLine_5 : List UInt8 := [153, 0, 7, 4, 167, 0, 4, 3, 172]
abbrev dktX6_aTowerLine_5 : List UInt8 := dkwX6_aTowerLine_5 ++ []
def dkwX6_aTowerLine_4 : List UInt8 := [42, 182, 0, 220, 167, 0, 7, 42, 182, 0, 223, 60, 27, 153, 0, 17, 42, 17, 0, 159, 182, 0, 199]
abbrev dktX6_aTowerLine_4 : List UInt8 := dkwX6_aTowerLine_4 ++ dktX6_aTowerLine_5
def dkwX6_aTowerLine_3 : List UInt8 := [180, 0, 142, 16, 30, 160, 0, 10, 42, 182, 0, 218, 167, 0, 23, 42, 180, 0, 142, 16, 31, 160, 0, 10]
abbrev dktX6_aTowerLine_3 : List UInt8 := dkwX6_aTowerLine_3 ++ dktX6_aTowerLine_4
def dkwX6_aTowerLine_2 : List UInt8 := [180, 0, 142, 16, 30, 159, 0, 10, 42, 180, 0, 208, 153, 0, 9, 42, 6, 182, 0, 164, 172, 42]
abbrev dktX6_aTowerLine_2 : List UInt8 := dkwX6_aTowerLine_2 ++ dktX6_aTowerLine_3
def dkwX6_aTowerLine_1 : List UInt8 := [16, 40, 160, 0, 41, 42, 180, 0, 142, 16, 30, 160, 0, 10, 42, 180, 0, 208, 157, 0, 25, 42]
abbrev dktX6_aTowerLine_1 : List UInt8 := dkwX6_aTowerLine_1 ++ dktX6_aTowerLine_2
def dkwX6_aTowerLine_0 : List UInt8 := [42, 180, 0, 142, 16, 30, 16, 32, 184, 0, 66, 154, 0, 9, 42, 4, 182, 0, 164, 172, 42, 180, 0, 205]
abbrev dktX6_aTowerLine_0 : List UInt8 := dkwX6_aTowerLine_0 ++ dktX6_aTowerLine_1
theorem dksX6_aTowerLine_0 : cX6_aTowerLine.data.toList.drop 0 = dktX6_aTowerLine_0 := by decide +kernel
theorem dksX6_aTowerLine_1 : cX6_aTowerLine.data.toList.drop 24 = dktX6_aTowerLine_1 := dk_seg dksX6_aTowerLine_0 24 rfl rfl
theorem dksX6_aTowerLine_2 : cX6_aTowerLine.data.toList.drop 46 = dktX6_aTowerLine_2 := dk_seg dksX6_aTowerLine_1 22 rfl rfl
theorem dksX6_aTowerLine_3 : cX6_aTowerLine.data.toList.drop 68 = dktX6_aTowerLine_3 := dk_seg dksX6_aTowerLine_2 22 rfl rfl
theorem dksX6_aTowerLine_4 : cX6_aTowerLine.data.toList.drop 92 = dktX6_aTowerLine_4 := dk_seg dksX6_aTowerLine_3 24 rfl rfl
theorem dksX6_aTowerLine_5 : cX6_aTowerLine.data.toList.drop 115 = dktX6_aTowerLine_5 := dk_seg dksX6_aTowerLine_4 23 rfl rfl
theorem dX6_aTowerLine_0 : decode cX6_aTowerLine 0 = .ok (.aload_n 0, 1) := dk_42 (dk_at dksX6_aTowerLine_0 0 rfl rfl)
theorem dX6_aTowerLine_1 : decode cX6_aTowerLine 1 = .ok (.getfield 142, 3) := dk_180 0 142 (dk_at dksX6_aTowerLine_0 1 rfl rfl)
theorem dX6_aTowerLine_4 : decode cX6_aTowerLine 4 = .ok (.bipush 30, 2) := dk_16 30 (dk_at dksX6_aTowerLine_0 4 rfl rfl)
theorem dX6_aTowerLine_6 : decode cX6_aTowerLine 6 = .ok (.bipush 32, 2) := dk_16 32 (dk_at dksX6_aTowerLine_0 6 rfl rfl)
theorem dX6_aTowerLine_8 : decode cX6_aTowerLine 8 = .ok (.invokestatic 66, 3) := dk_184 0 66 (dk_at dksX6_aTowerLine_0 8 rfl rfl)
theorem dX6_aTowerLine_11 : decode cX6_aTowerLine 11 = .ok (.ifCond .ne 9, 3) := dk_154 0 9 (dk_at dksX6_aTowerLine_0 11 rfl rfl)
theorem dX6_aTowerLine_14 : decode cX6_aTowerLine 14 = .ok (.aload_n 0, 1) := dk_42 (dk_at dksX6_aTowerLine_0 14 rfl rfl)
theorem dX6_aTowerLine_15 : decode cX6_aTowerLine 15 = .ok (.iconst 1, 1) := dk_4 (dk_at dksX6_aTowerLine_0 15 rfl rfl)
theorem dX6_aTowerLine_16 : decode cX6_aTowerLine 16 = .ok (.invokevirtual 164, 3) := dk_182 0 164 (dk_at dksX6_aTowerLine_0 16 rfl rfl)
theorem dX6_aTowerLine_19 : decode cX6_aTowerLine 19 = .ok (.ireturn, 1) := dk_172 (dk_at dksX6_aTowerLine_0 19 rfl rfl)
theorem dX6_aTowerLine_20 : decode cX6_aTowerLine 20 = .ok (.aload_n 0, 1) := dk_42 (dk_at dksX6_aTowerLine_0 20 rfl rfl)
theorem dX6_aTowerLine_21 : decode cX6_aTowerLine 21 = .ok (.getfield 205, 3) := dk_180 0 205 (dk_at dksX6_aTowerLine_0 21 rfl rfl)
theorem dX6_aTowerLine_24 : decode cX6_aTowerLine 24 = .ok (.bipush 40, 2) := dk_16 40 (dk_at dksX6_aTowerLine_1 0 rfl rfl)
theorem dX6_aTowerLine_26 : decode cX6_aTowerLine 26 = .ok (.if_icmp .ne 41, 3) := dk_160 0 41 (dk_at dksX6_aTowerLine_1 2 rfl rfl)
theorem dX6_aTowerLine_29 : decode cX6_aTowerLine 29 = .ok (.aload_n 0, 1) := dk_42 (dk_at dksX6_aTowerLine_1 5 rfl rfl)
theorem dX6_aTowerLine_30 : decode cX6_aTowerLine 30 = .ok (.getfield 142, 3) := dk_180 0 142 (dk_at dksX6_aTowerLine_1 6 rfl rfl)
theorem dX6_aTowerLine_33 : decode cX6_aTowerLine 33 = .ok (.bipush 30, 2) := dk_16 30 (dk_at dksX6_aTowerLine_1 9 rfl rfl)
theorem dX6_aTowerLine_35 : decode cX6_aTowerLine 35 = .ok (.if_icmp .ne 10, 3) := dk_160 0 10 (dk_at dksX6_aTowerLine_1 11 rfl rfl)
theorem dX6_aTowerLine_38 : decode cX6_aTowerLine 38 = .ok (.aload_n 0, 1) := dk_42 (dk_at dksX6_aTowerLine_1 14 rfl rfl)
theorem dX6_aTowerLine_39 : decode cX6_aTowerLine 39 = .ok (.getfield 208, 3) := dk_180 0 208 (dk_at dksX6_aTowerLine_1 15 rfl rfl)
theorem dX6_aTowerLine_42 : decode cX6_aTowerLine 42 = .ok (.ifCond .gt 25, 3) := dk_157 0 25 (dk_at dksX6_aTowerLine_1 18 rfl rfl)
theorem dX6_aTowerLine_45 : decode cX6_aTowerLine 45 = .ok (.aload_n 0, 1) := dk_42 (dk_at dksX6_aTowerLine_1 21 rfl rfl)
theorem dX6_aTowerLine_46 : decode cX6_aTowerLine 46 = .ok (.getfield 142, 3) := dk_180 0 142 (dk_at dksX6_aTowerLine_2 0 rfl rfl)
theorem dX6_aTowerLine_49 : decode cX6_aTowerLine 49 = .ok (.bipush 30, 2) := dk_16 30 (dk_at dksX6_aTowerLine_2 3 rfl rfl)
theorem dX6_aTowerLine_51 : decode cX6_aTowerLine 51 = .ok (.if_icmp .eq 10, 3) := dk_159 0 10 (dk_at dksX6_aTowerLine_2 5 rfl rfl)
theorem dX6_aTowerLine_54 : decode cX6_aTowerLine 54 = .ok (.aload_n 0, 1) := dk_42 (dk_at dksX6_aTowerLine_2 8 rfl rfl)
theorem dX6_aTowerLine_55 : decode cX6_aTowerLine 55 = .ok (.getfield 208, 3) := dk_180 0 208 (dk_at dksX6_aTowerLine_2 9 rfl rfl)
theorem dX6_aTowerLine_58 : decode cX6_aTowerLine 58 = .ok (.ifCond .eq 9, 3) := dk_153 0 9 (dk_at dksX6_aTowerLine_2 12 rfl rfl)
theorem dX6_aTowerLine_61 : decode cX6_aTowerLine 61 = .ok (.aload_n 0, 1) := dk_42 (dk_at dksX6_aTowerLine_2 15 rfl rfl)
theorem dX6_aTowerLine_62 : decode cX6_aTowerLine 62 = .ok (.iconst 3, 1) := dk_6 (dk_at dksX6_aTowerLine_2 16 rfl rfl)
theorem dX6_aTowerLine_63 : decode cX6_aTowerLine 63 = .ok (.invokevirtual 164, 3) := dk_182 0 164 (dk_at dksX6_aTowerLine_2 17 rfl rfl)
theorem dX6_aTowerLine_66 : decode cX6_aTowerLine 66 = .ok (.ireturn, 1) := dk_172 (dk_at dksX6_aTowerLine_2 20 rfl rfl)
theorem dX6_aTowerLine_67 : decode cX6_aTowerLine 67 = .ok (.aload_n 0, 1) := dk_42 (dk_at dksX6_aTowerLine_2 21 rfl rfl)
theorem dX6_aTowerLine_68 : decode cX6_aTowerLine 68 = .ok (.getfield 142, 3) := dk_180 0 142 (dk_at dksX6_aTowerLine_3 0 rfl rfl)
theorem dX6_aTowerLine_71 : decode cX6_aTowerLine 71 = .ok (.bipush 30, 2) := dk_16 30 (dk_at dksX6_aTowerLine_3 3 rfl rfl)
theorem dX6_aTowerLine_73 : decode cX6_aTowerLine 73 = .ok (.if_icmp .ne 10, 3) := dk_160 0 10 (dk_at dksX6_aTowerLine_3 5 rfl rfl)
theorem dX6_aTowerLine_76 : decode cX6_aTowerLine 76 = .ok (.aload_n 0, 1) := dk_42 (dk_at dksX6_aTowerLine_3 8 rfl rfl)
theorem dX6_aTowerLine_77 : decode cX6_aTowerLine 77 = .ok (.invokevirtual 218, 3) := dk_182 0 218 (dk_at dksX6_aTowerLine_3 9 rfl rfl)
theorem dX6_aTowerLine_80 : decode cX6_aTowerLine 80 = .ok (.goto 23, 3) := dk_167 0 23 (dk_at dksX6_aTowerLine_3 12 rfl rfl)
theorem dX6_aTowerLine_83 : decode cX6_aTowerLine 83 = .ok (.aload_n 0, 1) := dk_42 (dk_at dksX6_aTowerLine_3 15 rfl rfl)
theorem dX6_aTowerLine_84 : decode cX6_aTowerLine 84 = .ok (.getfield 142, 3) := dk_180 0 142 (dk_at dksX6_aTowerLine_3 16 rfl rfl)
theorem dX6_aTowerLine_87 : decode cX6_aTowerLine 87 = .ok (.bipush 31, 2) := dk_16 31 (dk_at dksX6_aTowerLine_3 19 rfl rfl)
theorem dX6_aTowerLine_89 : decode cX6_aTowerLine 89 = .ok (.if_icmp .ne 10, 3) := dk_160 0 10 (dk_at dksX6_aTowerLine_3 21 rfl rfl)
theorem dX6_aTowerLine_92 : decode cX6_aTowerLine 92 = .ok (.aload_n 0, 1) := dk_42 (dk_at dksX6_aTowerLine_4 0 rfl rfl)
theorem dX6_aTowerLine_93 : decode cX6_aTowerLine 93 = .ok (.invokevirtual 220, 3) := dk_182 0 220 (dk_at dksX6_aTowerLine_4 1 rfl rfl)
theorem dX6_aTowerLine_96 : decode cX6_aTowerLine 96 = .ok (.goto 7, 3) := dk_167 0 7 (dk_at dksX6_aTowerLine_4 4 rfl rfl)
theorem dX6_aTowerLine_99 : decode cX6_aTowerLine 99 = .ok (.aload_n 0, 1) := dk_42 (dk_at dksX6_aTowerLine_4 7 rfl rfl)
theorem dX6_aTowerLine_100 : decode cX6_aTowerLine 100 = .ok (.invokevirtual 223, 3) := dk_182 0 223 (dk_at dksX6_aTowerLine_4 8 rfl rfl)
theorem dX6_aTowerLine_103 : decode cX6_aTowerLine 103 = .ok (.istore_n 1, 1) := dk_60 (dk_at dksX6_aTowerLine_4 11 rfl rfl)
theorem dX6_aTowerLine_104 : decode cX6_aTowerLine 104 = .ok (.iload_n 1, 1) := dk_27 (dk_at dksX6_aTowerLine_4 12 rfl rfl)
theorem dX6_aTowerLine_105 : decode cX6_aTowerLine 105 = .ok (.ifCond .eq 17, 3) := dk_153 0 17 (dk_at dksX6_aTowerLine_4 13 rfl rfl)
theorem dX6_aTowerLine_108 : decode cX6_aTowerLine 108 = .ok (.aload_n 0, 1) := dk_42 (dk_at dksX6_aTowerLine_4 16 rfl rfl)
theorem dX6_aTowerLine_109 : decode cX6_aTowerLine 109 = .ok (.sipush 159, 3) := dk_17 0 159 (dk_at dksX6_aTowerLine_4 17 rfl rfl)
theorem dX6_aTowerLine_112 : decode cX6_aTowerLine 112 = .ok (.invokevirtual 199, 3) := dk_182 0 199 (dk_at dksX6_aTowerLine_4 20 rfl rfl)
theorem dX6_aTowerLine_115 : decode cX6_aTowerLine 115 = .ok (.ifCond .eq 7, 3) := dk_153 0 7 (dk_at dksX6_aTowerLine_5 0 rfl rfl)
theorem dX6_aTowerLine_118 : decode cX6_aTowerLine 118 = .ok (.iconst 1, 1) := dk_4 (dk_at dksX6_aTowerLine_5 3 rfl rfl)
theorem dX6_aTowerLine_119 : decode cX6_aTowerLine 119 = .ok (.goto 4, 3) := dk_167 0 4 (dk_at dksX6_aTowerLine_5 4 rfl rfl)
theorem dX6_aTowerLine_122 : decode cX6_aTowerLine 122 = .ok (.iconst 0, 1) := dk_3 (dk_at dksX6_aTowerLine_5 7 rfl rfl)
theorem dX6_aTowerLine_123 : decode cX6_aTowerLine 123 = .ok (.ireturn, 1) := dk_172 (dk_at dksX6_aTowerLine_5 8 rfl rfl)
abbrev cX6_floors : ByteArray := prog_15_method_34_code
def yX6_floors : MethodName := ⟨RX6, "floors", "()Z"⟩
def dkwX6_floors_1 : List UInt8 := [16, 80, 182, 0, 211, 154, 0, 5, 3, 172, 42, 27, 181, 0, 208, 4, 172]
abbrev dktX6_floors_1 : List UInt8 := dkwX6_floors_1 ++ []
def dkwX6_floors_0 : List UInt8 := [42, 180, 0, 208, 158, 0, 9, 42, 4, 182, 0, 164, 172, 42, 182, 0, 167, 42, 180, 0, 155, 60, 42, 5]
abbrev dktX6_floors_0 : List UInt8 := dkwX6_floors_0 ++ dktX6_floors_1
theorem dksX6_floors_0 : cX6_floors.data.toList.drop 0 = dktX6_floors_0 := by decide +kernel
theorem dksX6_floors_1 : cX6_floors.data.toList.drop 24 = dktX6_floors_1 := dk_seg dksX6_floors_0 24 rfl rfl
theorem dX6_floors_0 : decode cX6_floors 0 = .ok (.aload_n 0, 1) := dk_42 (dk_at dksX6_floors_0 0 rfl rfl)
theorem dX6_floors_1 : decode cX6_floors 1 = .ok (.getfield 208, 3) := dk_180 0 208 (dk_at dksX6_floors_0 1 rfl rfl)
theorem dX6_floors_4 : decode cX6_floors 4 = .ok (.ifCond .le 9, 3) := dk_158 0 9 (dk_at dksX6_floors_0 4 rfl rfl)
theorem dX6_floors_7 : decode cX6_floors 7 = .ok (.aload_n 0, 1) := dk_42 (dk_at dksX6_floors_0 7 rfl rfl)
theorem dX6_floors_8 : decode cX6_floors 8 = .ok (.iconst 1, 1) := dk_4 (dk_at dksX6_floors_0 8 rfl rfl)
theorem dX6_floors_9 : decode cX6_floors 9 = .ok (.invokevirtual 164, 3) := dk_182 0 164 (dk_at dksX6_floors_0 9 rfl rfl)
theorem dX6_floors_12 : decode cX6_floors 12 = .ok (.ireturn, 1) := dk_172 (dk_at dksX6_floors_0 12 rfl rfl)
theorem dX6_floors_13 : decode cX6_floors 13 = .ok (.aload_n 0, 1) := dk_42 (dk_at dksX6_floors_0 13 rfl rfl)
theorem dX6_floors_14 : decode cX6_floors 14 = .ok (.invokevirtual 167, 3) := dk_182 0 167 (dk_at dksX6_floors_0 14 rfl rfl)
theorem dX6_floors_17 : decode cX6_floors 17 = .ok (.aload_n 0, 1) := dk_42 (dk_at dksX6_floors_0 17 rfl rfl)
theorem dX6_floors_18 : decode cX6_floors 18 = .ok (.getfield 155, 3) := dk_180 0 155 (dk_at dksX6_floors_0 18 rfl rfl)
theorem dX6_floors_21 : decode cX6_floors 21 = .ok (.istore_n 1, 1) := dk_60 (dk_at dksX6_floors_0 21 rfl rfl)
theorem dX6_floors_22 : decode cX6_floors 22 = .ok (.aload_n 0, 1) := dk_42 (dk_at dksX6_floors_0 22 rfl rfl)
theorem dX6_floors_23 : decode cX6_floors 23 = .ok (.iconst 2, 1) := dk_5 (dk_at dksX6_floors_0 23 rfl rfl)
theorem dX6_floors_24 : decode cX6_floors 24 = .ok (.bipush 80, 2) := dk_16 80 (dk_at dksX6_floors_1 0 rfl rfl)
theorem dX6_floors_26 : decode cX6_floors 26 = .ok (.invokevirtual 211, 3) := dk_182 0 211 (dk_at dksX6_floors_1 2 rfl rfl)
theorem dX6_floors_29 : decode cX6_floors 29 = .ok (.ifCond .ne 5, 3) := dk_154 0 5 (dk_at dksX6_floors_1 5 rfl rfl)
theorem dX6_floors_32 : decode cX6_floors 32 = .ok (.iconst 0, 1) := dk_3 (dk_at dksX6_floors_1 8 rfl rfl)
theorem dX6_floors_33 : decode cX6_floors 33 = .ok (.ireturn, 1) := dk_172 (dk_at dksX6_floors_1 9 rfl rfl)
theorem dX6_floors_34 : decode cX6_floors 34 = .ok (.aload_n 0, 1) := dk_42 (dk_at dksX6_floors_1 10 rfl rfl)
theorem dX6_floors_35 : decode cX6_floors 35 = .ok (.iload_n 1, 1) := dk_27 (dk_at dksX6_floors_1 11 rfl rfl)
theorem dX6_floors_36 : decode cX6_floors 36 = .ok (.putfield 208, 3) := dk_181 0 208 (dk_at dksX6_floors_1 12 rfl rfl)
theorem dX6_floors_39 : decode cX6_floors 39 = .ok (.iconst 1, 1) := dk_4 (dk_at dksX6_floors_1 15 rfl rfl)
theorem dX6_floors_40 : decode cX6_floors 40 = .ok (.ireturn, 1) := dk_172 (dk_at dksX6_floors_1 16 rfl rfl)
abbrev cX6_number : ByteArray := prog_15_method_24_code
def yX6_number : MethodName := ⟨RX6, "number", "(II)Z"⟩
def dkwX6_number_1 : List UInt8 := [154, 0, 9, 42, 5, 182, 0, 164, 172, 42, 182, 0, 167, 4, 172]
abbrev dktX6_number_1 : List UInt8 := dkwX6_number_1 ++ []
def dkwX6_number_0 : List UInt8 := [42, 180, 0, 142, 5, 159, 0, 9, 42, 4, 182, 0, 164, 172, 42, 180, 0, 155, 27, 28, 184, 0, 66]
abbrev dktX6_number_0 : List UInt8 := dkwX6_number_0 ++ dktX6_number_1
theorem dksX6_number_0 : cX6_number.data.toList.drop 0 = dktX6_number_0 := by decide +kernel
theorem dksX6_number_1 : cX6_number.data.toList.drop 23 = dktX6_number_1 := dk_seg dksX6_number_0 23 rfl rfl
theorem dX6_number_0 : decode cX6_number 0 = .ok (.aload_n 0, 1) := dk_42 (dk_at dksX6_number_0 0 rfl rfl)
theorem dX6_number_1 : decode cX6_number 1 = .ok (.getfield 142, 3) := dk_180 0 142 (dk_at dksX6_number_0 1 rfl rfl)
theorem dX6_number_4 : decode cX6_number 4 = .ok (.iconst 2, 1) := dk_5 (dk_at dksX6_number_0 4 rfl rfl)
theorem dX6_number_5 : decode cX6_number 5 = .ok (.if_icmp .eq 9, 3) := dk_159 0 9 (dk_at dksX6_number_0 5 rfl rfl)
theorem dX6_number_8 : decode cX6_number 8 = .ok (.aload_n 0, 1) := dk_42 (dk_at dksX6_number_0 8 rfl rfl)
theorem dX6_number_9 : decode cX6_number 9 = .ok (.iconst 1, 1) := dk_4 (dk_at dksX6_number_0 9 rfl rfl)
theorem dX6_number_10 : decode cX6_number 10 = .ok (.invokevirtual 164, 3) := dk_182 0 164 (dk_at dksX6_number_0 10 rfl rfl)
theorem dX6_number_13 : decode cX6_number 13 = .ok (.ireturn, 1) := dk_172 (dk_at dksX6_number_0 13 rfl rfl)
theorem dX6_number_14 : decode cX6_number 14 = .ok (.aload_n 0, 1) := dk_42 (dk_at dksX6_number_0 14 rfl rfl)
theorem dX6_number_15 : decode cX6_number 15 = .ok (.getfield 155, 3) := dk_180 0 155 (dk_at dksX6_number_0 15 rfl rfl)
theorem dX6_number_18 : decode cX6_number 18 = .ok (.iload_n 1, 1) := dk_27 (dk_at dksX6_number_0 18 rfl rfl)
theorem dX6_number_19 : decode cX6_number 19 = .ok (.iload_n 2, 1) := dk_28 (dk_at dksX6_number_0 19 rfl rfl)
theorem dX6_number_20 : decode cX6_number 20 = .ok (.invokestatic 66, 3) := dk_184 0 66 (dk_at dksX6_number_0 20 rfl rfl)
theorem dX6_number_23 : decode cX6_number 23 = .ok (.ifCond .ne 9, 3) := dk_154 0 9 (dk_at dksX6_number_1 0 rfl rfl)
theorem dX6_number_26 : decode cX6_number 26 = .ok (.aload_n 0, 1) := dk_42 (dk_at dksX6_number_1 3 rfl rfl)
theorem dX6_number_27 : decode cX6_number 27 = .ok (.iconst 2, 1) := dk_5 (dk_at dksX6_number_1 4 rfl rfl)
theorem dX6_number_28 : decode cX6_number 28 = .ok (.invokevirtual 164, 3) := dk_182 0 164 (dk_at dksX6_number_1 5 rfl rfl)
theorem dX6_number_31 : decode cX6_number 31 = .ok (.ireturn, 1) := dk_172 (dk_at dksX6_number_1 8 rfl rfl)
theorem dX6_number_32 : decode cX6_number 32 = .ok (.aload_n 0, 1) := dk_42 (dk_at dksX6_number_1 9 rfl rfl)
theorem dX6_number_33 : decode cX6_number 33 = .ok (.invokevirtual 167, 3) := dk_182 0 167 (dk_at dksX6_number_1 10 rfl rfl)
theorem dX6_number_36 : decode cX6_number 36 = .ok (.iconst 1, 1) := dk_4 (dk_at dksX6_number_1 13 rfl rfl)
theorem dX6_number_37 : decode cX6_number 37 = .ok (.ireturn, 1) := dk_172 (dk_at dksX6_number_1 14 rfl rfl)
abbrev cX6_aCar : ByteArray := prog_15_method_35_code
def yX6_aCar : MethodName := ⟨RX6, "aCar", "()Z"⟩
def dkwX6_aCar_5 : List UInt8 := [96, 181, 0, 215, 4, 172]
abbrev dktX6_aCar_5 : List UInt8 := dkwX6_aCar_5 ++ []
def dkwX6_aCar_4 : List UInt8 := [62, 42, 28, 29, 182, 0, 211, 154, 0, 5, 3, 172, 132, 1, 1, 167, 255, 182, 42, 89, 180, 0, 215, 4]
abbrev dktX6_aCar_4 : List UInt8 := dkwX6_aCar_4 ++ dktX6_aCar_5
def dkwX6_aCar_3 : List UInt8 := [154, 0, 8, 16, 12, 167, 0, 19, 27, 7, 160, 0, 12, 42, 180, 0, 208, 4, 100, 167, 0, 5, 16, 9]
abbrev dktX6_aCar_3 : List UInt8 := dkwX6_aCar_3 ++ dktX6_aCar_4
def dkwX6_aCar_2 : List UInt8 := [180, 0, 215, 104, 27, 96, 42, 180, 0, 155, 79, 27, 6, 162, 0, 7, 4, 167, 0, 4, 3, 61, 27]
abbrev dktX6_aCar_2 : List UInt8 := dkwX6_aCar_2 ++ dktX6_aCar_3
def dkwX6_aCar_1 : List UInt8 := [182, 0, 164, 172, 42, 182, 0, 167, 3, 60, 27, 8, 162, 0, 75, 42, 180, 0, 25, 16, 10, 42]
abbrev dktX6_aCar_1 : List UInt8 := dkwX6_aCar_1 ++ dktX6_aCar_2
def dkwX6_aCar_0 : List UInt8 := [42, 180, 0, 208, 154, 0, 9, 42, 4, 182, 0, 164, 172, 42, 180, 0, 215, 7, 160, 0, 9, 42, 6]
abbrev dktX6_aCar_0 : List UInt8 := dkwX6_aCar_0 ++ dktX6_aCar_1
theorem dksX6_aCar_0 : cX6_aCar.data.toList.drop 0 = dktX6_aCar_0 := by decide +kernel
theorem dksX6_aCar_1 : cX6_aCar.data.toList.drop 23 = dktX6_aCar_1 := dk_seg dksX6_aCar_0 23 rfl rfl
theorem dksX6_aCar_2 : cX6_aCar.data.toList.drop 45 = dktX6_aCar_2 := dk_seg dksX6_aCar_1 22 rfl rfl
theorem dksX6_aCar_3 : cX6_aCar.data.toList.drop 68 = dktX6_aCar_3 := dk_seg dksX6_aCar_2 23 rfl rfl
theorem dksX6_aCar_4 : cX6_aCar.data.toList.drop 92 = dktX6_aCar_4 := dk_seg dksX6_aCar_3 24 rfl rfl
theorem dksX6_aCar_5 : cX6_aCar.data.toList.drop 116 = dktX6_aCar_5 := dk_seg dksX6_aCar_4 24 rfl rfl
theorem dX6_aCar_0 : decode cX6_aCar 0 = .ok (.aload_n 0, 1) := dk_42 (dk_at dksX6_aCar_0 0 rfl rfl)
theorem dX6_aCar_1 : decode cX6_aCar 1 = .ok (.getfield 208, 3) := dk_180 0 208 (dk_at dksX6_aCar_0 1 rfl rfl)
theorem dX6_aCar_4 : decode cX6_aCar 4 = .ok (.ifCond .ne 9, 3) := dk_154 0 9 (dk_at dksX6_aCar_0 4 rfl rfl)
theorem dX6_aCar_7 : decode cX6_aCar 7 = .ok (.aload_n 0, 1) := dk_42 (dk_at dksX6_aCar_0 7 rfl rfl)
theorem dX6_aCar_8 : decode cX6_aCar 8 = .ok (.iconst 1, 1) := dk_4 (dk_at dksX6_aCar_0 8 rfl rfl)
theorem dX6_aCar_9 : decode cX6_aCar 9 = .ok (.invokevirtual 164, 3) := dk_182 0 164 (dk_at dksX6_aCar_0 9 rfl rfl)
theorem dX6_aCar_12 : decode cX6_aCar 12 = .ok (.ireturn, 1) := dk_172 (dk_at dksX6_aCar_0 12 rfl rfl)
theorem dX6_aCar_13 : decode cX6_aCar 13 = .ok (.aload_n 0, 1) := dk_42 (dk_at dksX6_aCar_0 13 rfl rfl)
theorem dX6_aCar_14 : decode cX6_aCar 14 = .ok (.getfield 215, 3) := dk_180 0 215 (dk_at dksX6_aCar_0 14 rfl rfl)
theorem dX6_aCar_17 : decode cX6_aCar 17 = .ok (.iconst 4, 1) := dk_7 (dk_at dksX6_aCar_0 17 rfl rfl)
theorem dX6_aCar_18 : decode cX6_aCar 18 = .ok (.if_icmp .ne 9, 3) := dk_160 0 9 (dk_at dksX6_aCar_0 18 rfl rfl)
theorem dX6_aCar_21 : decode cX6_aCar 21 = .ok (.aload_n 0, 1) := dk_42 (dk_at dksX6_aCar_0 21 rfl rfl)
theorem dX6_aCar_22 : decode cX6_aCar 22 = .ok (.iconst 3, 1) := dk_6 (dk_at dksX6_aCar_0 22 rfl rfl)
theorem dX6_aCar_23 : decode cX6_aCar 23 = .ok (.invokevirtual 164, 3) := dk_182 0 164 (dk_at dksX6_aCar_1 0 rfl rfl)
theorem dX6_aCar_26 : decode cX6_aCar 26 = .ok (.ireturn, 1) := dk_172 (dk_at dksX6_aCar_1 3 rfl rfl)
theorem dX6_aCar_27 : decode cX6_aCar 27 = .ok (.aload_n 0, 1) := dk_42 (dk_at dksX6_aCar_1 4 rfl rfl)
theorem dX6_aCar_28 : decode cX6_aCar 28 = .ok (.invokevirtual 167, 3) := dk_182 0 167 (dk_at dksX6_aCar_1 5 rfl rfl)
theorem dX6_aCar_31 : decode cX6_aCar 31 = .ok (.iconst 0, 1) := dk_3 (dk_at dksX6_aCar_1 8 rfl rfl)
theorem dX6_aCar_32 : decode cX6_aCar 32 = .ok (.istore_n 1, 1) := dk_60 (dk_at dksX6_aCar_1 9 rfl rfl)
theorem dX6_aCar_33 : decode cX6_aCar 33 = .ok (.iload_n 1, 1) := dk_27 (dk_at dksX6_aCar_1 10 rfl rfl)
theorem dX6_aCar_34 : decode cX6_aCar 34 = .ok (.iconst 5, 1) := dk_8 (dk_at dksX6_aCar_1 11 rfl rfl)
theorem dX6_aCar_35 : decode cX6_aCar 35 = .ok (.if_icmp .ge 75, 3) := dk_162 0 75 (dk_at dksX6_aCar_1 12 rfl rfl)
theorem dX6_aCar_38 : decode cX6_aCar 38 = .ok (.aload_n 0, 1) := dk_42 (dk_at dksX6_aCar_1 15 rfl rfl)
theorem dX6_aCar_39 : decode cX6_aCar 39 = .ok (.getfield 25, 3) := dk_180 0 25 (dk_at dksX6_aCar_1 16 rfl rfl)
theorem dX6_aCar_42 : decode cX6_aCar 42 = .ok (.bipush 10, 2) := dk_16 10 (dk_at dksX6_aCar_1 19 rfl rfl)
theorem dX6_aCar_44 : decode cX6_aCar 44 = .ok (.aload_n 0, 1) := dk_42 (dk_at dksX6_aCar_1 21 rfl rfl)
theorem dX6_aCar_45 : decode cX6_aCar 45 = .ok (.getfield 215, 3) := dk_180 0 215 (dk_at dksX6_aCar_2 0 rfl rfl)
theorem dX6_aCar_48 : decode cX6_aCar 48 = .ok (.imul, 1) := dk_104 (dk_at dksX6_aCar_2 3 rfl rfl)
theorem dX6_aCar_49 : decode cX6_aCar 49 = .ok (.iload_n 1, 1) := dk_27 (dk_at dksX6_aCar_2 4 rfl rfl)
theorem dX6_aCar_50 : decode cX6_aCar 50 = .ok (.iadd, 1) := dk_96 (dk_at dksX6_aCar_2 5 rfl rfl)
theorem dX6_aCar_51 : decode cX6_aCar 51 = .ok (.aload_n 0, 1) := dk_42 (dk_at dksX6_aCar_2 6 rfl rfl)
theorem dX6_aCar_52 : decode cX6_aCar 52 = .ok (.getfield 155, 3) := dk_180 0 155 (dk_at dksX6_aCar_2 7 rfl rfl)
theorem dX6_aCar_55 : decode cX6_aCar 55 = .ok (.iastore, 1) := dk_79 (dk_at dksX6_aCar_2 10 rfl rfl)
theorem dX6_aCar_56 : decode cX6_aCar 56 = .ok (.iload_n 1, 1) := dk_27 (dk_at dksX6_aCar_2 11 rfl rfl)
theorem dX6_aCar_57 : decode cX6_aCar 57 = .ok (.iconst 3, 1) := dk_6 (dk_at dksX6_aCar_2 12 rfl rfl)
theorem dX6_aCar_58 : decode cX6_aCar 58 = .ok (.if_icmp .ge 7, 3) := dk_162 0 7 (dk_at dksX6_aCar_2 13 rfl rfl)
theorem dX6_aCar_61 : decode cX6_aCar 61 = .ok (.iconst 1, 1) := dk_4 (dk_at dksX6_aCar_2 16 rfl rfl)
theorem dX6_aCar_62 : decode cX6_aCar 62 = .ok (.goto 4, 3) := dk_167 0 4 (dk_at dksX6_aCar_2 17 rfl rfl)
theorem dX6_aCar_65 : decode cX6_aCar 65 = .ok (.iconst 0, 1) := dk_3 (dk_at dksX6_aCar_2 20 rfl rfl)
theorem dX6_aCar_66 : decode cX6_aCar 66 = .ok (.istore_n 2, 1) := dk_61 (dk_at dksX6_aCar_2 21 rfl rfl)
theorem dX6_aCar_67 : decode cX6_aCar 67 = .ok (.iload_n 1, 1) := dk_27 (dk_at dksX6_aCar_2 22 rfl rfl)
theorem dX6_aCar_68 : decode cX6_aCar 68 = .ok (.ifCond .ne 8, 3) := dk_154 0 8 (dk_at dksX6_aCar_3 0 rfl rfl)
theorem dX6_aCar_71 : decode cX6_aCar 71 = .ok (.bipush 12, 2) := dk_16 12 (dk_at dksX6_aCar_3 3 rfl rfl)
theorem dX6_aCar_73 : decode cX6_aCar 73 = .ok (.goto 19, 3) := dk_167 0 19 (dk_at dksX6_aCar_3 5 rfl rfl)
theorem dX6_aCar_76 : decode cX6_aCar 76 = .ok (.iload_n 1, 1) := dk_27 (dk_at dksX6_aCar_3 8 rfl rfl)
theorem dX6_aCar_77 : decode cX6_aCar 77 = .ok (.iconst 4, 1) := dk_7 (dk_at dksX6_aCar_3 9 rfl rfl)
theorem dX6_aCar_78 : decode cX6_aCar 78 = .ok (.if_icmp .ne 12, 3) := dk_160 0 12 (dk_at dksX6_aCar_3 10 rfl rfl)
theorem dX6_aCar_81 : decode cX6_aCar 81 = .ok (.aload_n 0, 1) := dk_42 (dk_at dksX6_aCar_3 13 rfl rfl)
theorem dX6_aCar_82 : decode cX6_aCar 82 = .ok (.getfield 208, 3) := dk_180 0 208 (dk_at dksX6_aCar_3 14 rfl rfl)
theorem dX6_aCar_85 : decode cX6_aCar 85 = .ok (.iconst 1, 1) := dk_4 (dk_at dksX6_aCar_3 17 rfl rfl)
theorem dX6_aCar_86 : decode cX6_aCar 86 = .ok (.isub, 1) := dk_100 (dk_at dksX6_aCar_3 18 rfl rfl)
theorem dX6_aCar_87 : decode cX6_aCar 87 = .ok (.goto 5, 3) := dk_167 0 5 (dk_at dksX6_aCar_3 19 rfl rfl)
theorem dX6_aCar_90 : decode cX6_aCar 90 = .ok (.bipush 9, 2) := dk_16 9 (dk_at dksX6_aCar_3 22 rfl rfl)
theorem dX6_aCar_92 : decode cX6_aCar 92 = .ok (.istore_n 3, 1) := dk_62 (dk_at dksX6_aCar_4 0 rfl rfl)
theorem dX6_aCar_93 : decode cX6_aCar 93 = .ok (.aload_n 0, 1) := dk_42 (dk_at dksX6_aCar_4 1 rfl rfl)
theorem dX6_aCar_94 : decode cX6_aCar 94 = .ok (.iload_n 2, 1) := dk_28 (dk_at dksX6_aCar_4 2 rfl rfl)
theorem dX6_aCar_95 : decode cX6_aCar 95 = .ok (.iload_n 3, 1) := dk_29 (dk_at dksX6_aCar_4 3 rfl rfl)
theorem dX6_aCar_96 : decode cX6_aCar 96 = .ok (.invokevirtual 211, 3) := dk_182 0 211 (dk_at dksX6_aCar_4 4 rfl rfl)
theorem dX6_aCar_99 : decode cX6_aCar 99 = .ok (.ifCond .ne 5, 3) := dk_154 0 5 (dk_at dksX6_aCar_4 7 rfl rfl)
theorem dX6_aCar_102 : decode cX6_aCar 102 = .ok (.iconst 0, 1) := dk_3 (dk_at dksX6_aCar_4 10 rfl rfl)
theorem dX6_aCar_103 : decode cX6_aCar 103 = .ok (.ireturn, 1) := dk_172 (dk_at dksX6_aCar_4 11 rfl rfl)
theorem dX6_aCar_104 : decode cX6_aCar 104 = .ok (.iinc 1 1, 3) := dk_132 1 1 (dk_at dksX6_aCar_4 12 rfl rfl)
theorem dX6_aCar_107 : decode cX6_aCar 107 = .ok (.goto (-74), 3) := dk_167 255 182 (dk_at dksX6_aCar_4 15 rfl rfl)
theorem dX6_aCar_110 : decode cX6_aCar 110 = .ok (.aload_n 0, 1) := dk_42 (dk_at dksX6_aCar_4 18 rfl rfl)
theorem dX6_aCar_111 : decode cX6_aCar 111 = .ok (.dup, 1) := dk_89 (dk_at dksX6_aCar_4 19 rfl rfl)
theorem dX6_aCar_112 : decode cX6_aCar 112 = .ok (.getfield 215, 3) := dk_180 0 215 (dk_at dksX6_aCar_4 20 rfl rfl)
theorem dX6_aCar_115 : decode cX6_aCar 115 = .ok (.iconst 1, 1) := dk_4 (dk_at dksX6_aCar_4 23 rfl rfl)
theorem dX6_aCar_116 : decode cX6_aCar 116 = .ok (.iadd, 1) := dk_96 (dk_at dksX6_aCar_5 0 rfl rfl)
theorem dX6_aCar_117 : decode cX6_aCar 117 = .ok (.putfield 215, 3) := dk_181 0 215 (dk_at dksX6_aCar_5 1 rfl rfl)
theorem dX6_aCar_120 : decode cX6_aCar 120 = .ok (.iconst 1, 1) := dk_4 (dk_at dksX6_aCar_5 4 rfl rfl)
theorem dX6_aCar_121 : decode cX6_aCar 121 = .ok (.ireturn, 1) := dk_172 (dk_at dksX6_aCar_5 5 rfl rfl)
abbrev cX6_skip : ByteArray := prog_15_method_36_code
def yX6_skip : MethodName := ⟨RX6, "skip", "()Z"⟩
def dkwX6_skip_3 : List UInt8 := [84, 4, 172]
abbrev dktX6_skip_3 : List UInt8 := dkwX6_skip_3 ++ []
def dkwX6_skip_2 : List UInt8 := [180, 0, 208, 4, 100, 182, 0, 211, 154, 0, 5, 3, 172, 42, 180, 0, 37, 16, 80, 27, 104, 28, 96, 4]
abbrev dktX6_skip_2 : List UInt8 := dkwX6_skip_2 ++ dktX6_skip_3
def dkwX6_skip_1 : List UInt8 := [42, 180, 0, 215, 4, 100, 182, 0, 211, 154, 0, 5, 3, 172, 42, 180, 0, 155, 61, 42, 3, 42]
abbrev dktX6_skip_1 : List UInt8 := dkwX6_skip_1 ++ dktX6_skip_2
def dkwX6_skip_0 : List UInt8 := [42, 180, 0, 208, 154, 0, 9, 42, 4, 182, 0, 164, 172, 42, 182, 0, 167, 42, 180, 0, 155, 60, 42, 3]
abbrev dktX6_skip_0 : List UInt8 := dkwX6_skip_0 ++ dktX6_skip_1
theorem dksX6_skip_0 : cX6_skip.data.toList.drop 0 = dktX6_skip_0 := by decide +kernel
theorem dksX6_skip_1 : cX6_skip.data.toList.drop 24 = dktX6_skip_1 := dk_seg dksX6_skip_0 24 rfl rfl
theorem dksX6_skip_2 : cX6_skip.data.toList.drop 46 = dktX6_skip_2 := dk_seg dksX6_skip_1 22 rfl rfl
theorem dksX6_skip_3 : cX6_skip.data.toList.drop 70 = dktX6_skip_3 := dk_seg dksX6_skip_2 24 rfl rfl
theorem dX6_skip_0 : decode cX6_skip 0 = .ok (.aload_n 0, 1) := dk_42 (dk_at dksX6_skip_0 0 rfl rfl)
theorem dX6_skip_1 : decode cX6_skip 1 = .ok (.getfield 208, 3) := dk_180 0 208 (dk_at dksX6_skip_0 1 rfl rfl)
theorem dX6_skip_4 : decode cX6_skip 4 = .ok (.ifCond .ne 9, 3) := dk_154 0 9 (dk_at dksX6_skip_0 4 rfl rfl)
theorem dX6_skip_7 : decode cX6_skip 7 = .ok (.aload_n 0, 1) := dk_42 (dk_at dksX6_skip_0 7 rfl rfl)
theorem dX6_skip_8 : decode cX6_skip 8 = .ok (.iconst 1, 1) := dk_4 (dk_at dksX6_skip_0 8 rfl rfl)
theorem dX6_skip_9 : decode cX6_skip 9 = .ok (.invokevirtual 164, 3) := dk_182 0 164 (dk_at dksX6_skip_0 9 rfl rfl)
theorem dX6_skip_12 : decode cX6_skip 12 = .ok (.ireturn, 1) := dk_172 (dk_at dksX6_skip_0 12 rfl rfl)
theorem dX6_skip_13 : decode cX6_skip 13 = .ok (.aload_n 0, 1) := dk_42 (dk_at dksX6_skip_0 13 rfl rfl)
theorem dX6_skip_14 : decode cX6_skip 14 = .ok (.invokevirtual 167, 3) := dk_182 0 167 (dk_at dksX6_skip_0 14 rfl rfl)
theorem dX6_skip_17 : decode cX6_skip 17 = .ok (.aload_n 0, 1) := dk_42 (dk_at dksX6_skip_0 17 rfl rfl)
theorem dX6_skip_18 : decode cX6_skip 18 = .ok (.getfield 155, 3) := dk_180 0 155 (dk_at dksX6_skip_0 18 rfl rfl)
theorem dX6_skip_21 : decode cX6_skip 21 = .ok (.istore_n 1, 1) := dk_60 (dk_at dksX6_skip_0 21 rfl rfl)
theorem dX6_skip_22 : decode cX6_skip 22 = .ok (.aload_n 0, 1) := dk_42 (dk_at dksX6_skip_0 22 rfl rfl)
theorem dX6_skip_23 : decode cX6_skip 23 = .ok (.iconst 0, 1) := dk_3 (dk_at dksX6_skip_0 23 rfl rfl)
theorem dX6_skip_24 : decode cX6_skip 24 = .ok (.aload_n 0, 1) := dk_42 (dk_at dksX6_skip_1 0 rfl rfl)
theorem dX6_skip_25 : decode cX6_skip 25 = .ok (.getfield 215, 3) := dk_180 0 215 (dk_at dksX6_skip_1 1 rfl rfl)
theorem dX6_skip_28 : decode cX6_skip 28 = .ok (.iconst 1, 1) := dk_4 (dk_at dksX6_skip_1 4 rfl rfl)
theorem dX6_skip_29 : decode cX6_skip 29 = .ok (.isub, 1) := dk_100 (dk_at dksX6_skip_1 5 rfl rfl)
theorem dX6_skip_30 : decode cX6_skip 30 = .ok (.invokevirtual 211, 3) := dk_182 0 211 (dk_at dksX6_skip_1 6 rfl rfl)
theorem dX6_skip_33 : decode cX6_skip 33 = .ok (.ifCond .ne 5, 3) := dk_154 0 5 (dk_at dksX6_skip_1 9 rfl rfl)
theorem dX6_skip_36 : decode cX6_skip 36 = .ok (.iconst 0, 1) := dk_3 (dk_at dksX6_skip_1 12 rfl rfl)
theorem dX6_skip_37 : decode cX6_skip 37 = .ok (.ireturn, 1) := dk_172 (dk_at dksX6_skip_1 13 rfl rfl)
theorem dX6_skip_38 : decode cX6_skip 38 = .ok (.aload_n 0, 1) := dk_42 (dk_at dksX6_skip_1 14 rfl rfl)
theorem dX6_skip_39 : decode cX6_skip 39 = .ok (.getfield 155, 3) := dk_180 0 155 (dk_at dksX6_skip_1 15 rfl rfl)
theorem dX6_skip_42 : decode cX6_skip 42 = .ok (.istore_n 2, 1) := dk_61 (dk_at dksX6_skip_1 18 rfl rfl)
theorem dX6_skip_43 : decode cX6_skip 43 = .ok (.aload_n 0, 1) := dk_42 (dk_at dksX6_skip_1 19 rfl rfl)
theorem dX6_skip_44 : decode cX6_skip 44 = .ok (.iconst 0, 1) := dk_3 (dk_at dksX6_skip_1 20 rfl rfl)
theorem dX6_skip_45 : decode cX6_skip 45 = .ok (.aload_n 0, 1) := dk_42 (dk_at dksX6_skip_1 21 rfl rfl)
theorem dX6_skip_46 : decode cX6_skip 46 = .ok (.getfield 208, 3) := dk_180 0 208 (dk_at dksX6_skip_2 0 rfl rfl)
theorem dX6_skip_49 : decode cX6_skip 49 = .ok (.iconst 1, 1) := dk_4 (dk_at dksX6_skip_2 3 rfl rfl)
theorem dX6_skip_50 : decode cX6_skip 50 = .ok (.isub, 1) := dk_100 (dk_at dksX6_skip_2 4 rfl rfl)
theorem dX6_skip_51 : decode cX6_skip 51 = .ok (.invokevirtual 211, 3) := dk_182 0 211 (dk_at dksX6_skip_2 5 rfl rfl)
theorem dX6_skip_54 : decode cX6_skip 54 = .ok (.ifCond .ne 5, 3) := dk_154 0 5 (dk_at dksX6_skip_2 8 rfl rfl)
theorem dX6_skip_57 : decode cX6_skip 57 = .ok (.iconst 0, 1) := dk_3 (dk_at dksX6_skip_2 11 rfl rfl)
theorem dX6_skip_58 : decode cX6_skip 58 = .ok (.ireturn, 1) := dk_172 (dk_at dksX6_skip_2 12 rfl rfl)
theorem dX6_skip_59 : decode cX6_skip 59 = .ok (.aload_n 0, 1) := dk_42 (dk_at dksX6_skip_2 13 rfl rfl)
theorem dX6_skip_60 : decode cX6_skip 60 = .ok (.getfield 37, 3) := dk_180 0 37 (dk_at dksX6_skip_2 14 rfl rfl)
theorem dX6_skip_63 : decode cX6_skip 63 = .ok (.bipush 80, 2) := dk_16 80 (dk_at dksX6_skip_2 17 rfl rfl)
theorem dX6_skip_65 : decode cX6_skip 65 = .ok (.iload_n 1, 1) := dk_27 (dk_at dksX6_skip_2 19 rfl rfl)
theorem dX6_skip_66 : decode cX6_skip 66 = .ok (.imul, 1) := dk_104 (dk_at dksX6_skip_2 20 rfl rfl)
theorem dX6_skip_67 : decode cX6_skip 67 = .ok (.iload_n 2, 1) := dk_28 (dk_at dksX6_skip_2 21 rfl rfl)
theorem dX6_skip_68 : decode cX6_skip 68 = .ok (.iadd, 1) := dk_96 (dk_at dksX6_skip_2 22 rfl rfl)
theorem dX6_skip_69 : decode cX6_skip 69 = .ok (.iconst 1, 1) := dk_4 (dk_at dksX6_skip_2 23 rfl rfl)
theorem dX6_skip_70 : decode cX6_skip 70 = .ok (.bastore, 1) := dk_84 (dk_at dksX6_skip_3 0 rfl rfl)
theorem dX6_skip_71 : decode cX6_skip 71 = .ok (.iconst 1, 1) := dk_4 (dk_at dksX6_skip_3 1 rfl rfl)
theorem dX6_skip_72 : decode cX6_skip 72 = .ok (.ireturn, 1) := dk_172 (dk_at dksX6_skip_3 2 rfl rfl)
abbrev cX6_keepsRule : ByteArray := prog_15_method_39_code
def yX6_keepsRule : MethodName := ⟨RX6, "keepsRule", "(I)V"⟩
def dkwX6_keepsRule_7 : List UInt8 := [177]
abbrev dktX6_keepsRule_7 : List UInt8 := dkwX6_keepsRule_7 ++ []
def dkwX6_keepsRule_6 : List UInt8 := [17, 5, 230, 17, 3, 52, 27, 104, 96, 28, 96, 42, 180, 0, 22, 28, 46, 79, 132, 2, 1, 167, 255, 221]
abbrev dktX6_keepsRule_6 : List UInt8 := dkwX6_keepsRule_6 ++ dktX6_keepsRule_7
def dkwX6_keepsRule_5 : List UInt8 := [46, 79, 132, 2, 1, 167, 255, 147, 3, 61, 28, 5, 42, 180, 0, 170, 104, 162, 0, 31, 42, 180, 0, 7]
abbrev dktX6_keepsRule_5 : List UInt8 := dkwX6_keepsRule_5 ++ dktX6_keepsRule_6
def dkwX6_keepsRule_4 : List UInt8 := [79, 42, 180, 0, 7, 17, 5, 180, 16, 16, 27, 104, 96, 28, 96, 42, 180, 0, 19, 7, 28, 104, 6, 96]
abbrev dktX6_keepsRule_4 : List UInt8 := dkwX6_keepsRule_4 ++ dktX6_keepsRule_5
def dkwX6_keepsRule_3 : List UInt8 := [42, 180, 0, 7, 17, 5, 130, 16, 16, 27, 104, 96, 28, 96, 42, 180, 0, 19, 7, 28, 104, 5, 96, 46]
abbrev dktX6_keepsRule_3 : List UInt8 := dkwX6_keepsRule_3 ++ dktX6_keepsRule_4
def dkwX6_keepsRule_2 : List UInt8 := [180, 0, 7, 17, 5, 80, 16, 16, 27, 104, 96, 28, 96, 42, 180, 0, 19, 7, 28, 104, 4, 96, 46, 79]
abbrev dktX6_keepsRule_2 : List UInt8 := dkwX6_keepsRule_2 ++ dktX6_keepsRule_3
def dkwX6_keepsRule_1 : List UInt8 := [42, 180, 0, 7, 17, 5, 30, 16, 16, 27, 104, 96, 28, 96, 42, 180, 0, 19, 7, 28, 104, 46, 79, 42]
abbrev dktX6_keepsRule_1 : List UInt8 := dkwX6_keepsRule_1 ++ dktX6_keepsRule_2
def dkwX6_keepsRule_0 : List UInt8 := [42, 180, 0, 7, 17, 5, 20, 27, 96, 42, 180, 0, 205, 79, 3, 61, 28, 42, 180, 0, 205, 162, 0, 107]
abbrev dktX6_keepsRule_0 : List UInt8 := dkwX6_keepsRule_0 ++ dktX6_keepsRule_1
theorem dksX6_keepsRule_0 : cX6_keepsRule.data.toList.drop 0 = dktX6_keepsRule_0 := by decide +kernel
theorem dksX6_keepsRule_1 : cX6_keepsRule.data.toList.drop 24 = dktX6_keepsRule_1 := dk_seg dksX6_keepsRule_0 24 rfl rfl
theorem dksX6_keepsRule_2 : cX6_keepsRule.data.toList.drop 48 = dktX6_keepsRule_2 := dk_seg dksX6_keepsRule_1 24 rfl rfl
theorem dksX6_keepsRule_3 : cX6_keepsRule.data.toList.drop 72 = dktX6_keepsRule_3 := dk_seg dksX6_keepsRule_2 24 rfl rfl
theorem dksX6_keepsRule_4 : cX6_keepsRule.data.toList.drop 96 = dktX6_keepsRule_4 := dk_seg dksX6_keepsRule_3 24 rfl rfl
theorem dksX6_keepsRule_5 : cX6_keepsRule.data.toList.drop 120 = dktX6_keepsRule_5 := dk_seg dksX6_keepsRule_4 24 rfl rfl
theorem dksX6_keepsRule_6 : cX6_keepsRule.data.toList.drop 144 = dktX6_keepsRule_6 := dk_seg dksX6_keepsRule_5 24 rfl rfl
theorem dksX6_keepsRule_7 : cX6_keepsRule.data.toList.drop 168 = dktX6_keepsRule_7 := dk_seg dksX6_keepsRule_6 24 rfl rfl
theorem dX6_keepsRule_0 : decode cX6_keepsRule 0 = .ok (.aload_n 0, 1) := dk_42 (dk_at dksX6_keepsRule_0 0 rfl rfl)
theorem dX6_keepsRule_1 : decode cX6_keepsRule 1 = .ok (.getfield 7, 3) := dk_180 0 7 (dk_at dksX6_keepsRule_0 1 rfl rfl)
theorem dX6_keepsRule_4 : decode cX6_keepsRule 4 = .ok (.sipush 1300, 3) := dk_17 5 20 (dk_at dksX6_keepsRule_0 4 rfl rfl)
theorem dX6_keepsRule_7 : decode cX6_keepsRule 7 = .ok (.iload_n 1, 1) := dk_27 (dk_at dksX6_keepsRule_0 7 rfl rfl)
theorem dX6_keepsRule_8 : decode cX6_keepsRule 8 = .ok (.iadd, 1) := dk_96 (dk_at dksX6_keepsRule_0 8 rfl rfl)
theorem dX6_keepsRule_9 : decode cX6_keepsRule 9 = .ok (.aload_n 0, 1) := dk_42 (dk_at dksX6_keepsRule_0 9 rfl rfl)
theorem dX6_keepsRule_10 : decode cX6_keepsRule 10 = .ok (.getfield 205, 3) := dk_180 0 205 (dk_at dksX6_keepsRule_0 10 rfl rfl)
theorem dX6_keepsRule_13 : decode cX6_keepsRule 13 = .ok (.iastore, 1) := dk_79 (dk_at dksX6_keepsRule_0 13 rfl rfl)
theorem dX6_keepsRule_14 : decode cX6_keepsRule 14 = .ok (.iconst 0, 1) := dk_3 (dk_at dksX6_keepsRule_0 14 rfl rfl)
theorem dX6_keepsRule_15 : decode cX6_keepsRule 15 = .ok (.istore_n 2, 1) := dk_61 (dk_at dksX6_keepsRule_0 15 rfl rfl)
theorem dX6_keepsRule_16 : decode cX6_keepsRule 16 = .ok (.iload_n 2, 1) := dk_28 (dk_at dksX6_keepsRule_0 16 rfl rfl)
theorem dX6_keepsRule_17 : decode cX6_keepsRule 17 = .ok (.aload_n 0, 1) := dk_42 (dk_at dksX6_keepsRule_0 17 rfl rfl)
theorem dX6_keepsRule_18 : decode cX6_keepsRule 18 = .ok (.getfield 205, 3) := dk_180 0 205 (dk_at dksX6_keepsRule_0 18 rfl rfl)
theorem dX6_keepsRule_21 : decode cX6_keepsRule 21 = .ok (.if_icmp .ge 107, 3) := dk_162 0 107 (dk_at dksX6_keepsRule_0 21 rfl rfl)
theorem dX6_keepsRule_24 : decode cX6_keepsRule 24 = .ok (.aload_n 0, 1) := dk_42 (dk_at dksX6_keepsRule_1 0 rfl rfl)
theorem dX6_keepsRule_25 : decode cX6_keepsRule 25 = .ok (.getfield 7, 3) := dk_180 0 7 (dk_at dksX6_keepsRule_1 1 rfl rfl)
theorem dX6_keepsRule_28 : decode cX6_keepsRule 28 = .ok (.sipush 1310, 3) := dk_17 5 30 (dk_at dksX6_keepsRule_1 4 rfl rfl)
theorem dX6_keepsRule_31 : decode cX6_keepsRule 31 = .ok (.bipush 16, 2) := dk_16 16 (dk_at dksX6_keepsRule_1 7 rfl rfl)
theorem dX6_keepsRule_33 : decode cX6_keepsRule 33 = .ok (.iload_n 1, 1) := dk_27 (dk_at dksX6_keepsRule_1 9 rfl rfl)
theorem dX6_keepsRule_34 : decode cX6_keepsRule 34 = .ok (.imul, 1) := dk_104 (dk_at dksX6_keepsRule_1 10 rfl rfl)
theorem dX6_keepsRule_35 : decode cX6_keepsRule 35 = .ok (.iadd, 1) := dk_96 (dk_at dksX6_keepsRule_1 11 rfl rfl)
theorem dX6_keepsRule_36 : decode cX6_keepsRule 36 = .ok (.iload_n 2, 1) := dk_28 (dk_at dksX6_keepsRule_1 12 rfl rfl)
theorem dX6_keepsRule_37 : decode cX6_keepsRule 37 = .ok (.iadd, 1) := dk_96 (dk_at dksX6_keepsRule_1 13 rfl rfl)
theorem dX6_keepsRule_38 : decode cX6_keepsRule 38 = .ok (.aload_n 0, 1) := dk_42 (dk_at dksX6_keepsRule_1 14 rfl rfl)
theorem dX6_keepsRule_39 : decode cX6_keepsRule 39 = .ok (.getfield 19, 3) := dk_180 0 19 (dk_at dksX6_keepsRule_1 15 rfl rfl)
theorem dX6_keepsRule_42 : decode cX6_keepsRule 42 = .ok (.iconst 4, 1) := dk_7 (dk_at dksX6_keepsRule_1 18 rfl rfl)
theorem dX6_keepsRule_43 : decode cX6_keepsRule 43 = .ok (.iload_n 2, 1) := dk_28 (dk_at dksX6_keepsRule_1 19 rfl rfl)
theorem dX6_keepsRule_44 : decode cX6_keepsRule 44 = .ok (.imul, 1) := dk_104 (dk_at dksX6_keepsRule_1 20 rfl rfl)
theorem dX6_keepsRule_45 : decode cX6_keepsRule 45 = .ok (.iaload, 1) := dk_46 (dk_at dksX6_keepsRule_1 21 rfl rfl)
theorem dX6_keepsRule_46 : decode cX6_keepsRule 46 = .ok (.iastore, 1) := dk_79 (dk_at dksX6_keepsRule_1 22 rfl rfl)
theorem dX6_keepsRule_47 : decode cX6_keepsRule 47 = .ok (.aload_n 0, 1) := dk_42 (dk_at dksX6_keepsRule_1 23 rfl rfl)
theorem dX6_keepsRule_48 : decode cX6_keepsRule 48 = .ok (.getfield 7, 3) := dk_180 0 7 (dk_at dksX6_keepsRule_2 0 rfl rfl)
theorem dX6_keepsRule_51 : decode cX6_keepsRule 51 = .ok (.sipush 1360, 3) := dk_17 5 80 (dk_at dksX6_keepsRule_2 3 rfl rfl)
theorem dX6_keepsRule_54 : decode cX6_keepsRule 54 = .ok (.bipush 16, 2) := dk_16 16 (dk_at dksX6_keepsRule_2 6 rfl rfl)
theorem dX6_keepsRule_56 : decode cX6_keepsRule 56 = .ok (.iload_n 1, 1) := dk_27 (dk_at dksX6_keepsRule_2 8 rfl rfl)
theorem dX6_keepsRule_57 : decode cX6_keepsRule 57 = .ok (.imul, 1) := dk_104 (dk_at dksX6_keepsRule_2 9 rfl rfl)
theorem dX6_keepsRule_58 : decode cX6_keepsRule 58 = .ok (.iadd, 1) := dk_96 (dk_at dksX6_keepsRule_2 10 rfl rfl)
theorem dX6_keepsRule_59 : decode cX6_keepsRule 59 = .ok (.iload_n 2, 1) := dk_28 (dk_at dksX6_keepsRule_2 11 rfl rfl)
theorem dX6_keepsRule_60 : decode cX6_keepsRule 60 = .ok (.iadd, 1) := dk_96 (dk_at dksX6_keepsRule_2 12 rfl rfl)
theorem dX6_keepsRule_61 : decode cX6_keepsRule 61 = .ok (.aload_n 0, 1) := dk_42 (dk_at dksX6_keepsRule_2 13 rfl rfl)
theorem dX6_keepsRule_62 : decode cX6_keepsRule 62 = .ok (.getfield 19, 3) := dk_180 0 19 (dk_at dksX6_keepsRule_2 14 rfl rfl)
theorem dX6_keepsRule_65 : decode cX6_keepsRule 65 = .ok (.iconst 4, 1) := dk_7 (dk_at dksX6_keepsRule_2 17 rfl rfl)
theorem dX6_keepsRule_66 : decode cX6_keepsRule 66 = .ok (.iload_n 2, 1) := dk_28 (dk_at dksX6_keepsRule_2 18 rfl rfl)
theorem dX6_keepsRule_67 : decode cX6_keepsRule 67 = .ok (.imul, 1) := dk_104 (dk_at dksX6_keepsRule_2 19 rfl rfl)
theorem dX6_keepsRule_68 : decode cX6_keepsRule 68 = .ok (.iconst 1, 1) := dk_4 (dk_at dksX6_keepsRule_2 20 rfl rfl)
theorem dX6_keepsRule_69 : decode cX6_keepsRule 69 = .ok (.iadd, 1) := dk_96 (dk_at dksX6_keepsRule_2 21 rfl rfl)
theorem dX6_keepsRule_70 : decode cX6_keepsRule 70 = .ok (.iaload, 1) := dk_46 (dk_at dksX6_keepsRule_2 22 rfl rfl)
theorem dX6_keepsRule_71 : decode cX6_keepsRule 71 = .ok (.iastore, 1) := dk_79 (dk_at dksX6_keepsRule_2 23 rfl rfl)
theorem dX6_keepsRule_72 : decode cX6_keepsRule 72 = .ok (.aload_n 0, 1) := dk_42 (dk_at dksX6_keepsRule_3 0 rfl rfl)
theorem dX6_keepsRule_73 : decode cX6_keepsRule 73 = .ok (.getfield 7, 3) := dk_180 0 7 (dk_at dksX6_keepsRule_3 1 rfl rfl)
theorem dX6_keepsRule_76 : decode cX6_keepsRule 76 = .ok (.sipush 1410, 3) := dk_17 5 130 (dk_at dksX6_keepsRule_3 4 rfl rfl)
theorem dX6_keepsRule_79 : decode cX6_keepsRule 79 = .ok (.bipush 16, 2) := dk_16 16 (dk_at dksX6_keepsRule_3 7 rfl rfl)
theorem dX6_keepsRule_81 : decode cX6_keepsRule 81 = .ok (.iload_n 1, 1) := dk_27 (dk_at dksX6_keepsRule_3 9 rfl rfl)
theorem dX6_keepsRule_82 : decode cX6_keepsRule 82 = .ok (.imul, 1) := dk_104 (dk_at dksX6_keepsRule_3 10 rfl rfl)
theorem dX6_keepsRule_83 : decode cX6_keepsRule 83 = .ok (.iadd, 1) := dk_96 (dk_at dksX6_keepsRule_3 11 rfl rfl)
theorem dX6_keepsRule_84 : decode cX6_keepsRule 84 = .ok (.iload_n 2, 1) := dk_28 (dk_at dksX6_keepsRule_3 12 rfl rfl)
theorem dX6_keepsRule_85 : decode cX6_keepsRule 85 = .ok (.iadd, 1) := dk_96 (dk_at dksX6_keepsRule_3 13 rfl rfl)
theorem dX6_keepsRule_86 : decode cX6_keepsRule 86 = .ok (.aload_n 0, 1) := dk_42 (dk_at dksX6_keepsRule_3 14 rfl rfl)
theorem dX6_keepsRule_87 : decode cX6_keepsRule 87 = .ok (.getfield 19, 3) := dk_180 0 19 (dk_at dksX6_keepsRule_3 15 rfl rfl)
theorem dX6_keepsRule_90 : decode cX6_keepsRule 90 = .ok (.iconst 4, 1) := dk_7 (dk_at dksX6_keepsRule_3 18 rfl rfl)
theorem dX6_keepsRule_91 : decode cX6_keepsRule 91 = .ok (.iload_n 2, 1) := dk_28 (dk_at dksX6_keepsRule_3 19 rfl rfl)
theorem dX6_keepsRule_92 : decode cX6_keepsRule 92 = .ok (.imul, 1) := dk_104 (dk_at dksX6_keepsRule_3 20 rfl rfl)
theorem dX6_keepsRule_93 : decode cX6_keepsRule 93 = .ok (.iconst 2, 1) := dk_5 (dk_at dksX6_keepsRule_3 21 rfl rfl)
theorem dX6_keepsRule_94 : decode cX6_keepsRule 94 = .ok (.iadd, 1) := dk_96 (dk_at dksX6_keepsRule_3 22 rfl rfl)
theorem dX6_keepsRule_95 : decode cX6_keepsRule 95 = .ok (.iaload, 1) := dk_46 (dk_at dksX6_keepsRule_3 23 rfl rfl)
theorem dX6_keepsRule_96 : decode cX6_keepsRule 96 = .ok (.iastore, 1) := dk_79 (dk_at dksX6_keepsRule_4 0 rfl rfl)
theorem dX6_keepsRule_97 : decode cX6_keepsRule 97 = .ok (.aload_n 0, 1) := dk_42 (dk_at dksX6_keepsRule_4 1 rfl rfl)
theorem dX6_keepsRule_98 : decode cX6_keepsRule 98 = .ok (.getfield 7, 3) := dk_180 0 7 (dk_at dksX6_keepsRule_4 2 rfl rfl)
theorem dX6_keepsRule_101 : decode cX6_keepsRule 101 = .ok (.sipush 1460, 3) := dk_17 5 180 (dk_at dksX6_keepsRule_4 5 rfl rfl)
theorem dX6_keepsRule_104 : decode cX6_keepsRule 104 = .ok (.bipush 16, 2) := dk_16 16 (dk_at dksX6_keepsRule_4 8 rfl rfl)
theorem dX6_keepsRule_106 : decode cX6_keepsRule 106 = .ok (.iload_n 1, 1) := dk_27 (dk_at dksX6_keepsRule_4 10 rfl rfl)
theorem dX6_keepsRule_107 : decode cX6_keepsRule 107 = .ok (.imul, 1) := dk_104 (dk_at dksX6_keepsRule_4 11 rfl rfl)
theorem dX6_keepsRule_108 : decode cX6_keepsRule 108 = .ok (.iadd, 1) := dk_96 (dk_at dksX6_keepsRule_4 12 rfl rfl)
theorem dX6_keepsRule_109 : decode cX6_keepsRule 109 = .ok (.iload_n 2, 1) := dk_28 (dk_at dksX6_keepsRule_4 13 rfl rfl)
theorem dX6_keepsRule_110 : decode cX6_keepsRule 110 = .ok (.iadd, 1) := dk_96 (dk_at dksX6_keepsRule_4 14 rfl rfl)
theorem dX6_keepsRule_111 : decode cX6_keepsRule 111 = .ok (.aload_n 0, 1) := dk_42 (dk_at dksX6_keepsRule_4 15 rfl rfl)
theorem dX6_keepsRule_112 : decode cX6_keepsRule 112 = .ok (.getfield 19, 3) := dk_180 0 19 (dk_at dksX6_keepsRule_4 16 rfl rfl)
theorem dX6_keepsRule_115 : decode cX6_keepsRule 115 = .ok (.iconst 4, 1) := dk_7 (dk_at dksX6_keepsRule_4 19 rfl rfl)
theorem dX6_keepsRule_116 : decode cX6_keepsRule 116 = .ok (.iload_n 2, 1) := dk_28 (dk_at dksX6_keepsRule_4 20 rfl rfl)
theorem dX6_keepsRule_117 : decode cX6_keepsRule 117 = .ok (.imul, 1) := dk_104 (dk_at dksX6_keepsRule_4 21 rfl rfl)
theorem dX6_keepsRule_118 : decode cX6_keepsRule 118 = .ok (.iconst 3, 1) := dk_6 (dk_at dksX6_keepsRule_4 22 rfl rfl)
theorem dX6_keepsRule_119 : decode cX6_keepsRule 119 = .ok (.iadd, 1) := dk_96 (dk_at dksX6_keepsRule_4 23 rfl rfl)
theorem dX6_keepsRule_120 : decode cX6_keepsRule 120 = .ok (.iaload, 1) := dk_46 (dk_at dksX6_keepsRule_5 0 rfl rfl)
theorem dX6_keepsRule_121 : decode cX6_keepsRule 121 = .ok (.iastore, 1) := dk_79 (dk_at dksX6_keepsRule_5 1 rfl rfl)
theorem dX6_keepsRule_122 : decode cX6_keepsRule 122 = .ok (.iinc 2 1, 3) := dk_132 2 1 (dk_at dksX6_keepsRule_5 2 rfl rfl)
theorem dX6_keepsRule_125 : decode cX6_keepsRule 125 = .ok (.goto (-109), 3) := dk_167 255 147 (dk_at dksX6_keepsRule_5 5 rfl rfl)
theorem dX6_keepsRule_128 : decode cX6_keepsRule 128 = .ok (.iconst 0, 1) := dk_3 (dk_at dksX6_keepsRule_5 8 rfl rfl)
theorem dX6_keepsRule_129 : decode cX6_keepsRule 129 = .ok (.istore_n 2, 1) := dk_61 (dk_at dksX6_keepsRule_5 9 rfl rfl)
theorem dX6_keepsRule_130 : decode cX6_keepsRule 130 = .ok (.iload_n 2, 1) := dk_28 (dk_at dksX6_keepsRule_5 10 rfl rfl)
theorem dX6_keepsRule_131 : decode cX6_keepsRule 131 = .ok (.iconst 2, 1) := dk_5 (dk_at dksX6_keepsRule_5 11 rfl rfl)
theorem dX6_keepsRule_132 : decode cX6_keepsRule 132 = .ok (.aload_n 0, 1) := dk_42 (dk_at dksX6_keepsRule_5 12 rfl rfl)
theorem dX6_keepsRule_133 : decode cX6_keepsRule 133 = .ok (.getfield 170, 3) := dk_180 0 170 (dk_at dksX6_keepsRule_5 13 rfl rfl)
theorem dX6_keepsRule_136 : decode cX6_keepsRule 136 = .ok (.imul, 1) := dk_104 (dk_at dksX6_keepsRule_5 16 rfl rfl)
theorem dX6_keepsRule_137 : decode cX6_keepsRule 137 = .ok (.if_icmp .ge 31, 3) := dk_162 0 31 (dk_at dksX6_keepsRule_5 17 rfl rfl)
theorem dX6_keepsRule_140 : decode cX6_keepsRule 140 = .ok (.aload_n 0, 1) := dk_42 (dk_at dksX6_keepsRule_5 20 rfl rfl)
theorem dX6_keepsRule_141 : decode cX6_keepsRule 141 = .ok (.getfield 7, 3) := dk_180 0 7 (dk_at dksX6_keepsRule_5 21 rfl rfl)
theorem dX6_keepsRule_144 : decode cX6_keepsRule 144 = .ok (.sipush 1510, 3) := dk_17 5 230 (dk_at dksX6_keepsRule_6 0 rfl rfl)
theorem dX6_keepsRule_147 : decode cX6_keepsRule 147 = .ok (.sipush 820, 3) := dk_17 3 52 (dk_at dksX6_keepsRule_6 3 rfl rfl)
theorem dX6_keepsRule_150 : decode cX6_keepsRule 150 = .ok (.iload_n 1, 1) := dk_27 (dk_at dksX6_keepsRule_6 6 rfl rfl)
theorem dX6_keepsRule_151 : decode cX6_keepsRule 151 = .ok (.imul, 1) := dk_104 (dk_at dksX6_keepsRule_6 7 rfl rfl)
theorem dX6_keepsRule_152 : decode cX6_keepsRule 152 = .ok (.iadd, 1) := dk_96 (dk_at dksX6_keepsRule_6 8 rfl rfl)
theorem dX6_keepsRule_153 : decode cX6_keepsRule 153 = .ok (.iload_n 2, 1) := dk_28 (dk_at dksX6_keepsRule_6 9 rfl rfl)
theorem dX6_keepsRule_154 : decode cX6_keepsRule 154 = .ok (.iadd, 1) := dk_96 (dk_at dksX6_keepsRule_6 10 rfl rfl)
theorem dX6_keepsRule_155 : decode cX6_keepsRule 155 = .ok (.aload_n 0, 1) := dk_42 (dk_at dksX6_keepsRule_6 11 rfl rfl)
theorem dX6_keepsRule_156 : decode cX6_keepsRule 156 = .ok (.getfield 22, 3) := dk_180 0 22 (dk_at dksX6_keepsRule_6 12 rfl rfl)
theorem dX6_keepsRule_159 : decode cX6_keepsRule 159 = .ok (.iload_n 2, 1) := dk_28 (dk_at dksX6_keepsRule_6 15 rfl rfl)
theorem dX6_keepsRule_160 : decode cX6_keepsRule 160 = .ok (.iaload, 1) := dk_46 (dk_at dksX6_keepsRule_6 16 rfl rfl)
theorem dX6_keepsRule_161 : decode cX6_keepsRule 161 = .ok (.iastore, 1) := dk_79 (dk_at dksX6_keepsRule_6 17 rfl rfl)
theorem dX6_keepsRule_162 : decode cX6_keepsRule 162 = .ok (.iinc 2 1, 3) := dk_132 2 1 (dk_at dksX6_keepsRule_6 18 rfl rfl)
theorem dX6_keepsRule_165 : decode cX6_keepsRule 165 = .ok (.goto (-35), 3) := dk_167 255 221 (dk_at dksX6_keepsRule_6 21 rfl rfl)
theorem dX6_keepsRule_168 : decode cX6_keepsRule 168 = .ok (.return_, 1) := dk_177 (dk_at dksX6_keepsRule_7 0 rfl rfl)
abbrev cX6_keepsTower : ByteArray := prog_15_method_40_code
def yX6_keepsTower : MethodName := ⟨RX6, "keepsTower", "()V"⟩
def dkwX6_keepsTower_9 : List UInt8 := [167, 255, 234, 42, 182, 0, 245, 177]
abbrev dktX6_keepsTower_9 : List UInt8 := dkwX6_keepsTower_9 ++ []
def dkwX6_keepsTower_8 : List UInt8 := [3, 61, 28, 42, 180, 0, 208, 162, 0, 20, 42, 180, 0, 7, 17, 2, 228, 28, 96, 4, 79, 132, 2, 1]
abbrev dktX6_keepsTower_8 : List UInt8 := dkwX6_keepsTower_8 ++ dktX6_keepsTower_9
def dkwX6_keepsTower_7 : List UInt8 := [167, 0, 4, 4, 79, 132, 3, 1, 167, 255, 212, 42, 28, 8, 2, 182, 0, 241, 132, 2, 1, 167, 255, 138]
abbrev dktX6_keepsTower_7 : List UInt8 := dkwX6_keepsTower_7 ++ dktX6_keepsTower_8
def dkwX6_keepsTower_6 : List UInt8 := [16, 100, 16, 80, 28, 104, 96, 29, 96, 42, 180, 0, 37, 16, 80, 28, 104, 29, 96, 51, 153, 0, 7, 3]
abbrev dktX6_keepsTower_6 : List UInt8 := dkwX6_keepsTower_6 ++ dktX6_keepsTower_7
def dkwX6_keepsTower_5 : List UInt8 := [16, 10, 28, 104, 7, 96, 46, 182, 0, 241, 3, 62, 29, 42, 180, 0, 208, 162, 0, 42, 42, 180, 0, 7]
abbrev dktX6_keepsTower_5 : List UInt8 := dkwX6_keepsTower_5 ++ dktX6_keepsTower_6
def dkwX6_keepsTower_4 : List UInt8 := [16, 10, 28, 104, 29, 96, 46, 182, 0, 241, 132, 3, 1, 167, 255, 228, 42, 28, 16, 10, 42, 180, 0, 25]
abbrev dktX6_keepsTower_4 : List UInt8 := dkwX6_keepsTower_4 ++ dktX6_keepsTower_5
def dkwX6_keepsTower_3 : List UInt8 := [180, 0, 215, 162, 0, 116, 3, 62, 29, 7, 162, 0, 29, 42, 28, 16, 6, 29, 96, 42, 180, 0, 25]
abbrev dktX6_keepsTower_3 : List UInt8 := dkwX6_keepsTower_3 ++ dktX6_keepsTower_4
def dkwX6_keepsTower_2 : List UInt8 := [180, 0, 7, 4, 42, 180, 0, 215, 79, 42, 180, 0, 7, 8, 42, 180, 0, 205, 79, 3, 61, 28, 42]
abbrev dktX6_keepsTower_2 : List UInt8 := dkwX6_keepsTower_2 ++ dktX6_keepsTower_3
def dkwX6_keepsTower_1 : List UInt8 := [132, 2, 1, 167, 255, 239, 42, 180, 0, 7, 7, 27, 79, 42, 180, 0, 7, 3, 42, 180, 0, 208, 79, 42]
abbrev dktX6_keepsTower_1 : List UInt8 := dkwX6_keepsTower_1 ++ dktX6_keepsTower_2
def dkwX6_keepsTower_0 : List UInt8 := [42, 180, 0, 7, 7, 46, 60, 3, 61, 28, 17, 5, 20, 162, 0, 16, 42, 180, 0, 7, 28, 3, 79]
abbrev dktX6_keepsTower_0 : List UInt8 := dkwX6_keepsTower_0 ++ dktX6_keepsTower_1
theorem dksX6_keepsTower_0 : cX6_keepsTower.data.toList.drop 0 = dktX6_keepsTower_0 := by decide +kernel
theorem dksX6_keepsTower_1 : cX6_keepsTower.data.toList.drop 23 = dktX6_keepsTower_1 := dk_seg dksX6_keepsTower_0 23 rfl rfl
theorem dksX6_keepsTower_2 : cX6_keepsTower.data.toList.drop 47 = dktX6_keepsTower_2 := dk_seg dksX6_keepsTower_1 24 rfl rfl
theorem dksX6_keepsTower_3 : cX6_keepsTower.data.toList.drop 70 = dktX6_keepsTower_3 := dk_seg dksX6_keepsTower_2 23 rfl rfl
theorem dksX6_keepsTower_4 : cX6_keepsTower.data.toList.drop 93 = dktX6_keepsTower_4 := dk_seg dksX6_keepsTower_3 23 rfl rfl
theorem dksX6_keepsTower_5 : cX6_keepsTower.data.toList.drop 117 = dktX6_keepsTower_5 := dk_seg dksX6_keepsTower_4 24 rfl rfl
theorem dksX6_keepsTower_6 : cX6_keepsTower.data.toList.drop 141 = dktX6_keepsTower_6 := dk_seg dksX6_keepsTower_5 24 rfl rfl
theorem dksX6_keepsTower_7 : cX6_keepsTower.data.toList.drop 165 = dktX6_keepsTower_7 := dk_seg dksX6_keepsTower_6 24 rfl rfl
theorem dksX6_keepsTower_8 : cX6_keepsTower.data.toList.drop 189 = dktX6_keepsTower_8 := dk_seg dksX6_keepsTower_7 24 rfl rfl
theorem dksX6_keepsTower_9 : cX6_keepsTower.data.toList.drop 213 = dktX6_keepsTower_9 := dk_seg dksX6_keepsTower_8 24 rfl rfl
theorem dX6_keepsTower_0 : decode cX6_keepsTower 0 = .ok (.aload_n 0, 1) := dk_42 (dk_at dksX6_keepsTower_0 0 rfl rfl)
theorem dX6_keepsTower_1 : decode cX6_keepsTower 1 = .ok (.getfield 7, 3) := dk_180 0 7 (dk_at dksX6_keepsTower_0 1 rfl rfl)
theorem dX6_keepsTower_4 : decode cX6_keepsTower 4 = .ok (.iconst 4, 1) := dk_7 (dk_at dksX6_keepsTower_0 4 rfl rfl)
theorem dX6_keepsTower_5 : decode cX6_keepsTower 5 = .ok (.iaload, 1) := dk_46 (dk_at dksX6_keepsTower_0 5 rfl rfl)
theorem dX6_keepsTower_6 : decode cX6_keepsTower 6 = .ok (.istore_n 1, 1) := dk_60 (dk_at dksX6_keepsTower_0 6 rfl rfl)
theorem dX6_keepsTower_7 : decode cX6_keepsTower 7 = .ok (.iconst 0, 1) := dk_3 (dk_at dksX6_keepsTower_0 7 rfl rfl)
theorem dX6_keepsTower_8 : decode cX6_keepsTower 8 = .ok (.istore_n 2, 1) := dk_61 (dk_at dksX6_keepsTower_0 8 rfl rfl)
theorem dX6_keepsTower_9 : decode cX6_keepsTower 9 = .ok (.iload_n 2, 1) := dk_28 (dk_at dksX6_keepsTower_0 9 rfl rfl)
theorem dX6_keepsTower_10 : decode cX6_keepsTower 10 = .ok (.sipush 1300, 3) := dk_17 5 20 (dk_at dksX6_keepsTower_0 10 rfl rfl)
theorem dX6_keepsTower_13 : decode cX6_keepsTower 13 = .ok (.if_icmp .ge 16, 3) := dk_162 0 16 (dk_at dksX6_keepsTower_0 13 rfl rfl)
theorem dX6_keepsTower_16 : decode cX6_keepsTower 16 = .ok (.aload_n 0, 1) := dk_42 (dk_at dksX6_keepsTower_0 16 rfl rfl)
theorem dX6_keepsTower_17 : decode cX6_keepsTower 17 = .ok (.getfield 7, 3) := dk_180 0 7 (dk_at dksX6_keepsTower_0 17 rfl rfl)
theorem dX6_keepsTower_20 : decode cX6_keepsTower 20 = .ok (.iload_n 2, 1) := dk_28 (dk_at dksX6_keepsTower_0 20 rfl rfl)
theorem dX6_keepsTower_21 : decode cX6_keepsTower 21 = .ok (.iconst 0, 1) := dk_3 (dk_at dksX6_keepsTower_0 21 rfl rfl)
theorem dX6_keepsTower_22 : decode cX6_keepsTower 22 = .ok (.iastore, 1) := dk_79 (dk_at dksX6_keepsTower_0 22 rfl rfl)
theorem dX6_keepsTower_23 : decode cX6_keepsTower 23 = .ok (.iinc 2 1, 3) := dk_132 2 1 (dk_at dksX6_keepsTower_1 0 rfl rfl)
theorem dX6_keepsTower_26 : decode cX6_keepsTower 26 = .ok (.goto (-17), 3) := dk_167 255 239 (dk_at dksX6_keepsTower_1 3 rfl rfl)
theorem dX6_keepsTower_29 : decode cX6_keepsTower 29 = .ok (.aload_n 0, 1) := dk_42 (dk_at dksX6_keepsTower_1 6 rfl rfl)
theorem dX6_keepsTower_30 : decode cX6_keepsTower 30 = .ok (.getfield 7, 3) := dk_180 0 7 (dk_at dksX6_keepsTower_1 7 rfl rfl)
theorem dX6_keepsTower_33 : decode cX6_keepsTower 33 = .ok (.iconst 4, 1) := dk_7 (dk_at dksX6_keepsTower_1 10 rfl rfl)
theorem dX6_keepsTower_34 : decode cX6_keepsTower 34 = .ok (.iload_n 1, 1) := dk_27 (dk_at dksX6_keepsTower_1 11 rfl rfl)
theorem dX6_keepsTower_35 : decode cX6_keepsTower 35 = .ok (.iastore, 1) := dk_79 (dk_at dksX6_keepsTower_1 12 rfl rfl)
theorem dX6_keepsTower_36 : decode cX6_keepsTower 36 = .ok (.aload_n 0, 1) := dk_42 (dk_at dksX6_keepsTower_1 13 rfl rfl)
theorem dX6_keepsTower_37 : decode cX6_keepsTower 37 = .ok (.getfield 7, 3) := dk_180 0 7 (dk_at dksX6_keepsTower_1 14 rfl rfl)
theorem dX6_keepsTower_40 : decode cX6_keepsTower 40 = .ok (.iconst 0, 1) := dk_3 (dk_at dksX6_keepsTower_1 17 rfl rfl)
theorem dX6_keepsTower_41 : decode cX6_keepsTower 41 = .ok (.aload_n 0, 1) := dk_42 (dk_at dksX6_keepsTower_1 18 rfl rfl)
theorem dX6_keepsTower_42 : decode cX6_keepsTower 42 = .ok (.getfield 208, 3) := dk_180 0 208 (dk_at dksX6_keepsTower_1 19 rfl rfl)
theorem dX6_keepsTower_45 : decode cX6_keepsTower 45 = .ok (.iastore, 1) := dk_79 (dk_at dksX6_keepsTower_1 22 rfl rfl)
theorem dX6_keepsTower_46 : decode cX6_keepsTower 46 = .ok (.aload_n 0, 1) := dk_42 (dk_at dksX6_keepsTower_1 23 rfl rfl)
theorem dX6_keepsTower_47 : decode cX6_keepsTower 47 = .ok (.getfield 7, 3) := dk_180 0 7 (dk_at dksX6_keepsTower_2 0 rfl rfl)
theorem dX6_keepsTower_50 : decode cX6_keepsTower 50 = .ok (.iconst 1, 1) := dk_4 (dk_at dksX6_keepsTower_2 3 rfl rfl)
theorem dX6_keepsTower_51 : decode cX6_keepsTower 51 = .ok (.aload_n 0, 1) := dk_42 (dk_at dksX6_keepsTower_2 4 rfl rfl)
theorem dX6_keepsTower_52 : decode cX6_keepsTower 52 = .ok (.getfield 215, 3) := dk_180 0 215 (dk_at dksX6_keepsTower_2 5 rfl rfl)
theorem dX6_keepsTower_55 : decode cX6_keepsTower 55 = .ok (.iastore, 1) := dk_79 (dk_at dksX6_keepsTower_2 8 rfl rfl)
theorem dX6_keepsTower_56 : decode cX6_keepsTower 56 = .ok (.aload_n 0, 1) := dk_42 (dk_at dksX6_keepsTower_2 9 rfl rfl)
theorem dX6_keepsTower_57 : decode cX6_keepsTower 57 = .ok (.getfield 7, 3) := dk_180 0 7 (dk_at dksX6_keepsTower_2 10 rfl rfl)
theorem dX6_keepsTower_60 : decode cX6_keepsTower 60 = .ok (.iconst 5, 1) := dk_8 (dk_at dksX6_keepsTower_2 13 rfl rfl)
theorem dX6_keepsTower_61 : decode cX6_keepsTower 61 = .ok (.aload_n 0, 1) := dk_42 (dk_at dksX6_keepsTower_2 14 rfl rfl)
theorem dX6_keepsTower_62 : decode cX6_keepsTower 62 = .ok (.getfield 205, 3) := dk_180 0 205 (dk_at dksX6_keepsTower_2 15 rfl rfl)
theorem dX6_keepsTower_65 : decode cX6_keepsTower 65 = .ok (.iastore, 1) := dk_79 (dk_at dksX6_keepsTower_2 18 rfl rfl)
theorem dX6_keepsTower_66 : decode cX6_keepsTower 66 = .ok (.iconst 0, 1) := dk_3 (dk_at dksX6_keepsTower_2 19 rfl rfl)
theorem dX6_keepsTower_67 : decode cX6_keepsTower 67 = .ok (.istore_n 2, 1) := dk_61 (dk_at dksX6_keepsTower_2 20 rfl rfl)
theorem dX6_keepsTower_68 : decode cX6_keepsTower 68 = .ok (.iload_n 2, 1) := dk_28 (dk_at dksX6_keepsTower_2 21 rfl rfl)
theorem dX6_keepsTower_69 : decode cX6_keepsTower 69 = .ok (.aload_n 0, 1) := dk_42 (dk_at dksX6_keepsTower_2 22 rfl rfl)
theorem dX6_keepsTower_70 : decode cX6_keepsTower 70 = .ok (.getfield 215, 3) := dk_180 0 215 (dk_at dksX6_keepsTower_3 0 rfl rfl)
theorem dX6_keepsTower_73 : decode cX6_keepsTower 73 = .ok (.if_icmp .ge 116, 3) := dk_162 0 116 (dk_at dksX6_keepsTower_3 3 rfl rfl)
theorem dX6_keepsTower_76 : decode cX6_keepsTower 76 = .ok (.iconst 0, 1) := dk_3 (dk_at dksX6_keepsTower_3 6 rfl rfl)
theorem dX6_keepsTower_77 : decode cX6_keepsTower 77 = .ok (.istore_n 3, 1) := dk_62 (dk_at dksX6_keepsTower_3 7 rfl rfl)
theorem dX6_keepsTower_78 : decode cX6_keepsTower 78 = .ok (.iload_n 3, 1) := dk_29 (dk_at dksX6_keepsTower_3 8 rfl rfl)
theorem dX6_keepsTower_79 : decode cX6_keepsTower 79 = .ok (.iconst 4, 1) := dk_7 (dk_at dksX6_keepsTower_3 9 rfl rfl)
theorem dX6_keepsTower_80 : decode cX6_keepsTower 80 = .ok (.if_icmp .ge 29, 3) := dk_162 0 29 (dk_at dksX6_keepsTower_3 10 rfl rfl)
theorem dX6_keepsTower_83 : decode cX6_keepsTower 83 = .ok (.aload_n 0, 1) := dk_42 (dk_at dksX6_keepsTower_3 13 rfl rfl)
theorem dX6_keepsTower_84 : decode cX6_keepsTower 84 = .ok (.iload_n 2, 1) := dk_28 (dk_at dksX6_keepsTower_3 14 rfl rfl)
theorem dX6_keepsTower_85 : decode cX6_keepsTower 85 = .ok (.bipush 6, 2) := dk_16 6 (dk_at dksX6_keepsTower_3 15 rfl rfl)
theorem dX6_keepsTower_87 : decode cX6_keepsTower 87 = .ok (.iload_n 3, 1) := dk_29 (dk_at dksX6_keepsTower_3 17 rfl rfl)
theorem dX6_keepsTower_88 : decode cX6_keepsTower 88 = .ok (.iadd, 1) := dk_96 (dk_at dksX6_keepsTower_3 18 rfl rfl)
theorem dX6_keepsTower_89 : decode cX6_keepsTower 89 = .ok (.aload_n 0, 1) := dk_42 (dk_at dksX6_keepsTower_3 19 rfl rfl)
theorem dX6_keepsTower_90 : decode cX6_keepsTower 90 = .ok (.getfield 25, 3) := dk_180 0 25 (dk_at dksX6_keepsTower_3 20 rfl rfl)
theorem dX6_keepsTower_93 : decode cX6_keepsTower 93 = .ok (.bipush 10, 2) := dk_16 10 (dk_at dksX6_keepsTower_4 0 rfl rfl)
theorem dX6_keepsTower_95 : decode cX6_keepsTower 95 = .ok (.iload_n 2, 1) := dk_28 (dk_at dksX6_keepsTower_4 2 rfl rfl)
theorem dX6_keepsTower_96 : decode cX6_keepsTower 96 = .ok (.imul, 1) := dk_104 (dk_at dksX6_keepsTower_4 3 rfl rfl)
theorem dX6_keepsTower_97 : decode cX6_keepsTower 97 = .ok (.iload_n 3, 1) := dk_29 (dk_at dksX6_keepsTower_4 4 rfl rfl)
theorem dX6_keepsTower_98 : decode cX6_keepsTower 98 = .ok (.iadd, 1) := dk_96 (dk_at dksX6_keepsTower_4 5 rfl rfl)
theorem dX6_keepsTower_99 : decode cX6_keepsTower 99 = .ok (.iaload, 1) := dk_46 (dk_at dksX6_keepsTower_4 6 rfl rfl)
theorem dX6_keepsTower_100 : decode cX6_keepsTower 100 = .ok (.invokevirtual 241, 3) := dk_182 0 241 (dk_at dksX6_keepsTower_4 7 rfl rfl)
theorem dX6_keepsTower_103 : decode cX6_keepsTower 103 = .ok (.iinc 3 1, 3) := dk_132 3 1 (dk_at dksX6_keepsTower_4 10 rfl rfl)
theorem dX6_keepsTower_106 : decode cX6_keepsTower 106 = .ok (.goto (-28), 3) := dk_167 255 228 (dk_at dksX6_keepsTower_4 13 rfl rfl)
theorem dX6_keepsTower_109 : decode cX6_keepsTower 109 = .ok (.aload_n 0, 1) := dk_42 (dk_at dksX6_keepsTower_4 16 rfl rfl)
theorem dX6_keepsTower_110 : decode cX6_keepsTower 110 = .ok (.iload_n 2, 1) := dk_28 (dk_at dksX6_keepsTower_4 17 rfl rfl)
theorem dX6_keepsTower_111 : decode cX6_keepsTower 111 = .ok (.bipush 10, 2) := dk_16 10 (dk_at dksX6_keepsTower_4 18 rfl rfl)
theorem dX6_keepsTower_113 : decode cX6_keepsTower 113 = .ok (.aload_n 0, 1) := dk_42 (dk_at dksX6_keepsTower_4 20 rfl rfl)
theorem dX6_keepsTower_114 : decode cX6_keepsTower 114 = .ok (.getfield 25, 3) := dk_180 0 25 (dk_at dksX6_keepsTower_4 21 rfl rfl)
theorem dX6_keepsTower_117 : decode cX6_keepsTower 117 = .ok (.bipush 10, 2) := dk_16 10 (dk_at dksX6_keepsTower_5 0 rfl rfl)
theorem dX6_keepsTower_119 : decode cX6_keepsTower 119 = .ok (.iload_n 2, 1) := dk_28 (dk_at dksX6_keepsTower_5 2 rfl rfl)
theorem dX6_keepsTower_120 : decode cX6_keepsTower 120 = .ok (.imul, 1) := dk_104 (dk_at dksX6_keepsTower_5 3 rfl rfl)
theorem dX6_keepsTower_121 : decode cX6_keepsTower 121 = .ok (.iconst 4, 1) := dk_7 (dk_at dksX6_keepsTower_5 4 rfl rfl)
theorem dX6_keepsTower_122 : decode cX6_keepsTower 122 = .ok (.iadd, 1) := dk_96 (dk_at dksX6_keepsTower_5 5 rfl rfl)
theorem dX6_keepsTower_123 : decode cX6_keepsTower 123 = .ok (.iaload, 1) := dk_46 (dk_at dksX6_keepsTower_5 6 rfl rfl)
theorem dX6_keepsTower_124 : decode cX6_keepsTower 124 = .ok (.invokevirtual 241, 3) := dk_182 0 241 (dk_at dksX6_keepsTower_5 7 rfl rfl)
theorem dX6_keepsTower_127 : decode cX6_keepsTower 127 = .ok (.iconst 0, 1) := dk_3 (dk_at dksX6_keepsTower_5 10 rfl rfl)
theorem dX6_keepsTower_128 : decode cX6_keepsTower 128 = .ok (.istore_n 3, 1) := dk_62 (dk_at dksX6_keepsTower_5 11 rfl rfl)
theorem dX6_keepsTower_129 : decode cX6_keepsTower 129 = .ok (.iload_n 3, 1) := dk_29 (dk_at dksX6_keepsTower_5 12 rfl rfl)
theorem dX6_keepsTower_130 : decode cX6_keepsTower 130 = .ok (.aload_n 0, 1) := dk_42 (dk_at dksX6_keepsTower_5 13 rfl rfl)
theorem dX6_keepsTower_131 : decode cX6_keepsTower 131 = .ok (.getfield 208, 3) := dk_180 0 208 (dk_at dksX6_keepsTower_5 14 rfl rfl)
theorem dX6_keepsTower_134 : decode cX6_keepsTower 134 = .ok (.if_icmp .ge 42, 3) := dk_162 0 42 (dk_at dksX6_keepsTower_5 17 rfl rfl)
theorem dX6_keepsTower_137 : decode cX6_keepsTower 137 = .ok (.aload_n 0, 1) := dk_42 (dk_at dksX6_keepsTower_5 20 rfl rfl)
theorem dX6_keepsTower_138 : decode cX6_keepsTower 138 = .ok (.getfield 7, 3) := dk_180 0 7 (dk_at dksX6_keepsTower_5 21 rfl rfl)
theorem dX6_keepsTower_141 : decode cX6_keepsTower 141 = .ok (.bipush 100, 2) := dk_16 100 (dk_at dksX6_keepsTower_6 0 rfl rfl)
theorem dX6_keepsTower_143 : decode cX6_keepsTower 143 = .ok (.bipush 80, 2) := dk_16 80 (dk_at dksX6_keepsTower_6 2 rfl rfl)
theorem dX6_keepsTower_145 : decode cX6_keepsTower 145 = .ok (.iload_n 2, 1) := dk_28 (dk_at dksX6_keepsTower_6 4 rfl rfl)
theorem dX6_keepsTower_146 : decode cX6_keepsTower 146 = .ok (.imul, 1) := dk_104 (dk_at dksX6_keepsTower_6 5 rfl rfl)
theorem dX6_keepsTower_147 : decode cX6_keepsTower 147 = .ok (.iadd, 1) := dk_96 (dk_at dksX6_keepsTower_6 6 rfl rfl)
theorem dX6_keepsTower_148 : decode cX6_keepsTower 148 = .ok (.iload_n 3, 1) := dk_29 (dk_at dksX6_keepsTower_6 7 rfl rfl)
theorem dX6_keepsTower_149 : decode cX6_keepsTower 149 = .ok (.iadd, 1) := dk_96 (dk_at dksX6_keepsTower_6 8 rfl rfl)
theorem dX6_keepsTower_150 : decode cX6_keepsTower 150 = .ok (.aload_n 0, 1) := dk_42 (dk_at dksX6_keepsTower_6 9 rfl rfl)
theorem dX6_keepsTower_151 : decode cX6_keepsTower 151 = .ok (.getfield 37, 3) := dk_180 0 37 (dk_at dksX6_keepsTower_6 10 rfl rfl)
theorem dX6_keepsTower_154 : decode cX6_keepsTower 154 = .ok (.bipush 80, 2) := dk_16 80 (dk_at dksX6_keepsTower_6 13 rfl rfl)
theorem dX6_keepsTower_156 : decode cX6_keepsTower 156 = .ok (.iload_n 2, 1) := dk_28 (dk_at dksX6_keepsTower_6 15 rfl rfl)
theorem dX6_keepsTower_157 : decode cX6_keepsTower 157 = .ok (.imul, 1) := dk_104 (dk_at dksX6_keepsTower_6 16 rfl rfl)
theorem dX6_keepsTower_158 : decode cX6_keepsTower 158 = .ok (.iload_n 3, 1) := dk_29 (dk_at dksX6_keepsTower_6 17 rfl rfl)
theorem dX6_keepsTower_159 : decode cX6_keepsTower 159 = .ok (.iadd, 1) := dk_96 (dk_at dksX6_keepsTower_6 18 rfl rfl)
theorem dX6_keepsTower_160 : decode cX6_keepsTower 160 = .ok (.baload, 1) := dk_51 (dk_at dksX6_keepsTower_6 19 rfl rfl)
theorem dX6_keepsTower_161 : decode cX6_keepsTower 161 = .ok (.ifCond .eq 7, 3) := dk_153 0 7 (dk_at dksX6_keepsTower_6 20 rfl rfl)
theorem dX6_keepsTower_164 : decode cX6_keepsTower 164 = .ok (.iconst 0, 1) := dk_3 (dk_at dksX6_keepsTower_6 23 rfl rfl)
theorem dX6_keepsTower_165 : decode cX6_keepsTower 165 = .ok (.goto 4, 3) := dk_167 0 4 (dk_at dksX6_keepsTower_7 0 rfl rfl)
theorem dX6_keepsTower_168 : decode cX6_keepsTower 168 = .ok (.iconst 1, 1) := dk_4 (dk_at dksX6_keepsTower_7 3 rfl rfl)
theorem dX6_keepsTower_169 : decode cX6_keepsTower 169 = .ok (.iastore, 1) := dk_79 (dk_at dksX6_keepsTower_7 4 rfl rfl)
theorem dX6_keepsTower_170 : decode cX6_keepsTower 170 = .ok (.iinc 3 1, 3) := dk_132 3 1 (dk_at dksX6_keepsTower_7 5 rfl rfl)
theorem dX6_keepsTower_173 : decode cX6_keepsTower 173 = .ok (.goto (-44), 3) := dk_167 255 212 (dk_at dksX6_keepsTower_7 8 rfl rfl)
theorem dX6_keepsTower_176 : decode cX6_keepsTower 176 = .ok (.aload_n 0, 1) := dk_42 (dk_at dksX6_keepsTower_7 11 rfl rfl)
theorem dX6_keepsTower_177 : decode cX6_keepsTower 177 = .ok (.iload_n 2, 1) := dk_28 (dk_at dksX6_keepsTower_7 12 rfl rfl)
theorem dX6_keepsTower_178 : decode cX6_keepsTower 178 = .ok (.iconst 5, 1) := dk_8 (dk_at dksX6_keepsTower_7 13 rfl rfl)
theorem dX6_keepsTower_179 : decode cX6_keepsTower 179 = .ok (.iconst (-1), 1) := dk_2 (dk_at dksX6_keepsTower_7 14 rfl rfl)
theorem dX6_keepsTower_180 : decode cX6_keepsTower 180 = .ok (.invokevirtual 241, 3) := dk_182 0 241 (dk_at dksX6_keepsTower_7 15 rfl rfl)
theorem dX6_keepsTower_183 : decode cX6_keepsTower 183 = .ok (.iinc 2 1, 3) := dk_132 2 1 (dk_at dksX6_keepsTower_7 18 rfl rfl)
theorem dX6_keepsTower_186 : decode cX6_keepsTower 186 = .ok (.goto (-118), 3) := dk_167 255 138 (dk_at dksX6_keepsTower_7 21 rfl rfl)
theorem dX6_keepsTower_189 : decode cX6_keepsTower 189 = .ok (.iconst 0, 1) := dk_3 (dk_at dksX6_keepsTower_8 0 rfl rfl)
theorem dX6_keepsTower_190 : decode cX6_keepsTower 190 = .ok (.istore_n 2, 1) := dk_61 (dk_at dksX6_keepsTower_8 1 rfl rfl)
theorem dX6_keepsTower_191 : decode cX6_keepsTower 191 = .ok (.iload_n 2, 1) := dk_28 (dk_at dksX6_keepsTower_8 2 rfl rfl)
theorem dX6_keepsTower_192 : decode cX6_keepsTower 192 = .ok (.aload_n 0, 1) := dk_42 (dk_at dksX6_keepsTower_8 3 rfl rfl)
theorem dX6_keepsTower_193 : decode cX6_keepsTower 193 = .ok (.getfield 208, 3) := dk_180 0 208 (dk_at dksX6_keepsTower_8 4 rfl rfl)
theorem dX6_keepsTower_196 : decode cX6_keepsTower 196 = .ok (.if_icmp .ge 20, 3) := dk_162 0 20 (dk_at dksX6_keepsTower_8 7 rfl rfl)
theorem dX6_keepsTower_199 : decode cX6_keepsTower 199 = .ok (.aload_n 0, 1) := dk_42 (dk_at dksX6_keepsTower_8 10 rfl rfl)
theorem dX6_keepsTower_200 : decode cX6_keepsTower 200 = .ok (.getfield 7, 3) := dk_180 0 7 (dk_at dksX6_keepsTower_8 11 rfl rfl)
theorem dX6_keepsTower_203 : decode cX6_keepsTower 203 = .ok (.sipush 740, 3) := dk_17 2 228 (dk_at dksX6_keepsTower_8 14 rfl rfl)
theorem dX6_keepsTower_206 : decode cX6_keepsTower 206 = .ok (.iload_n 2, 1) := dk_28 (dk_at dksX6_keepsTower_8 17 rfl rfl)
theorem dX6_keepsTower_207 : decode cX6_keepsTower 207 = .ok (.iadd, 1) := dk_96 (dk_at dksX6_keepsTower_8 18 rfl rfl)
theorem dX6_keepsTower_208 : decode cX6_keepsTower 208 = .ok (.iconst 1, 1) := dk_4 (dk_at dksX6_keepsTower_8 19 rfl rfl)
theorem dX6_keepsTower_209 : decode cX6_keepsTower 209 = .ok (.iastore, 1) := dk_79 (dk_at dksX6_keepsTower_8 20 rfl rfl)
theorem dX6_keepsTower_210 : decode cX6_keepsTower 210 = .ok (.iinc 2 1, 3) := dk_132 2 1 (dk_at dksX6_keepsTower_8 21 rfl rfl)
theorem dX6_keepsTower_213 : decode cX6_keepsTower 213 = .ok (.goto (-22), 3) := dk_167 255 234 (dk_at dksX6_keepsTower_9 0 rfl rfl)
theorem dX6_keepsTower_216 : decode cX6_keepsTower 216 = .ok (.aload_n 0, 1) := dk_42 (dk_at dksX6_keepsTower_9 3 rfl rfl)
theorem dX6_keepsTower_217 : decode cX6_keepsTower 217 = .ok (.invokevirtual 245, 3) := dk_182 0 245 (dk_at dksX6_keepsTower_9 4 rfl rfl)
theorem dX6_keepsTower_220 : decode cX6_keepsTower 220 = .ok (.return_, 1) := dk_177 (dk_at dksX6_keepsTower_9 7 rfl rfl)
abbrev cX6_sets : ByteArray := prog_15_method_8_code
def yX6_sets : MethodName := ⟨RX6, "sets", "(III)V"⟩
def dkwX6_sets_0 : List UInt8 := [42, 180, 0, 7, 16, 10, 16, 20, 27, 104, 96, 28, 96, 29, 79, 177]
abbrev dktX6_sets_0 : List UInt8 := dkwX6_sets_0 ++ []
theorem dksX6_sets_0 : cX6_sets.data.toList.drop 0 = dktX6_sets_0 := by decide +kernel
theorem dX6_sets_0 : decode cX6_sets 0 = .ok (.aload_n 0, 1) := dk_42 (dk_at dksX6_sets_0 0 rfl rfl)
theorem dX6_sets_1 : decode cX6_sets 1 = .ok (.getfield 7, 3) := dk_180 0 7 (dk_at dksX6_sets_0 1 rfl rfl)
theorem dX6_sets_4 : decode cX6_sets 4 = .ok (.bipush 10, 2) := dk_16 10 (dk_at dksX6_sets_0 4 rfl rfl)
theorem dX6_sets_6 : decode cX6_sets 6 = .ok (.bipush 20, 2) := dk_16 20 (dk_at dksX6_sets_0 6 rfl rfl)
theorem dX6_sets_8 : decode cX6_sets 8 = .ok (.iload_n 1, 1) := dk_27 (dk_at dksX6_sets_0 8 rfl rfl)
theorem dX6_sets_9 : decode cX6_sets 9 = .ok (.imul, 1) := dk_104 (dk_at dksX6_sets_0 9 rfl rfl)
theorem dX6_sets_10 : decode cX6_sets 10 = .ok (.iadd, 1) := dk_96 (dk_at dksX6_sets_0 10 rfl rfl)
theorem dX6_sets_11 : decode cX6_sets 11 = .ok (.iload_n 2, 1) := dk_28 (dk_at dksX6_sets_0 11 rfl rfl)
theorem dX6_sets_12 : decode cX6_sets 12 = .ok (.iadd, 1) := dk_96 (dk_at dksX6_sets_0 12 rfl rfl)
theorem dX6_sets_13 : decode cX6_sets 13 = .ok (.iload_n 3, 1) := dk_29 (dk_at dksX6_sets_0 13 rfl rfl)
theorem dX6_sets_14 : decode cX6_sets 14 = .ok (.iastore, 1) := dk_79 (dk_at dksX6_sets_0 14 rfl rfl)
theorem dX6_sets_15 : decode cX6_sets 15 = .ok (.return_, 1) := dk_177 (dk_at dksX6_sets_0 15 rfl rfl)
abbrev cX6_parks : ByteArray := prog_15_method_41_code
def yX6_parks : MethodName := ⟨RX6, "parks", "()V"⟩
def dkwX6_parks_2 : List UInt8 := [132, 1, 1, 167, 255, 209, 177]
abbrev dktX6_parks_2 : List UInt8 := dkwX6_parks_2 ++ []
def dkwX6_parks_1 : List UInt8 := [182, 0, 241, 42, 27, 4, 3, 182, 0, 241, 42, 27, 5, 3, 182, 0, 241, 42, 27, 6, 3, 182, 0, 241]
abbrev dktX6_parks_1 : List UInt8 := dkwX6_parks_1 ++ dktX6_parks_2
def dkwX6_parks_0 : List UInt8 := [3, 60, 27, 42, 180, 0, 7, 4, 46, 162, 0, 43, 42, 27, 3, 42, 27, 16, 10, 182, 0, 248]
abbrev dktX6_parks_0 : List UInt8 := dkwX6_parks_0 ++ dktX6_parks_1
theorem dksX6_parks_0 : cX6_parks.data.toList.drop 0 = dktX6_parks_0 := by decide +kernel
theorem dksX6_parks_1 : cX6_parks.data.toList.drop 22 = dktX6_parks_1 := dk_seg dksX6_parks_0 22 rfl rfl
theorem dksX6_parks_2 : cX6_parks.data.toList.drop 46 = dktX6_parks_2 := dk_seg dksX6_parks_1 24 rfl rfl
theorem dX6_parks_0 : decode cX6_parks 0 = .ok (.iconst 0, 1) := dk_3 (dk_at dksX6_parks_0 0 rfl rfl)
theorem dX6_parks_1 : decode cX6_parks 1 = .ok (.istore_n 1, 1) := dk_60 (dk_at dksX6_parks_0 1 rfl rfl)
theorem dX6_parks_2 : decode cX6_parks 2 = .ok (.iload_n 1, 1) := dk_27 (dk_at dksX6_parks_0 2 rfl rfl)
theorem dX6_parks_3 : decode cX6_parks 3 = .ok (.aload_n 0, 1) := dk_42 (dk_at dksX6_parks_0 3 rfl rfl)
theorem dX6_parks_4 : decode cX6_parks 4 = .ok (.getfield 7, 3) := dk_180 0 7 (dk_at dksX6_parks_0 4 rfl rfl)
theorem dX6_parks_7 : decode cX6_parks 7 = .ok (.iconst 1, 1) := dk_4 (dk_at dksX6_parks_0 7 rfl rfl)
theorem dX6_parks_8 : decode cX6_parks 8 = .ok (.iaload, 1) := dk_46 (dk_at dksX6_parks_0 8 rfl rfl)
theorem dX6_parks_9 : decode cX6_parks 9 = .ok (.if_icmp .ge 43, 3) := dk_162 0 43 (dk_at dksX6_parks_0 9 rfl rfl)
theorem dX6_parks_12 : decode cX6_parks 12 = .ok (.aload_n 0, 1) := dk_42 (dk_at dksX6_parks_0 12 rfl rfl)
theorem dX6_parks_13 : decode cX6_parks 13 = .ok (.iload_n 1, 1) := dk_27 (dk_at dksX6_parks_0 13 rfl rfl)
theorem dX6_parks_14 : decode cX6_parks 14 = .ok (.iconst 0, 1) := dk_3 (dk_at dksX6_parks_0 14 rfl rfl)
theorem dX6_parks_15 : decode cX6_parks 15 = .ok (.aload_n 0, 1) := dk_42 (dk_at dksX6_parks_0 15 rfl rfl)
theorem dX6_parks_16 : decode cX6_parks 16 = .ok (.iload_n 1, 1) := dk_27 (dk_at dksX6_parks_0 16 rfl rfl)
theorem dX6_parks_17 : decode cX6_parks 17 = .ok (.bipush 10, 2) := dk_16 10 (dk_at dksX6_parks_0 17 rfl rfl)
theorem dX6_parks_19 : decode cX6_parks 19 = .ok (.invokevirtual 248, 3) := dk_182 0 248 (dk_at dksX6_parks_0 19 rfl rfl)
theorem dX6_parks_22 : decode cX6_parks 22 = .ok (.invokevirtual 241, 3) := dk_182 0 241 (dk_at dksX6_parks_1 0 rfl rfl)
theorem dX6_parks_25 : decode cX6_parks 25 = .ok (.aload_n 0, 1) := dk_42 (dk_at dksX6_parks_1 3 rfl rfl)
theorem dX6_parks_26 : decode cX6_parks 26 = .ok (.iload_n 1, 1) := dk_27 (dk_at dksX6_parks_1 4 rfl rfl)
theorem dX6_parks_27 : decode cX6_parks 27 = .ok (.iconst 1, 1) := dk_4 (dk_at dksX6_parks_1 5 rfl rfl)
theorem dX6_parks_28 : decode cX6_parks 28 = .ok (.iconst 0, 1) := dk_3 (dk_at dksX6_parks_1 6 rfl rfl)
theorem dX6_parks_29 : decode cX6_parks 29 = .ok (.invokevirtual 241, 3) := dk_182 0 241 (dk_at dksX6_parks_1 7 rfl rfl)
theorem dX6_parks_32 : decode cX6_parks 32 = .ok (.aload_n 0, 1) := dk_42 (dk_at dksX6_parks_1 10 rfl rfl)
theorem dX6_parks_33 : decode cX6_parks 33 = .ok (.iload_n 1, 1) := dk_27 (dk_at dksX6_parks_1 11 rfl rfl)
theorem dX6_parks_34 : decode cX6_parks 34 = .ok (.iconst 2, 1) := dk_5 (dk_at dksX6_parks_1 12 rfl rfl)
theorem dX6_parks_35 : decode cX6_parks 35 = .ok (.iconst 0, 1) := dk_3 (dk_at dksX6_parks_1 13 rfl rfl)
theorem dX6_parks_36 : decode cX6_parks 36 = .ok (.invokevirtual 241, 3) := dk_182 0 241 (dk_at dksX6_parks_1 14 rfl rfl)
theorem dX6_parks_39 : decode cX6_parks 39 = .ok (.aload_n 0, 1) := dk_42 (dk_at dksX6_parks_1 17 rfl rfl)
theorem dX6_parks_40 : decode cX6_parks 40 = .ok (.iload_n 1, 1) := dk_27 (dk_at dksX6_parks_1 18 rfl rfl)
theorem dX6_parks_41 : decode cX6_parks 41 = .ok (.iconst 3, 1) := dk_6 (dk_at dksX6_parks_1 19 rfl rfl)
theorem dX6_parks_42 : decode cX6_parks 42 = .ok (.iconst 0, 1) := dk_3 (dk_at dksX6_parks_1 20 rfl rfl)
theorem dX6_parks_43 : decode cX6_parks 43 = .ok (.invokevirtual 241, 3) := dk_182 0 241 (dk_at dksX6_parks_1 21 rfl rfl)
theorem dX6_parks_46 : decode cX6_parks 46 = .ok (.iinc 1 1, 3) := dk_132 1 1 (dk_at dksX6_parks_2 0 rfl rfl)
theorem dX6_parks_49 : decode cX6_parks 49 = .ok (.goto (-47), 3) := dk_167 255 209 (dk_at dksX6_parks_2 3 rfl rfl)
theorem dX6_parks_52 : decode cX6_parks 52 = .ok (.return_, 1) := dk_177 (dk_at dksX6_parks_2 6 rfl rfl)
abbrev cX6_ofCar : ByteArray := prog_15_method_7_code
def yX6_ofCar : MethodName := ⟨RX6, "ofCar", "(II)I"⟩
def dkwX6_ofCar_0 : List UInt8 := [42, 180, 0, 7, 16, 10, 16, 20, 27, 104, 96, 28, 96, 46, 172]
abbrev dktX6_ofCar_0 : List UInt8 := dkwX6_ofCar_0 ++ []
theorem dksX6_ofCar_0 : cX6_ofCar.data.toList.drop 0 = dktX6_ofCar_0 := by decide +kernel
theorem dX6_ofCar_0 : decode cX6_ofCar 0 = .ok (.aload_n 0, 1) := dk_42 (dk_at dksX6_ofCar_0 0 rfl rfl)
theorem dX6_ofCar_1 : decode cX6_ofCar 1 = .ok (.getfield 7, 3) := dk_180 0 7 (dk_at dksX6_ofCar_0 1 rfl rfl)
theorem dX6_ofCar_4 : decode cX6_ofCar 4 = .ok (.bipush 10, 2) := dk_16 10 (dk_at dksX6_ofCar_0 4 rfl rfl)
theorem dX6_ofCar_6 : decode cX6_ofCar 6 = .ok (.bipush 20, 2) := dk_16 20 (dk_at dksX6_ofCar_0 6 rfl rfl)
theorem dX6_ofCar_8 : decode cX6_ofCar 8 = .ok (.iload_n 1, 1) := dk_27 (dk_at dksX6_ofCar_0 8 rfl rfl)
theorem dX6_ofCar_9 : decode cX6_ofCar 9 = .ok (.imul, 1) := dk_104 (dk_at dksX6_ofCar_0 9 rfl rfl)
theorem dX6_ofCar_10 : decode cX6_ofCar 10 = .ok (.iadd, 1) := dk_96 (dk_at dksX6_ofCar_0 10 rfl rfl)
theorem dX6_ofCar_11 : decode cX6_ofCar 11 = .ok (.iload_n 2, 1) := dk_28 (dk_at dksX6_ofCar_0 11 rfl rfl)
theorem dX6_ofCar_12 : decode cX6_ofCar 12 = .ok (.iadd, 1) := dk_96 (dk_at dksX6_ofCar_0 12 rfl rfl)
theorem dX6_ofCar_13 : decode cX6_ofCar 13 = .ok (.iaload, 1) := dk_46 (dk_at dksX6_ofCar_0 13 rfl rfl)
theorem dX6_ofCar_14 : decode cX6_ofCar 14 = .ok (.ireturn, 1) := dk_172 (dk_at dksX6_ofCar_0 14 rfl rfl)
abbrev cX6_fault : ByteArray := prog_15_method_42_code
def yX6_fault : MethodName := ⟨RX6, "fault", "(I)I"⟩
def dkwX6_fault_1 : List UInt8 := [172]
abbrev dktX6_fault_1 : List UInt8 := dkwX6_fault_1 ++ []
def dkwX6_fault_0 : List UInt8 := [27, 154, 0, 10, 42, 180, 0, 225, 167, 0, 16, 27, 4, 160, 0, 10, 42, 180, 0, 41, 167, 0, 4, 2]
abbrev dktX6_fault_0 : List UInt8 := dkwX6_fault_0 ++ dktX6_fault_1
theorem dksX6_fault_0 : cX6_fault.data.toList.drop 0 = dktX6_fault_0 := by decide +kernel
theorem dksX6_fault_1 : cX6_fault.data.toList.drop 24 = dktX6_fault_1 := dk_seg dksX6_fault_0 24 rfl rfl
theorem dX6_fault_0 : decode cX6_fault 0 = .ok (.iload_n 1, 1) := dk_27 (dk_at dksX6_fault_0 0 rfl rfl)
theorem dX6_fault_1 : decode cX6_fault 1 = .ok (.ifCond .ne 10, 3) := dk_154 0 10 (dk_at dksX6_fault_0 1 rfl rfl)
theorem dX6_fault_4 : decode cX6_fault 4 = .ok (.aload_n 0, 1) := dk_42 (dk_at dksX6_fault_0 4 rfl rfl)
theorem dX6_fault_5 : decode cX6_fault 5 = .ok (.getfield 225, 3) := dk_180 0 225 (dk_at dksX6_fault_0 5 rfl rfl)
theorem dX6_fault_8 : decode cX6_fault 8 = .ok (.goto 16, 3) := dk_167 0 16 (dk_at dksX6_fault_0 8 rfl rfl)
theorem dX6_fault_11 : decode cX6_fault 11 = .ok (.iload_n 1, 1) := dk_27 (dk_at dksX6_fault_0 11 rfl rfl)
theorem dX6_fault_12 : decode cX6_fault 12 = .ok (.iconst 1, 1) := dk_4 (dk_at dksX6_fault_0 12 rfl rfl)
theorem dX6_fault_13 : decode cX6_fault 13 = .ok (.if_icmp .ne 10, 3) := dk_160 0 10 (dk_at dksX6_fault_0 13 rfl rfl)
theorem dX6_fault_16 : decode cX6_fault 16 = .ok (.aload_n 0, 1) := dk_42 (dk_at dksX6_fault_0 16 rfl rfl)
theorem dX6_fault_17 : decode cX6_fault 17 = .ok (.getfield 41, 3) := dk_180 0 41 (dk_at dksX6_fault_0 17 rfl rfl)
theorem dX6_fault_20 : decode cX6_fault 20 = .ok (.goto 4, 3) := dk_167 0 4 (dk_at dksX6_fault_0 20 rfl rfl)
theorem dX6_fault_23 : decode cX6_fault 23 = .ok (.iconst (-1), 1) := dk_2 (dk_at dksX6_fault_0 23 rfl rfl)
theorem dX6_fault_24 : decode cX6_fault 24 = .ok (.ireturn, 1) := dk_172 (dk_at dksX6_fault_1 0 rfl rfl)
abbrev cX6_one : ByteArray := prog_15_method_45_code
def yX6_one : MethodName := ⟨RX6, "one", "(III)I"⟩
def dkwX6_one_2 : List UInt8 := [2, 172, 42, 27, 28, 29, 182, 1, 3, 42, 180, 0, 7, 5, 46, 4, 100, 172]
abbrev dktX6_one_2 : List UInt8 := dkwX6_one_2 ++ []
def dkwX6_one_1 : List UInt8 := [42, 29, 182, 1, 0, 153, 0, 19, 28, 29, 159, 0, 14, 42, 180, 0, 7, 5, 46, 16, 60, 160, 0, 5]
abbrev dktX6_one_1 : List UInt8 := dkwX6_one_1 ++ dktX6_one_2
def dkwX6_one_0 : List UInt8 := [27, 42, 180, 0, 7, 6, 46, 17, 39, 15, 184, 0, 66, 153, 0, 35, 42, 28, 182, 1, 0, 153, 0, 27]
abbrev dktX6_one_0 : List UInt8 := dkwX6_one_0 ++ dktX6_one_1
theorem dksX6_one_0 : cX6_one.data.toList.drop 0 = dktX6_one_0 := by decide +kernel
theorem dksX6_one_1 : cX6_one.data.toList.drop 24 = dktX6_one_1 := dk_seg dksX6_one_0 24 rfl rfl
theorem dksX6_one_2 : cX6_one.data.toList.drop 48 = dktX6_one_2 := dk_seg dksX6_one_1 24 rfl rfl
theorem dX6_one_0 : decode cX6_one 0 = .ok (.iload_n 1, 1) := dk_27 (dk_at dksX6_one_0 0 rfl rfl)
theorem dX6_one_1 : decode cX6_one 1 = .ok (.aload_n 0, 1) := dk_42 (dk_at dksX6_one_0 1 rfl rfl)
theorem dX6_one_2 : decode cX6_one 2 = .ok (.getfield 7, 3) := dk_180 0 7 (dk_at dksX6_one_0 2 rfl rfl)
theorem dX6_one_5 : decode cX6_one 5 = .ok (.iconst 3, 1) := dk_6 (dk_at dksX6_one_0 5 rfl rfl)
theorem dX6_one_6 : decode cX6_one 6 = .ok (.iaload, 1) := dk_46 (dk_at dksX6_one_0 6 rfl rfl)
theorem dX6_one_7 : decode cX6_one 7 = .ok (.sipush 9999, 3) := dk_17 39 15 (dk_at dksX6_one_0 7 rfl rfl)
theorem dX6_one_10 : decode cX6_one 10 = .ok (.invokestatic 66, 3) := dk_184 0 66 (dk_at dksX6_one_0 10 rfl rfl)
theorem dX6_one_13 : decode cX6_one 13 = .ok (.ifCond .eq 35, 3) := dk_153 0 35 (dk_at dksX6_one_0 13 rfl rfl)
theorem dX6_one_16 : decode cX6_one 16 = .ok (.aload_n 0, 1) := dk_42 (dk_at dksX6_one_0 16 rfl rfl)
theorem dX6_one_17 : decode cX6_one 17 = .ok (.iload_n 2, 1) := dk_28 (dk_at dksX6_one_0 17 rfl rfl)
theorem dX6_one_18 : decode cX6_one 18 = .ok (.invokevirtual 256, 3) := dk_182 1 0 (dk_at dksX6_one_0 18 rfl rfl)
theorem dX6_one_21 : decode cX6_one 21 = .ok (.ifCond .eq 27, 3) := dk_153 0 27 (dk_at dksX6_one_0 21 rfl rfl)
theorem dX6_one_24 : decode cX6_one 24 = .ok (.aload_n 0, 1) := dk_42 (dk_at dksX6_one_1 0 rfl rfl)
theorem dX6_one_25 : decode cX6_one 25 = .ok (.iload_n 3, 1) := dk_29 (dk_at dksX6_one_1 1 rfl rfl)
theorem dX6_one_26 : decode cX6_one 26 = .ok (.invokevirtual 256, 3) := dk_182 1 0 (dk_at dksX6_one_1 2 rfl rfl)
theorem dX6_one_29 : decode cX6_one 29 = .ok (.ifCond .eq 19, 3) := dk_153 0 19 (dk_at dksX6_one_1 5 rfl rfl)
theorem dX6_one_32 : decode cX6_one 32 = .ok (.iload_n 2, 1) := dk_28 (dk_at dksX6_one_1 8 rfl rfl)
theorem dX6_one_33 : decode cX6_one 33 = .ok (.iload_n 3, 1) := dk_29 (dk_at dksX6_one_1 9 rfl rfl)
theorem dX6_one_34 : decode cX6_one 34 = .ok (.if_icmp .eq 14, 3) := dk_159 0 14 (dk_at dksX6_one_1 10 rfl rfl)
theorem dX6_one_37 : decode cX6_one 37 = .ok (.aload_n 0, 1) := dk_42 (dk_at dksX6_one_1 13 rfl rfl)
theorem dX6_one_38 : decode cX6_one 38 = .ok (.getfield 7, 3) := dk_180 0 7 (dk_at dksX6_one_1 14 rfl rfl)
theorem dX6_one_41 : decode cX6_one 41 = .ok (.iconst 2, 1) := dk_5 (dk_at dksX6_one_1 17 rfl rfl)
theorem dX6_one_42 : decode cX6_one 42 = .ok (.iaload, 1) := dk_46 (dk_at dksX6_one_1 18 rfl rfl)
theorem dX6_one_43 : decode cX6_one 43 = .ok (.bipush 60, 2) := dk_16 60 (dk_at dksX6_one_1 19 rfl rfl)
theorem dX6_one_45 : decode cX6_one 45 = .ok (.if_icmp .ne 5, 3) := dk_160 0 5 (dk_at dksX6_one_1 21 rfl rfl)
theorem dX6_one_48 : decode cX6_one 48 = .ok (.iconst (-1), 1) := dk_2 (dk_at dksX6_one_2 0 rfl rfl)
theorem dX6_one_49 : decode cX6_one 49 = .ok (.ireturn, 1) := dk_172 (dk_at dksX6_one_2 1 rfl rfl)
theorem dX6_one_50 : decode cX6_one 50 = .ok (.aload_n 0, 1) := dk_42 (dk_at dksX6_one_2 2 rfl rfl)
theorem dX6_one_51 : decode cX6_one 51 = .ok (.iload_n 1, 1) := dk_27 (dk_at dksX6_one_2 3 rfl rfl)
theorem dX6_one_52 : decode cX6_one 52 = .ok (.iload_n 2, 1) := dk_28 (dk_at dksX6_one_2 4 rfl rfl)
theorem dX6_one_53 : decode cX6_one 53 = .ok (.iload_n 3, 1) := dk_29 (dk_at dksX6_one_2 5 rfl rfl)
theorem dX6_one_54 : decode cX6_one 54 = .ok (.invokevirtual 259, 3) := dk_182 1 3 (dk_at dksX6_one_2 6 rfl rfl)
theorem dX6_one_57 : decode cX6_one 57 = .ok (.aload_n 0, 1) := dk_42 (dk_at dksX6_one_2 9 rfl rfl)
theorem dX6_one_58 : decode cX6_one 58 = .ok (.getfield 7, 3) := dk_180 0 7 (dk_at dksX6_one_2 10 rfl rfl)
theorem dX6_one_61 : decode cX6_one 61 = .ok (.iconst 2, 1) := dk_5 (dk_at dksX6_one_2 13 rfl rfl)
theorem dX6_one_62 : decode cX6_one 62 = .ok (.iaload, 1) := dk_46 (dk_at dksX6_one_2 14 rfl rfl)
theorem dX6_one_63 : decode cX6_one 63 = .ok (.iconst 1, 1) := dk_4 (dk_at dksX6_one_2 15 rfl rfl)
theorem dX6_one_64 : decode cX6_one 64 = .ok (.isub, 1) := dk_100 (dk_at dksX6_one_2 16 rfl rfl)
theorem dX6_one_65 : decode cX6_one 65 = .ok (.ireturn, 1) := dk_172 (dk_at dksX6_one_2 17 rfl rfl)
abbrev cX6_isFloor : ByteArray := prog_15_method_4_code
def yX6_isFloor : MethodName := ⟨RX6, "isFloor", "(I)Z"⟩
def dkwX6_isFloor_0 : List UInt8 := [27, 3, 42, 180, 0, 7, 3, 46, 4, 100, 184, 0, 66, 172]
abbrev dktX6_isFloor_0 : List UInt8 := dkwX6_isFloor_0 ++ []
theorem dksX6_isFloor_0 : cX6_isFloor.data.toList.drop 0 = dktX6_isFloor_0 := by decide +kernel
theorem dX6_isFloor_0 : decode cX6_isFloor 0 = .ok (.iload_n 1, 1) := dk_27 (dk_at dksX6_isFloor_0 0 rfl rfl)
theorem dX6_isFloor_1 : decode cX6_isFloor 1 = .ok (.iconst 0, 1) := dk_3 (dk_at dksX6_isFloor_0 1 rfl rfl)
theorem dX6_isFloor_2 : decode cX6_isFloor 2 = .ok (.aload_n 0, 1) := dk_42 (dk_at dksX6_isFloor_0 2 rfl rfl)
theorem dX6_isFloor_3 : decode cX6_isFloor 3 = .ok (.getfield 7, 3) := dk_180 0 7 (dk_at dksX6_isFloor_0 3 rfl rfl)
theorem dX6_isFloor_6 : decode cX6_isFloor 6 = .ok (.iconst 0, 1) := dk_3 (dk_at dksX6_isFloor_0 6 rfl rfl)
theorem dX6_isFloor_7 : decode cX6_isFloor 7 = .ok (.iaload, 1) := dk_46 (dk_at dksX6_isFloor_0 7 rfl rfl)
theorem dX6_isFloor_8 : decode cX6_isFloor 8 = .ok (.iconst 1, 1) := dk_4 (dk_at dksX6_isFloor_0 8 rfl rfl)
theorem dX6_isFloor_9 : decode cX6_isFloor 9 = .ok (.isub, 1) := dk_100 (dk_at dksX6_isFloor_0 9 rfl rfl)
theorem dX6_isFloor_10 : decode cX6_isFloor 10 = .ok (.invokestatic 66, 3) := dk_184 0 66 (dk_at dksX6_isFloor_0 10 rfl rfl)
theorem dX6_isFloor_13 : decode cX6_isFloor 13 = .ok (.ireturn, 1) := dk_172 (dk_at dksX6_isFloor_0 13 rfl rfl)
abbrev cX6_comes : ByteArray := prog_15_method_46_code
def yX6_comes : MethodName := ⟨RX6, "comes", "(III)V"⟩
def dkwX6_comes_3 : List UInt8 := [4, 96, 79, 177]
abbrev dktX6_comes_3 : List UInt8 := dkwX6_comes_3 ++ []
def dkwX6_comes_2 : List UInt8 := [42, 21, 4, 8, 2, 182, 1, 6, 42, 21, 4, 16, 6, 2, 182, 1, 6, 42, 180, 0, 7, 5, 92, 46]
abbrev dktX6_comes_2 : List UInt8 := dkwX6_comes_2 ++ dktX6_comes_3
def dkwX6_comes_1 : List UInt8 := [42, 21, 4, 5, 29, 182, 1, 6, 42, 21, 4, 6, 3, 182, 1, 6, 42, 21, 4, 7, 2, 182, 1, 6]
abbrev dktX6_comes_1 : List UInt8 := dkwX6_comes_1 ++ dktX6_comes_2
def dkwX6_comes_0 : List UInt8 := [42, 180, 0, 7, 5, 46, 54, 4, 42, 21, 4, 3, 27, 182, 1, 6, 42, 21, 4, 4, 28, 182, 1, 6]
abbrev dktX6_comes_0 : List UInt8 := dkwX6_comes_0 ++ dktX6_comes_1
theorem dksX6_comes_0 : cX6_comes.data.toList.drop 0 = dktX6_comes_0 := by decide +kernel
theorem dksX6_comes_1 : cX6_comes.data.toList.drop 24 = dktX6_comes_1 := dk_seg dksX6_comes_0 24 rfl rfl
theorem dksX6_comes_2 : cX6_comes.data.toList.drop 48 = dktX6_comes_2 := dk_seg dksX6_comes_1 24 rfl rfl
theorem dksX6_comes_3 : cX6_comes.data.toList.drop 72 = dktX6_comes_3 := dk_seg dksX6_comes_2 24 rfl rfl
theorem dX6_comes_0 : decode cX6_comes 0 = .ok (.aload_n 0, 1) := dk_42 (dk_at dksX6_comes_0 0 rfl rfl)
theorem dX6_comes_1 : decode cX6_comes 1 = .ok (.getfield 7, 3) := dk_180 0 7 (dk_at dksX6_comes_0 1 rfl rfl)
theorem dX6_comes_4 : decode cX6_comes 4 = .ok (.iconst 2, 1) := dk_5 (dk_at dksX6_comes_0 4 rfl rfl)
theorem dX6_comes_5 : decode cX6_comes 5 = .ok (.iaload, 1) := dk_46 (dk_at dksX6_comes_0 5 rfl rfl)
theorem dX6_comes_6 : decode cX6_comes 6 = .ok (.istore 4, 2) := dk_54 4 (dk_at dksX6_comes_0 6 rfl rfl)
theorem dX6_comes_8 : decode cX6_comes 8 = .ok (.aload_n 0, 1) := dk_42 (dk_at dksX6_comes_0 8 rfl rfl)
theorem dX6_comes_9 : decode cX6_comes 9 = .ok (.iload 4, 2) := dk_21 4 (dk_at dksX6_comes_0 9 rfl rfl)
theorem dX6_comes_11 : decode cX6_comes 11 = .ok (.iconst 0, 1) := dk_3 (dk_at dksX6_comes_0 11 rfl rfl)
theorem dX6_comes_12 : decode cX6_comes 12 = .ok (.iload_n 1, 1) := dk_27 (dk_at dksX6_comes_0 12 rfl rfl)
theorem dX6_comes_13 : decode cX6_comes 13 = .ok (.invokevirtual 262, 3) := dk_182 1 6 (dk_at dksX6_comes_0 13 rfl rfl)
theorem dX6_comes_16 : decode cX6_comes 16 = .ok (.aload_n 0, 1) := dk_42 (dk_at dksX6_comes_0 16 rfl rfl)
theorem dX6_comes_17 : decode cX6_comes 17 = .ok (.iload 4, 2) := dk_21 4 (dk_at dksX6_comes_0 17 rfl rfl)
theorem dX6_comes_19 : decode cX6_comes 19 = .ok (.iconst 1, 1) := dk_4 (dk_at dksX6_comes_0 19 rfl rfl)
theorem dX6_comes_20 : decode cX6_comes 20 = .ok (.iload_n 2, 1) := dk_28 (dk_at dksX6_comes_0 20 rfl rfl)
theorem dX6_comes_21 : decode cX6_comes 21 = .ok (.invokevirtual 262, 3) := dk_182 1 6 (dk_at dksX6_comes_0 21 rfl rfl)
theorem dX6_comes_24 : decode cX6_comes 24 = .ok (.aload_n 0, 1) := dk_42 (dk_at dksX6_comes_1 0 rfl rfl)
theorem dX6_comes_25 : decode cX6_comes 25 = .ok (.iload 4, 2) := dk_21 4 (dk_at dksX6_comes_1 1 rfl rfl)
theorem dX6_comes_27 : decode cX6_comes 27 = .ok (.iconst 2, 1) := dk_5 (dk_at dksX6_comes_1 3 rfl rfl)
theorem dX6_comes_28 : decode cX6_comes 28 = .ok (.iload_n 3, 1) := dk_29 (dk_at dksX6_comes_1 4 rfl rfl)
theorem dX6_comes_29 : decode cX6_comes 29 = .ok (.invokevirtual 262, 3) := dk_182 1 6 (dk_at dksX6_comes_1 5 rfl rfl)
theorem dX6_comes_32 : decode cX6_comes 32 = .ok (.aload_n 0, 1) := dk_42 (dk_at dksX6_comes_1 8 rfl rfl)
theorem dX6_comes_33 : decode cX6_comes 33 = .ok (.iload 4, 2) := dk_21 4 (dk_at dksX6_comes_1 9 rfl rfl)
theorem dX6_comes_35 : decode cX6_comes 35 = .ok (.iconst 3, 1) := dk_6 (dk_at dksX6_comes_1 11 rfl rfl)
theorem dX6_comes_36 : decode cX6_comes 36 = .ok (.iconst 0, 1) := dk_3 (dk_at dksX6_comes_1 12 rfl rfl)
theorem dX6_comes_37 : decode cX6_comes 37 = .ok (.invokevirtual 262, 3) := dk_182 1 6 (dk_at dksX6_comes_1 13 rfl rfl)
theorem dX6_comes_40 : decode cX6_comes 40 = .ok (.aload_n 0, 1) := dk_42 (dk_at dksX6_comes_1 16 rfl rfl)
theorem dX6_comes_41 : decode cX6_comes 41 = .ok (.iload 4, 2) := dk_21 4 (dk_at dksX6_comes_1 17 rfl rfl)
theorem dX6_comes_43 : decode cX6_comes 43 = .ok (.iconst 4, 1) := dk_7 (dk_at dksX6_comes_1 19 rfl rfl)
theorem dX6_comes_44 : decode cX6_comes 44 = .ok (.iconst (-1), 1) := dk_2 (dk_at dksX6_comes_1 20 rfl rfl)
theorem dX6_comes_45 : decode cX6_comes 45 = .ok (.invokevirtual 262, 3) := dk_182 1 6 (dk_at dksX6_comes_1 21 rfl rfl)
theorem dX6_comes_48 : decode cX6_comes 48 = .ok (.aload_n 0, 1) := dk_42 (dk_at dksX6_comes_2 0 rfl rfl)
theorem dX6_comes_49 : decode cX6_comes 49 = .ok (.iload 4, 2) := dk_21 4 (dk_at dksX6_comes_2 1 rfl rfl)
theorem dX6_comes_51 : decode cX6_comes 51 = .ok (.iconst 5, 1) := dk_8 (dk_at dksX6_comes_2 3 rfl rfl)
theorem dX6_comes_52 : decode cX6_comes 52 = .ok (.iconst (-1), 1) := dk_2 (dk_at dksX6_comes_2 4 rfl rfl)
theorem dX6_comes_53 : decode cX6_comes 53 = .ok (.invokevirtual 262, 3) := dk_182 1 6 (dk_at dksX6_comes_2 5 rfl rfl)
theorem dX6_comes_56 : decode cX6_comes 56 = .ok (.aload_n 0, 1) := dk_42 (dk_at dksX6_comes_2 8 rfl rfl)
theorem dX6_comes_57 : decode cX6_comes 57 = .ok (.iload 4, 2) := dk_21 4 (dk_at dksX6_comes_2 9 rfl rfl)
theorem dX6_comes_59 : decode cX6_comes 59 = .ok (.bipush 6, 2) := dk_16 6 (dk_at dksX6_comes_2 11 rfl rfl)
theorem dX6_comes_61 : decode cX6_comes 61 = .ok (.iconst (-1), 1) := dk_2 (dk_at dksX6_comes_2 13 rfl rfl)
theorem dX6_comes_62 : decode cX6_comes 62 = .ok (.invokevirtual 262, 3) := dk_182 1 6 (dk_at dksX6_comes_2 14 rfl rfl)
theorem dX6_comes_65 : decode cX6_comes 65 = .ok (.aload_n 0, 1) := dk_42 (dk_at dksX6_comes_2 17 rfl rfl)
theorem dX6_comes_66 : decode cX6_comes 66 = .ok (.getfield 7, 3) := dk_180 0 7 (dk_at dksX6_comes_2 18 rfl rfl)
theorem dX6_comes_69 : decode cX6_comes 69 = .ok (.iconst 2, 1) := dk_5 (dk_at dksX6_comes_2 21 rfl rfl)
theorem dX6_comes_70 : decode cX6_comes 70 = .ok (.dup2, 1) := dk_92 (dk_at dksX6_comes_2 22 rfl rfl)
theorem dX6_comes_71 : decode cX6_comes 71 = .ok (.iaload, 1) := dk_46 (dk_at dksX6_comes_2 23 rfl rfl)
theorem dX6_comes_72 : decode cX6_comes 72 = .ok (.iconst 1, 1) := dk_4 (dk_at dksX6_comes_3 0 rfl rfl)
theorem dX6_comes_73 : decode cX6_comes 73 = .ok (.iadd, 1) := dk_96 (dk_at dksX6_comes_3 1 rfl rfl)
theorem dX6_comes_74 : decode cX6_comes 74 = .ok (.iastore, 1) := dk_79 (dk_at dksX6_comes_3 2 rfl rfl)
theorem dX6_comes_75 : decode cX6_comes 75 = .ok (.return_, 1) := dk_177 (dk_at dksX6_comes_3 3 rfl rfl)
abbrev cX6_gives : ByteArray := prog_15_method_10_code
def yX6_gives : MethodName := ⟨RX6, "gives", "(III)V"⟩
def dkwX6_gives_0 : List UInt8 := [42, 180, 0, 7, 17, 3, 52, 16, 8, 27, 104, 96, 28, 96, 29, 79, 177]
abbrev dktX6_gives_0 : List UInt8 := dkwX6_gives_0 ++ []
theorem dksX6_gives_0 : cX6_gives.data.toList.drop 0 = dktX6_gives_0 := by decide +kernel
theorem dX6_gives_0 : decode cX6_gives 0 = .ok (.aload_n 0, 1) := dk_42 (dk_at dksX6_gives_0 0 rfl rfl)
theorem dX6_gives_1 : decode cX6_gives 1 = .ok (.getfield 7, 3) := dk_180 0 7 (dk_at dksX6_gives_0 1 rfl rfl)
theorem dX6_gives_4 : decode cX6_gives 4 = .ok (.sipush 820, 3) := dk_17 3 52 (dk_at dksX6_gives_0 4 rfl rfl)
theorem dX6_gives_7 : decode cX6_gives 7 = .ok (.bipush 8, 2) := dk_16 8 (dk_at dksX6_gives_0 7 rfl rfl)
theorem dX6_gives_9 : decode cX6_gives 9 = .ok (.iload_n 1, 1) := dk_27 (dk_at dksX6_gives_0 9 rfl rfl)
theorem dX6_gives_10 : decode cX6_gives 10 = .ok (.imul, 1) := dk_104 (dk_at dksX6_gives_0 10 rfl rfl)
theorem dX6_gives_11 : decode cX6_gives 11 = .ok (.iadd, 1) := dk_96 (dk_at dksX6_gives_0 11 rfl rfl)
theorem dX6_gives_12 : decode cX6_gives 12 = .ok (.iload_n 2, 1) := dk_28 (dk_at dksX6_gives_0 12 rfl rfl)
theorem dX6_gives_13 : decode cX6_gives 13 = .ok (.iadd, 1) := dk_96 (dk_at dksX6_gives_0 13 rfl rfl)
theorem dX6_gives_14 : decode cX6_gives 14 = .ok (.iload_n 3, 1) := dk_29 (dk_at dksX6_gives_0 14 rfl rfl)
theorem dX6_gives_15 : decode cX6_gives 15 = .ok (.iastore, 1) := dk_79 (dk_at dksX6_gives_0 15 rfl rfl)
theorem dX6_gives_16 : decode cX6_gives 16 = .ok (.return_, 1) := dk_177 (dk_at dksX6_gives_0 16 rfl rfl)
abbrev cX6_set : ByteArray := prog_15_method_47_code
def yX6_set : MethodName := ⟨RX6, "set", "(III)Z"⟩
def dkwX6_set_7 : List UInt8 := [17, 2, 228, 28, 96, 29, 79, 4, 172, 3, 172]
abbrev dktX6_set_7 : List UInt8 := dkwX6_set_7 ++ []
def dkwX6_set_6 : List UInt8 := [182, 1, 0, 153, 0, 13, 29, 3, 16, 99, 184, 0, 66, 154, 0, 5, 3, 172, 42, 180, 0, 7]
abbrev dktX6_set_6 : List UInt8 := dkwX6_set_6 ++ dktX6_set_7
def dkwX6_set_5 : List UInt8 := [159, 0, 13, 42, 29, 182, 1, 0, 154, 0, 5, 3, 172, 42, 28, 8, 29, 182, 0, 241, 4, 172, 42, 28]
abbrev dktX6_set_5 : List UInt8 := dkwX6_set_5 ++ dktX6_set_6
def dkwX6_set_4 : List UInt8 := [182, 1, 12, 42, 28, 7, 29, 182, 0, 241, 4, 172, 42, 28, 182, 1, 9, 153, 0, 16, 29, 2]
abbrev dktX6_set_4 : List UInt8 := dkwX6_set_4 ++ dktX6_set_5
def dkwX6_set_3 : List UInt8 := [182, 1, 9, 153, 0, 12, 29, 3, 4, 184, 0, 66, 154, 0, 5, 3, 172, 29, 4, 160, 0, 8, 42, 28]
abbrev dktX6_set_3 : List UInt8 := dkwX6_set_3 ++ dktX6_set_4
def dkwX6_set_2 : List UInt8 := [29, 3, 5, 184, 0, 66, 154, 0, 5, 3, 172, 42, 180, 0, 7, 7, 29, 79, 4, 172, 42, 28]
abbrev dktX6_set_2 : List UInt8 := dkwX6_set_2 ++ dktX6_set_3
def dkwX6_set_1 : List UInt8 := [170, 0, 0, 0, 0, 0, 154, 0, 0, 0, 0, 0, 0, 0, 3, 0, 0, 0, 31, 0, 0, 0, 51, 0, 0, 0, 89, 0, 0, 0, 121]
abbrev dktX6_set_1 : List UInt8 := dkwX6_set_1 ++ dktX6_set_2
def dkwX6_set_0 : List UInt8 := [27]
abbrev dktX6_set_0 : List UInt8 := dkwX6_set_0 ++ dktX6_set_1
theorem dksX6_set_0 : cX6_set.data.toList.drop 0 = dktX6_set_0 := by decide +kernel
theorem dksX6_set_1 : cX6_set.data.toList.drop 1 = dktX6_set_1 := dk_seg dksX6_set_0 1 rfl rfl
theorem dksX6_set_2 : cX6_set.data.toList.drop 32 = dktX6_set_2 := dk_seg dksX6_set_1 31 rfl rfl
theorem dksX6_set_3 : cX6_set.data.toList.drop 54 = dktX6_set_3 := dk_seg dksX6_set_2 22 rfl rfl
theorem dksX6_set_4 : cX6_set.data.toList.drop 78 = dktX6_set_4 := dk_seg dksX6_set_3 24 rfl rfl
theorem dksX6_set_5 : cX6_set.data.toList.drop 100 = dktX6_set_5 := dk_seg dksX6_set_4 22 rfl rfl
theorem dksX6_set_6 : cX6_set.data.toList.drop 124 = dktX6_set_6 := dk_seg dksX6_set_5 24 rfl rfl
theorem dksX6_set_7 : cX6_set.data.toList.drop 146 = dktX6_set_7 := dk_seg dksX6_set_6 22 rfl rfl
theorem dX6_set_0 : decode cX6_set 0 = .ok (.iload_n 1, 1) := dk_27 (dk_at dksX6_set_0 0 rfl rfl)
theorem dX6_set_1 : decode cX6_set 1 = .ok (.tableswitch 154 0 3 #[31, 51, 89, 121], 31) := by decide +kernel
theorem dX6_set_32 : decode cX6_set 32 = .ok (.iload_n 3, 1) := dk_29 (dk_at dksX6_set_2 0 rfl rfl)
theorem dX6_set_33 : decode cX6_set 33 = .ok (.iconst 0, 1) := dk_3 (dk_at dksX6_set_2 1 rfl rfl)
theorem dX6_set_34 : decode cX6_set 34 = .ok (.iconst 2, 1) := dk_5 (dk_at dksX6_set_2 2 rfl rfl)
theorem dX6_set_35 : decode cX6_set 35 = .ok (.invokestatic 66, 3) := dk_184 0 66 (dk_at dksX6_set_2 3 rfl rfl)
theorem dX6_set_38 : decode cX6_set 38 = .ok (.ifCond .ne 5, 3) := dk_154 0 5 (dk_at dksX6_set_2 6 rfl rfl)
theorem dX6_set_41 : decode cX6_set 41 = .ok (.iconst 0, 1) := dk_3 (dk_at dksX6_set_2 9 rfl rfl)
theorem dX6_set_42 : decode cX6_set 42 = .ok (.ireturn, 1) := dk_172 (dk_at dksX6_set_2 10 rfl rfl)
theorem dX6_set_43 : decode cX6_set 43 = .ok (.aload_n 0, 1) := dk_42 (dk_at dksX6_set_2 11 rfl rfl)
theorem dX6_set_44 : decode cX6_set 44 = .ok (.getfield 7, 3) := dk_180 0 7 (dk_at dksX6_set_2 12 rfl rfl)
theorem dX6_set_47 : decode cX6_set 47 = .ok (.iconst 4, 1) := dk_7 (dk_at dksX6_set_2 15 rfl rfl)
theorem dX6_set_48 : decode cX6_set 48 = .ok (.iload_n 3, 1) := dk_29 (dk_at dksX6_set_2 16 rfl rfl)
theorem dX6_set_49 : decode cX6_set 49 = .ok (.iastore, 1) := dk_79 (dk_at dksX6_set_2 17 rfl rfl)
theorem dX6_set_50 : decode cX6_set 50 = .ok (.iconst 1, 1) := dk_4 (dk_at dksX6_set_2 18 rfl rfl)
theorem dX6_set_51 : decode cX6_set 51 = .ok (.ireturn, 1) := dk_172 (dk_at dksX6_set_2 19 rfl rfl)
theorem dX6_set_52 : decode cX6_set 52 = .ok (.aload_n 0, 1) := dk_42 (dk_at dksX6_set_2 20 rfl rfl)
theorem dX6_set_53 : decode cX6_set 53 = .ok (.iload_n 2, 1) := dk_28 (dk_at dksX6_set_2 21 rfl rfl)
theorem dX6_set_54 : decode cX6_set 54 = .ok (.invokevirtual 265, 3) := dk_182 1 9 (dk_at dksX6_set_3 0 rfl rfl)
theorem dX6_set_57 : decode cX6_set 57 = .ok (.ifCond .eq 12, 3) := dk_153 0 12 (dk_at dksX6_set_3 3 rfl rfl)
theorem dX6_set_60 : decode cX6_set 60 = .ok (.iload_n 3, 1) := dk_29 (dk_at dksX6_set_3 6 rfl rfl)
theorem dX6_set_61 : decode cX6_set 61 = .ok (.iconst 0, 1) := dk_3 (dk_at dksX6_set_3 7 rfl rfl)
theorem dX6_set_62 : decode cX6_set 62 = .ok (.iconst 1, 1) := dk_4 (dk_at dksX6_set_3 8 rfl rfl)
theorem dX6_set_63 : decode cX6_set 63 = .ok (.invokestatic 66, 3) := dk_184 0 66 (dk_at dksX6_set_3 9 rfl rfl)
theorem dX6_set_66 : decode cX6_set 66 = .ok (.ifCond .ne 5, 3) := dk_154 0 5 (dk_at dksX6_set_3 12 rfl rfl)
theorem dX6_set_69 : decode cX6_set 69 = .ok (.iconst 0, 1) := dk_3 (dk_at dksX6_set_3 15 rfl rfl)
theorem dX6_set_70 : decode cX6_set 70 = .ok (.ireturn, 1) := dk_172 (dk_at dksX6_set_3 16 rfl rfl)
theorem dX6_set_71 : decode cX6_set 71 = .ok (.iload_n 3, 1) := dk_29 (dk_at dksX6_set_3 17 rfl rfl)
theorem dX6_set_72 : decode cX6_set 72 = .ok (.iconst 1, 1) := dk_4 (dk_at dksX6_set_3 18 rfl rfl)
theorem dX6_set_73 : decode cX6_set 73 = .ok (.if_icmp .ne 8, 3) := dk_160 0 8 (dk_at dksX6_set_3 19 rfl rfl)
theorem dX6_set_76 : decode cX6_set 76 = .ok (.aload_n 0, 1) := dk_42 (dk_at dksX6_set_3 22 rfl rfl)
theorem dX6_set_77 : decode cX6_set 77 = .ok (.iload_n 2, 1) := dk_28 (dk_at dksX6_set_3 23 rfl rfl)
theorem dX6_set_78 : decode cX6_set 78 = .ok (.invokevirtual 268, 3) := dk_182 1 12 (dk_at dksX6_set_4 0 rfl rfl)
theorem dX6_set_81 : decode cX6_set 81 = .ok (.aload_n 0, 1) := dk_42 (dk_at dksX6_set_4 3 rfl rfl)
theorem dX6_set_82 : decode cX6_set 82 = .ok (.iload_n 2, 1) := dk_28 (dk_at dksX6_set_4 4 rfl rfl)
theorem dX6_set_83 : decode cX6_set 83 = .ok (.iconst 4, 1) := dk_7 (dk_at dksX6_set_4 5 rfl rfl)
theorem dX6_set_84 : decode cX6_set 84 = .ok (.iload_n 3, 1) := dk_29 (dk_at dksX6_set_4 6 rfl rfl)
theorem dX6_set_85 : decode cX6_set 85 = .ok (.invokevirtual 241, 3) := dk_182 0 241 (dk_at dksX6_set_4 7 rfl rfl)
theorem dX6_set_88 : decode cX6_set 88 = .ok (.iconst 1, 1) := dk_4 (dk_at dksX6_set_4 10 rfl rfl)
theorem dX6_set_89 : decode cX6_set 89 = .ok (.ireturn, 1) := dk_172 (dk_at dksX6_set_4 11 rfl rfl)
theorem dX6_set_90 : decode cX6_set 90 = .ok (.aload_n 0, 1) := dk_42 (dk_at dksX6_set_4 12 rfl rfl)
theorem dX6_set_91 : decode cX6_set 91 = .ok (.iload_n 2, 1) := dk_28 (dk_at dksX6_set_4 13 rfl rfl)
theorem dX6_set_92 : decode cX6_set 92 = .ok (.invokevirtual 265, 3) := dk_182 1 9 (dk_at dksX6_set_4 14 rfl rfl)
theorem dX6_set_95 : decode cX6_set 95 = .ok (.ifCond .eq 16, 3) := dk_153 0 16 (dk_at dksX6_set_4 17 rfl rfl)
theorem dX6_set_98 : decode cX6_set 98 = .ok (.iload_n 3, 1) := dk_29 (dk_at dksX6_set_4 20 rfl rfl)
theorem dX6_set_99 : decode cX6_set 99 = .ok (.iconst (-1), 1) := dk_2 (dk_at dksX6_set_4 21 rfl rfl)
theorem dX6_set_100 : decode cX6_set 100 = .ok (.if_icmp .eq 13, 3) := dk_159 0 13 (dk_at dksX6_set_5 0 rfl rfl)
theorem dX6_set_103 : decode cX6_set 103 = .ok (.aload_n 0, 1) := dk_42 (dk_at dksX6_set_5 3 rfl rfl)
theorem dX6_set_104 : decode cX6_set 104 = .ok (.iload_n 3, 1) := dk_29 (dk_at dksX6_set_5 4 rfl rfl)
theorem dX6_set_105 : decode cX6_set 105 = .ok (.invokevirtual 256, 3) := dk_182 1 0 (dk_at dksX6_set_5 5 rfl rfl)
theorem dX6_set_108 : decode cX6_set 108 = .ok (.ifCond .ne 5, 3) := dk_154 0 5 (dk_at dksX6_set_5 8 rfl rfl)
theorem dX6_set_111 : decode cX6_set 111 = .ok (.iconst 0, 1) := dk_3 (dk_at dksX6_set_5 11 rfl rfl)
theorem dX6_set_112 : decode cX6_set 112 = .ok (.ireturn, 1) := dk_172 (dk_at dksX6_set_5 12 rfl rfl)
theorem dX6_set_113 : decode cX6_set 113 = .ok (.aload_n 0, 1) := dk_42 (dk_at dksX6_set_5 13 rfl rfl)
theorem dX6_set_114 : decode cX6_set 114 = .ok (.iload_n 2, 1) := dk_28 (dk_at dksX6_set_5 14 rfl rfl)
theorem dX6_set_115 : decode cX6_set 115 = .ok (.iconst 5, 1) := dk_8 (dk_at dksX6_set_5 15 rfl rfl)
theorem dX6_set_116 : decode cX6_set 116 = .ok (.iload_n 3, 1) := dk_29 (dk_at dksX6_set_5 16 rfl rfl)
theorem dX6_set_117 : decode cX6_set 117 = .ok (.invokevirtual 241, 3) := dk_182 0 241 (dk_at dksX6_set_5 17 rfl rfl)
theorem dX6_set_120 : decode cX6_set 120 = .ok (.iconst 1, 1) := dk_4 (dk_at dksX6_set_5 20 rfl rfl)
theorem dX6_set_121 : decode cX6_set 121 = .ok (.ireturn, 1) := dk_172 (dk_at dksX6_set_5 21 rfl rfl)
theorem dX6_set_122 : decode cX6_set 122 = .ok (.aload_n 0, 1) := dk_42 (dk_at dksX6_set_5 22 rfl rfl)
theorem dX6_set_123 : decode cX6_set 123 = .ok (.iload_n 2, 1) := dk_28 (dk_at dksX6_set_5 23 rfl rfl)
theorem dX6_set_124 : decode cX6_set 124 = .ok (.invokevirtual 256, 3) := dk_182 1 0 (dk_at dksX6_set_6 0 rfl rfl)
theorem dX6_set_127 : decode cX6_set 127 = .ok (.ifCond .eq 13, 3) := dk_153 0 13 (dk_at dksX6_set_6 3 rfl rfl)
theorem dX6_set_130 : decode cX6_set 130 = .ok (.iload_n 3, 1) := dk_29 (dk_at dksX6_set_6 6 rfl rfl)
theorem dX6_set_131 : decode cX6_set 131 = .ok (.iconst 0, 1) := dk_3 (dk_at dksX6_set_6 7 rfl rfl)
theorem dX6_set_132 : decode cX6_set 132 = .ok (.bipush 99, 2) := dk_16 99 (dk_at dksX6_set_6 8 rfl rfl)
theorem dX6_set_134 : decode cX6_set 134 = .ok (.invokestatic 66, 3) := dk_184 0 66 (dk_at dksX6_set_6 10 rfl rfl)
theorem dX6_set_137 : decode cX6_set 137 = .ok (.ifCond .ne 5, 3) := dk_154 0 5 (dk_at dksX6_set_6 13 rfl rfl)
theorem dX6_set_140 : decode cX6_set 140 = .ok (.iconst 0, 1) := dk_3 (dk_at dksX6_set_6 16 rfl rfl)
theorem dX6_set_141 : decode cX6_set 141 = .ok (.ireturn, 1) := dk_172 (dk_at dksX6_set_6 17 rfl rfl)
theorem dX6_set_142 : decode cX6_set 142 = .ok (.aload_n 0, 1) := dk_42 (dk_at dksX6_set_6 18 rfl rfl)
theorem dX6_set_143 : decode cX6_set 143 = .ok (.getfield 7, 3) := dk_180 0 7 (dk_at dksX6_set_6 19 rfl rfl)
theorem dX6_set_146 : decode cX6_set 146 = .ok (.sipush 740, 3) := dk_17 2 228 (dk_at dksX6_set_7 0 rfl rfl)
theorem dX6_set_149 : decode cX6_set 149 = .ok (.iload_n 2, 1) := dk_28 (dk_at dksX6_set_7 3 rfl rfl)
theorem dX6_set_150 : decode cX6_set 150 = .ok (.iadd, 1) := dk_96 (dk_at dksX6_set_7 4 rfl rfl)
theorem dX6_set_151 : decode cX6_set 151 = .ok (.iload_n 3, 1) := dk_29 (dk_at dksX6_set_7 5 rfl rfl)
theorem dX6_set_152 : decode cX6_set 152 = .ok (.iastore, 1) := dk_79 (dk_at dksX6_set_7 6 rfl rfl)
theorem dX6_set_153 : decode cX6_set 153 = .ok (.iconst 1, 1) := dk_4 (dk_at dksX6_set_7 7 rfl rfl)
theorem dX6_set_154 : decode cX6_set 154 = .ok (.ireturn, 1) := dk_172 (dk_at dksX6_set_7 8 rfl rfl)
theorem dX6_set_155 : decode cX6_set 155 = .ok (.iconst 0, 1) := dk_3 (dk_at dksX6_set_7 9 rfl rfl)
theorem dX6_set_156 : decode cX6_set 156 = .ok (.ireturn, 1) := dk_172 (dk_at dksX6_set_7 10 rfl rfl)
abbrev cX6_isCar : ByteArray := prog_15_method_5_code
def yX6_isCar : MethodName := ⟨RX6, "isCar", "(I)Z"⟩
def dkwX6_isCar_0 : List UInt8 := [27, 3, 42, 180, 0, 7, 4, 46, 4, 100, 184, 0, 66, 172]
abbrev dktX6_isCar_0 : List UInt8 := dkwX6_isCar_0 ++ []
theorem dksX6_isCar_0 : cX6_isCar.data.toList.drop 0 = dktX6_isCar_0 := by decide +kernel
theorem dX6_isCar_0 : decode cX6_isCar 0 = .ok (.iload_n 1, 1) := dk_27 (dk_at dksX6_isCar_0 0 rfl rfl)
theorem dX6_isCar_1 : decode cX6_isCar 1 = .ok (.iconst 0, 1) := dk_3 (dk_at dksX6_isCar_0 1 rfl rfl)
theorem dX6_isCar_2 : decode cX6_isCar 2 = .ok (.aload_n 0, 1) := dk_42 (dk_at dksX6_isCar_0 2 rfl rfl)
theorem dX6_isCar_3 : decode cX6_isCar 3 = .ok (.getfield 7, 3) := dk_180 0 7 (dk_at dksX6_isCar_0 3 rfl rfl)
theorem dX6_isCar_6 : decode cX6_isCar 6 = .ok (.iconst 1, 1) := dk_4 (dk_at dksX6_isCar_0 6 rfl rfl)
theorem dX6_isCar_7 : decode cX6_isCar 7 = .ok (.iaload, 1) := dk_46 (dk_at dksX6_isCar_0 7 rfl rfl)
theorem dX6_isCar_8 : decode cX6_isCar 8 = .ok (.iconst 1, 1) := dk_4 (dk_at dksX6_isCar_0 8 rfl rfl)
theorem dX6_isCar_9 : decode cX6_isCar 9 = .ok (.isub, 1) := dk_100 (dk_at dksX6_isCar_0 9 rfl rfl)
theorem dX6_isCar_10 : decode cX6_isCar 10 = .ok (.invokestatic 66, 3) := dk_184 0 66 (dk_at dksX6_isCar_0 10 rfl rfl)
theorem dX6_isCar_13 : decode cX6_isCar 13 = .ok (.ireturn, 1) := dk_172 (dk_at dksX6_isCar_0 13 rfl rfl)
abbrev cX6_takesOut : ByteArray := prog_15_method_48_code
def yX6_takesOut : MethodName := ⟨RX6, "takesOut", "(I)V"⟩
def dkwX6_takesOut_2 : List UInt8 := [182, 1, 15, 27, 160, 0, 10, 42, 28, 7, 2, 182, 1, 6, 132, 2, 1, 167, 255, 216, 177]
abbrev dktX6_takesOut_2 : List UInt8 := dkwX6_takesOut_2 ++ []
def dkwX6_takesOut_1 : List UInt8 := [42, 180, 0, 7, 5, 46, 162, 0, 36, 42, 28, 6, 182, 1, 15, 4, 160, 0, 20, 42, 28, 7]
abbrev dktX6_takesOut_1 : List UInt8 := dkwX6_takesOut_1 ++ dktX6_takesOut_2
def dkwX6_takesOut_0 : List UInt8 := [42, 27, 4, 3, 182, 0, 241, 42, 27, 5, 3, 182, 0, 241, 42, 27, 6, 3, 182, 0, 241, 3, 61, 28]
abbrev dktX6_takesOut_0 : List UInt8 := dkwX6_takesOut_0 ++ dktX6_takesOut_1
theorem dksX6_takesOut_0 : cX6_takesOut.data.toList.drop 0 = dktX6_takesOut_0 := by decide +kernel
theorem dksX6_takesOut_1 : cX6_takesOut.data.toList.drop 24 = dktX6_takesOut_1 := dk_seg dksX6_takesOut_0 24 rfl rfl
theorem dksX6_takesOut_2 : cX6_takesOut.data.toList.drop 46 = dktX6_takesOut_2 := dk_seg dksX6_takesOut_1 22 rfl rfl
theorem dX6_takesOut_0 : decode cX6_takesOut 0 = .ok (.aload_n 0, 1) := dk_42 (dk_at dksX6_takesOut_0 0 rfl rfl)
theorem dX6_takesOut_1 : decode cX6_takesOut 1 = .ok (.iload_n 1, 1) := dk_27 (dk_at dksX6_takesOut_0 1 rfl rfl)
theorem dX6_takesOut_2 : decode cX6_takesOut 2 = .ok (.iconst 1, 1) := dk_4 (dk_at dksX6_takesOut_0 2 rfl rfl)
theorem dX6_takesOut_3 : decode cX6_takesOut 3 = .ok (.iconst 0, 1) := dk_3 (dk_at dksX6_takesOut_0 3 rfl rfl)
theorem dX6_takesOut_4 : decode cX6_takesOut 4 = .ok (.invokevirtual 241, 3) := dk_182 0 241 (dk_at dksX6_takesOut_0 4 rfl rfl)
theorem dX6_takesOut_7 : decode cX6_takesOut 7 = .ok (.aload_n 0, 1) := dk_42 (dk_at dksX6_takesOut_0 7 rfl rfl)
theorem dX6_takesOut_8 : decode cX6_takesOut 8 = .ok (.iload_n 1, 1) := dk_27 (dk_at dksX6_takesOut_0 8 rfl rfl)
theorem dX6_takesOut_9 : decode cX6_takesOut 9 = .ok (.iconst 2, 1) := dk_5 (dk_at dksX6_takesOut_0 9 rfl rfl)
theorem dX6_takesOut_10 : decode cX6_takesOut 10 = .ok (.iconst 0, 1) := dk_3 (dk_at dksX6_takesOut_0 10 rfl rfl)
theorem dX6_takesOut_11 : decode cX6_takesOut 11 = .ok (.invokevirtual 241, 3) := dk_182 0 241 (dk_at dksX6_takesOut_0 11 rfl rfl)
theorem dX6_takesOut_14 : decode cX6_takesOut 14 = .ok (.aload_n 0, 1) := dk_42 (dk_at dksX6_takesOut_0 14 rfl rfl)
theorem dX6_takesOut_15 : decode cX6_takesOut 15 = .ok (.iload_n 1, 1) := dk_27 (dk_at dksX6_takesOut_0 15 rfl rfl)
theorem dX6_takesOut_16 : decode cX6_takesOut 16 = .ok (.iconst 3, 1) := dk_6 (dk_at dksX6_takesOut_0 16 rfl rfl)
theorem dX6_takesOut_17 : decode cX6_takesOut 17 = .ok (.iconst 0, 1) := dk_3 (dk_at dksX6_takesOut_0 17 rfl rfl)
theorem dX6_takesOut_18 : decode cX6_takesOut 18 = .ok (.invokevirtual 241, 3) := dk_182 0 241 (dk_at dksX6_takesOut_0 18 rfl rfl)
theorem dX6_takesOut_21 : decode cX6_takesOut 21 = .ok (.iconst 0, 1) := dk_3 (dk_at dksX6_takesOut_0 21 rfl rfl)
theorem dX6_takesOut_22 : decode cX6_takesOut 22 = .ok (.istore_n 2, 1) := dk_61 (dk_at dksX6_takesOut_0 22 rfl rfl)
theorem dX6_takesOut_23 : decode cX6_takesOut 23 = .ok (.iload_n 2, 1) := dk_28 (dk_at dksX6_takesOut_0 23 rfl rfl)
theorem dX6_takesOut_24 : decode cX6_takesOut 24 = .ok (.aload_n 0, 1) := dk_42 (dk_at dksX6_takesOut_1 0 rfl rfl)
theorem dX6_takesOut_25 : decode cX6_takesOut 25 = .ok (.getfield 7, 3) := dk_180 0 7 (dk_at dksX6_takesOut_1 1 rfl rfl)
theorem dX6_takesOut_28 : decode cX6_takesOut 28 = .ok (.iconst 2, 1) := dk_5 (dk_at dksX6_takesOut_1 4 rfl rfl)
theorem dX6_takesOut_29 : decode cX6_takesOut 29 = .ok (.iaload, 1) := dk_46 (dk_at dksX6_takesOut_1 5 rfl rfl)
theorem dX6_takesOut_30 : decode cX6_takesOut 30 = .ok (.if_icmp .ge 36, 3) := dk_162 0 36 (dk_at dksX6_takesOut_1 6 rfl rfl)
theorem dX6_takesOut_33 : decode cX6_takesOut 33 = .ok (.aload_n 0, 1) := dk_42 (dk_at dksX6_takesOut_1 9 rfl rfl)
theorem dX6_takesOut_34 : decode cX6_takesOut 34 = .ok (.iload_n 2, 1) := dk_28 (dk_at dksX6_takesOut_1 10 rfl rfl)
theorem dX6_takesOut_35 : decode cX6_takesOut 35 = .ok (.iconst 3, 1) := dk_6 (dk_at dksX6_takesOut_1 11 rfl rfl)
theorem dX6_takesOut_36 : decode cX6_takesOut 36 = .ok (.invokevirtual 271, 3) := dk_182 1 15 (dk_at dksX6_takesOut_1 12 rfl rfl)
theorem dX6_takesOut_39 : decode cX6_takesOut 39 = .ok (.iconst 1, 1) := dk_4 (dk_at dksX6_takesOut_1 15 rfl rfl)
theorem dX6_takesOut_40 : decode cX6_takesOut 40 = .ok (.if_icmp .ne 20, 3) := dk_160 0 20 (dk_at dksX6_takesOut_1 16 rfl rfl)
theorem dX6_takesOut_43 : decode cX6_takesOut 43 = .ok (.aload_n 0, 1) := dk_42 (dk_at dksX6_takesOut_1 19 rfl rfl)
theorem dX6_takesOut_44 : decode cX6_takesOut 44 = .ok (.iload_n 2, 1) := dk_28 (dk_at dksX6_takesOut_1 20 rfl rfl)
theorem dX6_takesOut_45 : decode cX6_takesOut 45 = .ok (.iconst 4, 1) := dk_7 (dk_at dksX6_takesOut_1 21 rfl rfl)
theorem dX6_takesOut_46 : decode cX6_takesOut 46 = .ok (.invokevirtual 271, 3) := dk_182 1 15 (dk_at dksX6_takesOut_2 0 rfl rfl)
theorem dX6_takesOut_49 : decode cX6_takesOut 49 = .ok (.iload_n 1, 1) := dk_27 (dk_at dksX6_takesOut_2 3 rfl rfl)
theorem dX6_takesOut_50 : decode cX6_takesOut 50 = .ok (.if_icmp .ne 10, 3) := dk_160 0 10 (dk_at dksX6_takesOut_2 4 rfl rfl)
theorem dX6_takesOut_53 : decode cX6_takesOut 53 = .ok (.aload_n 0, 1) := dk_42 (dk_at dksX6_takesOut_2 7 rfl rfl)
theorem dX6_takesOut_54 : decode cX6_takesOut 54 = .ok (.iload_n 2, 1) := dk_28 (dk_at dksX6_takesOut_2 8 rfl rfl)
theorem dX6_takesOut_55 : decode cX6_takesOut 55 = .ok (.iconst 4, 1) := dk_7 (dk_at dksX6_takesOut_2 9 rfl rfl)
theorem dX6_takesOut_56 : decode cX6_takesOut 56 = .ok (.iconst (-1), 1) := dk_2 (dk_at dksX6_takesOut_2 10 rfl rfl)
theorem dX6_takesOut_57 : decode cX6_takesOut 57 = .ok (.invokevirtual 262, 3) := dk_182 1 6 (dk_at dksX6_takesOut_2 11 rfl rfl)
theorem dX6_takesOut_60 : decode cX6_takesOut 60 = .ok (.iinc 2 1, 3) := dk_132 2 1 (dk_at dksX6_takesOut_2 14 rfl rfl)
theorem dX6_takesOut_63 : decode cX6_takesOut 63 = .ok (.goto (-40), 3) := dk_167 255 216 (dk_at dksX6_takesOut_2 17 rfl rfl)
theorem dX6_takesOut_66 : decode cX6_takesOut 66 = .ok (.return_, 1) := dk_177 (dk_at dksX6_takesOut_2 20 rfl rfl)
abbrev cX6_own : ByteArray := prog_15_method_9_code
def yX6_own : MethodName := ⟨RX6, "own", "(II)I"⟩
def dkwX6_own_0 : List UInt8 := [42, 180, 0, 7, 17, 3, 52, 16, 8, 27, 104, 96, 28, 96, 46, 172]
abbrev dktX6_own_0 : List UInt8 := dkwX6_own_0 ++ []
theorem dksX6_own_0 : cX6_own.data.toList.drop 0 = dktX6_own_0 := by decide +kernel
theorem dX6_own_0 : decode cX6_own 0 = .ok (.aload_n 0, 1) := dk_42 (dk_at dksX6_own_0 0 rfl rfl)
theorem dX6_own_1 : decode cX6_own 1 = .ok (.getfield 7, 3) := dk_180 0 7 (dk_at dksX6_own_0 1 rfl rfl)
theorem dX6_own_4 : decode cX6_own 4 = .ok (.sipush 820, 3) := dk_17 3 52 (dk_at dksX6_own_0 4 rfl rfl)
theorem dX6_own_7 : decode cX6_own 7 = .ok (.bipush 8, 2) := dk_16 8 (dk_at dksX6_own_0 7 rfl rfl)
theorem dX6_own_9 : decode cX6_own 9 = .ok (.iload_n 1, 1) := dk_27 (dk_at dksX6_own_0 9 rfl rfl)
theorem dX6_own_10 : decode cX6_own 10 = .ok (.imul, 1) := dk_104 (dk_at dksX6_own_0 10 rfl rfl)
theorem dX6_own_11 : decode cX6_own 11 = .ok (.iadd, 1) := dk_96 (dk_at dksX6_own_0 11 rfl rfl)
theorem dX6_own_12 : decode cX6_own 12 = .ok (.iload_n 2, 1) := dk_28 (dk_at dksX6_own_0 12 rfl rfl)
theorem dX6_own_13 : decode cX6_own 13 = .ok (.iadd, 1) := dk_96 (dk_at dksX6_own_0 13 rfl rfl)
theorem dX6_own_14 : decode cX6_own 14 = .ok (.iaload, 1) := dk_46 (dk_at dksX6_own_0 14 rfl rfl)
theorem dX6_own_15 : decode cX6_own 15 = .ok (.ireturn, 1) := dk_172 (dk_at dksX6_own_0 15 rfl rfl)
abbrev cX6_cost : ByteArray := prog_15_method_53_code
def yX6_cost : MethodName := ⟨RX6, "cost", "(III)I"⟩
def dkwX6_cost_2 : List UInt8 := [19, 1, 41, 167, 0, 7, 42, 180, 1, 29, 172]
abbrev dktX6_cost_2 : List UInt8 := dkwX6_cost_2 ++ []
def dkwX6_cost_1 : List UInt8 := [153, 0, 22, 29, 3, 5, 184, 0, 66, 153, 0, 13, 42, 27, 28, 29, 182, 1, 38, 154, 0, 9]
abbrev dktX6_cost_1 : List UInt8 := dkwX6_cost_1 ++ dktX6_cost_2
def dkwX6_cost_0 : List UInt8 := [42, 27, 182, 1, 35, 153, 0, 40, 42, 27, 6, 182, 1, 15, 4, 160, 0, 30, 42, 28, 182, 1, 9]
abbrev dktX6_cost_0 : List UInt8 := dkwX6_cost_0 ++ dktX6_cost_1
theorem dksX6_cost_0 : cX6_cost.data.toList.drop 0 = dktX6_cost_0 := by decide +kernel
theorem dksX6_cost_1 : cX6_cost.data.toList.drop 23 = dktX6_cost_1 := dk_seg dksX6_cost_0 23 rfl rfl
theorem dksX6_cost_2 : cX6_cost.data.toList.drop 45 = dktX6_cost_2 := dk_seg dksX6_cost_1 22 rfl rfl
theorem dX6_cost_0 : decode cX6_cost 0 = .ok (.aload_n 0, 1) := dk_42 (dk_at dksX6_cost_0 0 rfl rfl)
theorem dX6_cost_1 : decode cX6_cost 1 = .ok (.iload_n 1, 1) := dk_27 (dk_at dksX6_cost_0 1 rfl rfl)
theorem dX6_cost_2 : decode cX6_cost 2 = .ok (.invokevirtual 291, 3) := dk_182 1 35 (dk_at dksX6_cost_0 2 rfl rfl)
theorem dX6_cost_5 : decode cX6_cost 5 = .ok (.ifCond .eq 40, 3) := dk_153 0 40 (dk_at dksX6_cost_0 5 rfl rfl)
theorem dX6_cost_8 : decode cX6_cost 8 = .ok (.aload_n 0, 1) := dk_42 (dk_at dksX6_cost_0 8 rfl rfl)
theorem dX6_cost_9 : decode cX6_cost 9 = .ok (.iload_n 1, 1) := dk_27 (dk_at dksX6_cost_0 9 rfl rfl)
theorem dX6_cost_10 : decode cX6_cost 10 = .ok (.iconst 3, 1) := dk_6 (dk_at dksX6_cost_0 10 rfl rfl)
theorem dX6_cost_11 : decode cX6_cost 11 = .ok (.invokevirtual 271, 3) := dk_182 1 15 (dk_at dksX6_cost_0 11 rfl rfl)
theorem dX6_cost_14 : decode cX6_cost 14 = .ok (.iconst 1, 1) := dk_4 (dk_at dksX6_cost_0 14 rfl rfl)
theorem dX6_cost_15 : decode cX6_cost 15 = .ok (.if_icmp .ne 30, 3) := dk_160 0 30 (dk_at dksX6_cost_0 15 rfl rfl)
theorem dX6_cost_18 : decode cX6_cost 18 = .ok (.aload_n 0, 1) := dk_42 (dk_at dksX6_cost_0 18 rfl rfl)
theorem dX6_cost_19 : decode cX6_cost 19 = .ok (.iload_n 2, 1) := dk_28 (dk_at dksX6_cost_0 19 rfl rfl)
theorem dX6_cost_20 : decode cX6_cost 20 = .ok (.invokevirtual 265, 3) := dk_182 1 9 (dk_at dksX6_cost_0 20 rfl rfl)
theorem dX6_cost_23 : decode cX6_cost 23 = .ok (.ifCond .eq 22, 3) := dk_153 0 22 (dk_at dksX6_cost_1 0 rfl rfl)
theorem dX6_cost_26 : decode cX6_cost 26 = .ok (.iload_n 3, 1) := dk_29 (dk_at dksX6_cost_1 3 rfl rfl)
theorem dX6_cost_27 : decode cX6_cost 27 = .ok (.iconst 0, 1) := dk_3 (dk_at dksX6_cost_1 4 rfl rfl)
theorem dX6_cost_28 : decode cX6_cost 28 = .ok (.iconst 2, 1) := dk_5 (dk_at dksX6_cost_1 5 rfl rfl)
theorem dX6_cost_29 : decode cX6_cost 29 = .ok (.invokestatic 66, 3) := dk_184 0 66 (dk_at dksX6_cost_1 6 rfl rfl)
theorem dX6_cost_32 : decode cX6_cost 32 = .ok (.ifCond .eq 13, 3) := dk_153 0 13 (dk_at dksX6_cost_1 9 rfl rfl)
theorem dX6_cost_35 : decode cX6_cost 35 = .ok (.aload_n 0, 1) := dk_42 (dk_at dksX6_cost_1 12 rfl rfl)
theorem dX6_cost_36 : decode cX6_cost 36 = .ok (.iload_n 1, 1) := dk_27 (dk_at dksX6_cost_1 13 rfl rfl)
theorem dX6_cost_37 : decode cX6_cost 37 = .ok (.iload_n 2, 1) := dk_28 (dk_at dksX6_cost_1 14 rfl rfl)
theorem dX6_cost_38 : decode cX6_cost 38 = .ok (.iload_n 3, 1) := dk_29 (dk_at dksX6_cost_1 15 rfl rfl)
theorem dX6_cost_39 : decode cX6_cost 39 = .ok (.invokevirtual 294, 3) := dk_182 1 38 (dk_at dksX6_cost_1 16 rfl rfl)
theorem dX6_cost_42 : decode cX6_cost 42 = .ok (.ifCond .ne 9, 3) := dk_154 0 9 (dk_at dksX6_cost_1 19 rfl rfl)
theorem dX6_cost_45 : decode cX6_cost 45 = .ok (.ldc_w 297, 3) := dk_19 1 41 (dk_at dksX6_cost_2 0 rfl rfl)
theorem dX6_cost_48 : decode cX6_cost 48 = .ok (.goto 7, 3) := dk_167 0 7 (dk_at dksX6_cost_2 3 rfl rfl)
theorem dX6_cost_51 : decode cX6_cost 51 = .ok (.aload_n 0, 1) := dk_42 (dk_at dksX6_cost_2 6 rfl rfl)
theorem dX6_cost_52 : decode cX6_cost 52 = .ok (.getfield 285, 3) := dk_180 1 29 (dk_at dksX6_cost_2 7 rfl rfl)
theorem dX6_cost_55 : decode cX6_cost 55 = .ok (.ireturn, 1) := dk_172 (dk_at dksX6_cost_2 10 rfl rfl)
abbrev cX6_isOne : ByteArray := prog_15_method_6_code
def yX6_isOne : MethodName := ⟨RX6, "isOne", "(I)Z"⟩
def dkwX6_isOne_0 : List UInt8 := [27, 3, 42, 180, 0, 7, 5, 46, 4, 100, 184, 0, 66, 172]
abbrev dktX6_isOne_0 : List UInt8 := dkwX6_isOne_0 ++ []
theorem dksX6_isOne_0 : cX6_isOne.data.toList.drop 0 = dktX6_isOne_0 := by decide +kernel
theorem dX6_isOne_0 : decode cX6_isOne 0 = .ok (.iload_n 1, 1) := dk_27 (dk_at dksX6_isOne_0 0 rfl rfl)
theorem dX6_isOne_1 : decode cX6_isOne 1 = .ok (.iconst 0, 1) := dk_3 (dk_at dksX6_isOne_0 1 rfl rfl)
theorem dX6_isOne_2 : decode cX6_isOne 2 = .ok (.aload_n 0, 1) := dk_42 (dk_at dksX6_isOne_0 2 rfl rfl)
theorem dX6_isOne_3 : decode cX6_isOne 3 = .ok (.getfield 7, 3) := dk_180 0 7 (dk_at dksX6_isOne_0 3 rfl rfl)
theorem dX6_isOne_6 : decode cX6_isOne 6 = .ok (.iconst 2, 1) := dk_5 (dk_at dksX6_isOne_0 6 rfl rfl)
theorem dX6_isOne_7 : decode cX6_isOne 7 = .ok (.iaload, 1) := dk_46 (dk_at dksX6_isOne_0 7 rfl rfl)
theorem dX6_isOne_8 : decode cX6_isOne 8 = .ok (.iconst 1, 1) := dk_4 (dk_at dksX6_isOne_0 8 rfl rfl)
theorem dX6_isOne_9 : decode cX6_isOne 9 = .ok (.isub, 1) := dk_100 (dk_at dksX6_isOne_0 9 rfl rfl)
theorem dX6_isOne_10 : decode cX6_isOne 10 = .ok (.invokestatic 66, 3) := dk_184 0 66 (dk_at dksX6_isOne_0 10 rfl rfl)
theorem dX6_isOne_13 : decode cX6_isOne 13 = .ok (.ireturn, 1) := dk_172 (dk_at dksX6_isOne_0 13 rfl rfl)
abbrev cX6_tells : ByteArray := prog_15_method_52_code
def yX6_tells : MethodName := ⟨RX6, "tells", "(III)Z"⟩
def dkwX6_tells_15 : List UInt8 := [167, 255, 120, 4, 172]
abbrev dktX6_tells_15 : List UInt8 := dkwX6_tells_15 ++ []
def dkwX6_tells_14 : List UInt8 := [42, 180, 0, 7, 17, 5, 130, 21, 6, 96, 46, 182, 1, 32, 181, 1, 29, 4, 172, 132, 5, 1]
abbrev dktX6_tells_14 : List UInt8 := dkwX6_tells_14 ++ dktX6_tells_15
def dkwX6_tells_13 : List UInt8 := [21, 6, 96, 46, 4, 160, 0, 5, 3, 172, 42, 42, 29, 42, 180, 0, 7, 17, 5, 80, 21, 6, 96, 46]
abbrev dktX6_tells_13 : List UInt8 := dkwX6_tells_13 ++ dktX6_tells_14
def dkwX6_tells_12 : List UInt8 := [17, 5, 180, 21, 6, 96, 46, 182, 1, 32, 4, 159, 0, 6, 167, 0, 53, 42, 180, 0, 7, 17, 5, 30]
abbrev dktX6_tells_12 : List UInt8 := dkwX6_tells_12 ++ dktX6_tells_13
def dkwX6_tells_11 : List UInt8 := [21, 6, 96, 46, 159, 0, 37, 42, 29, 42, 180, 0, 7, 17, 5, 130, 21, 6, 96, 46, 42, 180, 0, 7]
abbrev dktX6_tells_11 : List UInt8 := dkwX6_tells_11 ++ dktX6_tells_12
def dkwX6_tells_10 : List UInt8 := [104, 21, 5, 96, 54, 6, 42, 180, 0, 7, 17, 5, 180, 21, 6, 96, 46, 42, 180, 0, 7, 17, 5, 130]
abbrev dktX6_tells_10 : List UInt8 := dkwX6_tells_10 ++ dktX6_tells_11
def dkwX6_tells_9 : List UInt8 := [181, 1, 29, 3, 54, 5, 21, 5, 42, 180, 0, 7, 17, 5, 20, 29, 96, 46, 162, 0, 127, 16, 16, 29]
abbrev dktX6_tells_9 : List UInt8 := dkwX6_tells_9 ++ dktX6_tells_10
def dkwX6_tells_8 : List UInt8 := [180, 0, 7, 6, 46, 42, 27, 3, 182, 1, 15, 100, 79, 42, 180, 0, 34, 16, 10, 28, 79, 42, 3]
abbrev dktX6_tells_8 : List UInt8 := dkwX6_tells_8 ++ dktX6_tells_9
def dkwX6_tells_7 : List UInt8 := [3, 79, 42, 180, 0, 34, 16, 8, 42, 27, 4, 182, 1, 15, 79, 42, 180, 0, 34, 16, 9, 42]
abbrev dktX6_tells_7 : List UInt8 := dkwX6_tells_7 ++ dktX6_tells_8
def dkwX6_tells_6 : List UInt8 := [167, 0, 4, 3, 79, 42, 180, 0, 34, 16, 7, 42, 27, 182, 1, 21, 4, 160, 0, 7, 4, 167, 0, 4]
abbrev dktX6_tells_6 : List UInt8 := dkwX6_tells_6 ++ dktX6_tells_7
def dkwX6_tells_5 : List UInt8 := [8, 42, 28, 182, 1, 27, 79, 42, 180, 0, 34, 16, 6, 42, 28, 5, 182, 0, 248, 154, 0, 7, 4]
abbrev dktX6_tells_5 : List UInt8 := dkwX6_tells_5 ++ dktX6_tells_6
def dkwX6_tells_4 : List UInt8 := [159, 0, 7, 4, 167, 0, 4, 3, 79, 42, 180, 0, 34, 7, 42, 28, 182, 1, 24, 79, 42, 180, 0, 34]
abbrev dktX6_tells_4 : List UInt8 := dkwX6_tells_4 ++ dktX6_tells_5
def dkwX6_tells_3 : List UInt8 := [167, 0, 4, 3, 79, 42, 180, 0, 34, 6, 21, 4, 153, 0, 17, 21, 4, 42, 27, 182, 1, 21]
abbrev dktX6_tells_3 : List UInt8 := dkwX6_tells_3 ++ dktX6_tells_4
def dkwX6_tells_2 : List UInt8 := [160, 0, 26, 42, 27, 4, 182, 1, 15, 42, 28, 3, 182, 0, 248, 100, 21, 4, 104, 155, 0, 7, 4]
abbrev dktX6_tells_2 : List UInt8 := dkwX6_tells_2 ++ dktX6_tells_3
def dkwX6_tells_1 : List UInt8 := [182, 1, 15, 184, 1, 18, 79, 42, 180, 0, 34, 5, 21, 4, 153, 0, 36, 21, 4, 42, 27, 182, 1, 21]
abbrev dktX6_tells_1 : List UInt8 := dkwX6_tells_1 ++ dktX6_tells_2
def dkwX6_tells_0 : List UInt8 := [42, 28, 4, 182, 0, 248, 54, 4, 42, 180, 0, 34, 4, 42, 28, 3, 182, 0, 248, 42, 27, 4]
abbrev dktX6_tells_0 : List UInt8 := dkwX6_tells_0 ++ dktX6_tells_1
theorem dksX6_tells_0 : cX6_tells.data.toList.drop 0 = dktX6_tells_0 := by decide +kernel
theorem dksX6_tells_1 : cX6_tells.data.toList.drop 22 = dktX6_tells_1 := dk_seg dksX6_tells_0 22 rfl rfl
theorem dksX6_tells_2 : cX6_tells.data.toList.drop 46 = dktX6_tells_2 := dk_seg dksX6_tells_1 24 rfl rfl
theorem dksX6_tells_3 : cX6_tells.data.toList.drop 69 = dktX6_tells_3 := dk_seg dksX6_tells_2 23 rfl rfl
theorem dksX6_tells_4 : cX6_tells.data.toList.drop 91 = dktX6_tells_4 := dk_seg dksX6_tells_3 22 rfl rfl
theorem dksX6_tells_5 : cX6_tells.data.toList.drop 115 = dktX6_tells_5 := dk_seg dksX6_tells_4 24 rfl rfl
theorem dksX6_tells_6 : cX6_tells.data.toList.drop 138 = dktX6_tells_6 := dk_seg dksX6_tells_5 23 rfl rfl
theorem dksX6_tells_7 : cX6_tells.data.toList.drop 162 = dktX6_tells_7 := dk_seg dksX6_tells_6 24 rfl rfl
theorem dksX6_tells_8 : cX6_tells.data.toList.drop 184 = dktX6_tells_8 := dk_seg dksX6_tells_7 22 rfl rfl
theorem dksX6_tells_9 : cX6_tells.data.toList.drop 207 = dktX6_tells_9 := dk_seg dksX6_tells_8 23 rfl rfl
