set_option maxRecDepth 100000
theorem dX3_looks_78 : decode cX3_looks 78 = .ok (.iload 4, 2) := dk_21 4 (dk_at dksX3_looks_3 10 rfl rfl)
theorem dX3_looks_80 : decode cX3_looks 80 = .ok (.ifCond .eq 7, 3) := dk_153 0 7 (dk_at dksX3_looks_3 12 rfl rfl)
theorem dX3_looks_83 : decode cX3_looks 83 = .ok (.iconst 2, 1) := dk_5 (dk_at dksX3_looks_3 15 rfl rfl)
theorem dX3_looks_84 : decode cX3_looks 84 = .ok (.goto 15, 3) := dk_167 0 15 (dk_at dksX3_looks_3 16 rfl rfl)
theorem dX3_looks_87 : decode cX3_looks 87 = .ok (.aload_n 2, 1) := dk_44 (dk_at dksX3_looks_3 19 rfl rfl)
theorem dX3_looks_88 : decode cX3_looks 88 = .ok (.getfield 64, 3) := dk_180 0 64 (dk_at dksX3_looks_3 20 rfl rfl)
theorem dX3_looks_91 : decode cX3_looks 91 = .ok (.ifCond .eq 7, 3) := dk_153 0 7 (dk_at dksX3_looks_4 0 rfl rfl)
theorem dX3_looks_94 : decode cX3_looks 94 = .ok (.iconst 1, 1) := dk_4 (dk_at dksX3_looks_4 3 rfl rfl)
theorem dX3_looks_95 : decode cX3_looks 95 = .ok (.goto 4, 3) := dk_167 0 4 (dk_at dksX3_looks_4 4 rfl rfl)
theorem dX3_looks_98 : decode cX3_looks 98 = .ok (.iconst 0, 1) := dk_3 (dk_at dksX3_looks_4 7 rfl rfl)
theorem dX3_looks_99 : decode cX3_looks 99 = .ok (.putfield 67, 3) := dk_181 0 67 (dk_at dksX3_looks_4 8 rfl rfl)
theorem dX3_looks_102 : decode cX3_looks 102 = .ok (.aload_n 2, 1) := dk_44 (dk_at dksX3_looks_4 11 rfl rfl)
theorem dX3_looks_103 : decode cX3_looks 103 = .ok (.aload_n 2, 1) := dk_44 (dk_at dksX3_looks_4 12 rfl rfl)
theorem dX3_looks_104 : decode cX3_looks 104 = .ok (.getfield 67, 3) := dk_180 0 67 (dk_at dksX3_looks_4 13 rfl rfl)
theorem dX3_looks_107 : decode cX3_looks 107 = .ok (.iconst 2, 1) := dk_5 (dk_at dksX3_looks_4 16 rfl rfl)
theorem dX3_looks_108 : decode cX3_looks 108 = .ok (.if_icmp .ne 33, 3) := dk_160 0 33 (dk_at dksX3_looks_4 17 rfl rfl)
theorem dX3_looks_111 : decode cX3_looks 111 = .ok (.aload_n 0, 1) := dk_42 (dk_at dksX3_looks_4 20 rfl rfl)
theorem dX3_looks_112 : decode cX3_looks 112 = .ok (.getfield 3, 3) := dk_180 0 3 (dk_at dksX3_looks_4 21 rfl rfl)
theorem dX3_looks_115 : decode cX3_looks 115 = .ok (.getfield 53, 3) := dk_180 0 53 (dk_at dksX3_looks_5 0 rfl rfl)
theorem dX3_looks_118 : decode cX3_looks 118 = .ok (.getfield 216, 3) := dk_180 0 216 (dk_at dksX3_looks_5 3 rfl rfl)
theorem dX3_looks_121 : decode cX3_looks 121 = .ok (.iload_n 1, 1) := dk_27 (dk_at dksX3_looks_5 6 rfl rfl)
theorem dX3_looks_122 : decode cX3_looks 122 = .ok (.iaload, 1) := dk_46 (dk_at dksX3_looks_5 7 rfl rfl)
theorem dX3_looks_123 : decode cX3_looks 123 = .ok (.aload_n 0, 1) := dk_42 (dk_at dksX3_looks_5 8 rfl rfl)
theorem dX3_looks_124 : decode cX3_looks 124 = .ok (.getfield 3, 3) := dk_180 0 3 (dk_at dksX3_looks_5 9 rfl rfl)
theorem dX3_looks_127 : decode cX3_looks 127 = .ok (.getfield 53, 3) := dk_180 0 53 (dk_at dksX3_looks_5 12 rfl rfl)
theorem dX3_looks_130 : decode cX3_looks 130 = .ok (.getfield 219, 3) := dk_180 0 219 (dk_at dksX3_looks_5 15 rfl rfl)
theorem dX3_looks_133 : decode cX3_looks 133 = .ok (.iload_n 1, 1) := dk_27 (dk_at dksX3_looks_5 18 rfl rfl)
theorem dX3_looks_134 : decode cX3_looks 134 = .ok (.iaload, 1) := dk_46 (dk_at dksX3_looks_5 19 rfl rfl)
theorem dX3_looks_135 : decode cX3_looks 135 = .ok (.iload_n 3, 1) := dk_29 (dk_at dksX3_looks_5 20 rfl rfl)
theorem dX3_looks_136 : decode cX3_looks 136 = .ok (.imul, 1) := dk_104 (dk_at dksX3_looks_5 21 rfl rfl)
theorem dX3_looks_137 : decode cX3_looks 137 = .ok (.iadd, 1) := dk_96 (dk_at dksX3_looks_5 22 rfl rfl)
theorem dX3_looks_138 : decode cX3_looks 138 = .ok (.goto 27, 3) := dk_167 0 27 (dk_at dksX3_looks_6 0 rfl rfl)
theorem dX3_looks_141 : decode cX3_looks 141 = .ok (.aload_n 2, 1) := dk_44 (dk_at dksX3_looks_6 3 rfl rfl)
theorem dX3_looks_142 : decode cX3_looks 142 = .ok (.getfield 67, 3) := dk_180 0 67 (dk_at dksX3_looks_6 4 rfl rfl)
theorem dX3_looks_145 : decode cX3_looks 145 = .ok (.iconst 1, 1) := dk_4 (dk_at dksX3_looks_6 7 rfl rfl)
theorem dX3_looks_146 : decode cX3_looks 146 = .ok (.if_icmp .ne 18, 3) := dk_160 0 18 (dk_at dksX3_looks_6 8 rfl rfl)
theorem dX3_looks_149 : decode cX3_looks 149 = .ok (.aload_n 0, 1) := dk_42 (dk_at dksX3_looks_6 11 rfl rfl)
theorem dX3_looks_150 : decode cX3_looks 150 = .ok (.getfield 3, 3) := dk_180 0 3 (dk_at dksX3_looks_6 12 rfl rfl)
theorem dX3_looks_153 : decode cX3_looks 153 = .ok (.getfield 53, 3) := dk_180 0 53 (dk_at dksX3_looks_6 15 rfl rfl)
theorem dX3_looks_156 : decode cX3_looks 156 = .ok (.getfield 222, 3) := dk_180 0 222 (dk_at dksX3_looks_6 18 rfl rfl)
theorem dX3_looks_159 : decode cX3_looks 159 = .ok (.iload_n 1, 1) := dk_27 (dk_at dksX3_looks_6 21 rfl rfl)
theorem dX3_looks_160 : decode cX3_looks 160 = .ok (.iaload, 1) := dk_46 (dk_at dksX3_looks_6 22 rfl rfl)
theorem dX3_looks_161 : decode cX3_looks 161 = .ok (.goto 4, 3) := dk_167 0 4 (dk_at dksX3_looks_7 0 rfl rfl)
theorem dX3_looks_164 : decode cX3_looks 164 = .ok (.iconst 0, 1) := dk_3 (dk_at dksX3_looks_7 3 rfl rfl)
theorem dX3_looks_165 : decode cX3_looks 165 = .ok (.putfield 70, 3) := dk_181 0 70 (dk_at dksX3_looks_7 4 rfl rfl)
theorem dX3_looks_168 : decode cX3_looks 168 = .ok (.return_, 1) := dk_177 (dk_at dksX3_looks_7 7 rfl rfl)
abbrev cX3_goOut : ByteArray := prog_11_method_14_code
def yX3_goOut : MethodName := ⟨RX3, "goOut", "(I)I"⟩
def dkwX3_goOut_3 : List UInt8 := [180, 0, 36, 181, 0, 182, 132, 2, 1, 132, 3, 1, 167, 255, 181, 28, 172]
abbrev dktX3_goOut_3 : List UInt8 := dkwX3_goOut_3 ++ []
def dkwX3_goOut_2 : List UInt8 := [180, 0, 23, 27, 50, 180, 0, 62, 159, 0, 6, 167, 0, 21, 25, 4, 6, 181, 0, 90, 25, 4, 42]
abbrev dktX3_goOut_2 : List UInt8 := dkwX3_goOut_2 ++ dktX3_goOut_3
def dkwX3_goOut_1 : List UInt8 := [180, 0, 87, 27, 160, 0, 50, 25, 4, 180, 0, 90, 5, 160, 0, 41, 25, 4, 180, 0, 144, 42]
abbrev dktX3_goOut_1 : List UInt8 := dkwX3_goOut_1 ++ dktX3_goOut_2
def dkwX3_goOut_0 : List UInt8 := [3, 61, 3, 62, 29, 42, 180, 0, 33, 162, 0, 73, 42, 180, 0, 17, 29, 50, 58, 4, 25, 4]
abbrev dktX3_goOut_0 : List UInt8 := dkwX3_goOut_0 ++ dktX3_goOut_1
theorem dksX3_goOut_0 : cX3_goOut.data.toList.drop 0 = dktX3_goOut_0 := by decide +kernel
theorem dksX3_goOut_1 : cX3_goOut.data.toList.drop 22 = dktX3_goOut_1 := dk_seg dksX3_goOut_0 22 rfl rfl
theorem dksX3_goOut_2 : cX3_goOut.data.toList.drop 44 = dktX3_goOut_2 := dk_seg dksX3_goOut_1 22 rfl rfl
theorem dksX3_goOut_3 : cX3_goOut.data.toList.drop 67 = dktX3_goOut_3 := dk_seg dksX3_goOut_2 23 rfl rfl
theorem dX3_goOut_0 : decode cX3_goOut 0 = .ok (.iconst 0, 1) := dk_3 (dk_at dksX3_goOut_0 0 rfl rfl)
theorem dX3_goOut_1 : decode cX3_goOut 1 = .ok (.istore_n 2, 1) := dk_61 (dk_at dksX3_goOut_0 1 rfl rfl)
theorem dX3_goOut_2 : decode cX3_goOut 2 = .ok (.iconst 0, 1) := dk_3 (dk_at dksX3_goOut_0 2 rfl rfl)
theorem dX3_goOut_3 : decode cX3_goOut 3 = .ok (.istore_n 3, 1) := dk_62 (dk_at dksX3_goOut_0 3 rfl rfl)
theorem dX3_goOut_4 : decode cX3_goOut 4 = .ok (.iload_n 3, 1) := dk_29 (dk_at dksX3_goOut_0 4 rfl rfl)
theorem dX3_goOut_5 : decode cX3_goOut 5 = .ok (.aload_n 0, 1) := dk_42 (dk_at dksX3_goOut_0 5 rfl rfl)
theorem dX3_goOut_6 : decode cX3_goOut 6 = .ok (.getfield 33, 3) := dk_180 0 33 (dk_at dksX3_goOut_0 6 rfl rfl)
theorem dX3_goOut_9 : decode cX3_goOut 9 = .ok (.if_icmp .ge 73, 3) := dk_162 0 73 (dk_at dksX3_goOut_0 9 rfl rfl)
theorem dX3_goOut_12 : decode cX3_goOut 12 = .ok (.aload_n 0, 1) := dk_42 (dk_at dksX3_goOut_0 12 rfl rfl)
theorem dX3_goOut_13 : decode cX3_goOut 13 = .ok (.getfield 17, 3) := dk_180 0 17 (dk_at dksX3_goOut_0 13 rfl rfl)
theorem dX3_goOut_16 : decode cX3_goOut 16 = .ok (.iload_n 3, 1) := dk_29 (dk_at dksX3_goOut_0 16 rfl rfl)
theorem dX3_goOut_17 : decode cX3_goOut 17 = .ok (.aaload, 1) := dk_50 (dk_at dksX3_goOut_0 17 rfl rfl)
theorem dX3_goOut_18 : decode cX3_goOut 18 = .ok (.astore 4, 2) := dk_58 4 (dk_at dksX3_goOut_0 18 rfl rfl)
theorem dX3_goOut_20 : decode cX3_goOut 20 = .ok (.aload 4, 2) := dk_25 4 (dk_at dksX3_goOut_0 20 rfl rfl)
theorem dX3_goOut_22 : decode cX3_goOut 22 = .ok (.getfield 87, 3) := dk_180 0 87 (dk_at dksX3_goOut_1 0 rfl rfl)
theorem dX3_goOut_25 : decode cX3_goOut 25 = .ok (.iload_n 1, 1) := dk_27 (dk_at dksX3_goOut_1 3 rfl rfl)
theorem dX3_goOut_26 : decode cX3_goOut 26 = .ok (.if_icmp .ne 50, 3) := dk_160 0 50 (dk_at dksX3_goOut_1 4 rfl rfl)
theorem dX3_goOut_29 : decode cX3_goOut 29 = .ok (.aload 4, 2) := dk_25 4 (dk_at dksX3_goOut_1 7 rfl rfl)
theorem dX3_goOut_31 : decode cX3_goOut 31 = .ok (.getfield 90, 3) := dk_180 0 90 (dk_at dksX3_goOut_1 9 rfl rfl)
theorem dX3_goOut_34 : decode cX3_goOut 34 = .ok (.iconst 2, 1) := dk_5 (dk_at dksX3_goOut_1 12 rfl rfl)
theorem dX3_goOut_35 : decode cX3_goOut 35 = .ok (.if_icmp .ne 41, 3) := dk_160 0 41 (dk_at dksX3_goOut_1 13 rfl rfl)
theorem dX3_goOut_38 : decode cX3_goOut 38 = .ok (.aload 4, 2) := dk_25 4 (dk_at dksX3_goOut_1 16 rfl rfl)
theorem dX3_goOut_40 : decode cX3_goOut 40 = .ok (.getfield 144, 3) := dk_180 0 144 (dk_at dksX3_goOut_1 18 rfl rfl)
theorem dX3_goOut_43 : decode cX3_goOut 43 = .ok (.aload_n 0, 1) := dk_42 (dk_at dksX3_goOut_1 21 rfl rfl)
theorem dX3_goOut_44 : decode cX3_goOut 44 = .ok (.getfield 23, 3) := dk_180 0 23 (dk_at dksX3_goOut_2 0 rfl rfl)
theorem dX3_goOut_47 : decode cX3_goOut 47 = .ok (.iload_n 1, 1) := dk_27 (dk_at dksX3_goOut_2 3 rfl rfl)
theorem dX3_goOut_48 : decode cX3_goOut 48 = .ok (.aaload, 1) := dk_50 (dk_at dksX3_goOut_2 4 rfl rfl)
theorem dX3_goOut_49 : decode cX3_goOut 49 = .ok (.getfield 62, 3) := dk_180 0 62 (dk_at dksX3_goOut_2 5 rfl rfl)
theorem dX3_goOut_52 : decode cX3_goOut 52 = .ok (.if_icmp .eq 6, 3) := dk_159 0 6 (dk_at dksX3_goOut_2 8 rfl rfl)
theorem dX3_goOut_55 : decode cX3_goOut 55 = .ok (.goto 21, 3) := dk_167 0 21 (dk_at dksX3_goOut_2 11 rfl rfl)
theorem dX3_goOut_58 : decode cX3_goOut 58 = .ok (.aload 4, 2) := dk_25 4 (dk_at dksX3_goOut_2 14 rfl rfl)
theorem dX3_goOut_60 : decode cX3_goOut 60 = .ok (.iconst 3, 1) := dk_6 (dk_at dksX3_goOut_2 16 rfl rfl)
theorem dX3_goOut_61 : decode cX3_goOut 61 = .ok (.putfield 90, 3) := dk_181 0 90 (dk_at dksX3_goOut_2 17 rfl rfl)
theorem dX3_goOut_64 : decode cX3_goOut 64 = .ok (.aload 4, 2) := dk_25 4 (dk_at dksX3_goOut_2 20 rfl rfl)
theorem dX3_goOut_66 : decode cX3_goOut 66 = .ok (.aload_n 0, 1) := dk_42 (dk_at dksX3_goOut_2 22 rfl rfl)
theorem dX3_goOut_67 : decode cX3_goOut 67 = .ok (.getfield 36, 3) := dk_180 0 36 (dk_at dksX3_goOut_3 0 rfl rfl)
theorem dX3_goOut_70 : decode cX3_goOut 70 = .ok (.putfield 182, 3) := dk_181 0 182 (dk_at dksX3_goOut_3 3 rfl rfl)
theorem dX3_goOut_73 : decode cX3_goOut 73 = .ok (.iinc 2 1, 3) := dk_132 2 1 (dk_at dksX3_goOut_3 6 rfl rfl)
theorem dX3_goOut_76 : decode cX3_goOut 76 = .ok (.iinc 3 1, 3) := dk_132 3 1 (dk_at dksX3_goOut_3 9 rfl rfl)
theorem dX3_goOut_79 : decode cX3_goOut 79 = .ok (.goto (-75), 3) := dk_167 255 181 (dk_at dksX3_goOut_3 12 rfl rfl)
theorem dX3_goOut_82 : decode cX3_goOut 82 = .ok (.iload_n 2, 1) := dk_28 (dk_at dksX3_goOut_3 15 rfl rfl)
theorem dX3_goOut_83 : decode cX3_goOut 83 = .ok (.ireturn, 1) := dk_172 (dk_at dksX3_goOut_3 16 rfl rfl)
abbrev cX3_findsTargets : ByteArray := prog_11_method_9_code
def yX3_findsTargets : MethodName := ⟨RX3, "findsTargets", "(I)V"⟩
def dkwX3_findsTargets_3 : List UInt8 := [180, 0, 90, 4, 160, 0, 11, 42, 45, 180, 0, 97, 182, 0, 161, 132, 2, 1, 167, 255, 195, 177]
abbrev dktX3_findsTargets_3 : List UInt8 := dkwX3_findsTargets_3 ++ []
def dkwX3_findsTargets_2 : List UInt8 := [27, 159, 0, 6, 167, 0, 35, 45, 180, 0, 90, 5, 160, 0, 11, 42, 45, 180, 0, 144, 182, 0, 161, 45]
abbrev dktX3_findsTargets_2 : List UInt8 := dkwX3_findsTargets_2 ++ dktX3_findsTargets_3
def dkwX3_findsTargets_1 : List UInt8 := [181, 0, 158, 3, 61, 28, 42, 180, 0, 33, 162, 0, 59, 42, 180, 0, 17, 28, 50, 78, 45, 180, 0, 87]
abbrev dktX3_findsTargets_1 : List UInt8 := dkwX3_findsTargets_1 ++ dktX3_findsTargets_2
def dkwX3_findsTargets_0 : List UInt8 := [42, 42, 180, 0, 23, 27, 50, 180, 0, 80, 181, 0, 155, 42, 42, 180, 0, 23, 27, 50, 180, 0, 84]
abbrev dktX3_findsTargets_0 : List UInt8 := dkwX3_findsTargets_0 ++ dktX3_findsTargets_1
theorem dksX3_findsTargets_0 : cX3_findsTargets.data.toList.drop 0 = dktX3_findsTargets_0 := by decide +kernel
theorem dksX3_findsTargets_1 : cX3_findsTargets.data.toList.drop 23 = dktX3_findsTargets_1 := dk_seg dksX3_findsTargets_0 23 rfl rfl
theorem dksX3_findsTargets_2 : cX3_findsTargets.data.toList.drop 47 = dktX3_findsTargets_2 := dk_seg dksX3_findsTargets_1 24 rfl rfl
theorem dksX3_findsTargets_3 : cX3_findsTargets.data.toList.drop 71 = dktX3_findsTargets_3 := dk_seg dksX3_findsTargets_2 24 rfl rfl
theorem dX3_findsTargets_0 : decode cX3_findsTargets 0 = .ok (.aload_n 0, 1) := dk_42 (dk_at dksX3_findsTargets_0 0 rfl rfl)
theorem dX3_findsTargets_1 : decode cX3_findsTargets 1 = .ok (.aload_n 0, 1) := dk_42 (dk_at dksX3_findsTargets_0 1 rfl rfl)
theorem dX3_findsTargets_2 : decode cX3_findsTargets 2 = .ok (.getfield 23, 3) := dk_180 0 23 (dk_at dksX3_findsTargets_0 2 rfl rfl)
theorem dX3_findsTargets_5 : decode cX3_findsTargets 5 = .ok (.iload_n 1, 1) := dk_27 (dk_at dksX3_findsTargets_0 5 rfl rfl)
theorem dX3_findsTargets_6 : decode cX3_findsTargets 6 = .ok (.aaload, 1) := dk_50 (dk_at dksX3_findsTargets_0 6 rfl rfl)
theorem dX3_findsTargets_7 : decode cX3_findsTargets 7 = .ok (.getfield 80, 3) := dk_180 0 80 (dk_at dksX3_findsTargets_0 7 rfl rfl)
theorem dX3_findsTargets_10 : decode cX3_findsTargets 10 = .ok (.putfield 155, 3) := dk_181 0 155 (dk_at dksX3_findsTargets_0 10 rfl rfl)
theorem dX3_findsTargets_13 : decode cX3_findsTargets 13 = .ok (.aload_n 0, 1) := dk_42 (dk_at dksX3_findsTargets_0 13 rfl rfl)
theorem dX3_findsTargets_14 : decode cX3_findsTargets 14 = .ok (.aload_n 0, 1) := dk_42 (dk_at dksX3_findsTargets_0 14 rfl rfl)
theorem dX3_findsTargets_15 : decode cX3_findsTargets 15 = .ok (.getfield 23, 3) := dk_180 0 23 (dk_at dksX3_findsTargets_0 15 rfl rfl)
theorem dX3_findsTargets_18 : decode cX3_findsTargets 18 = .ok (.iload_n 1, 1) := dk_27 (dk_at dksX3_findsTargets_0 18 rfl rfl)
theorem dX3_findsTargets_19 : decode cX3_findsTargets 19 = .ok (.aaload, 1) := dk_50 (dk_at dksX3_findsTargets_0 19 rfl rfl)
theorem dX3_findsTargets_20 : decode cX3_findsTargets 20 = .ok (.getfield 84, 3) := dk_180 0 84 (dk_at dksX3_findsTargets_0 20 rfl rfl)
theorem dX3_findsTargets_23 : decode cX3_findsTargets 23 = .ok (.putfield 158, 3) := dk_181 0 158 (dk_at dksX3_findsTargets_1 0 rfl rfl)
theorem dX3_findsTargets_26 : decode cX3_findsTargets 26 = .ok (.iconst 0, 1) := dk_3 (dk_at dksX3_findsTargets_1 3 rfl rfl)
theorem dX3_findsTargets_27 : decode cX3_findsTargets 27 = .ok (.istore_n 2, 1) := dk_61 (dk_at dksX3_findsTargets_1 4 rfl rfl)
theorem dX3_findsTargets_28 : decode cX3_findsTargets 28 = .ok (.iload_n 2, 1) := dk_28 (dk_at dksX3_findsTargets_1 5 rfl rfl)
theorem dX3_findsTargets_29 : decode cX3_findsTargets 29 = .ok (.aload_n 0, 1) := dk_42 (dk_at dksX3_findsTargets_1 6 rfl rfl)
theorem dX3_findsTargets_30 : decode cX3_findsTargets 30 = .ok (.getfield 33, 3) := dk_180 0 33 (dk_at dksX3_findsTargets_1 7 rfl rfl)
theorem dX3_findsTargets_33 : decode cX3_findsTargets 33 = .ok (.if_icmp .ge 59, 3) := dk_162 0 59 (dk_at dksX3_findsTargets_1 10 rfl rfl)
theorem dX3_findsTargets_36 : decode cX3_findsTargets 36 = .ok (.aload_n 0, 1) := dk_42 (dk_at dksX3_findsTargets_1 13 rfl rfl)
theorem dX3_findsTargets_37 : decode cX3_findsTargets 37 = .ok (.getfield 17, 3) := dk_180 0 17 (dk_at dksX3_findsTargets_1 14 rfl rfl)
theorem dX3_findsTargets_40 : decode cX3_findsTargets 40 = .ok (.iload_n 2, 1) := dk_28 (dk_at dksX3_findsTargets_1 17 rfl rfl)
theorem dX3_findsTargets_41 : decode cX3_findsTargets 41 = .ok (.aaload, 1) := dk_50 (dk_at dksX3_findsTargets_1 18 rfl rfl)
theorem dX3_findsTargets_42 : decode cX3_findsTargets 42 = .ok (.astore_n 3, 1) := dk_78 (dk_at dksX3_findsTargets_1 19 rfl rfl)
theorem dX3_findsTargets_43 : decode cX3_findsTargets 43 = .ok (.aload_n 3, 1) := dk_45 (dk_at dksX3_findsTargets_1 20 rfl rfl)
theorem dX3_findsTargets_44 : decode cX3_findsTargets 44 = .ok (.getfield 87, 3) := dk_180 0 87 (dk_at dksX3_findsTargets_1 21 rfl rfl)
theorem dX3_findsTargets_47 : decode cX3_findsTargets 47 = .ok (.iload_n 1, 1) := dk_27 (dk_at dksX3_findsTargets_2 0 rfl rfl)
theorem dX3_findsTargets_48 : decode cX3_findsTargets 48 = .ok (.if_icmp .eq 6, 3) := dk_159 0 6 (dk_at dksX3_findsTargets_2 1 rfl rfl)
theorem dX3_findsTargets_51 : decode cX3_findsTargets 51 = .ok (.goto 35, 3) := dk_167 0 35 (dk_at dksX3_findsTargets_2 4 rfl rfl)
theorem dX3_findsTargets_54 : decode cX3_findsTargets 54 = .ok (.aload_n 3, 1) := dk_45 (dk_at dksX3_findsTargets_2 7 rfl rfl)
theorem dX3_findsTargets_55 : decode cX3_findsTargets 55 = .ok (.getfield 90, 3) := dk_180 0 90 (dk_at dksX3_findsTargets_2 8 rfl rfl)
theorem dX3_findsTargets_58 : decode cX3_findsTargets 58 = .ok (.iconst 2, 1) := dk_5 (dk_at dksX3_findsTargets_2 11 rfl rfl)
theorem dX3_findsTargets_59 : decode cX3_findsTargets 59 = .ok (.if_icmp .ne 11, 3) := dk_160 0 11 (dk_at dksX3_findsTargets_2 12 rfl rfl)
theorem dX3_findsTargets_62 : decode cX3_findsTargets 62 = .ok (.aload_n 0, 1) := dk_42 (dk_at dksX3_findsTargets_2 15 rfl rfl)
theorem dX3_findsTargets_63 : decode cX3_findsTargets 63 = .ok (.aload_n 3, 1) := dk_45 (dk_at dksX3_findsTargets_2 16 rfl rfl)
theorem dX3_findsTargets_64 : decode cX3_findsTargets 64 = .ok (.getfield 144, 3) := dk_180 0 144 (dk_at dksX3_findsTargets_2 17 rfl rfl)
theorem dX3_findsTargets_67 : decode cX3_findsTargets 67 = .ok (.invokevirtual 161, 3) := dk_182 0 161 (dk_at dksX3_findsTargets_2 20 rfl rfl)
theorem dX3_findsTargets_70 : decode cX3_findsTargets 70 = .ok (.aload_n 3, 1) := dk_45 (dk_at dksX3_findsTargets_2 23 rfl rfl)
theorem dX3_findsTargets_71 : decode cX3_findsTargets 71 = .ok (.getfield 90, 3) := dk_180 0 90 (dk_at dksX3_findsTargets_3 0 rfl rfl)
theorem dX3_findsTargets_74 : decode cX3_findsTargets 74 = .ok (.iconst 1, 1) := dk_4 (dk_at dksX3_findsTargets_3 3 rfl rfl)
theorem dX3_findsTargets_75 : decode cX3_findsTargets 75 = .ok (.if_icmp .ne 11, 3) := dk_160 0 11 (dk_at dksX3_findsTargets_3 4 rfl rfl)
theorem dX3_findsTargets_78 : decode cX3_findsTargets 78 = .ok (.aload_n 0, 1) := dk_42 (dk_at dksX3_findsTargets_3 7 rfl rfl)
theorem dX3_findsTargets_79 : decode cX3_findsTargets 79 = .ok (.aload_n 3, 1) := dk_45 (dk_at dksX3_findsTargets_3 8 rfl rfl)
theorem dX3_findsTargets_80 : decode cX3_findsTargets 80 = .ok (.getfield 97, 3) := dk_180 0 97 (dk_at dksX3_findsTargets_3 9 rfl rfl)
theorem dX3_findsTargets_83 : decode cX3_findsTargets 83 = .ok (.invokevirtual 161, 3) := dk_182 0 161 (dk_at dksX3_findsTargets_3 12 rfl rfl)
theorem dX3_findsTargets_86 : decode cX3_findsTargets 86 = .ok (.iinc 2 1, 3) := dk_132 2 1 (dk_at dksX3_findsTargets_3 15 rfl rfl)
theorem dX3_findsTargets_89 : decode cX3_findsTargets 89 = .ok (.goto (-61), 3) := dk_167 255 195 (dk_at dksX3_findsTargets_3 18 rfl rfl)
theorem dX3_findsTargets_92 : decode cX3_findsTargets 92 = .ok (.return_, 1) := dk_177 (dk_at dksX3_findsTargets_3 21 rfl rfl)
abbrev cX3_aims : ByteArray := prog_11_method_8_code
def yX3_aims : MethodName := ⟨RX3, "aims", "(I)V"⟩
def dkwX3_aims_1 : List UInt8 := [180, 0, 158, 10, 27, 16, 64, 100, 121, 129, 181, 0, 158, 177]
abbrev dktX3_aims_1 : List UInt8 := dkwX3_aims_1 ++ []
def dkwX3_aims_0 : List UInt8 := [27, 16, 64, 162, 0, 18, 42, 89, 180, 0, 155, 10, 27, 121, 129, 181, 0, 155, 167, 0, 18, 42, 89]
abbrev dktX3_aims_0 : List UInt8 := dkwX3_aims_0 ++ dktX3_aims_1
theorem dksX3_aims_0 : cX3_aims.data.toList.drop 0 = dktX3_aims_0 := by decide +kernel
theorem dksX3_aims_1 : cX3_aims.data.toList.drop 23 = dktX3_aims_1 := dk_seg dksX3_aims_0 23 rfl rfl
theorem dX3_aims_0 : decode cX3_aims 0 = .ok (.iload_n 1, 1) := dk_27 (dk_at dksX3_aims_0 0 rfl rfl)
theorem dX3_aims_1 : decode cX3_aims 1 = .ok (.bipush 64, 2) := dk_16 64 (dk_at dksX3_aims_0 1 rfl rfl)
theorem dX3_aims_3 : decode cX3_aims 3 = .ok (.if_icmp .ge 18, 3) := dk_162 0 18 (dk_at dksX3_aims_0 3 rfl rfl)
theorem dX3_aims_6 : decode cX3_aims 6 = .ok (.aload_n 0, 1) := dk_42 (dk_at dksX3_aims_0 6 rfl rfl)
theorem dX3_aims_7 : decode cX3_aims 7 = .ok (.dup, 1) := dk_89 (dk_at dksX3_aims_0 7 rfl rfl)
theorem dX3_aims_8 : decode cX3_aims 8 = .ok (.getfield 155, 3) := dk_180 0 155 (dk_at dksX3_aims_0 8 rfl rfl)
theorem dX3_aims_11 : decode cX3_aims 11 = .ok (.lconst 1, 1) := dk_10 (dk_at dksX3_aims_0 11 rfl rfl)
theorem dX3_aims_12 : decode cX3_aims 12 = .ok (.iload_n 1, 1) := dk_27 (dk_at dksX3_aims_0 12 rfl rfl)
theorem dX3_aims_13 : decode cX3_aims 13 = .ok (.lshl, 1) := dk_121 (dk_at dksX3_aims_0 13 rfl rfl)
theorem dX3_aims_14 : decode cX3_aims 14 = .ok (.lor, 1) := dk_129 (dk_at dksX3_aims_0 14 rfl rfl)
theorem dX3_aims_15 : decode cX3_aims 15 = .ok (.putfield 155, 3) := dk_181 0 155 (dk_at dksX3_aims_0 15 rfl rfl)
theorem dX3_aims_18 : decode cX3_aims 18 = .ok (.goto 18, 3) := dk_167 0 18 (dk_at dksX3_aims_0 18 rfl rfl)
theorem dX3_aims_21 : decode cX3_aims 21 = .ok (.aload_n 0, 1) := dk_42 (dk_at dksX3_aims_0 21 rfl rfl)
theorem dX3_aims_22 : decode cX3_aims 22 = .ok (.dup, 1) := dk_89 (dk_at dksX3_aims_0 22 rfl rfl)
theorem dX3_aims_23 : decode cX3_aims 23 = .ok (.getfield 158, 3) := dk_180 0 158 (dk_at dksX3_aims_1 0 rfl rfl)
theorem dX3_aims_26 : decode cX3_aims 26 = .ok (.lconst 1, 1) := dk_10 (dk_at dksX3_aims_1 3 rfl rfl)
theorem dX3_aims_27 : decode cX3_aims 27 = .ok (.iload_n 1, 1) := dk_27 (dk_at dksX3_aims_1 4 rfl rfl)
theorem dX3_aims_28 : decode cX3_aims 28 = .ok (.bipush 64, 2) := dk_16 64 (dk_at dksX3_aims_1 5 rfl rfl)
theorem dX3_aims_30 : decode cX3_aims 30 = .ok (.isub, 1) := dk_100 (dk_at dksX3_aims_1 7 rfl rfl)
theorem dX3_aims_31 : decode cX3_aims 31 = .ok (.lshl, 1) := dk_121 (dk_at dksX3_aims_1 8 rfl rfl)
theorem dX3_aims_32 : decode cX3_aims 32 = .ok (.lor, 1) := dk_129 (dk_at dksX3_aims_1 9 rfl rfl)
theorem dX3_aims_33 : decode cX3_aims 33 = .ok (.putfield 158, 3) := dk_181 0 158 (dk_at dksX3_aims_1 10 rfl rfl)
theorem dX3_aims_36 : decode cX3_aims 36 = .ok (.return_, 1) := dk_177 (dk_at dksX3_aims_1 13 rfl rfl)
abbrev cX3_hasAhead : ByteArray := prog_11_method_11_code
def yX3_hasAhead : MethodName := ⟨RX3, "hasAhead", "(LFourCars$Car;)Z"⟩
def dkwX3_hasAhead_5 : List UInt8 := [10, 28, 16, 64, 100, 121, 10, 101, 127, 9, 148, 153, 0, 7, 4, 167, 0, 4, 3, 172]
abbrev dktX3_hasAhead_5 : List UInt8 := dkwX3_hasAhead_5 ++ []
def dkwX3_hasAhead_4 : List UInt8 := [153, 0, 7, 4, 167, 0, 39, 3, 167, 0, 35, 42, 180, 0, 155, 9, 148, 154, 0, 21, 42, 180, 0, 158]
abbrev dktX3_hasAhead_4 : List UInt8 := dkwX3_hasAhead_4 ++ dktX3_hasAhead_5
def dkwX3_hasAhead_3 : List UInt8 := [167, 0, 4, 3, 172, 28, 16, 64, 162, 0, 26, 42, 180, 0, 155, 10, 28, 121, 10, 101, 127, 9, 148]
abbrev dktX3_hasAhead_3 : List UInt8 := dkwX3_hasAhead_3 ++ dktX3_hasAhead_4
def dkwX3_hasAhead_2 : List UInt8 := [3, 167, 0, 26, 42, 180, 0, 158, 20, 0, 165, 28, 16, 63, 100, 121, 127, 9, 148, 153, 0, 7, 4]
abbrev dktX3_hasAhead_2 : List UInt8 := dkwX3_hasAhead_2 ++ dktX3_hasAhead_3
def dkwX3_hasAhead_1 : List UInt8 := [154, 0, 20, 42, 180, 0, 155, 20, 0, 165, 28, 4, 96, 121, 127, 9, 148, 153, 0, 7, 4, 167, 0, 30]
abbrev dktX3_hasAhead_1 : List UInt8 := dkwX3_hasAhead_1 ++ dktX3_hasAhead_2
def dkwX3_hasAhead_0 : List UInt8 := [43, 180, 0, 62, 61, 43, 180, 0, 64, 158, 0, 67, 28, 16, 63, 162, 0, 37, 42, 180, 0, 158, 9, 148]
abbrev dktX3_hasAhead_0 : List UInt8 := dkwX3_hasAhead_0 ++ dktX3_hasAhead_1
theorem dksX3_hasAhead_0 : cX3_hasAhead.data.toList.drop 0 = dktX3_hasAhead_0 := by decide +kernel
theorem dksX3_hasAhead_1 : cX3_hasAhead.data.toList.drop 24 = dktX3_hasAhead_1 := dk_seg dksX3_hasAhead_0 24 rfl rfl
theorem dksX3_hasAhead_2 : cX3_hasAhead.data.toList.drop 48 = dktX3_hasAhead_2 := dk_seg dksX3_hasAhead_1 24 rfl rfl
theorem dksX3_hasAhead_3 : cX3_hasAhead.data.toList.drop 71 = dktX3_hasAhead_3 := dk_seg dksX3_hasAhead_2 23 rfl rfl
theorem dksX3_hasAhead_4 : cX3_hasAhead.data.toList.drop 94 = dktX3_hasAhead_4 := dk_seg dksX3_hasAhead_3 23 rfl rfl
theorem dksX3_hasAhead_5 : cX3_hasAhead.data.toList.drop 118 = dktX3_hasAhead_5 := dk_seg dksX3_hasAhead_4 24 rfl rfl
theorem dX3_hasAhead_0 : decode cX3_hasAhead 0 = .ok (.aload_n 1, 1) := dk_43 (dk_at dksX3_hasAhead_0 0 rfl rfl)
theorem dX3_hasAhead_1 : decode cX3_hasAhead 1 = .ok (.getfield 62, 3) := dk_180 0 62 (dk_at dksX3_hasAhead_0 1 rfl rfl)
theorem dX3_hasAhead_4 : decode cX3_hasAhead 4 = .ok (.istore_n 2, 1) := dk_61 (dk_at dksX3_hasAhead_0 4 rfl rfl)
theorem dX3_hasAhead_5 : decode cX3_hasAhead 5 = .ok (.aload_n 1, 1) := dk_43 (dk_at dksX3_hasAhead_0 5 rfl rfl)
theorem dX3_hasAhead_6 : decode cX3_hasAhead 6 = .ok (.getfield 64, 3) := dk_180 0 64 (dk_at dksX3_hasAhead_0 6 rfl rfl)
theorem dX3_hasAhead_9 : decode cX3_hasAhead 9 = .ok (.ifCond .le 67, 3) := dk_158 0 67 (dk_at dksX3_hasAhead_0 9 rfl rfl)
theorem dX3_hasAhead_12 : decode cX3_hasAhead 12 = .ok (.iload_n 2, 1) := dk_28 (dk_at dksX3_hasAhead_0 12 rfl rfl)
theorem dX3_hasAhead_13 : decode cX3_hasAhead 13 = .ok (.bipush 63, 2) := dk_16 63 (dk_at dksX3_hasAhead_0 13 rfl rfl)
theorem dX3_hasAhead_15 : decode cX3_hasAhead 15 = .ok (.if_icmp .ge 37, 3) := dk_162 0 37 (dk_at dksX3_hasAhead_0 15 rfl rfl)
theorem dX3_hasAhead_18 : decode cX3_hasAhead 18 = .ok (.aload_n 0, 1) := dk_42 (dk_at dksX3_hasAhead_0 18 rfl rfl)
theorem dX3_hasAhead_19 : decode cX3_hasAhead 19 = .ok (.getfield 158, 3) := dk_180 0 158 (dk_at dksX3_hasAhead_0 19 rfl rfl)
theorem dX3_hasAhead_22 : decode cX3_hasAhead 22 = .ok (.lconst 0, 1) := dk_9 (dk_at dksX3_hasAhead_0 22 rfl rfl)
theorem dX3_hasAhead_23 : decode cX3_hasAhead 23 = .ok (.lcmp, 1) := dk_148 (dk_at dksX3_hasAhead_0 23 rfl rfl)
theorem dX3_hasAhead_24 : decode cX3_hasAhead 24 = .ok (.ifCond .ne 20, 3) := dk_154 0 20 (dk_at dksX3_hasAhead_1 0 rfl rfl)
theorem dX3_hasAhead_27 : decode cX3_hasAhead 27 = .ok (.aload_n 0, 1) := dk_42 (dk_at dksX3_hasAhead_1 3 rfl rfl)
theorem dX3_hasAhead_28 : decode cX3_hasAhead 28 = .ok (.getfield 155, 3) := dk_180 0 155 (dk_at dksX3_hasAhead_1 4 rfl rfl)
theorem dX3_hasAhead_31 : decode cX3_hasAhead 31 = .ok (.ldc2_w 165, 3) := dk_20 0 165 (dk_at dksX3_hasAhead_1 7 rfl rfl)
theorem dX3_hasAhead_34 : decode cX3_hasAhead 34 = .ok (.iload_n 2, 1) := dk_28 (dk_at dksX3_hasAhead_1 10 rfl rfl)
theorem dX3_hasAhead_35 : decode cX3_hasAhead 35 = .ok (.iconst 1, 1) := dk_4 (dk_at dksX3_hasAhead_1 11 rfl rfl)
theorem dX3_hasAhead_36 : decode cX3_hasAhead 36 = .ok (.iadd, 1) := dk_96 (dk_at dksX3_hasAhead_1 12 rfl rfl)
theorem dX3_hasAhead_37 : decode cX3_hasAhead 37 = .ok (.lshl, 1) := dk_121 (dk_at dksX3_hasAhead_1 13 rfl rfl)
theorem dX3_hasAhead_38 : decode cX3_hasAhead 38 = .ok (.land, 1) := dk_127 (dk_at dksX3_hasAhead_1 14 rfl rfl)
theorem dX3_hasAhead_39 : decode cX3_hasAhead 39 = .ok (.lconst 0, 1) := dk_9 (dk_at dksX3_hasAhead_1 15 rfl rfl)
theorem dX3_hasAhead_40 : decode cX3_hasAhead 40 = .ok (.lcmp, 1) := dk_148 (dk_at dksX3_hasAhead_1 16 rfl rfl)
theorem dX3_hasAhead_41 : decode cX3_hasAhead 41 = .ok (.ifCond .eq 7, 3) := dk_153 0 7 (dk_at dksX3_hasAhead_1 17 rfl rfl)
theorem dX3_hasAhead_44 : decode cX3_hasAhead 44 = .ok (.iconst 1, 1) := dk_4 (dk_at dksX3_hasAhead_1 20 rfl rfl)
theorem dX3_hasAhead_45 : decode cX3_hasAhead 45 = .ok (.goto 30, 3) := dk_167 0 30 (dk_at dksX3_hasAhead_1 21 rfl rfl)
theorem dX3_hasAhead_48 : decode cX3_hasAhead 48 = .ok (.iconst 0, 1) := dk_3 (dk_at dksX3_hasAhead_2 0 rfl rfl)
theorem dX3_hasAhead_49 : decode cX3_hasAhead 49 = .ok (.goto 26, 3) := dk_167 0 26 (dk_at dksX3_hasAhead_2 1 rfl rfl)
theorem dX3_hasAhead_52 : decode cX3_hasAhead 52 = .ok (.aload_n 0, 1) := dk_42 (dk_at dksX3_hasAhead_2 4 rfl rfl)
theorem dX3_hasAhead_53 : decode cX3_hasAhead 53 = .ok (.getfield 158, 3) := dk_180 0 158 (dk_at dksX3_hasAhead_2 5 rfl rfl)
theorem dX3_hasAhead_56 : decode cX3_hasAhead 56 = .ok (.ldc2_w 165, 3) := dk_20 0 165 (dk_at dksX3_hasAhead_2 8 rfl rfl)
theorem dX3_hasAhead_59 : decode cX3_hasAhead 59 = .ok (.iload_n 2, 1) := dk_28 (dk_at dksX3_hasAhead_2 11 rfl rfl)
theorem dX3_hasAhead_60 : decode cX3_hasAhead 60 = .ok (.bipush 63, 2) := dk_16 63 (dk_at dksX3_hasAhead_2 12 rfl rfl)
theorem dX3_hasAhead_62 : decode cX3_hasAhead 62 = .ok (.isub, 1) := dk_100 (dk_at dksX3_hasAhead_2 14 rfl rfl)
theorem dX3_hasAhead_63 : decode cX3_hasAhead 63 = .ok (.lshl, 1) := dk_121 (dk_at dksX3_hasAhead_2 15 rfl rfl)
theorem dX3_hasAhead_64 : decode cX3_hasAhead 64 = .ok (.land, 1) := dk_127 (dk_at dksX3_hasAhead_2 16 rfl rfl)
theorem dX3_hasAhead_65 : decode cX3_hasAhead 65 = .ok (.lconst 0, 1) := dk_9 (dk_at dksX3_hasAhead_2 17 rfl rfl)
theorem dX3_hasAhead_66 : decode cX3_hasAhead 66 = .ok (.lcmp, 1) := dk_148 (dk_at dksX3_hasAhead_2 18 rfl rfl)
theorem dX3_hasAhead_67 : decode cX3_hasAhead 67 = .ok (.ifCond .eq 7, 3) := dk_153 0 7 (dk_at dksX3_hasAhead_2 19 rfl rfl)
theorem dX3_hasAhead_70 : decode cX3_hasAhead 70 = .ok (.iconst 1, 1) := dk_4 (dk_at dksX3_hasAhead_2 22 rfl rfl)
theorem dX3_hasAhead_71 : decode cX3_hasAhead 71 = .ok (.goto 4, 3) := dk_167 0 4 (dk_at dksX3_hasAhead_3 0 rfl rfl)
theorem dX3_hasAhead_74 : decode cX3_hasAhead 74 = .ok (.iconst 0, 1) := dk_3 (dk_at dksX3_hasAhead_3 3 rfl rfl)
theorem dX3_hasAhead_75 : decode cX3_hasAhead 75 = .ok (.ireturn, 1) := dk_172 (dk_at dksX3_hasAhead_3 4 rfl rfl)
theorem dX3_hasAhead_76 : decode cX3_hasAhead 76 = .ok (.iload_n 2, 1) := dk_28 (dk_at dksX3_hasAhead_3 5 rfl rfl)
theorem dX3_hasAhead_77 : decode cX3_hasAhead 77 = .ok (.bipush 64, 2) := dk_16 64 (dk_at dksX3_hasAhead_3 6 rfl rfl)
theorem dX3_hasAhead_79 : decode cX3_hasAhead 79 = .ok (.if_icmp .ge 26, 3) := dk_162 0 26 (dk_at dksX3_hasAhead_3 8 rfl rfl)
theorem dX3_hasAhead_82 : decode cX3_hasAhead 82 = .ok (.aload_n 0, 1) := dk_42 (dk_at dksX3_hasAhead_3 11 rfl rfl)
theorem dX3_hasAhead_83 : decode cX3_hasAhead 83 = .ok (.getfield 155, 3) := dk_180 0 155 (dk_at dksX3_hasAhead_3 12 rfl rfl)
theorem dX3_hasAhead_86 : decode cX3_hasAhead 86 = .ok (.lconst 1, 1) := dk_10 (dk_at dksX3_hasAhead_3 15 rfl rfl)
theorem dX3_hasAhead_87 : decode cX3_hasAhead 87 = .ok (.iload_n 2, 1) := dk_28 (dk_at dksX3_hasAhead_3 16 rfl rfl)
theorem dX3_hasAhead_88 : decode cX3_hasAhead 88 = .ok (.lshl, 1) := dk_121 (dk_at dksX3_hasAhead_3 17 rfl rfl)
theorem dX3_hasAhead_89 : decode cX3_hasAhead 89 = .ok (.lconst 1, 1) := dk_10 (dk_at dksX3_hasAhead_3 18 rfl rfl)
theorem dX3_hasAhead_90 : decode cX3_hasAhead 90 = .ok (.lsub, 1) := dk_101 (dk_at dksX3_hasAhead_3 19 rfl rfl)
theorem dX3_hasAhead_91 : decode cX3_hasAhead 91 = .ok (.land, 1) := dk_127 (dk_at dksX3_hasAhead_3 20 rfl rfl)
theorem dX3_hasAhead_92 : decode cX3_hasAhead 92 = .ok (.lconst 0, 1) := dk_9 (dk_at dksX3_hasAhead_3 21 rfl rfl)
theorem dX3_hasAhead_93 : decode cX3_hasAhead 93 = .ok (.lcmp, 1) := dk_148 (dk_at dksX3_hasAhead_3 22 rfl rfl)
theorem dX3_hasAhead_94 : decode cX3_hasAhead 94 = .ok (.ifCond .eq 7, 3) := dk_153 0 7 (dk_at dksX3_hasAhead_4 0 rfl rfl)
theorem dX3_hasAhead_97 : decode cX3_hasAhead 97 = .ok (.iconst 1, 1) := dk_4 (dk_at dksX3_hasAhead_4 3 rfl rfl)
theorem dX3_hasAhead_98 : decode cX3_hasAhead 98 = .ok (.goto 39, 3) := dk_167 0 39 (dk_at dksX3_hasAhead_4 4 rfl rfl)
theorem dX3_hasAhead_101 : decode cX3_hasAhead 101 = .ok (.iconst 0, 1) := dk_3 (dk_at dksX3_hasAhead_4 7 rfl rfl)
theorem dX3_hasAhead_102 : decode cX3_hasAhead 102 = .ok (.goto 35, 3) := dk_167 0 35 (dk_at dksX3_hasAhead_4 8 rfl rfl)
theorem dX3_hasAhead_105 : decode cX3_hasAhead 105 = .ok (.aload_n 0, 1) := dk_42 (dk_at dksX3_hasAhead_4 11 rfl rfl)
theorem dX3_hasAhead_106 : decode cX3_hasAhead 106 = .ok (.getfield 155, 3) := dk_180 0 155 (dk_at dksX3_hasAhead_4 12 rfl rfl)
theorem dX3_hasAhead_109 : decode cX3_hasAhead 109 = .ok (.lconst 0, 1) := dk_9 (dk_at dksX3_hasAhead_4 15 rfl rfl)
theorem dX3_hasAhead_110 : decode cX3_hasAhead 110 = .ok (.lcmp, 1) := dk_148 (dk_at dksX3_hasAhead_4 16 rfl rfl)
theorem dX3_hasAhead_111 : decode cX3_hasAhead 111 = .ok (.ifCond .ne 21, 3) := dk_154 0 21 (dk_at dksX3_hasAhead_4 17 rfl rfl)
theorem dX3_hasAhead_114 : decode cX3_hasAhead 114 = .ok (.aload_n 0, 1) := dk_42 (dk_at dksX3_hasAhead_4 20 rfl rfl)
theorem dX3_hasAhead_115 : decode cX3_hasAhead 115 = .ok (.getfield 158, 3) := dk_180 0 158 (dk_at dksX3_hasAhead_4 21 rfl rfl)
theorem dX3_hasAhead_118 : decode cX3_hasAhead 118 = .ok (.lconst 1, 1) := dk_10 (dk_at dksX3_hasAhead_5 0 rfl rfl)
theorem dX3_hasAhead_119 : decode cX3_hasAhead 119 = .ok (.iload_n 2, 1) := dk_28 (dk_at dksX3_hasAhead_5 1 rfl rfl)
theorem dX3_hasAhead_120 : decode cX3_hasAhead 120 = .ok (.bipush 64, 2) := dk_16 64 (dk_at dksX3_hasAhead_5 2 rfl rfl)
theorem dX3_hasAhead_122 : decode cX3_hasAhead 122 = .ok (.isub, 1) := dk_100 (dk_at dksX3_hasAhead_5 4 rfl rfl)
theorem dX3_hasAhead_123 : decode cX3_hasAhead 123 = .ok (.lshl, 1) := dk_121 (dk_at dksX3_hasAhead_5 5 rfl rfl)
theorem dX3_hasAhead_124 : decode cX3_hasAhead 124 = .ok (.lconst 1, 1) := dk_10 (dk_at dksX3_hasAhead_5 6 rfl rfl)
theorem dX3_hasAhead_125 : decode cX3_hasAhead 125 = .ok (.lsub, 1) := dk_101 (dk_at dksX3_hasAhead_5 7 rfl rfl)
theorem dX3_hasAhead_126 : decode cX3_hasAhead 126 = .ok (.land, 1) := dk_127 (dk_at dksX3_hasAhead_5 8 rfl rfl)
theorem dX3_hasAhead_127 : decode cX3_hasAhead 127 = .ok (.lconst 0, 1) := dk_9 (dk_at dksX3_hasAhead_5 9 rfl rfl)
theorem dX3_hasAhead_128 : decode cX3_hasAhead 128 = .ok (.lcmp, 1) := dk_148 (dk_at dksX3_hasAhead_5 10 rfl rfl)
theorem dX3_hasAhead_129 : decode cX3_hasAhead 129 = .ok (.ifCond .eq 7, 3) := dk_153 0 7 (dk_at dksX3_hasAhead_5 11 rfl rfl)
theorem dX3_hasAhead_132 : decode cX3_hasAhead 132 = .ok (.iconst 1, 1) := dk_4 (dk_at dksX3_hasAhead_5 14 rfl rfl)
theorem dX3_hasAhead_133 : decode cX3_hasAhead 133 = .ok (.goto 4, 3) := dk_167 0 4 (dk_at dksX3_hasAhead_5 15 rfl rfl)
theorem dX3_hasAhead_136 : decode cX3_hasAhead 136 = .ok (.iconst 0, 1) := dk_3 (dk_at dksX3_hasAhead_5 18 rfl rfl)
theorem dX3_hasAhead_137 : decode cX3_hasAhead 137 = .ok (.ireturn, 1) := dk_172 (dk_at dksX3_hasAhead_5 19 rfl rfl)
abbrev cX3_newWay : ByteArray := prog_11_method_13_code
def yX3_newWay : MethodName := ⟨RX3, "newWay", "(I)I"⟩
def dkwX3_newWay_5 : List UInt8 := [3, 167, 0, 16, 42, 180, 0, 23, 27, 50, 180, 0, 73, 28, 184, 0, 177, 172]
abbrev dktX3_newWay_5 : List UInt8 := dkwX3_newWay_5 ++ []
def dkwX3_newWay_4 : List UInt8 := [153, 0, 5, 2, 172, 132, 4, 1, 167, 255, 188, 42, 180, 0, 23, 27, 50, 180, 0, 73, 2, 160, 0, 7]
abbrev dktX3_newWay_4 : List UInt8 := dkwX3_newWay_4 ++ dktX3_newWay_5
def dkwX3_newWay_3 : List UInt8 := [96, 182, 0, 173, 153, 0, 5, 4, 172, 28, 21, 4, 100, 155, 0, 16, 42, 28, 21, 4, 100, 182, 0, 173]
abbrev dktX3_newWay_3 : List UInt8 := dkwX3_newWay_3 ++ dktX3_newWay_4
def dkwX3_newWay_2 : List UInt8 := [162, 0, 59, 28, 21, 4, 96, 42, 180, 0, 3, 180, 0, 53, 180, 0, 170, 162, 0, 16, 42, 28, 21, 4]
abbrev dktX3_newWay_2 : List UInt8 := dkwX3_newWay_2 ++ dktX3_newWay_3
def dkwX3_newWay_1 : List UInt8 := [180, 0, 17, 29, 50, 182, 0, 91, 172, 4, 54, 4, 21, 4, 42, 180, 0, 3, 180, 0, 53, 180, 0, 170]
abbrev dktX3_newWay_1 : List UInt8 := dkwX3_newWay_1 ++ dktX3_newWay_2
def dkwX3_newWay_0 : List UInt8 := [42, 180, 0, 23, 27, 50, 180, 0, 62, 61, 42, 27, 182, 0, 167, 62, 29, 2, 159, 0, 13, 42]
abbrev dktX3_newWay_0 : List UInt8 := dkwX3_newWay_0 ++ dktX3_newWay_1
theorem dksX3_newWay_0 : cX3_newWay.data.toList.drop 0 = dktX3_newWay_0 := by decide +kernel
theorem dksX3_newWay_1 : cX3_newWay.data.toList.drop 22 = dktX3_newWay_1 := dk_seg dksX3_newWay_0 22 rfl rfl
theorem dksX3_newWay_2 : cX3_newWay.data.toList.drop 46 = dktX3_newWay_2 := dk_seg dksX3_newWay_1 24 rfl rfl
theorem dksX3_newWay_3 : cX3_newWay.data.toList.drop 70 = dktX3_newWay_3 := dk_seg dksX3_newWay_2 24 rfl rfl
theorem dksX3_newWay_4 : cX3_newWay.data.toList.drop 94 = dktX3_newWay_4 := dk_seg dksX3_newWay_3 24 rfl rfl
theorem dksX3_newWay_5 : cX3_newWay.data.toList.drop 118 = dktX3_newWay_5 := dk_seg dksX3_newWay_4 24 rfl rfl
theorem dX3_newWay_0 : decode cX3_newWay 0 = .ok (.aload_n 0, 1) := dk_42 (dk_at dksX3_newWay_0 0 rfl rfl)
theorem dX3_newWay_1 : decode cX3_newWay 1 = .ok (.getfield 23, 3) := dk_180 0 23 (dk_at dksX3_newWay_0 1 rfl rfl)
theorem dX3_newWay_4 : decode cX3_newWay 4 = .ok (.iload_n 1, 1) := dk_27 (dk_at dksX3_newWay_0 4 rfl rfl)
theorem dX3_newWay_5 : decode cX3_newWay 5 = .ok (.aaload, 1) := dk_50 (dk_at dksX3_newWay_0 5 rfl rfl)
theorem dX3_newWay_6 : decode cX3_newWay 6 = .ok (.getfield 62, 3) := dk_180 0 62 (dk_at dksX3_newWay_0 6 rfl rfl)
theorem dX3_newWay_9 : decode cX3_newWay 9 = .ok (.istore_n 2, 1) := dk_61 (dk_at dksX3_newWay_0 9 rfl rfl)
theorem dX3_newWay_10 : decode cX3_newWay 10 = .ok (.aload_n 0, 1) := dk_42 (dk_at dksX3_newWay_0 10 rfl rfl)
theorem dX3_newWay_11 : decode cX3_newWay 11 = .ok (.iload_n 1, 1) := dk_27 (dk_at dksX3_newWay_0 11 rfl rfl)
theorem dX3_newWay_12 : decode cX3_newWay 12 = .ok (.invokevirtual 167, 3) := dk_182 0 167 (dk_at dksX3_newWay_0 12 rfl rfl)
theorem dX3_newWay_15 : decode cX3_newWay 15 = .ok (.istore_n 3, 1) := dk_62 (dk_at dksX3_newWay_0 15 rfl rfl)
theorem dX3_newWay_16 : decode cX3_newWay 16 = .ok (.iload_n 3, 1) := dk_29 (dk_at dksX3_newWay_0 16 rfl rfl)
theorem dX3_newWay_17 : decode cX3_newWay 17 = .ok (.iconst (-1), 1) := dk_2 (dk_at dksX3_newWay_0 17 rfl rfl)
theorem dX3_newWay_18 : decode cX3_newWay 18 = .ok (.if_icmp .eq 13, 3) := dk_159 0 13 (dk_at dksX3_newWay_0 18 rfl rfl)
theorem dX3_newWay_21 : decode cX3_newWay 21 = .ok (.aload_n 0, 1) := dk_42 (dk_at dksX3_newWay_0 21 rfl rfl)
theorem dX3_newWay_22 : decode cX3_newWay 22 = .ok (.getfield 17, 3) := dk_180 0 17 (dk_at dksX3_newWay_1 0 rfl rfl)
theorem dX3_newWay_25 : decode cX3_newWay 25 = .ok (.iload_n 3, 1) := dk_29 (dk_at dksX3_newWay_1 3 rfl rfl)
theorem dX3_newWay_26 : decode cX3_newWay 26 = .ok (.aaload, 1) := dk_50 (dk_at dksX3_newWay_1 4 rfl rfl)
theorem dX3_newWay_27 : decode cX3_newWay 27 = .ok (.invokevirtual 91, 3) := dk_182 0 91 (dk_at dksX3_newWay_1 5 rfl rfl)
theorem dX3_newWay_30 : decode cX3_newWay 30 = .ok (.ireturn, 1) := dk_172 (dk_at dksX3_newWay_1 8 rfl rfl)
theorem dX3_newWay_31 : decode cX3_newWay 31 = .ok (.iconst 1, 1) := dk_4 (dk_at dksX3_newWay_1 9 rfl rfl)
theorem dX3_newWay_32 : decode cX3_newWay 32 = .ok (.istore 4, 2) := dk_54 4 (dk_at dksX3_newWay_1 10 rfl rfl)
theorem dX3_newWay_34 : decode cX3_newWay 34 = .ok (.iload 4, 2) := dk_21 4 (dk_at dksX3_newWay_1 12 rfl rfl)
theorem dX3_newWay_36 : decode cX3_newWay 36 = .ok (.aload_n 0, 1) := dk_42 (dk_at dksX3_newWay_1 14 rfl rfl)
theorem dX3_newWay_37 : decode cX3_newWay 37 = .ok (.getfield 3, 3) := dk_180 0 3 (dk_at dksX3_newWay_1 15 rfl rfl)
theorem dX3_newWay_40 : decode cX3_newWay 40 = .ok (.getfield 53, 3) := dk_180 0 53 (dk_at dksX3_newWay_1 18 rfl rfl)
theorem dX3_newWay_43 : decode cX3_newWay 43 = .ok (.getfield 170, 3) := dk_180 0 170 (dk_at dksX3_newWay_1 21 rfl rfl)
theorem dX3_newWay_46 : decode cX3_newWay 46 = .ok (.if_icmp .ge 59, 3) := dk_162 0 59 (dk_at dksX3_newWay_2 0 rfl rfl)
theorem dX3_newWay_49 : decode cX3_newWay 49 = .ok (.iload_n 2, 1) := dk_28 (dk_at dksX3_newWay_2 3 rfl rfl)
theorem dX3_newWay_50 : decode cX3_newWay 50 = .ok (.iload 4, 2) := dk_21 4 (dk_at dksX3_newWay_2 4 rfl rfl)
theorem dX3_newWay_52 : decode cX3_newWay 52 = .ok (.iadd, 1) := dk_96 (dk_at dksX3_newWay_2 6 rfl rfl)
theorem dX3_newWay_53 : decode cX3_newWay 53 = .ok (.aload_n 0, 1) := dk_42 (dk_at dksX3_newWay_2 7 rfl rfl)
theorem dX3_newWay_54 : decode cX3_newWay 54 = .ok (.getfield 3, 3) := dk_180 0 3 (dk_at dksX3_newWay_2 8 rfl rfl)
theorem dX3_newWay_57 : decode cX3_newWay 57 = .ok (.getfield 53, 3) := dk_180 0 53 (dk_at dksX3_newWay_2 11 rfl rfl)
theorem dX3_newWay_60 : decode cX3_newWay 60 = .ok (.getfield 170, 3) := dk_180 0 170 (dk_at dksX3_newWay_2 14 rfl rfl)
theorem dX3_newWay_63 : decode cX3_newWay 63 = .ok (.if_icmp .ge 16, 3) := dk_162 0 16 (dk_at dksX3_newWay_2 17 rfl rfl)
theorem dX3_newWay_66 : decode cX3_newWay 66 = .ok (.aload_n 0, 1) := dk_42 (dk_at dksX3_newWay_2 20 rfl rfl)
theorem dX3_newWay_67 : decode cX3_newWay 67 = .ok (.iload_n 2, 1) := dk_28 (dk_at dksX3_newWay_2 21 rfl rfl)
theorem dX3_newWay_68 : decode cX3_newWay 68 = .ok (.iload 4, 2) := dk_21 4 (dk_at dksX3_newWay_2 22 rfl rfl)
theorem dX3_newWay_70 : decode cX3_newWay 70 = .ok (.iadd, 1) := dk_96 (dk_at dksX3_newWay_3 0 rfl rfl)
theorem dX3_newWay_71 : decode cX3_newWay 71 = .ok (.invokevirtual 173, 3) := dk_182 0 173 (dk_at dksX3_newWay_3 1 rfl rfl)
theorem dX3_newWay_74 : decode cX3_newWay 74 = .ok (.ifCond .eq 5, 3) := dk_153 0 5 (dk_at dksX3_newWay_3 4 rfl rfl)
theorem dX3_newWay_77 : decode cX3_newWay 77 = .ok (.iconst 1, 1) := dk_4 (dk_at dksX3_newWay_3 7 rfl rfl)
theorem dX3_newWay_78 : decode cX3_newWay 78 = .ok (.ireturn, 1) := dk_172 (dk_at dksX3_newWay_3 8 rfl rfl)
theorem dX3_newWay_79 : decode cX3_newWay 79 = .ok (.iload_n 2, 1) := dk_28 (dk_at dksX3_newWay_3 9 rfl rfl)
theorem dX3_newWay_80 : decode cX3_newWay 80 = .ok (.iload 4, 2) := dk_21 4 (dk_at dksX3_newWay_3 10 rfl rfl)
theorem dX3_newWay_82 : decode cX3_newWay 82 = .ok (.isub, 1) := dk_100 (dk_at dksX3_newWay_3 12 rfl rfl)
theorem dX3_newWay_83 : decode cX3_newWay 83 = .ok (.ifCond .lt 16, 3) := dk_155 0 16 (dk_at dksX3_newWay_3 13 rfl rfl)
theorem dX3_newWay_86 : decode cX3_newWay 86 = .ok (.aload_n 0, 1) := dk_42 (dk_at dksX3_newWay_3 16 rfl rfl)
theorem dX3_newWay_87 : decode cX3_newWay 87 = .ok (.iload_n 2, 1) := dk_28 (dk_at dksX3_newWay_3 17 rfl rfl)
theorem dX3_newWay_88 : decode cX3_newWay 88 = .ok (.iload 4, 2) := dk_21 4 (dk_at dksX3_newWay_3 18 rfl rfl)
theorem dX3_newWay_90 : decode cX3_newWay 90 = .ok (.isub, 1) := dk_100 (dk_at dksX3_newWay_3 20 rfl rfl)
theorem dX3_newWay_91 : decode cX3_newWay 91 = .ok (.invokevirtual 173, 3) := dk_182 0 173 (dk_at dksX3_newWay_3 21 rfl rfl)
theorem dX3_newWay_94 : decode cX3_newWay 94 = .ok (.ifCond .eq 5, 3) := dk_153 0 5 (dk_at dksX3_newWay_4 0 rfl rfl)
theorem dX3_newWay_97 : decode cX3_newWay 97 = .ok (.iconst (-1), 1) := dk_2 (dk_at dksX3_newWay_4 3 rfl rfl)
theorem dX3_newWay_98 : decode cX3_newWay 98 = .ok (.ireturn, 1) := dk_172 (dk_at dksX3_newWay_4 4 rfl rfl)
theorem dX3_newWay_99 : decode cX3_newWay 99 = .ok (.iinc 4 1, 3) := dk_132 4 1 (dk_at dksX3_newWay_4 5 rfl rfl)
theorem dX3_newWay_102 : decode cX3_newWay 102 = .ok (.goto (-68), 3) := dk_167 255 188 (dk_at dksX3_newWay_4 8 rfl rfl)
theorem dX3_newWay_105 : decode cX3_newWay 105 = .ok (.aload_n 0, 1) := dk_42 (dk_at dksX3_newWay_4 11 rfl rfl)
theorem dX3_newWay_106 : decode cX3_newWay 106 = .ok (.getfield 23, 3) := dk_180 0 23 (dk_at dksX3_newWay_4 12 rfl rfl)
theorem dX3_newWay_109 : decode cX3_newWay 109 = .ok (.iload_n 1, 1) := dk_27 (dk_at dksX3_newWay_4 15 rfl rfl)
theorem dX3_newWay_110 : decode cX3_newWay 110 = .ok (.aaload, 1) := dk_50 (dk_at dksX3_newWay_4 16 rfl rfl)
theorem dX3_newWay_111 : decode cX3_newWay 111 = .ok (.getfield 73, 3) := dk_180 0 73 (dk_at dksX3_newWay_4 17 rfl rfl)
theorem dX3_newWay_114 : decode cX3_newWay 114 = .ok (.iconst (-1), 1) := dk_2 (dk_at dksX3_newWay_4 20 rfl rfl)
theorem dX3_newWay_115 : decode cX3_newWay 115 = .ok (.if_icmp .ne 7, 3) := dk_160 0 7 (dk_at dksX3_newWay_4 21 rfl rfl)
theorem dX3_newWay_118 : decode cX3_newWay 118 = .ok (.iconst 0, 1) := dk_3 (dk_at dksX3_newWay_5 0 rfl rfl)
theorem dX3_newWay_119 : decode cX3_newWay 119 = .ok (.goto 16, 3) := dk_167 0 16 (dk_at dksX3_newWay_5 1 rfl rfl)
theorem dX3_newWay_122 : decode cX3_newWay 122 = .ok (.aload_n 0, 1) := dk_42 (dk_at dksX3_newWay_5 4 rfl rfl)
theorem dX3_newWay_123 : decode cX3_newWay 123 = .ok (.getfield 23, 3) := dk_180 0 23 (dk_at dksX3_newWay_5 5 rfl rfl)
theorem dX3_newWay_126 : decode cX3_newWay 126 = .ok (.iload_n 1, 1) := dk_27 (dk_at dksX3_newWay_5 8 rfl rfl)
theorem dX3_newWay_127 : decode cX3_newWay 127 = .ok (.aaload, 1) := dk_50 (dk_at dksX3_newWay_5 9 rfl rfl)
theorem dX3_newWay_128 : decode cX3_newWay 128 = .ok (.getfield 73, 3) := dk_180 0 73 (dk_at dksX3_newWay_5 10 rfl rfl)
theorem dX3_newWay_131 : decode cX3_newWay 131 = .ok (.iload_n 2, 1) := dk_28 (dk_at dksX3_newWay_5 13 rfl rfl)
theorem dX3_newWay_132 : decode cX3_newWay 132 = .ok (.invokestatic 177, 3) := dk_184 0 177 (dk_at dksX3_newWay_5 14 rfl rfl)
theorem dX3_newWay_135 : decode cX3_newWay 135 = .ok (.ireturn, 1) := dk_172 (dk_at dksX3_newWay_5 17 rfl rfl)
abbrev cX3_firstHere : ByteArray := prog_11_method_12_code
def yX3_firstHere : MethodName := ⟨RX3, "firstHere", "(I)I"⟩
def dkwX3_firstHere_2 : List UInt8 := [180, 0, 23, 27, 50, 180, 0, 62, 160, 0, 5, 28, 172, 132, 2, 1, 167, 255, 196, 2, 172]
abbrev dktX3_firstHere_2 : List UInt8 := dkwX3_firstHere_2 ++ []
def dkwX3_firstHere_1 : List UInt8 := [180, 0, 17, 28, 50, 180, 0, 90, 4, 160, 0, 26, 42, 180, 0, 17, 28, 50, 180, 0, 97, 42]
abbrev dktX3_firstHere_1 : List UInt8 := dkwX3_firstHere_1 ++ dktX3_firstHere_2
def dkwX3_firstHere_0 : List UInt8 := [3, 61, 28, 42, 180, 0, 33, 162, 0, 58, 42, 180, 0, 17, 28, 50, 180, 0, 87, 27, 160, 0, 39, 42]
abbrev dktX3_firstHere_0 : List UInt8 := dkwX3_firstHere_0 ++ dktX3_firstHere_1
theorem dksX3_firstHere_0 : cX3_firstHere.data.toList.drop 0 = dktX3_firstHere_0 := by decide +kernel
theorem dksX3_firstHere_1 : cX3_firstHere.data.toList.drop 24 = dktX3_firstHere_1 := dk_seg dksX3_firstHere_0 24 rfl rfl
theorem dksX3_firstHere_2 : cX3_firstHere.data.toList.drop 46 = dktX3_firstHere_2 := dk_seg dksX3_firstHere_1 22 rfl rfl
theorem dX3_firstHere_0 : decode cX3_firstHere 0 = .ok (.iconst 0, 1) := dk_3 (dk_at dksX3_firstHere_0 0 rfl rfl)
theorem dX3_firstHere_1 : decode cX3_firstHere 1 = .ok (.istore_n 2, 1) := dk_61 (dk_at dksX3_firstHere_0 1 rfl rfl)
theorem dX3_firstHere_2 : decode cX3_firstHere 2 = .ok (.iload_n 2, 1) := dk_28 (dk_at dksX3_firstHere_0 2 rfl rfl)
theorem dX3_firstHere_3 : decode cX3_firstHere 3 = .ok (.aload_n 0, 1) := dk_42 (dk_at dksX3_firstHere_0 3 rfl rfl)
theorem dX3_firstHere_4 : decode cX3_firstHere 4 = .ok (.getfield 33, 3) := dk_180 0 33 (dk_at dksX3_firstHere_0 4 rfl rfl)
theorem dX3_firstHere_7 : decode cX3_firstHere 7 = .ok (.if_icmp .ge 58, 3) := dk_162 0 58 (dk_at dksX3_firstHere_0 7 rfl rfl)
theorem dX3_firstHere_10 : decode cX3_firstHere 10 = .ok (.aload_n 0, 1) := dk_42 (dk_at dksX3_firstHere_0 10 rfl rfl)
theorem dX3_firstHere_11 : decode cX3_firstHere 11 = .ok (.getfield 17, 3) := dk_180 0 17 (dk_at dksX3_firstHere_0 11 rfl rfl)
theorem dX3_firstHere_14 : decode cX3_firstHere 14 = .ok (.iload_n 2, 1) := dk_28 (dk_at dksX3_firstHere_0 14 rfl rfl)
theorem dX3_firstHere_15 : decode cX3_firstHere 15 = .ok (.aaload, 1) := dk_50 (dk_at dksX3_firstHere_0 15 rfl rfl)
theorem dX3_firstHere_16 : decode cX3_firstHere 16 = .ok (.getfield 87, 3) := dk_180 0 87 (dk_at dksX3_firstHere_0 16 rfl rfl)
theorem dX3_firstHere_19 : decode cX3_firstHere 19 = .ok (.iload_n 1, 1) := dk_27 (dk_at dksX3_firstHere_0 19 rfl rfl)
theorem dX3_firstHere_20 : decode cX3_firstHere 20 = .ok (.if_icmp .ne 39, 3) := dk_160 0 39 (dk_at dksX3_firstHere_0 20 rfl rfl)
theorem dX3_firstHere_23 : decode cX3_firstHere 23 = .ok (.aload_n 0, 1) := dk_42 (dk_at dksX3_firstHere_0 23 rfl rfl)
theorem dX3_firstHere_24 : decode cX3_firstHere 24 = .ok (.getfield 17, 3) := dk_180 0 17 (dk_at dksX3_firstHere_1 0 rfl rfl)
theorem dX3_firstHere_27 : decode cX3_firstHere 27 = .ok (.iload_n 2, 1) := dk_28 (dk_at dksX3_firstHere_1 3 rfl rfl)
theorem dX3_firstHere_28 : decode cX3_firstHere 28 = .ok (.aaload, 1) := dk_50 (dk_at dksX3_firstHere_1 4 rfl rfl)
theorem dX3_firstHere_29 : decode cX3_firstHere 29 = .ok (.getfield 90, 3) := dk_180 0 90 (dk_at dksX3_firstHere_1 5 rfl rfl)
theorem dX3_firstHere_32 : decode cX3_firstHere 32 = .ok (.iconst 1, 1) := dk_4 (dk_at dksX3_firstHere_1 8 rfl rfl)
theorem dX3_firstHere_33 : decode cX3_firstHere 33 = .ok (.if_icmp .ne 26, 3) := dk_160 0 26 (dk_at dksX3_firstHere_1 9 rfl rfl)
theorem dX3_firstHere_36 : decode cX3_firstHere 36 = .ok (.aload_n 0, 1) := dk_42 (dk_at dksX3_firstHere_1 12 rfl rfl)
theorem dX3_firstHere_37 : decode cX3_firstHere 37 = .ok (.getfield 17, 3) := dk_180 0 17 (dk_at dksX3_firstHere_1 13 rfl rfl)
theorem dX3_firstHere_40 : decode cX3_firstHere 40 = .ok (.iload_n 2, 1) := dk_28 (dk_at dksX3_firstHere_1 16 rfl rfl)
theorem dX3_firstHere_41 : decode cX3_firstHere 41 = .ok (.aaload, 1) := dk_50 (dk_at dksX3_firstHere_1 17 rfl rfl)
theorem dX3_firstHere_42 : decode cX3_firstHere 42 = .ok (.getfield 97, 3) := dk_180 0 97 (dk_at dksX3_firstHere_1 18 rfl rfl)
theorem dX3_firstHere_45 : decode cX3_firstHere 45 = .ok (.aload_n 0, 1) := dk_42 (dk_at dksX3_firstHere_1 21 rfl rfl)
theorem dX3_firstHere_46 : decode cX3_firstHere 46 = .ok (.getfield 23, 3) := dk_180 0 23 (dk_at dksX3_firstHere_2 0 rfl rfl)
theorem dX3_firstHere_49 : decode cX3_firstHere 49 = .ok (.iload_n 1, 1) := dk_27 (dk_at dksX3_firstHere_2 3 rfl rfl)
theorem dX3_firstHere_50 : decode cX3_firstHere 50 = .ok (.aaload, 1) := dk_50 (dk_at dksX3_firstHere_2 4 rfl rfl)
theorem dX3_firstHere_51 : decode cX3_firstHere 51 = .ok (.getfield 62, 3) := dk_180 0 62 (dk_at dksX3_firstHere_2 5 rfl rfl)
theorem dX3_firstHere_54 : decode cX3_firstHere 54 = .ok (.if_icmp .ne 5, 3) := dk_160 0 5 (dk_at dksX3_firstHere_2 8 rfl rfl)
theorem dX3_firstHere_57 : decode cX3_firstHere 57 = .ok (.iload_n 2, 1) := dk_28 (dk_at dksX3_firstHere_2 11 rfl rfl)
theorem dX3_firstHere_58 : decode cX3_firstHere 58 = .ok (.ireturn, 1) := dk_172 (dk_at dksX3_firstHere_2 12 rfl rfl)
theorem dX3_firstHere_59 : decode cX3_firstHere 59 = .ok (.iinc 2 1, 3) := dk_132 2 1 (dk_at dksX3_firstHere_2 13 rfl rfl)
theorem dX3_firstHere_62 : decode cX3_firstHere 62 = .ok (.goto (-60), 3) := dk_167 255 196 (dk_at dksX3_firstHere_2 16 rfl rfl)
theorem dX3_firstHere_65 : decode cX3_firstHere 65 = .ok (.iconst (-1), 1) := dk_2 (dk_at dksX3_firstHere_2 19 rfl rfl)
theorem dX3_firstHere_66 : decode cX3_firstHere 66 = .ok (.ireturn, 1) := dk_172 (dk_at dksX3_firstHere_2 20 rfl rfl)
abbrev cX3_isTarget : ByteArray := prog_11_method_10_code
def yX3_isTarget : MethodName := ⟨RX3, "isTarget", "(I)Z"⟩
def dkwX3_isTarget_2 : List UInt8 := [172]
abbrev dktX3_isTarget_2 : List UInt8 := dkwX3_isTarget_2 ++ []
def dkwX3_isTarget_1 : List UInt8 := [167, 0, 24, 42, 180, 0, 158, 27, 16, 64, 100, 123, 10, 127, 10, 148, 154, 0, 7, 4, 167, 0, 4, 3]
abbrev dktX3_isTarget_1 : List UInt8 := dkwX3_isTarget_1 ++ dktX3_isTarget_2
def dkwX3_isTarget_0 : List UInt8 := [27, 16, 64, 162, 0, 24, 42, 180, 0, 155, 27, 123, 10, 127, 10, 148, 154, 0, 7, 4, 167, 0, 28, 3]
abbrev dktX3_isTarget_0 : List UInt8 := dkwX3_isTarget_0 ++ dktX3_isTarget_1
theorem dksX3_isTarget_0 : cX3_isTarget.data.toList.drop 0 = dktX3_isTarget_0 := by decide +kernel
theorem dksX3_isTarget_1 : cX3_isTarget.data.toList.drop 24 = dktX3_isTarget_1 := dk_seg dksX3_isTarget_0 24 rfl rfl
theorem dksX3_isTarget_2 : cX3_isTarget.data.toList.drop 48 = dktX3_isTarget_2 := dk_seg dksX3_isTarget_1 24 rfl rfl
theorem dX3_isTarget_0 : decode cX3_isTarget 0 = .ok (.iload_n 1, 1) := dk_27 (dk_at dksX3_isTarget_0 0 rfl rfl)
theorem dX3_isTarget_1 : decode cX3_isTarget 1 = .ok (.bipush 64, 2) := dk_16 64 (dk_at dksX3_isTarget_0 1 rfl rfl)
theorem dX3_isTarget_3 : decode cX3_isTarget 3 = .ok (.if_icmp .ge 24, 3) := dk_162 0 24 (dk_at dksX3_isTarget_0 3 rfl rfl)
theorem dX3_isTarget_6 : decode cX3_isTarget 6 = .ok (.aload_n 0, 1) := dk_42 (dk_at dksX3_isTarget_0 6 rfl rfl)
theorem dX3_isTarget_7 : decode cX3_isTarget 7 = .ok (.getfield 155, 3) := dk_180 0 155 (dk_at dksX3_isTarget_0 7 rfl rfl)
theorem dX3_isTarget_10 : decode cX3_isTarget 10 = .ok (.iload_n 1, 1) := dk_27 (dk_at dksX3_isTarget_0 10 rfl rfl)
theorem dX3_isTarget_11 : decode cX3_isTarget 11 = .ok (.lshr, 1) := dk_123 (dk_at dksX3_isTarget_0 11 rfl rfl)
theorem dX3_isTarget_12 : decode cX3_isTarget 12 = .ok (.lconst 1, 1) := dk_10 (dk_at dksX3_isTarget_0 12 rfl rfl)
theorem dX3_isTarget_13 : decode cX3_isTarget 13 = .ok (.land, 1) := dk_127 (dk_at dksX3_isTarget_0 13 rfl rfl)
theorem dX3_isTarget_14 : decode cX3_isTarget 14 = .ok (.lconst 1, 1) := dk_10 (dk_at dksX3_isTarget_0 14 rfl rfl)
theorem dX3_isTarget_15 : decode cX3_isTarget 15 = .ok (.lcmp, 1) := dk_148 (dk_at dksX3_isTarget_0 15 rfl rfl)
theorem dX3_isTarget_16 : decode cX3_isTarget 16 = .ok (.ifCond .ne 7, 3) := dk_154 0 7 (dk_at dksX3_isTarget_0 16 rfl rfl)
theorem dX3_isTarget_19 : decode cX3_isTarget 19 = .ok (.iconst 1, 1) := dk_4 (dk_at dksX3_isTarget_0 19 rfl rfl)
theorem dX3_isTarget_20 : decode cX3_isTarget 20 = .ok (.goto 28, 3) := dk_167 0 28 (dk_at dksX3_isTarget_0 20 rfl rfl)
theorem dX3_isTarget_23 : decode cX3_isTarget 23 = .ok (.iconst 0, 1) := dk_3 (dk_at dksX3_isTarget_0 23 rfl rfl)
theorem dX3_isTarget_24 : decode cX3_isTarget 24 = .ok (.goto 24, 3) := dk_167 0 24 (dk_at dksX3_isTarget_1 0 rfl rfl)
theorem dX3_isTarget_27 : decode cX3_isTarget 27 = .ok (.aload_n 0, 1) := dk_42 (dk_at dksX3_isTarget_1 3 rfl rfl)
theorem dX3_isTarget_28 : decode cX3_isTarget 28 = .ok (.getfield 158, 3) := dk_180 0 158 (dk_at dksX3_isTarget_1 4 rfl rfl)
theorem dX3_isTarget_31 : decode cX3_isTarget 31 = .ok (.iload_n 1, 1) := dk_27 (dk_at dksX3_isTarget_1 7 rfl rfl)
theorem dX3_isTarget_32 : decode cX3_isTarget 32 = .ok (.bipush 64, 2) := dk_16 64 (dk_at dksX3_isTarget_1 8 rfl rfl)
theorem dX3_isTarget_34 : decode cX3_isTarget 34 = .ok (.isub, 1) := dk_100 (dk_at dksX3_isTarget_1 10 rfl rfl)
theorem dX3_isTarget_35 : decode cX3_isTarget 35 = .ok (.lshr, 1) := dk_123 (dk_at dksX3_isTarget_1 11 rfl rfl)
theorem dX3_isTarget_36 : decode cX3_isTarget 36 = .ok (.lconst 1, 1) := dk_10 (dk_at dksX3_isTarget_1 12 rfl rfl)
theorem dX3_isTarget_37 : decode cX3_isTarget 37 = .ok (.land, 1) := dk_127 (dk_at dksX3_isTarget_1 13 rfl rfl)
theorem dX3_isTarget_38 : decode cX3_isTarget 38 = .ok (.lconst 1, 1) := dk_10 (dk_at dksX3_isTarget_1 14 rfl rfl)
theorem dX3_isTarget_39 : decode cX3_isTarget 39 = .ok (.lcmp, 1) := dk_148 (dk_at dksX3_isTarget_1 15 rfl rfl)
theorem dX3_isTarget_40 : decode cX3_isTarget 40 = .ok (.ifCond .ne 7, 3) := dk_154 0 7 (dk_at dksX3_isTarget_1 16 rfl rfl)
theorem dX3_isTarget_43 : decode cX3_isTarget 43 = .ok (.iconst 1, 1) := dk_4 (dk_at dksX3_isTarget_1 19 rfl rfl)
theorem dX3_isTarget_44 : decode cX3_isTarget 44 = .ok (.goto 4, 3) := dk_167 0 4 (dk_at dksX3_isTarget_1 20 rfl rfl)
theorem dX3_isTarget_47 : decode cX3_isTarget 47 = .ok (.iconst 0, 1) := dk_3 (dk_at dksX3_isTarget_1 23 rfl rfl)
theorem dX3_isTarget_48 : decode cX3_isTarget 48 = .ok (.ireturn, 1) := dk_172 (dk_at dksX3_isTarget_2 0 rfl rfl)
abbrev cX3_goIn : ByteArray := prog_11_method_15_code
def yX3_goIn : MethodName := ⟨RX3, "goIn", "(I)I"⟩
def dkwX3_goIn_7 : List UInt8 := [132, 4, 1, 167, 255, 119, 28, 172]
abbrev dktX3_goIn_7 : List UInt8 := dkwX3_goIn_7 ++ []
def dkwX3_goIn_6 : List UInt8 := [182, 0, 194, 154, 0, 16, 42, 180, 0, 23, 27, 50, 42, 180, 0, 191, 182, 0, 197, 132, 2, 1]
abbrev dktX3_goIn_6 : List UInt8 := dkwX3_goIn_6 ++ dktX3_goIn_7
def dkwX3_goIn_5 : List UInt8 := [181, 0, 188, 21, 4, 42, 180, 0, 27, 160, 0, 32, 42, 180, 0, 23, 27, 50, 42, 180, 0, 191]
abbrev dktX3_goIn_5 : List UInt8 := dkwX3_goIn_5 ++ dktX3_goIn_6
def dkwX3_goIn_4 : List UInt8 := [27, 50, 180, 0, 64, 159, 0, 6, 167, 0, 59, 25, 5, 5, 181, 0, 90, 25, 5, 42, 180, 0, 36]
abbrev dktX3_goIn_4 : List UInt8 := dkwX3_goIn_4 ++ dktX3_goIn_5
def dkwX3_goIn_3 : List UInt8 := [180, 0, 97, 42, 180, 0, 23, 27, 50, 180, 0, 62, 160, 0, 79, 25, 5, 182, 0, 91, 42, 180, 0, 23]
abbrev dktX3_goIn_3 : List UInt8 := dkwX3_goIn_3 ++ dktX3_goIn_4
def dkwX3_goIn_2 : List UInt8 := [58, 5, 25, 5, 180, 0, 87, 27, 160, 0, 105, 25, 5, 180, 0, 90, 4, 160, 0, 96, 25, 5]
abbrev dktX3_goIn_2 : List UInt8 := dkwX3_goIn_2 ++ dktX3_goIn_3
def dkwX3_goIn_1 : List UInt8 := [54, 4, 21, 4, 42, 180, 0, 33, 162, 0, 134, 28, 29, 162, 0, 129, 42, 180, 0, 17, 21, 4, 50]
abbrev dktX3_goIn_1 : List UInt8 := dkwX3_goIn_1 ++ dktX3_goIn_2
def dkwX3_goIn_0 : List UInt8 := [3, 61, 42, 180, 0, 3, 180, 0, 53, 180, 0, 185, 27, 46, 42, 27, 5, 182, 0, 106, 100, 62, 3]
abbrev dktX3_goIn_0 : List UInt8 := dkwX3_goIn_0 ++ dktX3_goIn_1
theorem dksX3_goIn_0 : cX3_goIn.data.toList.drop 0 = dktX3_goIn_0 := by decide +kernel
theorem dksX3_goIn_1 : cX3_goIn.data.toList.drop 23 = dktX3_goIn_1 := dk_seg dksX3_goIn_0 23 rfl rfl
theorem dksX3_goIn_2 : cX3_goIn.data.toList.drop 46 = dktX3_goIn_2 := dk_seg dksX3_goIn_1 23 rfl rfl
theorem dksX3_goIn_3 : cX3_goIn.data.toList.drop 68 = dktX3_goIn_3 := dk_seg dksX3_goIn_2 22 rfl rfl
theorem dksX3_goIn_4 : cX3_goIn.data.toList.drop 92 = dktX3_goIn_4 := dk_seg dksX3_goIn_3 24 rfl rfl
theorem dksX3_goIn_5 : cX3_goIn.data.toList.drop 115 = dktX3_goIn_5 := dk_seg dksX3_goIn_4 23 rfl rfl
theorem dksX3_goIn_6 : cX3_goIn.data.toList.drop 137 = dktX3_goIn_6 := dk_seg dksX3_goIn_5 22 rfl rfl
theorem dksX3_goIn_7 : cX3_goIn.data.toList.drop 159 = dktX3_goIn_7 := dk_seg dksX3_goIn_6 22 rfl rfl
theorem dX3_goIn_0 : decode cX3_goIn 0 = .ok (.iconst 0, 1) := dk_3 (dk_at dksX3_goIn_0 0 rfl rfl)
theorem dX3_goIn_1 : decode cX3_goIn 1 = .ok (.istore_n 2, 1) := dk_61 (dk_at dksX3_goIn_0 1 rfl rfl)
theorem dX3_goIn_2 : decode cX3_goIn 2 = .ok (.aload_n 0, 1) := dk_42 (dk_at dksX3_goIn_0 2 rfl rfl)
theorem dX3_goIn_3 : decode cX3_goIn 3 = .ok (.getfield 3, 3) := dk_180 0 3 (dk_at dksX3_goIn_0 3 rfl rfl)
theorem dX3_goIn_6 : decode cX3_goIn 6 = .ok (.getfield 53, 3) := dk_180 0 53 (dk_at dksX3_goIn_0 6 rfl rfl)
theorem dX3_goIn_9 : decode cX3_goIn 9 = .ok (.getfield 185, 3) := dk_180 0 185 (dk_at dksX3_goIn_0 9 rfl rfl)
theorem dX3_goIn_12 : decode cX3_goIn 12 = .ok (.iload_n 1, 1) := dk_27 (dk_at dksX3_goIn_0 12 rfl rfl)
theorem dX3_goIn_13 : decode cX3_goIn 13 = .ok (.iaload, 1) := dk_46 (dk_at dksX3_goIn_0 13 rfl rfl)
theorem dX3_goIn_14 : decode cX3_goIn 14 = .ok (.aload_n 0, 1) := dk_42 (dk_at dksX3_goIn_0 14 rfl rfl)
theorem dX3_goIn_15 : decode cX3_goIn 15 = .ok (.iload_n 1, 1) := dk_27 (dk_at dksX3_goIn_0 15 rfl rfl)
theorem dX3_goIn_16 : decode cX3_goIn 16 = .ok (.iconst 2, 1) := dk_5 (dk_at dksX3_goIn_0 16 rfl rfl)
theorem dX3_goIn_17 : decode cX3_goIn 17 = .ok (.invokevirtual 106, 3) := dk_182 0 106 (dk_at dksX3_goIn_0 17 rfl rfl)
theorem dX3_goIn_20 : decode cX3_goIn 20 = .ok (.isub, 1) := dk_100 (dk_at dksX3_goIn_0 20 rfl rfl)
theorem dX3_goIn_21 : decode cX3_goIn 21 = .ok (.istore_n 3, 1) := dk_62 (dk_at dksX3_goIn_0 21 rfl rfl)
theorem dX3_goIn_22 : decode cX3_goIn 22 = .ok (.iconst 0, 1) := dk_3 (dk_at dksX3_goIn_0 22 rfl rfl)
theorem dX3_goIn_23 : decode cX3_goIn 23 = .ok (.istore 4, 2) := dk_54 4 (dk_at dksX3_goIn_1 0 rfl rfl)
theorem dX3_goIn_25 : decode cX3_goIn 25 = .ok (.iload 4, 2) := dk_21 4 (dk_at dksX3_goIn_1 2 rfl rfl)
theorem dX3_goIn_27 : decode cX3_goIn 27 = .ok (.aload_n 0, 1) := dk_42 (dk_at dksX3_goIn_1 4 rfl rfl)
theorem dX3_goIn_28 : decode cX3_goIn 28 = .ok (.getfield 33, 3) := dk_180 0 33 (dk_at dksX3_goIn_1 5 rfl rfl)
theorem dX3_goIn_31 : decode cX3_goIn 31 = .ok (.if_icmp .ge 134, 3) := dk_162 0 134 (dk_at dksX3_goIn_1 8 rfl rfl)
theorem dX3_goIn_34 : decode cX3_goIn 34 = .ok (.iload_n 2, 1) := dk_28 (dk_at dksX3_goIn_1 11 rfl rfl)
theorem dX3_goIn_35 : decode cX3_goIn 35 = .ok (.iload_n 3, 1) := dk_29 (dk_at dksX3_goIn_1 12 rfl rfl)
theorem dX3_goIn_36 : decode cX3_goIn 36 = .ok (.if_icmp .ge 129, 3) := dk_162 0 129 (dk_at dksX3_goIn_1 13 rfl rfl)
theorem dX3_goIn_39 : decode cX3_goIn 39 = .ok (.aload_n 0, 1) := dk_42 (dk_at dksX3_goIn_1 16 rfl rfl)
theorem dX3_goIn_40 : decode cX3_goIn 40 = .ok (.getfield 17, 3) := dk_180 0 17 (dk_at dksX3_goIn_1 17 rfl rfl)
theorem dX3_goIn_43 : decode cX3_goIn 43 = .ok (.iload 4, 2) := dk_21 4 (dk_at dksX3_goIn_1 20 rfl rfl)
theorem dX3_goIn_45 : decode cX3_goIn 45 = .ok (.aaload, 1) := dk_50 (dk_at dksX3_goIn_1 22 rfl rfl)
theorem dX3_goIn_46 : decode cX3_goIn 46 = .ok (.astore 5, 2) := dk_58 5 (dk_at dksX3_goIn_2 0 rfl rfl)
theorem dX3_goIn_48 : decode cX3_goIn 48 = .ok (.aload 5, 2) := dk_25 5 (dk_at dksX3_goIn_2 2 rfl rfl)
theorem dX3_goIn_50 : decode cX3_goIn 50 = .ok (.getfield 87, 3) := dk_180 0 87 (dk_at dksX3_goIn_2 4 rfl rfl)
theorem dX3_goIn_53 : decode cX3_goIn 53 = .ok (.iload_n 1, 1) := dk_27 (dk_at dksX3_goIn_2 7 rfl rfl)
theorem dX3_goIn_54 : decode cX3_goIn 54 = .ok (.if_icmp .ne 105, 3) := dk_160 0 105 (dk_at dksX3_goIn_2 8 rfl rfl)
theorem dX3_goIn_57 : decode cX3_goIn 57 = .ok (.aload 5, 2) := dk_25 5 (dk_at dksX3_goIn_2 11 rfl rfl)
theorem dX3_goIn_59 : decode cX3_goIn 59 = .ok (.getfield 90, 3) := dk_180 0 90 (dk_at dksX3_goIn_2 13 rfl rfl)
theorem dX3_goIn_62 : decode cX3_goIn 62 = .ok (.iconst 1, 1) := dk_4 (dk_at dksX3_goIn_2 16 rfl rfl)
theorem dX3_goIn_63 : decode cX3_goIn 63 = .ok (.if_icmp .ne 96, 3) := dk_160 0 96 (dk_at dksX3_goIn_2 17 rfl rfl)
theorem dX3_goIn_66 : decode cX3_goIn 66 = .ok (.aload 5, 2) := dk_25 5 (dk_at dksX3_goIn_2 20 rfl rfl)
theorem dX3_goIn_68 : decode cX3_goIn 68 = .ok (.getfield 97, 3) := dk_180 0 97 (dk_at dksX3_goIn_3 0 rfl rfl)
theorem dX3_goIn_71 : decode cX3_goIn 71 = .ok (.aload_n 0, 1) := dk_42 (dk_at dksX3_goIn_3 3 rfl rfl)
theorem dX3_goIn_72 : decode cX3_goIn 72 = .ok (.getfield 23, 3) := dk_180 0 23 (dk_at dksX3_goIn_3 4 rfl rfl)
theorem dX3_goIn_75 : decode cX3_goIn 75 = .ok (.iload_n 1, 1) := dk_27 (dk_at dksX3_goIn_3 7 rfl rfl)
theorem dX3_goIn_76 : decode cX3_goIn 76 = .ok (.aaload, 1) := dk_50 (dk_at dksX3_goIn_3 8 rfl rfl)
theorem dX3_goIn_77 : decode cX3_goIn 77 = .ok (.getfield 62, 3) := dk_180 0 62 (dk_at dksX3_goIn_3 9 rfl rfl)
theorem dX3_goIn_80 : decode cX3_goIn 80 = .ok (.if_icmp .ne 79, 3) := dk_160 0 79 (dk_at dksX3_goIn_3 12 rfl rfl)
theorem dX3_goIn_83 : decode cX3_goIn 83 = .ok (.aload 5, 2) := dk_25 5 (dk_at dksX3_goIn_3 15 rfl rfl)
theorem dX3_goIn_85 : decode cX3_goIn 85 = .ok (.invokevirtual 91, 3) := dk_182 0 91 (dk_at dksX3_goIn_3 17 rfl rfl)
theorem dX3_goIn_88 : decode cX3_goIn 88 = .ok (.aload_n 0, 1) := dk_42 (dk_at dksX3_goIn_3 20 rfl rfl)
theorem dX3_goIn_89 : decode cX3_goIn 89 = .ok (.getfield 23, 3) := dk_180 0 23 (dk_at dksX3_goIn_3 21 rfl rfl)
theorem dX3_goIn_92 : decode cX3_goIn 92 = .ok (.iload_n 1, 1) := dk_27 (dk_at dksX3_goIn_4 0 rfl rfl)
theorem dX3_goIn_93 : decode cX3_goIn 93 = .ok (.aaload, 1) := dk_50 (dk_at dksX3_goIn_4 1 rfl rfl)
theorem dX3_goIn_94 : decode cX3_goIn 94 = .ok (.getfield 64, 3) := dk_180 0 64 (dk_at dksX3_goIn_4 2 rfl rfl)
theorem dX3_goIn_97 : decode cX3_goIn 97 = .ok (.if_icmp .eq 6, 3) := dk_159 0 6 (dk_at dksX3_goIn_4 5 rfl rfl)
theorem dX3_goIn_100 : decode cX3_goIn 100 = .ok (.goto 59, 3) := dk_167 0 59 (dk_at dksX3_goIn_4 8 rfl rfl)
theorem dX3_goIn_103 : decode cX3_goIn 103 = .ok (.aload 5, 2) := dk_25 5 (dk_at dksX3_goIn_4 11 rfl rfl)
theorem dX3_goIn_105 : decode cX3_goIn 105 = .ok (.iconst 2, 1) := dk_5 (dk_at dksX3_goIn_4 13 rfl rfl)
theorem dX3_goIn_106 : decode cX3_goIn 106 = .ok (.putfield 90, 3) := dk_181 0 90 (dk_at dksX3_goIn_4 14 rfl rfl)
theorem dX3_goIn_109 : decode cX3_goIn 109 = .ok (.aload 5, 2) := dk_25 5 (dk_at dksX3_goIn_4 17 rfl rfl)
theorem dX3_goIn_111 : decode cX3_goIn 111 = .ok (.aload_n 0, 1) := dk_42 (dk_at dksX3_goIn_4 19 rfl rfl)
theorem dX3_goIn_112 : decode cX3_goIn 112 = .ok (.getfield 36, 3) := dk_180 0 36 (dk_at dksX3_goIn_4 20 rfl rfl)
theorem dX3_goIn_115 : decode cX3_goIn 115 = .ok (.putfield 188, 3) := dk_181 0 188 (dk_at dksX3_goIn_5 0 rfl rfl)
theorem dX3_goIn_118 : decode cX3_goIn 118 = .ok (.iload 4, 2) := dk_21 4 (dk_at dksX3_goIn_5 3 rfl rfl)
theorem dX3_goIn_120 : decode cX3_goIn 120 = .ok (.aload_n 0, 1) := dk_42 (dk_at dksX3_goIn_5 5 rfl rfl)
theorem dX3_goIn_121 : decode cX3_goIn 121 = .ok (.getfield 27, 3) := dk_180 0 27 (dk_at dksX3_goIn_5 6 rfl rfl)
theorem dX3_goIn_124 : decode cX3_goIn 124 = .ok (.if_icmp .ne 32, 3) := dk_160 0 32 (dk_at dksX3_goIn_5 9 rfl rfl)
theorem dX3_goIn_127 : decode cX3_goIn 127 = .ok (.aload_n 0, 1) := dk_42 (dk_at dksX3_goIn_5 12 rfl rfl)
theorem dX3_goIn_128 : decode cX3_goIn 128 = .ok (.getfield 23, 3) := dk_180 0 23 (dk_at dksX3_goIn_5 13 rfl rfl)
theorem dX3_goIn_131 : decode cX3_goIn 131 = .ok (.iload_n 1, 1) := dk_27 (dk_at dksX3_goIn_5 16 rfl rfl)
theorem dX3_goIn_132 : decode cX3_goIn 132 = .ok (.aaload, 1) := dk_50 (dk_at dksX3_goIn_5 17 rfl rfl)
theorem dX3_goIn_133 : decode cX3_goIn 133 = .ok (.aload_n 0, 1) := dk_42 (dk_at dksX3_goIn_5 18 rfl rfl)
theorem dX3_goIn_134 : decode cX3_goIn 134 = .ok (.getfield 191, 3) := dk_180 0 191 (dk_at dksX3_goIn_5 19 rfl rfl)
theorem dX3_goIn_137 : decode cX3_goIn 137 = .ok (.invokevirtual 194, 3) := dk_182 0 194 (dk_at dksX3_goIn_6 0 rfl rfl)
theorem dX3_goIn_140 : decode cX3_goIn 140 = .ok (.ifCond .ne 16, 3) := dk_154 0 16 (dk_at dksX3_goIn_6 3 rfl rfl)
theorem dX3_goIn_143 : decode cX3_goIn 143 = .ok (.aload_n 0, 1) := dk_42 (dk_at dksX3_goIn_6 6 rfl rfl)
theorem dX3_goIn_144 : decode cX3_goIn 144 = .ok (.getfield 23, 3) := dk_180 0 23 (dk_at dksX3_goIn_6 7 rfl rfl)
theorem dX3_goIn_147 : decode cX3_goIn 147 = .ok (.iload_n 1, 1) := dk_27 (dk_at dksX3_goIn_6 10 rfl rfl)
theorem dX3_goIn_148 : decode cX3_goIn 148 = .ok (.aaload, 1) := dk_50 (dk_at dksX3_goIn_6 11 rfl rfl)
theorem dX3_goIn_149 : decode cX3_goIn 149 = .ok (.aload_n 0, 1) := dk_42 (dk_at dksX3_goIn_6 12 rfl rfl)
theorem dX3_goIn_150 : decode cX3_goIn 150 = .ok (.getfield 191, 3) := dk_180 0 191 (dk_at dksX3_goIn_6 13 rfl rfl)
theorem dX3_goIn_153 : decode cX3_goIn 153 = .ok (.invokevirtual 197, 3) := dk_182 0 197 (dk_at dksX3_goIn_6 16 rfl rfl)
theorem dX3_goIn_156 : decode cX3_goIn 156 = .ok (.iinc 2 1, 3) := dk_132 2 1 (dk_at dksX3_goIn_6 19 rfl rfl)
theorem dX3_goIn_159 : decode cX3_goIn 159 = .ok (.iinc 4 1, 3) := dk_132 4 1 (dk_at dksX3_goIn_7 0 rfl rfl)
theorem dX3_goIn_162 : decode cX3_goIn 162 = .ok (.goto (-137), 3) := dk_167 255 119 (dk_at dksX3_goIn_7 3 rfl rfl)
theorem dX3_goIn_165 : decode cX3_goIn 165 = .ok (.iload_n 2, 1) := dk_28 (dk_at dksX3_goIn_7 6 rfl rfl)
theorem dX3_goIn_166 : decode cX3_goIn 166 = .ok (.ireturn, 1) := dk_172 (dk_at dksX3_goIn_7 7 rfl rfl)
abbrev cX3_become : ByteArray := prog_11_method_2_code
def yX3_become : MethodName := ⟨RX3, "become", "(LFourCars$Tower;)V"⟩
def dkwX3_become_4 : List UInt8 := [177]
abbrev dktX3_become_4 : List UInt8 := dkwX3_become_4 ++ []
def dkwX3_become_3 : List UInt8 := [180, 0, 23, 28, 50, 182, 0, 46, 132, 2, 1, 167, 255, 233, 42, 1, 181, 0, 49, 42, 2, 181, 0, 27]
abbrev dktX3_become_3 : List UInt8 := dkwX3_become_3 ++ dktX3_become_4
def dkwX3_become_2 : List UInt8 := [182, 0, 42, 132, 2, 1, 167, 255, 230, 3, 61, 28, 7, 162, 0, 24, 42, 180, 0, 23, 28, 50, 43]
abbrev dktX3_become_2 : List UInt8 := dkwX3_become_2 ++ dktX3_become_3
def dkwX3_become_1 : List UInt8 := [3, 61, 28, 42, 180, 0, 33, 162, 0, 24, 42, 180, 0, 17, 28, 50, 43, 180, 0, 17, 28, 50]
abbrev dktX3_become_1 : List UInt8 := dkwX3_become_1 ++ dktX3_become_2
def dkwX3_become_0 : List UInt8 := [42, 43, 180, 0, 33, 181, 0, 33, 42, 43, 180, 0, 36, 181, 0, 36, 42, 43, 180, 0, 39, 181, 0, 39]
abbrev dktX3_become_0 : List UInt8 := dkwX3_become_0 ++ dktX3_become_1
theorem dksX3_become_0 : cX3_become.data.toList.drop 0 = dktX3_become_0 := by decide +kernel
theorem dksX3_become_1 : cX3_become.data.toList.drop 24 = dktX3_become_1 := dk_seg dksX3_become_0 24 rfl rfl
theorem dksX3_become_2 : cX3_become.data.toList.drop 46 = dktX3_become_2 := dk_seg dksX3_become_1 22 rfl rfl
theorem dksX3_become_3 : cX3_become.data.toList.drop 69 = dktX3_become_3 := dk_seg dksX3_become_2 23 rfl rfl
theorem dksX3_become_4 : cX3_become.data.toList.drop 93 = dktX3_become_4 := dk_seg dksX3_become_3 24 rfl rfl
theorem dX3_become_0 : decode cX3_become 0 = .ok (.aload_n 0, 1) := dk_42 (dk_at dksX3_become_0 0 rfl rfl)
theorem dX3_become_1 : decode cX3_become 1 = .ok (.aload_n 1, 1) := dk_43 (dk_at dksX3_become_0 1 rfl rfl)
theorem dX3_become_2 : decode cX3_become 2 = .ok (.getfield 33, 3) := dk_180 0 33 (dk_at dksX3_become_0 2 rfl rfl)
theorem dX3_become_5 : decode cX3_become 5 = .ok (.putfield 33, 3) := dk_181 0 33 (dk_at dksX3_become_0 5 rfl rfl)
theorem dX3_become_8 : decode cX3_become 8 = .ok (.aload_n 0, 1) := dk_42 (dk_at dksX3_become_0 8 rfl rfl)
theorem dX3_become_9 : decode cX3_become 9 = .ok (.aload_n 1, 1) := dk_43 (dk_at dksX3_become_0 9 rfl rfl)
theorem dX3_become_10 : decode cX3_become 10 = .ok (.getfield 36, 3) := dk_180 0 36 (dk_at dksX3_become_0 10 rfl rfl)
theorem dX3_become_13 : decode cX3_become 13 = .ok (.putfield 36, 3) := dk_181 0 36 (dk_at dksX3_become_0 13 rfl rfl)
theorem dX3_become_16 : decode cX3_become 16 = .ok (.aload_n 0, 1) := dk_42 (dk_at dksX3_become_0 16 rfl rfl)
theorem dX3_become_17 : decode cX3_become 17 = .ok (.aload_n 1, 1) := dk_43 (dk_at dksX3_become_0 17 rfl rfl)
theorem dX3_become_18 : decode cX3_become 18 = .ok (.getfield 39, 3) := dk_180 0 39 (dk_at dksX3_become_0 18 rfl rfl)
theorem dX3_become_21 : decode cX3_become 21 = .ok (.putfield 39, 3) := dk_181 0 39 (dk_at dksX3_become_0 21 rfl rfl)
theorem dX3_become_24 : decode cX3_become 24 = .ok (.iconst 0, 1) := dk_3 (dk_at dksX3_become_1 0 rfl rfl)
theorem dX3_become_25 : decode cX3_become 25 = .ok (.istore_n 2, 1) := dk_61 (dk_at dksX3_become_1 1 rfl rfl)
theorem dX3_become_26 : decode cX3_become 26 = .ok (.iload_n 2, 1) := dk_28 (dk_at dksX3_become_1 2 rfl rfl)
theorem dX3_become_27 : decode cX3_become 27 = .ok (.aload_n 0, 1) := dk_42 (dk_at dksX3_become_1 3 rfl rfl)
theorem dX3_become_28 : decode cX3_become 28 = .ok (.getfield 33, 3) := dk_180 0 33 (dk_at dksX3_become_1 4 rfl rfl)
theorem dX3_become_31 : decode cX3_become 31 = .ok (.if_icmp .ge 24, 3) := dk_162 0 24 (dk_at dksX3_become_1 7 rfl rfl)
theorem dX3_become_34 : decode cX3_become 34 = .ok (.aload_n 0, 1) := dk_42 (dk_at dksX3_become_1 10 rfl rfl)
theorem dX3_become_35 : decode cX3_become 35 = .ok (.getfield 17, 3) := dk_180 0 17 (dk_at dksX3_become_1 11 rfl rfl)
theorem dX3_become_38 : decode cX3_become 38 = .ok (.iload_n 2, 1) := dk_28 (dk_at dksX3_become_1 14 rfl rfl)
theorem dX3_become_39 : decode cX3_become 39 = .ok (.aaload, 1) := dk_50 (dk_at dksX3_become_1 15 rfl rfl)
theorem dX3_become_40 : decode cX3_become 40 = .ok (.aload_n 1, 1) := dk_43 (dk_at dksX3_become_1 16 rfl rfl)
theorem dX3_become_41 : decode cX3_become 41 = .ok (.getfield 17, 3) := dk_180 0 17 (dk_at dksX3_become_1 17 rfl rfl)
theorem dX3_become_44 : decode cX3_become 44 = .ok (.iload_n 2, 1) := dk_28 (dk_at dksX3_become_1 20 rfl rfl)
theorem dX3_become_45 : decode cX3_become 45 = .ok (.aaload, 1) := dk_50 (dk_at dksX3_become_1 21 rfl rfl)
theorem dX3_become_46 : decode cX3_become 46 = .ok (.invokevirtual 42, 3) := dk_182 0 42 (dk_at dksX3_become_2 0 rfl rfl)
theorem dX3_become_49 : decode cX3_become 49 = .ok (.iinc 2 1, 3) := dk_132 2 1 (dk_at dksX3_become_2 3 rfl rfl)
theorem dX3_become_52 : decode cX3_become 52 = .ok (.goto (-26), 3) := dk_167 255 230 (dk_at dksX3_become_2 6 rfl rfl)
theorem dX3_become_55 : decode cX3_become 55 = .ok (.iconst 0, 1) := dk_3 (dk_at dksX3_become_2 9 rfl rfl)
theorem dX3_become_56 : decode cX3_become 56 = .ok (.istore_n 2, 1) := dk_61 (dk_at dksX3_become_2 10 rfl rfl)
theorem dX3_become_57 : decode cX3_become 57 = .ok (.iload_n 2, 1) := dk_28 (dk_at dksX3_become_2 11 rfl rfl)
theorem dX3_become_58 : decode cX3_become 58 = .ok (.iconst 4, 1) := dk_7 (dk_at dksX3_become_2 12 rfl rfl)
theorem dX3_become_59 : decode cX3_become 59 = .ok (.if_icmp .ge 24, 3) := dk_162 0 24 (dk_at dksX3_become_2 13 rfl rfl)
theorem dX3_become_62 : decode cX3_become 62 = .ok (.aload_n 0, 1) := dk_42 (dk_at dksX3_become_2 16 rfl rfl)
theorem dX3_become_63 : decode cX3_become 63 = .ok (.getfield 23, 3) := dk_180 0 23 (dk_at dksX3_become_2 17 rfl rfl)
theorem dX3_become_66 : decode cX3_become 66 = .ok (.iload_n 2, 1) := dk_28 (dk_at dksX3_become_2 20 rfl rfl)
theorem dX3_become_67 : decode cX3_become 67 = .ok (.aaload, 1) := dk_50 (dk_at dksX3_become_2 21 rfl rfl)
theorem dX3_become_68 : decode cX3_become 68 = .ok (.aload_n 1, 1) := dk_43 (dk_at dksX3_become_2 22 rfl rfl)
theorem dX3_become_69 : decode cX3_become 69 = .ok (.getfield 23, 3) := dk_180 0 23 (dk_at dksX3_become_3 0 rfl rfl)
theorem dX3_become_72 : decode cX3_become 72 = .ok (.iload_n 2, 1) := dk_28 (dk_at dksX3_become_3 3 rfl rfl)
theorem dX3_become_73 : decode cX3_become 73 = .ok (.aaload, 1) := dk_50 (dk_at dksX3_become_3 4 rfl rfl)
theorem dX3_become_74 : decode cX3_become 74 = .ok (.invokevirtual 46, 3) := dk_182 0 46 (dk_at dksX3_become_3 5 rfl rfl)
theorem dX3_become_77 : decode cX3_become 77 = .ok (.iinc 2 1, 3) := dk_132 2 1 (dk_at dksX3_become_3 8 rfl rfl)
theorem dX3_become_80 : decode cX3_become 80 = .ok (.goto (-23), 3) := dk_167 255 233 (dk_at dksX3_become_3 11 rfl rfl)
theorem dX3_become_83 : decode cX3_become 83 = .ok (.aload_n 0, 1) := dk_42 (dk_at dksX3_become_3 14 rfl rfl)
theorem dX3_become_84 : decode cX3_become 84 = .ok (.aconst_null, 1) := dk_1 (dk_at dksX3_become_3 15 rfl rfl)
theorem dX3_become_85 : decode cX3_become 85 = .ok (.putfield 49, 3) := dk_181 0 49 (dk_at dksX3_become_3 16 rfl rfl)
theorem dX3_become_88 : decode cX3_become 88 = .ok (.aload_n 0, 1) := dk_42 (dk_at dksX3_become_3 19 rfl rfl)
theorem dX3_become_89 : decode cX3_become 89 = .ok (.iconst (-1), 1) := dk_2 (dk_at dksX3_become_3 20 rfl rfl)
theorem dX3_become_90 : decode cX3_become 90 = .ok (.putfield 27, 3) := dk_181 0 27 (dk_at dksX3_become_3 21 rfl rfl)
theorem dX3_become_93 : decode cX3_become 93 = .ok (.return_, 1) := dk_177 (dk_at dksX3_become_4 0 rfl rfl)
abbrev cX3_toTheEnd : ByteArray := prog_11_method_20_code
def yX3_toTheEnd : MethodName := ⟨RX3, "toTheEnd", "(I)I"⟩
def dkwX3_toTheEnd_1 : List UInt8 := [182, 0, 237, 132, 2, 1, 167, 255, 230, 28, 172]
abbrev dktX3_toTheEnd_1 : List UInt8 := dkwX3_toTheEnd_1 ++ []
def dkwX3_toTheEnd_0 : List UInt8 := [3, 61, 42, 6, 182, 0, 234, 42, 180, 0, 33, 162, 0, 20, 28, 27, 160, 0, 5, 2, 172, 42]
abbrev dktX3_toTheEnd_0 : List UInt8 := dkwX3_toTheEnd_0 ++ dktX3_toTheEnd_1
theorem dksX3_toTheEnd_0 : cX3_toTheEnd.data.toList.drop 0 = dktX3_toTheEnd_0 := by decide +kernel
theorem dksX3_toTheEnd_1 : cX3_toTheEnd.data.toList.drop 22 = dktX3_toTheEnd_1 := dk_seg dksX3_toTheEnd_0 22 rfl rfl
theorem dX3_toTheEnd_0 : decode cX3_toTheEnd 0 = .ok (.iconst 0, 1) := dk_3 (dk_at dksX3_toTheEnd_0 0 rfl rfl)
theorem dX3_toTheEnd_1 : decode cX3_toTheEnd 1 = .ok (.istore_n 2, 1) := dk_61 (dk_at dksX3_toTheEnd_0 1 rfl rfl)
theorem dX3_toTheEnd_2 : decode cX3_toTheEnd 2 = .ok (.aload_n 0, 1) := dk_42 (dk_at dksX3_toTheEnd_0 2 rfl rfl)
theorem dX3_toTheEnd_3 : decode cX3_toTheEnd 3 = .ok (.iconst 3, 1) := dk_6 (dk_at dksX3_toTheEnd_0 3 rfl rfl)
theorem dX3_toTheEnd_4 : decode cX3_toTheEnd 4 = .ok (.invokevirtual 234, 3) := dk_182 0 234 (dk_at dksX3_toTheEnd_0 4 rfl rfl)
theorem dX3_toTheEnd_7 : decode cX3_toTheEnd 7 = .ok (.aload_n 0, 1) := dk_42 (dk_at dksX3_toTheEnd_0 7 rfl rfl)
theorem dX3_toTheEnd_8 : decode cX3_toTheEnd 8 = .ok (.getfield 33, 3) := dk_180 0 33 (dk_at dksX3_toTheEnd_0 8 rfl rfl)
theorem dX3_toTheEnd_11 : decode cX3_toTheEnd 11 = .ok (.if_icmp .ge 20, 3) := dk_162 0 20 (dk_at dksX3_toTheEnd_0 11 rfl rfl)
theorem dX3_toTheEnd_14 : decode cX3_toTheEnd 14 = .ok (.iload_n 2, 1) := dk_28 (dk_at dksX3_toTheEnd_0 14 rfl rfl)
theorem dX3_toTheEnd_15 : decode cX3_toTheEnd 15 = .ok (.iload_n 1, 1) := dk_27 (dk_at dksX3_toTheEnd_0 15 rfl rfl)
theorem dX3_toTheEnd_16 : decode cX3_toTheEnd 16 = .ok (.if_icmp .ne 5, 3) := dk_160 0 5 (dk_at dksX3_toTheEnd_0 16 rfl rfl)
theorem dX3_toTheEnd_19 : decode cX3_toTheEnd 19 = .ok (.iconst (-1), 1) := dk_2 (dk_at dksX3_toTheEnd_0 19 rfl rfl)
theorem dX3_toTheEnd_20 : decode cX3_toTheEnd 20 = .ok (.ireturn, 1) := dk_172 (dk_at dksX3_toTheEnd_0 20 rfl rfl)
theorem dX3_toTheEnd_21 : decode cX3_toTheEnd 21 = .ok (.aload_n 0, 1) := dk_42 (dk_at dksX3_toTheEnd_0 21 rfl rfl)
theorem dX3_toTheEnd_22 : decode cX3_toTheEnd 22 = .ok (.invokevirtual 237, 3) := dk_182 0 237 (dk_at dksX3_toTheEnd_1 0 rfl rfl)
theorem dX3_toTheEnd_25 : decode cX3_toTheEnd 25 = .ok (.iinc 2 1, 3) := dk_132 2 1 (dk_at dksX3_toTheEnd_1 3 rfl rfl)
theorem dX3_toTheEnd_28 : decode cX3_toTheEnd 28 = .ok (.goto (-26), 3) := dk_167 255 230 (dk_at dksX3_toTheEnd_1 6 rfl rfl)
theorem dX3_toTheEnd_31 : decode cX3_toTheEnd 31 = .ok (.iload_n 2, 1) := dk_28 (dk_at dksX3_toTheEnd_1 9 rfl rfl)
theorem dX3_toTheEnd_32 : decode cX3_toTheEnd 32 = .ok (.ireturn, 1) := dk_172 (dk_at dksX3_toTheEnd_1 10 rfl rfl)
abbrev cX3_overOf : ByteArray := prog_11_method_21_code
def yX3_overOf : MethodName := ⟨RX3, "overOf", "(I)I"⟩
def dkwX3_overOf_1 : List UInt8 := [180, 0, 17, 29, 50, 182, 0, 240, 96, 61, 132, 3, 1, 167, 255, 224, 28, 172]
abbrev dktX3_overOf_1 : List UInt8 := dkwX3_overOf_1 ++ []
def dkwX3_overOf_0 : List UInt8 := [3, 61, 3, 62, 29, 42, 180, 0, 33, 162, 0, 30, 28, 29, 27, 160, 0, 7, 3, 167, 0, 12, 42]
abbrev dktX3_overOf_0 : List UInt8 := dkwX3_overOf_0 ++ dktX3_overOf_1
theorem dksX3_overOf_0 : cX3_overOf.data.toList.drop 0 = dktX3_overOf_0 := by decide +kernel
theorem dksX3_overOf_1 : cX3_overOf.data.toList.drop 23 = dktX3_overOf_1 := dk_seg dksX3_overOf_0 23 rfl rfl
theorem dX3_overOf_0 : decode cX3_overOf 0 = .ok (.iconst 0, 1) := dk_3 (dk_at dksX3_overOf_0 0 rfl rfl)
theorem dX3_overOf_1 : decode cX3_overOf 1 = .ok (.istore_n 2, 1) := dk_61 (dk_at dksX3_overOf_0 1 rfl rfl)
theorem dX3_overOf_2 : decode cX3_overOf 2 = .ok (.iconst 0, 1) := dk_3 (dk_at dksX3_overOf_0 2 rfl rfl)
theorem dX3_overOf_3 : decode cX3_overOf 3 = .ok (.istore_n 3, 1) := dk_62 (dk_at dksX3_overOf_0 3 rfl rfl)
theorem dX3_overOf_4 : decode cX3_overOf 4 = .ok (.iload_n 3, 1) := dk_29 (dk_at dksX3_overOf_0 4 rfl rfl)
theorem dX3_overOf_5 : decode cX3_overOf 5 = .ok (.aload_n 0, 1) := dk_42 (dk_at dksX3_overOf_0 5 rfl rfl)
theorem dX3_overOf_6 : decode cX3_overOf 6 = .ok (.getfield 33, 3) := dk_180 0 33 (dk_at dksX3_overOf_0 6 rfl rfl)
theorem dX3_overOf_9 : decode cX3_overOf 9 = .ok (.if_icmp .ge 30, 3) := dk_162 0 30 (dk_at dksX3_overOf_0 9 rfl rfl)
theorem dX3_overOf_12 : decode cX3_overOf 12 = .ok (.iload_n 2, 1) := dk_28 (dk_at dksX3_overOf_0 12 rfl rfl)
theorem dX3_overOf_13 : decode cX3_overOf 13 = .ok (.iload_n 3, 1) := dk_29 (dk_at dksX3_overOf_0 13 rfl rfl)
theorem dX3_overOf_14 : decode cX3_overOf 14 = .ok (.iload_n 1, 1) := dk_27 (dk_at dksX3_overOf_0 14 rfl rfl)
theorem dX3_overOf_15 : decode cX3_overOf 15 = .ok (.if_icmp .ne 7, 3) := dk_160 0 7 (dk_at dksX3_overOf_0 15 rfl rfl)
theorem dX3_overOf_18 : decode cX3_overOf 18 = .ok (.iconst 0, 1) := dk_3 (dk_at dksX3_overOf_0 18 rfl rfl)
theorem dX3_overOf_19 : decode cX3_overOf 19 = .ok (.goto 12, 3) := dk_167 0 12 (dk_at dksX3_overOf_0 19 rfl rfl)
theorem dX3_overOf_22 : decode cX3_overOf 22 = .ok (.aload_n 0, 1) := dk_42 (dk_at dksX3_overOf_0 22 rfl rfl)
theorem dX3_overOf_23 : decode cX3_overOf 23 = .ok (.getfield 17, 3) := dk_180 0 17 (dk_at dksX3_overOf_1 0 rfl rfl)
theorem dX3_overOf_26 : decode cX3_overOf 26 = .ok (.iload_n 3, 1) := dk_29 (dk_at dksX3_overOf_1 3 rfl rfl)
theorem dX3_overOf_27 : decode cX3_overOf 27 = .ok (.aaload, 1) := dk_50 (dk_at dksX3_overOf_1 4 rfl rfl)
theorem dX3_overOf_28 : decode cX3_overOf 28 = .ok (.invokevirtual 240, 3) := dk_182 0 240 (dk_at dksX3_overOf_1 5 rfl rfl)
theorem dX3_overOf_31 : decode cX3_overOf 31 = .ok (.iadd, 1) := dk_96 (dk_at dksX3_overOf_1 8 rfl rfl)
theorem dX3_overOf_32 : decode cX3_overOf 32 = .ok (.istore_n 2, 1) := dk_61 (dk_at dksX3_overOf_1 9 rfl rfl)
theorem dX3_overOf_33 : decode cX3_overOf 33 = .ok (.iinc 3 1, 3) := dk_132 3 1 (dk_at dksX3_overOf_1 10 rfl rfl)
theorem dX3_overOf_36 : decode cX3_overOf 36 = .ok (.goto (-32), 3) := dk_167 255 224 (dk_at dksX3_overOf_1 13 rfl rfl)
theorem dX3_overOf_39 : decode cX3_overOf 39 = .ok (.iload_n 2, 1) := dk_28 (dk_at dksX3_overOf_1 16 rfl rfl)
theorem dX3_overOf_40 : decode cX3_overOf 40 = .ok (.ireturn, 1) := dk_172 (dk_at dksX3_overOf_1 17 rfl rfl)
theorem q121 : (Jvm.Cond.initialized "FourCars$Tower") ∈ lw_all := lw_g (lw_at lw_m1 4 rfl) rfl
theorem q182 : (Jvm.Cond.fieldLink "FourCars$Tower" (127 : Nat) "FourCars$Text" "word" "[I") ∈ lw_all := lw_g (lw_at lw_m1 65 rfl) rfl
theorem q185 : (Jvm.Cond.fieldLink "FourCars$Tower" (133 : Nat) "FourCars$Text" "worth" "[LFourCars$Term;") ∈ lw_all := lw_g (lw_at lw_m1 68 rfl) rfl
theorem q210 : (Jvm.Cond.fieldLink "FourCars$Tower" (170 : Nat) "FourCars$Plan" "floors" "I") ∈ lw_all := lw_g (lw_at lw_m1 93 rfl) rfl
theorem q212 : (Jvm.Cond.fieldLink "FourCars$Tower" (142 : Nat) "FourCars$Plan" "cars" "I") ∈ lw_all := lw_g (lw_at lw_m1 95 rfl) rfl
theorem q216 : (Jvm.Cond.fieldLink "FourCars$Tower" (185 : Nat) "FourCars$Plan" "room" "[I") ∈ lw_all := lw_g (lw_at lw_m1 99 rfl) rfl
theorem q219 : (Jvm.Cond.fieldLink "FourCars$Tower" (222 : Nat) "FourCars$Plan" "speed" "[I") ∈ lw_all := lw_g (lw_at lw_m1 102 rfl) rfl
theorem q222 : (Jvm.Cond.fieldLink "FourCars$Tower" (216 : Nat) "FourCars$Plan" "door" "[I") ∈ lw_all := lw_g (lw_at lw_m1 105 rfl) rfl
theorem q225 : (Jvm.Cond.fieldLink "FourCars$Tower" (219 : Nat) "FourCars$Plan" "load" "[I") ∈ lw_all := lw_g (lw_at lw_m1 108 rfl) rfl
theorem q228 : (Jvm.Cond.fieldLink "FourCars$Tower" (57 : Nat) "FourCars$Plan" "floor" "[I") ∈ lw_all := lw_g (lw_at lw_m1 111 rfl) rfl
theorem q253 : (Jvm.Cond.instantiable "FourCars$Tower" (12 : Nat)) ∈ lw_all := lw_g (lw_at lw_m1 136 rfl) rfl
theorem q255 : (Jvm.Cond.instanceMethod ({ cls := "FourCars$Tower", name := "<init>", desc := "(LFourCars;)V" } : Jvm.MethodName)) ∈ lw_all := lw_g (lw_at lw_m1 138 rfl) rfl
theorem q256 : (Jvm.Cond.code ({ cls := "FourCars$Tower", name := "<init>", desc := "(LFourCars;)V" } : Jvm.MethodName) prog_11_method_1_code (3 : Nat) (Option.none : Option Jvm.ClassFile.FieldType)) ∈ lw_all := lw_g (lw_at lw_m1 139 rfl) rfl
theorem q257 : (Jvm.Cond.methodLink "FourCars$Tower" (9 : Nat) ({ cls := "java/lang/Object", name := "<init>", desc := "()V" } : Jvm.MethodName)) ∈ lw_all := lw_g (lw_at lw_m1 140 rfl) rfl
theorem q258 : (Jvm.Cond.classLink "FourCars$Tower" (15 : Nat) "FourCars$Person") ∈ lw_all := lw_g (lw_at lw_m1 141 rfl) rfl
theorem q260 : (Jvm.Cond.classLink "FourCars$Tower" (21 : Nat) "FourCars$Car") ∈ lw_all := lw_g (lw_at lw_m1 143 rfl) rfl
theorem q263 : (Jvm.Cond.methodLinkNest "FourCars$Tower" (31 : Nat) ({ cls := "FourCars$Person", name := "<init>", desc := "()V" } : Jvm.MethodName) "FourCars") ∈ lw_tbl := lw_at lw_m1 146 rfl
theorem q268 : (Jvm.Cond.fieldLink "FourCars$Tower" (110 : Nat) "FourCars$Person" "second" "I") ∈ lw_all := lw_g (lw_at lw_m1 151 rfl) rfl
theorem q271 : (Jvm.Cond.fieldLink "FourCars$Tower" (97 : Nat) "FourCars$Person" "from" "I") ∈ lw_all := lw_g (lw_at lw_m1 154 rfl) rfl
theorem q274 : (Jvm.Cond.fieldLink "FourCars$Tower" (144 : Nat) "FourCars$Person" "to" "I") ∈ lw_all := lw_g (lw_at lw_m1 157 rfl) rfl
theorem q277 : (Jvm.Cond.fieldLink "FourCars$Tower" (90 : Nat) "FourCars$Person" "state" "I") ∈ lw_all := lw_g (lw_at lw_m1 160 rfl) rfl
theorem q280 : (Jvm.Cond.fieldLink "FourCars$Tower" (87 : Nat) "FourCars$Person" "car" "I") ∈ lw_all := lw_g (lw_at lw_m1 163 rfl) rfl
theorem q283 : (Jvm.Cond.fieldLink "FourCars$Tower" (188 : Nat) "FourCars$Person" "entered" "I") ∈ lw_all := lw_g (lw_at lw_m1 166 rfl) rfl
theorem q286 : (Jvm.Cond.fieldLink "FourCars$Tower" (182 : Nat) "FourCars$Person" "left" "I") ∈ lw_all := lw_g (lw_at lw_m1 169 rfl) rfl
theorem q304 : (Jvm.Cond.methodLinkNest "FourCars$Tower" (32 : Nat) ({ cls := "FourCars$Car", name := "<init>", desc := "()V" } : Jvm.MethodName) "FourCars") ∈ lw_tbl := lw_at lw_m1 187 rfl
theorem q309 : (Jvm.Cond.fieldLink "FourCars$Tower" (62 : Nat) "FourCars$Car" "floor" "I") ∈ lw_all := lw_g (lw_at lw_m1 192 rfl) rfl
theorem q312 : (Jvm.Cond.fieldLink "FourCars$Tower" (64 : Nat) "FourCars$Car" "way" "I") ∈ lw_all := lw_g (lw_at lw_m1 195 rfl) rfl
theorem q315 : (Jvm.Cond.fieldLink "FourCars$Tower" (67 : Nat) "FourCars$Car" "state" "I") ∈ lw_all := lw_g (lw_at lw_m1 198 rfl) rfl
theorem q318 : (Jvm.Cond.fieldLink "FourCars$Tower" (70 : Nat) "FourCars$Car" "more" "I") ∈ lw_all := lw_g (lw_at lw_m1 201 rfl) rfl
theorem q321 : (Jvm.Cond.fieldLink "FourCars$Tower" (73 : Nat) "FourCars$Car" "home" "I") ∈ lw_all := lw_g (lw_at lw_m1 204 rfl) rfl
theorem q324 : (Jvm.Cond.fieldLink "FourCars$Tower" (76 : Nat) "FourCars$Car" "isOut" "Z") ∈ lw_all := lw_g (lw_at lw_m1 207 rfl) rfl
theorem q327 : (Jvm.Cond.fieldLink "FourCars$Tower" (80 : Nat) "FourCars$Car" "fun" "J") ∈ lw_all := lw_g (lw_at lw_m1 210 rfl) rfl
theorem q329 : (Jvm.Cond.fieldLink "FourCars$Tower" (84 : Nat) "FourCars$Car" "highFun" "J") ∈ lw_all := lw_g (lw_at lw_m1 212 rfl) rfl
theorem q347 : (Jvm.Cond.fieldLink "FourCars$Tower" (17 : Nat) "FourCars$Tower" "people" "[LFourCars$Person;") ∈ lw_all := lw_g (lw_at lw_m1 230 rfl) rfl
theorem q349 : (Jvm.Cond.fieldLink "FourCars$Tower" (23 : Nat) "FourCars$Tower" "cars" "[LFourCars$Car;") ∈ lw_all := lw_g (lw_at lw_m1 232 rfl) rfl
theorem q351 : (Jvm.Cond.fieldLink "FourCars$Tower" (33 : Nat) "FourCars$Tower" "many" "I") ∈ lw_all := lw_g (lw_at lw_m1 234 rfl) rfl
theorem q353 : (Jvm.Cond.fieldLink "FourCars$Tower" (36 : Nat) "FourCars$Tower" "now" "I") ∈ lw_all := lw_g (lw_at lw_m1 236 rfl) rfl
theorem q355 : (Jvm.Cond.fieldLink "FourCars$Tower" (39 : Nat) "FourCars$Tower" "rule" "I") ∈ lw_all := lw_g (lw_at lw_m1 238 rfl) rfl
theorem q357 : (Jvm.Cond.fieldLink "FourCars$Tower" (49 : Nat) "FourCars$Tower" "giving" "[I") ∈ lw_all := lw_g (lw_at lw_m2 0 rfl) rfl
theorem q359 : (Jvm.Cond.fieldLink "FourCars$Tower" (27 : Nat) "FourCars$Tower" "joker" "I") ∈ lw_all := lw_g (lw_at lw_m2 2 rfl) rfl
theorem q361 : (Jvm.Cond.fieldLink "FourCars$Tower" (191 : Nat) "FourCars$Tower" "jokeFloor" "I") ∈ lw_all := lw_g (lw_at lw_m2 4 rfl) rfl
theorem q363 : (Jvm.Cond.fieldLink "FourCars$Tower" (130 : Nat) "FourCars$Tower" "isNever" "Z") ∈ lw_all := lw_g (lw_at lw_m2 6 rfl) rfl
theorem q365 : (Jvm.Cond.fieldLink "FourCars$Tower" (155 : Nat) "FourCars$Tower" "low" "J") ∈ lw_all := lw_g (lw_at lw_m2 8 rfl) rfl
theorem q366 : (Jvm.Cond.fieldLink "FourCars$Tower" (158 : Nat) "FourCars$Tower" "high" "J") ∈ lw_all := lw_g (lw_at lw_m2 9 rfl) rfl
theorem q367 : (Jvm.Cond.fieldLink "FourCars$Tower" (3 : Nat) "FourCars$Tower" "this$0" "LFourCars;") ∈ lw_all := lw_g (lw_at lw_m2 10 rfl) rfl
theorem q368 : (Jvm.Cond.laysFinal "FourCars$Tower" "FourCars$Tower" "people" "[LFourCars$Person;") ∈ lw_all := lw_g (lw_at lw_m2 11 rfl) rfl
theorem q369 : (Jvm.Cond.soleField "FourCars$Tower" "people") ∈ lw_all := lw_g (lw_at lw_m2 12 rfl) rfl
theorem q370 : (Jvm.Cond.laysFinal "FourCars$Tower" "FourCars$Tower" "cars" "[LFourCars$Car;") ∈ lw_all := lw_g (lw_at lw_m2 13 rfl) rfl
theorem q371 : (Jvm.Cond.soleField "FourCars$Tower" "cars") ∈ lw_all := lw_g (lw_at lw_m2 14 rfl) rfl
theorem q372 : (Jvm.Cond.lays "FourCars$Tower" "FourCars$Tower" "many" "I") ∈ lw_all := lw_g (lw_at lw_m2 15 rfl) rfl
theorem q373 : (Jvm.Cond.soleField "FourCars$Tower" "many") ∈ lw_all := lw_g (lw_at lw_m2 16 rfl) rfl
theorem q374 : (Jvm.Cond.lays "FourCars$Tower" "FourCars$Tower" "now" "I") ∈ lw_all := lw_g (lw_at lw_m2 17 rfl) rfl
theorem q375 : (Jvm.Cond.soleField "FourCars$Tower" "now") ∈ lw_all := lw_g (lw_at lw_m2 18 rfl) rfl
theorem q376 : (Jvm.Cond.lays "FourCars$Tower" "FourCars$Tower" "rule" "I") ∈ lw_all := lw_g (lw_at lw_m2 19 rfl) rfl
theorem q377 : (Jvm.Cond.soleField "FourCars$Tower" "rule") ∈ lw_all := lw_g (lw_at lw_m2 20 rfl) rfl
theorem q378 : (Jvm.Cond.lays "FourCars$Tower" "FourCars$Tower" "giving" "[I") ∈ lw_all := lw_g (lw_at lw_m2 21 rfl) rfl
theorem q379 : (Jvm.Cond.soleField "FourCars$Tower" "giving") ∈ lw_all := lw_g (lw_at lw_m2 22 rfl) rfl
theorem q380 : (Jvm.Cond.lays "FourCars$Tower" "FourCars$Tower" "joker" "I") ∈ lw_all := lw_g (lw_at lw_m2 23 rfl) rfl
theorem q381 : (Jvm.Cond.soleField "FourCars$Tower" "joker") ∈ lw_all := lw_g (lw_at lw_m2 24 rfl) rfl
theorem q382 : (Jvm.Cond.lays "FourCars$Tower" "FourCars$Tower" "jokeFloor" "I") ∈ lw_all := lw_g (lw_at lw_m2 25 rfl) rfl
theorem q383 : (Jvm.Cond.soleField "FourCars$Tower" "jokeFloor") ∈ lw_all := lw_g (lw_at lw_m2 26 rfl) rfl
theorem q384 : (Jvm.Cond.lays "FourCars$Tower" "FourCars$Tower" "isNever" "Z") ∈ lw_all := lw_g (lw_at lw_m2 27 rfl) rfl
theorem q385 : (Jvm.Cond.soleField "FourCars$Tower" "isNever") ∈ lw_all := lw_g (lw_at lw_m2 28 rfl) rfl
theorem q386 : (Jvm.Cond.lays "FourCars$Tower" "FourCars$Tower" "low" "J") ∈ lw_all := lw_g (lw_at lw_m2 29 rfl) rfl
theorem q387 : (Jvm.Cond.soleField "FourCars$Tower" "low") ∈ lw_all := lw_g (lw_at lw_m2 30 rfl) rfl
theorem q388 : (Jvm.Cond.lays "FourCars$Tower" "FourCars$Tower" "high" "J") ∈ lw_all := lw_g (lw_at lw_m2 31 rfl) rfl
theorem q389 : (Jvm.Cond.soleField "FourCars$Tower" "high") ∈ lw_all := lw_g (lw_at lw_m2 32 rfl) rfl
theorem q390 : (Jvm.Cond.laysFinal "FourCars$Tower" "FourCars$Tower" "this$0" "LFourCars;") ∈ lw_all := lw_g (lw_at lw_m2 33 rfl) rfl
theorem q391 : (Jvm.Cond.soleField "FourCars$Tower" "this$0") ∈ lw_all := lw_g (lw_at lw_m2 34 rfl) rfl
theorem q392 : (Jvm.Cond.superclass "FourCars$Tower" "java/lang/Object") ∈ lw_all := lw_g (lw_at lw_m2 35 rfl) rfl
theorem q409 : (Jvm.Cond.fieldLinkNest "FourCars$Tower" (117 : Nat) "FourCars" "rules" "[LFourCars$Text;" "FourCars") ∈ lw_tbl := lw_at lw_m2 52 rfl
theorem q411 : (Jvm.Cond.fieldLinkNest "FourCars$Tower" (53 : Nat) "FourCars" "plan" "LFourCars$Plan;" "FourCars") ∈ lw_tbl := lw_at lw_m2 54 rfl
theorem q414 : (Jvm.Cond.fieldLinkNest "FourCars$Tower" (94 : Nat) "FourCars" "has" "[I" "FourCars") ∈ lw_tbl := lw_at lw_m2 57 rfl
theorem q827 : (Jvm.Cond.instanceMethod ({ cls := "FourCars$Tower", name := "begins", desc := "()V" } : Jvm.MethodName)) ∈ lw_all := lw_g (lw_at lw_m3 230 rfl) rfl
theorem q828 : (Jvm.Cond.selects "FourCars$Tower" ({ cls := "FourCars$Tower", name := "begins", desc := "()V" } : Jvm.MethodName) ({ cls := "FourCars$Tower", name := "begins", desc := "()V" } : Jvm.MethodName)) ∈ lw_all := lw_g (lw_at lw_m3 231 rfl) rfl
theorem q829 : (Jvm.Cond.code ({ cls := "FourCars$Tower", name := "begins", desc := "()V" } : Jvm.MethodName) prog_11_method_3_code (3 : Nat) (Option.none : Option Jvm.ClassFile.FieldType)) ∈ lw_all := lw_g (lw_at lw_m3 232 rfl) rfl
theorem q869 : (Jvm.Cond.instanceMethod ({ cls := "FourCars$Tower", name := "inState", desc := "(I)I" } : Jvm.MethodName)) ∈ lw_all := lw_g (lw_at lw_m4 32 rfl) rfl
theorem q870 : (Jvm.Cond.selects "FourCars$Tower" ({ cls := "FourCars$Tower", name := "inState", desc := "(I)I" } : Jvm.MethodName) ({ cls := "FourCars$Tower", name := "inState", desc := "(I)I" } : Jvm.MethodName)) ∈ lw_all := lw_g (lw_at lw_m4 33 rfl) rfl
theorem q871 : (Jvm.Cond.code ({ cls := "FourCars$Tower", name := "inState", desc := "(I)I" } : Jvm.MethodName) prog_11_method_19_code (4 : Nat) (Option.some Jvm.ClassFile.FieldType.int)) ∈ lw_all := lw_g (lw_at lw_m4 34 rfl) rfl
theorem q873 : (Jvm.Cond.instanceMethod ({ cls := "FourCars$Tower", name := "goesBy", desc := "()V" } : Jvm.MethodName)) ∈ lw_all := lw_g (lw_at lw_m4 36 rfl) rfl
theorem q874 : (Jvm.Cond.selects "FourCars$Tower" ({ cls := "FourCars$Tower", name := "goesBy", desc := "()V" } : Jvm.MethodName) ({ cls := "FourCars$Tower", name := "goesBy", desc := "()V" } : Jvm.MethodName)) ∈ lw_all := lw_g (lw_at lw_m4 37 rfl) rfl
theorem q875 : (Jvm.Cond.code ({ cls := "FourCars$Tower", name := "goesBy", desc := "()V" } : Jvm.MethodName) prog_11_method_18_code (2 : Nat) (Option.none : Option Jvm.ClassFile.FieldType)) ∈ lw_all := lw_g (lw_at lw_m4 38 rfl) rfl
theorem q876 : (Jvm.Cond.methodLink "FourCars$Tower" (228 : Nat) ({ cls := "FourCars$Tower", name := "bestCar", desc := "(I)I" } : Jvm.MethodName)) ∈ lw_all := lw_g (lw_at lw_m4 39 rfl) rfl
theorem q877 : (Jvm.Cond.privateMethod ({ cls := "FourCars$Tower", name := "bestCar", desc := "(I)I" } : Jvm.MethodName)) ∈ lw_tbl := lw_at lw_m4 40 rfl
theorem q878 : (Jvm.Cond.instanceMethod ({ cls := "FourCars$Tower", name := "bestCar", desc := "(I)I" } : Jvm.MethodName)) ∈ lw_all := lw_g (lw_at lw_m4 41 rfl) rfl
theorem q879 : (Jvm.Cond.code ({ cls := "FourCars$Tower", name := "bestCar", desc := "(I)I" } : Jvm.MethodName) prog_11_method_7_code (6 : Nat) (Option.some Jvm.ClassFile.FieldType.int)) ∈ lw_all := lw_g (lw_at lw_m4 42 rfl) rfl
theorem q880 : (Jvm.Cond.methodLink "FourCars$Tower" (147 : Nat) ({ cls := "FourCars$Plan", name := "serves", desc := "(III)Z" } : Jvm.MethodName)) ∈ lw_all := lw_g (lw_at lw_m4 43 rfl) rfl
theorem q884 : (Jvm.Cond.methodLink "FourCars$Tower" (151 : Nat) ({ cls := "FourCars$Tower", name := "costOf", desc := "(III)I" } : Jvm.MethodName)) ∈ lw_all := lw_g (lw_at lw_m4 47 rfl) rfl
theorem q885 : (Jvm.Cond.instanceMethod ({ cls := "FourCars$Tower", name := "costOf", desc := "(III)I" } : Jvm.MethodName)) ∈ lw_all := lw_g (lw_at lw_m4 48 rfl) rfl
theorem q886 : (Jvm.Cond.selects "FourCars$Tower" ({ cls := "FourCars$Tower", name := "costOf", desc := "(III)I" } : Jvm.MethodName) ({ cls := "FourCars$Tower", name := "costOf", desc := "(III)I" } : Jvm.MethodName)) ∈ lw_all := lw_g (lw_at lw_m4 49 rfl) rfl
theorem q887 : (Jvm.Cond.code ({ cls := "FourCars$Tower", name := "costOf", desc := "(III)I" } : Jvm.MethodName) prog_11_method_6_code (6 : Nat) (Option.some Jvm.ClassFile.FieldType.int)) ∈ lw_all := lw_g (lw_at lw_m4 50 rfl) rfl
theorem q888 : (Jvm.Cond.methodLink "FourCars$Tower" (113 : Nat) ({ cls := "FourCars$Tower", name := "asks", desc := "(II)V" } : Jvm.MethodName)) ∈ lw_all := lw_g (lw_at lw_m4 51 rfl) rfl
theorem q889 : (Jvm.Cond.privateMethod ({ cls := "FourCars$Tower", name := "asks", desc := "(II)V" } : Jvm.MethodName)) ∈ lw_tbl := lw_at lw_m4 52 rfl
theorem q890 : (Jvm.Cond.instanceMethod ({ cls := "FourCars$Tower", name := "asks", desc := "(II)V" } : Jvm.MethodName)) ∈ lw_all := lw_g (lw_at lw_m4 53 rfl) rfl
theorem q891 : (Jvm.Cond.code ({ cls := "FourCars$Tower", name := "asks", desc := "(II)V" } : Jvm.MethodName) prog_11_method_5_code (6 : Nat) (Option.none : Option Jvm.ClassFile.FieldType)) ∈ lw_all := lw_g (lw_at lw_m4 54 rfl) rfl
theorem q892 : (Jvm.Cond.methodLink "FourCars$Tower" (91 : Nat) ({ cls := "FourCars$Person", name := "way", desc := "()I" } : Jvm.MethodName)) ∈ lw_all := lw_g (lw_at lw_m4 55 rfl) rfl
theorem q896 : (Jvm.Cond.methodLink "FourCars$Tower" (100 : Nat) ({ cls := "java/lang/Math", name := "abs", desc := "(I)I" } : Jvm.MethodName)) ∈ lw_all := lw_g (lw_at lw_m4 59 rfl) rfl
theorem q899 : (Jvm.Cond.methodLink "FourCars$Tower" (106 : Nat) ({ cls := "FourCars$Tower", name := "inCar", desc := "(II)I" } : Jvm.MethodName)) ∈ lw_all := lw_g (lw_at lw_m4 62 rfl) rfl
theorem q900 : (Jvm.Cond.instanceMethod ({ cls := "FourCars$Tower", name := "inCar", desc := "(II)I" } : Jvm.MethodName)) ∈ lw_all := lw_g (lw_at lw_m4 63 rfl) rfl
theorem q901 : (Jvm.Cond.selects "FourCars$Tower" ({ cls := "FourCars$Tower", name := "inCar", desc := "(II)I" } : Jvm.MethodName) ({ cls := "FourCars$Tower", name := "inCar", desc := "(II)I" } : Jvm.MethodName)) ∈ lw_all := lw_g (lw_at lw_m4 64 rfl) rfl
theorem q902 : (Jvm.Cond.code ({ cls := "FourCars$Tower", name := "inCar", desc := "(II)I" } : Jvm.MethodName) prog_11_method_4_code (5 : Nat) (Option.some Jvm.ClassFile.FieldType.int)) ∈ lw_all := lw_g (lw_at lw_m4 65 rfl) rfl
theorem q903 : (Jvm.Cond.methodLink "FourCars$Tower" (121 : Nat) ({ cls := "FourCars$Text", name := "first", desc := "([I)I" } : Jvm.MethodName)) ∈ lw_all := lw_g (lw_at lw_m4 66 rfl) rfl
theorem q924 : (Jvm.Cond.methodLink "FourCars$Tower" (137 : Nat) ({ cls := "FourCars$Term", name := "of", desc := "([I)I" } : Jvm.MethodName)) ∈ lw_all := lw_g (lw_at lw_m4 87 rfl) rfl
theorem q925 : (Jvm.Cond.methodLink "FourCars$Tower" (231 : Nat) ({ cls := "FourCars$Tower", name := "carGoes", desc := "(I)V" } : Jvm.MethodName)) ∈ lw_all := lw_g (lw_at lw_m4 88 rfl) rfl
theorem q926 : (Jvm.Cond.privateMethod ({ cls := "FourCars$Tower", name := "carGoes", desc := "(I)V" } : Jvm.MethodName)) ∈ lw_tbl := lw_at lw_m4 89 rfl
theorem q927 : (Jvm.Cond.instanceMethod ({ cls := "FourCars$Tower", name := "carGoes", desc := "(I)V" } : Jvm.MethodName)) ∈ lw_all := lw_g (lw_at lw_m4 90 rfl) rfl
theorem q928 : (Jvm.Cond.code ({ cls := "FourCars$Tower", name := "carGoes", desc := "(I)V" } : Jvm.MethodName) prog_11_method_17_code (3 : Nat) (Option.none : Option Jvm.ClassFile.FieldType)) ∈ lw_all := lw_g (lw_at lw_m4 91 rfl) rfl
theorem q929 : (Jvm.Cond.methodLink "FourCars$Tower" (225 : Nat) ({ cls := "FourCars$Tower", name := "looks", desc := "(I)V" } : Jvm.MethodName)) ∈ lw_all := lw_g (lw_at lw_m4 92 rfl) rfl
theorem q930 : (Jvm.Cond.privateMethod ({ cls := "FourCars$Tower", name := "looks", desc := "(I)V" } : Jvm.MethodName)) ∈ lw_tbl := lw_at lw_m4 93 rfl
theorem q931 : (Jvm.Cond.instanceMethod ({ cls := "FourCars$Tower", name := "looks", desc := "(I)V" } : Jvm.MethodName)) ∈ lw_all := lw_g (lw_at lw_m4 94 rfl) rfl
theorem q932 : (Jvm.Cond.code ({ cls := "FourCars$Tower", name := "looks", desc := "(I)V" } : Jvm.MethodName) prog_11_method_16_code (5 : Nat) (Option.none : Option Jvm.ClassFile.FieldType)) ∈ lw_all := lw_g (lw_at lw_m4 95 rfl) rfl
theorem q933 : (Jvm.Cond.methodLink "FourCars$Tower" (200 : Nat) ({ cls := "FourCars$Tower", name := "goOut", desc := "(I)I" } : Jvm.MethodName)) ∈ lw_all := lw_g (lw_at lw_m4 96 rfl) rfl
theorem q934 : (Jvm.Cond.privateMethod ({ cls := "FourCars$Tower", name := "goOut", desc := "(I)I" } : Jvm.MethodName)) ∈ lw_tbl := lw_at lw_m4 97 rfl
theorem q935 : (Jvm.Cond.instanceMethod ({ cls := "FourCars$Tower", name := "goOut", desc := "(I)I" } : Jvm.MethodName)) ∈ lw_all := lw_g (lw_at lw_m4 98 rfl) rfl
theorem q936 : (Jvm.Cond.code ({ cls := "FourCars$Tower", name := "goOut", desc := "(I)I" } : Jvm.MethodName) prog_11_method_14_code (5 : Nat) (Option.some Jvm.ClassFile.FieldType.int)) ∈ lw_all := lw_g (lw_at lw_m4 99 rfl) rfl
theorem q937 : (Jvm.Cond.methodLink "FourCars$Tower" (194 : Nat) ({ cls := "FourCars$Car", name := "isFun", desc := "(I)Z" } : Jvm.MethodName)) ∈ lw_all := lw_g (lw_at lw_m4 100 rfl) rfl
theorem q941 : (Jvm.Cond.methodLink "FourCars$Tower" (197 : Nat) ({ cls := "FourCars$Car", name := "turnsFun", desc := "(I)V" } : Jvm.MethodName)) ∈ lw_all := lw_g (lw_at lw_m4 104 rfl) rfl
theorem q945 : (Jvm.Cond.methodLink "FourCars$Tower" (203 : Nat) ({ cls := "FourCars$Tower", name := "findsTargets", desc := "(I)V" } : Jvm.MethodName)) ∈ lw_all := lw_g (lw_at lw_m4 108 rfl) rfl
theorem q946 : (Jvm.Cond.privateMethod ({ cls := "FourCars$Tower", name := "findsTargets", desc := "(I)V" } : Jvm.MethodName)) ∈ lw_tbl := lw_at lw_m4 109 rfl
theorem q947 : (Jvm.Cond.instanceMethod ({ cls := "FourCars$Tower", name := "findsTargets", desc := "(I)V" } : Jvm.MethodName)) ∈ lw_all := lw_g (lw_at lw_m4 110 rfl) rfl
theorem q948 : (Jvm.Cond.code ({ cls := "FourCars$Tower", name := "findsTargets", desc := "(I)V" } : Jvm.MethodName) prog_11_method_9_code (4 : Nat) (Option.none : Option Jvm.ClassFile.FieldType)) ∈ lw_all := lw_g (lw_at lw_m4 111 rfl) rfl
theorem q949 : (Jvm.Cond.methodLink "FourCars$Tower" (161 : Nat) ({ cls := "FourCars$Tower", name := "aims", desc := "(I)V" } : Jvm.MethodName)) ∈ lw_all := lw_g (lw_at lw_m4 112 rfl) rfl
theorem q950 : (Jvm.Cond.privateMethod ({ cls := "FourCars$Tower", name := "aims", desc := "(I)V" } : Jvm.MethodName)) ∈ lw_tbl := lw_at lw_m4 113 rfl
theorem q951 : (Jvm.Cond.instanceMethod ({ cls := "FourCars$Tower", name := "aims", desc := "(I)V" } : Jvm.MethodName)) ∈ lw_all := lw_g (lw_at lw_m4 114 rfl) rfl
theorem q952 : (Jvm.Cond.code ({ cls := "FourCars$Tower", name := "aims", desc := "(I)V" } : Jvm.MethodName) prog_11_method_8_code (2 : Nat) (Option.none : Option Jvm.ClassFile.FieldType)) ∈ lw_all := lw_g (lw_at lw_m4 115 rfl) rfl
theorem q953 : (Jvm.Cond.methodLink "FourCars$Tower" (206 : Nat) ({ cls := "FourCars$Tower", name := "hasAhead", desc := "(LFourCars$Car;)Z" } : Jvm.MethodName)) ∈ lw_all := lw_g (lw_at lw_m4 116 rfl) rfl
theorem q954 : (Jvm.Cond.privateMethod ({ cls := "FourCars$Tower", name := "hasAhead", desc := "(LFourCars$Car;)Z" } : Jvm.MethodName)) ∈ lw_tbl := lw_at lw_m4 117 rfl
theorem q955 : (Jvm.Cond.instanceMethod ({ cls := "FourCars$Tower", name := "hasAhead", desc := "(LFourCars$Car;)Z" } : Jvm.MethodName)) ∈ lw_all := lw_g (lw_at lw_m4 118 rfl) rfl
theorem q956 : (Jvm.Cond.code ({ cls := "FourCars$Tower", name := "hasAhead", desc := "(LFourCars$Car;)Z" } : Jvm.MethodName) prog_11_method_11_code (3 : Nat) (Option.some Jvm.ClassFile.FieldType.boolean)) ∈ lw_all := lw_g (lw_at lw_m4 119 rfl) rfl
theorem q957 : (Jvm.Cond.constantLong "FourCars$Tower" (165 : Nat) (-1 : Int64)) ∈ lw_all := lw_g (lw_at lw_m4 120 rfl) rfl
theorem q958 : (Jvm.Cond.methodLink "FourCars$Tower" (210 : Nat) ({ cls := "FourCars$Tower", name := "newWay", desc := "(I)I" } : Jvm.MethodName)) ∈ lw_all := lw_g (lw_at lw_m4 121 rfl) rfl
theorem q959 : (Jvm.Cond.privateMethod ({ cls := "FourCars$Tower", name := "newWay", desc := "(I)I" } : Jvm.MethodName)) ∈ lw_tbl := lw_at lw_m4 122 rfl
theorem q960 : (Jvm.Cond.instanceMethod ({ cls := "FourCars$Tower", name := "newWay", desc := "(I)I" } : Jvm.MethodName)) ∈ lw_all := lw_g (lw_at lw_m4 123 rfl) rfl
theorem q961 : (Jvm.Cond.code ({ cls := "FourCars$Tower", name := "newWay", desc := "(I)I" } : Jvm.MethodName) prog_11_method_13_code (5 : Nat) (Option.some Jvm.ClassFile.FieldType.int)) ∈ lw_all := lw_g (lw_at lw_m4 124 rfl) rfl
theorem q962 : (Jvm.Cond.methodLink "FourCars$Tower" (167 : Nat) ({ cls := "FourCars$Tower", name := "firstHere", desc := "(I)I" } : Jvm.MethodName)) ∈ lw_all := lw_g (lw_at lw_m4 125 rfl) rfl
theorem q963 : (Jvm.Cond.privateMethod ({ cls := "FourCars$Tower", name := "firstHere", desc := "(I)I" } : Jvm.MethodName)) ∈ lw_tbl := lw_at lw_m4 126 rfl
theorem q964 : (Jvm.Cond.instanceMethod ({ cls := "FourCars$Tower", name := "firstHere", desc := "(I)I" } : Jvm.MethodName)) ∈ lw_all := lw_g (lw_at lw_m4 127 rfl) rfl
theorem q965 : (Jvm.Cond.code ({ cls := "FourCars$Tower", name := "firstHere", desc := "(I)I" } : Jvm.MethodName) prog_11_method_12_code (3 : Nat) (Option.some Jvm.ClassFile.FieldType.int)) ∈ lw_all := lw_g (lw_at lw_m4 128 rfl) rfl
theorem q966 : (Jvm.Cond.methodLink "FourCars$Tower" (173 : Nat) ({ cls := "FourCars$Tower", name := "isTarget", desc := "(I)Z" } : Jvm.MethodName)) ∈ lw_all := lw_g (lw_at lw_m4 129 rfl) rfl
theorem q967 : (Jvm.Cond.privateMethod ({ cls := "FourCars$Tower", name := "isTarget", desc := "(I)Z" } : Jvm.MethodName)) ∈ lw_tbl := lw_at lw_m4 130 rfl
theorem q968 : (Jvm.Cond.instanceMethod ({ cls := "FourCars$Tower", name := "isTarget", desc := "(I)Z" } : Jvm.MethodName)) ∈ lw_all := lw_g (lw_at lw_m4 131 rfl) rfl
theorem q969 : (Jvm.Cond.code ({ cls := "FourCars$Tower", name := "isTarget", desc := "(I)Z" } : Jvm.MethodName) prog_11_method_10_code (2 : Nat) (Option.some Jvm.ClassFile.FieldType.boolean)) ∈ lw_all := lw_g (lw_at lw_m4 132 rfl) rfl
theorem q970 : (Jvm.Cond.methodLink "FourCars$Tower" (177 : Nat) ({ cls := "java/lang/Integer", name := "compare", desc := "(II)I" } : Jvm.MethodName)) ∈ lw_all := lw_g (lw_at lw_m4 133 rfl) rfl
theorem q973 : (Jvm.Cond.methodLink "FourCars$Tower" (213 : Nat) ({ cls := "FourCars$Tower", name := "goIn", desc := "(I)I" } : Jvm.MethodName)) ∈ lw_all := lw_g (lw_at lw_m4 136 rfl) rfl
theorem q974 : (Jvm.Cond.privateMethod ({ cls := "FourCars$Tower", name := "goIn", desc := "(I)I" } : Jvm.MethodName)) ∈ lw_tbl := lw_at lw_m4 137 rfl
theorem q975 : (Jvm.Cond.instanceMethod ({ cls := "FourCars$Tower", name := "goIn", desc := "(I)I" } : Jvm.MethodName)) ∈ lw_all := lw_g (lw_at lw_m4 138 rfl) rfl
theorem q976 : (Jvm.Cond.code ({ cls := "FourCars$Tower", name := "goIn", desc := "(I)I" } : Jvm.MethodName) prog_11_method_15_code (6 : Nat) (Option.some Jvm.ClassFile.FieldType.int)) ∈ lw_all := lw_g (lw_at lw_m4 139 rfl) rfl
theorem q1006 : (Jvm.Cond.instanceMethod ({ cls := "FourCars$Tower", name := "become", desc := "(LFourCars$Tower;)V" } : Jvm.MethodName)) ∈ lw_all := lw_g (lw_at lw_m4 169 rfl) rfl
theorem q1007 : (Jvm.Cond.selects "FourCars$Tower" ({ cls := "FourCars$Tower", name := "become", desc := "(LFourCars$Tower;)V" } : Jvm.MethodName) ({ cls := "FourCars$Tower", name := "become", desc := "(LFourCars$Tower;)V" } : Jvm.MethodName)) ∈ lw_all := lw_g (lw_at lw_m4 170 rfl) rfl
theorem q1008 : (Jvm.Cond.code ({ cls := "FourCars$Tower", name := "become", desc := "(LFourCars$Tower;)V" } : Jvm.MethodName) prog_11_method_2_code (3 : Nat) (Option.none : Option Jvm.ClassFile.FieldType)) ∈ lw_all := lw_g (lw_at lw_m4 171 rfl) rfl
theorem q1009 : (Jvm.Cond.methodLink "FourCars$Tower" (42 : Nat) ({ cls := "FourCars$Person", name := "become", desc := "(LFourCars$Person;)V" } : Jvm.MethodName)) ∈ lw_all := lw_g (lw_at lw_m4 172 rfl) rfl
theorem q1013 : (Jvm.Cond.methodLink "FourCars$Tower" (46 : Nat) ({ cls := "FourCars$Car", name := "become", desc := "(LFourCars$Car;)V" } : Jvm.MethodName)) ∈ lw_all := lw_g (lw_at lw_m4 176 rfl) rfl
theorem q1018 : (Jvm.Cond.instanceMethod ({ cls := "FourCars$Tower", name := "toTheEnd", desc := "(I)I" } : Jvm.MethodName)) ∈ lw_all := lw_g (lw_at lw_m4 181 rfl) rfl
theorem q1019 : (Jvm.Cond.selects "FourCars$Tower" ({ cls := "FourCars$Tower", name := "toTheEnd", desc := "(I)I" } : Jvm.MethodName) ({ cls := "FourCars$Tower", name := "toTheEnd", desc := "(I)I" } : Jvm.MethodName)) ∈ lw_all := lw_g (lw_at lw_m4 182 rfl) rfl
theorem q1020 : (Jvm.Cond.code ({ cls := "FourCars$Tower", name := "toTheEnd", desc := "(I)I" } : Jvm.MethodName) prog_11_method_20_code (3 : Nat) (Option.some Jvm.ClassFile.FieldType.int)) ∈ lw_all := lw_g (lw_at lw_m4 183 rfl) rfl
theorem q1021 : (Jvm.Cond.methodLink "FourCars$Tower" (234 : Nat) ({ cls := "FourCars$Tower", name := "inState", desc := "(I)I" } : Jvm.MethodName)) ∈ lw_all := lw_g (lw_at lw_m4 184 rfl) rfl
theorem q1022 : (Jvm.Cond.methodLink "FourCars$Tower" (237 : Nat) ({ cls := "FourCars$Tower", name := "goesBy", desc := "()V" } : Jvm.MethodName)) ∈ lw_all := lw_g (lw_at lw_m4 185 rfl) rfl
theorem q1024 : (Jvm.Cond.instanceMethod ({ cls := "FourCars$Tower", name := "overOf", desc := "(I)I" } : Jvm.MethodName)) ∈ lw_all := lw_g (lw_at lw_m4 187 rfl) rfl
theorem q1025 : (Jvm.Cond.selects "FourCars$Tower" ({ cls := "FourCars$Tower", name := "overOf", desc := "(I)I" } : Jvm.MethodName) ({ cls := "FourCars$Tower", name := "overOf", desc := "(I)I" } : Jvm.MethodName)) ∈ lw_all := lw_g (lw_at lw_m4 188 rfl) rfl
theorem q1026 : (Jvm.Cond.code ({ cls := "FourCars$Tower", name := "overOf", desc := "(I)I" } : Jvm.MethodName) prog_11_method_21_code (4 : Nat) (Option.some Jvm.ClassFile.FieldType.int)) ∈ lw_all := lw_g (lw_at lw_m4 189 rfl) rfl
theorem q1027 : (Jvm.Cond.methodLink "FourCars$Tower" (240 : Nat) ({ cls := "FourCars$Person", name := "over", desc := "()I" } : Jvm.MethodName)) ∈ lw_all := lw_g (lw_at lw_m4 190 rfl) rfl
theorem in_X3 : ∀ w ∈ wsX30, w ∈ lw_all := lw_in wsX30 [368, 370, 372, 374, 376, 378, 380, 382, 384, 386, 388, 390] (by decide +kernel) (by decide +kernel)
/-! FourCars -/
def RX0 : String := "FourCars"
def TX0 : u_T := fun k => match k with
  | 0 => ("FourCars", "tape", "[B", true)
  | 1 => ("FourCars", "taped", "I", false)
  | 2 => ("FourCars", "ruleWords", "[Ljava/lang/String;", true)
  | 3 => ("FourCars", "towerWords", "[Ljava/lang/String;", true)
  | 4 => ("FourCars", "asked", "[Ljava/lang/String;", true)
  | 5 => ("FourCars", "others", "[Ljava/lang/String;", true)
  | 6 => ("FourCars", "token", "LFourCars$Token;", false)
  | 7 => ("FourCars", "spot", "I", false)
  | 8 => ("FourCars", "from", "I", false)
  | 9 => ("FourCars", "value", "I", false)
  | 10 => ("FourCars", "open", "I", false)
  | 11 => ("FourCars", "faultKind", "I", false)
  | 12 => ("FourCars", "faultPlace", "I", false)
  | 13 => ("FourCars", "rules", "[LFourCars$Text;", true)
  | 14 => ("FourCars", "plan", "LFourCars$Plan;", false)
  | 15 => ("FourCars", "weights", "[I", true)
  | 16 => ("FourCars", "has", "[I", true)
  | 17 => ("FourCars", "tower", "LFourCars$Tower;", true)
  | 18 => ("FourCars", "thought", "LFourCars$Tower;", true)
  | 19 => ("FourCars", "kept", "LFourCars$Tower;", true)
  | 20 => ("FourCars", "giving", "[I", true)
  | 21 => ("FourCars", "bestGiving", "[I", true)
  | 22 => ("FourCars", "above", "[[I", true)
  | 23 => ("FourCars", "chosen", "[I", true)
  | 24 => ("FourCars", "cuts", "[I", true)
  | 25 => ("FourCars", "bestCuts", "[I", true)
  | 26 => ("FourCars", "leastZones", "I", false)
  | 27 => ("FourCars", "keptPlan", "LFourCars$Plan;", false)
  | 28 => ("FourCars", "keptRules", "[LFourCars$Text;", true)
  | _ => ("FourCars", "keptWeights", "[I", true)
def tyX0 : Nat → FieldType := fun k => match k with
  | 0 => .array .byte
  | 1 => .int
  | 2 => .array (.object "java/lang/String")
  | 3 => .array (.object "java/lang/String")
  | 4 => .array (.object "java/lang/String")
  | 5 => .array (.object "java/lang/String")
  | 6 => .object "FourCars$Token"
  | 7 => .int
  | 8 => .int
  | 9 => .int
  | 10 => .int
  | 11 => .int
  | 12 => .int
  | 13 => .array (.object "FourCars$Text")
  | 14 => .object "FourCars$Plan"
  | 15 => .array .int
  | 16 => .array .int
  | 17 => .object "FourCars$Tower"
  | 18 => .object "FourCars$Tower"
  | 19 => .object "FourCars$Tower"
  | 20 => .array .int
  | 21 => .array .int
  | 22 => .array (.array .int)
  | 23 => .array .int
  | 24 => .array .int
  | 25 => .array .int
  | 26 => .int
  | 27 => .object "FourCars$Plan"
  | 28 => .array (.object "FourCars$Text")
  | _ => .array .int
abbrev wsX00 : List Cond := u_ws RX0 TX0 30
set_option maxRecDepth 100000 in
theorem nmX0 : ∀ a, a < 30 → ∀ b, b < 30 → a ≠ b → (TX0 a).2.1 ≠ (TX0 b).2.1 := by decide +kernel
set_option maxRecDepth 100000 in
theorem tyX0_ok : ∀ k, k < 30 → parseFieldDescriptor (TX0 k).2.2.1 = some (tyX0 k) := by decide +kernel
abbrev cX0_init : ByteArray := prog_1_method_2_code
def yX0_init : MethodName := ⟨RX0, "<init>", "()V"⟩
def dkwX0_init_13 : List UInt8 := [181, 0, 124, 42, 16, 80, 188, 10, 181, 0, 127, 177]
abbrev dktX0_init_13 : List UInt8 := dkwX0_init_13 ++ []
def dkwX0_init_12 : List UInt8 := [181, 0, 115, 42, 7, 188, 10, 181, 0, 118, 42, 6, 188, 10, 181, 0, 121, 42, 6, 189, 0, 68]
abbrev dktX0_init_12 : List UInt8 := dkwX0_init_12 ++ dktX0_init_13
def dkwX0_init_11 : List UInt8 := [16, 6, 188, 10, 181, 0, 107, 42, 7, 16, 80, 197, 0, 110, 2, 181, 0, 112, 42, 7, 188, 10]
abbrev dktX0_init_11 : List UInt8 := dkwX0_init_11 ++ dktX0_init_12
def dkwX0_init_10 : List UInt8 := [181, 0, 98, 42, 187, 0, 89, 89, 42, 183, 0, 91, 181, 0, 101, 42, 16, 6, 188, 10, 181, 0, 104, 42]
abbrev dktX0_init_10 : List UInt8 := dkwX0_init_10 ++ dktX0_init_11
def dkwX0_init_9 : List UInt8 := [181, 0, 86, 42, 187, 0, 89, 89, 42, 183, 0, 91, 181, 0, 94, 42, 187, 0, 89, 89, 42, 183, 0, 91]
abbrev dktX0_init_9 : List UInt8 := dkwX0_init_9 ++ dktX0_init_10
def dkwX0_init_8 : List UInt8 := [187, 0, 75, 89, 183, 0, 77, 181, 0, 78, 42, 16, 80, 188, 10, 181, 0, 82, 42, 16, 10, 188, 10]
abbrev dktX0_init_8 : List UInt8 := dkwX0_init_8 ++ dktX0_init_9
def dkwX0_init_7 : List UInt8 := [4, 187, 0, 68, 89, 183, 0, 70, 83, 89, 5, 187, 0, 68, 89, 183, 0, 70, 83, 181, 0, 71, 42]
abbrev dktX0_init_7 : List UInt8 := dkwX0_init_7 ++ dktX0_init_8
def dkwX0_init_6 : List UInt8 := [181, 0, 61, 42, 2, 181, 0, 64, 42, 6, 189, 0, 68, 89, 3, 187, 0, 68, 89, 183, 0, 70, 83, 89]
abbrev dktX0_init_6 : List UInt8 := dkwX0_init_6 ++ dktX0_init_7
def dkwX0_init_5 : List UInt8 := [189, 0, 13, 89, 3, 18, 53, 83, 89, 4, 18, 55, 83, 89, 5, 18, 57, 83, 89, 6, 18, 59, 83]
abbrev dktX0_init_5 : List UInt8 := dkwX0_init_5 ++ dktX0_init_6
def dkwX0_init_4 : List UInt8 := [89, 16, 7, 18, 46, 83, 89, 16, 8, 18, 48, 83, 89, 16, 9, 18, 25, 83, 181, 0, 50, 42, 7]
abbrev dktX0_init_4 : List UInt8 := dkwX0_init_4 ++ dktX0_init_5
def dkwX0_init_3 : List UInt8 := [18, 36, 83, 89, 6, 18, 38, 83, 89, 7, 18, 40, 83, 89, 8, 18, 42, 83, 89, 16, 6, 18, 44, 83]
abbrev dktX0_init_3 : List UInt8 := dkwX0_init_3 ++ dktX0_init_4
def dkwX0_init_2 : List UInt8 := [18, 27, 83, 181, 0, 29, 42, 16, 10, 189, 0, 13, 89, 3, 18, 32, 83, 89, 4, 18, 34, 83, 89, 5]
abbrev dktX0_init_2 : List UInt8 := dkwX0_init_2 ++ dktX0_init_3
def dkwX0_init_1 : List UInt8 := [4, 18, 17, 83, 181, 0, 19, 42, 6, 189, 0, 13, 89, 3, 18, 23, 83, 89, 4, 18, 25, 83, 89, 5]
abbrev dktX0_init_1 : List UInt8 := dkwX0_init_1 ++ dktX0_init_2
def dkwX0_init_0 : List UInt8 := [42, 183, 0, 1, 42, 17, 1, 144, 188, 8, 181, 0, 9, 42, 5, 189, 0, 13, 89, 3, 18, 15, 83, 89]
abbrev dktX0_init_0 : List UInt8 := dkwX0_init_0 ++ dktX0_init_1
theorem dksX0_init_0 : cX0_init.data.toList.drop 0 = dktX0_init_0 := by decide +kernel
theorem dksX0_init_1 : cX0_init.data.toList.drop 24 = dktX0_init_1 := dk_seg dksX0_init_0 24 rfl rfl
theorem dksX0_init_2 : cX0_init.data.toList.drop 48 = dktX0_init_2 := dk_seg dksX0_init_1 24 rfl rfl
theorem dksX0_init_3 : cX0_init.data.toList.drop 72 = dktX0_init_3 := dk_seg dksX0_init_2 24 rfl rfl
theorem dksX0_init_4 : cX0_init.data.toList.drop 96 = dktX0_init_4 := dk_seg dksX0_init_3 24 rfl rfl
theorem dksX0_init_5 : cX0_init.data.toList.drop 119 = dktX0_init_5 := dk_seg dksX0_init_4 23 rfl rfl
theorem dksX0_init_6 : cX0_init.data.toList.drop 142 = dktX0_init_6 := dk_seg dksX0_init_5 23 rfl rfl
theorem dksX0_init_7 : cX0_init.data.toList.drop 166 = dktX0_init_7 := dk_seg dksX0_init_6 24 rfl rfl
theorem dksX0_init_8 : cX0_init.data.toList.drop 189 = dktX0_init_8 := dk_seg dksX0_init_7 23 rfl rfl
theorem dksX0_init_9 : cX0_init.data.toList.drop 212 = dktX0_init_9 := dk_seg dksX0_init_8 23 rfl rfl
theorem dksX0_init_10 : cX0_init.data.toList.drop 236 = dktX0_init_10 := dk_seg dksX0_init_9 24 rfl rfl
theorem dksX0_init_11 : cX0_init.data.toList.drop 260 = dktX0_init_11 := dk_seg dksX0_init_10 24 rfl rfl
theorem dksX0_init_12 : cX0_init.data.toList.drop 282 = dktX0_init_12 := dk_seg dksX0_init_11 22 rfl rfl
theorem dksX0_init_13 : cX0_init.data.toList.drop 304 = dktX0_init_13 := dk_seg dksX0_init_12 22 rfl rfl
theorem dX0_init_0 : decode cX0_init 0 = .ok (.aload_n 0, 1) := dk_42 (dk_at dksX0_init_0 0 rfl rfl)
theorem dX0_init_1 : decode cX0_init 1 = .ok (.invokespecial 1, 3) := dk_183 0 1 (dk_at dksX0_init_0 1 rfl rfl)
theorem dX0_init_4 : decode cX0_init 4 = .ok (.aload_n 0, 1) := dk_42 (dk_at dksX0_init_0 4 rfl rfl)
theorem dX0_init_5 : decode cX0_init 5 = .ok (.sipush 400, 3) := dk_17 1 144 (dk_at dksX0_init_0 5 rfl rfl)
theorem dX0_init_8 : decode cX0_init 8 = .ok (.newarray .byte, 2) := dk_188_8 (dk_at dksX0_init_0 8 rfl rfl)
theorem dX0_init_10 : decode cX0_init 10 = .ok (.putfield 9, 3) := dk_181 0 9 (dk_at dksX0_init_0 10 rfl rfl)
theorem dX0_init_13 : decode cX0_init 13 = .ok (.aload_n 0, 1) := dk_42 (dk_at dksX0_init_0 13 rfl rfl)
theorem dX0_init_14 : decode cX0_init 14 = .ok (.iconst 2, 1) := dk_5 (dk_at dksX0_init_0 14 rfl rfl)
theorem dX0_init_15 : decode cX0_init 15 = .ok (.anewarray 13, 3) := dk_189 0 13 (dk_at dksX0_init_0 15 rfl rfl)
theorem dX0_init_18 : decode cX0_init 18 = .ok (.dup, 1) := dk_89 (dk_at dksX0_init_0 18 rfl rfl)
theorem dX0_init_19 : decode cX0_init 19 = .ok (.iconst 0, 1) := dk_3 (dk_at dksX0_init_0 19 rfl rfl)
theorem dX0_init_20 : decode cX0_init 20 = .ok (.ldc 15, 2) := dk_18 15 (dk_at dksX0_init_0 20 rfl rfl)
theorem dX0_init_22 : decode cX0_init 22 = .ok (.aastore, 1) := dk_83 (dk_at dksX0_init_0 22 rfl rfl)
theorem dX0_init_23 : decode cX0_init 23 = .ok (.dup, 1) := dk_89 (dk_at dksX0_init_0 23 rfl rfl)
theorem dX0_init_24 : decode cX0_init 24 = .ok (.iconst 1, 1) := dk_4 (dk_at dksX0_init_1 0 rfl rfl)
theorem dX0_init_25 : decode cX0_init 25 = .ok (.ldc 17, 2) := dk_18 17 (dk_at dksX0_init_1 1 rfl rfl)
theorem dX0_init_27 : decode cX0_init 27 = .ok (.aastore, 1) := dk_83 (dk_at dksX0_init_1 3 rfl rfl)
theorem dX0_init_28 : decode cX0_init 28 = .ok (.putfield 19, 3) := dk_181 0 19 (dk_at dksX0_init_1 4 rfl rfl)
theorem dX0_init_31 : decode cX0_init 31 = .ok (.aload_n 0, 1) := dk_42 (dk_at dksX0_init_1 7 rfl rfl)
theorem dX0_init_32 : decode cX0_init 32 = .ok (.iconst 3, 1) := dk_6 (dk_at dksX0_init_1 8 rfl rfl)
theorem dX0_init_33 : decode cX0_init 33 = .ok (.anewarray 13, 3) := dk_189 0 13 (dk_at dksX0_init_1 9 rfl rfl)
theorem dX0_init_36 : decode cX0_init 36 = .ok (.dup, 1) := dk_89 (dk_at dksX0_init_1 12 rfl rfl)
theorem dX0_init_37 : decode cX0_init 37 = .ok (.iconst 0, 1) := dk_3 (dk_at dksX0_init_1 13 rfl rfl)
theorem dX0_init_38 : decode cX0_init 38 = .ok (.ldc 23, 2) := dk_18 23 (dk_at dksX0_init_1 14 rfl rfl)
theorem dX0_init_40 : decode cX0_init 40 = .ok (.aastore, 1) := dk_83 (dk_at dksX0_init_1 16 rfl rfl)
theorem dX0_init_41 : decode cX0_init 41 = .ok (.dup, 1) := dk_89 (dk_at dksX0_init_1 17 rfl rfl)
theorem dX0_init_42 : decode cX0_init 42 = .ok (.iconst 1, 1) := dk_4 (dk_at dksX0_init_1 18 rfl rfl)
theorem dX0_init_43 : decode cX0_init 43 = .ok (.ldc 25, 2) := dk_18 25 (dk_at dksX0_init_1 19 rfl rfl)
theorem dX0_init_45 : decode cX0_init 45 = .ok (.aastore, 1) := dk_83 (dk_at dksX0_init_1 21 rfl rfl)
theorem dX0_init_46 : decode cX0_init 46 = .ok (.dup, 1) := dk_89 (dk_at dksX0_init_1 22 rfl rfl)
theorem dX0_init_47 : decode cX0_init 47 = .ok (.iconst 2, 1) := dk_5 (dk_at dksX0_init_1 23 rfl rfl)
theorem dX0_init_48 : decode cX0_init 48 = .ok (.ldc 27, 2) := dk_18 27 (dk_at dksX0_init_2 0 rfl rfl)
theorem dX0_init_50 : decode cX0_init 50 = .ok (.aastore, 1) := dk_83 (dk_at dksX0_init_2 2 rfl rfl)
theorem dX0_init_51 : decode cX0_init 51 = .ok (.putfield 29, 3) := dk_181 0 29 (dk_at dksX0_init_2 3 rfl rfl)
theorem dX0_init_54 : decode cX0_init 54 = .ok (.aload_n 0, 1) := dk_42 (dk_at dksX0_init_2 6 rfl rfl)
theorem dX0_init_55 : decode cX0_init 55 = .ok (.bipush 10, 2) := dk_16 10 (dk_at dksX0_init_2 7 rfl rfl)
theorem dX0_init_57 : decode cX0_init 57 = .ok (.anewarray 13, 3) := dk_189 0 13 (dk_at dksX0_init_2 9 rfl rfl)
theorem dX0_init_60 : decode cX0_init 60 = .ok (.dup, 1) := dk_89 (dk_at dksX0_init_2 12 rfl rfl)
theorem dX0_init_61 : decode cX0_init 61 = .ok (.iconst 0, 1) := dk_3 (dk_at dksX0_init_2 13 rfl rfl)
theorem dX0_init_62 : decode cX0_init 62 = .ok (.ldc 32, 2) := dk_18 32 (dk_at dksX0_init_2 14 rfl rfl)
theorem dX0_init_64 : decode cX0_init 64 = .ok (.aastore, 1) := dk_83 (dk_at dksX0_init_2 16 rfl rfl)
theorem dX0_init_65 : decode cX0_init 65 = .ok (.dup, 1) := dk_89 (dk_at dksX0_init_2 17 rfl rfl)
theorem dX0_init_66 : decode cX0_init 66 = .ok (.iconst 1, 1) := dk_4 (dk_at dksX0_init_2 18 rfl rfl)
theorem dX0_init_67 : decode cX0_init 67 = .ok (.ldc 34, 2) := dk_18 34 (dk_at dksX0_init_2 19 rfl rfl)
theorem dX0_init_69 : decode cX0_init 69 = .ok (.aastore, 1) := dk_83 (dk_at dksX0_init_2 21 rfl rfl)
theorem dX0_init_70 : decode cX0_init 70 = .ok (.dup, 1) := dk_89 (dk_at dksX0_init_2 22 rfl rfl)
theorem dX0_init_71 : decode cX0_init 71 = .ok (.iconst 2, 1) := dk_5 (dk_at dksX0_init_2 23 rfl rfl)
theorem dX0_init_72 : decode cX0_init 72 = .ok (.ldc 36, 2) := dk_18 36 (dk_at dksX0_init_3 0 rfl rfl)
theorem dX0_init_74 : decode cX0_init 74 = .ok (.aastore, 1) := dk_83 (dk_at dksX0_init_3 2 rfl rfl)
theorem dX0_init_75 : decode cX0_init 75 = .ok (.dup, 1) := dk_89 (dk_at dksX0_init_3 3 rfl rfl)
theorem dX0_init_76 : decode cX0_init 76 = .ok (.iconst 3, 1) := dk_6 (dk_at dksX0_init_3 4 rfl rfl)
theorem dX0_init_77 : decode cX0_init 77 = .ok (.ldc 38, 2) := dk_18 38 (dk_at dksX0_init_3 5 rfl rfl)
theorem dX0_init_79 : decode cX0_init 79 = .ok (.aastore, 1) := dk_83 (dk_at dksX0_init_3 7 rfl rfl)
theorem dX0_init_80 : decode cX0_init 80 = .ok (.dup, 1) := dk_89 (dk_at dksX0_init_3 8 rfl rfl)
theorem dX0_init_81 : decode cX0_init 81 = .ok (.iconst 4, 1) := dk_7 (dk_at dksX0_init_3 9 rfl rfl)
theorem dX0_init_82 : decode cX0_init 82 = .ok (.ldc 40, 2) := dk_18 40 (dk_at dksX0_init_3 10 rfl rfl)
theorem dX0_init_84 : decode cX0_init 84 = .ok (.aastore, 1) := dk_83 (dk_at dksX0_init_3 12 rfl rfl)
theorem dX0_init_85 : decode cX0_init 85 = .ok (.dup, 1) := dk_89 (dk_at dksX0_init_3 13 rfl rfl)
theorem dX0_init_86 : decode cX0_init 86 = .ok (.iconst 5, 1) := dk_8 (dk_at dksX0_init_3 14 rfl rfl)
theorem dX0_init_87 : decode cX0_init 87 = .ok (.ldc 42, 2) := dk_18 42 (dk_at dksX0_init_3 15 rfl rfl)
theorem dX0_init_89 : decode cX0_init 89 = .ok (.aastore, 1) := dk_83 (dk_at dksX0_init_3 17 rfl rfl)
theorem dX0_init_90 : decode cX0_init 90 = .ok (.dup, 1) := dk_89 (dk_at dksX0_init_3 18 rfl rfl)
theorem dX0_init_91 : decode cX0_init 91 = .ok (.bipush 6, 2) := dk_16 6 (dk_at dksX0_init_3 19 rfl rfl)
theorem dX0_init_93 : decode cX0_init 93 = .ok (.ldc 44, 2) := dk_18 44 (dk_at dksX0_init_3 21 rfl rfl)
theorem dX0_init_95 : decode cX0_init 95 = .ok (.aastore, 1) := dk_83 (dk_at dksX0_init_3 23 rfl rfl)
theorem dX0_init_96 : decode cX0_init 96 = .ok (.dup, 1) := dk_89 (dk_at dksX0_init_4 0 rfl rfl)
theorem dX0_init_97 : decode cX0_init 97 = .ok (.bipush 7, 2) := dk_16 7 (dk_at dksX0_init_4 1 rfl rfl)
theorem dX0_init_99 : decode cX0_init 99 = .ok (.ldc 46, 2) := dk_18 46 (dk_at dksX0_init_4 3 rfl rfl)
theorem dX0_init_101 : decode cX0_init 101 = .ok (.aastore, 1) := dk_83 (dk_at dksX0_init_4 5 rfl rfl)
theorem dX0_init_102 : decode cX0_init 102 = .ok (.dup, 1) := dk_89 (dk_at dksX0_init_4 6 rfl rfl)
theorem dX0_init_103 : decode cX0_init 103 = .ok (.bipush 8, 2) := dk_16 8 (dk_at dksX0_init_4 7 rfl rfl)
theorem dX0_init_105 : decode cX0_init 105 = .ok (.ldc 48, 2) := dk_18 48 (dk_at dksX0_init_4 9 rfl rfl)
theorem dX0_init_107 : decode cX0_init 107 = .ok (.aastore, 1) := dk_83 (dk_at dksX0_init_4 11 rfl rfl)
theorem dX0_init_108 : decode cX0_init 108 = .ok (.dup, 1) := dk_89 (dk_at dksX0_init_4 12 rfl rfl)
theorem dX0_init_109 : decode cX0_init 109 = .ok (.bipush 9, 2) := dk_16 9 (dk_at dksX0_init_4 13 rfl rfl)
theorem dX0_init_111 : decode cX0_init 111 = .ok (.ldc 25, 2) := dk_18 25 (dk_at dksX0_init_4 15 rfl rfl)
theorem dX0_init_113 : decode cX0_init 113 = .ok (.aastore, 1) := dk_83 (dk_at dksX0_init_4 17 rfl rfl)
theorem dX0_init_114 : decode cX0_init 114 = .ok (.putfield 50, 3) := dk_181 0 50 (dk_at dksX0_init_4 18 rfl rfl)
theorem dX0_init_117 : decode cX0_init 117 = .ok (.aload_n 0, 1) := dk_42 (dk_at dksX0_init_4 21 rfl rfl)
theorem dX0_init_118 : decode cX0_init 118 = .ok (.iconst 4, 1) := dk_7 (dk_at dksX0_init_4 22 rfl rfl)
theorem dX0_init_119 : decode cX0_init 119 = .ok (.anewarray 13, 3) := dk_189 0 13 (dk_at dksX0_init_5 0 rfl rfl)
theorem dX0_init_122 : decode cX0_init 122 = .ok (.dup, 1) := dk_89 (dk_at dksX0_init_5 3 rfl rfl)
theorem dX0_init_123 : decode cX0_init 123 = .ok (.iconst 0, 1) := dk_3 (dk_at dksX0_init_5 4 rfl rfl)
theorem dX0_init_124 : decode cX0_init 124 = .ok (.ldc 53, 2) := dk_18 53 (dk_at dksX0_init_5 5 rfl rfl)
theorem dX0_init_126 : decode cX0_init 126 = .ok (.aastore, 1) := dk_83 (dk_at dksX0_init_5 7 rfl rfl)
theorem dX0_init_127 : decode cX0_init 127 = .ok (.dup, 1) := dk_89 (dk_at dksX0_init_5 8 rfl rfl)
theorem dX0_init_128 : decode cX0_init 128 = .ok (.iconst 1, 1) := dk_4 (dk_at dksX0_init_5 9 rfl rfl)
theorem dX0_init_129 : decode cX0_init 129 = .ok (.ldc 55, 2) := dk_18 55 (dk_at dksX0_init_5 10 rfl rfl)
theorem dX0_init_131 : decode cX0_init 131 = .ok (.aastore, 1) := dk_83 (dk_at dksX0_init_5 12 rfl rfl)
theorem dX0_init_132 : decode cX0_init 132 = .ok (.dup, 1) := dk_89 (dk_at dksX0_init_5 13 rfl rfl)
theorem dX0_init_133 : decode cX0_init 133 = .ok (.iconst 2, 1) := dk_5 (dk_at dksX0_init_5 14 rfl rfl)
theorem dX0_init_134 : decode cX0_init 134 = .ok (.ldc 57, 2) := dk_18 57 (dk_at dksX0_init_5 15 rfl rfl)
theorem dX0_init_136 : decode cX0_init 136 = .ok (.aastore, 1) := dk_83 (dk_at dksX0_init_5 17 rfl rfl)
theorem dX0_init_137 : decode cX0_init 137 = .ok (.dup, 1) := dk_89 (dk_at dksX0_init_5 18 rfl rfl)
theorem dX0_init_138 : decode cX0_init 138 = .ok (.iconst 3, 1) := dk_6 (dk_at dksX0_init_5 19 rfl rfl)
theorem dX0_init_139 : decode cX0_init 139 = .ok (.ldc 59, 2) := dk_18 59 (dk_at dksX0_init_5 20 rfl rfl)
theorem dX0_init_141 : decode cX0_init 141 = .ok (.aastore, 1) := dk_83 (dk_at dksX0_init_5 22 rfl rfl)
theorem dX0_init_142 : decode cX0_init 142 = .ok (.putfield 61, 3) := dk_181 0 61 (dk_at dksX0_init_6 0 rfl rfl)
theorem dX0_init_145 : decode cX0_init 145 = .ok (.aload_n 0, 1) := dk_42 (dk_at dksX0_init_6 3 rfl rfl)
theorem dX0_init_146 : decode cX0_init 146 = .ok (.iconst (-1), 1) := dk_2 (dk_at dksX0_init_6 4 rfl rfl)
theorem dX0_init_147 : decode cX0_init 147 = .ok (.putfield 64, 3) := dk_181 0 64 (dk_at dksX0_init_6 5 rfl rfl)
theorem dX0_init_150 : decode cX0_init 150 = .ok (.aload_n 0, 1) := dk_42 (dk_at dksX0_init_6 8 rfl rfl)
theorem dX0_init_151 : decode cX0_init 151 = .ok (.iconst 3, 1) := dk_6 (dk_at dksX0_init_6 9 rfl rfl)
theorem dX0_init_152 : decode cX0_init 152 = .ok (.anewarray 68, 3) := dk_189 0 68 (dk_at dksX0_init_6 10 rfl rfl)
theorem dX0_init_155 : decode cX0_init 155 = .ok (.dup, 1) := dk_89 (dk_at dksX0_init_6 13 rfl rfl)
theorem dX0_init_156 : decode cX0_init 156 = .ok (.iconst 0, 1) := dk_3 (dk_at dksX0_init_6 14 rfl rfl)
theorem dX0_init_157 : decode cX0_init 157 = .ok (.new 68, 3) := dk_187 0 68 (dk_at dksX0_init_6 15 rfl rfl)
theorem dX0_init_160 : decode cX0_init 160 = .ok (.dup, 1) := dk_89 (dk_at dksX0_init_6 18 rfl rfl)
theorem dX0_init_161 : decode cX0_init 161 = .ok (.invokespecial 70, 3) := dk_183 0 70 (dk_at dksX0_init_6 19 rfl rfl)
theorem dX0_init_164 : decode cX0_init 164 = .ok (.aastore, 1) := dk_83 (dk_at dksX0_init_6 22 rfl rfl)
theorem dX0_init_165 : decode cX0_init 165 = .ok (.dup, 1) := dk_89 (dk_at dksX0_init_6 23 rfl rfl)
theorem dX0_init_166 : decode cX0_init 166 = .ok (.iconst 1, 1) := dk_4 (dk_at dksX0_init_7 0 rfl rfl)
theorem dX0_init_167 : decode cX0_init 167 = .ok (.new 68, 3) := dk_187 0 68 (dk_at dksX0_init_7 1 rfl rfl)
theorem dX0_init_170 : decode cX0_init 170 = .ok (.dup, 1) := dk_89 (dk_at dksX0_init_7 4 rfl rfl)
theorem dX0_init_171 : decode cX0_init 171 = .ok (.invokespecial 70, 3) := dk_183 0 70 (dk_at dksX0_init_7 5 rfl rfl)
theorem dX0_init_174 : decode cX0_init 174 = .ok (.aastore, 1) := dk_83 (dk_at dksX0_init_7 8 rfl rfl)
theorem dX0_init_175 : decode cX0_init 175 = .ok (.dup, 1) := dk_89 (dk_at dksX0_init_7 9 rfl rfl)
theorem dX0_init_176 : decode cX0_init 176 = .ok (.iconst 2, 1) := dk_5 (dk_at dksX0_init_7 10 rfl rfl)
theorem dX0_init_177 : decode cX0_init 177 = .ok (.new 68, 3) := dk_187 0 68 (dk_at dksX0_init_7 11 rfl rfl)
theorem dX0_init_180 : decode cX0_init 180 = .ok (.dup, 1) := dk_89 (dk_at dksX0_init_7 14 rfl rfl)
theorem dX0_init_181 : decode cX0_init 181 = .ok (.invokespecial 70, 3) := dk_183 0 70 (dk_at dksX0_init_7 15 rfl rfl)
theorem dX0_init_184 : decode cX0_init 184 = .ok (.aastore, 1) := dk_83 (dk_at dksX0_init_7 18 rfl rfl)
theorem dX0_init_185 : decode cX0_init 185 = .ok (.putfield 71, 3) := dk_181 0 71 (dk_at dksX0_init_7 19 rfl rfl)
theorem dX0_init_188 : decode cX0_init 188 = .ok (.aload_n 0, 1) := dk_42 (dk_at dksX0_init_7 22 rfl rfl)
theorem dX0_init_189 : decode cX0_init 189 = .ok (.new 75, 3) := dk_187 0 75 (dk_at dksX0_init_8 0 rfl rfl)
theorem dX0_init_192 : decode cX0_init 192 = .ok (.dup, 1) := dk_89 (dk_at dksX0_init_8 3 rfl rfl)
theorem dX0_init_193 : decode cX0_init 193 = .ok (.invokespecial 77, 3) := dk_183 0 77 (dk_at dksX0_init_8 4 rfl rfl)
theorem dX0_init_196 : decode cX0_init 196 = .ok (.putfield 78, 3) := dk_181 0 78 (dk_at dksX0_init_8 7 rfl rfl)
theorem dX0_init_199 : decode cX0_init 199 = .ok (.aload_n 0, 1) := dk_42 (dk_at dksX0_init_8 10 rfl rfl)
theorem dX0_init_200 : decode cX0_init 200 = .ok (.bipush 80, 2) := dk_16 80 (dk_at dksX0_init_8 11 rfl rfl)
theorem dX0_init_202 : decode cX0_init 202 = .ok (.newarray .int, 2) := dk_188_10 (dk_at dksX0_init_8 13 rfl rfl)
theorem dX0_init_204 : decode cX0_init 204 = .ok (.putfield 82, 3) := dk_181 0 82 (dk_at dksX0_init_8 15 rfl rfl)
theorem dX0_init_207 : decode cX0_init 207 = .ok (.aload_n 0, 1) := dk_42 (dk_at dksX0_init_8 18 rfl rfl)
theorem dX0_init_208 : decode cX0_init 208 = .ok (.bipush 10, 2) := dk_16 10 (dk_at dksX0_init_8 19 rfl rfl)
theorem dX0_init_210 : decode cX0_init 210 = .ok (.newarray .int, 2) := dk_188_10 (dk_at dksX0_init_8 21 rfl rfl)
theorem dX0_init_212 : decode cX0_init 212 = .ok (.putfield 86, 3) := dk_181 0 86 (dk_at dksX0_init_9 0 rfl rfl)
theorem dX0_init_215 : decode cX0_init 215 = .ok (.aload_n 0, 1) := dk_42 (dk_at dksX0_init_9 3 rfl rfl)
theorem dX0_init_216 : decode cX0_init 216 = .ok (.new 89, 3) := dk_187 0 89 (dk_at dksX0_init_9 4 rfl rfl)
theorem dX0_init_219 : decode cX0_init 219 = .ok (.dup, 1) := dk_89 (dk_at dksX0_init_9 7 rfl rfl)
theorem dX0_init_220 : decode cX0_init 220 = .ok (.aload_n 0, 1) := dk_42 (dk_at dksX0_init_9 8 rfl rfl)
theorem dX0_init_221 : decode cX0_init 221 = .ok (.invokespecial 91, 3) := dk_183 0 91 (dk_at dksX0_init_9 9 rfl rfl)
theorem dX0_init_224 : decode cX0_init 224 = .ok (.putfield 94, 3) := dk_181 0 94 (dk_at dksX0_init_9 12 rfl rfl)
theorem dX0_init_227 : decode cX0_init 227 = .ok (.aload_n 0, 1) := dk_42 (dk_at dksX0_init_9 15 rfl rfl)
theorem dX0_init_228 : decode cX0_init 228 = .ok (.new 89, 3) := dk_187 0 89 (dk_at dksX0_init_9 16 rfl rfl)
theorem dX0_init_231 : decode cX0_init 231 = .ok (.dup, 1) := dk_89 (dk_at dksX0_init_9 19 rfl rfl)
theorem dX0_init_232 : decode cX0_init 232 = .ok (.aload_n 0, 1) := dk_42 (dk_at dksX0_init_9 20 rfl rfl)
theorem dX0_init_233 : decode cX0_init 233 = .ok (.invokespecial 91, 3) := dk_183 0 91 (dk_at dksX0_init_9 21 rfl rfl)
theorem dX0_init_236 : decode cX0_init 236 = .ok (.putfield 98, 3) := dk_181 0 98 (dk_at dksX0_init_10 0 rfl rfl)
theorem dX0_init_239 : decode cX0_init 239 = .ok (.aload_n 0, 1) := dk_42 (dk_at dksX0_init_10 3 rfl rfl)
theorem dX0_init_240 : decode cX0_init 240 = .ok (.new 89, 3) := dk_187 0 89 (dk_at dksX0_init_10 4 rfl rfl)
theorem dX0_init_243 : decode cX0_init 243 = .ok (.dup, 1) := dk_89 (dk_at dksX0_init_10 7 rfl rfl)
theorem dX0_init_244 : decode cX0_init 244 = .ok (.aload_n 0, 1) := dk_42 (dk_at dksX0_init_10 8 rfl rfl)
theorem dX0_init_245 : decode cX0_init 245 = .ok (.invokespecial 91, 3) := dk_183 0 91 (dk_at dksX0_init_10 9 rfl rfl)
theorem dX0_init_248 : decode cX0_init 248 = .ok (.putfield 101, 3) := dk_181 0 101 (dk_at dksX0_init_10 12 rfl rfl)
theorem dX0_init_251 : decode cX0_init 251 = .ok (.aload_n 0, 1) := dk_42 (dk_at dksX0_init_10 15 rfl rfl)
theorem dX0_init_252 : decode cX0_init 252 = .ok (.bipush 6, 2) := dk_16 6 (dk_at dksX0_init_10 16 rfl rfl)
theorem dX0_init_254 : decode cX0_init 254 = .ok (.newarray .int, 2) := dk_188_10 (dk_at dksX0_init_10 18 rfl rfl)
theorem dX0_init_256 : decode cX0_init 256 = .ok (.putfield 104, 3) := dk_181 0 104 (dk_at dksX0_init_10 20 rfl rfl)
theorem dX0_init_259 : decode cX0_init 259 = .ok (.aload_n 0, 1) := dk_42 (dk_at dksX0_init_10 23 rfl rfl)
theorem dX0_init_260 : decode cX0_init 260 = .ok (.bipush 6, 2) := dk_16 6 (dk_at dksX0_init_11 0 rfl rfl)
theorem dX0_init_262 : decode cX0_init 262 = .ok (.newarray .int, 2) := dk_188_10 (dk_at dksX0_init_11 2 rfl rfl)
theorem dX0_init_264 : decode cX0_init 264 = .ok (.putfield 107, 3) := dk_181 0 107 (dk_at dksX0_init_11 4 rfl rfl)
theorem dX0_init_267 : decode cX0_init 267 = .ok (.aload_n 0, 1) := dk_42 (dk_at dksX0_init_11 7 rfl rfl)
theorem dX0_init_268 : decode cX0_init 268 = .ok (.iconst 4, 1) := dk_7 (dk_at dksX0_init_11 8 rfl rfl)
theorem dX0_init_269 : decode cX0_init 269 = .ok (.bipush 80, 2) := dk_16 80 (dk_at dksX0_init_11 9 rfl rfl)
theorem dX0_init_271 : decode cX0_init 271 = .ok (.multianewarray 110 2, 4) := by decide +kernel
theorem dX0_init_275 : decode cX0_init 275 = .ok (.putfield 112, 3) := dk_181 0 112 (dk_at dksX0_init_11 15 rfl rfl)
theorem dX0_init_278 : decode cX0_init 278 = .ok (.aload_n 0, 1) := dk_42 (dk_at dksX0_init_11 18 rfl rfl)
theorem dX0_init_279 : decode cX0_init 279 = .ok (.iconst 4, 1) := dk_7 (dk_at dksX0_init_11 19 rfl rfl)
theorem dX0_init_280 : decode cX0_init 280 = .ok (.newarray .int, 2) := dk_188_10 (dk_at dksX0_init_11 20 rfl rfl)
theorem dX0_init_282 : decode cX0_init 282 = .ok (.putfield 115, 3) := dk_181 0 115 (dk_at dksX0_init_12 0 rfl rfl)
theorem dX0_init_285 : decode cX0_init 285 = .ok (.aload_n 0, 1) := dk_42 (dk_at dksX0_init_12 3 rfl rfl)
theorem dX0_init_286 : decode cX0_init 286 = .ok (.iconst 4, 1) := dk_7 (dk_at dksX0_init_12 4 rfl rfl)
theorem dX0_init_287 : decode cX0_init 287 = .ok (.newarray .int, 2) := dk_188_10 (dk_at dksX0_init_12 5 rfl rfl)
theorem dX0_init_289 : decode cX0_init 289 = .ok (.putfield 118, 3) := dk_181 0 118 (dk_at dksX0_init_12 7 rfl rfl)
theorem dX0_init_292 : decode cX0_init 292 = .ok (.aload_n 0, 1) := dk_42 (dk_at dksX0_init_12 10 rfl rfl)
theorem dX0_init_293 : decode cX0_init 293 = .ok (.iconst 3, 1) := dk_6 (dk_at dksX0_init_12 11 rfl rfl)
theorem dX0_init_294 : decode cX0_init 294 = .ok (.newarray .int, 2) := dk_188_10 (dk_at dksX0_init_12 12 rfl rfl)
theorem dX0_init_296 : decode cX0_init 296 = .ok (.putfield 121, 3) := dk_181 0 121 (dk_at dksX0_init_12 14 rfl rfl)
theorem dX0_init_299 : decode cX0_init 299 = .ok (.aload_n 0, 1) := dk_42 (dk_at dksX0_init_12 17 rfl rfl)
theorem dX0_init_300 : decode cX0_init 300 = .ok (.iconst 3, 1) := dk_6 (dk_at dksX0_init_12 18 rfl rfl)
theorem dX0_init_301 : decode cX0_init 301 = .ok (.anewarray 68, 3) := dk_189 0 68 (dk_at dksX0_init_12 19 rfl rfl)
theorem dX0_init_304 : decode cX0_init 304 = .ok (.putfield 124, 3) := dk_181 0 124 (dk_at dksX0_init_13 0 rfl rfl)
theorem dX0_init_307 : decode cX0_init 307 = .ok (.aload_n 0, 1) := dk_42 (dk_at dksX0_init_13 3 rfl rfl)
theorem dX0_init_308 : decode cX0_init 308 = .ok (.bipush 80, 2) := dk_16 80 (dk_at dksX0_init_13 4 rfl rfl)
theorem dX0_init_310 : decode cX0_init 310 = .ok (.newarray .int, 2) := dk_188_10 (dk_at dksX0_init_13 6 rfl rfl)
theorem dX0_init_312 : decode cX0_init 312 = .ok (.putfield 127, 3) := dk_181 0 127 (dk_at dksX0_init_13 8 rfl rfl)
theorem dX0_init_315 : decode cX0_init 315 = .ok (.return_, 1) := dk_177 (dk_at dksX0_init_13 11 rfl rfl)
abbrev cX0_feed : ByteArray := prog_1_method_4_code
def yX0_feed : MethodName := ⟨RX0, "feed", "(IIIII)I"⟩
def dkwX0_feed_2 : List UInt8 := [172]
abbrev dktX0_feed_2 : List UInt8 := dkwX0_feed_2 ++ []
def dkwX0_feed_1 : List UInt8 := [182, 0, 133, 42, 29, 182, 0, 133, 42, 21, 4, 182, 0, 133, 42, 21, 5, 182, 0, 133, 42, 180, 0, 130]
abbrev dktX0_feed_1 : List UInt8 := dkwX0_feed_1 ++ dktX0_feed_2
def dkwX0_feed_0 : List UInt8 := [42, 180, 0, 130, 16, 20, 96, 17, 1, 144, 164, 0, 5, 2, 172, 42, 27, 182, 0, 133, 42, 28]
abbrev dktX0_feed_0 : List UInt8 := dkwX0_feed_0 ++ dktX0_feed_1
theorem dksX0_feed_0 : cX0_feed.data.toList.drop 0 = dktX0_feed_0 := by decide +kernel
theorem dksX0_feed_1 : cX0_feed.data.toList.drop 22 = dktX0_feed_1 := dk_seg dksX0_feed_0 22 rfl rfl
theorem dksX0_feed_2 : cX0_feed.data.toList.drop 46 = dktX0_feed_2 := dk_seg dksX0_feed_1 24 rfl rfl
theorem dX0_feed_0 : decode cX0_feed 0 = .ok (.aload_n 0, 1) := dk_42 (dk_at dksX0_feed_0 0 rfl rfl)
theorem dX0_feed_1 : decode cX0_feed 1 = .ok (.getfield 130, 3) := dk_180 0 130 (dk_at dksX0_feed_0 1 rfl rfl)
theorem dX0_feed_4 : decode cX0_feed 4 = .ok (.bipush 20, 2) := dk_16 20 (dk_at dksX0_feed_0 4 rfl rfl)
theorem dX0_feed_6 : decode cX0_feed 6 = .ok (.iadd, 1) := dk_96 (dk_at dksX0_feed_0 6 rfl rfl)
theorem dX0_feed_7 : decode cX0_feed 7 = .ok (.sipush 400, 3) := dk_17 1 144 (dk_at dksX0_feed_0 7 rfl rfl)
theorem dX0_feed_10 : decode cX0_feed 10 = .ok (.if_icmp .le 5, 3) := dk_164 0 5 (dk_at dksX0_feed_0 10 rfl rfl)
theorem dX0_feed_13 : decode cX0_feed 13 = .ok (.iconst (-1), 1) := dk_2 (dk_at dksX0_feed_0 13 rfl rfl)
theorem dX0_feed_14 : decode cX0_feed 14 = .ok (.ireturn, 1) := dk_172 (dk_at dksX0_feed_0 14 rfl rfl)
theorem dX0_feed_15 : decode cX0_feed 15 = .ok (.aload_n 0, 1) := dk_42 (dk_at dksX0_feed_0 15 rfl rfl)
theorem dX0_feed_16 : decode cX0_feed 16 = .ok (.iload_n 1, 1) := dk_27 (dk_at dksX0_feed_0 16 rfl rfl)
theorem dX0_feed_17 : decode cX0_feed 17 = .ok (.invokevirtual 133, 3) := dk_182 0 133 (dk_at dksX0_feed_0 17 rfl rfl)
theorem dX0_feed_20 : decode cX0_feed 20 = .ok (.aload_n 0, 1) := dk_42 (dk_at dksX0_feed_0 20 rfl rfl)
theorem dX0_feed_21 : decode cX0_feed 21 = .ok (.iload_n 2, 1) := dk_28 (dk_at dksX0_feed_0 21 rfl rfl)
theorem dX0_feed_22 : decode cX0_feed 22 = .ok (.invokevirtual 133, 3) := dk_182 0 133 (dk_at dksX0_feed_1 0 rfl rfl)
theorem dX0_feed_25 : decode cX0_feed 25 = .ok (.aload_n 0, 1) := dk_42 (dk_at dksX0_feed_1 3 rfl rfl)
theorem dX0_feed_26 : decode cX0_feed 26 = .ok (.iload_n 3, 1) := dk_29 (dk_at dksX0_feed_1 4 rfl rfl)
theorem dX0_feed_27 : decode cX0_feed 27 = .ok (.invokevirtual 133, 3) := dk_182 0 133 (dk_at dksX0_feed_1 5 rfl rfl)
theorem dX0_feed_30 : decode cX0_feed 30 = .ok (.aload_n 0, 1) := dk_42 (dk_at dksX0_feed_1 8 rfl rfl)
theorem dX0_feed_31 : decode cX0_feed 31 = .ok (.iload 4, 2) := dk_21 4 (dk_at dksX0_feed_1 9 rfl rfl)
theorem dX0_feed_33 : decode cX0_feed 33 = .ok (.invokevirtual 133, 3) := dk_182 0 133 (dk_at dksX0_feed_1 11 rfl rfl)
theorem dX0_feed_36 : decode cX0_feed 36 = .ok (.aload_n 0, 1) := dk_42 (dk_at dksX0_feed_1 14 rfl rfl)
theorem dX0_feed_37 : decode cX0_feed 37 = .ok (.iload 5, 2) := dk_21 5 (dk_at dksX0_feed_1 15 rfl rfl)
theorem dX0_feed_39 : decode cX0_feed 39 = .ok (.invokevirtual 133, 3) := dk_182 0 133 (dk_at dksX0_feed_1 17 rfl rfl)
theorem dX0_feed_42 : decode cX0_feed 42 = .ok (.aload_n 0, 1) := dk_42 (dk_at dksX0_feed_1 20 rfl rfl)
theorem dX0_feed_43 : decode cX0_feed 43 = .ok (.getfield 130, 3) := dk_180 0 130 (dk_at dksX0_feed_1 21 rfl rfl)
theorem dX0_feed_46 : decode cX0_feed 46 = .ok (.ireturn, 1) := dk_172 (dk_at dksX0_feed_2 0 rfl rfl)
abbrev cX0_puts : ByteArray := prog_1_method_3_code
def yX0_puts : MethodName := ⟨RX0, "puts", "(I)V"⟩
def dkwX0_puts_1 : List UInt8 := [180, 0, 130, 4, 96, 181, 0, 130, 132, 2, 248, 167, 255, 226, 177]
abbrev dktX0_puts_1 : List UInt8 := dkwX0_puts_1 ++ []
def dkwX0_puts_0 : List UInt8 := [16, 24, 61, 28, 155, 0, 32, 42, 180, 0, 9, 42, 180, 0, 130, 27, 28, 122, 145, 84, 42, 89]
abbrev dktX0_puts_0 : List UInt8 := dkwX0_puts_0 ++ dktX0_puts_1
theorem dksX0_puts_0 : cX0_puts.data.toList.drop 0 = dktX0_puts_0 := by decide +kernel
theorem dksX0_puts_1 : cX0_puts.data.toList.drop 22 = dktX0_puts_1 := dk_seg dksX0_puts_0 22 rfl rfl
theorem dX0_puts_0 : decode cX0_puts 0 = .ok (.bipush 24, 2) := dk_16 24 (dk_at dksX0_puts_0 0 rfl rfl)
theorem dX0_puts_2 : decode cX0_puts 2 = .ok (.istore_n 2, 1) := dk_61 (dk_at dksX0_puts_0 2 rfl rfl)
theorem dX0_puts_3 : decode cX0_puts 3 = .ok (.iload_n 2, 1) := dk_28 (dk_at dksX0_puts_0 3 rfl rfl)
theorem dX0_puts_4 : decode cX0_puts 4 = .ok (.ifCond .lt 32, 3) := dk_155 0 32 (dk_at dksX0_puts_0 4 rfl rfl)
theorem dX0_puts_7 : decode cX0_puts 7 = .ok (.aload_n 0, 1) := dk_42 (dk_at dksX0_puts_0 7 rfl rfl)
theorem dX0_puts_8 : decode cX0_puts 8 = .ok (.getfield 9, 3) := dk_180 0 9 (dk_at dksX0_puts_0 8 rfl rfl)
theorem dX0_puts_11 : decode cX0_puts 11 = .ok (.aload_n 0, 1) := dk_42 (dk_at dksX0_puts_0 11 rfl rfl)
theorem dX0_puts_12 : decode cX0_puts 12 = .ok (.getfield 130, 3) := dk_180 0 130 (dk_at dksX0_puts_0 12 rfl rfl)
theorem dX0_puts_15 : decode cX0_puts 15 = .ok (.iload_n 1, 1) := dk_27 (dk_at dksX0_puts_0 15 rfl rfl)
theorem dX0_puts_16 : decode cX0_puts 16 = .ok (.iload_n 2, 1) := dk_28 (dk_at dksX0_puts_0 16 rfl rfl)
theorem dX0_puts_17 : decode cX0_puts 17 = .ok (.ishr, 1) := dk_122 (dk_at dksX0_puts_0 17 rfl rfl)
theorem dX0_puts_18 : decode cX0_puts 18 = .ok (.i2b, 1) := dk_145 (dk_at dksX0_puts_0 18 rfl rfl)
theorem dX0_puts_19 : decode cX0_puts 19 = .ok (.bastore, 1) := dk_84 (dk_at dksX0_puts_0 19 rfl rfl)
theorem dX0_puts_20 : decode cX0_puts 20 = .ok (.aload_n 0, 1) := dk_42 (dk_at dksX0_puts_0 20 rfl rfl)
theorem dX0_puts_21 : decode cX0_puts 21 = .ok (.dup, 1) := dk_89 (dk_at dksX0_puts_0 21 rfl rfl)
theorem dX0_puts_22 : decode cX0_puts 22 = .ok (.getfield 130, 3) := dk_180 0 130 (dk_at dksX0_puts_1 0 rfl rfl)
theorem dX0_puts_25 : decode cX0_puts 25 = .ok (.iconst 1, 1) := dk_4 (dk_at dksX0_puts_1 3 rfl rfl)
theorem dX0_puts_26 : decode cX0_puts 26 = .ok (.iadd, 1) := dk_96 (dk_at dksX0_puts_1 4 rfl rfl)
theorem dX0_puts_27 : decode cX0_puts 27 = .ok (.putfield 130, 3) := dk_181 0 130 (dk_at dksX0_puts_1 5 rfl rfl)
theorem dX0_puts_30 : decode cX0_puts 30 = .ok (.iinc 2 (-8), 3) := dk_132 2 248 (dk_at dksX0_puts_1 8 rfl rfl)
theorem dX0_puts_33 : decode cX0_puts 33 = .ok (.goto (-30), 3) := dk_167 255 226 (dk_at dksX0_puts_1 11 rfl rfl)
theorem dX0_puts_36 : decode cX0_puts 36 = .ok (.return_, 1) := dk_177 (dk_at dksX0_puts_1 14 rfl rfl)
abbrev cX0_end : ByteArray := prog_1_method_5_code
def yX0_end : MethodName := ⟨RX0, "end", "(I)Z"⟩
def dkwX0_end_0 : List UInt8 := [27, 3, 42, 180, 0, 130, 184, 0, 137, 154, 0, 5, 3, 172, 42, 27, 181, 0, 130, 4, 172]
abbrev dktX0_end_0 : List UInt8 := dkwX0_end_0 ++ []
theorem dksX0_end_0 : cX0_end.data.toList.drop 0 = dktX0_end_0 := by decide +kernel
theorem dX0_end_0 : decode cX0_end 0 = .ok (.iload_n 1, 1) := dk_27 (dk_at dksX0_end_0 0 rfl rfl)
theorem dX0_end_1 : decode cX0_end 1 = .ok (.iconst 0, 1) := dk_3 (dk_at dksX0_end_0 1 rfl rfl)
theorem dX0_end_2 : decode cX0_end 2 = .ok (.aload_n 0, 1) := dk_42 (dk_at dksX0_end_0 2 rfl rfl)
theorem dX0_end_3 : decode cX0_end 3 = .ok (.getfield 130, 3) := dk_180 0 130 (dk_at dksX0_end_0 3 rfl rfl)
theorem dX0_end_6 : decode cX0_end 6 = .ok (.invokestatic 137, 3) := dk_184 0 137 (dk_at dksX0_end_0 6 rfl rfl)
theorem dX0_end_9 : decode cX0_end 9 = .ok (.ifCond .ne 5, 3) := dk_154 0 5 (dk_at dksX0_end_0 9 rfl rfl)
theorem dX0_end_12 : decode cX0_end 12 = .ok (.iconst 0, 1) := dk_3 (dk_at dksX0_end_0 12 rfl rfl)
theorem dX0_end_13 : decode cX0_end 13 = .ok (.ireturn, 1) := dk_172 (dk_at dksX0_end_0 13 rfl rfl)
theorem dX0_end_14 : decode cX0_end 14 = .ok (.aload_n 0, 1) := dk_42 (dk_at dksX0_end_0 14 rfl rfl)
theorem dX0_end_15 : decode cX0_end 15 = .ok (.iload_n 1, 1) := dk_27 (dk_at dksX0_end_0 15 rfl rfl)
theorem dX0_end_16 : decode cX0_end 16 = .ok (.putfield 130, 3) := dk_181 0 130 (dk_at dksX0_end_0 16 rfl rfl)
theorem dX0_end_19 : decode cX0_end 19 = .ok (.iconst 1, 1) := dk_4 (dk_at dksX0_end_0 19 rfl rfl)
theorem dX0_end_20 : decode cX0_end 20 = .ok (.ireturn, 1) := dk_172 (dk_at dksX0_end_0 20 rfl rfl)
abbrev cX0_isIn : ByteArray := prog_1_method_1_code
def yX0_isIn : MethodName := ⟨RX0, "isIn", "(III)Z"⟩
def dkwX0_isIn_0 : List UInt8 := [26, 27, 161, 0, 12, 26, 28, 163, 0, 7, 4, 167, 0, 4, 3, 172]
abbrev dktX0_isIn_0 : List UInt8 := dkwX0_isIn_0 ++ []
theorem dksX0_isIn_0 : cX0_isIn.data.toList.drop 0 = dktX0_isIn_0 := by decide +kernel
theorem dX0_isIn_0 : decode cX0_isIn 0 = .ok (.iload_n 0, 1) := dk_26 (dk_at dksX0_isIn_0 0 rfl rfl)
theorem dX0_isIn_1 : decode cX0_isIn 1 = .ok (.iload_n 1, 1) := dk_27 (dk_at dksX0_isIn_0 1 rfl rfl)
theorem dX0_isIn_2 : decode cX0_isIn 2 = .ok (.if_icmp .lt 12, 3) := dk_161 0 12 (dk_at dksX0_isIn_0 2 rfl rfl)
theorem dX0_isIn_5 : decode cX0_isIn 5 = .ok (.iload_n 0, 1) := dk_26 (dk_at dksX0_isIn_0 5 rfl rfl)
theorem dX0_isIn_6 : decode cX0_isIn 6 = .ok (.iload_n 2, 1) := dk_28 (dk_at dksX0_isIn_0 6 rfl rfl)
theorem dX0_isIn_7 : decode cX0_isIn 7 = .ok (.if_icmp .gt 7, 3) := dk_163 0 7 (dk_at dksX0_isIn_0 7 rfl rfl)
theorem dX0_isIn_10 : decode cX0_isIn 10 = .ok (.iconst 1, 1) := dk_4 (dk_at dksX0_isIn_0 10 rfl rfl)
theorem dX0_isIn_11 : decode cX0_isIn 11 = .ok (.goto 4, 3) := dk_167 0 4 (dk_at dksX0_isIn_0 11 rfl rfl)
theorem dX0_isIn_14 : decode cX0_isIn 14 = .ok (.iconst 0, 1) := dk_3 (dk_at dksX0_isIn_0 14 rfl rfl)
theorem dX0_isIn_15 : decode cX0_isIn 15 = .ok (.ireturn, 1) := dk_172 (dk_at dksX0_isIn_0 15 rfl rfl)
abbrev cX0_text : ByteArray := prog_1_method_27_code
def yX0_text : MethodName := ⟨RX0, "text", "(I)I"⟩
def dkwX0_text_5 : List UInt8 := [181, 0, 130, 29, 172, 58, 4, 42, 3, 181, 0, 130, 25, 4, 191]
abbrev dktX0_text_5 : List UInt8 := dkwX0_text_5 ++ []
def dkwX0_text_4 : List UInt8 := [29, 172, 77, 42, 44, 180, 1, 83, 181, 1, 63, 42, 44, 180, 1, 86, 181, 0, 64, 2, 62, 42, 3]
abbrev dktX0_text_4 : List UInt8 := dkwX0_text_4 ++ dktX0_text_5
def dkwX0_text_3 : List UInt8 := [180, 0, 94, 182, 1, 74, 42, 180, 0, 82, 4, 184, 1, 77, 44, 180, 1, 52, 62, 42, 3, 181, 0, 130]
abbrev dktX0_text_3 : List UInt8 := dkwX0_text_3 ++ dktX0_text_4
def dkwX0_text_2 : List UInt8 := [27, 50, 180, 1, 19, 61, 42, 3, 181, 0, 130, 28, 172, 42, 182, 1, 70, 77, 42, 44, 181, 0, 78, 42]
abbrev dktX0_text_2 : List UInt8 := dkwX0_text_2 ++ dktX0_text_3
def dkwX0_text_1 : List UInt8 := [181, 0, 130, 28, 172, 27, 6, 162, 0, 30, 42, 180, 0, 71, 27, 42, 182, 1, 66, 83, 42, 180, 0, 71]
abbrev dktX0_text_1 : List UInt8 := dkwX0_text_1 ++ dktX0_text_2
def dkwX0_text_0 : List UInt8 := [42, 3, 181, 1, 63, 42, 2, 181, 0, 64, 27, 3, 6, 184, 0, 137, 154, 0, 12, 2, 61, 42, 3]
abbrev dktX0_text_0 : List UInt8 := dkwX0_text_0 ++ dktX0_text_1
theorem dksX0_text_0 : cX0_text.data.toList.drop 0 = dktX0_text_0 := by decide +kernel
theorem dksX0_text_1 : cX0_text.data.toList.drop 23 = dktX0_text_1 := dk_seg dksX0_text_0 23 rfl rfl
theorem dksX0_text_2 : cX0_text.data.toList.drop 47 = dktX0_text_2 := dk_seg dksX0_text_1 24 rfl rfl
theorem dksX0_text_3 : cX0_text.data.toList.drop 71 = dktX0_text_3 := dk_seg dksX0_text_2 24 rfl rfl
theorem dksX0_text_4 : cX0_text.data.toList.drop 95 = dktX0_text_4 := dk_seg dksX0_text_3 24 rfl rfl
theorem dksX0_text_5 : cX0_text.data.toList.drop 118 = dktX0_text_5 := dk_seg dksX0_text_4 23 rfl rfl
theorem dX0_text_0 : decode cX0_text 0 = .ok (.aload_n 0, 1) := dk_42 (dk_at dksX0_text_0 0 rfl rfl)
theorem dX0_text_1 : decode cX0_text 1 = .ok (.iconst 0, 1) := dk_3 (dk_at dksX0_text_0 1 rfl rfl)
theorem dX0_text_2 : decode cX0_text 2 = .ok (.putfield 319, 3) := dk_181 1 63 (dk_at dksX0_text_0 2 rfl rfl)
theorem dX0_text_5 : decode cX0_text 5 = .ok (.aload_n 0, 1) := dk_42 (dk_at dksX0_text_0 5 rfl rfl)
theorem dX0_text_6 : decode cX0_text 6 = .ok (.iconst (-1), 1) := dk_2 (dk_at dksX0_text_0 6 rfl rfl)
theorem dX0_text_7 : decode cX0_text 7 = .ok (.putfield 64, 3) := dk_181 0 64 (dk_at dksX0_text_0 7 rfl rfl)
theorem dX0_text_10 : decode cX0_text 10 = .ok (.iload_n 1, 1) := dk_27 (dk_at dksX0_text_0 10 rfl rfl)
theorem dX0_text_11 : decode cX0_text 11 = .ok (.iconst 0, 1) := dk_3 (dk_at dksX0_text_0 11 rfl rfl)
theorem dX0_text_12 : decode cX0_text 12 = .ok (.iconst 3, 1) := dk_6 (dk_at dksX0_text_0 12 rfl rfl)
theorem dX0_text_13 : decode cX0_text 13 = .ok (.invokestatic 137, 3) := dk_184 0 137 (dk_at dksX0_text_0 13 rfl rfl)
theorem dX0_text_16 : decode cX0_text 16 = .ok (.ifCond .ne 12, 3) := dk_154 0 12 (dk_at dksX0_text_0 16 rfl rfl)
theorem dX0_text_19 : decode cX0_text 19 = .ok (.iconst (-1), 1) := dk_2 (dk_at dksX0_text_0 19 rfl rfl)
theorem dX0_text_20 : decode cX0_text 20 = .ok (.istore_n 2, 1) := dk_61 (dk_at dksX0_text_0 20 rfl rfl)
theorem dX0_text_21 : decode cX0_text 21 = .ok (.aload_n 0, 1) := dk_42 (dk_at dksX0_text_0 21 rfl rfl)
theorem dX0_text_22 : decode cX0_text 22 = .ok (.iconst 0, 1) := dk_3 (dk_at dksX0_text_0 22 rfl rfl)
theorem dX0_text_23 : decode cX0_text 23 = .ok (.putfield 130, 3) := dk_181 0 130 (dk_at dksX0_text_1 0 rfl rfl)
theorem dX0_text_26 : decode cX0_text 26 = .ok (.iload_n 2, 1) := dk_28 (dk_at dksX0_text_1 3 rfl rfl)
theorem dX0_text_27 : decode cX0_text 27 = .ok (.ireturn, 1) := dk_172 (dk_at dksX0_text_1 4 rfl rfl)
theorem dX0_text_28 : decode cX0_text 28 = .ok (.iload_n 1, 1) := dk_27 (dk_at dksX0_text_1 5 rfl rfl)
theorem dX0_text_29 : decode cX0_text 29 = .ok (.iconst 3, 1) := dk_6 (dk_at dksX0_text_1 6 rfl rfl)
theorem dX0_text_30 : decode cX0_text 30 = .ok (.if_icmp .ge 30, 3) := dk_162 0 30 (dk_at dksX0_text_1 7 rfl rfl)
theorem dX0_text_33 : decode cX0_text 33 = .ok (.aload_n 0, 1) := dk_42 (dk_at dksX0_text_1 10 rfl rfl)
theorem dX0_text_34 : decode cX0_text 34 = .ok (.getfield 71, 3) := dk_180 0 71 (dk_at dksX0_text_1 11 rfl rfl)
theorem dX0_text_37 : decode cX0_text 37 = .ok (.iload_n 1, 1) := dk_27 (dk_at dksX0_text_1 14 rfl rfl)
theorem dX0_text_38 : decode cX0_text 38 = .ok (.aload_n 0, 1) := dk_42 (dk_at dksX0_text_1 15 rfl rfl)
theorem dX0_text_39 : decode cX0_text 39 = .ok (.invokevirtual 322, 3) := dk_182 1 66 (dk_at dksX0_text_1 16 rfl rfl)
theorem dX0_text_42 : decode cX0_text 42 = .ok (.aastore, 1) := dk_83 (dk_at dksX0_text_1 19 rfl rfl)
theorem dX0_text_43 : decode cX0_text 43 = .ok (.aload_n 0, 1) := dk_42 (dk_at dksX0_text_1 20 rfl rfl)
theorem dX0_text_44 : decode cX0_text 44 = .ok (.getfield 71, 3) := dk_180 0 71 (dk_at dksX0_text_1 21 rfl rfl)
theorem dX0_text_47 : decode cX0_text 47 = .ok (.iload_n 1, 1) := dk_27 (dk_at dksX0_text_2 0 rfl rfl)
theorem dX0_text_48 : decode cX0_text 48 = .ok (.aaload, 1) := dk_50 (dk_at dksX0_text_2 1 rfl rfl)
theorem dX0_text_49 : decode cX0_text 49 = .ok (.getfield 275, 3) := dk_180 1 19 (dk_at dksX0_text_2 2 rfl rfl)
theorem dX0_text_52 : decode cX0_text 52 = .ok (.istore_n 2, 1) := dk_61 (dk_at dksX0_text_2 5 rfl rfl)
theorem dX0_text_53 : decode cX0_text 53 = .ok (.aload_n 0, 1) := dk_42 (dk_at dksX0_text_2 6 rfl rfl)
theorem dX0_text_54 : decode cX0_text 54 = .ok (.iconst 0, 1) := dk_3 (dk_at dksX0_text_2 7 rfl rfl)
theorem dX0_text_55 : decode cX0_text 55 = .ok (.putfield 130, 3) := dk_181 0 130 (dk_at dksX0_text_2 8 rfl rfl)
theorem dX0_text_58 : decode cX0_text 58 = .ok (.iload_n 2, 1) := dk_28 (dk_at dksX0_text_2 11 rfl rfl)
theorem dX0_text_59 : decode cX0_text 59 = .ok (.ireturn, 1) := dk_172 (dk_at dksX0_text_2 12 rfl rfl)
theorem dX0_text_60 : decode cX0_text 60 = .ok (.aload_n 0, 1) := dk_42 (dk_at dksX0_text_2 13 rfl rfl)
theorem dX0_text_61 : decode cX0_text 61 = .ok (.invokevirtual 326, 3) := dk_182 1 70 (dk_at dksX0_text_2 14 rfl rfl)
theorem dX0_text_64 : decode cX0_text 64 = .ok (.astore_n 2, 1) := dk_77 (dk_at dksX0_text_2 17 rfl rfl)
theorem dX0_text_65 : decode cX0_text 65 = .ok (.aload_n 0, 1) := dk_42 (dk_at dksX0_text_2 18 rfl rfl)
theorem dX0_text_66 : decode cX0_text 66 = .ok (.aload_n 2, 1) := dk_44 (dk_at dksX0_text_2 19 rfl rfl)
theorem dX0_text_67 : decode cX0_text 67 = .ok (.putfield 78, 3) := dk_181 0 78 (dk_at dksX0_text_2 20 rfl rfl)
theorem dX0_text_70 : decode cX0_text 70 = .ok (.aload_n 0, 1) := dk_42 (dk_at dksX0_text_2 23 rfl rfl)
theorem dX0_text_71 : decode cX0_text 71 = .ok (.getfield 94, 3) := dk_180 0 94 (dk_at dksX0_text_3 0 rfl rfl)
theorem dX0_text_74 : decode cX0_text 74 = .ok (.invokevirtual 330, 3) := dk_182 1 74 (dk_at dksX0_text_3 3 rfl rfl)
theorem dX0_text_77 : decode cX0_text 77 = .ok (.aload_n 0, 1) := dk_42 (dk_at dksX0_text_3 6 rfl rfl)
theorem dX0_text_78 : decode cX0_text 78 = .ok (.getfield 82, 3) := dk_180 0 82 (dk_at dksX0_text_3 7 rfl rfl)
theorem dX0_text_81 : decode cX0_text 81 = .ok (.iconst 1, 1) := dk_4 (dk_at dksX0_text_3 10 rfl rfl)
theorem dX0_text_82 : decode cX0_text 82 = .ok (.invokestatic 333, 3) := dk_184 1 77 (dk_at dksX0_text_3 11 rfl rfl)
theorem dX0_text_85 : decode cX0_text 85 = .ok (.aload_n 2, 1) := dk_44 (dk_at dksX0_text_3 14 rfl rfl)
theorem dX0_text_86 : decode cX0_text 86 = .ok (.getfield 308, 3) := dk_180 1 52 (dk_at dksX0_text_3 15 rfl rfl)
theorem dX0_text_89 : decode cX0_text 89 = .ok (.istore_n 3, 1) := dk_62 (dk_at dksX0_text_3 18 rfl rfl)
theorem dX0_text_90 : decode cX0_text 90 = .ok (.aload_n 0, 1) := dk_42 (dk_at dksX0_text_3 19 rfl rfl)
theorem dX0_text_91 : decode cX0_text 91 = .ok (.iconst 0, 1) := dk_3 (dk_at dksX0_text_3 20 rfl rfl)
theorem dX0_text_92 : decode cX0_text 92 = .ok (.putfield 130, 3) := dk_181 0 130 (dk_at dksX0_text_3 21 rfl rfl)
theorem dX0_text_95 : decode cX0_text 95 = .ok (.iload_n 3, 1) := dk_29 (dk_at dksX0_text_4 0 rfl rfl)
theorem dX0_text_96 : decode cX0_text 96 = .ok (.ireturn, 1) := dk_172 (dk_at dksX0_text_4 1 rfl rfl)
theorem dX0_text_97 : decode cX0_text 97 = .ok (.astore_n 2, 1) := dk_77 (dk_at dksX0_text_4 2 rfl rfl)
theorem dX0_text_98 : decode cX0_text 98 = .ok (.aload_n 0, 1) := dk_42 (dk_at dksX0_text_4 3 rfl rfl)
theorem dX0_text_99 : decode cX0_text 99 = .ok (.aload_n 2, 1) := dk_44 (dk_at dksX0_text_4 4 rfl rfl)
theorem dX0_text_100 : decode cX0_text 100 = .ok (.getfield 339, 3) := dk_180 1 83 (dk_at dksX0_text_4 5 rfl rfl)
theorem dX0_text_103 : decode cX0_text 103 = .ok (.putfield 319, 3) := dk_181 1 63 (dk_at dksX0_text_4 8 rfl rfl)
theorem dX0_text_106 : decode cX0_text 106 = .ok (.aload_n 0, 1) := dk_42 (dk_at dksX0_text_4 11 rfl rfl)
theorem dX0_text_107 : decode cX0_text 107 = .ok (.aload_n 2, 1) := dk_44 (dk_at dksX0_text_4 12 rfl rfl)
theorem dX0_text_108 : decode cX0_text 108 = .ok (.getfield 342, 3) := dk_180 1 86 (dk_at dksX0_text_4 13 rfl rfl)
theorem dX0_text_111 : decode cX0_text 111 = .ok (.putfield 64, 3) := dk_181 0 64 (dk_at dksX0_text_4 16 rfl rfl)
theorem dX0_text_114 : decode cX0_text 114 = .ok (.iconst (-1), 1) := dk_2 (dk_at dksX0_text_4 19 rfl rfl)
theorem dX0_text_115 : decode cX0_text 115 = .ok (.istore_n 3, 1) := dk_62 (dk_at dksX0_text_4 20 rfl rfl)
theorem dX0_text_116 : decode cX0_text 116 = .ok (.aload_n 0, 1) := dk_42 (dk_at dksX0_text_4 21 rfl rfl)
theorem dX0_text_117 : decode cX0_text 117 = .ok (.iconst 0, 1) := dk_3 (dk_at dksX0_text_4 22 rfl rfl)
theorem dX0_text_118 : decode cX0_text 118 = .ok (.putfield 130, 3) := dk_181 0 130 (dk_at dksX0_text_5 0 rfl rfl)
theorem dX0_text_121 : decode cX0_text 121 = .ok (.iload_n 3, 1) := dk_29 (dk_at dksX0_text_5 3 rfl rfl)
theorem dX0_text_122 : decode cX0_text 122 = .ok (.ireturn, 1) := dk_172 (dk_at dksX0_text_5 4 rfl rfl)
theorem dX0_text_123 : decode cX0_text 123 = .ok (.astore 4, 2) := dk_58 4 (dk_at dksX0_text_5 5 rfl rfl)
theorem dX0_text_125 : decode cX0_text 125 = .ok (.aload_n 0, 1) := dk_42 (dk_at dksX0_text_5 7 rfl rfl)
theorem dX0_text_126 : decode cX0_text 126 = .ok (.iconst 0, 1) := dk_3 (dk_at dksX0_text_5 8 rfl rfl)
theorem dX0_text_127 : decode cX0_text 127 = .ok (.putfield 130, 3) := dk_181 0 130 (dk_at dksX0_text_5 9 rfl rfl)
theorem dX0_text_130 : decode cX0_text 130 = .ok (.aload 4, 2) := dk_25 4 (dk_at dksX0_text_5 12 rfl rfl)
theorem dX0_text_132 : decode cX0_text 132 = .ok (.athrow, 1) := dk_191 (dk_at dksX0_text_5 14 rfl rfl)
abbrev cX0_readsRule : ByteArray := prog_1_method_23_code
def yX0_readsRule : MethodName := ⟨RX0, "readsRule", "()LFourCars$Text;"⟩
def dkwX0_readsRule_6 : List UInt8 := [182, 1, 9, 43, 89, 180, 1, 19, 4, 96, 181, 1, 19, 167, 255, 128, 43, 176]
abbrev dktX0_readsRule_6 : List UInt8 := dkwX0_readsRule_6 ++ []
def dkwX0_readsRule_5 : List UInt8 := [153, 0, 20, 42, 182, 0, 223, 43, 180, 1, 29, 43, 180, 1, 19, 42, 182, 1, 6, 83, 42, 16, 59]
abbrev dktX0_readsRule_5 : List UInt8 := dkwX0_readsRule_5 ++ dktX0_readsRule_6
def dkwX0_readsRule_4 : List UInt8 := [154, 0, 16, 43, 180, 1, 25, 43, 180, 1, 19, 42, 182, 1, 13, 83, 42, 18, 53, 182, 0, 248]
abbrev dktX0_readsRule_4 : List UInt8 := dkwX0_readsRule_4 ++ dktX0_readsRule_5
def dkwX0_readsRule_3 : List UInt8 := [180, 0, 148, 183, 0, 212, 191, 42, 182, 0, 223, 43, 180, 1, 22, 43, 180, 1, 19, 28, 79, 28]
abbrev dktX0_readsRule_3 : List UInt8 := dkwX0_readsRule_3 ++ dktX0_readsRule_4
def dkwX0_readsRule_2 : List UInt8 := [4, 167, 0, 4, 3, 182, 0, 219, 43, 180, 1, 19, 16, 16, 160, 0, 16, 187, 0, 210, 89, 6, 42]
abbrev dktX0_readsRule_2 : List UInt8 := dkwX0_readsRule_2 ++ dktX0_readsRule_3
def dkwX0_readsRule_1 : List UInt8 := [180, 0, 159, 178, 0, 178, 165, 0, 124, 42, 42, 180, 0, 19, 182, 0, 188, 61, 42, 28, 2, 159, 0, 7]
abbrev dktX0_readsRule_1 : List UInt8 := dkwX0_readsRule_1 ++ dktX0_readsRule_2
def dkwX0_readsRule_0 : List UInt8 := [187, 0, 68, 89, 183, 0, 70, 76, 42, 3, 181, 0, 145, 42, 3, 181, 0, 245, 42, 182, 0, 223, 42]
abbrev dktX0_readsRule_0 : List UInt8 := dkwX0_readsRule_0 ++ dktX0_readsRule_1
theorem dksX0_readsRule_0 : cX0_readsRule.data.toList.drop 0 = dktX0_readsRule_0 := by decide +kernel
theorem dksX0_readsRule_1 : cX0_readsRule.data.toList.drop 23 = dktX0_readsRule_1 := dk_seg dksX0_readsRule_0 23 rfl rfl
theorem dksX0_readsRule_2 : cX0_readsRule.data.toList.drop 47 = dktX0_readsRule_2 := dk_seg dksX0_readsRule_1 24 rfl rfl
theorem dksX0_readsRule_3 : cX0_readsRule.data.toList.drop 70 = dktX0_readsRule_3 := dk_seg dksX0_readsRule_2 23 rfl rfl
theorem dksX0_readsRule_4 : cX0_readsRule.data.toList.drop 92 = dktX0_readsRule_4 := dk_seg dksX0_readsRule_3 22 rfl rfl
theorem dksX0_readsRule_5 : cX0_readsRule.data.toList.drop 114 = dktX0_readsRule_5 := dk_seg dksX0_readsRule_4 22 rfl rfl
theorem dksX0_readsRule_6 : cX0_readsRule.data.toList.drop 137 = dktX0_readsRule_6 := dk_seg dksX0_readsRule_5 23 rfl rfl
theorem dX0_readsRule_0 : decode cX0_readsRule 0 = .ok (.new 68, 3) := dk_187 0 68 (dk_at dksX0_readsRule_0 0 rfl rfl)
theorem dX0_readsRule_3 : decode cX0_readsRule 3 = .ok (.dup, 1) := dk_89 (dk_at dksX0_readsRule_0 3 rfl rfl)
theorem dX0_readsRule_4 : decode cX0_readsRule 4 = .ok (.invokespecial 70, 3) := dk_183 0 70 (dk_at dksX0_readsRule_0 4 rfl rfl)
theorem dX0_readsRule_7 : decode cX0_readsRule 7 = .ok (.astore_n 1, 1) := dk_76 (dk_at dksX0_readsRule_0 7 rfl rfl)
theorem dX0_readsRule_8 : decode cX0_readsRule 8 = .ok (.aload_n 0, 1) := dk_42 (dk_at dksX0_readsRule_0 8 rfl rfl)
theorem dX0_readsRule_9 : decode cX0_readsRule 9 = .ok (.iconst 0, 1) := dk_3 (dk_at dksX0_readsRule_0 9 rfl rfl)
theorem dX0_readsRule_10 : decode cX0_readsRule 10 = .ok (.putfield 145, 3) := dk_181 0 145 (dk_at dksX0_readsRule_0 10 rfl rfl)
theorem dX0_readsRule_13 : decode cX0_readsRule 13 = .ok (.aload_n 0, 1) := dk_42 (dk_at dksX0_readsRule_0 13 rfl rfl)
theorem dX0_readsRule_14 : decode cX0_readsRule 14 = .ok (.iconst 0, 1) := dk_3 (dk_at dksX0_readsRule_0 14 rfl rfl)
theorem dX0_readsRule_15 : decode cX0_readsRule 15 = .ok (.putfield 245, 3) := dk_181 0 245 (dk_at dksX0_readsRule_0 15 rfl rfl)
theorem dX0_readsRule_18 : decode cX0_readsRule 18 = .ok (.aload_n 0, 1) := dk_42 (dk_at dksX0_readsRule_0 18 rfl rfl)
theorem dX0_readsRule_19 : decode cX0_readsRule 19 = .ok (.invokevirtual 223, 3) := dk_182 0 223 (dk_at dksX0_readsRule_0 19 rfl rfl)
theorem dX0_readsRule_22 : decode cX0_readsRule 22 = .ok (.aload_n 0, 1) := dk_42 (dk_at dksX0_readsRule_0 22 rfl rfl)
theorem dX0_readsRule_23 : decode cX0_readsRule 23 = .ok (.getfield 159, 3) := dk_180 0 159 (dk_at dksX0_readsRule_1 0 rfl rfl)
theorem dX0_readsRule_26 : decode cX0_readsRule 26 = .ok (.getstatic 178, 3) := dk_178 0 178 (dk_at dksX0_readsRule_1 3 rfl rfl)
theorem dX0_readsRule_29 : decode cX0_readsRule 29 = .ok (.if_acmp .eq 124, 3) := dk_165 0 124 (dk_at dksX0_readsRule_1 6 rfl rfl)
theorem dX0_readsRule_32 : decode cX0_readsRule 32 = .ok (.aload_n 0, 1) := dk_42 (dk_at dksX0_readsRule_1 9 rfl rfl)
theorem dX0_readsRule_33 : decode cX0_readsRule 33 = .ok (.aload_n 0, 1) := dk_42 (dk_at dksX0_readsRule_1 10 rfl rfl)
theorem dX0_readsRule_34 : decode cX0_readsRule 34 = .ok (.getfield 19, 3) := dk_180 0 19 (dk_at dksX0_readsRule_1 11 rfl rfl)
theorem dX0_readsRule_37 : decode cX0_readsRule 37 = .ok (.invokevirtual 188, 3) := dk_182 0 188 (dk_at dksX0_readsRule_1 14 rfl rfl)
theorem dX0_readsRule_40 : decode cX0_readsRule 40 = .ok (.istore_n 2, 1) := dk_61 (dk_at dksX0_readsRule_1 17 rfl rfl)
theorem dX0_readsRule_41 : decode cX0_readsRule 41 = .ok (.aload_n 0, 1) := dk_42 (dk_at dksX0_readsRule_1 18 rfl rfl)
theorem dX0_readsRule_42 : decode cX0_readsRule 42 = .ok (.iload_n 2, 1) := dk_28 (dk_at dksX0_readsRule_1 19 rfl rfl)
theorem dX0_readsRule_43 : decode cX0_readsRule 43 = .ok (.iconst (-1), 1) := dk_2 (dk_at dksX0_readsRule_1 20 rfl rfl)
theorem dX0_readsRule_44 : decode cX0_readsRule 44 = .ok (.if_icmp .eq 7, 3) := dk_159 0 7 (dk_at dksX0_readsRule_1 21 rfl rfl)
theorem dX0_readsRule_47 : decode cX0_readsRule 47 = .ok (.iconst 1, 1) := dk_4 (dk_at dksX0_readsRule_2 0 rfl rfl)
theorem dX0_readsRule_48 : decode cX0_readsRule 48 = .ok (.goto 4, 3) := dk_167 0 4 (dk_at dksX0_readsRule_2 1 rfl rfl)
theorem dX0_readsRule_51 : decode cX0_readsRule 51 = .ok (.iconst 0, 1) := dk_3 (dk_at dksX0_readsRule_2 4 rfl rfl)
theorem dX0_readsRule_52 : decode cX0_readsRule 52 = .ok (.invokevirtual 219, 3) := dk_182 0 219 (dk_at dksX0_readsRule_2 5 rfl rfl)
theorem dX0_readsRule_55 : decode cX0_readsRule 55 = .ok (.aload_n 1, 1) := dk_43 (dk_at dksX0_readsRule_2 8 rfl rfl)
theorem dX0_readsRule_56 : decode cX0_readsRule 56 = .ok (.getfield 275, 3) := dk_180 1 19 (dk_at dksX0_readsRule_2 9 rfl rfl)
theorem dX0_readsRule_59 : decode cX0_readsRule 59 = .ok (.bipush 16, 2) := dk_16 16 (dk_at dksX0_readsRule_2 12 rfl rfl)
theorem dX0_readsRule_61 : decode cX0_readsRule 61 = .ok (.if_icmp .ne 16, 3) := dk_160 0 16 (dk_at dksX0_readsRule_2 14 rfl rfl)
theorem dX0_readsRule_64 : decode cX0_readsRule 64 = .ok (.new 210, 3) := dk_187 0 210 (dk_at dksX0_readsRule_2 17 rfl rfl)
theorem dX0_readsRule_67 : decode cX0_readsRule 67 = .ok (.dup, 1) := dk_89 (dk_at dksX0_readsRule_2 20 rfl rfl)
theorem dX0_readsRule_68 : decode cX0_readsRule 68 = .ok (.iconst 3, 1) := dk_6 (dk_at dksX0_readsRule_2 21 rfl rfl)
theorem dX0_readsRule_69 : decode cX0_readsRule 69 = .ok (.aload_n 0, 1) := dk_42 (dk_at dksX0_readsRule_2 22 rfl rfl)
theorem dX0_readsRule_70 : decode cX0_readsRule 70 = .ok (.getfield 148, 3) := dk_180 0 148 (dk_at dksX0_readsRule_3 0 rfl rfl)
theorem dX0_readsRule_73 : decode cX0_readsRule 73 = .ok (.invokespecial 212, 3) := dk_183 0 212 (dk_at dksX0_readsRule_3 3 rfl rfl)
theorem dX0_readsRule_76 : decode cX0_readsRule 76 = .ok (.athrow, 1) := dk_191 (dk_at dksX0_readsRule_3 6 rfl rfl)
theorem dX0_readsRule_77 : decode cX0_readsRule 77 = .ok (.aload_n 0, 1) := dk_42 (dk_at dksX0_readsRule_3 7 rfl rfl)
theorem dX0_readsRule_78 : decode cX0_readsRule 78 = .ok (.invokevirtual 223, 3) := dk_182 0 223 (dk_at dksX0_readsRule_3 8 rfl rfl)
theorem dX0_readsRule_81 : decode cX0_readsRule 81 = .ok (.aload_n 1, 1) := dk_43 (dk_at dksX0_readsRule_3 11 rfl rfl)
theorem dX0_readsRule_82 : decode cX0_readsRule 82 = .ok (.getfield 278, 3) := dk_180 1 22 (dk_at dksX0_readsRule_3 12 rfl rfl)
theorem dX0_readsRule_85 : decode cX0_readsRule 85 = .ok (.aload_n 1, 1) := dk_43 (dk_at dksX0_readsRule_3 15 rfl rfl)
theorem dX0_readsRule_86 : decode cX0_readsRule 86 = .ok (.getfield 275, 3) := dk_180 1 19 (dk_at dksX0_readsRule_3 16 rfl rfl)
theorem dX0_readsRule_89 : decode cX0_readsRule 89 = .ok (.iload_n 2, 1) := dk_28 (dk_at dksX0_readsRule_3 19 rfl rfl)
theorem dX0_readsRule_90 : decode cX0_readsRule 90 = .ok (.iastore, 1) := dk_79 (dk_at dksX0_readsRule_3 20 rfl rfl)
theorem dX0_readsRule_91 : decode cX0_readsRule 91 = .ok (.iload_n 2, 1) := dk_28 (dk_at dksX0_readsRule_3 21 rfl rfl)
theorem dX0_readsRule_92 : decode cX0_readsRule 92 = .ok (.ifCond .ne 16, 3) := dk_154 0 16 (dk_at dksX0_readsRule_4 0 rfl rfl)
theorem dX0_readsRule_95 : decode cX0_readsRule 95 = .ok (.aload_n 1, 1) := dk_43 (dk_at dksX0_readsRule_4 3 rfl rfl)
theorem dX0_readsRule_96 : decode cX0_readsRule 96 = .ok (.getfield 281, 3) := dk_180 1 25 (dk_at dksX0_readsRule_4 4 rfl rfl)
theorem dX0_readsRule_99 : decode cX0_readsRule 99 = .ok (.aload_n 1, 1) := dk_43 (dk_at dksX0_readsRule_4 7 rfl rfl)
theorem dX0_readsRule_100 : decode cX0_readsRule 100 = .ok (.getfield 275, 3) := dk_180 1 19 (dk_at dksX0_readsRule_4 8 rfl rfl)
theorem dX0_readsRule_103 : decode cX0_readsRule 103 = .ok (.aload_n 0, 1) := dk_42 (dk_at dksX0_readsRule_4 11 rfl rfl)
theorem dX0_readsRule_104 : decode cX0_readsRule 104 = .ok (.invokevirtual 269, 3) := dk_182 1 13 (dk_at dksX0_readsRule_4 12 rfl rfl)
theorem dX0_readsRule_107 : decode cX0_readsRule 107 = .ok (.aastore, 1) := dk_83 (dk_at dksX0_readsRule_4 15 rfl rfl)
theorem dX0_readsRule_108 : decode cX0_readsRule 108 = .ok (.aload_n 0, 1) := dk_42 (dk_at dksX0_readsRule_4 16 rfl rfl)
theorem dX0_readsRule_109 : decode cX0_readsRule 109 = .ok (.ldc 53, 2) := dk_18 53 (dk_at dksX0_readsRule_4 17 rfl rfl)
theorem dX0_readsRule_111 : decode cX0_readsRule 111 = .ok (.invokevirtual 248, 3) := dk_182 0 248 (dk_at dksX0_readsRule_4 19 rfl rfl)
theorem dX0_readsRule_114 : decode cX0_readsRule 114 = .ok (.ifCond .eq 20, 3) := dk_153 0 20 (dk_at dksX0_readsRule_5 0 rfl rfl)
theorem dX0_readsRule_117 : decode cX0_readsRule 117 = .ok (.aload_n 0, 1) := dk_42 (dk_at dksX0_readsRule_5 3 rfl rfl)
theorem dX0_readsRule_118 : decode cX0_readsRule 118 = .ok (.invokevirtual 223, 3) := dk_182 0 223 (dk_at dksX0_readsRule_5 4 rfl rfl)
theorem dX0_readsRule_121 : decode cX0_readsRule 121 = .ok (.aload_n 1, 1) := dk_43 (dk_at dksX0_readsRule_5 7 rfl rfl)
theorem dX0_readsRule_122 : decode cX0_readsRule 122 = .ok (.getfield 285, 3) := dk_180 1 29 (dk_at dksX0_readsRule_5 8 rfl rfl)
theorem dX0_readsRule_125 : decode cX0_readsRule 125 = .ok (.aload_n 1, 1) := dk_43 (dk_at dksX0_readsRule_5 11 rfl rfl)
theorem dX0_readsRule_126 : decode cX0_readsRule 126 = .ok (.getfield 275, 3) := dk_180 1 19 (dk_at dksX0_readsRule_5 12 rfl rfl)
theorem dX0_readsRule_129 : decode cX0_readsRule 129 = .ok (.aload_n 0, 1) := dk_42 (dk_at dksX0_readsRule_5 15 rfl rfl)
theorem dX0_readsRule_130 : decode cX0_readsRule 130 = .ok (.invokevirtual 262, 3) := dk_182 1 6 (dk_at dksX0_readsRule_5 16 rfl rfl)
theorem dX0_readsRule_133 : decode cX0_readsRule 133 = .ok (.aastore, 1) := dk_83 (dk_at dksX0_readsRule_5 19 rfl rfl)
theorem dX0_readsRule_134 : decode cX0_readsRule 134 = .ok (.aload_n 0, 1) := dk_42 (dk_at dksX0_readsRule_5 20 rfl rfl)
theorem dX0_readsRule_135 : decode cX0_readsRule 135 = .ok (.bipush 59, 2) := dk_16 59 (dk_at dksX0_readsRule_5 21 rfl rfl)
theorem dX0_readsRule_137 : decode cX0_readsRule 137 = .ok (.invokevirtual 265, 3) := dk_182 1 9 (dk_at dksX0_readsRule_6 0 rfl rfl)
theorem dX0_readsRule_140 : decode cX0_readsRule 140 = .ok (.aload_n 1, 1) := dk_43 (dk_at dksX0_readsRule_6 3 rfl rfl)
theorem dX0_readsRule_141 : decode cX0_readsRule 141 = .ok (.dup, 1) := dk_89 (dk_at dksX0_readsRule_6 4 rfl rfl)
theorem dX0_readsRule_142 : decode cX0_readsRule 142 = .ok (.getfield 275, 3) := dk_180 1 19 (dk_at dksX0_readsRule_6 5 rfl rfl)
theorem dX0_readsRule_145 : decode cX0_readsRule 145 = .ok (.iconst 1, 1) := dk_4 (dk_at dksX0_readsRule_6 8 rfl rfl)
theorem dX0_readsRule_146 : decode cX0_readsRule 146 = .ok (.iadd, 1) := dk_96 (dk_at dksX0_readsRule_6 9 rfl rfl)
theorem dX0_readsRule_147 : decode cX0_readsRule 147 = .ok (.putfield 275, 3) := dk_181 1 19 (dk_at dksX0_readsRule_6 10 rfl rfl)
theorem dX0_readsRule_150 : decode cX0_readsRule 150 = .ok (.goto (-128), 3) := dk_167 255 128 (dk_at dksX0_readsRule_6 13 rfl rfl)
theorem dX0_readsRule_153 : decode cX0_readsRule 153 = .ok (.aload_n 1, 1) := dk_43 (dk_at dksX0_readsRule_6 16 rfl rfl)
theorem dX0_readsRule_154 : decode cX0_readsRule 154 = .ok (.areturn, 1) := dk_176 (dk_at dksX0_readsRule_6 17 rfl rfl)
abbrev cX0_readNext : ByteArray := prog_1_method_13_code
def yX0_readNext : MethodName := ⟨RX0, "readNext", "()V"⟩
def dkwX0_readNext_13 : List UInt8 := [177]
abbrev dktX0_readNext_13 : List UInt8 := dkwX0_readNext_13 ++ []
def dkwX0_readNext_12 : List UInt8 := [167, 0, 24, 18, 205, 27, 182, 0, 207, 155, 0, 15, 42, 178, 0, 172, 181, 0, 159, 42, 27, 181, 0, 175]
abbrev dktX0_readNext_12 : List UInt8 := dkwX0_readNext_12 ++ dktX0_readNext_13
def dkwX0_readNext_11 : List UInt8 := [167, 255, 204, 42, 180, 0, 145, 42, 180, 0, 148, 100, 7, 163, 0, 34, 42, 178, 0, 202, 181, 0, 159]
abbrev dktX0_readNext_11 : List UInt8 := dkwX0_readNext_11 ++ dktX0_readNext_12
def dkwX0_readNext_10 : List UInt8 := [182, 0, 151, 96, 16, 48, 100, 184, 0, 196, 181, 0, 175, 42, 89, 180, 0, 145, 4, 96, 181, 0, 145]
abbrev dktX0_readNext_10 : List UInt8 := dkwX0_readNext_10 ++ dktX0_readNext_11
def dkwX0_readNext_9 : List UInt8 := [182, 0, 151, 184, 0, 192, 153, 0, 44, 42, 18, 195, 16, 10, 42, 180, 0, 175, 104, 42, 42, 180, 0, 145]
abbrev dktX0_readNext_9 : List UInt8 := dkwX0_readNext_9 ++ dktX0_readNext_10
def dkwX0_readNext_8 : List UInt8 := [167, 0, 117, 27, 184, 0, 192, 153, 0, 89, 42, 27, 16, 48, 100, 181, 0, 175, 42, 42, 180, 0, 145]
abbrev dktX0_readNext_8 : List UInt8 := dkwX0_readNext_8 ++ dktX0_readNext_9
def dkwX0_readNext_7 : List UInt8 := [160, 0, 139, 42, 42, 180, 0, 61, 182, 0, 188, 2, 160, 0, 127, 42, 178, 0, 181, 181, 0, 159]
abbrev dktX0_readNext_7 : List UInt8 := dkwX0_readNext_7 ++ dktX0_readNext_8
def dkwX0_readNext_6 : List UInt8 := [160, 0, 163, 42, 42, 180, 0, 29, 182, 0, 188, 2, 160, 0, 151, 42, 42, 180, 0, 50, 182, 0, 188, 2]
abbrev dktX0_readNext_6 : List UInt8 := dkwX0_readNext_6 ++ dktX0_readNext_7
def dkwX0_readNext_5 : List UInt8 := [181, 0, 145, 167, 255, 232, 42, 178, 0, 163, 181, 0, 159, 42, 42, 180, 0, 19, 182, 0, 188, 2]
abbrev dktX0_readNext_5 : List UInt8 := dkwX0_readNext_5 ++ dktX0_readNext_6
def dkwX0_readNext_4 : List UInt8 := [153, 0, 95, 42, 42, 180, 0, 145, 182, 0, 151, 184, 0, 184, 153, 0, 16, 42, 89, 180, 0, 145, 4, 96]
abbrev dktX0_readNext_4 : List UInt8 := dkwX0_readNext_4 ++ dktX0_readNext_5
def dkwX0_readNext_3 : List UInt8 := [181, 0, 159, 27, 2, 160, 0, 4, 177, 42, 89, 180, 0, 145, 4, 96, 181, 0, 145, 27, 184, 0, 184]
abbrev dktX0_readNext_3 : List UInt8 := dkwX0_readNext_3 ++ dktX0_readNext_4
def dkwX0_readNext_2 : List UInt8 := [42, 42, 180, 0, 145, 182, 0, 151, 60, 42, 27, 2, 160, 0, 9, 178, 0, 178, 167, 0, 6, 178, 0, 181]
abbrev dktX0_readNext_2 : List UInt8 := dkwX0_readNext_2 ++ dktX0_readNext_3
def dkwX0_readNext_1 : List UInt8 := [160, 0, 16, 42, 89, 180, 0, 145, 4, 96, 181, 0, 145, 167, 255, 220, 42, 42, 180, 0, 145, 181, 0, 148]
abbrev dktX0_readNext_1 : List UInt8 := dkwX0_readNext_1 ++ dktX0_readNext_2
def dkwX0_readNext_0 : List UInt8 := [42, 42, 180, 0, 145, 182, 0, 151, 16, 32, 159, 0, 16, 42, 42, 180, 0, 145, 182, 0, 151, 16, 10]
abbrev dktX0_readNext_0 : List UInt8 := dkwX0_readNext_0 ++ dktX0_readNext_1
theorem dksX0_readNext_0 : cX0_readNext.data.toList.drop 0 = dktX0_readNext_0 := by decide +kernel
theorem dksX0_readNext_1 : cX0_readNext.data.toList.drop 23 = dktX0_readNext_1 := dk_seg dksX0_readNext_0 23 rfl rfl
theorem dksX0_readNext_2 : cX0_readNext.data.toList.drop 47 = dktX0_readNext_2 := dk_seg dksX0_readNext_1 24 rfl rfl
theorem dksX0_readNext_3 : cX0_readNext.data.toList.drop 71 = dktX0_readNext_3 := dk_seg dksX0_readNext_2 24 rfl rfl
theorem dksX0_readNext_4 : cX0_readNext.data.toList.drop 94 = dktX0_readNext_4 := dk_seg dksX0_readNext_3 23 rfl rfl
theorem dksX0_readNext_5 : cX0_readNext.data.toList.drop 118 = dktX0_readNext_5 := dk_seg dksX0_readNext_4 24 rfl rfl
theorem dksX0_readNext_6 : cX0_readNext.data.toList.drop 140 = dktX0_readNext_6 := dk_seg dksX0_readNext_5 22 rfl rfl
theorem dksX0_readNext_7 : cX0_readNext.data.toList.drop 164 = dktX0_readNext_7 := dk_seg dksX0_readNext_6 24 rfl rfl
theorem dksX0_readNext_8 : cX0_readNext.data.toList.drop 186 = dktX0_readNext_8 := dk_seg dksX0_readNext_7 22 rfl rfl
