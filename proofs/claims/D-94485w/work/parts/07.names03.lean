set_option maxRecDepth 100000
theorem dX0_sums_67 : decode cX0_sums 67 = .ok (.aload 4, 2) := dk_25 4 (dk_at dksX0_sums_2 21 rfl rfl)
theorem dX0_sums_69 : decode cX0_sums 69 = .ok (.getfield 413, 3) := dk_180 1 157 (dk_at dksX0_sums_3 0 rfl rfl)
theorem dX0_sums_72 : decode cX0_sums 72 = .ok (.isub, 1) := dk_100 (dk_at dksX0_sums_3 3 rfl rfl)
theorem dX0_sums_73 : decode cX0_sums 73 = .ok (.invokestatic 434, 3) := dk_184 1 178 (dk_at dksX0_sums_3 4 rfl rfl)
theorem dX0_sums_76 : decode cX0_sums 76 = .ok (.iastore, 1) := dk_79 (dk_at dksX0_sums_3 7 rfl rfl)
theorem dX0_sums_77 : decode cX0_sums 77 = .ok (.aload 4, 2) := dk_25 4 (dk_at dksX0_sums_3 8 rfl rfl)
theorem dX0_sums_79 : decode cX0_sums 79 = .ok (.getfield 373, 3) := dk_180 1 117 (dk_at dksX0_sums_3 10 rfl rfl)
theorem dX0_sums_82 : decode cX0_sums 82 = .ok (.iconst 3, 1) := dk_6 (dk_at dksX0_sums_3 13 rfl rfl)
theorem dX0_sums_83 : decode cX0_sums 83 = .ok (.if_icmp .eq 6, 3) := dk_159 0 6 (dk_at dksX0_sums_3 14 rfl rfl)
theorem dX0_sums_86 : decode cX0_sums 86 = .ok (.goto 27, 3) := dk_167 0 27 (dk_at dksX0_sums_3 17 rfl rfl)
theorem dX0_sums_89 : decode cX0_sums 89 = .ok (.aload_n 2, 1) := dk_44 (dk_at dksX0_sums_3 20 rfl rfl)
theorem dX0_sums_90 : decode cX0_sums 90 = .ok (.iconst 1, 1) := dk_4 (dk_at dksX0_sums_3 21 rfl rfl)
theorem dX0_sums_91 : decode cX0_sums 91 = .ok (.dup2, 1) := dk_92 (dk_at dksX0_sums_3 22 rfl rfl)
theorem dX0_sums_92 : decode cX0_sums 92 = .ok (.iaload, 1) := dk_46 (dk_at dksX0_sums_3 23 rfl rfl)
theorem dX0_sums_93 : decode cX0_sums 93 = .ok (.aload 4, 2) := dk_25 4 (dk_at dksX0_sums_4 0 rfl rfl)
theorem dX0_sums_95 : decode cX0_sums 95 = .ok (.getfield 423, 3) := dk_180 1 167 (dk_at dksX0_sums_4 2 rfl rfl)
theorem dX0_sums_98 : decode cX0_sums 98 = .ok (.aload 4, 2) := dk_25 4 (dk_at dksX0_sums_4 5 rfl rfl)
theorem dX0_sums_100 : decode cX0_sums 100 = .ok (.getfield 420, 3) := dk_180 1 164 (dk_at dksX0_sums_4 7 rfl rfl)
theorem dX0_sums_103 : decode cX0_sums 103 = .ok (.isub, 1) := dk_100 (dk_at dksX0_sums_4 10 rfl rfl)
theorem dX0_sums_104 : decode cX0_sums 104 = .ok (.iadd, 1) := dk_96 (dk_at dksX0_sums_4 11 rfl rfl)
theorem dX0_sums_105 : decode cX0_sums 105 = .ok (.iastore, 1) := dk_79 (dk_at dksX0_sums_4 12 rfl rfl)
theorem dX0_sums_106 : decode cX0_sums 106 = .ok (.aload_n 2, 1) := dk_44 (dk_at dksX0_sums_4 13 rfl rfl)
theorem dX0_sums_107 : decode cX0_sums 107 = .ok (.iconst 3, 1) := dk_6 (dk_at dksX0_sums_4 14 rfl rfl)
theorem dX0_sums_108 : decode cX0_sums 108 = .ok (.dup2, 1) := dk_92 (dk_at dksX0_sums_4 15 rfl rfl)
theorem dX0_sums_109 : decode cX0_sums 109 = .ok (.iaload, 1) := dk_46 (dk_at dksX0_sums_4 16 rfl rfl)
theorem dX0_sums_110 : decode cX0_sums 110 = .ok (.iconst 1, 1) := dk_4 (dk_at dksX0_sums_4 17 rfl rfl)
theorem dX0_sums_111 : decode cX0_sums 111 = .ok (.iadd, 1) := dk_96 (dk_at dksX0_sums_4 18 rfl rfl)
theorem dX0_sums_112 : decode cX0_sums 112 = .ok (.iastore, 1) := dk_79 (dk_at dksX0_sums_4 19 rfl rfl)
theorem dX0_sums_113 : decode cX0_sums 113 = .ok (.iinc 3 1, 3) := dk_132 3 1 (dk_at dksX0_sums_4 20 rfl rfl)
theorem dX0_sums_116 : decode cX0_sums 116 = .ok (.goto (-110), 3) := dk_167 255 146 (dk_at dksX0_sums_5 0 rfl rfl)
theorem dX0_sums_119 : decode cX0_sums 119 = .ok (.iload_n 1, 1) := dk_27 (dk_at dksX0_sums_5 3 rfl rfl)
theorem dX0_sums_120 : decode cX0_sums 120 = .ok (.iconst 0, 1) := dk_3 (dk_at dksX0_sums_5 4 rfl rfl)
theorem dX0_sums_121 : decode cX0_sums 121 = .ok (.iconst 3, 1) := dk_6 (dk_at dksX0_sums_5 5 rfl rfl)
theorem dX0_sums_122 : decode cX0_sums 122 = .ok (.invokestatic 137, 3) := dk_184 0 137 (dk_at dksX0_sums_5 6 rfl rfl)
theorem dX0_sums_125 : decode cX0_sums 125 = .ok (.ifCond .eq 9, 3) := dk_153 0 9 (dk_at dksX0_sums_5 9 rfl rfl)
theorem dX0_sums_128 : decode cX0_sums 128 = .ok (.aload_n 2, 1) := dk_44 (dk_at dksX0_sums_5 12 rfl rfl)
theorem dX0_sums_129 : decode cX0_sums 129 = .ok (.iload_n 1, 1) := dk_27 (dk_at dksX0_sums_5 13 rfl rfl)
theorem dX0_sums_130 : decode cX0_sums 130 = .ok (.iaload, 1) := dk_46 (dk_at dksX0_sums_5 14 rfl rfl)
theorem dX0_sums_131 : decode cX0_sums 131 = .ok (.goto 4, 3) := dk_167 0 4 (dk_at dksX0_sums_5 15 rfl rfl)
theorem dX0_sums_134 : decode cX0_sums 134 = .ok (.iconst (-1), 1) := dk_2 (dk_at dksX0_sums_5 18 rfl rfl)
theorem dX0_sums_135 : decode cX0_sums 135 = .ok (.ireturn, 1) := dk_172 (dk_at dksX0_sums_5 19 rfl rfl)
abbrev cX0_thought : ByteArray := prog_1_method_42_code
def yX0_thought : MethodName := ⟨RX0, "thought", "(II)I"⟩
def dkwX0_thought_3 : List UInt8 := [182, 1, 191, 167, 0, 7, 42, 182, 1, 194, 172]
abbrev dktX0_thought_3 : List UInt8 := dkwX0_thought_3 ++ []
def dkwX0_thought_2 : List UInt8 := [62, 29, 2, 159, 0, 8, 28, 5, 160, 0, 7, 29, 167, 0, 22, 28, 154, 0, 14, 42, 180, 0, 98, 2]
abbrev dktX0_thought_2 : List UInt8 := dkwX0_thought_2 ++ dktX0_thought_3
def dkwX0_thought_1 : List UInt8 := [180, 0, 94, 182, 1, 184, 42, 180, 0, 98, 27, 181, 1, 130, 42, 180, 0, 98, 17, 11, 184, 182, 1, 188]
abbrev dktX0_thought_1 : List UInt8 := dkwX0_thought_1 ++ dktX0_thought_2
def dkwX0_thought_0 : List UInt8 := [27, 184, 1, 127, 153, 0, 12, 28, 3, 5, 184, 0, 137, 154, 0, 5, 2, 172, 42, 180, 0, 98, 42]
abbrev dktX0_thought_0 : List UInt8 := dkwX0_thought_0 ++ dktX0_thought_1
theorem dksX0_thought_0 : cX0_thought.data.toList.drop 0 = dktX0_thought_0 := by decide +kernel
theorem dksX0_thought_1 : cX0_thought.data.toList.drop 23 = dktX0_thought_1 := dk_seg dksX0_thought_0 23 rfl rfl
theorem dksX0_thought_2 : cX0_thought.data.toList.drop 47 = dktX0_thought_2 := dk_seg dksX0_thought_1 24 rfl rfl
theorem dksX0_thought_3 : cX0_thought.data.toList.drop 71 = dktX0_thought_3 := dk_seg dksX0_thought_2 24 rfl rfl
theorem dX0_thought_0 : decode cX0_thought 0 = .ok (.iload_n 1, 1) := dk_27 (dk_at dksX0_thought_0 0 rfl rfl)
theorem dX0_thought_1 : decode cX0_thought 1 = .ok (.invokestatic 383, 3) := dk_184 1 127 (dk_at dksX0_thought_0 1 rfl rfl)
theorem dX0_thought_4 : decode cX0_thought 4 = .ok (.ifCond .eq 12, 3) := dk_153 0 12 (dk_at dksX0_thought_0 4 rfl rfl)
theorem dX0_thought_7 : decode cX0_thought 7 = .ok (.iload_n 2, 1) := dk_28 (dk_at dksX0_thought_0 7 rfl rfl)
theorem dX0_thought_8 : decode cX0_thought 8 = .ok (.iconst 0, 1) := dk_3 (dk_at dksX0_thought_0 8 rfl rfl)
theorem dX0_thought_9 : decode cX0_thought 9 = .ok (.iconst 2, 1) := dk_5 (dk_at dksX0_thought_0 9 rfl rfl)
theorem dX0_thought_10 : decode cX0_thought 10 = .ok (.invokestatic 137, 3) := dk_184 0 137 (dk_at dksX0_thought_0 10 rfl rfl)
theorem dX0_thought_13 : decode cX0_thought 13 = .ok (.ifCond .ne 5, 3) := dk_154 0 5 (dk_at dksX0_thought_0 13 rfl rfl)
theorem dX0_thought_16 : decode cX0_thought 16 = .ok (.iconst (-1), 1) := dk_2 (dk_at dksX0_thought_0 16 rfl rfl)
theorem dX0_thought_17 : decode cX0_thought 17 = .ok (.ireturn, 1) := dk_172 (dk_at dksX0_thought_0 17 rfl rfl)
theorem dX0_thought_18 : decode cX0_thought 18 = .ok (.aload_n 0, 1) := dk_42 (dk_at dksX0_thought_0 18 rfl rfl)
theorem dX0_thought_19 : decode cX0_thought 19 = .ok (.getfield 98, 3) := dk_180 0 98 (dk_at dksX0_thought_0 19 rfl rfl)
theorem dX0_thought_22 : decode cX0_thought 22 = .ok (.aload_n 0, 1) := dk_42 (dk_at dksX0_thought_0 22 rfl rfl)
theorem dX0_thought_23 : decode cX0_thought 23 = .ok (.getfield 94, 3) := dk_180 0 94 (dk_at dksX0_thought_1 0 rfl rfl)
theorem dX0_thought_26 : decode cX0_thought 26 = .ok (.invokevirtual 440, 3) := dk_182 1 184 (dk_at dksX0_thought_1 3 rfl rfl)
theorem dX0_thought_29 : decode cX0_thought 29 = .ok (.aload_n 0, 1) := dk_42 (dk_at dksX0_thought_1 6 rfl rfl)
theorem dX0_thought_30 : decode cX0_thought 30 = .ok (.getfield 98, 3) := dk_180 0 98 (dk_at dksX0_thought_1 7 rfl rfl)
theorem dX0_thought_33 : decode cX0_thought 33 = .ok (.iload_n 1, 1) := dk_27 (dk_at dksX0_thought_1 10 rfl rfl)
theorem dX0_thought_34 : decode cX0_thought 34 = .ok (.putfield 386, 3) := dk_181 1 130 (dk_at dksX0_thought_1 11 rfl rfl)
theorem dX0_thought_37 : decode cX0_thought 37 = .ok (.aload_n 0, 1) := dk_42 (dk_at dksX0_thought_1 14 rfl rfl)
theorem dX0_thought_38 : decode cX0_thought 38 = .ok (.getfield 98, 3) := dk_180 0 98 (dk_at dksX0_thought_1 15 rfl rfl)
theorem dX0_thought_41 : decode cX0_thought 41 = .ok (.sipush 3000, 3) := dk_17 11 184 (dk_at dksX0_thought_1 18 rfl rfl)
theorem dX0_thought_44 : decode cX0_thought 44 = .ok (.invokevirtual 444, 3) := dk_182 1 188 (dk_at dksX0_thought_1 21 rfl rfl)
theorem dX0_thought_47 : decode cX0_thought 47 = .ok (.istore_n 3, 1) := dk_62 (dk_at dksX0_thought_2 0 rfl rfl)
theorem dX0_thought_48 : decode cX0_thought 48 = .ok (.iload_n 3, 1) := dk_29 (dk_at dksX0_thought_2 1 rfl rfl)
theorem dX0_thought_49 : decode cX0_thought 49 = .ok (.iconst (-1), 1) := dk_2 (dk_at dksX0_thought_2 2 rfl rfl)
theorem dX0_thought_50 : decode cX0_thought 50 = .ok (.if_icmp .eq 8, 3) := dk_159 0 8 (dk_at dksX0_thought_2 3 rfl rfl)
theorem dX0_thought_53 : decode cX0_thought 53 = .ok (.iload_n 2, 1) := dk_28 (dk_at dksX0_thought_2 6 rfl rfl)
theorem dX0_thought_54 : decode cX0_thought 54 = .ok (.iconst 2, 1) := dk_5 (dk_at dksX0_thought_2 7 rfl rfl)
theorem dX0_thought_55 : decode cX0_thought 55 = .ok (.if_icmp .ne 7, 3) := dk_160 0 7 (dk_at dksX0_thought_2 8 rfl rfl)
theorem dX0_thought_58 : decode cX0_thought 58 = .ok (.iload_n 3, 1) := dk_29 (dk_at dksX0_thought_2 11 rfl rfl)
theorem dX0_thought_59 : decode cX0_thought 59 = .ok (.goto 22, 3) := dk_167 0 22 (dk_at dksX0_thought_2 12 rfl rfl)
theorem dX0_thought_62 : decode cX0_thought 62 = .ok (.iload_n 2, 1) := dk_28 (dk_at dksX0_thought_2 15 rfl rfl)
theorem dX0_thought_63 : decode cX0_thought 63 = .ok (.ifCond .ne 14, 3) := dk_154 0 14 (dk_at dksX0_thought_2 16 rfl rfl)
theorem dX0_thought_66 : decode cX0_thought 66 = .ok (.aload_n 0, 1) := dk_42 (dk_at dksX0_thought_2 19 rfl rfl)
theorem dX0_thought_67 : decode cX0_thought 67 = .ok (.getfield 98, 3) := dk_180 0 98 (dk_at dksX0_thought_2 20 rfl rfl)
theorem dX0_thought_70 : decode cX0_thought 70 = .ok (.iconst (-1), 1) := dk_2 (dk_at dksX0_thought_2 23 rfl rfl)
theorem dX0_thought_71 : decode cX0_thought 71 = .ok (.invokevirtual 447, 3) := dk_182 1 191 (dk_at dksX0_thought_3 0 rfl rfl)
theorem dX0_thought_74 : decode cX0_thought 74 = .ok (.goto 7, 3) := dk_167 0 7 (dk_at dksX0_thought_3 3 rfl rfl)
theorem dX0_thought_77 : decode cX0_thought 77 = .ok (.aload_n 0, 1) := dk_42 (dk_at dksX0_thought_3 6 rfl rfl)
theorem dX0_thought_78 : decode cX0_thought 78 = .ok (.invokevirtual 450, 3) := dk_182 1 194 (dk_at dksX0_thought_3 7 rfl rfl)
theorem dX0_thought_81 : decode cX0_thought 81 = .ok (.ireturn, 1) := dk_172 (dk_at dksX0_thought_3 10 rfl rfl)
abbrev cX0_greatestOver : ByteArray := prog_1_method_41_code
def yX0_greatestOver : MethodName := ⟨RX0, "greatestOver", "()I"⟩
def dkwX0_greatestOver_1 : List UInt8 := [50, 182, 1, 181, 184, 1, 178, 60, 132, 2, 1, 167, 255, 225, 27, 172]
abbrev dktX0_greatestOver_1 : List UInt8 := dkwX0_greatestOver_1 ++ []
def dkwX0_greatestOver_0 : List UInt8 := [3, 60, 3, 61, 28, 42, 180, 0, 98, 180, 1, 89, 162, 0, 26, 27, 42, 180, 0, 98, 180, 1, 96, 28]
abbrev dktX0_greatestOver_0 : List UInt8 := dkwX0_greatestOver_0 ++ dktX0_greatestOver_1
theorem dksX0_greatestOver_0 : cX0_greatestOver.data.toList.drop 0 = dktX0_greatestOver_0 := by decide +kernel
theorem dksX0_greatestOver_1 : cX0_greatestOver.data.toList.drop 24 = dktX0_greatestOver_1 := dk_seg dksX0_greatestOver_0 24 rfl rfl
theorem dX0_greatestOver_0 : decode cX0_greatestOver 0 = .ok (.iconst 0, 1) := dk_3 (dk_at dksX0_greatestOver_0 0 rfl rfl)
theorem dX0_greatestOver_1 : decode cX0_greatestOver 1 = .ok (.istore_n 1, 1) := dk_60 (dk_at dksX0_greatestOver_0 1 rfl rfl)
theorem dX0_greatestOver_2 : decode cX0_greatestOver 2 = .ok (.iconst 0, 1) := dk_3 (dk_at dksX0_greatestOver_0 2 rfl rfl)
theorem dX0_greatestOver_3 : decode cX0_greatestOver 3 = .ok (.istore_n 2, 1) := dk_61 (dk_at dksX0_greatestOver_0 3 rfl rfl)
theorem dX0_greatestOver_4 : decode cX0_greatestOver 4 = .ok (.iload_n 2, 1) := dk_28 (dk_at dksX0_greatestOver_0 4 rfl rfl)
theorem dX0_greatestOver_5 : decode cX0_greatestOver 5 = .ok (.aload_n 0, 1) := dk_42 (dk_at dksX0_greatestOver_0 5 rfl rfl)
theorem dX0_greatestOver_6 : decode cX0_greatestOver 6 = .ok (.getfield 98, 3) := dk_180 0 98 (dk_at dksX0_greatestOver_0 6 rfl rfl)
theorem dX0_greatestOver_9 : decode cX0_greatestOver 9 = .ok (.getfield 345, 3) := dk_180 1 89 (dk_at dksX0_greatestOver_0 9 rfl rfl)
theorem dX0_greatestOver_12 : decode cX0_greatestOver 12 = .ok (.if_icmp .ge 26, 3) := dk_162 0 26 (dk_at dksX0_greatestOver_0 12 rfl rfl)
theorem dX0_greatestOver_15 : decode cX0_greatestOver 15 = .ok (.iload_n 1, 1) := dk_27 (dk_at dksX0_greatestOver_0 15 rfl rfl)
theorem dX0_greatestOver_16 : decode cX0_greatestOver 16 = .ok (.aload_n 0, 1) := dk_42 (dk_at dksX0_greatestOver_0 16 rfl rfl)
theorem dX0_greatestOver_17 : decode cX0_greatestOver 17 = .ok (.getfield 98, 3) := dk_180 0 98 (dk_at dksX0_greatestOver_0 17 rfl rfl)
theorem dX0_greatestOver_20 : decode cX0_greatestOver 20 = .ok (.getfield 352, 3) := dk_180 1 96 (dk_at dksX0_greatestOver_0 20 rfl rfl)
theorem dX0_greatestOver_23 : decode cX0_greatestOver 23 = .ok (.iload_n 2, 1) := dk_28 (dk_at dksX0_greatestOver_0 23 rfl rfl)
theorem dX0_greatestOver_24 : decode cX0_greatestOver 24 = .ok (.aaload, 1) := dk_50 (dk_at dksX0_greatestOver_1 0 rfl rfl)
theorem dX0_greatestOver_25 : decode cX0_greatestOver 25 = .ok (.invokevirtual 437, 3) := dk_182 1 181 (dk_at dksX0_greatestOver_1 1 rfl rfl)
theorem dX0_greatestOver_28 : decode cX0_greatestOver 28 = .ok (.invokestatic 434, 3) := dk_184 1 178 (dk_at dksX0_greatestOver_1 4 rfl rfl)
theorem dX0_greatestOver_31 : decode cX0_greatestOver 31 = .ok (.istore_n 1, 1) := dk_60 (dk_at dksX0_greatestOver_1 7 rfl rfl)
theorem dX0_greatestOver_32 : decode cX0_greatestOver 32 = .ok (.iinc 2 1, 3) := dk_132 2 1 (dk_at dksX0_greatestOver_1 8 rfl rfl)
theorem dX0_greatestOver_35 : decode cX0_greatestOver 35 = .ok (.goto (-31), 3) := dk_167 255 225 (dk_at dksX0_greatestOver_1 11 rfl rfl)
theorem dX0_greatestOver_38 : decode cX0_greatestOver 38 = .ok (.iload_n 1, 1) := dk_27 (dk_at dksX0_greatestOver_1 14 rfl rfl)
theorem dX0_greatestOver_39 : decode cX0_greatestOver 39 = .ok (.ireturn, 1) := dk_172 (dk_at dksX0_greatestOver_1 15 rfl rfl)
abbrev cX0_better : ByteArray := prog_1_method_44_code
def yX0_better : MethodName := ⟨RX0, "better", "(II)I"⟩
def dkwX0_better_2 : List UInt8 := [167, 0, 8, 27, 28, 184, 0, 196, 172]
abbrev dktX0_better_2 : List UInt8 := dkwX0_better_2 ++ []
def dkwX0_better_1 : List UInt8 := [182, 1, 201, 55, 5, 33, 22, 5, 148, 156, 0, 7, 27, 167, 0, 19, 22, 5, 33, 148, 156, 0, 7, 28]
abbrev dktX0_better_1 : List UInt8 := dkwX0_better_1 ++ dktX0_better_2
def dkwX0_better_0 : List UInt8 := [27, 184, 1, 127, 153, 0, 10, 28, 184, 1, 127, 154, 0, 5, 2, 172, 42, 27, 182, 1, 201, 66, 42, 28]
abbrev dktX0_better_0 : List UInt8 := dkwX0_better_0 ++ dktX0_better_1
theorem dksX0_better_0 : cX0_better.data.toList.drop 0 = dktX0_better_0 := by decide +kernel
theorem dksX0_better_1 : cX0_better.data.toList.drop 24 = dktX0_better_1 := dk_seg dksX0_better_0 24 rfl rfl
theorem dksX0_better_2 : cX0_better.data.toList.drop 48 = dktX0_better_2 := dk_seg dksX0_better_1 24 rfl rfl
theorem dX0_better_0 : decode cX0_better 0 = .ok (.iload_n 1, 1) := dk_27 (dk_at dksX0_better_0 0 rfl rfl)
theorem dX0_better_1 : decode cX0_better 1 = .ok (.invokestatic 383, 3) := dk_184 1 127 (dk_at dksX0_better_0 1 rfl rfl)
theorem dX0_better_4 : decode cX0_better 4 = .ok (.ifCond .eq 10, 3) := dk_153 0 10 (dk_at dksX0_better_0 4 rfl rfl)
theorem dX0_better_7 : decode cX0_better 7 = .ok (.iload_n 2, 1) := dk_28 (dk_at dksX0_better_0 7 rfl rfl)
theorem dX0_better_8 : decode cX0_better 8 = .ok (.invokestatic 383, 3) := dk_184 1 127 (dk_at dksX0_better_0 8 rfl rfl)
theorem dX0_better_11 : decode cX0_better 11 = .ok (.ifCond .ne 5, 3) := dk_154 0 5 (dk_at dksX0_better_0 11 rfl rfl)
theorem dX0_better_14 : decode cX0_better 14 = .ok (.iconst (-1), 1) := dk_2 (dk_at dksX0_better_0 14 rfl rfl)
theorem dX0_better_15 : decode cX0_better 15 = .ok (.ireturn, 1) := dk_172 (dk_at dksX0_better_0 15 rfl rfl)
theorem dX0_better_16 : decode cX0_better 16 = .ok (.aload_n 0, 1) := dk_42 (dk_at dksX0_better_0 16 rfl rfl)
theorem dX0_better_17 : decode cX0_better 17 = .ok (.iload_n 1, 1) := dk_27 (dk_at dksX0_better_0 17 rfl rfl)
theorem dX0_better_18 : decode cX0_better 18 = .ok (.invokevirtual 457, 3) := dk_182 1 201 (dk_at dksX0_better_0 18 rfl rfl)
theorem dX0_better_21 : decode cX0_better 21 = .ok (.lstore_n 3, 1) := dk_66 (dk_at dksX0_better_0 21 rfl rfl)
theorem dX0_better_22 : decode cX0_better 22 = .ok (.aload_n 0, 1) := dk_42 (dk_at dksX0_better_0 22 rfl rfl)
theorem dX0_better_23 : decode cX0_better 23 = .ok (.iload_n 2, 1) := dk_28 (dk_at dksX0_better_0 23 rfl rfl)
theorem dX0_better_24 : decode cX0_better 24 = .ok (.invokevirtual 457, 3) := dk_182 1 201 (dk_at dksX0_better_1 0 rfl rfl)
theorem dX0_better_27 : decode cX0_better 27 = .ok (.lstore 5, 2) := dk_55 5 (dk_at dksX0_better_1 3 rfl rfl)
theorem dX0_better_29 : decode cX0_better 29 = .ok (.lload_n 3, 1) := dk_33 (dk_at dksX0_better_1 5 rfl rfl)
theorem dX0_better_30 : decode cX0_better 30 = .ok (.lload 5, 2) := dk_22 5 (dk_at dksX0_better_1 6 rfl rfl)
theorem dX0_better_32 : decode cX0_better 32 = .ok (.lcmp, 1) := dk_148 (dk_at dksX0_better_1 8 rfl rfl)
theorem dX0_better_33 : decode cX0_better 33 = .ok (.ifCond .ge 7, 3) := dk_156 0 7 (dk_at dksX0_better_1 9 rfl rfl)
theorem dX0_better_36 : decode cX0_better 36 = .ok (.iload_n 1, 1) := dk_27 (dk_at dksX0_better_1 12 rfl rfl)
theorem dX0_better_37 : decode cX0_better 37 = .ok (.goto 19, 3) := dk_167 0 19 (dk_at dksX0_better_1 13 rfl rfl)
theorem dX0_better_40 : decode cX0_better 40 = .ok (.lload 5, 2) := dk_22 5 (dk_at dksX0_better_1 16 rfl rfl)
theorem dX0_better_42 : decode cX0_better 42 = .ok (.lload_n 3, 1) := dk_33 (dk_at dksX0_better_1 18 rfl rfl)
theorem dX0_better_43 : decode cX0_better 43 = .ok (.lcmp, 1) := dk_148 (dk_at dksX0_better_1 19 rfl rfl)
theorem dX0_better_44 : decode cX0_better 44 = .ok (.ifCond .ge 7, 3) := dk_156 0 7 (dk_at dksX0_better_1 20 rfl rfl)
theorem dX0_better_47 : decode cX0_better 47 = .ok (.iload_n 2, 1) := dk_28 (dk_at dksX0_better_1 23 rfl rfl)
theorem dX0_better_48 : decode cX0_better 48 = .ok (.goto 8, 3) := dk_167 0 8 (dk_at dksX0_better_2 0 rfl rfl)
theorem dX0_better_51 : decode cX0_better 51 = .ok (.iload_n 1, 1) := dk_27 (dk_at dksX0_better_2 3 rfl rfl)
theorem dX0_better_52 : decode cX0_better 52 = .ok (.iload_n 2, 1) := dk_28 (dk_at dksX0_better_2 4 rfl rfl)
theorem dX0_better_53 : decode cX0_better 53 = .ok (.invokestatic 196, 3) := dk_184 0 196 (dk_at dksX0_better_2 5 rfl rfl)
theorem dX0_better_56 : decode cX0_better 56 = .ok (.ireturn, 1) := dk_172 (dk_at dksX0_better_2 8 rfl rfl)
abbrev cX0_overBy : ByteArray := prog_1_method_43_code
def yX0_overBy : MethodName := ⟨RX0, "overBy", "(I)J"⟩
def dkwX0_overBy_2 : List UInt8 := [133, 173]
abbrev dktX0_overBy_2 : List UInt8 := dkwX0_overBy_2 ++ []
def dkwX0_overBy_1 : List UInt8 := [17, 11, 184, 182, 1, 188, 2, 160, 0, 9, 20, 1, 199, 167, 0, 12, 42, 180, 0, 98, 2, 182, 1, 191]
abbrev dktX0_overBy_1 : List UInt8 := dkwX0_overBy_1 ++ dktX0_overBy_2
def dkwX0_overBy_0 : List UInt8 := [42, 180, 0, 98, 42, 180, 0, 94, 182, 1, 184, 42, 180, 0, 98, 27, 181, 1, 130, 42, 180, 0, 98]
abbrev dktX0_overBy_0 : List UInt8 := dkwX0_overBy_0 ++ dktX0_overBy_1
theorem dksX0_overBy_0 : cX0_overBy.data.toList.drop 0 = dktX0_overBy_0 := by decide +kernel
theorem dksX0_overBy_1 : cX0_overBy.data.toList.drop 23 = dktX0_overBy_1 := dk_seg dksX0_overBy_0 23 rfl rfl
theorem dksX0_overBy_2 : cX0_overBy.data.toList.drop 47 = dktX0_overBy_2 := dk_seg dksX0_overBy_1 24 rfl rfl
theorem dX0_overBy_0 : decode cX0_overBy 0 = .ok (.aload_n 0, 1) := dk_42 (dk_at dksX0_overBy_0 0 rfl rfl)
theorem dX0_overBy_1 : decode cX0_overBy 1 = .ok (.getfield 98, 3) := dk_180 0 98 (dk_at dksX0_overBy_0 1 rfl rfl)
theorem dX0_overBy_4 : decode cX0_overBy 4 = .ok (.aload_n 0, 1) := dk_42 (dk_at dksX0_overBy_0 4 rfl rfl)
theorem dX0_overBy_5 : decode cX0_overBy 5 = .ok (.getfield 94, 3) := dk_180 0 94 (dk_at dksX0_overBy_0 5 rfl rfl)
theorem dX0_overBy_8 : decode cX0_overBy 8 = .ok (.invokevirtual 440, 3) := dk_182 1 184 (dk_at dksX0_overBy_0 8 rfl rfl)
theorem dX0_overBy_11 : decode cX0_overBy 11 = .ok (.aload_n 0, 1) := dk_42 (dk_at dksX0_overBy_0 11 rfl rfl)
theorem dX0_overBy_12 : decode cX0_overBy 12 = .ok (.getfield 98, 3) := dk_180 0 98 (dk_at dksX0_overBy_0 12 rfl rfl)
theorem dX0_overBy_15 : decode cX0_overBy 15 = .ok (.iload_n 1, 1) := dk_27 (dk_at dksX0_overBy_0 15 rfl rfl)
theorem dX0_overBy_16 : decode cX0_overBy 16 = .ok (.putfield 386, 3) := dk_181 1 130 (dk_at dksX0_overBy_0 16 rfl rfl)
theorem dX0_overBy_19 : decode cX0_overBy 19 = .ok (.aload_n 0, 1) := dk_42 (dk_at dksX0_overBy_0 19 rfl rfl)
theorem dX0_overBy_20 : decode cX0_overBy 20 = .ok (.getfield 98, 3) := dk_180 0 98 (dk_at dksX0_overBy_0 20 rfl rfl)
theorem dX0_overBy_23 : decode cX0_overBy 23 = .ok (.sipush 3000, 3) := dk_17 11 184 (dk_at dksX0_overBy_1 0 rfl rfl)
theorem dX0_overBy_26 : decode cX0_overBy 26 = .ok (.invokevirtual 444, 3) := dk_182 1 188 (dk_at dksX0_overBy_1 3 rfl rfl)
theorem dX0_overBy_29 : decode cX0_overBy 29 = .ok (.iconst (-1), 1) := dk_2 (dk_at dksX0_overBy_1 6 rfl rfl)
theorem dX0_overBy_30 : decode cX0_overBy 30 = .ok (.if_icmp .ne 9, 3) := dk_160 0 9 (dk_at dksX0_overBy_1 7 rfl rfl)
theorem dX0_overBy_33 : decode cX0_overBy 33 = .ok (.ldc2_w 455, 3) := dk_20 1 199 (dk_at dksX0_overBy_1 10 rfl rfl)
theorem dX0_overBy_36 : decode cX0_overBy 36 = .ok (.goto 12, 3) := dk_167 0 12 (dk_at dksX0_overBy_1 13 rfl rfl)
theorem dX0_overBy_39 : decode cX0_overBy 39 = .ok (.aload_n 0, 1) := dk_42 (dk_at dksX0_overBy_1 16 rfl rfl)
theorem dX0_overBy_40 : decode cX0_overBy 40 = .ok (.getfield 98, 3) := dk_180 0 98 (dk_at dksX0_overBy_1 17 rfl rfl)
theorem dX0_overBy_43 : decode cX0_overBy 43 = .ok (.iconst (-1), 1) := dk_2 (dk_at dksX0_overBy_1 20 rfl rfl)
theorem dX0_overBy_44 : decode cX0_overBy 44 = .ok (.invokevirtual 447, 3) := dk_182 1 191 (dk_at dksX0_overBy_1 21 rfl rfl)
theorem dX0_overBy_47 : decode cX0_overBy 47 = .ok (.i2l, 1) := dk_133 (dk_at dksX0_overBy_2 0 rfl rfl)
theorem dX0_overBy_48 : decode cX0_overBy 48 = .ok (.lreturn, 1) := dk_173 (dk_at dksX0_overBy_2 1 rfl rfl)
abbrev cX0_best : ByteArray := prog_1_method_48_code
def yX0_best : MethodName := ⟨RX0, "best", "(I)I"⟩
def dkwX0_best_2 : List UInt8 := [167, 0, 12, 42, 180, 0, 107, 27, 16, 10, 100, 46, 172]
abbrev dktX0_best_2 : List UInt8 := dkwX0_best_2 ++ []
def dkwX0_best_1 : List UInt8 := [184, 0, 137, 154, 0, 5, 2, 172, 42, 182, 1, 222, 61, 27, 153, 0, 8, 28, 2, 160, 0, 7, 28]
abbrev dktX0_best_1 : List UInt8 := dkwX0_best_1 ++ dktX0_best_2
def dkwX0_best_0 : List UInt8 := [42, 182, 1, 218, 153, 0, 26, 27, 153, 0, 24, 27, 16, 10, 16, 9, 42, 180, 0, 94, 180, 1, 89, 96]
abbrev dktX0_best_0 : List UInt8 := dkwX0_best_0 ++ dktX0_best_1
theorem dksX0_best_0 : cX0_best.data.toList.drop 0 = dktX0_best_0 := by decide +kernel
theorem dksX0_best_1 : cX0_best.data.toList.drop 24 = dktX0_best_1 := dk_seg dksX0_best_0 24 rfl rfl
theorem dksX0_best_2 : cX0_best.data.toList.drop 47 = dktX0_best_2 := dk_seg dksX0_best_1 23 rfl rfl
theorem dX0_best_0 : decode cX0_best 0 = .ok (.aload_n 0, 1) := dk_42 (dk_at dksX0_best_0 0 rfl rfl)
theorem dX0_best_1 : decode cX0_best 1 = .ok (.invokevirtual 474, 3) := dk_182 1 218 (dk_at dksX0_best_0 1 rfl rfl)
theorem dX0_best_4 : decode cX0_best 4 = .ok (.ifCond .eq 26, 3) := dk_153 0 26 (dk_at dksX0_best_0 4 rfl rfl)
theorem dX0_best_7 : decode cX0_best 7 = .ok (.iload_n 1, 1) := dk_27 (dk_at dksX0_best_0 7 rfl rfl)
theorem dX0_best_8 : decode cX0_best 8 = .ok (.ifCond .eq 24, 3) := dk_153 0 24 (dk_at dksX0_best_0 8 rfl rfl)
theorem dX0_best_11 : decode cX0_best 11 = .ok (.iload_n 1, 1) := dk_27 (dk_at dksX0_best_0 11 rfl rfl)
theorem dX0_best_12 : decode cX0_best 12 = .ok (.bipush 10, 2) := dk_16 10 (dk_at dksX0_best_0 12 rfl rfl)
theorem dX0_best_14 : decode cX0_best 14 = .ok (.bipush 9, 2) := dk_16 9 (dk_at dksX0_best_0 14 rfl rfl)
theorem dX0_best_16 : decode cX0_best 16 = .ok (.aload_n 0, 1) := dk_42 (dk_at dksX0_best_0 16 rfl rfl)
theorem dX0_best_17 : decode cX0_best 17 = .ok (.getfield 94, 3) := dk_180 0 94 (dk_at dksX0_best_0 17 rfl rfl)
theorem dX0_best_20 : decode cX0_best 20 = .ok (.getfield 345, 3) := dk_180 1 89 (dk_at dksX0_best_0 20 rfl rfl)
theorem dX0_best_23 : decode cX0_best 23 = .ok (.iadd, 1) := dk_96 (dk_at dksX0_best_0 23 rfl rfl)
theorem dX0_best_24 : decode cX0_best 24 = .ok (.invokestatic 137, 3) := dk_184 0 137 (dk_at dksX0_best_1 0 rfl rfl)
theorem dX0_best_27 : decode cX0_best 27 = .ok (.ifCond .ne 5, 3) := dk_154 0 5 (dk_at dksX0_best_1 3 rfl rfl)
theorem dX0_best_30 : decode cX0_best 30 = .ok (.iconst (-1), 1) := dk_2 (dk_at dksX0_best_1 6 rfl rfl)
theorem dX0_best_31 : decode cX0_best 31 = .ok (.ireturn, 1) := dk_172 (dk_at dksX0_best_1 7 rfl rfl)
theorem dX0_best_32 : decode cX0_best 32 = .ok (.aload_n 0, 1) := dk_42 (dk_at dksX0_best_1 8 rfl rfl)
theorem dX0_best_33 : decode cX0_best 33 = .ok (.invokevirtual 478, 3) := dk_182 1 222 (dk_at dksX0_best_1 9 rfl rfl)
theorem dX0_best_36 : decode cX0_best 36 = .ok (.istore_n 2, 1) := dk_61 (dk_at dksX0_best_1 12 rfl rfl)
theorem dX0_best_37 : decode cX0_best 37 = .ok (.iload_n 1, 1) := dk_27 (dk_at dksX0_best_1 13 rfl rfl)
theorem dX0_best_38 : decode cX0_best 38 = .ok (.ifCond .eq 8, 3) := dk_153 0 8 (dk_at dksX0_best_1 14 rfl rfl)
theorem dX0_best_41 : decode cX0_best 41 = .ok (.iload_n 2, 1) := dk_28 (dk_at dksX0_best_1 17 rfl rfl)
theorem dX0_best_42 : decode cX0_best 42 = .ok (.iconst (-1), 1) := dk_2 (dk_at dksX0_best_1 18 rfl rfl)
theorem dX0_best_43 : decode cX0_best 43 = .ok (.if_icmp .ne 7, 3) := dk_160 0 7 (dk_at dksX0_best_1 19 rfl rfl)
theorem dX0_best_46 : decode cX0_best 46 = .ok (.iload_n 2, 1) := dk_28 (dk_at dksX0_best_1 22 rfl rfl)
theorem dX0_best_47 : decode cX0_best 47 = .ok (.goto 12, 3) := dk_167 0 12 (dk_at dksX0_best_2 0 rfl rfl)
theorem dX0_best_50 : decode cX0_best 50 = .ok (.aload_n 0, 1) := dk_42 (dk_at dksX0_best_2 3 rfl rfl)
theorem dX0_best_51 : decode cX0_best 51 = .ok (.getfield 107, 3) := dk_180 0 107 (dk_at dksX0_best_2 4 rfl rfl)
theorem dX0_best_54 : decode cX0_best 54 = .ok (.iload_n 1, 1) := dk_27 (dk_at dksX0_best_2 7 rfl rfl)
theorem dX0_best_55 : decode cX0_best 55 = .ok (.bipush 10, 2) := dk_16 10 (dk_at dksX0_best_2 8 rfl rfl)
theorem dX0_best_57 : decode cX0_best 57 = .ok (.isub, 1) := dk_100 (dk_at dksX0_best_2 10 rfl rfl)
theorem dX0_best_58 : decode cX0_best 58 = .ok (.iaload, 1) := dk_46 (dk_at dksX0_best_2 11 rfl rfl)
theorem dX0_best_59 : decode cX0_best 59 = .ok (.ireturn, 1) := dk_172 (dk_at dksX0_best_2 12 rfl rfl)
abbrev cX0_canGive : ByteArray := prog_1_method_45_code
def yX0_canGive : MethodName := ⟨RX0, "canGive", "()Z"⟩
def dkwX0_canGive_5 : List UInt8 := [132, 1, 1, 167, 255, 225, 4, 172]
abbrev dktX0_canGive_5 : List UInt8 := dkwX0_canGive_5 ++ []
def dkwX0_canGive_4 : List UInt8 := [180, 1, 34, 162, 0, 26, 42, 180, 0, 94, 180, 1, 106, 27, 50, 180, 1, 109, 153, 0, 5, 3, 172]
abbrev dktX0_canGive_4 : List UInt8 := dkwX0_canGive_4 ++ dktX0_canGive_5
def dkwX0_canGive_3 : List UInt8 := [180, 1, 115, 2, 159, 0, 5, 3, 172, 132, 1, 1, 167, 255, 208, 3, 60, 27, 42, 180, 0, 78]
abbrev dktX0_canGive_3 : List UInt8 := dkwX0_canGive_3 ++ dktX0_canGive_4
def dkwX0_canGive_2 : List UInt8 := [180, 0, 94, 180, 1, 96, 27, 50, 180, 1, 117, 4, 163, 0, 19, 42, 180, 0, 94, 180, 1, 96, 27, 50]
abbrev dktX0_canGive_2 : List UInt8 := dkwX0_canGive_2 ++ dktX0_canGive_3
def dkwX0_canGive_1 : List UInt8 := [6, 184, 0, 137, 154, 0, 5, 3, 172, 3, 60, 27, 42, 180, 0, 94, 180, 1, 89, 162, 0, 43, 42]
abbrev dktX0_canGive_1 : List UInt8 := dkwX0_canGive_1 ++ dktX0_canGive_2
def dkwX0_canGive_0 : List UInt8 := [42, 180, 0, 94, 180, 1, 89, 4, 16, 6, 184, 0, 137, 153, 0, 18, 42, 180, 0, 78, 180, 1, 34, 4]
abbrev dktX0_canGive_0 : List UInt8 := dkwX0_canGive_0 ++ dktX0_canGive_1
theorem dksX0_canGive_0 : cX0_canGive.data.toList.drop 0 = dktX0_canGive_0 := by decide +kernel
theorem dksX0_canGive_1 : cX0_canGive.data.toList.drop 24 = dktX0_canGive_1 := dk_seg dksX0_canGive_0 24 rfl rfl
theorem dksX0_canGive_2 : cX0_canGive.data.toList.drop 47 = dktX0_canGive_2 := dk_seg dksX0_canGive_1 23 rfl rfl
theorem dksX0_canGive_3 : cX0_canGive.data.toList.drop 71 = dktX0_canGive_3 := dk_seg dksX0_canGive_2 24 rfl rfl
theorem dksX0_canGive_4 : cX0_canGive.data.toList.drop 93 = dktX0_canGive_4 := dk_seg dksX0_canGive_3 22 rfl rfl
theorem dksX0_canGive_5 : cX0_canGive.data.toList.drop 116 = dktX0_canGive_5 := dk_seg dksX0_canGive_4 23 rfl rfl
theorem dX0_canGive_0 : decode cX0_canGive 0 = .ok (.aload_n 0, 1) := dk_42 (dk_at dksX0_canGive_0 0 rfl rfl)
theorem dX0_canGive_1 : decode cX0_canGive 1 = .ok (.getfield 94, 3) := dk_180 0 94 (dk_at dksX0_canGive_0 1 rfl rfl)
theorem dX0_canGive_4 : decode cX0_canGive 4 = .ok (.getfield 345, 3) := dk_180 1 89 (dk_at dksX0_canGive_0 4 rfl rfl)
theorem dX0_canGive_7 : decode cX0_canGive 7 = .ok (.iconst 1, 1) := dk_4 (dk_at dksX0_canGive_0 7 rfl rfl)
theorem dX0_canGive_8 : decode cX0_canGive 8 = .ok (.bipush 6, 2) := dk_16 6 (dk_at dksX0_canGive_0 8 rfl rfl)
theorem dX0_canGive_10 : decode cX0_canGive 10 = .ok (.invokestatic 137, 3) := dk_184 0 137 (dk_at dksX0_canGive_0 10 rfl rfl)
theorem dX0_canGive_13 : decode cX0_canGive 13 = .ok (.ifCond .eq 18, 3) := dk_153 0 18 (dk_at dksX0_canGive_0 13 rfl rfl)
theorem dX0_canGive_16 : decode cX0_canGive 16 = .ok (.aload_n 0, 1) := dk_42 (dk_at dksX0_canGive_0 16 rfl rfl)
theorem dX0_canGive_17 : decode cX0_canGive 17 = .ok (.getfield 78, 3) := dk_180 0 78 (dk_at dksX0_canGive_0 17 rfl rfl)
theorem dX0_canGive_20 : decode cX0_canGive 20 = .ok (.getfield 290, 3) := dk_180 1 34 (dk_at dksX0_canGive_0 20 rfl rfl)
theorem dX0_canGive_23 : decode cX0_canGive 23 = .ok (.iconst 1, 1) := dk_4 (dk_at dksX0_canGive_0 23 rfl rfl)
theorem dX0_canGive_24 : decode cX0_canGive 24 = .ok (.iconst 3, 1) := dk_6 (dk_at dksX0_canGive_1 0 rfl rfl)
theorem dX0_canGive_25 : decode cX0_canGive 25 = .ok (.invokestatic 137, 3) := dk_184 0 137 (dk_at dksX0_canGive_1 1 rfl rfl)
theorem dX0_canGive_28 : decode cX0_canGive 28 = .ok (.ifCond .ne 5, 3) := dk_154 0 5 (dk_at dksX0_canGive_1 4 rfl rfl)
theorem dX0_canGive_31 : decode cX0_canGive 31 = .ok (.iconst 0, 1) := dk_3 (dk_at dksX0_canGive_1 7 rfl rfl)
theorem dX0_canGive_32 : decode cX0_canGive 32 = .ok (.ireturn, 1) := dk_172 (dk_at dksX0_canGive_1 8 rfl rfl)
theorem dX0_canGive_33 : decode cX0_canGive 33 = .ok (.iconst 0, 1) := dk_3 (dk_at dksX0_canGive_1 9 rfl rfl)
theorem dX0_canGive_34 : decode cX0_canGive 34 = .ok (.istore_n 1, 1) := dk_60 (dk_at dksX0_canGive_1 10 rfl rfl)
theorem dX0_canGive_35 : decode cX0_canGive 35 = .ok (.iload_n 1, 1) := dk_27 (dk_at dksX0_canGive_1 11 rfl rfl)
theorem dX0_canGive_36 : decode cX0_canGive 36 = .ok (.aload_n 0, 1) := dk_42 (dk_at dksX0_canGive_1 12 rfl rfl)
theorem dX0_canGive_37 : decode cX0_canGive 37 = .ok (.getfield 94, 3) := dk_180 0 94 (dk_at dksX0_canGive_1 13 rfl rfl)
theorem dX0_canGive_40 : decode cX0_canGive 40 = .ok (.getfield 345, 3) := dk_180 1 89 (dk_at dksX0_canGive_1 16 rfl rfl)
theorem dX0_canGive_43 : decode cX0_canGive 43 = .ok (.if_icmp .ge 43, 3) := dk_162 0 43 (dk_at dksX0_canGive_1 19 rfl rfl)
theorem dX0_canGive_46 : decode cX0_canGive 46 = .ok (.aload_n 0, 1) := dk_42 (dk_at dksX0_canGive_1 22 rfl rfl)
theorem dX0_canGive_47 : decode cX0_canGive 47 = .ok (.getfield 94, 3) := dk_180 0 94 (dk_at dksX0_canGive_2 0 rfl rfl)
theorem dX0_canGive_50 : decode cX0_canGive 50 = .ok (.getfield 352, 3) := dk_180 1 96 (dk_at dksX0_canGive_2 3 rfl rfl)
theorem dX0_canGive_53 : decode cX0_canGive 53 = .ok (.iload_n 1, 1) := dk_27 (dk_at dksX0_canGive_2 6 rfl rfl)
theorem dX0_canGive_54 : decode cX0_canGive 54 = .ok (.aaload, 1) := dk_50 (dk_at dksX0_canGive_2 7 rfl rfl)
theorem dX0_canGive_55 : decode cX0_canGive 55 = .ok (.getfield 373, 3) := dk_180 1 117 (dk_at dksX0_canGive_2 8 rfl rfl)
theorem dX0_canGive_58 : decode cX0_canGive 58 = .ok (.iconst 1, 1) := dk_4 (dk_at dksX0_canGive_2 11 rfl rfl)
theorem dX0_canGive_59 : decode cX0_canGive 59 = .ok (.if_icmp .gt 19, 3) := dk_163 0 19 (dk_at dksX0_canGive_2 12 rfl rfl)
theorem dX0_canGive_62 : decode cX0_canGive 62 = .ok (.aload_n 0, 1) := dk_42 (dk_at dksX0_canGive_2 15 rfl rfl)
theorem dX0_canGive_63 : decode cX0_canGive 63 = .ok (.getfield 94, 3) := dk_180 0 94 (dk_at dksX0_canGive_2 16 rfl rfl)
theorem dX0_canGive_66 : decode cX0_canGive 66 = .ok (.getfield 352, 3) := dk_180 1 96 (dk_at dksX0_canGive_2 19 rfl rfl)
theorem dX0_canGive_69 : decode cX0_canGive 69 = .ok (.iload_n 1, 1) := dk_27 (dk_at dksX0_canGive_2 22 rfl rfl)
theorem dX0_canGive_70 : decode cX0_canGive 70 = .ok (.aaload, 1) := dk_50 (dk_at dksX0_canGive_2 23 rfl rfl)
theorem dX0_canGive_71 : decode cX0_canGive 71 = .ok (.getfield 371, 3) := dk_180 1 115 (dk_at dksX0_canGive_3 0 rfl rfl)
theorem dX0_canGive_74 : decode cX0_canGive 74 = .ok (.iconst (-1), 1) := dk_2 (dk_at dksX0_canGive_3 3 rfl rfl)
theorem dX0_canGive_75 : decode cX0_canGive 75 = .ok (.if_icmp .eq 5, 3) := dk_159 0 5 (dk_at dksX0_canGive_3 4 rfl rfl)
theorem dX0_canGive_78 : decode cX0_canGive 78 = .ok (.iconst 0, 1) := dk_3 (dk_at dksX0_canGive_3 7 rfl rfl)
theorem dX0_canGive_79 : decode cX0_canGive 79 = .ok (.ireturn, 1) := dk_172 (dk_at dksX0_canGive_3 8 rfl rfl)
theorem dX0_canGive_80 : decode cX0_canGive 80 = .ok (.iinc 1 1, 3) := dk_132 1 1 (dk_at dksX0_canGive_3 9 rfl rfl)
theorem dX0_canGive_83 : decode cX0_canGive 83 = .ok (.goto (-48), 3) := dk_167 255 208 (dk_at dksX0_canGive_3 12 rfl rfl)
theorem dX0_canGive_86 : decode cX0_canGive 86 = .ok (.iconst 0, 1) := dk_3 (dk_at dksX0_canGive_3 15 rfl rfl)
theorem dX0_canGive_87 : decode cX0_canGive 87 = .ok (.istore_n 1, 1) := dk_60 (dk_at dksX0_canGive_3 16 rfl rfl)
theorem dX0_canGive_88 : decode cX0_canGive 88 = .ok (.iload_n 1, 1) := dk_27 (dk_at dksX0_canGive_3 17 rfl rfl)
theorem dX0_canGive_89 : decode cX0_canGive 89 = .ok (.aload_n 0, 1) := dk_42 (dk_at dksX0_canGive_3 18 rfl rfl)
theorem dX0_canGive_90 : decode cX0_canGive 90 = .ok (.getfield 78, 3) := dk_180 0 78 (dk_at dksX0_canGive_3 19 rfl rfl)
theorem dX0_canGive_93 : decode cX0_canGive 93 = .ok (.getfield 290, 3) := dk_180 1 34 (dk_at dksX0_canGive_4 0 rfl rfl)
theorem dX0_canGive_96 : decode cX0_canGive 96 = .ok (.if_icmp .ge 26, 3) := dk_162 0 26 (dk_at dksX0_canGive_4 3 rfl rfl)
theorem dX0_canGive_99 : decode cX0_canGive 99 = .ok (.aload_n 0, 1) := dk_42 (dk_at dksX0_canGive_4 6 rfl rfl)
theorem dX0_canGive_100 : decode cX0_canGive 100 = .ok (.getfield 94, 3) := dk_180 0 94 (dk_at dksX0_canGive_4 7 rfl rfl)
theorem dX0_canGive_103 : decode cX0_canGive 103 = .ok (.getfield 362, 3) := dk_180 1 106 (dk_at dksX0_canGive_4 10 rfl rfl)
theorem dX0_canGive_106 : decode cX0_canGive 106 = .ok (.iload_n 1, 1) := dk_27 (dk_at dksX0_canGive_4 13 rfl rfl)
theorem dX0_canGive_107 : decode cX0_canGive 107 = .ok (.aaload, 1) := dk_50 (dk_at dksX0_canGive_4 14 rfl rfl)
theorem dX0_canGive_108 : decode cX0_canGive 108 = .ok (.getfield 365, 3) := dk_180 1 109 (dk_at dksX0_canGive_4 15 rfl rfl)
theorem dX0_canGive_111 : decode cX0_canGive 111 = .ok (.ifCond .eq 5, 3) := dk_153 0 5 (dk_at dksX0_canGive_4 18 rfl rfl)
theorem dX0_canGive_114 : decode cX0_canGive 114 = .ok (.iconst 0, 1) := dk_3 (dk_at dksX0_canGive_4 21 rfl rfl)
theorem dX0_canGive_115 : decode cX0_canGive 115 = .ok (.ireturn, 1) := dk_172 (dk_at dksX0_canGive_4 22 rfl rfl)
theorem dX0_canGive_116 : decode cX0_canGive 116 = .ok (.iinc 1 1, 3) := dk_132 1 1 (dk_at dksX0_canGive_5 0 rfl rfl)
theorem dX0_canGive_119 : decode cX0_canGive 119 = .ok (.goto (-31), 3) := dk_167 255 225 (dk_at dksX0_canGive_5 3 rfl rfl)
theorem dX0_canGive_122 : decode cX0_canGive 122 = .ok (.iconst 1, 1) := dk_4 (dk_at dksX0_canGive_5 6 rfl rfl)
theorem dX0_canGive_123 : decode cX0_canGive 123 = .ok (.ireturn, 1) := dk_172 (dk_at dksX0_canGive_5 7 rfl rfl)
abbrev cX0_findsBest : ByteArray := prog_1_method_47_code
def yX0_findsBest : MethodName := ⟨RX0, "findsBest", "()I"⟩
def dkwX0_findsBest_5 : List UInt8 := [180, 0, 104, 3, 42, 180, 0, 107, 3, 16, 6, 184, 1, 212, 132, 3, 1, 167, 255, 156, 28, 172]
abbrev dktX0_findsBest_5 : List UInt8 := dkwX0_findsBest_5 ++ []
def dkwX0_findsBest_4 : List UInt8 := [2, 182, 1, 191, 54, 4, 28, 2, 159, 0, 12, 21, 4, 28, 161, 0, 6, 167, 0, 21, 21, 4, 61, 42]
abbrev dktX0_findsBest_4 : List UInt8 := dkwX0_findsBest_4 ++ dktX0_findsBest_5
def dkwX0_findsBest_3 : List UInt8 := [181, 1, 211, 42, 180, 0, 98, 17, 11, 184, 182, 1, 188, 2, 160, 0, 6, 167, 0, 45, 42, 180, 0, 98]
abbrev dktX0_findsBest_3 : List UInt8 := dkwX0_findsBest_3 ++ dktX0_findsBest_4
def dkwX0_findsBest_2 : List UInt8 := [167, 0, 84, 42, 180, 0, 98, 42, 180, 0, 94, 182, 1, 184, 42, 180, 0, 98, 42, 180, 0, 104]
abbrev dktX0_findsBest_2 : List UInt8 := dkwX0_findsBest_2 ++ dktX0_findsBest_3
def dkwX0_findsBest_1 : List UInt8 := [60, 132, 2, 1, 167, 255, 232, 2, 61, 3, 62, 29, 27, 162, 0, 101, 42, 29, 182, 1, 208, 154, 0, 6]
abbrev dktX0_findsBest_1 : List UInt8 := dkwX0_findsBest_1 ++ dktX0_findsBest_2
def dkwX0_findsBest_0 : List UInt8 := [4, 60, 3, 61, 28, 42, 180, 0, 94, 180, 1, 89, 162, 0, 19, 27, 42, 180, 0, 78, 180, 1, 34, 104]
abbrev dktX0_findsBest_0 : List UInt8 := dkwX0_findsBest_0 ++ dktX0_findsBest_1
theorem dksX0_findsBest_0 : cX0_findsBest.data.toList.drop 0 = dktX0_findsBest_0 := by decide +kernel
theorem dksX0_findsBest_1 : cX0_findsBest.data.toList.drop 24 = dktX0_findsBest_1 := dk_seg dksX0_findsBest_0 24 rfl rfl
theorem dksX0_findsBest_2 : cX0_findsBest.data.toList.drop 48 = dktX0_findsBest_2 := dk_seg dksX0_findsBest_1 24 rfl rfl
theorem dksX0_findsBest_3 : cX0_findsBest.data.toList.drop 70 = dktX0_findsBest_3 := dk_seg dksX0_findsBest_2 22 rfl rfl
theorem dksX0_findsBest_4 : cX0_findsBest.data.toList.drop 94 = dktX0_findsBest_4 := dk_seg dksX0_findsBest_3 24 rfl rfl
theorem dksX0_findsBest_5 : cX0_findsBest.data.toList.drop 118 = dktX0_findsBest_5 := dk_seg dksX0_findsBest_4 24 rfl rfl
theorem dX0_findsBest_0 : decode cX0_findsBest 0 = .ok (.iconst 1, 1) := dk_4 (dk_at dksX0_findsBest_0 0 rfl rfl)
theorem dX0_findsBest_1 : decode cX0_findsBest 1 = .ok (.istore_n 1, 1) := dk_60 (dk_at dksX0_findsBest_0 1 rfl rfl)
theorem dX0_findsBest_2 : decode cX0_findsBest 2 = .ok (.iconst 0, 1) := dk_3 (dk_at dksX0_findsBest_0 2 rfl rfl)
theorem dX0_findsBest_3 : decode cX0_findsBest 3 = .ok (.istore_n 2, 1) := dk_61 (dk_at dksX0_findsBest_0 3 rfl rfl)
theorem dX0_findsBest_4 : decode cX0_findsBest 4 = .ok (.iload_n 2, 1) := dk_28 (dk_at dksX0_findsBest_0 4 rfl rfl)
theorem dX0_findsBest_5 : decode cX0_findsBest 5 = .ok (.aload_n 0, 1) := dk_42 (dk_at dksX0_findsBest_0 5 rfl rfl)
theorem dX0_findsBest_6 : decode cX0_findsBest 6 = .ok (.getfield 94, 3) := dk_180 0 94 (dk_at dksX0_findsBest_0 6 rfl rfl)
theorem dX0_findsBest_9 : decode cX0_findsBest 9 = .ok (.getfield 345, 3) := dk_180 1 89 (dk_at dksX0_findsBest_0 9 rfl rfl)
theorem dX0_findsBest_12 : decode cX0_findsBest 12 = .ok (.if_icmp .ge 19, 3) := dk_162 0 19 (dk_at dksX0_findsBest_0 12 rfl rfl)
theorem dX0_findsBest_15 : decode cX0_findsBest 15 = .ok (.iload_n 1, 1) := dk_27 (dk_at dksX0_findsBest_0 15 rfl rfl)
theorem dX0_findsBest_16 : decode cX0_findsBest 16 = .ok (.aload_n 0, 1) := dk_42 (dk_at dksX0_findsBest_0 16 rfl rfl)
theorem dX0_findsBest_17 : decode cX0_findsBest 17 = .ok (.getfield 78, 3) := dk_180 0 78 (dk_at dksX0_findsBest_0 17 rfl rfl)
theorem dX0_findsBest_20 : decode cX0_findsBest 20 = .ok (.getfield 290, 3) := dk_180 1 34 (dk_at dksX0_findsBest_0 20 rfl rfl)
theorem dX0_findsBest_23 : decode cX0_findsBest 23 = .ok (.imul, 1) := dk_104 (dk_at dksX0_findsBest_0 23 rfl rfl)
theorem dX0_findsBest_24 : decode cX0_findsBest 24 = .ok (.istore_n 1, 1) := dk_60 (dk_at dksX0_findsBest_1 0 rfl rfl)
theorem dX0_findsBest_25 : decode cX0_findsBest 25 = .ok (.iinc 2 1, 3) := dk_132 2 1 (dk_at dksX0_findsBest_1 1 rfl rfl)
theorem dX0_findsBest_28 : decode cX0_findsBest 28 = .ok (.goto (-24), 3) := dk_167 255 232 (dk_at dksX0_findsBest_1 4 rfl rfl)
theorem dX0_findsBest_31 : decode cX0_findsBest 31 = .ok (.iconst (-1), 1) := dk_2 (dk_at dksX0_findsBest_1 7 rfl rfl)
theorem dX0_findsBest_32 : decode cX0_findsBest 32 = .ok (.istore_n 2, 1) := dk_61 (dk_at dksX0_findsBest_1 8 rfl rfl)
theorem dX0_findsBest_33 : decode cX0_findsBest 33 = .ok (.iconst 0, 1) := dk_3 (dk_at dksX0_findsBest_1 9 rfl rfl)
theorem dX0_findsBest_34 : decode cX0_findsBest 34 = .ok (.istore_n 3, 1) := dk_62 (dk_at dksX0_findsBest_1 10 rfl rfl)
theorem dX0_findsBest_35 : decode cX0_findsBest 35 = .ok (.iload_n 3, 1) := dk_29 (dk_at dksX0_findsBest_1 11 rfl rfl)
theorem dX0_findsBest_36 : decode cX0_findsBest 36 = .ok (.iload_n 1, 1) := dk_27 (dk_at dksX0_findsBest_1 12 rfl rfl)
theorem dX0_findsBest_37 : decode cX0_findsBest 37 = .ok (.if_icmp .ge 101, 3) := dk_162 0 101 (dk_at dksX0_findsBest_1 13 rfl rfl)
theorem dX0_findsBest_40 : decode cX0_findsBest 40 = .ok (.aload_n 0, 1) := dk_42 (dk_at dksX0_findsBest_1 16 rfl rfl)
theorem dX0_findsBest_41 : decode cX0_findsBest 41 = .ok (.iload_n 3, 1) := dk_29 (dk_at dksX0_findsBest_1 17 rfl rfl)
theorem dX0_findsBest_42 : decode cX0_findsBest 42 = .ok (.invokevirtual 464, 3) := dk_182 1 208 (dk_at dksX0_findsBest_1 18 rfl rfl)
theorem dX0_findsBest_45 : decode cX0_findsBest 45 = .ok (.ifCond .ne 6, 3) := dk_154 0 6 (dk_at dksX0_findsBest_1 21 rfl rfl)
theorem dX0_findsBest_48 : decode cX0_findsBest 48 = .ok (.goto 84, 3) := dk_167 0 84 (dk_at dksX0_findsBest_2 0 rfl rfl)
theorem dX0_findsBest_51 : decode cX0_findsBest 51 = .ok (.aload_n 0, 1) := dk_42 (dk_at dksX0_findsBest_2 3 rfl rfl)
theorem dX0_findsBest_52 : decode cX0_findsBest 52 = .ok (.getfield 98, 3) := dk_180 0 98 (dk_at dksX0_findsBest_2 4 rfl rfl)
theorem dX0_findsBest_55 : decode cX0_findsBest 55 = .ok (.aload_n 0, 1) := dk_42 (dk_at dksX0_findsBest_2 7 rfl rfl)
theorem dX0_findsBest_56 : decode cX0_findsBest 56 = .ok (.getfield 94, 3) := dk_180 0 94 (dk_at dksX0_findsBest_2 8 rfl rfl)
theorem dX0_findsBest_59 : decode cX0_findsBest 59 = .ok (.invokevirtual 440, 3) := dk_182 1 184 (dk_at dksX0_findsBest_2 11 rfl rfl)
theorem dX0_findsBest_62 : decode cX0_findsBest 62 = .ok (.aload_n 0, 1) := dk_42 (dk_at dksX0_findsBest_2 14 rfl rfl)
theorem dX0_findsBest_63 : decode cX0_findsBest 63 = .ok (.getfield 98, 3) := dk_180 0 98 (dk_at dksX0_findsBest_2 15 rfl rfl)
theorem dX0_findsBest_66 : decode cX0_findsBest 66 = .ok (.aload_n 0, 1) := dk_42 (dk_at dksX0_findsBest_2 18 rfl rfl)
theorem dX0_findsBest_67 : decode cX0_findsBest 67 = .ok (.getfield 104, 3) := dk_180 0 104 (dk_at dksX0_findsBest_2 19 rfl rfl)
theorem dX0_findsBest_70 : decode cX0_findsBest 70 = .ok (.putfield 467, 3) := dk_181 1 211 (dk_at dksX0_findsBest_3 0 rfl rfl)
theorem dX0_findsBest_73 : decode cX0_findsBest 73 = .ok (.aload_n 0, 1) := dk_42 (dk_at dksX0_findsBest_3 3 rfl rfl)
theorem dX0_findsBest_74 : decode cX0_findsBest 74 = .ok (.getfield 98, 3) := dk_180 0 98 (dk_at dksX0_findsBest_3 4 rfl rfl)
theorem dX0_findsBest_77 : decode cX0_findsBest 77 = .ok (.sipush 3000, 3) := dk_17 11 184 (dk_at dksX0_findsBest_3 7 rfl rfl)
theorem dX0_findsBest_80 : decode cX0_findsBest 80 = .ok (.invokevirtual 444, 3) := dk_182 1 188 (dk_at dksX0_findsBest_3 10 rfl rfl)
theorem dX0_findsBest_83 : decode cX0_findsBest 83 = .ok (.iconst (-1), 1) := dk_2 (dk_at dksX0_findsBest_3 13 rfl rfl)
theorem dX0_findsBest_84 : decode cX0_findsBest 84 = .ok (.if_icmp .ne 6, 3) := dk_160 0 6 (dk_at dksX0_findsBest_3 14 rfl rfl)
theorem dX0_findsBest_87 : decode cX0_findsBest 87 = .ok (.goto 45, 3) := dk_167 0 45 (dk_at dksX0_findsBest_3 17 rfl rfl)
theorem dX0_findsBest_90 : decode cX0_findsBest 90 = .ok (.aload_n 0, 1) := dk_42 (dk_at dksX0_findsBest_3 20 rfl rfl)
theorem dX0_findsBest_91 : decode cX0_findsBest 91 = .ok (.getfield 98, 3) := dk_180 0 98 (dk_at dksX0_findsBest_3 21 rfl rfl)
theorem dX0_findsBest_94 : decode cX0_findsBest 94 = .ok (.iconst (-1), 1) := dk_2 (dk_at dksX0_findsBest_4 0 rfl rfl)
theorem dX0_findsBest_95 : decode cX0_findsBest 95 = .ok (.invokevirtual 447, 3) := dk_182 1 191 (dk_at dksX0_findsBest_4 1 rfl rfl)
theorem dX0_findsBest_98 : decode cX0_findsBest 98 = .ok (.istore 4, 2) := dk_54 4 (dk_at dksX0_findsBest_4 4 rfl rfl)
theorem dX0_findsBest_100 : decode cX0_findsBest 100 = .ok (.iload_n 2, 1) := dk_28 (dk_at dksX0_findsBest_4 6 rfl rfl)
theorem dX0_findsBest_101 : decode cX0_findsBest 101 = .ok (.iconst (-1), 1) := dk_2 (dk_at dksX0_findsBest_4 7 rfl rfl)
theorem dX0_findsBest_102 : decode cX0_findsBest 102 = .ok (.if_icmp .eq 12, 3) := dk_159 0 12 (dk_at dksX0_findsBest_4 8 rfl rfl)
theorem dX0_findsBest_105 : decode cX0_findsBest 105 = .ok (.iload 4, 2) := dk_21 4 (dk_at dksX0_findsBest_4 11 rfl rfl)
theorem dX0_findsBest_107 : decode cX0_findsBest 107 = .ok (.iload_n 2, 1) := dk_28 (dk_at dksX0_findsBest_4 13 rfl rfl)
theorem dX0_findsBest_108 : decode cX0_findsBest 108 = .ok (.if_icmp .lt 6, 3) := dk_161 0 6 (dk_at dksX0_findsBest_4 14 rfl rfl)
theorem dX0_findsBest_111 : decode cX0_findsBest 111 = .ok (.goto 21, 3) := dk_167 0 21 (dk_at dksX0_findsBest_4 17 rfl rfl)
theorem dX0_findsBest_114 : decode cX0_findsBest 114 = .ok (.iload 4, 2) := dk_21 4 (dk_at dksX0_findsBest_4 20 rfl rfl)
theorem dX0_findsBest_116 : decode cX0_findsBest 116 = .ok (.istore_n 2, 1) := dk_61 (dk_at dksX0_findsBest_4 22 rfl rfl)
theorem dX0_findsBest_117 : decode cX0_findsBest 117 = .ok (.aload_n 0, 1) := dk_42 (dk_at dksX0_findsBest_4 23 rfl rfl)
theorem dX0_findsBest_118 : decode cX0_findsBest 118 = .ok (.getfield 104, 3) := dk_180 0 104 (dk_at dksX0_findsBest_5 0 rfl rfl)
theorem dX0_findsBest_121 : decode cX0_findsBest 121 = .ok (.iconst 0, 1) := dk_3 (dk_at dksX0_findsBest_5 3 rfl rfl)
theorem dX0_findsBest_122 : decode cX0_findsBest 122 = .ok (.aload_n 0, 1) := dk_42 (dk_at dksX0_findsBest_5 4 rfl rfl)
theorem dX0_findsBest_123 : decode cX0_findsBest 123 = .ok (.getfield 107, 3) := dk_180 0 107 (dk_at dksX0_findsBest_5 5 rfl rfl)
theorem dX0_findsBest_126 : decode cX0_findsBest 126 = .ok (.iconst 0, 1) := dk_3 (dk_at dksX0_findsBest_5 8 rfl rfl)
theorem dX0_findsBest_127 : decode cX0_findsBest 127 = .ok (.bipush 6, 2) := dk_16 6 (dk_at dksX0_findsBest_5 9 rfl rfl)
theorem dX0_findsBest_129 : decode cX0_findsBest 129 = .ok (.invokestatic 468, 3) := dk_184 1 212 (dk_at dksX0_findsBest_5 11 rfl rfl)
theorem dX0_findsBest_132 : decode cX0_findsBest 132 = .ok (.iinc 3 1, 3) := dk_132 3 1 (dk_at dksX0_findsBest_5 14 rfl rfl)
theorem dX0_findsBest_135 : decode cX0_findsBest 135 = .ok (.goto (-100), 3) := dk_167 255 156 (dk_at dksX0_findsBest_5 17 rfl rfl)
theorem dX0_findsBest_138 : decode cX0_findsBest 138 = .ok (.iload_n 2, 1) := dk_28 (dk_at dksX0_findsBest_5 20 rfl rfl)
theorem dX0_findsBest_139 : decode cX0_findsBest 139 = .ok (.ireturn, 1) := dk_172 (dk_at dksX0_findsBest_5 21 rfl rfl)
abbrev cX0_gives : ByteArray := prog_1_method_46_code
def yX0_gives : MethodName := ⟨RX0, "gives", "(I)Z"⟩
def dkwX0_gives_4 : List UInt8 := [172]
abbrev dktX0_gives_4 : List UInt8 := dkwX0_gives_4 ++ []
def dkwX0_gives_3 : List UInt8 := [180, 0, 94, 180, 1, 96, 21, 4, 50, 180, 1, 161, 182, 1, 205, 126, 62, 132, 4, 255, 167, 255, 179, 29]
abbrev dktX0_gives_3 : List UInt8 := dkwX0_gives_3 ++ dktX0_gives_4
def dkwX0_gives_2 : List UInt8 := [180, 0, 78, 42, 180, 0, 104, 21, 4, 46, 42, 180, 0, 94, 180, 1, 96, 21, 4, 50, 180, 1, 160, 42]
abbrev dktX0_gives_2 : List UInt8 := dkwX0_gives_2 ++ dktX0_gives_3
def dkwX0_gives_1 : List UInt8 := [21, 4, 28, 42, 180, 0, 78, 180, 1, 34, 112, 79, 28, 42, 180, 0, 78, 180, 1, 34, 108, 61, 29, 42]
abbrev dktX0_gives_1 : List UInt8 := dkwX0_gives_1 ++ dktX0_gives_2
def dkwX0_gives_0 : List UInt8 := [27, 61, 4, 62, 42, 180, 0, 94, 180, 1, 89, 4, 100, 54, 4, 21, 4, 155, 0, 78, 42, 180, 0, 104]
abbrev dktX0_gives_0 : List UInt8 := dkwX0_gives_0 ++ dktX0_gives_1
theorem dksX0_gives_0 : cX0_gives.data.toList.drop 0 = dktX0_gives_0 := by decide +kernel
theorem dksX0_gives_1 : cX0_gives.data.toList.drop 24 = dktX0_gives_1 := dk_seg dksX0_gives_0 24 rfl rfl
theorem dksX0_gives_2 : cX0_gives.data.toList.drop 48 = dktX0_gives_2 := dk_seg dksX0_gives_1 24 rfl rfl
theorem dksX0_gives_3 : cX0_gives.data.toList.drop 72 = dktX0_gives_3 := dk_seg dksX0_gives_2 24 rfl rfl
theorem dksX0_gives_4 : cX0_gives.data.toList.drop 96 = dktX0_gives_4 := dk_seg dksX0_gives_3 24 rfl rfl
theorem dX0_gives_0 : decode cX0_gives 0 = .ok (.iload_n 1, 1) := dk_27 (dk_at dksX0_gives_0 0 rfl rfl)
theorem dX0_gives_1 : decode cX0_gives 1 = .ok (.istore_n 2, 1) := dk_61 (dk_at dksX0_gives_0 1 rfl rfl)
theorem dX0_gives_2 : decode cX0_gives 2 = .ok (.iconst 1, 1) := dk_4 (dk_at dksX0_gives_0 2 rfl rfl)
theorem dX0_gives_3 : decode cX0_gives 3 = .ok (.istore_n 3, 1) := dk_62 (dk_at dksX0_gives_0 3 rfl rfl)
theorem dX0_gives_4 : decode cX0_gives 4 = .ok (.aload_n 0, 1) := dk_42 (dk_at dksX0_gives_0 4 rfl rfl)
theorem dX0_gives_5 : decode cX0_gives 5 = .ok (.getfield 94, 3) := dk_180 0 94 (dk_at dksX0_gives_0 5 rfl rfl)
theorem dX0_gives_8 : decode cX0_gives 8 = .ok (.getfield 345, 3) := dk_180 1 89 (dk_at dksX0_gives_0 8 rfl rfl)
theorem dX0_gives_11 : decode cX0_gives 11 = .ok (.iconst 1, 1) := dk_4 (dk_at dksX0_gives_0 11 rfl rfl)
theorem dX0_gives_12 : decode cX0_gives 12 = .ok (.isub, 1) := dk_100 (dk_at dksX0_gives_0 12 rfl rfl)
theorem dX0_gives_13 : decode cX0_gives 13 = .ok (.istore 4, 2) := dk_54 4 (dk_at dksX0_gives_0 13 rfl rfl)
theorem dX0_gives_15 : decode cX0_gives 15 = .ok (.iload 4, 2) := dk_21 4 (dk_at dksX0_gives_0 15 rfl rfl)
theorem dX0_gives_17 : decode cX0_gives 17 = .ok (.ifCond .lt 78, 3) := dk_155 0 78 (dk_at dksX0_gives_0 17 rfl rfl)
theorem dX0_gives_20 : decode cX0_gives 20 = .ok (.aload_n 0, 1) := dk_42 (dk_at dksX0_gives_0 20 rfl rfl)
theorem dX0_gives_21 : decode cX0_gives 21 = .ok (.getfield 104, 3) := dk_180 0 104 (dk_at dksX0_gives_0 21 rfl rfl)
theorem dX0_gives_24 : decode cX0_gives 24 = .ok (.iload 4, 2) := dk_21 4 (dk_at dksX0_gives_1 0 rfl rfl)
theorem dX0_gives_26 : decode cX0_gives 26 = .ok (.iload_n 2, 1) := dk_28 (dk_at dksX0_gives_1 2 rfl rfl)
theorem dX0_gives_27 : decode cX0_gives 27 = .ok (.aload_n 0, 1) := dk_42 (dk_at dksX0_gives_1 3 rfl rfl)
theorem dX0_gives_28 : decode cX0_gives 28 = .ok (.getfield 78, 3) := dk_180 0 78 (dk_at dksX0_gives_1 4 rfl rfl)
theorem dX0_gives_31 : decode cX0_gives 31 = .ok (.getfield 290, 3) := dk_180 1 34 (dk_at dksX0_gives_1 7 rfl rfl)
theorem dX0_gives_34 : decode cX0_gives 34 = .ok (.irem, 1) := dk_112 (dk_at dksX0_gives_1 10 rfl rfl)
theorem dX0_gives_35 : decode cX0_gives 35 = .ok (.iastore, 1) := dk_79 (dk_at dksX0_gives_1 11 rfl rfl)
theorem dX0_gives_36 : decode cX0_gives 36 = .ok (.iload_n 2, 1) := dk_28 (dk_at dksX0_gives_1 12 rfl rfl)
theorem dX0_gives_37 : decode cX0_gives 37 = .ok (.aload_n 0, 1) := dk_42 (dk_at dksX0_gives_1 13 rfl rfl)
theorem dX0_gives_38 : decode cX0_gives 38 = .ok (.getfield 78, 3) := dk_180 0 78 (dk_at dksX0_gives_1 14 rfl rfl)
theorem dX0_gives_41 : decode cX0_gives 41 = .ok (.getfield 290, 3) := dk_180 1 34 (dk_at dksX0_gives_1 17 rfl rfl)
theorem dX0_gives_44 : decode cX0_gives 44 = .ok (.idiv, 1) := dk_108 (dk_at dksX0_gives_1 20 rfl rfl)
theorem dX0_gives_45 : decode cX0_gives 45 = .ok (.istore_n 2, 1) := dk_61 (dk_at dksX0_gives_1 21 rfl rfl)
theorem dX0_gives_46 : decode cX0_gives 46 = .ok (.iload_n 3, 1) := dk_29 (dk_at dksX0_gives_1 22 rfl rfl)
theorem dX0_gives_47 : decode cX0_gives 47 = .ok (.aload_n 0, 1) := dk_42 (dk_at dksX0_gives_1 23 rfl rfl)
theorem dX0_gives_48 : decode cX0_gives 48 = .ok (.getfield 78, 3) := dk_180 0 78 (dk_at dksX0_gives_2 0 rfl rfl)
theorem dX0_gives_51 : decode cX0_gives 51 = .ok (.aload_n 0, 1) := dk_42 (dk_at dksX0_gives_2 3 rfl rfl)
theorem dX0_gives_52 : decode cX0_gives 52 = .ok (.getfield 104, 3) := dk_180 0 104 (dk_at dksX0_gives_2 4 rfl rfl)
theorem dX0_gives_55 : decode cX0_gives 55 = .ok (.iload 4, 2) := dk_21 4 (dk_at dksX0_gives_2 7 rfl rfl)
theorem dX0_gives_57 : decode cX0_gives 57 = .ok (.iaload, 1) := dk_46 (dk_at dksX0_gives_2 9 rfl rfl)
theorem dX0_gives_58 : decode cX0_gives 58 = .ok (.aload_n 0, 1) := dk_42 (dk_at dksX0_gives_2 10 rfl rfl)
theorem dX0_gives_59 : decode cX0_gives 59 = .ok (.getfield 94, 3) := dk_180 0 94 (dk_at dksX0_gives_2 11 rfl rfl)
theorem dX0_gives_62 : decode cX0_gives 62 = .ok (.getfield 352, 3) := dk_180 1 96 (dk_at dksX0_gives_2 14 rfl rfl)
theorem dX0_gives_65 : decode cX0_gives 65 = .ok (.iload 4, 2) := dk_21 4 (dk_at dksX0_gives_2 17 rfl rfl)
theorem dX0_gives_67 : decode cX0_gives 67 = .ok (.aaload, 1) := dk_50 (dk_at dksX0_gives_2 19 rfl rfl)
theorem dX0_gives_68 : decode cX0_gives 68 = .ok (.getfield 416, 3) := dk_180 1 160 (dk_at dksX0_gives_2 20 rfl rfl)
theorem dX0_gives_71 : decode cX0_gives 71 = .ok (.aload_n 0, 1) := dk_42 (dk_at dksX0_gives_2 23 rfl rfl)
theorem dX0_gives_72 : decode cX0_gives 72 = .ok (.getfield 94, 3) := dk_180 0 94 (dk_at dksX0_gives_3 0 rfl rfl)
theorem dX0_gives_75 : decode cX0_gives 75 = .ok (.getfield 352, 3) := dk_180 1 96 (dk_at dksX0_gives_3 3 rfl rfl)
theorem dX0_gives_78 : decode cX0_gives 78 = .ok (.iload 4, 2) := dk_21 4 (dk_at dksX0_gives_3 6 rfl rfl)
theorem dX0_gives_80 : decode cX0_gives 80 = .ok (.aaload, 1) := dk_50 (dk_at dksX0_gives_3 8 rfl rfl)
theorem dX0_gives_81 : decode cX0_gives 81 = .ok (.getfield 417, 3) := dk_180 1 161 (dk_at dksX0_gives_3 9 rfl rfl)
theorem dX0_gives_84 : decode cX0_gives 84 = .ok (.invokevirtual 461, 3) := dk_182 1 205 (dk_at dksX0_gives_3 12 rfl rfl)
theorem dX0_gives_87 : decode cX0_gives 87 = .ok (.iand, 1) := dk_126 (dk_at dksX0_gives_3 15 rfl rfl)
theorem dX0_gives_88 : decode cX0_gives 88 = .ok (.istore_n 3, 1) := dk_62 (dk_at dksX0_gives_3 16 rfl rfl)
theorem dX0_gives_89 : decode cX0_gives 89 = .ok (.iinc 4 (-1), 3) := dk_132 4 255 (dk_at dksX0_gives_3 17 rfl rfl)
theorem dX0_gives_92 : decode cX0_gives 92 = .ok (.goto (-77), 3) := dk_167 255 179 (dk_at dksX0_gives_3 20 rfl rfl)
theorem dX0_gives_95 : decode cX0_gives 95 = .ok (.iload_n 3, 1) := dk_29 (dk_at dksX0_gives_3 23 rfl rfl)
theorem dX0_gives_96 : decode cX0_gives 96 = .ok (.ireturn, 1) := dk_172 (dk_at dksX0_gives_4 0 rfl rfl)
abbrev cX0_mornings : ByteArray := prog_1_method_51_code
def yX0_mornings : MethodName := ⟨RX0, "mornings", "(IIII)I"⟩
def dkwX0_mornings_5 : List UInt8 := [28, 21, 7, 29, 21, 5, 182, 1, 229, 164, 0, 6, 21, 7, 172, 132, 7, 1, 167, 255, 220, 2, 172]
abbrev dktX0_mornings_5 : List UInt8 := dkwX0_mornings_5 ++ []
def dkwX0_mornings_4 : List UInt8 := [21, 6, 172, 3, 54, 7, 21, 7, 21, 6, 162, 0, 35, 42, 27, 21, 7, 29, 21, 5, 182, 1, 229, 42]
abbrev dktX0_mornings_4 : List UInt8 := dkwX0_mornings_4 ++ dktX0_mornings_5
def dkwX0_mornings_3 : List UInt8 := [29, 4, 160, 0, 8, 21, 5, 167, 0, 8, 21, 5, 21, 5, 104, 54, 6, 21, 4, 4, 160, 0, 6]
abbrev dktX0_mornings_3 : List UInt8 := dkwX0_mornings_3 ++ dktX0_mornings_4
def dkwX0_mornings_2 : List UInt8 := [154, 0, 5, 2, 172, 42, 180, 0, 78, 180, 1, 50, 42, 180, 0, 78, 180, 1, 50, 4, 100, 104, 54, 5]
abbrev dktX0_mornings_2 : List UInt8 := dkwX0_mornings_2 ++ dktX0_mornings_3
def dkwX0_mornings_1 : List UInt8 := [21, 4, 3, 4, 184, 0, 137, 153, 0, 19, 42, 180, 0, 78, 180, 1, 50, 5, 16, 8, 184, 0, 137]
abbrev dktX0_mornings_1 : List UInt8 := dkwX0_mornings_1 ++ dktX0_mornings_2
def dkwX0_mornings_0 : List UInt8 := [27, 184, 1, 127, 153, 0, 45, 28, 184, 1, 127, 153, 0, 38, 29, 4, 5, 184, 0, 137, 153, 0, 29]
abbrev dktX0_mornings_0 : List UInt8 := dkwX0_mornings_0 ++ dktX0_mornings_1
theorem dksX0_mornings_0 : cX0_mornings.data.toList.drop 0 = dktX0_mornings_0 := by decide +kernel
theorem dksX0_mornings_1 : cX0_mornings.data.toList.drop 23 = dktX0_mornings_1 := dk_seg dksX0_mornings_0 23 rfl rfl
theorem dksX0_mornings_2 : cX0_mornings.data.toList.drop 46 = dktX0_mornings_2 := dk_seg dksX0_mornings_1 23 rfl rfl
theorem dksX0_mornings_3 : cX0_mornings.data.toList.drop 70 = dktX0_mornings_3 := dk_seg dksX0_mornings_2 24 rfl rfl
theorem dksX0_mornings_4 : cX0_mornings.data.toList.drop 93 = dktX0_mornings_4 := dk_seg dksX0_mornings_3 23 rfl rfl
theorem dksX0_mornings_5 : cX0_mornings.data.toList.drop 117 = dktX0_mornings_5 := dk_seg dksX0_mornings_4 24 rfl rfl
theorem dX0_mornings_0 : decode cX0_mornings 0 = .ok (.iload_n 1, 1) := dk_27 (dk_at dksX0_mornings_0 0 rfl rfl)
theorem dX0_mornings_1 : decode cX0_mornings 1 = .ok (.invokestatic 383, 3) := dk_184 1 127 (dk_at dksX0_mornings_0 1 rfl rfl)
theorem dX0_mornings_4 : decode cX0_mornings 4 = .ok (.ifCond .eq 45, 3) := dk_153 0 45 (dk_at dksX0_mornings_0 4 rfl rfl)
theorem dX0_mornings_7 : decode cX0_mornings 7 = .ok (.iload_n 2, 1) := dk_28 (dk_at dksX0_mornings_0 7 rfl rfl)
theorem dX0_mornings_8 : decode cX0_mornings 8 = .ok (.invokestatic 383, 3) := dk_184 1 127 (dk_at dksX0_mornings_0 8 rfl rfl)
theorem dX0_mornings_11 : decode cX0_mornings 11 = .ok (.ifCond .eq 38, 3) := dk_153 0 38 (dk_at dksX0_mornings_0 11 rfl rfl)
theorem dX0_mornings_14 : decode cX0_mornings 14 = .ok (.iload_n 3, 1) := dk_29 (dk_at dksX0_mornings_0 14 rfl rfl)
theorem dX0_mornings_15 : decode cX0_mornings 15 = .ok (.iconst 1, 1) := dk_4 (dk_at dksX0_mornings_0 15 rfl rfl)
theorem dX0_mornings_16 : decode cX0_mornings 16 = .ok (.iconst 2, 1) := dk_5 (dk_at dksX0_mornings_0 16 rfl rfl)
theorem dX0_mornings_17 : decode cX0_mornings 17 = .ok (.invokestatic 137, 3) := dk_184 0 137 (dk_at dksX0_mornings_0 17 rfl rfl)
theorem dX0_mornings_20 : decode cX0_mornings 20 = .ok (.ifCond .eq 29, 3) := dk_153 0 29 (dk_at dksX0_mornings_0 20 rfl rfl)
theorem dX0_mornings_23 : decode cX0_mornings 23 = .ok (.iload 4, 2) := dk_21 4 (dk_at dksX0_mornings_1 0 rfl rfl)
theorem dX0_mornings_25 : decode cX0_mornings 25 = .ok (.iconst 0, 1) := dk_3 (dk_at dksX0_mornings_1 2 rfl rfl)
theorem dX0_mornings_26 : decode cX0_mornings 26 = .ok (.iconst 1, 1) := dk_4 (dk_at dksX0_mornings_1 3 rfl rfl)
theorem dX0_mornings_27 : decode cX0_mornings 27 = .ok (.invokestatic 137, 3) := dk_184 0 137 (dk_at dksX0_mornings_1 4 rfl rfl)
theorem dX0_mornings_30 : decode cX0_mornings 30 = .ok (.ifCond .eq 19, 3) := dk_153 0 19 (dk_at dksX0_mornings_1 7 rfl rfl)
theorem dX0_mornings_33 : decode cX0_mornings 33 = .ok (.aload_n 0, 1) := dk_42 (dk_at dksX0_mornings_1 10 rfl rfl)
theorem dX0_mornings_34 : decode cX0_mornings 34 = .ok (.getfield 78, 3) := dk_180 0 78 (dk_at dksX0_mornings_1 11 rfl rfl)
theorem dX0_mornings_37 : decode cX0_mornings 37 = .ok (.getfield 306, 3) := dk_180 1 50 (dk_at dksX0_mornings_1 14 rfl rfl)
theorem dX0_mornings_40 : decode cX0_mornings 40 = .ok (.iconst 2, 1) := dk_5 (dk_at dksX0_mornings_1 17 rfl rfl)
theorem dX0_mornings_41 : decode cX0_mornings 41 = .ok (.bipush 8, 2) := dk_16 8 (dk_at dksX0_mornings_1 18 rfl rfl)
theorem dX0_mornings_43 : decode cX0_mornings 43 = .ok (.invokestatic 137, 3) := dk_184 0 137 (dk_at dksX0_mornings_1 20 rfl rfl)
theorem dX0_mornings_46 : decode cX0_mornings 46 = .ok (.ifCond .ne 5, 3) := dk_154 0 5 (dk_at dksX0_mornings_2 0 rfl rfl)
theorem dX0_mornings_49 : decode cX0_mornings 49 = .ok (.iconst (-1), 1) := dk_2 (dk_at dksX0_mornings_2 3 rfl rfl)
theorem dX0_mornings_50 : decode cX0_mornings 50 = .ok (.ireturn, 1) := dk_172 (dk_at dksX0_mornings_2 4 rfl rfl)
theorem dX0_mornings_51 : decode cX0_mornings 51 = .ok (.aload_n 0, 1) := dk_42 (dk_at dksX0_mornings_2 5 rfl rfl)
theorem dX0_mornings_52 : decode cX0_mornings 52 = .ok (.getfield 78, 3) := dk_180 0 78 (dk_at dksX0_mornings_2 6 rfl rfl)
theorem dX0_mornings_55 : decode cX0_mornings 55 = .ok (.getfield 306, 3) := dk_180 1 50 (dk_at dksX0_mornings_2 9 rfl rfl)
theorem dX0_mornings_58 : decode cX0_mornings 58 = .ok (.aload_n 0, 1) := dk_42 (dk_at dksX0_mornings_2 12 rfl rfl)
theorem dX0_mornings_59 : decode cX0_mornings 59 = .ok (.getfield 78, 3) := dk_180 0 78 (dk_at dksX0_mornings_2 13 rfl rfl)
theorem dX0_mornings_62 : decode cX0_mornings 62 = .ok (.getfield 306, 3) := dk_180 1 50 (dk_at dksX0_mornings_2 16 rfl rfl)
theorem dX0_mornings_65 : decode cX0_mornings 65 = .ok (.iconst 1, 1) := dk_4 (dk_at dksX0_mornings_2 19 rfl rfl)
theorem dX0_mornings_66 : decode cX0_mornings 66 = .ok (.isub, 1) := dk_100 (dk_at dksX0_mornings_2 20 rfl rfl)
theorem dX0_mornings_67 : decode cX0_mornings 67 = .ok (.imul, 1) := dk_104 (dk_at dksX0_mornings_2 21 rfl rfl)
theorem dX0_mornings_68 : decode cX0_mornings 68 = .ok (.istore 5, 2) := dk_54 5 (dk_at dksX0_mornings_2 22 rfl rfl)
theorem dX0_mornings_70 : decode cX0_mornings 70 = .ok (.iload_n 3, 1) := dk_29 (dk_at dksX0_mornings_3 0 rfl rfl)
theorem dX0_mornings_71 : decode cX0_mornings 71 = .ok (.iconst 1, 1) := dk_4 (dk_at dksX0_mornings_3 1 rfl rfl)
theorem dX0_mornings_72 : decode cX0_mornings 72 = .ok (.if_icmp .ne 8, 3) := dk_160 0 8 (dk_at dksX0_mornings_3 2 rfl rfl)
theorem dX0_mornings_75 : decode cX0_mornings 75 = .ok (.iload 5, 2) := dk_21 5 (dk_at dksX0_mornings_3 5 rfl rfl)
theorem dX0_mornings_77 : decode cX0_mornings 77 = .ok (.goto 8, 3) := dk_167 0 8 (dk_at dksX0_mornings_3 7 rfl rfl)
theorem dX0_mornings_80 : decode cX0_mornings 80 = .ok (.iload 5, 2) := dk_21 5 (dk_at dksX0_mornings_3 10 rfl rfl)
theorem dX0_mornings_82 : decode cX0_mornings 82 = .ok (.iload 5, 2) := dk_21 5 (dk_at dksX0_mornings_3 12 rfl rfl)
theorem dX0_mornings_84 : decode cX0_mornings 84 = .ok (.imul, 1) := dk_104 (dk_at dksX0_mornings_3 14 rfl rfl)
theorem dX0_mornings_85 : decode cX0_mornings 85 = .ok (.istore 6, 2) := dk_54 6 (dk_at dksX0_mornings_3 15 rfl rfl)
theorem dX0_mornings_87 : decode cX0_mornings 87 = .ok (.iload 4, 2) := dk_21 4 (dk_at dksX0_mornings_3 17 rfl rfl)
theorem dX0_mornings_89 : decode cX0_mornings 89 = .ok (.iconst 1, 1) := dk_4 (dk_at dksX0_mornings_3 19 rfl rfl)
theorem dX0_mornings_90 : decode cX0_mornings 90 = .ok (.if_icmp .ne 6, 3) := dk_160 0 6 (dk_at dksX0_mornings_3 20 rfl rfl)
theorem dX0_mornings_93 : decode cX0_mornings 93 = .ok (.iload 6, 2) := dk_21 6 (dk_at dksX0_mornings_4 0 rfl rfl)
theorem dX0_mornings_95 : decode cX0_mornings 95 = .ok (.ireturn, 1) := dk_172 (dk_at dksX0_mornings_4 2 rfl rfl)
theorem dX0_mornings_96 : decode cX0_mornings 96 = .ok (.iconst 0, 1) := dk_3 (dk_at dksX0_mornings_4 3 rfl rfl)
theorem dX0_mornings_97 : decode cX0_mornings 97 = .ok (.istore 7, 2) := dk_54 7 (dk_at dksX0_mornings_4 4 rfl rfl)
theorem dX0_mornings_99 : decode cX0_mornings 99 = .ok (.iload 7, 2) := dk_21 7 (dk_at dksX0_mornings_4 6 rfl rfl)
theorem dX0_mornings_101 : decode cX0_mornings 101 = .ok (.iload 6, 2) := dk_21 6 (dk_at dksX0_mornings_4 8 rfl rfl)
theorem dX0_mornings_103 : decode cX0_mornings 103 = .ok (.if_icmp .ge 35, 3) := dk_162 0 35 (dk_at dksX0_mornings_4 10 rfl rfl)
theorem dX0_mornings_106 : decode cX0_mornings 106 = .ok (.aload_n 0, 1) := dk_42 (dk_at dksX0_mornings_4 13 rfl rfl)
theorem dX0_mornings_107 : decode cX0_mornings 107 = .ok (.iload_n 1, 1) := dk_27 (dk_at dksX0_mornings_4 14 rfl rfl)
theorem dX0_mornings_108 : decode cX0_mornings 108 = .ok (.iload 7, 2) := dk_21 7 (dk_at dksX0_mornings_4 15 rfl rfl)
theorem dX0_mornings_110 : decode cX0_mornings 110 = .ok (.iload_n 3, 1) := dk_29 (dk_at dksX0_mornings_4 17 rfl rfl)
theorem dX0_mornings_111 : decode cX0_mornings 111 = .ok (.iload 5, 2) := dk_21 5 (dk_at dksX0_mornings_4 18 rfl rfl)
theorem dX0_mornings_113 : decode cX0_mornings 113 = .ok (.invokevirtual 485, 3) := dk_182 1 229 (dk_at dksX0_mornings_4 20 rfl rfl)
theorem dX0_mornings_116 : decode cX0_mornings 116 = .ok (.aload_n 0, 1) := dk_42 (dk_at dksX0_mornings_4 23 rfl rfl)
theorem dX0_mornings_117 : decode cX0_mornings 117 = .ok (.iload_n 2, 1) := dk_28 (dk_at dksX0_mornings_5 0 rfl rfl)
theorem dX0_mornings_118 : decode cX0_mornings 118 = .ok (.iload 7, 2) := dk_21 7 (dk_at dksX0_mornings_5 1 rfl rfl)
theorem dX0_mornings_120 : decode cX0_mornings 120 = .ok (.iload_n 3, 1) := dk_29 (dk_at dksX0_mornings_5 3 rfl rfl)
theorem dX0_mornings_121 : decode cX0_mornings 121 = .ok (.iload 5, 2) := dk_21 5 (dk_at dksX0_mornings_5 4 rfl rfl)
theorem dX0_mornings_123 : decode cX0_mornings 123 = .ok (.invokevirtual 485, 3) := dk_182 1 229 (dk_at dksX0_mornings_5 6 rfl rfl)
theorem dX0_mornings_126 : decode cX0_mornings 126 = .ok (.if_icmp .le 6, 3) := dk_164 0 6 (dk_at dksX0_mornings_5 9 rfl rfl)
theorem dX0_mornings_129 : decode cX0_mornings 129 = .ok (.iload 7, 2) := dk_21 7 (dk_at dksX0_mornings_5 12 rfl rfl)
theorem dX0_mornings_131 : decode cX0_mornings 131 = .ok (.ireturn, 1) := dk_172 (dk_at dksX0_mornings_5 14 rfl rfl)
theorem dX0_mornings_132 : decode cX0_mornings 132 = .ok (.iinc 7 1, 3) := dk_132 7 1 (dk_at dksX0_mornings_5 15 rfl rfl)
theorem dX0_mornings_135 : decode cX0_mornings 135 = .ok (.goto (-36), 3) := dk_167 255 220 (dk_at dksX0_mornings_5 18 rfl rfl)
theorem dX0_mornings_138 : decode cX0_mornings 138 = .ok (.iconst (-1), 1) := dk_2 (dk_at dksX0_mornings_5 21 rfl rfl)
theorem dX0_mornings_139 : decode cX0_mornings 139 = .ok (.ireturn, 1) := dk_172 (dk_at dksX0_mornings_5 22 rfl rfl)
abbrev cX0_overOf : ByteArray := prog_1_method_50_code
def yX0_overOf : MethodName := ⟨RX0, "overOf", "(IIII)I"⟩
def dkwX0_overOf_3 : List UInt8 := [160, 0, 9, 19, 1, 228, 167, 0, 11, 42, 180, 0, 98, 2, 182, 1, 191, 172]
abbrev dktX0_overOf_3 : List UInt8 := dkwX0_overOf_3 ++ []
def dkwX0_overOf_2 : List UInt8 := [160, 0, 12, 42, 4, 28, 21, 4, 112, 182, 1, 225, 42, 180, 0, 98, 17, 3, 232, 182, 1, 188, 2]
abbrev dktX0_overOf_2 : List UInt8 := dkwX0_overOf_2 ++ dktX0_overOf_3
def dkwX0_overOf_1 : List UInt8 := [181, 1, 130, 42, 3, 29, 4, 160, 0, 7, 28, 167, 0, 7, 28, 21, 4, 108, 182, 1, 225, 29, 5]
abbrev dktX0_overOf_1 : List UInt8 := dkwX0_overOf_1 ++ dktX0_overOf_2
def dkwX0_overOf_0 : List UInt8 := [42, 180, 0, 98, 42, 180, 0, 94, 182, 1, 184, 42, 180, 0, 98, 182, 1, 74, 42, 180, 0, 98, 27]
abbrev dktX0_overOf_0 : List UInt8 := dkwX0_overOf_0 ++ dktX0_overOf_1
theorem dksX0_overOf_0 : cX0_overOf.data.toList.drop 0 = dktX0_overOf_0 := by decide +kernel
theorem dksX0_overOf_1 : cX0_overOf.data.toList.drop 23 = dktX0_overOf_1 := dk_seg dksX0_overOf_0 23 rfl rfl
theorem dksX0_overOf_2 : cX0_overOf.data.toList.drop 46 = dktX0_overOf_2 := dk_seg dksX0_overOf_1 23 rfl rfl
theorem dksX0_overOf_3 : cX0_overOf.data.toList.drop 69 = dktX0_overOf_3 := dk_seg dksX0_overOf_2 23 rfl rfl
theorem dX0_overOf_0 : decode cX0_overOf 0 = .ok (.aload_n 0, 1) := dk_42 (dk_at dksX0_overOf_0 0 rfl rfl)
theorem dX0_overOf_1 : decode cX0_overOf 1 = .ok (.getfield 98, 3) := dk_180 0 98 (dk_at dksX0_overOf_0 1 rfl rfl)
theorem dX0_overOf_4 : decode cX0_overOf 4 = .ok (.aload_n 0, 1) := dk_42 (dk_at dksX0_overOf_0 4 rfl rfl)
theorem dX0_overOf_5 : decode cX0_overOf 5 = .ok (.getfield 94, 3) := dk_180 0 94 (dk_at dksX0_overOf_0 5 rfl rfl)
theorem dX0_overOf_8 : decode cX0_overOf 8 = .ok (.invokevirtual 440, 3) := dk_182 1 184 (dk_at dksX0_overOf_0 8 rfl rfl)
theorem dX0_overOf_11 : decode cX0_overOf 11 = .ok (.aload_n 0, 1) := dk_42 (dk_at dksX0_overOf_0 11 rfl rfl)
theorem dX0_overOf_12 : decode cX0_overOf 12 = .ok (.getfield 98, 3) := dk_180 0 98 (dk_at dksX0_overOf_0 12 rfl rfl)
theorem dX0_overOf_15 : decode cX0_overOf 15 = .ok (.invokevirtual 330, 3) := dk_182 1 74 (dk_at dksX0_overOf_0 15 rfl rfl)
theorem dX0_overOf_18 : decode cX0_overOf 18 = .ok (.aload_n 0, 1) := dk_42 (dk_at dksX0_overOf_0 18 rfl rfl)
theorem dX0_overOf_19 : decode cX0_overOf 19 = .ok (.getfield 98, 3) := dk_180 0 98 (dk_at dksX0_overOf_0 19 rfl rfl)
theorem dX0_overOf_22 : decode cX0_overOf 22 = .ok (.iload_n 1, 1) := dk_27 (dk_at dksX0_overOf_0 22 rfl rfl)
theorem dX0_overOf_23 : decode cX0_overOf 23 = .ok (.putfield 386, 3) := dk_181 1 130 (dk_at dksX0_overOf_1 0 rfl rfl)
theorem dX0_overOf_26 : decode cX0_overOf 26 = .ok (.aload_n 0, 1) := dk_42 (dk_at dksX0_overOf_1 3 rfl rfl)
theorem dX0_overOf_27 : decode cX0_overOf 27 = .ok (.iconst 0, 1) := dk_3 (dk_at dksX0_overOf_1 4 rfl rfl)
theorem dX0_overOf_28 : decode cX0_overOf 28 = .ok (.iload_n 3, 1) := dk_29 (dk_at dksX0_overOf_1 5 rfl rfl)
theorem dX0_overOf_29 : decode cX0_overOf 29 = .ok (.iconst 1, 1) := dk_4 (dk_at dksX0_overOf_1 6 rfl rfl)
theorem dX0_overOf_30 : decode cX0_overOf 30 = .ok (.if_icmp .ne 7, 3) := dk_160 0 7 (dk_at dksX0_overOf_1 7 rfl rfl)
theorem dX0_overOf_33 : decode cX0_overOf 33 = .ok (.iload_n 2, 1) := dk_28 (dk_at dksX0_overOf_1 10 rfl rfl)
theorem dX0_overOf_34 : decode cX0_overOf 34 = .ok (.goto 7, 3) := dk_167 0 7 (dk_at dksX0_overOf_1 11 rfl rfl)
theorem dX0_overOf_37 : decode cX0_overOf 37 = .ok (.iload_n 2, 1) := dk_28 (dk_at dksX0_overOf_1 14 rfl rfl)
theorem dX0_overOf_38 : decode cX0_overOf 38 = .ok (.iload 4, 2) := dk_21 4 (dk_at dksX0_overOf_1 15 rfl rfl)
theorem dX0_overOf_40 : decode cX0_overOf 40 = .ok (.idiv, 1) := dk_108 (dk_at dksX0_overOf_1 17 rfl rfl)
theorem dX0_overOf_41 : decode cX0_overOf 41 = .ok (.invokevirtual 481, 3) := dk_182 1 225 (dk_at dksX0_overOf_1 18 rfl rfl)
theorem dX0_overOf_44 : decode cX0_overOf 44 = .ok (.iload_n 3, 1) := dk_29 (dk_at dksX0_overOf_1 21 rfl rfl)
theorem dX0_overOf_45 : decode cX0_overOf 45 = .ok (.iconst 2, 1) := dk_5 (dk_at dksX0_overOf_1 22 rfl rfl)
theorem dX0_overOf_46 : decode cX0_overOf 46 = .ok (.if_icmp .ne 12, 3) := dk_160 0 12 (dk_at dksX0_overOf_2 0 rfl rfl)
theorem dX0_overOf_49 : decode cX0_overOf 49 = .ok (.aload_n 0, 1) := dk_42 (dk_at dksX0_overOf_2 3 rfl rfl)
theorem dX0_overOf_50 : decode cX0_overOf 50 = .ok (.iconst 1, 1) := dk_4 (dk_at dksX0_overOf_2 4 rfl rfl)
theorem dX0_overOf_51 : decode cX0_overOf 51 = .ok (.iload_n 2, 1) := dk_28 (dk_at dksX0_overOf_2 5 rfl rfl)
theorem dX0_overOf_52 : decode cX0_overOf 52 = .ok (.iload 4, 2) := dk_21 4 (dk_at dksX0_overOf_2 6 rfl rfl)
theorem dX0_overOf_54 : decode cX0_overOf 54 = .ok (.irem, 1) := dk_112 (dk_at dksX0_overOf_2 8 rfl rfl)
theorem dX0_overOf_55 : decode cX0_overOf 55 = .ok (.invokevirtual 481, 3) := dk_182 1 225 (dk_at dksX0_overOf_2 9 rfl rfl)
theorem dX0_overOf_58 : decode cX0_overOf 58 = .ok (.aload_n 0, 1) := dk_42 (dk_at dksX0_overOf_2 12 rfl rfl)
theorem dX0_overOf_59 : decode cX0_overOf 59 = .ok (.getfield 98, 3) := dk_180 0 98 (dk_at dksX0_overOf_2 13 rfl rfl)
theorem dX0_overOf_62 : decode cX0_overOf 62 = .ok (.sipush 1000, 3) := dk_17 3 232 (dk_at dksX0_overOf_2 16 rfl rfl)
theorem dX0_overOf_65 : decode cX0_overOf 65 = .ok (.invokevirtual 444, 3) := dk_182 1 188 (dk_at dksX0_overOf_2 19 rfl rfl)
theorem dX0_overOf_68 : decode cX0_overOf 68 = .ok (.iconst (-1), 1) := dk_2 (dk_at dksX0_overOf_2 22 rfl rfl)
theorem dX0_overOf_69 : decode cX0_overOf 69 = .ok (.if_icmp .ne 9, 3) := dk_160 0 9 (dk_at dksX0_overOf_3 0 rfl rfl)
theorem dX0_overOf_72 : decode cX0_overOf 72 = .ok (.ldc_w 484, 3) := dk_19 1 228 (dk_at dksX0_overOf_3 3 rfl rfl)
theorem dX0_overOf_75 : decode cX0_overOf 75 = .ok (.goto 11, 3) := dk_167 0 11 (dk_at dksX0_overOf_3 6 rfl rfl)
theorem dX0_overOf_78 : decode cX0_overOf 78 = .ok (.aload_n 0, 1) := dk_42 (dk_at dksX0_overOf_3 9 rfl rfl)
theorem dX0_overOf_79 : decode cX0_overOf 79 = .ok (.getfield 98, 3) := dk_180 0 98 (dk_at dksX0_overOf_3 10 rfl rfl)
theorem dX0_overOf_82 : decode cX0_overOf 82 = .ok (.iconst (-1), 1) := dk_2 (dk_at dksX0_overOf_3 13 rfl rfl)
theorem dX0_overOf_83 : decode cX0_overOf 83 = .ok (.invokevirtual 447, 3) := dk_182 1 191 (dk_at dksX0_overOf_3 14 rfl rfl)
theorem dX0_overOf_86 : decode cX0_overOf 86 = .ok (.ireturn, 1) := dk_172 (dk_at dksX0_overOf_3 17 rfl rfl)
abbrev cX0_comes : ByteArray := prog_1_method_49_code
def yX0_comes : MethodName := ⟨RX0, "comes", "(II)V"⟩
def dkwX0_comes_2 : List UInt8 := [21, 4, 4, 96, 182, 1, 100, 42, 180, 0, 98, 27, 4, 96, 181, 1, 89, 177]
abbrev dktX0_comes_2 : List UInt8 := dkwX0_comes_2 ++ []
def dkwX0_comes_1 : List UInt8 := [54, 4, 42, 180, 0, 98, 180, 1, 96, 27, 50, 3, 29, 21, 4, 29, 162, 0, 8, 21, 4, 167, 0, 7]
abbrev dktX0_comes_1 : List UInt8 := dkwX0_comes_1 ++ dktX0_comes_2
def dkwX0_comes_0 : List UInt8 := [28, 42, 180, 0, 78, 180, 1, 50, 4, 100, 108, 62, 28, 42, 180, 0, 78, 180, 1, 50, 4, 100, 112]
abbrev dktX0_comes_0 : List UInt8 := dkwX0_comes_0 ++ dktX0_comes_1
theorem dksX0_comes_0 : cX0_comes.data.toList.drop 0 = dktX0_comes_0 := by decide +kernel
theorem dksX0_comes_1 : cX0_comes.data.toList.drop 23 = dktX0_comes_1 := dk_seg dksX0_comes_0 23 rfl rfl
theorem dksX0_comes_2 : cX0_comes.data.toList.drop 47 = dktX0_comes_2 := dk_seg dksX0_comes_1 24 rfl rfl
theorem dX0_comes_0 : decode cX0_comes 0 = .ok (.iload_n 2, 1) := dk_28 (dk_at dksX0_comes_0 0 rfl rfl)
theorem dX0_comes_1 : decode cX0_comes 1 = .ok (.aload_n 0, 1) := dk_42 (dk_at dksX0_comes_0 1 rfl rfl)
theorem dX0_comes_2 : decode cX0_comes 2 = .ok (.getfield 78, 3) := dk_180 0 78 (dk_at dksX0_comes_0 2 rfl rfl)
theorem dX0_comes_5 : decode cX0_comes 5 = .ok (.getfield 306, 3) := dk_180 1 50 (dk_at dksX0_comes_0 5 rfl rfl)
theorem dX0_comes_8 : decode cX0_comes 8 = .ok (.iconst 1, 1) := dk_4 (dk_at dksX0_comes_0 8 rfl rfl)
theorem dX0_comes_9 : decode cX0_comes 9 = .ok (.isub, 1) := dk_100 (dk_at dksX0_comes_0 9 rfl rfl)
theorem dX0_comes_10 : decode cX0_comes 10 = .ok (.idiv, 1) := dk_108 (dk_at dksX0_comes_0 10 rfl rfl)
theorem dX0_comes_11 : decode cX0_comes 11 = .ok (.istore_n 3, 1) := dk_62 (dk_at dksX0_comes_0 11 rfl rfl)
theorem dX0_comes_12 : decode cX0_comes 12 = .ok (.iload_n 2, 1) := dk_28 (dk_at dksX0_comes_0 12 rfl rfl)
theorem dX0_comes_13 : decode cX0_comes 13 = .ok (.aload_n 0, 1) := dk_42 (dk_at dksX0_comes_0 13 rfl rfl)
theorem dX0_comes_14 : decode cX0_comes 14 = .ok (.getfield 78, 3) := dk_180 0 78 (dk_at dksX0_comes_0 14 rfl rfl)
theorem dX0_comes_17 : decode cX0_comes 17 = .ok (.getfield 306, 3) := dk_180 1 50 (dk_at dksX0_comes_0 17 rfl rfl)
theorem dX0_comes_20 : decode cX0_comes 20 = .ok (.iconst 1, 1) := dk_4 (dk_at dksX0_comes_0 20 rfl rfl)
theorem dX0_comes_21 : decode cX0_comes 21 = .ok (.isub, 1) := dk_100 (dk_at dksX0_comes_0 21 rfl rfl)
theorem dX0_comes_22 : decode cX0_comes 22 = .ok (.irem, 1) := dk_112 (dk_at dksX0_comes_0 22 rfl rfl)
theorem dX0_comes_23 : decode cX0_comes 23 = .ok (.istore 4, 2) := dk_54 4 (dk_at dksX0_comes_1 0 rfl rfl)
theorem dX0_comes_25 : decode cX0_comes 25 = .ok (.aload_n 0, 1) := dk_42 (dk_at dksX0_comes_1 2 rfl rfl)
theorem dX0_comes_26 : decode cX0_comes 26 = .ok (.getfield 98, 3) := dk_180 0 98 (dk_at dksX0_comes_1 3 rfl rfl)
theorem dX0_comes_29 : decode cX0_comes 29 = .ok (.getfield 352, 3) := dk_180 1 96 (dk_at dksX0_comes_1 6 rfl rfl)
theorem dX0_comes_32 : decode cX0_comes 32 = .ok (.iload_n 1, 1) := dk_27 (dk_at dksX0_comes_1 9 rfl rfl)
theorem dX0_comes_33 : decode cX0_comes 33 = .ok (.aaload, 1) := dk_50 (dk_at dksX0_comes_1 10 rfl rfl)
theorem dX0_comes_34 : decode cX0_comes 34 = .ok (.iconst 0, 1) := dk_3 (dk_at dksX0_comes_1 11 rfl rfl)
theorem dX0_comes_35 : decode cX0_comes 35 = .ok (.iload_n 3, 1) := dk_29 (dk_at dksX0_comes_1 12 rfl rfl)
theorem dX0_comes_36 : decode cX0_comes 36 = .ok (.iload 4, 2) := dk_21 4 (dk_at dksX0_comes_1 13 rfl rfl)
theorem dX0_comes_38 : decode cX0_comes 38 = .ok (.iload_n 3, 1) := dk_29 (dk_at dksX0_comes_1 15 rfl rfl)
theorem dX0_comes_39 : decode cX0_comes 39 = .ok (.if_icmp .ge 8, 3) := dk_162 0 8 (dk_at dksX0_comes_1 16 rfl rfl)
theorem dX0_comes_42 : decode cX0_comes 42 = .ok (.iload 4, 2) := dk_21 4 (dk_at dksX0_comes_1 19 rfl rfl)
theorem dX0_comes_44 : decode cX0_comes 44 = .ok (.goto 7, 3) := dk_167 0 7 (dk_at dksX0_comes_1 21 rfl rfl)
theorem dX0_comes_47 : decode cX0_comes 47 = .ok (.iload 4, 2) := dk_21 4 (dk_at dksX0_comes_2 0 rfl rfl)
theorem dX0_comes_49 : decode cX0_comes 49 = .ok (.iconst 1, 1) := dk_4 (dk_at dksX0_comes_2 2 rfl rfl)
theorem dX0_comes_50 : decode cX0_comes 50 = .ok (.iadd, 1) := dk_96 (dk_at dksX0_comes_2 3 rfl rfl)
theorem dX0_comes_51 : decode cX0_comes 51 = .ok (.invokevirtual 356, 3) := dk_182 1 100 (dk_at dksX0_comes_2 4 rfl rfl)
theorem dX0_comes_54 : decode cX0_comes 54 = .ok (.aload_n 0, 1) := dk_42 (dk_at dksX0_comes_2 7 rfl rfl)
theorem dX0_comes_55 : decode cX0_comes 55 = .ok (.getfield 98, 3) := dk_180 0 98 (dk_at dksX0_comes_2 8 rfl rfl)
theorem dX0_comes_58 : decode cX0_comes 58 = .ok (.iload_n 1, 1) := dk_27 (dk_at dksX0_comes_2 11 rfl rfl)
theorem dX0_comes_59 : decode cX0_comes 59 = .ok (.iconst 1, 1) := dk_4 (dk_at dksX0_comes_2 12 rfl rfl)
theorem dX0_comes_60 : decode cX0_comes 60 = .ok (.iadd, 1) := dk_96 (dk_at dksX0_comes_2 13 rfl rfl)
theorem dX0_comes_61 : decode cX0_comes 61 = .ok (.putfield 345, 3) := dk_181 1 89 (dk_at dksX0_comes_2 14 rfl rfl)
theorem dX0_comes_64 : decode cX0_comes 64 = .ok (.return_, 1) := dk_177 (dk_at dksX0_comes_2 17 rfl rfl)
abbrev cX0_fun : ByteArray := prog_1_method_52_code
def yX0_fun : MethodName := ⟨RX0, "fun", "(II)I"⟩
def dkwX0_fun_6 : List UInt8 := [182, 1, 188, 2, 160, 0, 9, 19, 1, 232, 167, 0, 13, 42, 180, 0, 98, 27, 182, 1, 191, 29, 100, 172]
abbrev dktX0_fun_6 : List UInt8 := dkwX0_fun_6 ++ []
def dkwX0_fun_5 : List UInt8 := [180, 0, 98, 27, 181, 1, 233, 42, 180, 0, 98, 28, 181, 1, 236, 42, 180, 0, 98, 17, 11, 184]
abbrev dktX0_fun_5 : List UInt8 := dkwX0_fun_5 ++ dktX0_fun_6
def dkwX0_fun_4 : List UInt8 := [172, 42, 180, 0, 98, 27, 182, 1, 191, 62, 42, 180, 0, 98, 42, 180, 0, 94, 182, 1, 184, 42]
abbrev dktX0_fun_4 : List UInt8 := dkwX0_fun_4 ++ dktX0_fun_5
def dkwX0_fun_3 : List UInt8 := [42, 180, 0, 94, 182, 1, 184, 42, 180, 0, 98, 17, 11, 184, 182, 1, 188, 2, 160, 0, 7, 19, 1, 232]
abbrev dktX0_fun_3 : List UInt8 := dkwX0_fun_3 ++ dktX0_fun_4
def dkwX0_fun_2 : List UInt8 := [28, 42, 180, 0, 94, 180, 1, 96, 27, 50, 180, 1, 161, 160, 0, 7, 19, 1, 232, 172, 42, 180, 0, 98]
abbrev dktX0_fun_2 : List UInt8 := dkwX0_fun_2 ++ dktX0_fun_3
def dkwX0_fun_1 : List UInt8 := [42, 28, 182, 1, 93, 153, 0, 35, 28, 42, 180, 0, 94, 180, 1, 96, 27, 50, 180, 1, 160, 159, 0, 19]
abbrev dktX0_fun_1 : List UInt8 := dkwX0_fun_1 ++ dktX0_fun_2
def dkwX0_fun_0 : List UInt8 := [42, 27, 182, 1, 154, 153, 0, 59, 42, 180, 0, 94, 180, 1, 96, 27, 50, 180, 1, 117, 4, 160, 0, 43]
abbrev dktX0_fun_0 : List UInt8 := dkwX0_fun_0 ++ dktX0_fun_1
theorem dksX0_fun_0 : cX0_fun.data.toList.drop 0 = dktX0_fun_0 := by decide +kernel
theorem dksX0_fun_1 : cX0_fun.data.toList.drop 24 = dktX0_fun_1 := dk_seg dksX0_fun_0 24 rfl rfl
theorem dksX0_fun_2 : cX0_fun.data.toList.drop 48 = dktX0_fun_2 := dk_seg dksX0_fun_1 24 rfl rfl
theorem dksX0_fun_3 : cX0_fun.data.toList.drop 72 = dktX0_fun_3 := dk_seg dksX0_fun_2 24 rfl rfl
theorem dksX0_fun_4 : cX0_fun.data.toList.drop 96 = dktX0_fun_4 := dk_seg dksX0_fun_3 24 rfl rfl
theorem dksX0_fun_5 : cX0_fun.data.toList.drop 118 = dktX0_fun_5 := dk_seg dksX0_fun_4 22 rfl rfl
theorem dksX0_fun_6 : cX0_fun.data.toList.drop 140 = dktX0_fun_6 := dk_seg dksX0_fun_5 22 rfl rfl
theorem dX0_fun_0 : decode cX0_fun 0 = .ok (.aload_n 0, 1) := dk_42 (dk_at dksX0_fun_0 0 rfl rfl)
theorem dX0_fun_1 : decode cX0_fun 1 = .ok (.iload_n 1, 1) := dk_27 (dk_at dksX0_fun_0 1 rfl rfl)
theorem dX0_fun_2 : decode cX0_fun 2 = .ok (.invokevirtual 410, 3) := dk_182 1 154 (dk_at dksX0_fun_0 2 rfl rfl)
theorem dX0_fun_5 : decode cX0_fun 5 = .ok (.ifCond .eq 59, 3) := dk_153 0 59 (dk_at dksX0_fun_0 5 rfl rfl)
theorem dX0_fun_8 : decode cX0_fun 8 = .ok (.aload_n 0, 1) := dk_42 (dk_at dksX0_fun_0 8 rfl rfl)
theorem dX0_fun_9 : decode cX0_fun 9 = .ok (.getfield 94, 3) := dk_180 0 94 (dk_at dksX0_fun_0 9 rfl rfl)
theorem dX0_fun_12 : decode cX0_fun 12 = .ok (.getfield 352, 3) := dk_180 1 96 (dk_at dksX0_fun_0 12 rfl rfl)
theorem dX0_fun_15 : decode cX0_fun 15 = .ok (.iload_n 1, 1) := dk_27 (dk_at dksX0_fun_0 15 rfl rfl)
theorem dX0_fun_16 : decode cX0_fun 16 = .ok (.aaload, 1) := dk_50 (dk_at dksX0_fun_0 16 rfl rfl)
theorem dX0_fun_17 : decode cX0_fun 17 = .ok (.getfield 373, 3) := dk_180 1 117 (dk_at dksX0_fun_0 17 rfl rfl)
theorem dX0_fun_20 : decode cX0_fun 20 = .ok (.iconst 1, 1) := dk_4 (dk_at dksX0_fun_0 20 rfl rfl)
theorem dX0_fun_21 : decode cX0_fun 21 = .ok (.if_icmp .ne 43, 3) := dk_160 0 43 (dk_at dksX0_fun_0 21 rfl rfl)
theorem dX0_fun_24 : decode cX0_fun 24 = .ok (.aload_n 0, 1) := dk_42 (dk_at dksX0_fun_1 0 rfl rfl)
theorem dX0_fun_25 : decode cX0_fun 25 = .ok (.iload_n 2, 1) := dk_28 (dk_at dksX0_fun_1 1 rfl rfl)
theorem dX0_fun_26 : decode cX0_fun 26 = .ok (.invokevirtual 349, 3) := dk_182 1 93 (dk_at dksX0_fun_1 2 rfl rfl)
theorem dX0_fun_29 : decode cX0_fun 29 = .ok (.ifCond .eq 35, 3) := dk_153 0 35 (dk_at dksX0_fun_1 5 rfl rfl)
theorem dX0_fun_32 : decode cX0_fun 32 = .ok (.iload_n 2, 1) := dk_28 (dk_at dksX0_fun_1 8 rfl rfl)
theorem dX0_fun_33 : decode cX0_fun 33 = .ok (.aload_n 0, 1) := dk_42 (dk_at dksX0_fun_1 9 rfl rfl)
theorem dX0_fun_34 : decode cX0_fun 34 = .ok (.getfield 94, 3) := dk_180 0 94 (dk_at dksX0_fun_1 10 rfl rfl)
theorem dX0_fun_37 : decode cX0_fun 37 = .ok (.getfield 352, 3) := dk_180 1 96 (dk_at dksX0_fun_1 13 rfl rfl)
theorem dX0_fun_40 : decode cX0_fun 40 = .ok (.iload_n 1, 1) := dk_27 (dk_at dksX0_fun_1 16 rfl rfl)
theorem dX0_fun_41 : decode cX0_fun 41 = .ok (.aaload, 1) := dk_50 (dk_at dksX0_fun_1 17 rfl rfl)
theorem dX0_fun_42 : decode cX0_fun 42 = .ok (.getfield 416, 3) := dk_180 1 160 (dk_at dksX0_fun_1 18 rfl rfl)
theorem dX0_fun_45 : decode cX0_fun 45 = .ok (.if_icmp .eq 19, 3) := dk_159 0 19 (dk_at dksX0_fun_1 21 rfl rfl)
theorem dX0_fun_48 : decode cX0_fun 48 = .ok (.iload_n 2, 1) := dk_28 (dk_at dksX0_fun_2 0 rfl rfl)
theorem dX0_fun_49 : decode cX0_fun 49 = .ok (.aload_n 0, 1) := dk_42 (dk_at dksX0_fun_2 1 rfl rfl)
theorem dX0_fun_50 : decode cX0_fun 50 = .ok (.getfield 94, 3) := dk_180 0 94 (dk_at dksX0_fun_2 2 rfl rfl)
theorem dX0_fun_53 : decode cX0_fun 53 = .ok (.getfield 352, 3) := dk_180 1 96 (dk_at dksX0_fun_2 5 rfl rfl)
theorem dX0_fun_56 : decode cX0_fun 56 = .ok (.iload_n 1, 1) := dk_27 (dk_at dksX0_fun_2 8 rfl rfl)
theorem dX0_fun_57 : decode cX0_fun 57 = .ok (.aaload, 1) := dk_50 (dk_at dksX0_fun_2 9 rfl rfl)
theorem dX0_fun_58 : decode cX0_fun 58 = .ok (.getfield 417, 3) := dk_180 1 161 (dk_at dksX0_fun_2 10 rfl rfl)
theorem dX0_fun_61 : decode cX0_fun 61 = .ok (.if_icmp .ne 7, 3) := dk_160 0 7 (dk_at dksX0_fun_2 13 rfl rfl)
theorem dX0_fun_64 : decode cX0_fun 64 = .ok (.ldc_w 488, 3) := dk_19 1 232 (dk_at dksX0_fun_2 16 rfl rfl)
theorem dX0_fun_67 : decode cX0_fun 67 = .ok (.ireturn, 1) := dk_172 (dk_at dksX0_fun_2 19 rfl rfl)
theorem dX0_fun_68 : decode cX0_fun 68 = .ok (.aload_n 0, 1) := dk_42 (dk_at dksX0_fun_2 20 rfl rfl)
theorem dX0_fun_69 : decode cX0_fun 69 = .ok (.getfield 98, 3) := dk_180 0 98 (dk_at dksX0_fun_2 21 rfl rfl)
theorem dX0_fun_72 : decode cX0_fun 72 = .ok (.aload_n 0, 1) := dk_42 (dk_at dksX0_fun_3 0 rfl rfl)
theorem dX0_fun_73 : decode cX0_fun 73 = .ok (.getfield 94, 3) := dk_180 0 94 (dk_at dksX0_fun_3 1 rfl rfl)
theorem dX0_fun_76 : decode cX0_fun 76 = .ok (.invokevirtual 440, 3) := dk_182 1 184 (dk_at dksX0_fun_3 4 rfl rfl)
theorem dX0_fun_79 : decode cX0_fun 79 = .ok (.aload_n 0, 1) := dk_42 (dk_at dksX0_fun_3 7 rfl rfl)
theorem dX0_fun_80 : decode cX0_fun 80 = .ok (.getfield 98, 3) := dk_180 0 98 (dk_at dksX0_fun_3 8 rfl rfl)
theorem dX0_fun_83 : decode cX0_fun 83 = .ok (.sipush 3000, 3) := dk_17 11 184 (dk_at dksX0_fun_3 11 rfl rfl)
theorem dX0_fun_86 : decode cX0_fun 86 = .ok (.invokevirtual 444, 3) := dk_182 1 188 (dk_at dksX0_fun_3 14 rfl rfl)
theorem dX0_fun_89 : decode cX0_fun 89 = .ok (.iconst (-1), 1) := dk_2 (dk_at dksX0_fun_3 17 rfl rfl)
theorem dX0_fun_90 : decode cX0_fun 90 = .ok (.if_icmp .ne 7, 3) := dk_160 0 7 (dk_at dksX0_fun_3 18 rfl rfl)
theorem dX0_fun_93 : decode cX0_fun 93 = .ok (.ldc_w 488, 3) := dk_19 1 232 (dk_at dksX0_fun_3 21 rfl rfl)
theorem dX0_fun_96 : decode cX0_fun 96 = .ok (.ireturn, 1) := dk_172 (dk_at dksX0_fun_4 0 rfl rfl)
theorem dX0_fun_97 : decode cX0_fun 97 = .ok (.aload_n 0, 1) := dk_42 (dk_at dksX0_fun_4 1 rfl rfl)
theorem dX0_fun_98 : decode cX0_fun 98 = .ok (.getfield 98, 3) := dk_180 0 98 (dk_at dksX0_fun_4 2 rfl rfl)
theorem dX0_fun_101 : decode cX0_fun 101 = .ok (.iload_n 1, 1) := dk_27 (dk_at dksX0_fun_4 5 rfl rfl)
theorem dX0_fun_102 : decode cX0_fun 102 = .ok (.invokevirtual 447, 3) := dk_182 1 191 (dk_at dksX0_fun_4 6 rfl rfl)
theorem dX0_fun_105 : decode cX0_fun 105 = .ok (.istore_n 3, 1) := dk_62 (dk_at dksX0_fun_4 9 rfl rfl)
theorem dX0_fun_106 : decode cX0_fun 106 = .ok (.aload_n 0, 1) := dk_42 (dk_at dksX0_fun_4 10 rfl rfl)
theorem dX0_fun_107 : decode cX0_fun 107 = .ok (.getfield 98, 3) := dk_180 0 98 (dk_at dksX0_fun_4 11 rfl rfl)
theorem dX0_fun_110 : decode cX0_fun 110 = .ok (.aload_n 0, 1) := dk_42 (dk_at dksX0_fun_4 14 rfl rfl)
theorem dX0_fun_111 : decode cX0_fun 111 = .ok (.getfield 94, 3) := dk_180 0 94 (dk_at dksX0_fun_4 15 rfl rfl)
theorem dX0_fun_114 : decode cX0_fun 114 = .ok (.invokevirtual 440, 3) := dk_182 1 184 (dk_at dksX0_fun_4 18 rfl rfl)
theorem dX0_fun_117 : decode cX0_fun 117 = .ok (.aload_n 0, 1) := dk_42 (dk_at dksX0_fun_4 21 rfl rfl)
theorem dX0_fun_118 : decode cX0_fun 118 = .ok (.getfield 98, 3) := dk_180 0 98 (dk_at dksX0_fun_5 0 rfl rfl)
theorem dX0_fun_121 : decode cX0_fun 121 = .ok (.iload_n 1, 1) := dk_27 (dk_at dksX0_fun_5 3 rfl rfl)
theorem dX0_fun_122 : decode cX0_fun 122 = .ok (.putfield 489, 3) := dk_181 1 233 (dk_at dksX0_fun_5 4 rfl rfl)
theorem dX0_fun_125 : decode cX0_fun 125 = .ok (.aload_n 0, 1) := dk_42 (dk_at dksX0_fun_5 7 rfl rfl)
theorem dX0_fun_126 : decode cX0_fun 126 = .ok (.getfield 98, 3) := dk_180 0 98 (dk_at dksX0_fun_5 8 rfl rfl)
theorem dX0_fun_129 : decode cX0_fun 129 = .ok (.iload_n 2, 1) := dk_28 (dk_at dksX0_fun_5 11 rfl rfl)
theorem dX0_fun_130 : decode cX0_fun 130 = .ok (.putfield 492, 3) := dk_181 1 236 (dk_at dksX0_fun_5 12 rfl rfl)
theorem dX0_fun_133 : decode cX0_fun 133 = .ok (.aload_n 0, 1) := dk_42 (dk_at dksX0_fun_5 15 rfl rfl)
theorem dX0_fun_134 : decode cX0_fun 134 = .ok (.getfield 98, 3) := dk_180 0 98 (dk_at dksX0_fun_5 16 rfl rfl)
theorem dX0_fun_137 : decode cX0_fun 137 = .ok (.sipush 3000, 3) := dk_17 11 184 (dk_at dksX0_fun_5 19 rfl rfl)
theorem dX0_fun_140 : decode cX0_fun 140 = .ok (.invokevirtual 444, 3) := dk_182 1 188 (dk_at dksX0_fun_6 0 rfl rfl)
theorem dX0_fun_143 : decode cX0_fun 143 = .ok (.iconst (-1), 1) := dk_2 (dk_at dksX0_fun_6 3 rfl rfl)
theorem dX0_fun_144 : decode cX0_fun 144 = .ok (.if_icmp .ne 9, 3) := dk_160 0 9 (dk_at dksX0_fun_6 4 rfl rfl)
theorem dX0_fun_147 : decode cX0_fun 147 = .ok (.ldc_w 488, 3) := dk_19 1 232 (dk_at dksX0_fun_6 7 rfl rfl)
theorem dX0_fun_150 : decode cX0_fun 150 = .ok (.goto 13, 3) := dk_167 0 13 (dk_at dksX0_fun_6 10 rfl rfl)
theorem dX0_fun_153 : decode cX0_fun 153 = .ok (.aload_n 0, 1) := dk_42 (dk_at dksX0_fun_6 13 rfl rfl)
theorem dX0_fun_154 : decode cX0_fun 154 = .ok (.getfield 98, 3) := dk_180 0 98 (dk_at dksX0_fun_6 14 rfl rfl)
theorem dX0_fun_157 : decode cX0_fun 157 = .ok (.iload_n 1, 1) := dk_27 (dk_at dksX0_fun_6 17 rfl rfl)
theorem dX0_fun_158 : decode cX0_fun 158 = .ok (.invokevirtual 447, 3) := dk_182 1 191 (dk_at dksX0_fun_6 18 rfl rfl)
theorem dX0_fun_161 : decode cX0_fun 161 = .ok (.iload_n 3, 1) := dk_29 (dk_at dksX0_fun_6 21 rfl rfl)
theorem dX0_fun_162 : decode cX0_fun 162 = .ok (.isub, 1) := dk_100 (dk_at dksX0_fun_6 22 rfl rfl)
theorem dX0_fun_163 : decode cX0_fun 163 = .ok (.ireturn, 1) := dk_172 (dk_at dksX0_fun_6 23 rfl rfl)
abbrev cX0_places : ByteArray := prog_1_method_57_code
def yX0_places : MethodName := ⟨RX0, "places", "(II)I"⟩
def dkwX0_places_2 : List UInt8 := [29, 167, 0, 12, 42, 180, 0, 115, 28, 16, 10, 100, 46, 172]
abbrev dktX0_places_2 : List UInt8 := dkwX0_places_2 ++ []
def dkwX0_places_1 : List UInt8 := [16, 10, 16, 9, 27, 96, 184, 0, 137, 154, 0, 5, 2, 172, 42, 27, 182, 1, 251, 62, 28, 154, 0, 7]
abbrev dktX0_places_1 : List UInt8 := dkwX0_places_1 ++ dktX0_places_2
def dkwX0_places_0 : List UInt8 := [27, 4, 7, 42, 180, 0, 78, 180, 1, 50, 184, 0, 196, 184, 0, 137, 153, 0, 20, 28, 153, 0, 18, 28]
abbrev dktX0_places_0 : List UInt8 := dkwX0_places_0 ++ dktX0_places_1
theorem dksX0_places_0 : cX0_places.data.toList.drop 0 = dktX0_places_0 := by decide +kernel
theorem dksX0_places_1 : cX0_places.data.toList.drop 24 = dktX0_places_1 := dk_seg dksX0_places_0 24 rfl rfl
theorem dksX0_places_2 : cX0_places.data.toList.drop 48 = dktX0_places_2 := dk_seg dksX0_places_1 24 rfl rfl
theorem dX0_places_0 : decode cX0_places 0 = .ok (.iload_n 1, 1) := dk_27 (dk_at dksX0_places_0 0 rfl rfl)
theorem dX0_places_1 : decode cX0_places 1 = .ok (.iconst 1, 1) := dk_4 (dk_at dksX0_places_0 1 rfl rfl)
theorem dX0_places_2 : decode cX0_places 2 = .ok (.iconst 4, 1) := dk_7 (dk_at dksX0_places_0 2 rfl rfl)
theorem dX0_places_3 : decode cX0_places 3 = .ok (.aload_n 0, 1) := dk_42 (dk_at dksX0_places_0 3 rfl rfl)
theorem dX0_places_4 : decode cX0_places 4 = .ok (.getfield 78, 3) := dk_180 0 78 (dk_at dksX0_places_0 4 rfl rfl)
theorem dX0_places_7 : decode cX0_places 7 = .ok (.getfield 306, 3) := dk_180 1 50 (dk_at dksX0_places_0 7 rfl rfl)
theorem dX0_places_10 : decode cX0_places 10 = .ok (.invokestatic 196, 3) := dk_184 0 196 (dk_at dksX0_places_0 10 rfl rfl)
theorem dX0_places_13 : decode cX0_places 13 = .ok (.invokestatic 137, 3) := dk_184 0 137 (dk_at dksX0_places_0 13 rfl rfl)
theorem dX0_places_16 : decode cX0_places 16 = .ok (.ifCond .eq 20, 3) := dk_153 0 20 (dk_at dksX0_places_0 16 rfl rfl)
theorem dX0_places_19 : decode cX0_places 19 = .ok (.iload_n 2, 1) := dk_28 (dk_at dksX0_places_0 19 rfl rfl)
theorem dX0_places_20 : decode cX0_places 20 = .ok (.ifCond .eq 18, 3) := dk_153 0 18 (dk_at dksX0_places_0 20 rfl rfl)
theorem dX0_places_23 : decode cX0_places 23 = .ok (.iload_n 2, 1) := dk_28 (dk_at dksX0_places_0 23 rfl rfl)
theorem dX0_places_24 : decode cX0_places 24 = .ok (.bipush 10, 2) := dk_16 10 (dk_at dksX0_places_1 0 rfl rfl)
theorem dX0_places_26 : decode cX0_places 26 = .ok (.bipush 9, 2) := dk_16 9 (dk_at dksX0_places_1 2 rfl rfl)
theorem dX0_places_28 : decode cX0_places 28 = .ok (.iload_n 1, 1) := dk_27 (dk_at dksX0_places_1 4 rfl rfl)
theorem dX0_places_29 : decode cX0_places 29 = .ok (.iadd, 1) := dk_96 (dk_at dksX0_places_1 5 rfl rfl)
theorem dX0_places_30 : decode cX0_places 30 = .ok (.invokestatic 137, 3) := dk_184 0 137 (dk_at dksX0_places_1 6 rfl rfl)
theorem dX0_places_33 : decode cX0_places 33 = .ok (.ifCond .ne 5, 3) := dk_154 0 5 (dk_at dksX0_places_1 9 rfl rfl)
theorem dX0_places_36 : decode cX0_places 36 = .ok (.iconst (-1), 1) := dk_2 (dk_at dksX0_places_1 12 rfl rfl)
theorem dX0_places_37 : decode cX0_places 37 = .ok (.ireturn, 1) := dk_172 (dk_at dksX0_places_1 13 rfl rfl)
theorem dX0_places_38 : decode cX0_places 38 = .ok (.aload_n 0, 1) := dk_42 (dk_at dksX0_places_1 14 rfl rfl)
theorem dX0_places_39 : decode cX0_places 39 = .ok (.iload_n 1, 1) := dk_27 (dk_at dksX0_places_1 15 rfl rfl)
theorem dX0_places_40 : decode cX0_places 40 = .ok (.invokevirtual 507, 3) := dk_182 1 251 (dk_at dksX0_places_1 16 rfl rfl)
theorem dX0_places_43 : decode cX0_places 43 = .ok (.istore_n 3, 1) := dk_62 (dk_at dksX0_places_1 19 rfl rfl)
theorem dX0_places_44 : decode cX0_places 44 = .ok (.iload_n 2, 1) := dk_28 (dk_at dksX0_places_1 20 rfl rfl)
theorem dX0_places_45 : decode cX0_places 45 = .ok (.ifCond .ne 7, 3) := dk_154 0 7 (dk_at dksX0_places_1 21 rfl rfl)
theorem dX0_places_48 : decode cX0_places 48 = .ok (.iload_n 3, 1) := dk_29 (dk_at dksX0_places_2 0 rfl rfl)
theorem dX0_places_49 : decode cX0_places 49 = .ok (.goto 12, 3) := dk_167 0 12 (dk_at dksX0_places_2 1 rfl rfl)
theorem dX0_places_52 : decode cX0_places 52 = .ok (.aload_n 0, 1) := dk_42 (dk_at dksX0_places_2 4 rfl rfl)
theorem dX0_places_53 : decode cX0_places 53 = .ok (.getfield 115, 3) := dk_180 0 115 (dk_at dksX0_places_2 5 rfl rfl)
theorem dX0_places_56 : decode cX0_places 56 = .ok (.iload_n 2, 1) := dk_28 (dk_at dksX0_places_2 8 rfl rfl)
theorem dX0_places_57 : decode cX0_places 57 = .ok (.bipush 10, 2) := dk_16 10 (dk_at dksX0_places_2 9 rfl rfl)
theorem dX0_places_59 : decode cX0_places 59 = .ok (.isub, 1) := dk_100 (dk_at dksX0_places_2 11 rfl rfl)
theorem dX0_places_60 : decode cX0_places 60 = .ok (.iaload, 1) := dk_46 (dk_at dksX0_places_2 12 rfl rfl)
theorem dX0_places_61 : decode cX0_places 61 = .ok (.ireturn, 1) := dk_172 (dk_at dksX0_places_2 13 rfl rfl)
abbrev cX0_findsPlaces : ByteArray := prog_1_method_56_code
def yX0_findsPlaces : MethodName := ⟨RX0, "findsPlaces", "(I)I"⟩
def dkwX0_findsPlaces_6 : List UInt8 := [132, 3, 1, 167, 255, 182, 28, 172]
abbrev dktX0_findsPlaces_6 : List UInt8 := dkwX0_findsPlaces_6 ++ []
def dkwX0_findsPlaces_5 : List UInt8 := [29, 100, 50, 21, 4, 46, 159, 0, 9, 132, 5, 1, 167, 255, 217, 42, 180, 0, 115, 29, 21, 5, 79]
abbrev dktX0_findsPlaces_5 : List UInt8 := dkwX0_findsPlaces_5 ++ dktX0_findsPlaces_6
def dkwX0_findsPlaces_4 : List UInt8 := [21, 5, 182, 1, 242, 42, 180, 0, 112, 27, 4, 100, 29, 100, 50, 21, 5, 46, 96, 42, 180, 0, 112, 27]
abbrev dktX0_findsPlaces_4 : List UInt8 := dkwX0_findsPlaces_4 ++ dktX0_findsPlaces_5
def dkwX0_findsPlaces_3 : List UInt8 := [29, 27, 162, 0, 75, 42, 180, 0, 115, 29, 4, 100, 46, 54, 4, 21, 4, 4, 96, 54, 5, 42, 21, 4]
abbrev dktX0_findsPlaces_3 : List UInt8 := dkwX0_findsPlaces_3 ++ dktX0_findsPlaces_4
def dkwX0_findsPlaces_2 : List UInt8 := [161, 0, 6, 167, 0, 13, 21, 4, 61, 42, 180, 0, 115, 3, 29, 79, 132, 3, 1, 167, 255, 201, 4, 62]
abbrev dktX0_findsPlaces_2 : List UInt8 := dkwX0_findsPlaces_2 ++ dktX0_findsPlaces_3
def dkwX0_findsPlaces_1 : List UInt8 := [162, 0, 46, 42, 29, 182, 1, 248, 42, 180, 0, 112, 27, 4, 100, 50, 29, 46, 96, 54, 4, 21, 4, 28]
abbrev dktX0_findsPlaces_1 : List UInt8 := dkwX0_findsPlaces_1 ++ dktX0_findsPlaces_2
def dkwX0_findsPlaces_0 : List UInt8 := [42, 27, 182, 1, 245, 19, 1, 241, 61, 3, 62, 29, 42, 180, 0, 78, 180, 1, 50, 27, 100, 4, 96]
abbrev dktX0_findsPlaces_0 : List UInt8 := dkwX0_findsPlaces_0 ++ dktX0_findsPlaces_1
theorem dksX0_findsPlaces_0 : cX0_findsPlaces.data.toList.drop 0 = dktX0_findsPlaces_0 := by decide +kernel
theorem dksX0_findsPlaces_1 : cX0_findsPlaces.data.toList.drop 23 = dktX0_findsPlaces_1 := dk_seg dksX0_findsPlaces_0 23 rfl rfl
theorem dksX0_findsPlaces_2 : cX0_findsPlaces.data.toList.drop 47 = dktX0_findsPlaces_2 := dk_seg dksX0_findsPlaces_1 24 rfl rfl
theorem dksX0_findsPlaces_3 : cX0_findsPlaces.data.toList.drop 71 = dktX0_findsPlaces_3 := dk_seg dksX0_findsPlaces_2 24 rfl rfl
theorem dksX0_findsPlaces_4 : cX0_findsPlaces.data.toList.drop 95 = dktX0_findsPlaces_4 := dk_seg dksX0_findsPlaces_3 24 rfl rfl
theorem dksX0_findsPlaces_5 : cX0_findsPlaces.data.toList.drop 119 = dktX0_findsPlaces_5 := dk_seg dksX0_findsPlaces_4 24 rfl rfl
theorem dksX0_findsPlaces_6 : cX0_findsPlaces.data.toList.drop 142 = dktX0_findsPlaces_6 := dk_seg dksX0_findsPlaces_5 23 rfl rfl
theorem dX0_findsPlaces_0 : decode cX0_findsPlaces 0 = .ok (.aload_n 0, 1) := dk_42 (dk_at dksX0_findsPlaces_0 0 rfl rfl)
theorem dX0_findsPlaces_1 : decode cX0_findsPlaces 1 = .ok (.iload_n 1, 1) := dk_27 (dk_at dksX0_findsPlaces_0 1 rfl rfl)
theorem dX0_findsPlaces_2 : decode cX0_findsPlaces 2 = .ok (.invokevirtual 501, 3) := dk_182 1 245 (dk_at dksX0_findsPlaces_0 2 rfl rfl)
theorem dX0_findsPlaces_5 : decode cX0_findsPlaces 5 = .ok (.ldc_w 497, 3) := dk_19 1 241 (dk_at dksX0_findsPlaces_0 5 rfl rfl)
theorem dX0_findsPlaces_8 : decode cX0_findsPlaces 8 = .ok (.istore_n 2, 1) := dk_61 (dk_at dksX0_findsPlaces_0 8 rfl rfl)
theorem dX0_findsPlaces_9 : decode cX0_findsPlaces 9 = .ok (.iconst 0, 1) := dk_3 (dk_at dksX0_findsPlaces_0 9 rfl rfl)
theorem dX0_findsPlaces_10 : decode cX0_findsPlaces 10 = .ok (.istore_n 3, 1) := dk_62 (dk_at dksX0_findsPlaces_0 10 rfl rfl)
theorem dX0_findsPlaces_11 : decode cX0_findsPlaces 11 = .ok (.iload_n 3, 1) := dk_29 (dk_at dksX0_findsPlaces_0 11 rfl rfl)
theorem dX0_findsPlaces_12 : decode cX0_findsPlaces 12 = .ok (.aload_n 0, 1) := dk_42 (dk_at dksX0_findsPlaces_0 12 rfl rfl)
theorem dX0_findsPlaces_13 : decode cX0_findsPlaces 13 = .ok (.getfield 78, 3) := dk_180 0 78 (dk_at dksX0_findsPlaces_0 13 rfl rfl)
theorem dX0_findsPlaces_16 : decode cX0_findsPlaces 16 = .ok (.getfield 306, 3) := dk_180 1 50 (dk_at dksX0_findsPlaces_0 16 rfl rfl)
theorem dX0_findsPlaces_19 : decode cX0_findsPlaces 19 = .ok (.iload_n 1, 1) := dk_27 (dk_at dksX0_findsPlaces_0 19 rfl rfl)
theorem dX0_findsPlaces_20 : decode cX0_findsPlaces 20 = .ok (.isub, 1) := dk_100 (dk_at dksX0_findsPlaces_0 20 rfl rfl)
theorem dX0_findsPlaces_21 : decode cX0_findsPlaces 21 = .ok (.iconst 1, 1) := dk_4 (dk_at dksX0_findsPlaces_0 21 rfl rfl)
theorem dX0_findsPlaces_22 : decode cX0_findsPlaces 22 = .ok (.iadd, 1) := dk_96 (dk_at dksX0_findsPlaces_0 22 rfl rfl)
theorem dX0_findsPlaces_23 : decode cX0_findsPlaces 23 = .ok (.if_icmp .ge 46, 3) := dk_162 0 46 (dk_at dksX0_findsPlaces_1 0 rfl rfl)
theorem dX0_findsPlaces_26 : decode cX0_findsPlaces 26 = .ok (.aload_n 0, 1) := dk_42 (dk_at dksX0_findsPlaces_1 3 rfl rfl)
theorem dX0_findsPlaces_27 : decode cX0_findsPlaces 27 = .ok (.iload_n 3, 1) := dk_29 (dk_at dksX0_findsPlaces_1 4 rfl rfl)
theorem dX0_findsPlaces_28 : decode cX0_findsPlaces 28 = .ok (.invokevirtual 504, 3) := dk_182 1 248 (dk_at dksX0_findsPlaces_1 5 rfl rfl)
theorem dX0_findsPlaces_31 : decode cX0_findsPlaces 31 = .ok (.aload_n 0, 1) := dk_42 (dk_at dksX0_findsPlaces_1 8 rfl rfl)
theorem dX0_findsPlaces_32 : decode cX0_findsPlaces 32 = .ok (.getfield 112, 3) := dk_180 0 112 (dk_at dksX0_findsPlaces_1 9 rfl rfl)
theorem dX0_findsPlaces_35 : decode cX0_findsPlaces 35 = .ok (.iload_n 1, 1) := dk_27 (dk_at dksX0_findsPlaces_1 12 rfl rfl)
theorem dX0_findsPlaces_36 : decode cX0_findsPlaces 36 = .ok (.iconst 1, 1) := dk_4 (dk_at dksX0_findsPlaces_1 13 rfl rfl)
theorem dX0_findsPlaces_37 : decode cX0_findsPlaces 37 = .ok (.isub, 1) := dk_100 (dk_at dksX0_findsPlaces_1 14 rfl rfl)
theorem dX0_findsPlaces_38 : decode cX0_findsPlaces 38 = .ok (.aaload, 1) := dk_50 (dk_at dksX0_findsPlaces_1 15 rfl rfl)
theorem dX0_findsPlaces_39 : decode cX0_findsPlaces 39 = .ok (.iload_n 3, 1) := dk_29 (dk_at dksX0_findsPlaces_1 16 rfl rfl)
theorem dX0_findsPlaces_40 : decode cX0_findsPlaces 40 = .ok (.iaload, 1) := dk_46 (dk_at dksX0_findsPlaces_1 17 rfl rfl)
theorem dX0_findsPlaces_41 : decode cX0_findsPlaces 41 = .ok (.iadd, 1) := dk_96 (dk_at dksX0_findsPlaces_1 18 rfl rfl)
theorem dX0_findsPlaces_42 : decode cX0_findsPlaces 42 = .ok (.istore 4, 2) := dk_54 4 (dk_at dksX0_findsPlaces_1 19 rfl rfl)
theorem dX0_findsPlaces_44 : decode cX0_findsPlaces 44 = .ok (.iload 4, 2) := dk_21 4 (dk_at dksX0_findsPlaces_1 21 rfl rfl)
theorem dX0_findsPlaces_46 : decode cX0_findsPlaces 46 = .ok (.iload_n 2, 1) := dk_28 (dk_at dksX0_findsPlaces_1 23 rfl rfl)
theorem dX0_findsPlaces_47 : decode cX0_findsPlaces 47 = .ok (.if_icmp .lt 6, 3) := dk_161 0 6 (dk_at dksX0_findsPlaces_2 0 rfl rfl)
theorem dX0_findsPlaces_50 : decode cX0_findsPlaces 50 = .ok (.goto 13, 3) := dk_167 0 13 (dk_at dksX0_findsPlaces_2 3 rfl rfl)
theorem dX0_findsPlaces_53 : decode cX0_findsPlaces 53 = .ok (.iload 4, 2) := dk_21 4 (dk_at dksX0_findsPlaces_2 6 rfl rfl)
theorem dX0_findsPlaces_55 : decode cX0_findsPlaces 55 = .ok (.istore_n 2, 1) := dk_61 (dk_at dksX0_findsPlaces_2 8 rfl rfl)
theorem dX0_findsPlaces_56 : decode cX0_findsPlaces 56 = .ok (.aload_n 0, 1) := dk_42 (dk_at dksX0_findsPlaces_2 9 rfl rfl)
theorem dX0_findsPlaces_57 : decode cX0_findsPlaces 57 = .ok (.getfield 115, 3) := dk_180 0 115 (dk_at dksX0_findsPlaces_2 10 rfl rfl)
theorem dX0_findsPlaces_60 : decode cX0_findsPlaces 60 = .ok (.iconst 0, 1) := dk_3 (dk_at dksX0_findsPlaces_2 13 rfl rfl)
theorem dX0_findsPlaces_61 : decode cX0_findsPlaces 61 = .ok (.iload_n 3, 1) := dk_29 (dk_at dksX0_findsPlaces_2 14 rfl rfl)
theorem dX0_findsPlaces_62 : decode cX0_findsPlaces 62 = .ok (.iastore, 1) := dk_79 (dk_at dksX0_findsPlaces_2 15 rfl rfl)
theorem dX0_findsPlaces_63 : decode cX0_findsPlaces 63 = .ok (.iinc 3 1, 3) := dk_132 3 1 (dk_at dksX0_findsPlaces_2 16 rfl rfl)
theorem dX0_findsPlaces_66 : decode cX0_findsPlaces 66 = .ok (.goto (-55), 3) := dk_167 255 201 (dk_at dksX0_findsPlaces_2 19 rfl rfl)
theorem dX0_findsPlaces_69 : decode cX0_findsPlaces 69 = .ok (.iconst 1, 1) := dk_4 (dk_at dksX0_findsPlaces_2 22 rfl rfl)
theorem dX0_findsPlaces_70 : decode cX0_findsPlaces 70 = .ok (.istore_n 3, 1) := dk_62 (dk_at dksX0_findsPlaces_2 23 rfl rfl)
theorem dX0_findsPlaces_71 : decode cX0_findsPlaces 71 = .ok (.iload_n 3, 1) := dk_29 (dk_at dksX0_findsPlaces_3 0 rfl rfl)
theorem dX0_findsPlaces_72 : decode cX0_findsPlaces 72 = .ok (.iload_n 1, 1) := dk_27 (dk_at dksX0_findsPlaces_3 1 rfl rfl)
theorem dX0_findsPlaces_73 : decode cX0_findsPlaces 73 = .ok (.if_icmp .ge 75, 3) := dk_162 0 75 (dk_at dksX0_findsPlaces_3 2 rfl rfl)
theorem dX0_findsPlaces_76 : decode cX0_findsPlaces 76 = .ok (.aload_n 0, 1) := dk_42 (dk_at dksX0_findsPlaces_3 5 rfl rfl)
theorem dX0_findsPlaces_77 : decode cX0_findsPlaces 77 = .ok (.getfield 115, 3) := dk_180 0 115 (dk_at dksX0_findsPlaces_3 6 rfl rfl)
theorem dX0_findsPlaces_80 : decode cX0_findsPlaces 80 = .ok (.iload_n 3, 1) := dk_29 (dk_at dksX0_findsPlaces_3 9 rfl rfl)
theorem dX0_findsPlaces_81 : decode cX0_findsPlaces 81 = .ok (.iconst 1, 1) := dk_4 (dk_at dksX0_findsPlaces_3 10 rfl rfl)
theorem dX0_findsPlaces_82 : decode cX0_findsPlaces 82 = .ok (.isub, 1) := dk_100 (dk_at dksX0_findsPlaces_3 11 rfl rfl)
theorem dX0_findsPlaces_83 : decode cX0_findsPlaces 83 = .ok (.iaload, 1) := dk_46 (dk_at dksX0_findsPlaces_3 12 rfl rfl)
theorem dX0_findsPlaces_84 : decode cX0_findsPlaces 84 = .ok (.istore 4, 2) := dk_54 4 (dk_at dksX0_findsPlaces_3 13 rfl rfl)
theorem dX0_findsPlaces_86 : decode cX0_findsPlaces 86 = .ok (.iload 4, 2) := dk_21 4 (dk_at dksX0_findsPlaces_3 15 rfl rfl)
theorem dX0_findsPlaces_88 : decode cX0_findsPlaces 88 = .ok (.iconst 1, 1) := dk_4 (dk_at dksX0_findsPlaces_3 17 rfl rfl)
theorem dX0_findsPlaces_89 : decode cX0_findsPlaces 89 = .ok (.iadd, 1) := dk_96 (dk_at dksX0_findsPlaces_3 18 rfl rfl)
theorem dX0_findsPlaces_90 : decode cX0_findsPlaces 90 = .ok (.istore 5, 2) := dk_54 5 (dk_at dksX0_findsPlaces_3 19 rfl rfl)
theorem dX0_findsPlaces_92 : decode cX0_findsPlaces 92 = .ok (.aload_n 0, 1) := dk_42 (dk_at dksX0_findsPlaces_3 21 rfl rfl)
theorem dX0_findsPlaces_93 : decode cX0_findsPlaces 93 = .ok (.iload 4, 2) := dk_21 4 (dk_at dksX0_findsPlaces_3 22 rfl rfl)
theorem dX0_findsPlaces_95 : decode cX0_findsPlaces 95 = .ok (.iload 5, 2) := dk_21 5 (dk_at dksX0_findsPlaces_4 0 rfl rfl)
theorem dX0_findsPlaces_97 : decode cX0_findsPlaces 97 = .ok (.invokevirtual 498, 3) := dk_182 1 242 (dk_at dksX0_findsPlaces_4 2 rfl rfl)
theorem dX0_findsPlaces_100 : decode cX0_findsPlaces 100 = .ok (.aload_n 0, 1) := dk_42 (dk_at dksX0_findsPlaces_4 5 rfl rfl)
theorem dX0_findsPlaces_101 : decode cX0_findsPlaces 101 = .ok (.getfield 112, 3) := dk_180 0 112 (dk_at dksX0_findsPlaces_4 6 rfl rfl)
theorem dX0_findsPlaces_104 : decode cX0_findsPlaces 104 = .ok (.iload_n 1, 1) := dk_27 (dk_at dksX0_findsPlaces_4 9 rfl rfl)
theorem dX0_findsPlaces_105 : decode cX0_findsPlaces 105 = .ok (.iconst 1, 1) := dk_4 (dk_at dksX0_findsPlaces_4 10 rfl rfl)
theorem dX0_findsPlaces_106 : decode cX0_findsPlaces 106 = .ok (.isub, 1) := dk_100 (dk_at dksX0_findsPlaces_4 11 rfl rfl)
theorem dX0_findsPlaces_107 : decode cX0_findsPlaces 107 = .ok (.iload_n 3, 1) := dk_29 (dk_at dksX0_findsPlaces_4 12 rfl rfl)
theorem dX0_findsPlaces_108 : decode cX0_findsPlaces 108 = .ok (.isub, 1) := dk_100 (dk_at dksX0_findsPlaces_4 13 rfl rfl)
theorem dX0_findsPlaces_109 : decode cX0_findsPlaces 109 = .ok (.aaload, 1) := dk_50 (dk_at dksX0_findsPlaces_4 14 rfl rfl)
theorem dX0_findsPlaces_110 : decode cX0_findsPlaces 110 = .ok (.iload 5, 2) := dk_21 5 (dk_at dksX0_findsPlaces_4 15 rfl rfl)
theorem dX0_findsPlaces_112 : decode cX0_findsPlaces 112 = .ok (.iaload, 1) := dk_46 (dk_at dksX0_findsPlaces_4 17 rfl rfl)
theorem dX0_findsPlaces_113 : decode cX0_findsPlaces 113 = .ok (.iadd, 1) := dk_96 (dk_at dksX0_findsPlaces_4 18 rfl rfl)
theorem dX0_findsPlaces_114 : decode cX0_findsPlaces 114 = .ok (.aload_n 0, 1) := dk_42 (dk_at dksX0_findsPlaces_4 19 rfl rfl)
theorem dX0_findsPlaces_115 : decode cX0_findsPlaces 115 = .ok (.getfield 112, 3) := dk_180 0 112 (dk_at dksX0_findsPlaces_4 20 rfl rfl)
theorem dX0_findsPlaces_118 : decode cX0_findsPlaces 118 = .ok (.iload_n 1, 1) := dk_27 (dk_at dksX0_findsPlaces_4 23 rfl rfl)
theorem dX0_findsPlaces_119 : decode cX0_findsPlaces 119 = .ok (.iload_n 3, 1) := dk_29 (dk_at dksX0_findsPlaces_5 0 rfl rfl)
theorem dX0_findsPlaces_120 : decode cX0_findsPlaces 120 = .ok (.isub, 1) := dk_100 (dk_at dksX0_findsPlaces_5 1 rfl rfl)
theorem dX0_findsPlaces_121 : decode cX0_findsPlaces 121 = .ok (.aaload, 1) := dk_50 (dk_at dksX0_findsPlaces_5 2 rfl rfl)
theorem dX0_findsPlaces_122 : decode cX0_findsPlaces 122 = .ok (.iload 4, 2) := dk_21 4 (dk_at dksX0_findsPlaces_5 3 rfl rfl)
theorem dX0_findsPlaces_124 : decode cX0_findsPlaces 124 = .ok (.iaload, 1) := dk_46 (dk_at dksX0_findsPlaces_5 5 rfl rfl)
theorem dX0_findsPlaces_125 : decode cX0_findsPlaces 125 = .ok (.if_icmp .eq 9, 3) := dk_159 0 9 (dk_at dksX0_findsPlaces_5 6 rfl rfl)
theorem dX0_findsPlaces_128 : decode cX0_findsPlaces 128 = .ok (.iinc 5 1, 3) := dk_132 5 1 (dk_at dksX0_findsPlaces_5 9 rfl rfl)
theorem dX0_findsPlaces_131 : decode cX0_findsPlaces 131 = .ok (.goto (-39), 3) := dk_167 255 217 (dk_at dksX0_findsPlaces_5 12 rfl rfl)
theorem dX0_findsPlaces_134 : decode cX0_findsPlaces 134 = .ok (.aload_n 0, 1) := dk_42 (dk_at dksX0_findsPlaces_5 15 rfl rfl)
theorem dX0_findsPlaces_135 : decode cX0_findsPlaces 135 = .ok (.getfield 115, 3) := dk_180 0 115 (dk_at dksX0_findsPlaces_5 16 rfl rfl)
theorem dX0_findsPlaces_138 : decode cX0_findsPlaces 138 = .ok (.iload_n 3, 1) := dk_29 (dk_at dksX0_findsPlaces_5 19 rfl rfl)
theorem dX0_findsPlaces_139 : decode cX0_findsPlaces 139 = .ok (.iload 5, 2) := dk_21 5 (dk_at dksX0_findsPlaces_5 20 rfl rfl)
theorem dX0_findsPlaces_141 : decode cX0_findsPlaces 141 = .ok (.iastore, 1) := dk_79 (dk_at dksX0_findsPlaces_5 22 rfl rfl)
theorem dX0_findsPlaces_142 : decode cX0_findsPlaces 142 = .ok (.iinc 3 1, 3) := dk_132 3 1 (dk_at dksX0_findsPlaces_6 0 rfl rfl)
theorem dX0_findsPlaces_145 : decode cX0_findsPlaces 145 = .ok (.goto (-74), 3) := dk_167 255 182 (dk_at dksX0_findsPlaces_6 3 rfl rfl)
theorem dX0_findsPlaces_148 : decode cX0_findsPlaces 148 = .ok (.iload_n 2, 1) := dk_28 (dk_at dksX0_findsPlaces_6 6 rfl rfl)
theorem dX0_findsPlaces_149 : decode cX0_findsPlaces 149 = .ok (.ireturn, 1) := dk_172 (dk_at dksX0_findsPlaces_6 7 rfl rfl)
abbrev cX0_findsAbove : ByteArray := prog_1_method_55_code
def yX0_findsAbove : MethodName := ⟨RX0, "findsAbove", "(I)V"⟩
def dkwX0_findsAbove_7 : List UInt8 := [167, 255, 199, 132, 3, 1, 167, 255, 164, 132, 2, 1, 167, 255, 151, 177]
abbrev dktX0_findsAbove_7 : List UInt8 := dkwX0_findsAbove_7 ++ []
def dkwX0_findsAbove_6 : List UInt8 := [21, 4, 182, 1, 242, 42, 180, 0, 112, 28, 4, 100, 50, 21, 4, 46, 96, 184, 0, 196, 79, 132, 4, 1]
abbrev dktX0_findsAbove_6 : List UInt8 := dkwX0_findsAbove_6 ++ dktX0_findsAbove_7
def dkwX0_findsAbove_5 : List UInt8 := [28, 100, 4, 96, 162, 0, 47, 42, 180, 0, 112, 28, 50, 29, 42, 180, 0, 112, 28, 50, 29, 46, 42, 29]
abbrev dktX0_findsAbove_5 : List UInt8 := dkwX0_findsAbove_5 ++ dktX0_findsAbove_6
def dkwX0_findsAbove_4 : List UInt8 := [180, 0, 112, 28, 50, 29, 19, 1, 241, 79, 29, 4, 96, 54, 4, 21, 4, 42, 180, 0, 78, 180, 1, 50]
abbrev dktX0_findsAbove_4 : List UInt8 := dkwX0_findsAbove_4 ++ dktX0_findsAbove_5
def dkwX0_findsAbove_3 : List UInt8 := [61, 28, 27, 162, 0, 106, 3, 62, 29, 42, 180, 0, 78, 180, 1, 50, 28, 100, 162, 0, 85, 42]
abbrev dktX0_findsAbove_3 : List UInt8 := dkwX0_findsAbove_3 ++ dktX0_findsAbove_4
def dkwX0_findsAbove_2 : List UInt8 := [180, 0, 82, 29, 46, 29, 28, 100, 104, 96, 79, 132, 3, 1, 167, 255, 221, 132, 2, 1, 167, 255, 191, 4]
abbrev dktX0_findsAbove_2 : List UInt8 := dkwX0_findsAbove_2 ++ dktX0_findsAbove_3
def dkwX0_findsAbove_1 : List UInt8 := [96, 62, 29, 42, 180, 0, 78, 180, 1, 50, 162, 0, 30, 42, 180, 0, 112, 3, 50, 28, 92, 46, 42]
abbrev dktX0_findsAbove_1 : List UInt8 := dkwX0_findsAbove_1 ++ dktX0_findsAbove_2
def dkwX0_findsAbove_0 : List UInt8 := [3, 61, 28, 42, 180, 0, 78, 180, 1, 50, 162, 0, 60, 42, 180, 0, 112, 3, 50, 28, 3, 79, 28, 4]
abbrev dktX0_findsAbove_0 : List UInt8 := dkwX0_findsAbove_0 ++ dktX0_findsAbove_1
theorem dksX0_findsAbove_0 : cX0_findsAbove.data.toList.drop 0 = dktX0_findsAbove_0 := by decide +kernel
theorem dksX0_findsAbove_1 : cX0_findsAbove.data.toList.drop 24 = dktX0_findsAbove_1 := dk_seg dksX0_findsAbove_0 24 rfl rfl
theorem dksX0_findsAbove_2 : cX0_findsAbove.data.toList.drop 47 = dktX0_findsAbove_2 := dk_seg dksX0_findsAbove_1 23 rfl rfl
theorem dksX0_findsAbove_3 : cX0_findsAbove.data.toList.drop 71 = dktX0_findsAbove_3 := dk_seg dksX0_findsAbove_2 24 rfl rfl
theorem dksX0_findsAbove_4 : cX0_findsAbove.data.toList.drop 93 = dktX0_findsAbove_4 := dk_seg dksX0_findsAbove_3 22 rfl rfl
theorem dksX0_findsAbove_5 : cX0_findsAbove.data.toList.drop 117 = dktX0_findsAbove_5 := dk_seg dksX0_findsAbove_4 24 rfl rfl
theorem dksX0_findsAbove_6 : cX0_findsAbove.data.toList.drop 141 = dktX0_findsAbove_6 := dk_seg dksX0_findsAbove_5 24 rfl rfl
theorem dksX0_findsAbove_7 : cX0_findsAbove.data.toList.drop 165 = dktX0_findsAbove_7 := dk_seg dksX0_findsAbove_6 24 rfl rfl
theorem dX0_findsAbove_0 : decode cX0_findsAbove 0 = .ok (.iconst 0, 1) := dk_3 (dk_at dksX0_findsAbove_0 0 rfl rfl)
theorem dX0_findsAbove_1 : decode cX0_findsAbove 1 = .ok (.istore_n 2, 1) := dk_61 (dk_at dksX0_findsAbove_0 1 rfl rfl)
theorem dX0_findsAbove_2 : decode cX0_findsAbove 2 = .ok (.iload_n 2, 1) := dk_28 (dk_at dksX0_findsAbove_0 2 rfl rfl)
theorem dX0_findsAbove_3 : decode cX0_findsAbove 3 = .ok (.aload_n 0, 1) := dk_42 (dk_at dksX0_findsAbove_0 3 rfl rfl)
theorem dX0_findsAbove_4 : decode cX0_findsAbove 4 = .ok (.getfield 78, 3) := dk_180 0 78 (dk_at dksX0_findsAbove_0 4 rfl rfl)
theorem dX0_findsAbove_7 : decode cX0_findsAbove 7 = .ok (.getfield 306, 3) := dk_180 1 50 (dk_at dksX0_findsAbove_0 7 rfl rfl)
theorem dX0_findsAbove_10 : decode cX0_findsAbove 10 = .ok (.if_icmp .ge 60, 3) := dk_162 0 60 (dk_at dksX0_findsAbove_0 10 rfl rfl)
theorem dX0_findsAbove_13 : decode cX0_findsAbove 13 = .ok (.aload_n 0, 1) := dk_42 (dk_at dksX0_findsAbove_0 13 rfl rfl)
theorem dX0_findsAbove_14 : decode cX0_findsAbove 14 = .ok (.getfield 112, 3) := dk_180 0 112 (dk_at dksX0_findsAbove_0 14 rfl rfl)
theorem dX0_findsAbove_17 : decode cX0_findsAbove 17 = .ok (.iconst 0, 1) := dk_3 (dk_at dksX0_findsAbove_0 17 rfl rfl)
theorem dX0_findsAbove_18 : decode cX0_findsAbove 18 = .ok (.aaload, 1) := dk_50 (dk_at dksX0_findsAbove_0 18 rfl rfl)
theorem dX0_findsAbove_19 : decode cX0_findsAbove 19 = .ok (.iload_n 2, 1) := dk_28 (dk_at dksX0_findsAbove_0 19 rfl rfl)
theorem dX0_findsAbove_20 : decode cX0_findsAbove 20 = .ok (.iconst 0, 1) := dk_3 (dk_at dksX0_findsAbove_0 20 rfl rfl)
theorem dX0_findsAbove_21 : decode cX0_findsAbove 21 = .ok (.iastore, 1) := dk_79 (dk_at dksX0_findsAbove_0 21 rfl rfl)
theorem dX0_findsAbove_22 : decode cX0_findsAbove 22 = .ok (.iload_n 2, 1) := dk_28 (dk_at dksX0_findsAbove_0 22 rfl rfl)
theorem dX0_findsAbove_23 : decode cX0_findsAbove 23 = .ok (.iconst 1, 1) := dk_4 (dk_at dksX0_findsAbove_0 23 rfl rfl)
theorem dX0_findsAbove_24 : decode cX0_findsAbove 24 = .ok (.iadd, 1) := dk_96 (dk_at dksX0_findsAbove_1 0 rfl rfl)
theorem dX0_findsAbove_25 : decode cX0_findsAbove 25 = .ok (.istore_n 3, 1) := dk_62 (dk_at dksX0_findsAbove_1 1 rfl rfl)
theorem dX0_findsAbove_26 : decode cX0_findsAbove 26 = .ok (.iload_n 3, 1) := dk_29 (dk_at dksX0_findsAbove_1 2 rfl rfl)
theorem dX0_findsAbove_27 : decode cX0_findsAbove 27 = .ok (.aload_n 0, 1) := dk_42 (dk_at dksX0_findsAbove_1 3 rfl rfl)
theorem dX0_findsAbove_28 : decode cX0_findsAbove 28 = .ok (.getfield 78, 3) := dk_180 0 78 (dk_at dksX0_findsAbove_1 4 rfl rfl)
theorem dX0_findsAbove_31 : decode cX0_findsAbove 31 = .ok (.getfield 306, 3) := dk_180 1 50 (dk_at dksX0_findsAbove_1 7 rfl rfl)
theorem dX0_findsAbove_34 : decode cX0_findsAbove 34 = .ok (.if_icmp .ge 30, 3) := dk_162 0 30 (dk_at dksX0_findsAbove_1 10 rfl rfl)
theorem dX0_findsAbove_37 : decode cX0_findsAbove 37 = .ok (.aload_n 0, 1) := dk_42 (dk_at dksX0_findsAbove_1 13 rfl rfl)
theorem dX0_findsAbove_38 : decode cX0_findsAbove 38 = .ok (.getfield 112, 3) := dk_180 0 112 (dk_at dksX0_findsAbove_1 14 rfl rfl)
theorem dX0_findsAbove_41 : decode cX0_findsAbove 41 = .ok (.iconst 0, 1) := dk_3 (dk_at dksX0_findsAbove_1 17 rfl rfl)
theorem dX0_findsAbove_42 : decode cX0_findsAbove 42 = .ok (.aaload, 1) := dk_50 (dk_at dksX0_findsAbove_1 18 rfl rfl)
theorem dX0_findsAbove_43 : decode cX0_findsAbove 43 = .ok (.iload_n 2, 1) := dk_28 (dk_at dksX0_findsAbove_1 19 rfl rfl)
theorem dX0_findsAbove_44 : decode cX0_findsAbove 44 = .ok (.dup2, 1) := dk_92 (dk_at dksX0_findsAbove_1 20 rfl rfl)
theorem dX0_findsAbove_45 : decode cX0_findsAbove 45 = .ok (.iaload, 1) := dk_46 (dk_at dksX0_findsAbove_1 21 rfl rfl)
theorem dX0_findsAbove_46 : decode cX0_findsAbove 46 = .ok (.aload_n 0, 1) := dk_42 (dk_at dksX0_findsAbove_1 22 rfl rfl)
theorem dX0_findsAbove_47 : decode cX0_findsAbove 47 = .ok (.getfield 82, 3) := dk_180 0 82 (dk_at dksX0_findsAbove_2 0 rfl rfl)
theorem dX0_findsAbove_50 : decode cX0_findsAbove 50 = .ok (.iload_n 3, 1) := dk_29 (dk_at dksX0_findsAbove_2 3 rfl rfl)
theorem dX0_findsAbove_51 : decode cX0_findsAbove 51 = .ok (.iaload, 1) := dk_46 (dk_at dksX0_findsAbove_2 4 rfl rfl)
theorem dX0_findsAbove_52 : decode cX0_findsAbove 52 = .ok (.iload_n 3, 1) := dk_29 (dk_at dksX0_findsAbove_2 5 rfl rfl)
theorem dX0_findsAbove_53 : decode cX0_findsAbove 53 = .ok (.iload_n 2, 1) := dk_28 (dk_at dksX0_findsAbove_2 6 rfl rfl)
theorem dX0_findsAbove_54 : decode cX0_findsAbove 54 = .ok (.isub, 1) := dk_100 (dk_at dksX0_findsAbove_2 7 rfl rfl)
theorem dX0_findsAbove_55 : decode cX0_findsAbove 55 = .ok (.imul, 1) := dk_104 (dk_at dksX0_findsAbove_2 8 rfl rfl)
theorem dX0_findsAbove_56 : decode cX0_findsAbove 56 = .ok (.iadd, 1) := dk_96 (dk_at dksX0_findsAbove_2 9 rfl rfl)
theorem dX0_findsAbove_57 : decode cX0_findsAbove 57 = .ok (.iastore, 1) := dk_79 (dk_at dksX0_findsAbove_2 10 rfl rfl)
theorem dX0_findsAbove_58 : decode cX0_findsAbove 58 = .ok (.iinc 3 1, 3) := dk_132 3 1 (dk_at dksX0_findsAbove_2 11 rfl rfl)
theorem dX0_findsAbove_61 : decode cX0_findsAbove 61 = .ok (.goto (-35), 3) := dk_167 255 221 (dk_at dksX0_findsAbove_2 14 rfl rfl)
theorem dX0_findsAbove_64 : decode cX0_findsAbove 64 = .ok (.iinc 2 1, 3) := dk_132 2 1 (dk_at dksX0_findsAbove_2 17 rfl rfl)
theorem dX0_findsAbove_67 : decode cX0_findsAbove 67 = .ok (.goto (-65), 3) := dk_167 255 191 (dk_at dksX0_findsAbove_2 20 rfl rfl)
theorem dX0_findsAbove_70 : decode cX0_findsAbove 70 = .ok (.iconst 1, 1) := dk_4 (dk_at dksX0_findsAbove_2 23 rfl rfl)
theorem dX0_findsAbove_71 : decode cX0_findsAbove 71 = .ok (.istore_n 2, 1) := dk_61 (dk_at dksX0_findsAbove_3 0 rfl rfl)
theorem dX0_findsAbove_72 : decode cX0_findsAbove 72 = .ok (.iload_n 2, 1) := dk_28 (dk_at dksX0_findsAbove_3 1 rfl rfl)
theorem dX0_findsAbove_73 : decode cX0_findsAbove 73 = .ok (.iload_n 1, 1) := dk_27 (dk_at dksX0_findsAbove_3 2 rfl rfl)
theorem dX0_findsAbove_74 : decode cX0_findsAbove 74 = .ok (.if_icmp .ge 106, 3) := dk_162 0 106 (dk_at dksX0_findsAbove_3 3 rfl rfl)
theorem dX0_findsAbove_77 : decode cX0_findsAbove 77 = .ok (.iconst 0, 1) := dk_3 (dk_at dksX0_findsAbove_3 6 rfl rfl)
theorem dX0_findsAbove_78 : decode cX0_findsAbove 78 = .ok (.istore_n 3, 1) := dk_62 (dk_at dksX0_findsAbove_3 7 rfl rfl)
theorem dX0_findsAbove_79 : decode cX0_findsAbove 79 = .ok (.iload_n 3, 1) := dk_29 (dk_at dksX0_findsAbove_3 8 rfl rfl)
theorem dX0_findsAbove_80 : decode cX0_findsAbove 80 = .ok (.aload_n 0, 1) := dk_42 (dk_at dksX0_findsAbove_3 9 rfl rfl)
theorem dX0_findsAbove_81 : decode cX0_findsAbove 81 = .ok (.getfield 78, 3) := dk_180 0 78 (dk_at dksX0_findsAbove_3 10 rfl rfl)
theorem dX0_findsAbove_84 : decode cX0_findsAbove 84 = .ok (.getfield 306, 3) := dk_180 1 50 (dk_at dksX0_findsAbove_3 13 rfl rfl)
theorem dX0_findsAbove_87 : decode cX0_findsAbove 87 = .ok (.iload_n 2, 1) := dk_28 (dk_at dksX0_findsAbove_3 16 rfl rfl)
theorem dX0_findsAbove_88 : decode cX0_findsAbove 88 = .ok (.isub, 1) := dk_100 (dk_at dksX0_findsAbove_3 17 rfl rfl)
theorem dX0_findsAbove_89 : decode cX0_findsAbove 89 = .ok (.if_icmp .ge 85, 3) := dk_162 0 85 (dk_at dksX0_findsAbove_3 18 rfl rfl)
theorem dX0_findsAbove_92 : decode cX0_findsAbove 92 = .ok (.aload_n 0, 1) := dk_42 (dk_at dksX0_findsAbove_3 21 rfl rfl)
theorem dX0_findsAbove_93 : decode cX0_findsAbove 93 = .ok (.getfield 112, 3) := dk_180 0 112 (dk_at dksX0_findsAbove_4 0 rfl rfl)
theorem dX0_findsAbove_96 : decode cX0_findsAbove 96 = .ok (.iload_n 2, 1) := dk_28 (dk_at dksX0_findsAbove_4 3 rfl rfl)
theorem dX0_findsAbove_97 : decode cX0_findsAbove 97 = .ok (.aaload, 1) := dk_50 (dk_at dksX0_findsAbove_4 4 rfl rfl)
theorem dX0_findsAbove_98 : decode cX0_findsAbove 98 = .ok (.iload_n 3, 1) := dk_29 (dk_at dksX0_findsAbove_4 5 rfl rfl)
theorem dX0_findsAbove_99 : decode cX0_findsAbove 99 = .ok (.ldc_w 497, 3) := dk_19 1 241 (dk_at dksX0_findsAbove_4 6 rfl rfl)
theorem dX0_findsAbove_102 : decode cX0_findsAbove 102 = .ok (.iastore, 1) := dk_79 (dk_at dksX0_findsAbove_4 9 rfl rfl)
theorem dX0_findsAbove_103 : decode cX0_findsAbove 103 = .ok (.iload_n 3, 1) := dk_29 (dk_at dksX0_findsAbove_4 10 rfl rfl)
theorem dX0_findsAbove_104 : decode cX0_findsAbove 104 = .ok (.iconst 1, 1) := dk_4 (dk_at dksX0_findsAbove_4 11 rfl rfl)
theorem dX0_findsAbove_105 : decode cX0_findsAbove 105 = .ok (.iadd, 1) := dk_96 (dk_at dksX0_findsAbove_4 12 rfl rfl)
theorem dX0_findsAbove_106 : decode cX0_findsAbove 106 = .ok (.istore 4, 2) := dk_54 4 (dk_at dksX0_findsAbove_4 13 rfl rfl)
theorem dX0_findsAbove_108 : decode cX0_findsAbove 108 = .ok (.iload 4, 2) := dk_21 4 (dk_at dksX0_findsAbove_4 15 rfl rfl)
theorem dX0_findsAbove_110 : decode cX0_findsAbove 110 = .ok (.aload_n 0, 1) := dk_42 (dk_at dksX0_findsAbove_4 17 rfl rfl)
theorem dX0_findsAbove_111 : decode cX0_findsAbove 111 = .ok (.getfield 78, 3) := dk_180 0 78 (dk_at dksX0_findsAbove_4 18 rfl rfl)
theorem dX0_findsAbove_114 : decode cX0_findsAbove 114 = .ok (.getfield 306, 3) := dk_180 1 50 (dk_at dksX0_findsAbove_4 21 rfl rfl)
theorem dX0_findsAbove_117 : decode cX0_findsAbove 117 = .ok (.iload_n 2, 1) := dk_28 (dk_at dksX0_findsAbove_5 0 rfl rfl)
theorem dX0_findsAbove_118 : decode cX0_findsAbove 118 = .ok (.isub, 1) := dk_100 (dk_at dksX0_findsAbove_5 1 rfl rfl)
theorem dX0_findsAbove_119 : decode cX0_findsAbove 119 = .ok (.iconst 1, 1) := dk_4 (dk_at dksX0_findsAbove_5 2 rfl rfl)
theorem dX0_findsAbove_120 : decode cX0_findsAbove 120 = .ok (.iadd, 1) := dk_96 (dk_at dksX0_findsAbove_5 3 rfl rfl)
theorem dX0_findsAbove_121 : decode cX0_findsAbove 121 = .ok (.if_icmp .ge 47, 3) := dk_162 0 47 (dk_at dksX0_findsAbove_5 4 rfl rfl)
theorem dX0_findsAbove_124 : decode cX0_findsAbove 124 = .ok (.aload_n 0, 1) := dk_42 (dk_at dksX0_findsAbove_5 7 rfl rfl)
theorem dX0_findsAbove_125 : decode cX0_findsAbove 125 = .ok (.getfield 112, 3) := dk_180 0 112 (dk_at dksX0_findsAbove_5 8 rfl rfl)
theorem dX0_findsAbove_128 : decode cX0_findsAbove 128 = .ok (.iload_n 2, 1) := dk_28 (dk_at dksX0_findsAbove_5 11 rfl rfl)
theorem dX0_findsAbove_129 : decode cX0_findsAbove 129 = .ok (.aaload, 1) := dk_50 (dk_at dksX0_findsAbove_5 12 rfl rfl)
theorem dX0_findsAbove_130 : decode cX0_findsAbove 130 = .ok (.iload_n 3, 1) := dk_29 (dk_at dksX0_findsAbove_5 13 rfl rfl)
theorem dX0_findsAbove_131 : decode cX0_findsAbove 131 = .ok (.aload_n 0, 1) := dk_42 (dk_at dksX0_findsAbove_5 14 rfl rfl)
theorem dX0_findsAbove_132 : decode cX0_findsAbove 132 = .ok (.getfield 112, 3) := dk_180 0 112 (dk_at dksX0_findsAbove_5 15 rfl rfl)
theorem dX0_findsAbove_135 : decode cX0_findsAbove 135 = .ok (.iload_n 2, 1) := dk_28 (dk_at dksX0_findsAbove_5 18 rfl rfl)
theorem dX0_findsAbove_136 : decode cX0_findsAbove 136 = .ok (.aaload, 1) := dk_50 (dk_at dksX0_findsAbove_5 19 rfl rfl)
theorem dX0_findsAbove_137 : decode cX0_findsAbove 137 = .ok (.iload_n 3, 1) := dk_29 (dk_at dksX0_findsAbove_5 20 rfl rfl)
theorem dX0_findsAbove_138 : decode cX0_findsAbove 138 = .ok (.iaload, 1) := dk_46 (dk_at dksX0_findsAbove_5 21 rfl rfl)
theorem dX0_findsAbove_139 : decode cX0_findsAbove 139 = .ok (.aload_n 0, 1) := dk_42 (dk_at dksX0_findsAbove_5 22 rfl rfl)
theorem dX0_findsAbove_140 : decode cX0_findsAbove 140 = .ok (.iload_n 3, 1) := dk_29 (dk_at dksX0_findsAbove_5 23 rfl rfl)
theorem dX0_findsAbove_141 : decode cX0_findsAbove 141 = .ok (.iload 4, 2) := dk_21 4 (dk_at dksX0_findsAbove_6 0 rfl rfl)
theorem dX0_findsAbove_143 : decode cX0_findsAbove 143 = .ok (.invokevirtual 498, 3) := dk_182 1 242 (dk_at dksX0_findsAbove_6 2 rfl rfl)
theorem dX0_findsAbove_146 : decode cX0_findsAbove 146 = .ok (.aload_n 0, 1) := dk_42 (dk_at dksX0_findsAbove_6 5 rfl rfl)
theorem dX0_findsAbove_147 : decode cX0_findsAbove 147 = .ok (.getfield 112, 3) := dk_180 0 112 (dk_at dksX0_findsAbove_6 6 rfl rfl)
theorem dX0_findsAbove_150 : decode cX0_findsAbove 150 = .ok (.iload_n 2, 1) := dk_28 (dk_at dksX0_findsAbove_6 9 rfl rfl)
theorem dX0_findsAbove_151 : decode cX0_findsAbove 151 = .ok (.iconst 1, 1) := dk_4 (dk_at dksX0_findsAbove_6 10 rfl rfl)
theorem dX0_findsAbove_152 : decode cX0_findsAbove 152 = .ok (.isub, 1) := dk_100 (dk_at dksX0_findsAbove_6 11 rfl rfl)
theorem dX0_findsAbove_153 : decode cX0_findsAbove 153 = .ok (.aaload, 1) := dk_50 (dk_at dksX0_findsAbove_6 12 rfl rfl)
theorem dX0_findsAbove_154 : decode cX0_findsAbove 154 = .ok (.iload 4, 2) := dk_21 4 (dk_at dksX0_findsAbove_6 13 rfl rfl)
theorem dX0_findsAbove_156 : decode cX0_findsAbove 156 = .ok (.iaload, 1) := dk_46 (dk_at dksX0_findsAbove_6 15 rfl rfl)
theorem dX0_findsAbove_157 : decode cX0_findsAbove 157 = .ok (.iadd, 1) := dk_96 (dk_at dksX0_findsAbove_6 16 rfl rfl)
theorem dX0_findsAbove_158 : decode cX0_findsAbove 158 = .ok (.invokestatic 196, 3) := dk_184 0 196 (dk_at dksX0_findsAbove_6 17 rfl rfl)
theorem dX0_findsAbove_161 : decode cX0_findsAbove 161 = .ok (.iastore, 1) := dk_79 (dk_at dksX0_findsAbove_6 20 rfl rfl)
theorem dX0_findsAbove_162 : decode cX0_findsAbove 162 = .ok (.iinc 4 1, 3) := dk_132 4 1 (dk_at dksX0_findsAbove_6 21 rfl rfl)
theorem dX0_findsAbove_165 : decode cX0_findsAbove 165 = .ok (.goto (-57), 3) := dk_167 255 199 (dk_at dksX0_findsAbove_7 0 rfl rfl)
theorem dX0_findsAbove_168 : decode cX0_findsAbove 168 = .ok (.iinc 3 1, 3) := dk_132 3 1 (dk_at dksX0_findsAbove_7 3 rfl rfl)
theorem dX0_findsAbove_171 : decode cX0_findsAbove 171 = .ok (.goto (-92), 3) := dk_167 255 164 (dk_at dksX0_findsAbove_7 6 rfl rfl)
theorem dX0_findsAbove_174 : decode cX0_findsAbove 174 = .ok (.iinc 2 1, 3) := dk_132 2 1 (dk_at dksX0_findsAbove_7 9 rfl rfl)
theorem dX0_findsAbove_177 : decode cX0_findsAbove 177 = .ok (.goto (-105), 3) := dk_167 255 151 (dk_at dksX0_findsAbove_7 12 rfl rfl)
theorem dX0_findsAbove_180 : decode cX0_findsAbove 180 = .ok (.return_, 1) := dk_177 (dk_at dksX0_findsAbove_7 15 rfl rfl)
abbrev cX0_between : ByteArray := prog_1_method_54_code
def yX0_between : MethodName := ⟨RX0, "between", "(II)I"⟩
def dkwX0_between_1 : List UInt8 := [100, 28, 21, 4, 100, 184, 0, 196, 104, 96, 62, 132, 4, 1, 167, 255, 225, 29, 172]
abbrev dktX0_between_1 : List UInt8 := dkwX0_between_1 ++ []
def dkwX0_between_0 : List UInt8 := [3, 62, 27, 4, 96, 54, 4, 21, 4, 28, 162, 0, 31, 29, 42, 180, 0, 82, 21, 4, 46, 21, 4, 27]
abbrev dktX0_between_0 : List UInt8 := dkwX0_between_0 ++ dktX0_between_1
theorem dksX0_between_0 : cX0_between.data.toList.drop 0 = dktX0_between_0 := by decide +kernel
theorem dksX0_between_1 : cX0_between.data.toList.drop 24 = dktX0_between_1 := dk_seg dksX0_between_0 24 rfl rfl
theorem dX0_between_0 : decode cX0_between 0 = .ok (.iconst 0, 1) := dk_3 (dk_at dksX0_between_0 0 rfl rfl)
theorem dX0_between_1 : decode cX0_between 1 = .ok (.istore_n 3, 1) := dk_62 (dk_at dksX0_between_0 1 rfl rfl)
theorem dX0_between_2 : decode cX0_between 2 = .ok (.iload_n 1, 1) := dk_27 (dk_at dksX0_between_0 2 rfl rfl)
theorem dX0_between_3 : decode cX0_between 3 = .ok (.iconst 1, 1) := dk_4 (dk_at dksX0_between_0 3 rfl rfl)
theorem dX0_between_4 : decode cX0_between 4 = .ok (.iadd, 1) := dk_96 (dk_at dksX0_between_0 4 rfl rfl)
theorem dX0_between_5 : decode cX0_between 5 = .ok (.istore 4, 2) := dk_54 4 (dk_at dksX0_between_0 5 rfl rfl)
theorem dX0_between_7 : decode cX0_between 7 = .ok (.iload 4, 2) := dk_21 4 (dk_at dksX0_between_0 7 rfl rfl)
theorem dX0_between_9 : decode cX0_between 9 = .ok (.iload_n 2, 1) := dk_28 (dk_at dksX0_between_0 9 rfl rfl)
theorem dX0_between_10 : decode cX0_between 10 = .ok (.if_icmp .ge 31, 3) := dk_162 0 31 (dk_at dksX0_between_0 10 rfl rfl)
theorem dX0_between_13 : decode cX0_between 13 = .ok (.iload_n 3, 1) := dk_29 (dk_at dksX0_between_0 13 rfl rfl)
theorem dX0_between_14 : decode cX0_between 14 = .ok (.aload_n 0, 1) := dk_42 (dk_at dksX0_between_0 14 rfl rfl)
theorem dX0_between_15 : decode cX0_between 15 = .ok (.getfield 82, 3) := dk_180 0 82 (dk_at dksX0_between_0 15 rfl rfl)
theorem dX0_between_18 : decode cX0_between 18 = .ok (.iload 4, 2) := dk_21 4 (dk_at dksX0_between_0 18 rfl rfl)
theorem dX0_between_20 : decode cX0_between 20 = .ok (.iaload, 1) := dk_46 (dk_at dksX0_between_0 20 rfl rfl)
theorem dX0_between_21 : decode cX0_between 21 = .ok (.iload 4, 2) := dk_21 4 (dk_at dksX0_between_0 21 rfl rfl)
theorem dX0_between_23 : decode cX0_between 23 = .ok (.iload_n 1, 1) := dk_27 (dk_at dksX0_between_0 23 rfl rfl)
theorem dX0_between_24 : decode cX0_between 24 = .ok (.isub, 1) := dk_100 (dk_at dksX0_between_1 0 rfl rfl)
theorem dX0_between_25 : decode cX0_between 25 = .ok (.iload_n 2, 1) := dk_28 (dk_at dksX0_between_1 1 rfl rfl)
theorem dX0_between_26 : decode cX0_between 26 = .ok (.iload 4, 2) := dk_21 4 (dk_at dksX0_between_1 2 rfl rfl)
theorem dX0_between_28 : decode cX0_between 28 = .ok (.isub, 1) := dk_100 (dk_at dksX0_between_1 4 rfl rfl)
theorem dX0_between_29 : decode cX0_between 29 = .ok (.invokestatic 196, 3) := dk_184 0 196 (dk_at dksX0_between_1 5 rfl rfl)
theorem dX0_between_32 : decode cX0_between 32 = .ok (.imul, 1) := dk_104 (dk_at dksX0_between_1 8 rfl rfl)
theorem dX0_between_33 : decode cX0_between 33 = .ok (.iadd, 1) := dk_96 (dk_at dksX0_between_1 9 rfl rfl)
theorem dX0_between_34 : decode cX0_between 34 = .ok (.istore_n 3, 1) := dk_62 (dk_at dksX0_between_1 10 rfl rfl)
theorem dX0_between_35 : decode cX0_between 35 = .ok (.iinc 4 1, 3) := dk_132 4 1 (dk_at dksX0_between_1 11 rfl rfl)
theorem dX0_between_38 : decode cX0_between 38 = .ok (.goto (-31), 3) := dk_167 255 225 (dk_at dksX0_between_1 14 rfl rfl)
theorem dX0_between_41 : decode cX0_between 41 = .ok (.iload_n 3, 1) := dk_29 (dk_at dksX0_between_1 17 rfl rfl)
theorem dX0_between_42 : decode cX0_between 42 = .ok (.ireturn, 1) := dk_172 (dk_at dksX0_between_1 18 rfl rfl)
abbrev cX0_below : ByteArray := prog_1_method_53_code
def yX0_below : MethodName := ⟨RX0, "below", "(I)I"⟩
def dkwX0_below_1 : List UInt8 := [132, 3, 1, 167, 255, 235, 28, 172]
abbrev dktX0_below_1 : List UInt8 := dkwX0_below_1 ++ []
def dkwX0_below_0 : List UInt8 := [3, 61, 3, 62, 29, 27, 162, 0, 22, 28, 42, 180, 0, 82, 29, 46, 27, 29, 100, 104, 96, 61]
abbrev dktX0_below_0 : List UInt8 := dkwX0_below_0 ++ dktX0_below_1
theorem dksX0_below_0 : cX0_below.data.toList.drop 0 = dktX0_below_0 := by decide +kernel
theorem dksX0_below_1 : cX0_below.data.toList.drop 22 = dktX0_below_1 := dk_seg dksX0_below_0 22 rfl rfl
theorem dX0_below_0 : decode cX0_below 0 = .ok (.iconst 0, 1) := dk_3 (dk_at dksX0_below_0 0 rfl rfl)
theorem dX0_below_1 : decode cX0_below 1 = .ok (.istore_n 2, 1) := dk_61 (dk_at dksX0_below_0 1 rfl rfl)
theorem dX0_below_2 : decode cX0_below 2 = .ok (.iconst 0, 1) := dk_3 (dk_at dksX0_below_0 2 rfl rfl)
theorem dX0_below_3 : decode cX0_below 3 = .ok (.istore_n 3, 1) := dk_62 (dk_at dksX0_below_0 3 rfl rfl)
theorem dX0_below_4 : decode cX0_below 4 = .ok (.iload_n 3, 1) := dk_29 (dk_at dksX0_below_0 4 rfl rfl)
theorem dX0_below_5 : decode cX0_below 5 = .ok (.iload_n 1, 1) := dk_27 (dk_at dksX0_below_0 5 rfl rfl)
theorem dX0_below_6 : decode cX0_below 6 = .ok (.if_icmp .ge 22, 3) := dk_162 0 22 (dk_at dksX0_below_0 6 rfl rfl)
theorem dX0_below_9 : decode cX0_below 9 = .ok (.iload_n 2, 1) := dk_28 (dk_at dksX0_below_0 9 rfl rfl)
theorem dX0_below_10 : decode cX0_below 10 = .ok (.aload_n 0, 1) := dk_42 (dk_at dksX0_below_0 10 rfl rfl)
theorem dX0_below_11 : decode cX0_below 11 = .ok (.getfield 82, 3) := dk_180 0 82 (dk_at dksX0_below_0 11 rfl rfl)
theorem dX0_below_14 : decode cX0_below 14 = .ok (.iload_n 3, 1) := dk_29 (dk_at dksX0_below_0 14 rfl rfl)
theorem dX0_below_15 : decode cX0_below 15 = .ok (.iaload, 1) := dk_46 (dk_at dksX0_below_0 15 rfl rfl)
theorem dX0_below_16 : decode cX0_below 16 = .ok (.iload_n 1, 1) := dk_27 (dk_at dksX0_below_0 16 rfl rfl)
theorem dX0_below_17 : decode cX0_below 17 = .ok (.iload_n 3, 1) := dk_29 (dk_at dksX0_below_0 17 rfl rfl)
theorem dX0_below_18 : decode cX0_below 18 = .ok (.isub, 1) := dk_100 (dk_at dksX0_below_0 18 rfl rfl)
theorem dX0_below_19 : decode cX0_below 19 = .ok (.imul, 1) := dk_104 (dk_at dksX0_below_0 19 rfl rfl)
theorem dX0_below_20 : decode cX0_below 20 = .ok (.iadd, 1) := dk_96 (dk_at dksX0_below_0 20 rfl rfl)
theorem dX0_below_21 : decode cX0_below 21 = .ok (.istore_n 2, 1) := dk_61 (dk_at dksX0_below_0 21 rfl rfl)
theorem dX0_below_22 : decode cX0_below 22 = .ok (.iinc 3 1, 3) := dk_132 3 1 (dk_at dksX0_below_1 0 rfl rfl)
theorem dX0_below_25 : decode cX0_below 25 = .ok (.goto (-21), 3) := dk_167 255 235 (dk_at dksX0_below_1 3 rfl rfl)
theorem dX0_below_28 : decode cX0_below 28 = .ok (.iload_n 2, 1) := dk_28 (dk_at dksX0_below_1 6 rfl rfl)
theorem dX0_below_29 : decode cX0_below 29 = .ok (.ireturn, 1) := dk_172 (dk_at dksX0_below_1 7 rfl rfl)
abbrev cX0_zones : ByteArray := prog_1_method_60_code
def yX0_zones : MethodName := ⟨RX0, "zones", "(II)I"⟩
def dkwX0_zones_3 : List UInt8 := [180, 2, 1, 167, 0, 12, 42, 180, 0, 121, 28, 16, 10, 100, 46, 172]
abbrev dktX0_zones_3 : List UInt8 := dkwX0_zones_3 ++ []
def dkwX0_zones_2 : List UInt8 := [154, 0, 5, 2, 172, 42, 2, 181, 2, 1, 42, 3, 27, 3, 182, 2, 4, 28, 154, 0, 10, 42]
abbrev dktX0_zones_2 : List UInt8 := dkwX0_zones_2 ++ dktX0_zones_3
def dkwX0_zones_1 : List UInt8 := [180, 0, 78, 180, 1, 34, 153, 0, 20, 28, 153, 0, 18, 28, 16, 10, 16, 9, 27, 96, 184, 0, 137]
abbrev dktX0_zones_1 : List UInt8 := dkwX0_zones_1 ++ dktX0_zones_2
def dkwX0_zones_0 : List UInt8 := [27, 4, 6, 184, 0, 137, 153, 0, 43, 42, 180, 0, 78, 180, 1, 50, 27, 5, 96, 161, 0, 30, 42]
abbrev dktX0_zones_0 : List UInt8 := dkwX0_zones_0 ++ dktX0_zones_1
theorem dksX0_zones_0 : cX0_zones.data.toList.drop 0 = dktX0_zones_0 := by decide +kernel
theorem dksX0_zones_1 : cX0_zones.data.toList.drop 23 = dktX0_zones_1 := dk_seg dksX0_zones_0 23 rfl rfl
theorem dksX0_zones_2 : cX0_zones.data.toList.drop 46 = dktX0_zones_2 := dk_seg dksX0_zones_1 23 rfl rfl
theorem dksX0_zones_3 : cX0_zones.data.toList.drop 68 = dktX0_zones_3 := dk_seg dksX0_zones_2 22 rfl rfl
theorem dX0_zones_0 : decode cX0_zones 0 = .ok (.iload_n 1, 1) := dk_27 (dk_at dksX0_zones_0 0 rfl rfl)
theorem dX0_zones_1 : decode cX0_zones 1 = .ok (.iconst 1, 1) := dk_4 (dk_at dksX0_zones_0 1 rfl rfl)
theorem dX0_zones_2 : decode cX0_zones 2 = .ok (.iconst 3, 1) := dk_6 (dk_at dksX0_zones_0 2 rfl rfl)
theorem dX0_zones_3 : decode cX0_zones 3 = .ok (.invokestatic 137, 3) := dk_184 0 137 (dk_at dksX0_zones_0 3 rfl rfl)
theorem dX0_zones_6 : decode cX0_zones 6 = .ok (.ifCond .eq 43, 3) := dk_153 0 43 (dk_at dksX0_zones_0 6 rfl rfl)
theorem dX0_zones_9 : decode cX0_zones 9 = .ok (.aload_n 0, 1) := dk_42 (dk_at dksX0_zones_0 9 rfl rfl)
theorem dX0_zones_10 : decode cX0_zones 10 = .ok (.getfield 78, 3) := dk_180 0 78 (dk_at dksX0_zones_0 10 rfl rfl)
theorem dX0_zones_13 : decode cX0_zones 13 = .ok (.getfield 306, 3) := dk_180 1 50 (dk_at dksX0_zones_0 13 rfl rfl)
theorem dX0_zones_16 : decode cX0_zones 16 = .ok (.iload_n 1, 1) := dk_27 (dk_at dksX0_zones_0 16 rfl rfl)
theorem dX0_zones_17 : decode cX0_zones 17 = .ok (.iconst 2, 1) := dk_5 (dk_at dksX0_zones_0 17 rfl rfl)
theorem dX0_zones_18 : decode cX0_zones 18 = .ok (.iadd, 1) := dk_96 (dk_at dksX0_zones_0 18 rfl rfl)
theorem dX0_zones_19 : decode cX0_zones 19 = .ok (.if_icmp .lt 30, 3) := dk_161 0 30 (dk_at dksX0_zones_0 19 rfl rfl)
theorem dX0_zones_22 : decode cX0_zones 22 = .ok (.aload_n 0, 1) := dk_42 (dk_at dksX0_zones_0 22 rfl rfl)
theorem dX0_zones_23 : decode cX0_zones 23 = .ok (.getfield 78, 3) := dk_180 0 78 (dk_at dksX0_zones_1 0 rfl rfl)
theorem dX0_zones_26 : decode cX0_zones 26 = .ok (.getfield 290, 3) := dk_180 1 34 (dk_at dksX0_zones_1 3 rfl rfl)
theorem dX0_zones_29 : decode cX0_zones 29 = .ok (.ifCond .eq 20, 3) := dk_153 0 20 (dk_at dksX0_zones_1 6 rfl rfl)
theorem dX0_zones_32 : decode cX0_zones 32 = .ok (.iload_n 2, 1) := dk_28 (dk_at dksX0_zones_1 9 rfl rfl)
theorem dX0_zones_33 : decode cX0_zones 33 = .ok (.ifCond .eq 18, 3) := dk_153 0 18 (dk_at dksX0_zones_1 10 rfl rfl)
theorem dX0_zones_36 : decode cX0_zones 36 = .ok (.iload_n 2, 1) := dk_28 (dk_at dksX0_zones_1 13 rfl rfl)
theorem dX0_zones_37 : decode cX0_zones 37 = .ok (.bipush 10, 2) := dk_16 10 (dk_at dksX0_zones_1 14 rfl rfl)
theorem dX0_zones_39 : decode cX0_zones 39 = .ok (.bipush 9, 2) := dk_16 9 (dk_at dksX0_zones_1 16 rfl rfl)
theorem dX0_zones_41 : decode cX0_zones 41 = .ok (.iload_n 1, 1) := dk_27 (dk_at dksX0_zones_1 18 rfl rfl)
theorem dX0_zones_42 : decode cX0_zones 42 = .ok (.iadd, 1) := dk_96 (dk_at dksX0_zones_1 19 rfl rfl)
theorem dX0_zones_43 : decode cX0_zones 43 = .ok (.invokestatic 137, 3) := dk_184 0 137 (dk_at dksX0_zones_1 20 rfl rfl)
theorem dX0_zones_46 : decode cX0_zones 46 = .ok (.ifCond .ne 5, 3) := dk_154 0 5 (dk_at dksX0_zones_2 0 rfl rfl)
theorem dX0_zones_49 : decode cX0_zones 49 = .ok (.iconst (-1), 1) := dk_2 (dk_at dksX0_zones_2 3 rfl rfl)
theorem dX0_zones_50 : decode cX0_zones 50 = .ok (.ireturn, 1) := dk_172 (dk_at dksX0_zones_2 4 rfl rfl)
theorem dX0_zones_51 : decode cX0_zones 51 = .ok (.aload_n 0, 1) := dk_42 (dk_at dksX0_zones_2 5 rfl rfl)
theorem dX0_zones_52 : decode cX0_zones 52 = .ok (.iconst (-1), 1) := dk_2 (dk_at dksX0_zones_2 6 rfl rfl)
theorem dX0_zones_53 : decode cX0_zones 53 = .ok (.putfield 513, 3) := dk_181 2 1 (dk_at dksX0_zones_2 7 rfl rfl)
theorem dX0_zones_56 : decode cX0_zones 56 = .ok (.aload_n 0, 1) := dk_42 (dk_at dksX0_zones_2 10 rfl rfl)
theorem dX0_zones_57 : decode cX0_zones 57 = .ok (.iconst 0, 1) := dk_3 (dk_at dksX0_zones_2 11 rfl rfl)
theorem dX0_zones_58 : decode cX0_zones 58 = .ok (.iload_n 1, 1) := dk_27 (dk_at dksX0_zones_2 12 rfl rfl)
theorem dX0_zones_59 : decode cX0_zones 59 = .ok (.iconst 0, 1) := dk_3 (dk_at dksX0_zones_2 13 rfl rfl)
theorem dX0_zones_60 : decode cX0_zones 60 = .ok (.invokevirtual 516, 3) := dk_182 2 4 (dk_at dksX0_zones_2 14 rfl rfl)
theorem dX0_zones_63 : decode cX0_zones 63 = .ok (.iload_n 2, 1) := dk_28 (dk_at dksX0_zones_2 17 rfl rfl)
theorem dX0_zones_64 : decode cX0_zones 64 = .ok (.ifCond .ne 10, 3) := dk_154 0 10 (dk_at dksX0_zones_2 18 rfl rfl)
theorem dX0_zones_67 : decode cX0_zones 67 = .ok (.aload_n 0, 1) := dk_42 (dk_at dksX0_zones_2 21 rfl rfl)
theorem dX0_zones_68 : decode cX0_zones 68 = .ok (.getfield 513, 3) := dk_180 2 1 (dk_at dksX0_zones_3 0 rfl rfl)
theorem dX0_zones_71 : decode cX0_zones 71 = .ok (.goto 12, 3) := dk_167 0 12 (dk_at dksX0_zones_3 3 rfl rfl)
theorem dX0_zones_74 : decode cX0_zones 74 = .ok (.aload_n 0, 1) := dk_42 (dk_at dksX0_zones_3 6 rfl rfl)
theorem dX0_zones_75 : decode cX0_zones 75 = .ok (.getfield 121, 3) := dk_180 0 121 (dk_at dksX0_zones_3 7 rfl rfl)
theorem dX0_zones_78 : decode cX0_zones 78 = .ok (.iload_n 2, 1) := dk_28 (dk_at dksX0_zones_3 10 rfl rfl)
theorem dX0_zones_79 : decode cX0_zones 79 = .ok (.bipush 10, 2) := dk_16 10 (dk_at dksX0_zones_3 11 rfl rfl)
theorem dX0_zones_81 : decode cX0_zones 81 = .ok (.isub, 1) := dk_100 (dk_at dksX0_zones_3 13 rfl rfl)
theorem dX0_zones_82 : decode cX0_zones 82 = .ok (.iaload, 1) := dk_46 (dk_at dksX0_zones_3 14 rfl rfl)
theorem dX0_zones_83 : decode cX0_zones 83 = .ok (.ireturn, 1) := dk_172 (dk_at dksX0_zones_3 15 rfl rfl)
abbrev cX0_cutsOn : ByteArray := prog_1_method_59_code
def yX0_cutsOn : MethodName := ⟨RX0, "cutsOn", "(III)V"⟩
def dkwX0_cutsOn_6 : List UInt8 := [162, 0, 13, 42, 27, 4, 96, 28, 21, 6, 182, 2, 4, 132, 5, 1, 167, 255, 186, 177]
abbrev dktX0_cutsOn_6 : List UInt8 := dkwX0_cutsOn_6 ++ []
def dkwX0_cutsOn_5 : List UInt8 := [21, 5, 4, 100, 182, 1, 254, 96, 54, 6, 42, 180, 2, 1, 2, 159, 0, 12, 21, 6, 42, 180, 2, 1]
abbrev dktX0_cutsOn_5 : List UInt8 := dkwX0_cutsOn_5 ++ dktX0_cutsOn_6
def dkwX0_cutsOn_4 : List UInt8 := [180, 1, 50, 28, 4, 100, 27, 100, 100, 162, 0, 58, 42, 180, 0, 118, 27, 21, 5, 79, 29, 42, 21, 4]
abbrev dktX0_cutsOn_4 : List UInt8 := dkwX0_cutsOn_4 ++ dktX0_cutsOn_5
def dkwX0_cutsOn_3 : List UInt8 := [42, 180, 0, 121, 3, 6, 184, 1, 212, 177, 21, 4, 4, 96, 54, 5, 21, 5, 42, 180, 0, 78]
abbrev dktX0_cutsOn_3 : List UInt8 := dkwX0_cutsOn_3 ++ dktX0_cutsOn_4
def dkwX0_cutsOn_2 : List UInt8 := [159, 0, 13, 21, 5, 42, 180, 2, 1, 161, 0, 4, 177, 42, 21, 5, 181, 2, 1, 42, 180, 0, 118, 3]
abbrev dktX0_cutsOn_2 : List UInt8 := dkwX0_cutsOn_2 ++ dktX0_cutsOn_3
def dkwX0_cutsOn_1 : List UInt8 := [42, 21, 4, 42, 180, 0, 78, 180, 1, 50, 4, 100, 182, 1, 254, 96, 54, 5, 42, 180, 2, 1, 2]
abbrev dktX0_cutsOn_1 : List UInt8 := dkwX0_cutsOn_1 ++ dktX0_cutsOn_2
def dkwX0_cutsOn_0 : List UInt8 := [27, 154, 0, 7, 4, 167, 0, 11, 42, 180, 0, 118, 27, 4, 100, 46, 54, 4, 27, 28, 160, 0, 61, 29]
abbrev dktX0_cutsOn_0 : List UInt8 := dkwX0_cutsOn_0 ++ dktX0_cutsOn_1
theorem dksX0_cutsOn_0 : cX0_cutsOn.data.toList.drop 0 = dktX0_cutsOn_0 := by decide +kernel
theorem dksX0_cutsOn_1 : cX0_cutsOn.data.toList.drop 24 = dktX0_cutsOn_1 := dk_seg dksX0_cutsOn_0 24 rfl rfl
theorem dksX0_cutsOn_2 : cX0_cutsOn.data.toList.drop 47 = dktX0_cutsOn_2 := dk_seg dksX0_cutsOn_1 23 rfl rfl
theorem dksX0_cutsOn_3 : cX0_cutsOn.data.toList.drop 71 = dktX0_cutsOn_3 := dk_seg dksX0_cutsOn_2 24 rfl rfl
theorem dksX0_cutsOn_4 : cX0_cutsOn.data.toList.drop 93 = dktX0_cutsOn_4 := dk_seg dksX0_cutsOn_3 22 rfl rfl
theorem dksX0_cutsOn_5 : cX0_cutsOn.data.toList.drop 117 = dktX0_cutsOn_5 := dk_seg dksX0_cutsOn_4 24 rfl rfl
theorem dksX0_cutsOn_6 : cX0_cutsOn.data.toList.drop 141 = dktX0_cutsOn_6 := dk_seg dksX0_cutsOn_5 24 rfl rfl
theorem dX0_cutsOn_0 : decode cX0_cutsOn 0 = .ok (.iload_n 1, 1) := dk_27 (dk_at dksX0_cutsOn_0 0 rfl rfl)
theorem dX0_cutsOn_1 : decode cX0_cutsOn 1 = .ok (.ifCond .ne 7, 3) := dk_154 0 7 (dk_at dksX0_cutsOn_0 1 rfl rfl)
theorem dX0_cutsOn_4 : decode cX0_cutsOn 4 = .ok (.iconst 1, 1) := dk_4 (dk_at dksX0_cutsOn_0 4 rfl rfl)
theorem dX0_cutsOn_5 : decode cX0_cutsOn 5 = .ok (.goto 11, 3) := dk_167 0 11 (dk_at dksX0_cutsOn_0 5 rfl rfl)
theorem dX0_cutsOn_8 : decode cX0_cutsOn 8 = .ok (.aload_n 0, 1) := dk_42 (dk_at dksX0_cutsOn_0 8 rfl rfl)
theorem dX0_cutsOn_9 : decode cX0_cutsOn 9 = .ok (.getfield 118, 3) := dk_180 0 118 (dk_at dksX0_cutsOn_0 9 rfl rfl)
theorem dX0_cutsOn_12 : decode cX0_cutsOn 12 = .ok (.iload_n 1, 1) := dk_27 (dk_at dksX0_cutsOn_0 12 rfl rfl)
theorem dX0_cutsOn_13 : decode cX0_cutsOn 13 = .ok (.iconst 1, 1) := dk_4 (dk_at dksX0_cutsOn_0 13 rfl rfl)
theorem dX0_cutsOn_14 : decode cX0_cutsOn 14 = .ok (.isub, 1) := dk_100 (dk_at dksX0_cutsOn_0 14 rfl rfl)
theorem dX0_cutsOn_15 : decode cX0_cutsOn 15 = .ok (.iaload, 1) := dk_46 (dk_at dksX0_cutsOn_0 15 rfl rfl)
theorem dX0_cutsOn_16 : decode cX0_cutsOn 16 = .ok (.istore 4, 2) := dk_54 4 (dk_at dksX0_cutsOn_0 16 rfl rfl)
theorem dX0_cutsOn_18 : decode cX0_cutsOn 18 = .ok (.iload_n 1, 1) := dk_27 (dk_at dksX0_cutsOn_0 18 rfl rfl)
theorem dX0_cutsOn_19 : decode cX0_cutsOn 19 = .ok (.iload_n 2, 1) := dk_28 (dk_at dksX0_cutsOn_0 19 rfl rfl)
theorem dX0_cutsOn_20 : decode cX0_cutsOn 20 = .ok (.if_icmp .ne 61, 3) := dk_160 0 61 (dk_at dksX0_cutsOn_0 20 rfl rfl)
theorem dX0_cutsOn_23 : decode cX0_cutsOn 23 = .ok (.iload_n 3, 1) := dk_29 (dk_at dksX0_cutsOn_0 23 rfl rfl)
theorem dX0_cutsOn_24 : decode cX0_cutsOn 24 = .ok (.aload_n 0, 1) := dk_42 (dk_at dksX0_cutsOn_1 0 rfl rfl)
theorem dX0_cutsOn_25 : decode cX0_cutsOn 25 = .ok (.iload 4, 2) := dk_21 4 (dk_at dksX0_cutsOn_1 1 rfl rfl)
theorem dX0_cutsOn_27 : decode cX0_cutsOn 27 = .ok (.aload_n 0, 1) := dk_42 (dk_at dksX0_cutsOn_1 3 rfl rfl)
theorem dX0_cutsOn_28 : decode cX0_cutsOn 28 = .ok (.getfield 78, 3) := dk_180 0 78 (dk_at dksX0_cutsOn_1 4 rfl rfl)
theorem dX0_cutsOn_31 : decode cX0_cutsOn 31 = .ok (.getfield 306, 3) := dk_180 1 50 (dk_at dksX0_cutsOn_1 7 rfl rfl)
theorem dX0_cutsOn_34 : decode cX0_cutsOn 34 = .ok (.iconst 1, 1) := dk_4 (dk_at dksX0_cutsOn_1 10 rfl rfl)
theorem dX0_cutsOn_35 : decode cX0_cutsOn 35 = .ok (.isub, 1) := dk_100 (dk_at dksX0_cutsOn_1 11 rfl rfl)
theorem dX0_cutsOn_36 : decode cX0_cutsOn 36 = .ok (.invokevirtual 510, 3) := dk_182 1 254 (dk_at dksX0_cutsOn_1 12 rfl rfl)
theorem dX0_cutsOn_39 : decode cX0_cutsOn 39 = .ok (.iadd, 1) := dk_96 (dk_at dksX0_cutsOn_1 15 rfl rfl)
theorem dX0_cutsOn_40 : decode cX0_cutsOn 40 = .ok (.istore 5, 2) := dk_54 5 (dk_at dksX0_cutsOn_1 16 rfl rfl)
theorem dX0_cutsOn_42 : decode cX0_cutsOn 42 = .ok (.aload_n 0, 1) := dk_42 (dk_at dksX0_cutsOn_1 18 rfl rfl)
theorem dX0_cutsOn_43 : decode cX0_cutsOn 43 = .ok (.getfield 513, 3) := dk_180 2 1 (dk_at dksX0_cutsOn_1 19 rfl rfl)
theorem dX0_cutsOn_46 : decode cX0_cutsOn 46 = .ok (.iconst (-1), 1) := dk_2 (dk_at dksX0_cutsOn_1 22 rfl rfl)
theorem dX0_cutsOn_47 : decode cX0_cutsOn 47 = .ok (.if_icmp .eq 13, 3) := dk_159 0 13 (dk_at dksX0_cutsOn_2 0 rfl rfl)
theorem dX0_cutsOn_50 : decode cX0_cutsOn 50 = .ok (.iload 5, 2) := dk_21 5 (dk_at dksX0_cutsOn_2 3 rfl rfl)
theorem dX0_cutsOn_52 : decode cX0_cutsOn 52 = .ok (.aload_n 0, 1) := dk_42 (dk_at dksX0_cutsOn_2 5 rfl rfl)
theorem dX0_cutsOn_53 : decode cX0_cutsOn 53 = .ok (.getfield 513, 3) := dk_180 2 1 (dk_at dksX0_cutsOn_2 6 rfl rfl)
theorem dX0_cutsOn_56 : decode cX0_cutsOn 56 = .ok (.if_icmp .lt 4, 3) := dk_161 0 4 (dk_at dksX0_cutsOn_2 9 rfl rfl)
theorem dX0_cutsOn_59 : decode cX0_cutsOn 59 = .ok (.return_, 1) := dk_177 (dk_at dksX0_cutsOn_2 12 rfl rfl)
theorem dX0_cutsOn_60 : decode cX0_cutsOn 60 = .ok (.aload_n 0, 1) := dk_42 (dk_at dksX0_cutsOn_2 13 rfl rfl)
theorem dX0_cutsOn_61 : decode cX0_cutsOn 61 = .ok (.iload 5, 2) := dk_21 5 (dk_at dksX0_cutsOn_2 14 rfl rfl)
theorem dX0_cutsOn_63 : decode cX0_cutsOn 63 = .ok (.putfield 513, 3) := dk_181 2 1 (dk_at dksX0_cutsOn_2 16 rfl rfl)
theorem dX0_cutsOn_66 : decode cX0_cutsOn 66 = .ok (.aload_n 0, 1) := dk_42 (dk_at dksX0_cutsOn_2 19 rfl rfl)
theorem dX0_cutsOn_67 : decode cX0_cutsOn 67 = .ok (.getfield 118, 3) := dk_180 0 118 (dk_at dksX0_cutsOn_2 20 rfl rfl)
theorem dX0_cutsOn_70 : decode cX0_cutsOn 70 = .ok (.iconst 0, 1) := dk_3 (dk_at dksX0_cutsOn_2 23 rfl rfl)
theorem dX0_cutsOn_71 : decode cX0_cutsOn 71 = .ok (.aload_n 0, 1) := dk_42 (dk_at dksX0_cutsOn_3 0 rfl rfl)
theorem dX0_cutsOn_72 : decode cX0_cutsOn 72 = .ok (.getfield 121, 3) := dk_180 0 121 (dk_at dksX0_cutsOn_3 1 rfl rfl)
theorem dX0_cutsOn_75 : decode cX0_cutsOn 75 = .ok (.iconst 0, 1) := dk_3 (dk_at dksX0_cutsOn_3 4 rfl rfl)
theorem dX0_cutsOn_76 : decode cX0_cutsOn 76 = .ok (.iconst 3, 1) := dk_6 (dk_at dksX0_cutsOn_3 5 rfl rfl)
theorem dX0_cutsOn_77 : decode cX0_cutsOn 77 = .ok (.invokestatic 468, 3) := dk_184 1 212 (dk_at dksX0_cutsOn_3 6 rfl rfl)
theorem dX0_cutsOn_80 : decode cX0_cutsOn 80 = .ok (.return_, 1) := dk_177 (dk_at dksX0_cutsOn_3 9 rfl rfl)
theorem dX0_cutsOn_81 : decode cX0_cutsOn 81 = .ok (.iload 4, 2) := dk_21 4 (dk_at dksX0_cutsOn_3 10 rfl rfl)
theorem dX0_cutsOn_83 : decode cX0_cutsOn 83 = .ok (.iconst 1, 1) := dk_4 (dk_at dksX0_cutsOn_3 12 rfl rfl)
theorem dX0_cutsOn_84 : decode cX0_cutsOn 84 = .ok (.iadd, 1) := dk_96 (dk_at dksX0_cutsOn_3 13 rfl rfl)
theorem dX0_cutsOn_85 : decode cX0_cutsOn 85 = .ok (.istore 5, 2) := dk_54 5 (dk_at dksX0_cutsOn_3 14 rfl rfl)
theorem dX0_cutsOn_87 : decode cX0_cutsOn 87 = .ok (.iload 5, 2) := dk_21 5 (dk_at dksX0_cutsOn_3 16 rfl rfl)
theorem dX0_cutsOn_89 : decode cX0_cutsOn 89 = .ok (.aload_n 0, 1) := dk_42 (dk_at dksX0_cutsOn_3 18 rfl rfl)
theorem dX0_cutsOn_90 : decode cX0_cutsOn 90 = .ok (.getfield 78, 3) := dk_180 0 78 (dk_at dksX0_cutsOn_3 19 rfl rfl)
theorem dX0_cutsOn_93 : decode cX0_cutsOn 93 = .ok (.getfield 306, 3) := dk_180 1 50 (dk_at dksX0_cutsOn_4 0 rfl rfl)
theorem dX0_cutsOn_96 : decode cX0_cutsOn 96 = .ok (.iload_n 2, 1) := dk_28 (dk_at dksX0_cutsOn_4 3 rfl rfl)
theorem dX0_cutsOn_97 : decode cX0_cutsOn 97 = .ok (.iconst 1, 1) := dk_4 (dk_at dksX0_cutsOn_4 4 rfl rfl)
theorem dX0_cutsOn_98 : decode cX0_cutsOn 98 = .ok (.isub, 1) := dk_100 (dk_at dksX0_cutsOn_4 5 rfl rfl)
theorem dX0_cutsOn_99 : decode cX0_cutsOn 99 = .ok (.iload_n 1, 1) := dk_27 (dk_at dksX0_cutsOn_4 6 rfl rfl)
theorem dX0_cutsOn_100 : decode cX0_cutsOn 100 = .ok (.isub, 1) := dk_100 (dk_at dksX0_cutsOn_4 7 rfl rfl)
theorem dX0_cutsOn_101 : decode cX0_cutsOn 101 = .ok (.isub, 1) := dk_100 (dk_at dksX0_cutsOn_4 8 rfl rfl)
theorem dX0_cutsOn_102 : decode cX0_cutsOn 102 = .ok (.if_icmp .ge 58, 3) := dk_162 0 58 (dk_at dksX0_cutsOn_4 9 rfl rfl)
theorem dX0_cutsOn_105 : decode cX0_cutsOn 105 = .ok (.aload_n 0, 1) := dk_42 (dk_at dksX0_cutsOn_4 12 rfl rfl)
theorem dX0_cutsOn_106 : decode cX0_cutsOn 106 = .ok (.getfield 118, 3) := dk_180 0 118 (dk_at dksX0_cutsOn_4 13 rfl rfl)
theorem dX0_cutsOn_109 : decode cX0_cutsOn 109 = .ok (.iload_n 1, 1) := dk_27 (dk_at dksX0_cutsOn_4 16 rfl rfl)
theorem dX0_cutsOn_110 : decode cX0_cutsOn 110 = .ok (.iload 5, 2) := dk_21 5 (dk_at dksX0_cutsOn_4 17 rfl rfl)
theorem dX0_cutsOn_112 : decode cX0_cutsOn 112 = .ok (.iastore, 1) := dk_79 (dk_at dksX0_cutsOn_4 19 rfl rfl)
theorem dX0_cutsOn_113 : decode cX0_cutsOn 113 = .ok (.iload_n 3, 1) := dk_29 (dk_at dksX0_cutsOn_4 20 rfl rfl)
theorem dX0_cutsOn_114 : decode cX0_cutsOn 114 = .ok (.aload_n 0, 1) := dk_42 (dk_at dksX0_cutsOn_4 21 rfl rfl)
theorem dX0_cutsOn_115 : decode cX0_cutsOn 115 = .ok (.iload 4, 2) := dk_21 4 (dk_at dksX0_cutsOn_4 22 rfl rfl)
theorem dX0_cutsOn_117 : decode cX0_cutsOn 117 = .ok (.iload 5, 2) := dk_21 5 (dk_at dksX0_cutsOn_5 0 rfl rfl)
theorem dX0_cutsOn_119 : decode cX0_cutsOn 119 = .ok (.iconst 1, 1) := dk_4 (dk_at dksX0_cutsOn_5 2 rfl rfl)
theorem dX0_cutsOn_120 : decode cX0_cutsOn 120 = .ok (.isub, 1) := dk_100 (dk_at dksX0_cutsOn_5 3 rfl rfl)
theorem dX0_cutsOn_121 : decode cX0_cutsOn 121 = .ok (.invokevirtual 510, 3) := dk_182 1 254 (dk_at dksX0_cutsOn_5 4 rfl rfl)
theorem dX0_cutsOn_124 : decode cX0_cutsOn 124 = .ok (.iadd, 1) := dk_96 (dk_at dksX0_cutsOn_5 7 rfl rfl)
theorem dX0_cutsOn_125 : decode cX0_cutsOn 125 = .ok (.istore 6, 2) := dk_54 6 (dk_at dksX0_cutsOn_5 8 rfl rfl)
theorem dX0_cutsOn_127 : decode cX0_cutsOn 127 = .ok (.aload_n 0, 1) := dk_42 (dk_at dksX0_cutsOn_5 10 rfl rfl)
theorem dX0_cutsOn_128 : decode cX0_cutsOn 128 = .ok (.getfield 513, 3) := dk_180 2 1 (dk_at dksX0_cutsOn_5 11 rfl rfl)
theorem dX0_cutsOn_131 : decode cX0_cutsOn 131 = .ok (.iconst (-1), 1) := dk_2 (dk_at dksX0_cutsOn_5 14 rfl rfl)
theorem dX0_cutsOn_132 : decode cX0_cutsOn 132 = .ok (.if_icmp .eq 12, 3) := dk_159 0 12 (dk_at dksX0_cutsOn_5 15 rfl rfl)
theorem dX0_cutsOn_135 : decode cX0_cutsOn 135 = .ok (.iload 6, 2) := dk_21 6 (dk_at dksX0_cutsOn_5 18 rfl rfl)
theorem dX0_cutsOn_137 : decode cX0_cutsOn 137 = .ok (.aload_n 0, 1) := dk_42 (dk_at dksX0_cutsOn_5 20 rfl rfl)
theorem dX0_cutsOn_138 : decode cX0_cutsOn 138 = .ok (.getfield 513, 3) := dk_180 2 1 (dk_at dksX0_cutsOn_5 21 rfl rfl)
theorem dX0_cutsOn_141 : decode cX0_cutsOn 141 = .ok (.if_icmp .ge 13, 3) := dk_162 0 13 (dk_at dksX0_cutsOn_6 0 rfl rfl)
theorem dX0_cutsOn_144 : decode cX0_cutsOn 144 = .ok (.aload_n 0, 1) := dk_42 (dk_at dksX0_cutsOn_6 3 rfl rfl)
theorem dX0_cutsOn_145 : decode cX0_cutsOn 145 = .ok (.iload_n 1, 1) := dk_27 (dk_at dksX0_cutsOn_6 4 rfl rfl)
theorem dX0_cutsOn_146 : decode cX0_cutsOn 146 = .ok (.iconst 1, 1) := dk_4 (dk_at dksX0_cutsOn_6 5 rfl rfl)
theorem dX0_cutsOn_147 : decode cX0_cutsOn 147 = .ok (.iadd, 1) := dk_96 (dk_at dksX0_cutsOn_6 6 rfl rfl)
theorem dX0_cutsOn_148 : decode cX0_cutsOn 148 = .ok (.iload_n 2, 1) := dk_28 (dk_at dksX0_cutsOn_6 7 rfl rfl)
theorem dX0_cutsOn_149 : decode cX0_cutsOn 149 = .ok (.iload 6, 2) := dk_21 6 (dk_at dksX0_cutsOn_6 8 rfl rfl)
theorem dX0_cutsOn_151 : decode cX0_cutsOn 151 = .ok (.invokevirtual 516, 3) := dk_182 2 4 (dk_at dksX0_cutsOn_6 10 rfl rfl)
theorem dX0_cutsOn_154 : decode cX0_cutsOn 154 = .ok (.iinc 5 1, 3) := dk_132 5 1 (dk_at dksX0_cutsOn_6 13 rfl rfl)
theorem dX0_cutsOn_157 : decode cX0_cutsOn 157 = .ok (.goto (-70), 3) := dk_167 255 186 (dk_at dksX0_cutsOn_6 16 rfl rfl)
theorem dX0_cutsOn_160 : decode cX0_cutsOn 160 = .ok (.return_, 1) := dk_177 (dk_at dksX0_cutsOn_6 19 rfl rfl)
abbrev cX0_zoneOf : ByteArray := prog_1_method_58_code
def yX0_zoneOf : MethodName := ⟨RX0, "zoneOf", "(II)I"⟩
def dkwX0_zoneOf_2 : List UInt8 := [180, 0, 78, 180, 1, 43, 3, 46, 104, 96, 104, 172]
abbrev dktX0_zoneOf_2 : List UInt8 := dkwX0_zoneOf_2 ++ []
def dkwX0_zoneOf_1 : List UInt8 := [167, 255, 237, 29, 5, 28, 104, 42, 180, 0, 78, 180, 1, 40, 3, 46, 104, 28, 27, 100, 4, 96, 42]
abbrev dktX0_zoneOf_1 : List UInt8 := dkwX0_zoneOf_1 ++ dktX0_zoneOf_2
def dkwX0_zoneOf_0 : List UInt8 := [3, 62, 27, 54, 4, 21, 4, 28, 163, 0, 19, 29, 42, 180, 0, 82, 21, 4, 46, 96, 62, 132, 4, 1]
abbrev dktX0_zoneOf_0 : List UInt8 := dkwX0_zoneOf_0 ++ dktX0_zoneOf_1
theorem dksX0_zoneOf_0 : cX0_zoneOf.data.toList.drop 0 = dktX0_zoneOf_0 := by decide +kernel
theorem dksX0_zoneOf_1 : cX0_zoneOf.data.toList.drop 24 = dktX0_zoneOf_1 := dk_seg dksX0_zoneOf_0 24 rfl rfl
theorem dksX0_zoneOf_2 : cX0_zoneOf.data.toList.drop 47 = dktX0_zoneOf_2 := dk_seg dksX0_zoneOf_1 23 rfl rfl
theorem dX0_zoneOf_0 : decode cX0_zoneOf 0 = .ok (.iconst 0, 1) := dk_3 (dk_at dksX0_zoneOf_0 0 rfl rfl)
theorem dX0_zoneOf_1 : decode cX0_zoneOf 1 = .ok (.istore_n 3, 1) := dk_62 (dk_at dksX0_zoneOf_0 1 rfl rfl)
theorem dX0_zoneOf_2 : decode cX0_zoneOf 2 = .ok (.iload_n 1, 1) := dk_27 (dk_at dksX0_zoneOf_0 2 rfl rfl)
theorem dX0_zoneOf_3 : decode cX0_zoneOf 3 = .ok (.istore 4, 2) := dk_54 4 (dk_at dksX0_zoneOf_0 3 rfl rfl)
theorem dX0_zoneOf_5 : decode cX0_zoneOf 5 = .ok (.iload 4, 2) := dk_21 4 (dk_at dksX0_zoneOf_0 5 rfl rfl)
theorem dX0_zoneOf_7 : decode cX0_zoneOf 7 = .ok (.iload_n 2, 1) := dk_28 (dk_at dksX0_zoneOf_0 7 rfl rfl)
theorem dX0_zoneOf_8 : decode cX0_zoneOf 8 = .ok (.if_icmp .gt 19, 3) := dk_163 0 19 (dk_at dksX0_zoneOf_0 8 rfl rfl)
theorem dX0_zoneOf_11 : decode cX0_zoneOf 11 = .ok (.iload_n 3, 1) := dk_29 (dk_at dksX0_zoneOf_0 11 rfl rfl)
theorem dX0_zoneOf_12 : decode cX0_zoneOf 12 = .ok (.aload_n 0, 1) := dk_42 (dk_at dksX0_zoneOf_0 12 rfl rfl)
theorem dX0_zoneOf_13 : decode cX0_zoneOf 13 = .ok (.getfield 82, 3) := dk_180 0 82 (dk_at dksX0_zoneOf_0 13 rfl rfl)
theorem dX0_zoneOf_16 : decode cX0_zoneOf 16 = .ok (.iload 4, 2) := dk_21 4 (dk_at dksX0_zoneOf_0 16 rfl rfl)
theorem dX0_zoneOf_18 : decode cX0_zoneOf 18 = .ok (.iaload, 1) := dk_46 (dk_at dksX0_zoneOf_0 18 rfl rfl)
theorem dX0_zoneOf_19 : decode cX0_zoneOf 19 = .ok (.iadd, 1) := dk_96 (dk_at dksX0_zoneOf_0 19 rfl rfl)
theorem dX0_zoneOf_20 : decode cX0_zoneOf 20 = .ok (.istore_n 3, 1) := dk_62 (dk_at dksX0_zoneOf_0 20 rfl rfl)
theorem dX0_zoneOf_21 : decode cX0_zoneOf 21 = .ok (.iinc 4 1, 3) := dk_132 4 1 (dk_at dksX0_zoneOf_0 21 rfl rfl)
theorem dX0_zoneOf_24 : decode cX0_zoneOf 24 = .ok (.goto (-19), 3) := dk_167 255 237 (dk_at dksX0_zoneOf_1 0 rfl rfl)
theorem dX0_zoneOf_27 : decode cX0_zoneOf 27 = .ok (.iload_n 3, 1) := dk_29 (dk_at dksX0_zoneOf_1 3 rfl rfl)
theorem dX0_zoneOf_28 : decode cX0_zoneOf 28 = .ok (.iconst 2, 1) := dk_5 (dk_at dksX0_zoneOf_1 4 rfl rfl)
theorem dX0_zoneOf_29 : decode cX0_zoneOf 29 = .ok (.iload_n 2, 1) := dk_28 (dk_at dksX0_zoneOf_1 5 rfl rfl)
theorem dX0_zoneOf_30 : decode cX0_zoneOf 30 = .ok (.imul, 1) := dk_104 (dk_at dksX0_zoneOf_1 6 rfl rfl)
theorem dX0_zoneOf_31 : decode cX0_zoneOf 31 = .ok (.aload_n 0, 1) := dk_42 (dk_at dksX0_zoneOf_1 7 rfl rfl)
theorem dX0_zoneOf_32 : decode cX0_zoneOf 32 = .ok (.getfield 78, 3) := dk_180 0 78 (dk_at dksX0_zoneOf_1 8 rfl rfl)
theorem dX0_zoneOf_35 : decode cX0_zoneOf 35 = .ok (.getfield 296, 3) := dk_180 1 40 (dk_at dksX0_zoneOf_1 11 rfl rfl)
theorem dX0_zoneOf_38 : decode cX0_zoneOf 38 = .ok (.iconst 0, 1) := dk_3 (dk_at dksX0_zoneOf_1 14 rfl rfl)
theorem dX0_zoneOf_39 : decode cX0_zoneOf 39 = .ok (.iaload, 1) := dk_46 (dk_at dksX0_zoneOf_1 15 rfl rfl)
theorem dX0_zoneOf_40 : decode cX0_zoneOf 40 = .ok (.imul, 1) := dk_104 (dk_at dksX0_zoneOf_1 16 rfl rfl)
theorem dX0_zoneOf_41 : decode cX0_zoneOf 41 = .ok (.iload_n 2, 1) := dk_28 (dk_at dksX0_zoneOf_1 17 rfl rfl)
theorem dX0_zoneOf_42 : decode cX0_zoneOf 42 = .ok (.iload_n 1, 1) := dk_27 (dk_at dksX0_zoneOf_1 18 rfl rfl)
theorem dX0_zoneOf_43 : decode cX0_zoneOf 43 = .ok (.isub, 1) := dk_100 (dk_at dksX0_zoneOf_1 19 rfl rfl)
theorem dX0_zoneOf_44 : decode cX0_zoneOf 44 = .ok (.iconst 1, 1) := dk_4 (dk_at dksX0_zoneOf_1 20 rfl rfl)
theorem dX0_zoneOf_45 : decode cX0_zoneOf 45 = .ok (.iadd, 1) := dk_96 (dk_at dksX0_zoneOf_1 21 rfl rfl)
theorem dX0_zoneOf_46 : decode cX0_zoneOf 46 = .ok (.aload_n 0, 1) := dk_42 (dk_at dksX0_zoneOf_1 22 rfl rfl)
theorem dX0_zoneOf_47 : decode cX0_zoneOf 47 = .ok (.getfield 78, 3) := dk_180 0 78 (dk_at dksX0_zoneOf_2 0 rfl rfl)
theorem dX0_zoneOf_50 : decode cX0_zoneOf 50 = .ok (.getfield 299, 3) := dk_180 1 43 (dk_at dksX0_zoneOf_2 3 rfl rfl)
theorem dX0_zoneOf_53 : decode cX0_zoneOf 53 = .ok (.iconst 0, 1) := dk_3 (dk_at dksX0_zoneOf_2 6 rfl rfl)
theorem dX0_zoneOf_54 : decode cX0_zoneOf 54 = .ok (.iaload, 1) := dk_46 (dk_at dksX0_zoneOf_2 7 rfl rfl)
theorem dX0_zoneOf_55 : decode cX0_zoneOf 55 = .ok (.imul, 1) := dk_104 (dk_at dksX0_zoneOf_2 8 rfl rfl)
theorem dX0_zoneOf_56 : decode cX0_zoneOf 56 = .ok (.iadd, 1) := dk_96 (dk_at dksX0_zoneOf_2 9 rfl rfl)
theorem dX0_zoneOf_57 : decode cX0_zoneOf 57 = .ok (.imul, 1) := dk_104 (dk_at dksX0_zoneOf_2 10 rfl rfl)
theorem dX0_zoneOf_58 : decode cX0_zoneOf 58 = .ok (.ireturn, 1) := dk_172 (dk_at dksX0_zoneOf_2 11 rfl rfl)
abbrev cX0_image : ByteArray := prog_1_method_61_code
def yX0_image : MethodName := ⟨RX0, "image", "(Z)Z"⟩
def dkwX0_image_5 : List UInt8 := [172]
abbrev dktX0_image_5 : List UInt8 := dkwX0_image_5 ++ []
def dkwX0_image_4 : List UInt8 := [180, 0, 71, 3, 6, 184, 1, 212, 42, 180, 0, 127, 3, 42, 180, 0, 82, 3, 16, 80, 184, 1, 212, 4]
abbrev dktX0_image_4 : List UInt8 := dkwX0_image_4 ++ dktX0_image_5
def dkwX0_image_3 : List UInt8 := [180, 0, 94, 42, 180, 0, 101, 182, 1, 184, 42, 42, 180, 2, 7, 181, 0, 78, 42, 180, 0, 124, 3, 42]
abbrev dktX0_image_3 : List UInt8 := dkwX0_image_3 ++ dktX0_image_4
def dkwX0_image_2 : List UInt8 := [6, 184, 1, 212, 42, 180, 0, 82, 3, 42, 180, 0, 127, 3, 16, 80, 184, 1, 212, 167, 0, 51, 42]
abbrev dktX0_image_2 : List UInt8 := dkwX0_image_2 ++ dktX0_image_3
def dkwX0_image_1 : List UInt8 := [180, 0, 94, 182, 1, 184, 42, 42, 180, 0, 78, 181, 2, 7, 42, 180, 0, 71, 3, 42, 180, 0, 124, 3]
abbrev dktX0_image_1 : List UInt8 := dkwX0_image_1 ++ dktX0_image_2
def dkwX0_image_0 : List UInt8 := [27, 154, 0, 12, 42, 180, 2, 7, 199, 0, 5, 3, 172, 27, 153, 0, 54, 42, 180, 0, 101, 42]
abbrev dktX0_image_0 : List UInt8 := dkwX0_image_0 ++ dktX0_image_1
theorem dksX0_image_0 : cX0_image.data.toList.drop 0 = dktX0_image_0 := by decide +kernel
theorem dksX0_image_1 : cX0_image.data.toList.drop 22 = dktX0_image_1 := dk_seg dksX0_image_0 22 rfl rfl
theorem dksX0_image_2 : cX0_image.data.toList.drop 46 = dktX0_image_2 := dk_seg dksX0_image_1 24 rfl rfl
theorem dksX0_image_3 : cX0_image.data.toList.drop 69 = dktX0_image_3 := dk_seg dksX0_image_2 23 rfl rfl
theorem dksX0_image_4 : cX0_image.data.toList.drop 93 = dktX0_image_4 := dk_seg dksX0_image_3 24 rfl rfl
theorem dksX0_image_5 : cX0_image.data.toList.drop 117 = dktX0_image_5 := dk_seg dksX0_image_4 24 rfl rfl
theorem dX0_image_0 : decode cX0_image 0 = .ok (.iload_n 1, 1) := dk_27 (dk_at dksX0_image_0 0 rfl rfl)
theorem dX0_image_1 : decode cX0_image 1 = .ok (.ifCond .ne 12, 3) := dk_154 0 12 (dk_at dksX0_image_0 1 rfl rfl)
theorem dX0_image_4 : decode cX0_image 4 = .ok (.aload_n 0, 1) := dk_42 (dk_at dksX0_image_0 4 rfl rfl)
theorem dX0_image_5 : decode cX0_image 5 = .ok (.getfield 519, 3) := dk_180 2 7 (dk_at dksX0_image_0 5 rfl rfl)
theorem dX0_image_8 : decode cX0_image 8 = .ok (.ifnonnull 5, 3) := dk_199 0 5 (dk_at dksX0_image_0 8 rfl rfl)
theorem dX0_image_11 : decode cX0_image 11 = .ok (.iconst 0, 1) := dk_3 (dk_at dksX0_image_0 11 rfl rfl)
theorem dX0_image_12 : decode cX0_image 12 = .ok (.ireturn, 1) := dk_172 (dk_at dksX0_image_0 12 rfl rfl)
theorem dX0_image_13 : decode cX0_image 13 = .ok (.iload_n 1, 1) := dk_27 (dk_at dksX0_image_0 13 rfl rfl)
theorem dX0_image_14 : decode cX0_image 14 = .ok (.ifCond .eq 54, 3) := dk_153 0 54 (dk_at dksX0_image_0 14 rfl rfl)
theorem dX0_image_17 : decode cX0_image 17 = .ok (.aload_n 0, 1) := dk_42 (dk_at dksX0_image_0 17 rfl rfl)
theorem dX0_image_18 : decode cX0_image 18 = .ok (.getfield 101, 3) := dk_180 0 101 (dk_at dksX0_image_0 18 rfl rfl)
theorem dX0_image_21 : decode cX0_image 21 = .ok (.aload_n 0, 1) := dk_42 (dk_at dksX0_image_0 21 rfl rfl)
theorem dX0_image_22 : decode cX0_image 22 = .ok (.getfield 94, 3) := dk_180 0 94 (dk_at dksX0_image_1 0 rfl rfl)
theorem dX0_image_25 : decode cX0_image 25 = .ok (.invokevirtual 440, 3) := dk_182 1 184 (dk_at dksX0_image_1 3 rfl rfl)
theorem dX0_image_28 : decode cX0_image 28 = .ok (.aload_n 0, 1) := dk_42 (dk_at dksX0_image_1 6 rfl rfl)
theorem dX0_image_29 : decode cX0_image 29 = .ok (.aload_n 0, 1) := dk_42 (dk_at dksX0_image_1 7 rfl rfl)
theorem dX0_image_30 : decode cX0_image 30 = .ok (.getfield 78, 3) := dk_180 0 78 (dk_at dksX0_image_1 8 rfl rfl)
theorem dX0_image_33 : decode cX0_image 33 = .ok (.putfield 519, 3) := dk_181 2 7 (dk_at dksX0_image_1 11 rfl rfl)
theorem dX0_image_36 : decode cX0_image 36 = .ok (.aload_n 0, 1) := dk_42 (dk_at dksX0_image_1 14 rfl rfl)
theorem dX0_image_37 : decode cX0_image 37 = .ok (.getfield 71, 3) := dk_180 0 71 (dk_at dksX0_image_1 15 rfl rfl)
theorem dX0_image_40 : decode cX0_image 40 = .ok (.iconst 0, 1) := dk_3 (dk_at dksX0_image_1 18 rfl rfl)
theorem dX0_image_41 : decode cX0_image 41 = .ok (.aload_n 0, 1) := dk_42 (dk_at dksX0_image_1 19 rfl rfl)
theorem dX0_image_42 : decode cX0_image 42 = .ok (.getfield 124, 3) := dk_180 0 124 (dk_at dksX0_image_1 20 rfl rfl)
theorem dX0_image_45 : decode cX0_image 45 = .ok (.iconst 0, 1) := dk_3 (dk_at dksX0_image_1 23 rfl rfl)
theorem dX0_image_46 : decode cX0_image 46 = .ok (.iconst 3, 1) := dk_6 (dk_at dksX0_image_2 0 rfl rfl)
theorem dX0_image_47 : decode cX0_image 47 = .ok (.invokestatic 468, 3) := dk_184 1 212 (dk_at dksX0_image_2 1 rfl rfl)
theorem dX0_image_50 : decode cX0_image 50 = .ok (.aload_n 0, 1) := dk_42 (dk_at dksX0_image_2 4 rfl rfl)
theorem dX0_image_51 : decode cX0_image 51 = .ok (.getfield 82, 3) := dk_180 0 82 (dk_at dksX0_image_2 5 rfl rfl)
theorem dX0_image_54 : decode cX0_image 54 = .ok (.iconst 0, 1) := dk_3 (dk_at dksX0_image_2 8 rfl rfl)
theorem dX0_image_55 : decode cX0_image 55 = .ok (.aload_n 0, 1) := dk_42 (dk_at dksX0_image_2 9 rfl rfl)
theorem dX0_image_56 : decode cX0_image 56 = .ok (.getfield 127, 3) := dk_180 0 127 (dk_at dksX0_image_2 10 rfl rfl)
theorem dX0_image_59 : decode cX0_image 59 = .ok (.iconst 0, 1) := dk_3 (dk_at dksX0_image_2 13 rfl rfl)
theorem dX0_image_60 : decode cX0_image 60 = .ok (.bipush 80, 2) := dk_16 80 (dk_at dksX0_image_2 14 rfl rfl)
theorem dX0_image_62 : decode cX0_image 62 = .ok (.invokestatic 468, 3) := dk_184 1 212 (dk_at dksX0_image_2 16 rfl rfl)
theorem dX0_image_65 : decode cX0_image 65 = .ok (.goto 51, 3) := dk_167 0 51 (dk_at dksX0_image_2 19 rfl rfl)
theorem dX0_image_68 : decode cX0_image 68 = .ok (.aload_n 0, 1) := dk_42 (dk_at dksX0_image_2 22 rfl rfl)
theorem dX0_image_69 : decode cX0_image 69 = .ok (.getfield 94, 3) := dk_180 0 94 (dk_at dksX0_image_3 0 rfl rfl)
theorem dX0_image_72 : decode cX0_image 72 = .ok (.aload_n 0, 1) := dk_42 (dk_at dksX0_image_3 3 rfl rfl)
theorem dX0_image_73 : decode cX0_image 73 = .ok (.getfield 101, 3) := dk_180 0 101 (dk_at dksX0_image_3 4 rfl rfl)
theorem dX0_image_76 : decode cX0_image 76 = .ok (.invokevirtual 440, 3) := dk_182 1 184 (dk_at dksX0_image_3 7 rfl rfl)
theorem dX0_image_79 : decode cX0_image 79 = .ok (.aload_n 0, 1) := dk_42 (dk_at dksX0_image_3 10 rfl rfl)
theorem dX0_image_80 : decode cX0_image 80 = .ok (.aload_n 0, 1) := dk_42 (dk_at dksX0_image_3 11 rfl rfl)
theorem dX0_image_81 : decode cX0_image 81 = .ok (.getfield 519, 3) := dk_180 2 7 (dk_at dksX0_image_3 12 rfl rfl)
theorem dX0_image_84 : decode cX0_image 84 = .ok (.putfield 78, 3) := dk_181 0 78 (dk_at dksX0_image_3 15 rfl rfl)
theorem dX0_image_87 : decode cX0_image 87 = .ok (.aload_n 0, 1) := dk_42 (dk_at dksX0_image_3 18 rfl rfl)
theorem dX0_image_88 : decode cX0_image 88 = .ok (.getfield 124, 3) := dk_180 0 124 (dk_at dksX0_image_3 19 rfl rfl)
theorem dX0_image_91 : decode cX0_image 91 = .ok (.iconst 0, 1) := dk_3 (dk_at dksX0_image_3 22 rfl rfl)
theorem dX0_image_92 : decode cX0_image 92 = .ok (.aload_n 0, 1) := dk_42 (dk_at dksX0_image_3 23 rfl rfl)
theorem dX0_image_93 : decode cX0_image 93 = .ok (.getfield 71, 3) := dk_180 0 71 (dk_at dksX0_image_4 0 rfl rfl)
theorem dX0_image_96 : decode cX0_image 96 = .ok (.iconst 0, 1) := dk_3 (dk_at dksX0_image_4 3 rfl rfl)
theorem dX0_image_97 : decode cX0_image 97 = .ok (.iconst 3, 1) := dk_6 (dk_at dksX0_image_4 4 rfl rfl)
theorem dX0_image_98 : decode cX0_image 98 = .ok (.invokestatic 468, 3) := dk_184 1 212 (dk_at dksX0_image_4 5 rfl rfl)
theorem dX0_image_101 : decode cX0_image 101 = .ok (.aload_n 0, 1) := dk_42 (dk_at dksX0_image_4 8 rfl rfl)
theorem dX0_image_102 : decode cX0_image 102 = .ok (.getfield 127, 3) := dk_180 0 127 (dk_at dksX0_image_4 9 rfl rfl)
theorem dX0_image_105 : decode cX0_image 105 = .ok (.iconst 0, 1) := dk_3 (dk_at dksX0_image_4 12 rfl rfl)
theorem dX0_image_106 : decode cX0_image 106 = .ok (.aload_n 0, 1) := dk_42 (dk_at dksX0_image_4 13 rfl rfl)
theorem dX0_image_107 : decode cX0_image 107 = .ok (.getfield 82, 3) := dk_180 0 82 (dk_at dksX0_image_4 14 rfl rfl)
theorem dX0_image_110 : decode cX0_image 110 = .ok (.iconst 0, 1) := dk_3 (dk_at dksX0_image_4 17 rfl rfl)
theorem dX0_image_111 : decode cX0_image 111 = .ok (.bipush 80, 2) := dk_16 80 (dk_at dksX0_image_4 18 rfl rfl)
theorem dX0_image_113 : decode cX0_image 113 = .ok (.invokestatic 468, 3) := dk_184 1 212 (dk_at dksX0_image_4 20 rfl rfl)
theorem dX0_image_116 : decode cX0_image 116 = .ok (.iconst 1, 1) := dk_4 (dk_at dksX0_image_4 23 rfl rfl)
theorem dX0_image_117 : decode cX0_image 117 = .ok (.ireturn, 1) := dk_172 (dk_at dksX0_image_5 0 rfl rfl)
abbrev cX0_look : ByteArray := prog_1_method_62_code
def yX0_look : MethodName := ⟨RX0, "look", "(I)I"⟩
def dkwX0_look_6 : List UInt8 := [180, 0, 78, 180, 1, 52, 172, 2, 172]
abbrev dktX0_look_6 : List UInt8 := dkwX0_look_6 ++ []
def dkwX0_look_5 : List UInt8 := [172, 42, 180, 0, 94, 5, 182, 1, 143, 172, 42, 180, 0, 71, 27, 16, 10, 100, 50, 180, 1, 19, 172, 42]
abbrev dktX0_look_5 : List UInt8 := dkwX0_look_5 ++ dktX0_look_6
def dkwX0_look_4 : List UInt8 := [42, 180, 0, 94, 180, 1, 90, 172, 42, 180, 0, 94, 180, 1, 130, 172, 42, 180, 0, 94, 4, 182, 1, 143]
abbrev dktX0_look_4 : List UInt8 := dkwX0_look_4 ++ dktX0_look_5
def dkwX0_look_3 : List UInt8 := [42, 180, 0, 78, 180, 1, 50, 172, 42, 180, 0, 78, 180, 1, 34, 172, 42, 180, 0, 94, 180, 1, 89, 172]
abbrev dktX0_look_3 : List UInt8 := dkwX0_look_3 ++ dktX0_look_4
def dkwX0_look_2 : List UInt8 := [170, 0, 0, 0, 0, 0, 0, 151, 0, 0, 0, 0, 0, 0, 0, 13, 0, 0, 0, 72, 0, 0, 0, 80, 0, 0, 0, 88, 0, 0, 0, 96, 0, 0, 0, 104, 0, 0, 0, 112, 0, 0, 0, 121, 0, 0, 0, 151, 0, 0, 0, 151, 0, 0, 0, 151, 0, 0, 0, 130, 0, 0, 0, 130, 0, 0, 0, 130, 0, 0, 0, 143]
abbrev dktX0_look_2 : List UInt8 := dkwX0_look_2 ++ dktX0_look_3
def dkwX0_look_1 : List UInt8 := [100, 46, 167, 0, 4, 2, 172, 27]
abbrev dktX0_look_1 : List UInt8 := dkwX0_look_1 ++ dktX0_look_2
def dkwX0_look_0 : List UInt8 := [27, 16, 100, 161, 0, 28, 42, 27, 16, 100, 100, 182, 1, 93, 153, 0, 15, 42, 180, 0, 82, 27, 16, 100]
abbrev dktX0_look_0 : List UInt8 := dkwX0_look_0 ++ dktX0_look_1
theorem dksX0_look_0 : cX0_look.data.toList.drop 0 = dktX0_look_0 := by decide +kernel
theorem dksX0_look_1 : cX0_look.data.toList.drop 24 = dktX0_look_1 := dk_seg dksX0_look_0 24 rfl rfl
theorem dksX0_look_2 : cX0_look.data.toList.drop 32 = dktX0_look_2 := dk_seg dksX0_look_1 8 rfl rfl
theorem dksX0_look_3 : cX0_look.data.toList.drop 104 = dktX0_look_3 := dk_seg dksX0_look_2 72 rfl rfl
theorem dksX0_look_4 : cX0_look.data.toList.drop 128 = dktX0_look_4 := dk_seg dksX0_look_3 24 rfl rfl
theorem dksX0_look_5 : cX0_look.data.toList.drop 152 = dktX0_look_5 := dk_seg dksX0_look_4 24 rfl rfl
theorem dksX0_look_6 : cX0_look.data.toList.drop 176 = dktX0_look_6 := dk_seg dksX0_look_5 24 rfl rfl
theorem dX0_look_0 : decode cX0_look 0 = .ok (.iload_n 1, 1) := dk_27 (dk_at dksX0_look_0 0 rfl rfl)
theorem dX0_look_1 : decode cX0_look 1 = .ok (.bipush 100, 2) := dk_16 100 (dk_at dksX0_look_0 1 rfl rfl)
theorem dX0_look_3 : decode cX0_look 3 = .ok (.if_icmp .lt 28, 3) := dk_161 0 28 (dk_at dksX0_look_0 3 rfl rfl)
theorem dX0_look_6 : decode cX0_look 6 = .ok (.aload_n 0, 1) := dk_42 (dk_at dksX0_look_0 6 rfl rfl)
theorem dX0_look_7 : decode cX0_look 7 = .ok (.iload_n 1, 1) := dk_27 (dk_at dksX0_look_0 7 rfl rfl)
theorem dX0_look_8 : decode cX0_look 8 = .ok (.bipush 100, 2) := dk_16 100 (dk_at dksX0_look_0 8 rfl rfl)
theorem dX0_look_10 : decode cX0_look 10 = .ok (.isub, 1) := dk_100 (dk_at dksX0_look_0 10 rfl rfl)
theorem dX0_look_11 : decode cX0_look 11 = .ok (.invokevirtual 349, 3) := dk_182 1 93 (dk_at dksX0_look_0 11 rfl rfl)
theorem dX0_look_14 : decode cX0_look 14 = .ok (.ifCond .eq 15, 3) := dk_153 0 15 (dk_at dksX0_look_0 14 rfl rfl)
theorem dX0_look_17 : decode cX0_look 17 = .ok (.aload_n 0, 1) := dk_42 (dk_at dksX0_look_0 17 rfl rfl)
theorem dX0_look_18 : decode cX0_look 18 = .ok (.getfield 82, 3) := dk_180 0 82 (dk_at dksX0_look_0 18 rfl rfl)
theorem dX0_look_21 : decode cX0_look 21 = .ok (.iload_n 1, 1) := dk_27 (dk_at dksX0_look_0 21 rfl rfl)
theorem dX0_look_22 : decode cX0_look 22 = .ok (.bipush 100, 2) := dk_16 100 (dk_at dksX0_look_0 22 rfl rfl)
theorem dX0_look_24 : decode cX0_look 24 = .ok (.isub, 1) := dk_100 (dk_at dksX0_look_1 0 rfl rfl)
theorem dX0_look_25 : decode cX0_look 25 = .ok (.iaload, 1) := dk_46 (dk_at dksX0_look_1 1 rfl rfl)
theorem dX0_look_26 : decode cX0_look 26 = .ok (.goto 4, 3) := dk_167 0 4 (dk_at dksX0_look_1 2 rfl rfl)
theorem dX0_look_29 : decode cX0_look 29 = .ok (.iconst (-1), 1) := dk_2 (dk_at dksX0_look_1 5 rfl rfl)
theorem dX0_look_30 : decode cX0_look 30 = .ok (.ireturn, 1) := dk_172 (dk_at dksX0_look_1 6 rfl rfl)
theorem dX0_look_31 : decode cX0_look 31 = .ok (.iload_n 1, 1) := dk_27 (dk_at dksX0_look_1 7 rfl rfl)
theorem dX0_look_32 : decode cX0_look 32 = .ok (.tableswitch 151 0 13 #[72, 80, 88, 96, 104, 112, 121, 151, 151, 151, 130, 130, 130, 143], 72) := by decide +kernel
theorem dX0_look_104 : decode cX0_look 104 = .ok (.aload_n 0, 1) := dk_42 (dk_at dksX0_look_3 0 rfl rfl)
theorem dX0_look_105 : decode cX0_look 105 = .ok (.getfield 78, 3) := dk_180 0 78 (dk_at dksX0_look_3 1 rfl rfl)
theorem dX0_look_108 : decode cX0_look 108 = .ok (.getfield 306, 3) := dk_180 1 50 (dk_at dksX0_look_3 4 rfl rfl)
theorem dX0_look_111 : decode cX0_look 111 = .ok (.ireturn, 1) := dk_172 (dk_at dksX0_look_3 7 rfl rfl)
theorem dX0_look_112 : decode cX0_look 112 = .ok (.aload_n 0, 1) := dk_42 (dk_at dksX0_look_3 8 rfl rfl)
theorem dX0_look_113 : decode cX0_look 113 = .ok (.getfield 78, 3) := dk_180 0 78 (dk_at dksX0_look_3 9 rfl rfl)
theorem dX0_look_116 : decode cX0_look 116 = .ok (.getfield 290, 3) := dk_180 1 34 (dk_at dksX0_look_3 12 rfl rfl)
theorem dX0_look_119 : decode cX0_look 119 = .ok (.ireturn, 1) := dk_172 (dk_at dksX0_look_3 15 rfl rfl)
theorem dX0_look_120 : decode cX0_look 120 = .ok (.aload_n 0, 1) := dk_42 (dk_at dksX0_look_3 16 rfl rfl)
theorem dX0_look_121 : decode cX0_look 121 = .ok (.getfield 94, 3) := dk_180 0 94 (dk_at dksX0_look_3 17 rfl rfl)
theorem dX0_look_124 : decode cX0_look 124 = .ok (.getfield 345, 3) := dk_180 1 89 (dk_at dksX0_look_3 20 rfl rfl)
theorem dX0_look_127 : decode cX0_look 127 = .ok (.ireturn, 1) := dk_172 (dk_at dksX0_look_3 23 rfl rfl)
theorem dX0_look_128 : decode cX0_look 128 = .ok (.aload_n 0, 1) := dk_42 (dk_at dksX0_look_4 0 rfl rfl)
theorem dX0_look_129 : decode cX0_look 129 = .ok (.getfield 94, 3) := dk_180 0 94 (dk_at dksX0_look_4 1 rfl rfl)
theorem dX0_look_132 : decode cX0_look 132 = .ok (.getfield 346, 3) := dk_180 1 90 (dk_at dksX0_look_4 4 rfl rfl)
theorem dX0_look_135 : decode cX0_look 135 = .ok (.ireturn, 1) := dk_172 (dk_at dksX0_look_4 7 rfl rfl)
theorem dX0_look_136 : decode cX0_look 136 = .ok (.aload_n 0, 1) := dk_42 (dk_at dksX0_look_4 8 rfl rfl)
theorem dX0_look_137 : decode cX0_look 137 = .ok (.getfield 94, 3) := dk_180 0 94 (dk_at dksX0_look_4 9 rfl rfl)
theorem dX0_look_140 : decode cX0_look 140 = .ok (.getfield 386, 3) := dk_180 1 130 (dk_at dksX0_look_4 12 rfl rfl)
theorem dX0_look_143 : decode cX0_look 143 = .ok (.ireturn, 1) := dk_172 (dk_at dksX0_look_4 15 rfl rfl)
theorem dX0_look_144 : decode cX0_look 144 = .ok (.aload_n 0, 1) := dk_42 (dk_at dksX0_look_4 16 rfl rfl)
theorem dX0_look_145 : decode cX0_look 145 = .ok (.getfield 94, 3) := dk_180 0 94 (dk_at dksX0_look_4 17 rfl rfl)
theorem dX0_look_148 : decode cX0_look 148 = .ok (.iconst 1, 1) := dk_4 (dk_at dksX0_look_4 20 rfl rfl)
theorem dX0_look_149 : decode cX0_look 149 = .ok (.invokevirtual 399, 3) := dk_182 1 143 (dk_at dksX0_look_4 21 rfl rfl)
theorem dX0_look_152 : decode cX0_look 152 = .ok (.ireturn, 1) := dk_172 (dk_at dksX0_look_5 0 rfl rfl)
theorem dX0_look_153 : decode cX0_look 153 = .ok (.aload_n 0, 1) := dk_42 (dk_at dksX0_look_5 1 rfl rfl)
