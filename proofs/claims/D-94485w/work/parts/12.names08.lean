set_option maxRecDepth 100000
theorem dX6_triesCuts_74 : decode cX6_triesCuts 74 = .ok (.aload_n 0, 1) := dk_42 (dk_at dksX6_triesCuts_3 4 rfl rfl)
theorem dX6_triesCuts_75 : decode cX6_triesCuts 75 = .ok (.getfield 63, 3) := dk_180 0 63 (dk_at dksX6_triesCuts_3 5 rfl rfl)
theorem dX6_triesCuts_78 : decode cX6_triesCuts 78 = .ok (.iload 6, 2) := dk_21 6 (dk_at dksX6_triesCuts_3 8 rfl rfl)
theorem dX6_triesCuts_80 : decode cX6_triesCuts 80 = .ok (.aload_n 0, 1) := dk_42 (dk_at dksX6_triesCuts_3 10 rfl rfl)
theorem dX6_triesCuts_81 : decode cX6_triesCuts 81 = .ok (.getfield 60, 3) := dk_180 0 60 (dk_at dksX6_triesCuts_3 11 rfl rfl)
theorem dX6_triesCuts_84 : decode cX6_triesCuts 84 = .ok (.iload 6, 2) := dk_21 6 (dk_at dksX6_triesCuts_3 14 rfl rfl)
theorem dX6_triesCuts_86 : decode cX6_triesCuts 86 = .ok (.iaload, 1) := dk_46 (dk_at dksX6_triesCuts_3 16 rfl rfl)
theorem dX6_triesCuts_87 : decode cX6_triesCuts 87 = .ok (.iastore, 1) := dk_79 (dk_at dksX6_triesCuts_3 17 rfl rfl)
theorem dX6_triesCuts_88 : decode cX6_triesCuts 88 = .ok (.iinc 6 1, 3) := dk_132 6 1 (dk_at dksX6_triesCuts_3 18 rfl rfl)
theorem dX6_triesCuts_91 : decode cX6_triesCuts 91 = .ok (.goto (-23), 3) := dk_167 255 233 (dk_at dksX6_triesCuts_3 21 rfl rfl)
theorem dX6_triesCuts_94 : decode cX6_triesCuts 94 = .ok (.return_, 1) := dk_177 (dk_at dksX6_triesCuts_4 0 rfl rfl)
theorem dX6_triesCuts_95 : decode cX6_triesCuts 95 = .ok (.iload_n 3, 1) := dk_29 (dk_at dksX6_triesCuts_4 1 rfl rfl)
theorem dX6_triesCuts_96 : decode cX6_triesCuts 96 = .ok (.iconst 1, 1) := dk_4 (dk_at dksX6_triesCuts_4 2 rfl rfl)
theorem dX6_triesCuts_97 : decode cX6_triesCuts 97 = .ok (.iadd, 1) := dk_96 (dk_at dksX6_triesCuts_4 3 rfl rfl)
theorem dX6_triesCuts_98 : decode cX6_triesCuts 98 = .ok (.istore 5, 2) := dk_54 5 (dk_at dksX6_triesCuts_4 4 rfl rfl)
theorem dX6_triesCuts_100 : decode cX6_triesCuts 100 = .ok (.iload 5, 2) := dk_21 5 (dk_at dksX6_triesCuts_4 6 rfl rfl)
theorem dX6_triesCuts_102 : decode cX6_triesCuts 102 = .ok (.aload_n 0, 1) := dk_42 (dk_at dksX6_triesCuts_4 8 rfl rfl)
theorem dX6_triesCuts_103 : decode cX6_triesCuts 103 = .ok (.getfield 7, 3) := dk_180 0 7 (dk_at dksX6_triesCuts_4 9 rfl rfl)
theorem dX6_triesCuts_106 : decode cX6_triesCuts 106 = .ok (.iconst 0, 1) := dk_3 (dk_at dksX6_triesCuts_4 12 rfl rfl)
theorem dX6_triesCuts_107 : decode cX6_triesCuts 107 = .ok (.iaload, 1) := dk_46 (dk_at dksX6_triesCuts_4 13 rfl rfl)
theorem dX6_triesCuts_108 : decode cX6_triesCuts 108 = .ok (.if_icmp .ge 39, 3) := dk_162 0 39 (dk_at dksX6_triesCuts_4 14 rfl rfl)
theorem dX6_triesCuts_111 : decode cX6_triesCuts 111 = .ok (.aload_n 0, 1) := dk_42 (dk_at dksX6_triesCuts_4 17 rfl rfl)
theorem dX6_triesCuts_112 : decode cX6_triesCuts 112 = .ok (.getfield 60, 3) := dk_180 0 60 (dk_at dksX6_triesCuts_4 18 rfl rfl)
theorem dX6_triesCuts_115 : decode cX6_triesCuts 115 = .ok (.iload_n 1, 1) := dk_27 (dk_at dksX6_triesCuts_4 21 rfl rfl)
theorem dX6_triesCuts_116 : decode cX6_triesCuts 116 = .ok (.iload 5, 2) := dk_21 5 (dk_at dksX6_triesCuts_4 22 rfl rfl)
theorem dX6_triesCuts_118 : decode cX6_triesCuts 118 = .ok (.iastore, 1) := dk_79 (dk_at dksX6_triesCuts_5 0 rfl rfl)
theorem dX6_triesCuts_119 : decode cX6_triesCuts 119 = .ok (.aload_n 0, 1) := dk_42 (dk_at dksX6_triesCuts_5 1 rfl rfl)
theorem dX6_triesCuts_120 : decode cX6_triesCuts 120 = .ok (.iload_n 1, 1) := dk_27 (dk_at dksX6_triesCuts_5 2 rfl rfl)
theorem dX6_triesCuts_121 : decode cX6_triesCuts 121 = .ok (.iconst 1, 1) := dk_4 (dk_at dksX6_triesCuts_5 3 rfl rfl)
theorem dX6_triesCuts_122 : decode cX6_triesCuts 122 = .ok (.iadd, 1) := dk_96 (dk_at dksX6_triesCuts_5 4 rfl rfl)
theorem dX6_triesCuts_123 : decode cX6_triesCuts 123 = .ok (.iload_n 2, 1) := dk_28 (dk_at dksX6_triesCuts_5 5 rfl rfl)
theorem dX6_triesCuts_124 : decode cX6_triesCuts 124 = .ok (.iload 5, 2) := dk_21 5 (dk_at dksX6_triesCuts_5 6 rfl rfl)
theorem dX6_triesCuts_126 : decode cX6_triesCuts 126 = .ok (.iload 4, 2) := dk_21 4 (dk_at dksX6_triesCuts_5 8 rfl rfl)
theorem dX6_triesCuts_128 : decode cX6_triesCuts 128 = .ok (.aload_n 0, 1) := dk_42 (dk_at dksX6_triesCuts_5 10 rfl rfl)
theorem dX6_triesCuts_129 : decode cX6_triesCuts 129 = .ok (.iload_n 3, 1) := dk_29 (dk_at dksX6_triesCuts_5 11 rfl rfl)
theorem dX6_triesCuts_130 : decode cX6_triesCuts 130 = .ok (.iload 5, 2) := dk_21 5 (dk_at dksX6_triesCuts_5 12 rfl rfl)
theorem dX6_triesCuts_132 : decode cX6_triesCuts 132 = .ok (.iconst 1, 1) := dk_4 (dk_at dksX6_triesCuts_5 14 rfl rfl)
theorem dX6_triesCuts_133 : decode cX6_triesCuts 133 = .ok (.isub, 1) := dk_100 (dk_at dksX6_triesCuts_5 15 rfl rfl)
theorem dX6_triesCuts_134 : decode cX6_triesCuts 134 = .ok (.invokevirtual 398, 3) := dk_182 1 142 (dk_at dksX6_triesCuts_5 16 rfl rfl)
theorem dX6_triesCuts_137 : decode cX6_triesCuts 137 = .ok (.iadd, 1) := dk_96 (dk_at dksX6_triesCuts_5 19 rfl rfl)
theorem dX6_triesCuts_138 : decode cX6_triesCuts 138 = .ok (.invokevirtual 401, 3) := dk_182 1 145 (dk_at dksX6_triesCuts_5 20 rfl rfl)
theorem dX6_triesCuts_141 : decode cX6_triesCuts 141 = .ok (.iinc 5 1, 3) := dk_132 5 1 (dk_at dksX6_triesCuts_6 0 rfl rfl)
theorem dX6_triesCuts_144 : decode cX6_triesCuts 144 = .ok (.goto (-44), 3) := dk_167 255 212 (dk_at dksX6_triesCuts_6 3 rfl rfl)
theorem dX6_triesCuts_147 : decode cX6_triesCuts 147 = .ok (.return_, 1) := dk_177 (dk_at dksX6_triesCuts_6 6 rfl rfl)
abbrev cX6_zone : ByteArray := prog_15_method_88_code
def yX6_zone : MethodName := ⟨RX6, "zone", "(II)I"⟩
def dkwX6_zone_2 : List UInt8 := [182, 0, 248, 104, 96, 104, 172]
abbrev dktX6_zone_2 : List UInt8 := dkwX6_zone_2 ++ []
def dkwX6_zone_1 : List UInt8 := [167, 255, 238, 29, 5, 28, 104, 42, 3, 16, 7, 182, 0, 248, 104, 28, 27, 100, 4, 96, 42, 3, 16, 8]
abbrev dktX6_zone_1 : List UInt8 := dkwX6_zone_1 ++ dktX6_zone_2
def dkwX6_zone_0 : List UInt8 := [3, 62, 27, 54, 4, 21, 4, 28, 163, 0, 18, 29, 42, 21, 4, 182, 1, 127, 96, 62, 132, 4, 1]
abbrev dktX6_zone_0 : List UInt8 := dkwX6_zone_0 ++ dktX6_zone_1
theorem dksX6_zone_0 : cX6_zone.data.toList.drop 0 = dktX6_zone_0 := by decide +kernel
theorem dksX6_zone_1 : cX6_zone.data.toList.drop 23 = dktX6_zone_1 := dk_seg dksX6_zone_0 23 rfl rfl
theorem dksX6_zone_2 : cX6_zone.data.toList.drop 47 = dktX6_zone_2 := dk_seg dksX6_zone_1 24 rfl rfl
theorem dX6_zone_0 : decode cX6_zone 0 = .ok (.iconst 0, 1) := dk_3 (dk_at dksX6_zone_0 0 rfl rfl)
theorem dX6_zone_1 : decode cX6_zone 1 = .ok (.istore_n 3, 1) := dk_62 (dk_at dksX6_zone_0 1 rfl rfl)
theorem dX6_zone_2 : decode cX6_zone 2 = .ok (.iload_n 1, 1) := dk_27 (dk_at dksX6_zone_0 2 rfl rfl)
theorem dX6_zone_3 : decode cX6_zone 3 = .ok (.istore 4, 2) := dk_54 4 (dk_at dksX6_zone_0 3 rfl rfl)
theorem dX6_zone_5 : decode cX6_zone 5 = .ok (.iload 4, 2) := dk_21 4 (dk_at dksX6_zone_0 5 rfl rfl)
theorem dX6_zone_7 : decode cX6_zone 7 = .ok (.iload_n 2, 1) := dk_28 (dk_at dksX6_zone_0 7 rfl rfl)
theorem dX6_zone_8 : decode cX6_zone 8 = .ok (.if_icmp .gt 18, 3) := dk_163 0 18 (dk_at dksX6_zone_0 8 rfl rfl)
theorem dX6_zone_11 : decode cX6_zone 11 = .ok (.iload_n 3, 1) := dk_29 (dk_at dksX6_zone_0 11 rfl rfl)
theorem dX6_zone_12 : decode cX6_zone 12 = .ok (.aload_n 0, 1) := dk_42 (dk_at dksX6_zone_0 12 rfl rfl)
theorem dX6_zone_13 : decode cX6_zone 13 = .ok (.iload 4, 2) := dk_21 4 (dk_at dksX6_zone_0 13 rfl rfl)
theorem dX6_zone_15 : decode cX6_zone 15 = .ok (.invokevirtual 383, 3) := dk_182 1 127 (dk_at dksX6_zone_0 15 rfl rfl)
theorem dX6_zone_18 : decode cX6_zone 18 = .ok (.iadd, 1) := dk_96 (dk_at dksX6_zone_0 18 rfl rfl)
theorem dX6_zone_19 : decode cX6_zone 19 = .ok (.istore_n 3, 1) := dk_62 (dk_at dksX6_zone_0 19 rfl rfl)
theorem dX6_zone_20 : decode cX6_zone 20 = .ok (.iinc 4 1, 3) := dk_132 4 1 (dk_at dksX6_zone_0 20 rfl rfl)
theorem dX6_zone_23 : decode cX6_zone 23 = .ok (.goto (-18), 3) := dk_167 255 238 (dk_at dksX6_zone_1 0 rfl rfl)
theorem dX6_zone_26 : decode cX6_zone 26 = .ok (.iload_n 3, 1) := dk_29 (dk_at dksX6_zone_1 3 rfl rfl)
theorem dX6_zone_27 : decode cX6_zone 27 = .ok (.iconst 2, 1) := dk_5 (dk_at dksX6_zone_1 4 rfl rfl)
theorem dX6_zone_28 : decode cX6_zone 28 = .ok (.iload_n 2, 1) := dk_28 (dk_at dksX6_zone_1 5 rfl rfl)
theorem dX6_zone_29 : decode cX6_zone 29 = .ok (.imul, 1) := dk_104 (dk_at dksX6_zone_1 6 rfl rfl)
theorem dX6_zone_30 : decode cX6_zone 30 = .ok (.aload_n 0, 1) := dk_42 (dk_at dksX6_zone_1 7 rfl rfl)
theorem dX6_zone_31 : decode cX6_zone 31 = .ok (.iconst 0, 1) := dk_3 (dk_at dksX6_zone_1 8 rfl rfl)
theorem dX6_zone_32 : decode cX6_zone 32 = .ok (.bipush 7, 2) := dk_16 7 (dk_at dksX6_zone_1 9 rfl rfl)
theorem dX6_zone_34 : decode cX6_zone 34 = .ok (.invokevirtual 248, 3) := dk_182 0 248 (dk_at dksX6_zone_1 11 rfl rfl)
theorem dX6_zone_37 : decode cX6_zone 37 = .ok (.imul, 1) := dk_104 (dk_at dksX6_zone_1 14 rfl rfl)
theorem dX6_zone_38 : decode cX6_zone 38 = .ok (.iload_n 2, 1) := dk_28 (dk_at dksX6_zone_1 15 rfl rfl)
theorem dX6_zone_39 : decode cX6_zone 39 = .ok (.iload_n 1, 1) := dk_27 (dk_at dksX6_zone_1 16 rfl rfl)
theorem dX6_zone_40 : decode cX6_zone 40 = .ok (.isub, 1) := dk_100 (dk_at dksX6_zone_1 17 rfl rfl)
theorem dX6_zone_41 : decode cX6_zone 41 = .ok (.iconst 1, 1) := dk_4 (dk_at dksX6_zone_1 18 rfl rfl)
theorem dX6_zone_42 : decode cX6_zone 42 = .ok (.iadd, 1) := dk_96 (dk_at dksX6_zone_1 19 rfl rfl)
theorem dX6_zone_43 : decode cX6_zone 43 = .ok (.aload_n 0, 1) := dk_42 (dk_at dksX6_zone_1 20 rfl rfl)
theorem dX6_zone_44 : decode cX6_zone 44 = .ok (.iconst 0, 1) := dk_3 (dk_at dksX6_zone_1 21 rfl rfl)
theorem dX6_zone_45 : decode cX6_zone 45 = .ok (.bipush 8, 2) := dk_16 8 (dk_at dksX6_zone_1 22 rfl rfl)
theorem dX6_zone_47 : decode cX6_zone 47 = .ok (.invokevirtual 248, 3) := dk_182 0 248 (dk_at dksX6_zone_2 0 rfl rfl)
theorem dX6_zone_50 : decode cX6_zone 50 = .ok (.imul, 1) := dk_104 (dk_at dksX6_zone_2 3 rfl rfl)
theorem dX6_zone_51 : decode cX6_zone 51 = .ok (.iadd, 1) := dk_96 (dk_at dksX6_zone_2 4 rfl rfl)
theorem dX6_zone_52 : decode cX6_zone 52 = .ok (.imul, 1) := dk_104 (dk_at dksX6_zone_2 5 rfl rfl)
theorem dX6_zone_53 : decode cX6_zone 53 = .ok (.ireturn, 1) := dk_172 (dk_at dksX6_zone_2 6 rfl rfl)
abbrev cX6_image : ByteArray := prog_15_method_91_code
def yX6_image : MethodName := ⟨RX6, "image", "(Z)Z"⟩
def dkwX6_image_2 : List UInt8 := [180, 0, 13, 28, 46, 79, 132, 2, 1, 167, 255, 215, 42, 4, 181, 1, 149, 4, 172]
abbrev dktX6_image_2 : List UInt8 := dkwX6_image_2 ++ []
def dkwX6_image_1 : List UInt8 := [153, 0, 18, 42, 180, 0, 13, 28, 42, 180, 0, 7, 28, 46, 79, 167, 0, 15, 42, 180, 0, 7, 28, 42]
abbrev dktX6_image_1 : List UInt8 := dkwX6_image_1 ++ dktX6_image_2
def dkwX6_image_0 : List UInt8 := [27, 154, 0, 12, 42, 180, 1, 149, 154, 0, 5, 3, 172, 3, 61, 28, 17, 15, 130, 162, 0, 40, 27]
abbrev dktX6_image_0 : List UInt8 := dkwX6_image_0 ++ dktX6_image_1
theorem dksX6_image_0 : cX6_image.data.toList.drop 0 = dktX6_image_0 := by decide +kernel
theorem dksX6_image_1 : cX6_image.data.toList.drop 23 = dktX6_image_1 := dk_seg dksX6_image_0 23 rfl rfl
theorem dksX6_image_2 : cX6_image.data.toList.drop 47 = dktX6_image_2 := dk_seg dksX6_image_1 24 rfl rfl
theorem dX6_image_0 : decode cX6_image 0 = .ok (.iload_n 1, 1) := dk_27 (dk_at dksX6_image_0 0 rfl rfl)
theorem dX6_image_1 : decode cX6_image 1 = .ok (.ifCond .ne 12, 3) := dk_154 0 12 (dk_at dksX6_image_0 1 rfl rfl)
theorem dX6_image_4 : decode cX6_image 4 = .ok (.aload_n 0, 1) := dk_42 (dk_at dksX6_image_0 4 rfl rfl)
theorem dX6_image_5 : decode cX6_image 5 = .ok (.getfield 405, 3) := dk_180 1 149 (dk_at dksX6_image_0 5 rfl rfl)
theorem dX6_image_8 : decode cX6_image 8 = .ok (.ifCond .ne 5, 3) := dk_154 0 5 (dk_at dksX6_image_0 8 rfl rfl)
theorem dX6_image_11 : decode cX6_image 11 = .ok (.iconst 0, 1) := dk_3 (dk_at dksX6_image_0 11 rfl rfl)
theorem dX6_image_12 : decode cX6_image 12 = .ok (.ireturn, 1) := dk_172 (dk_at dksX6_image_0 12 rfl rfl)
theorem dX6_image_13 : decode cX6_image 13 = .ok (.iconst 0, 1) := dk_3 (dk_at dksX6_image_0 13 rfl rfl)
theorem dX6_image_14 : decode cX6_image 14 = .ok (.istore_n 2, 1) := dk_61 (dk_at dksX6_image_0 14 rfl rfl)
theorem dX6_image_15 : decode cX6_image 15 = .ok (.iload_n 2, 1) := dk_28 (dk_at dksX6_image_0 15 rfl rfl)
theorem dX6_image_16 : decode cX6_image 16 = .ok (.sipush 3970, 3) := dk_17 15 130 (dk_at dksX6_image_0 16 rfl rfl)
theorem dX6_image_19 : decode cX6_image 19 = .ok (.if_icmp .ge 40, 3) := dk_162 0 40 (dk_at dksX6_image_0 19 rfl rfl)
theorem dX6_image_22 : decode cX6_image 22 = .ok (.iload_n 1, 1) := dk_27 (dk_at dksX6_image_0 22 rfl rfl)
theorem dX6_image_23 : decode cX6_image 23 = .ok (.ifCond .eq 18, 3) := dk_153 0 18 (dk_at dksX6_image_1 0 rfl rfl)
theorem dX6_image_26 : decode cX6_image 26 = .ok (.aload_n 0, 1) := dk_42 (dk_at dksX6_image_1 3 rfl rfl)
theorem dX6_image_27 : decode cX6_image 27 = .ok (.getfield 13, 3) := dk_180 0 13 (dk_at dksX6_image_1 4 rfl rfl)
theorem dX6_image_30 : decode cX6_image 30 = .ok (.iload_n 2, 1) := dk_28 (dk_at dksX6_image_1 7 rfl rfl)
theorem dX6_image_31 : decode cX6_image 31 = .ok (.aload_n 0, 1) := dk_42 (dk_at dksX6_image_1 8 rfl rfl)
theorem dX6_image_32 : decode cX6_image 32 = .ok (.getfield 7, 3) := dk_180 0 7 (dk_at dksX6_image_1 9 rfl rfl)
theorem dX6_image_35 : decode cX6_image 35 = .ok (.iload_n 2, 1) := dk_28 (dk_at dksX6_image_1 12 rfl rfl)
theorem dX6_image_36 : decode cX6_image 36 = .ok (.iaload, 1) := dk_46 (dk_at dksX6_image_1 13 rfl rfl)
theorem dX6_image_37 : decode cX6_image 37 = .ok (.iastore, 1) := dk_79 (dk_at dksX6_image_1 14 rfl rfl)
theorem dX6_image_38 : decode cX6_image 38 = .ok (.goto 15, 3) := dk_167 0 15 (dk_at dksX6_image_1 15 rfl rfl)
theorem dX6_image_41 : decode cX6_image 41 = .ok (.aload_n 0, 1) := dk_42 (dk_at dksX6_image_1 18 rfl rfl)
theorem dX6_image_42 : decode cX6_image 42 = .ok (.getfield 7, 3) := dk_180 0 7 (dk_at dksX6_image_1 19 rfl rfl)
theorem dX6_image_45 : decode cX6_image 45 = .ok (.iload_n 2, 1) := dk_28 (dk_at dksX6_image_1 22 rfl rfl)
theorem dX6_image_46 : decode cX6_image 46 = .ok (.aload_n 0, 1) := dk_42 (dk_at dksX6_image_1 23 rfl rfl)
theorem dX6_image_47 : decode cX6_image 47 = .ok (.getfield 13, 3) := dk_180 0 13 (dk_at dksX6_image_2 0 rfl rfl)
theorem dX6_image_50 : decode cX6_image 50 = .ok (.iload_n 2, 1) := dk_28 (dk_at dksX6_image_2 3 rfl rfl)
theorem dX6_image_51 : decode cX6_image 51 = .ok (.iaload, 1) := dk_46 (dk_at dksX6_image_2 4 rfl rfl)
theorem dX6_image_52 : decode cX6_image 52 = .ok (.iastore, 1) := dk_79 (dk_at dksX6_image_2 5 rfl rfl)
theorem dX6_image_53 : decode cX6_image 53 = .ok (.iinc 2 1, 3) := dk_132 2 1 (dk_at dksX6_image_2 6 rfl rfl)
theorem dX6_image_56 : decode cX6_image 56 = .ok (.goto (-41), 3) := dk_167 255 215 (dk_at dksX6_image_2 9 rfl rfl)
theorem dX6_image_59 : decode cX6_image 59 = .ok (.aload_n 0, 1) := dk_42 (dk_at dksX6_image_2 12 rfl rfl)
theorem dX6_image_60 : decode cX6_image 60 = .ok (.iconst 1, 1) := dk_4 (dk_at dksX6_image_2 13 rfl rfl)
theorem dX6_image_61 : decode cX6_image 61 = .ok (.putfield 405, 3) := dk_181 1 149 (dk_at dksX6_image_2 14 rfl rfl)
theorem dX6_image_64 : decode cX6_image 64 = .ok (.iconst 1, 1) := dk_4 (dk_at dksX6_image_2 17 rfl rfl)
theorem dX6_image_65 : decode cX6_image 65 = .ok (.ireturn, 1) := dk_172 (dk_at dksX6_image_2 18 rfl rfl)
abbrev cX6_look : ByteArray := prog_15_method_93_code
def yX6_look : MethodName := ⟨RX6, "look", "(I)I"⟩
def dkwX6_look_4 : List UInt8 := [100, 182, 1, 127, 167, 0, 4, 2, 172]
abbrev dktX6_look_4 : List UInt8 := dkwX6_look_4 ++ []
def dkwX6_look_3 : List UInt8 := [46, 172, 27, 16, 100, 16, 99, 42, 180, 0, 7, 3, 46, 96, 184, 0, 66, 153, 0, 14, 42, 27, 16, 100]
abbrev dktX6_look_3 : List UInt8 := dkwX6_look_3 ++ dktX6_look_4
def dkwX6_look_2 : List UInt8 := [180, 0, 7, 17, 5, 20, 27, 96, 16, 10, 100, 46, 172, 27, 16, 13, 160, 0, 10, 42, 180, 0, 7, 8]
abbrev dktX6_look_2 : List UInt8 := dkwX6_look_2 ++ dktX6_look_3
def dkwX6_look_1 : List UInt8 := [160, 0, 11, 42, 27, 7, 100, 182, 1, 152, 172, 27, 16, 10, 16, 12, 184, 0, 66, 153, 0, 17, 42]
abbrev dktX6_look_1 : List UInt8 := dkwX6_look_1 ++ dktX6_look_2
def dkwX6_look_0 : List UInt8 := [27, 3, 7, 184, 0, 66, 153, 0, 10, 42, 180, 0, 7, 27, 46, 172, 27, 8, 159, 0, 9, 27, 16, 6]
abbrev dktX6_look_0 : List UInt8 := dkwX6_look_0 ++ dktX6_look_1
theorem dksX6_look_0 : cX6_look.data.toList.drop 0 = dktX6_look_0 := by decide +kernel
theorem dksX6_look_1 : cX6_look.data.toList.drop 24 = dktX6_look_1 := dk_seg dksX6_look_0 24 rfl rfl
theorem dksX6_look_2 : cX6_look.data.toList.drop 47 = dktX6_look_2 := dk_seg dksX6_look_1 23 rfl rfl
theorem dksX6_look_3 : cX6_look.data.toList.drop 71 = dktX6_look_3 := dk_seg dksX6_look_2 24 rfl rfl
theorem dksX6_look_4 : cX6_look.data.toList.drop 95 = dktX6_look_4 := dk_seg dksX6_look_3 24 rfl rfl
theorem dX6_look_0 : decode cX6_look 0 = .ok (.iload_n 1, 1) := dk_27 (dk_at dksX6_look_0 0 rfl rfl)
theorem dX6_look_1 : decode cX6_look 1 = .ok (.iconst 0, 1) := dk_3 (dk_at dksX6_look_0 1 rfl rfl)
theorem dX6_look_2 : decode cX6_look 2 = .ok (.iconst 4, 1) := dk_7 (dk_at dksX6_look_0 2 rfl rfl)
theorem dX6_look_3 : decode cX6_look 3 = .ok (.invokestatic 66, 3) := dk_184 0 66 (dk_at dksX6_look_0 3 rfl rfl)
theorem dX6_look_6 : decode cX6_look 6 = .ok (.ifCond .eq 10, 3) := dk_153 0 10 (dk_at dksX6_look_0 6 rfl rfl)
theorem dX6_look_9 : decode cX6_look 9 = .ok (.aload_n 0, 1) := dk_42 (dk_at dksX6_look_0 9 rfl rfl)
theorem dX6_look_10 : decode cX6_look 10 = .ok (.getfield 7, 3) := dk_180 0 7 (dk_at dksX6_look_0 10 rfl rfl)
theorem dX6_look_13 : decode cX6_look 13 = .ok (.iload_n 1, 1) := dk_27 (dk_at dksX6_look_0 13 rfl rfl)
theorem dX6_look_14 : decode cX6_look 14 = .ok (.iaload, 1) := dk_46 (dk_at dksX6_look_0 14 rfl rfl)
theorem dX6_look_15 : decode cX6_look 15 = .ok (.ireturn, 1) := dk_172 (dk_at dksX6_look_0 15 rfl rfl)
theorem dX6_look_16 : decode cX6_look 16 = .ok (.iload_n 1, 1) := dk_27 (dk_at dksX6_look_0 16 rfl rfl)
theorem dX6_look_17 : decode cX6_look 17 = .ok (.iconst 5, 1) := dk_8 (dk_at dksX6_look_0 17 rfl rfl)
theorem dX6_look_18 : decode cX6_look 18 = .ok (.if_icmp .eq 9, 3) := dk_159 0 9 (dk_at dksX6_look_0 18 rfl rfl)
theorem dX6_look_21 : decode cX6_look 21 = .ok (.iload_n 1, 1) := dk_27 (dk_at dksX6_look_0 21 rfl rfl)
theorem dX6_look_22 : decode cX6_look 22 = .ok (.bipush 6, 2) := dk_16 6 (dk_at dksX6_look_0 22 rfl rfl)
theorem dX6_look_24 : decode cX6_look 24 = .ok (.if_icmp .ne 11, 3) := dk_160 0 11 (dk_at dksX6_look_1 0 rfl rfl)
theorem dX6_look_27 : decode cX6_look 27 = .ok (.aload_n 0, 1) := dk_42 (dk_at dksX6_look_1 3 rfl rfl)
theorem dX6_look_28 : decode cX6_look 28 = .ok (.iload_n 1, 1) := dk_27 (dk_at dksX6_look_1 4 rfl rfl)
theorem dX6_look_29 : decode cX6_look 29 = .ok (.iconst 4, 1) := dk_7 (dk_at dksX6_look_1 5 rfl rfl)
theorem dX6_look_30 : decode cX6_look 30 = .ok (.isub, 1) := dk_100 (dk_at dksX6_look_1 6 rfl rfl)
theorem dX6_look_31 : decode cX6_look 31 = .ok (.invokevirtual 408, 3) := dk_182 1 152 (dk_at dksX6_look_1 7 rfl rfl)
theorem dX6_look_34 : decode cX6_look 34 = .ok (.ireturn, 1) := dk_172 (dk_at dksX6_look_1 10 rfl rfl)
theorem dX6_look_35 : decode cX6_look 35 = .ok (.iload_n 1, 1) := dk_27 (dk_at dksX6_look_1 11 rfl rfl)
theorem dX6_look_36 : decode cX6_look 36 = .ok (.bipush 10, 2) := dk_16 10 (dk_at dksX6_look_1 12 rfl rfl)
theorem dX6_look_38 : decode cX6_look 38 = .ok (.bipush 12, 2) := dk_16 12 (dk_at dksX6_look_1 14 rfl rfl)
theorem dX6_look_40 : decode cX6_look 40 = .ok (.invokestatic 66, 3) := dk_184 0 66 (dk_at dksX6_look_1 16 rfl rfl)
theorem dX6_look_43 : decode cX6_look 43 = .ok (.ifCond .eq 17, 3) := dk_153 0 17 (dk_at dksX6_look_1 19 rfl rfl)
theorem dX6_look_46 : decode cX6_look 46 = .ok (.aload_n 0, 1) := dk_42 (dk_at dksX6_look_1 22 rfl rfl)
theorem dX6_look_47 : decode cX6_look 47 = .ok (.getfield 7, 3) := dk_180 0 7 (dk_at dksX6_look_2 0 rfl rfl)
theorem dX6_look_50 : decode cX6_look 50 = .ok (.sipush 1300, 3) := dk_17 5 20 (dk_at dksX6_look_2 3 rfl rfl)
theorem dX6_look_53 : decode cX6_look 53 = .ok (.iload_n 1, 1) := dk_27 (dk_at dksX6_look_2 6 rfl rfl)
theorem dX6_look_54 : decode cX6_look 54 = .ok (.iadd, 1) := dk_96 (dk_at dksX6_look_2 7 rfl rfl)
theorem dX6_look_55 : decode cX6_look 55 = .ok (.bipush 10, 2) := dk_16 10 (dk_at dksX6_look_2 8 rfl rfl)
theorem dX6_look_57 : decode cX6_look 57 = .ok (.isub, 1) := dk_100 (dk_at dksX6_look_2 10 rfl rfl)
theorem dX6_look_58 : decode cX6_look 58 = .ok (.iaload, 1) := dk_46 (dk_at dksX6_look_2 11 rfl rfl)
theorem dX6_look_59 : decode cX6_look 59 = .ok (.ireturn, 1) := dk_172 (dk_at dksX6_look_2 12 rfl rfl)
theorem dX6_look_60 : decode cX6_look 60 = .ok (.iload_n 1, 1) := dk_27 (dk_at dksX6_look_2 13 rfl rfl)
theorem dX6_look_61 : decode cX6_look 61 = .ok (.bipush 13, 2) := dk_16 13 (dk_at dksX6_look_2 14 rfl rfl)
theorem dX6_look_63 : decode cX6_look 63 = .ok (.if_icmp .ne 10, 3) := dk_160 0 10 (dk_at dksX6_look_2 16 rfl rfl)
theorem dX6_look_66 : decode cX6_look 66 = .ok (.aload_n 0, 1) := dk_42 (dk_at dksX6_look_2 19 rfl rfl)
theorem dX6_look_67 : decode cX6_look 67 = .ok (.getfield 7, 3) := dk_180 0 7 (dk_at dksX6_look_2 20 rfl rfl)
theorem dX6_look_70 : decode cX6_look 70 = .ok (.iconst 5, 1) := dk_8 (dk_at dksX6_look_2 23 rfl rfl)
theorem dX6_look_71 : decode cX6_look 71 = .ok (.iaload, 1) := dk_46 (dk_at dksX6_look_3 0 rfl rfl)
theorem dX6_look_72 : decode cX6_look 72 = .ok (.ireturn, 1) := dk_172 (dk_at dksX6_look_3 1 rfl rfl)
theorem dX6_look_73 : decode cX6_look 73 = .ok (.iload_n 1, 1) := dk_27 (dk_at dksX6_look_3 2 rfl rfl)
theorem dX6_look_74 : decode cX6_look 74 = .ok (.bipush 100, 2) := dk_16 100 (dk_at dksX6_look_3 3 rfl rfl)
theorem dX6_look_76 : decode cX6_look 76 = .ok (.bipush 99, 2) := dk_16 99 (dk_at dksX6_look_3 5 rfl rfl)
theorem dX6_look_78 : decode cX6_look 78 = .ok (.aload_n 0, 1) := dk_42 (dk_at dksX6_look_3 7 rfl rfl)
theorem dX6_look_79 : decode cX6_look 79 = .ok (.getfield 7, 3) := dk_180 0 7 (dk_at dksX6_look_3 8 rfl rfl)
theorem dX6_look_82 : decode cX6_look 82 = .ok (.iconst 0, 1) := dk_3 (dk_at dksX6_look_3 11 rfl rfl)
theorem dX6_look_83 : decode cX6_look 83 = .ok (.iaload, 1) := dk_46 (dk_at dksX6_look_3 12 rfl rfl)
theorem dX6_look_84 : decode cX6_look 84 = .ok (.iadd, 1) := dk_96 (dk_at dksX6_look_3 13 rfl rfl)
theorem dX6_look_85 : decode cX6_look 85 = .ok (.invokestatic 66, 3) := dk_184 0 66 (dk_at dksX6_look_3 14 rfl rfl)
theorem dX6_look_88 : decode cX6_look 88 = .ok (.ifCond .eq 14, 3) := dk_153 0 14 (dk_at dksX6_look_3 17 rfl rfl)
theorem dX6_look_91 : decode cX6_look 91 = .ok (.aload_n 0, 1) := dk_42 (dk_at dksX6_look_3 20 rfl rfl)
theorem dX6_look_92 : decode cX6_look 92 = .ok (.iload_n 1, 1) := dk_27 (dk_at dksX6_look_3 21 rfl rfl)
theorem dX6_look_93 : decode cX6_look 93 = .ok (.bipush 100, 2) := dk_16 100 (dk_at dksX6_look_3 22 rfl rfl)
theorem dX6_look_95 : decode cX6_look 95 = .ok (.isub, 1) := dk_100 (dk_at dksX6_look_4 0 rfl rfl)
theorem dX6_look_96 : decode cX6_look 96 = .ok (.invokevirtual 383, 3) := dk_182 1 127 (dk_at dksX6_look_4 1 rfl rfl)
theorem dX6_look_99 : decode cX6_look 99 = .ok (.goto 4, 3) := dk_167 0 4 (dk_at dksX6_look_4 4 rfl rfl)
theorem dX6_look_102 : decode cX6_look 102 = .ok (.iconst (-1), 1) := dk_2 (dk_at dksX6_look_4 7 rfl rfl)
theorem dX6_look_103 : decode cX6_look 103 = .ok (.ireturn, 1) := dk_172 (dk_at dksX6_look_4 8 rfl rfl)
abbrev cX6_inState : ByteArray := prog_15_method_92_code
def yX6_inState : MethodName := ⟨RX6, "inState", "(I)I"⟩
def dkwX6_inState_1 : List UInt8 := [160, 0, 7, 4, 167, 0, 4, 3, 96, 61, 132, 3, 1, 167, 255, 225, 28, 172]
abbrev dktX6_inState_1 : List UInt8 := dkwX6_inState_1 ++ []
def dkwX6_inState_0 : List UInt8 := [3, 61, 3, 62, 29, 42, 180, 0, 7, 5, 46, 162, 0, 27, 28, 42, 29, 6, 182, 1, 15, 27]
abbrev dktX6_inState_0 : List UInt8 := dkwX6_inState_0 ++ dktX6_inState_1
theorem dksX6_inState_0 : cX6_inState.data.toList.drop 0 = dktX6_inState_0 := by decide +kernel
theorem dksX6_inState_1 : cX6_inState.data.toList.drop 22 = dktX6_inState_1 := dk_seg dksX6_inState_0 22 rfl rfl
theorem dX6_inState_0 : decode cX6_inState 0 = .ok (.iconst 0, 1) := dk_3 (dk_at dksX6_inState_0 0 rfl rfl)
theorem dX6_inState_1 : decode cX6_inState 1 = .ok (.istore_n 2, 1) := dk_61 (dk_at dksX6_inState_0 1 rfl rfl)
theorem dX6_inState_2 : decode cX6_inState 2 = .ok (.iconst 0, 1) := dk_3 (dk_at dksX6_inState_0 2 rfl rfl)
theorem dX6_inState_3 : decode cX6_inState 3 = .ok (.istore_n 3, 1) := dk_62 (dk_at dksX6_inState_0 3 rfl rfl)
theorem dX6_inState_4 : decode cX6_inState 4 = .ok (.iload_n 3, 1) := dk_29 (dk_at dksX6_inState_0 4 rfl rfl)
theorem dX6_inState_5 : decode cX6_inState 5 = .ok (.aload_n 0, 1) := dk_42 (dk_at dksX6_inState_0 5 rfl rfl)
theorem dX6_inState_6 : decode cX6_inState 6 = .ok (.getfield 7, 3) := dk_180 0 7 (dk_at dksX6_inState_0 6 rfl rfl)
theorem dX6_inState_9 : decode cX6_inState 9 = .ok (.iconst 2, 1) := dk_5 (dk_at dksX6_inState_0 9 rfl rfl)
theorem dX6_inState_10 : decode cX6_inState 10 = .ok (.iaload, 1) := dk_46 (dk_at dksX6_inState_0 10 rfl rfl)
theorem dX6_inState_11 : decode cX6_inState 11 = .ok (.if_icmp .ge 27, 3) := dk_162 0 27 (dk_at dksX6_inState_0 11 rfl rfl)
theorem dX6_inState_14 : decode cX6_inState 14 = .ok (.iload_n 2, 1) := dk_28 (dk_at dksX6_inState_0 14 rfl rfl)
theorem dX6_inState_15 : decode cX6_inState 15 = .ok (.aload_n 0, 1) := dk_42 (dk_at dksX6_inState_0 15 rfl rfl)
theorem dX6_inState_16 : decode cX6_inState 16 = .ok (.iload_n 3, 1) := dk_29 (dk_at dksX6_inState_0 16 rfl rfl)
theorem dX6_inState_17 : decode cX6_inState 17 = .ok (.iconst 3, 1) := dk_6 (dk_at dksX6_inState_0 17 rfl rfl)
theorem dX6_inState_18 : decode cX6_inState 18 = .ok (.invokevirtual 271, 3) := dk_182 1 15 (dk_at dksX6_inState_0 18 rfl rfl)
theorem dX6_inState_21 : decode cX6_inState 21 = .ok (.iload_n 1, 1) := dk_27 (dk_at dksX6_inState_0 21 rfl rfl)
theorem dX6_inState_22 : decode cX6_inState 22 = .ok (.if_icmp .ne 7, 3) := dk_160 0 7 (dk_at dksX6_inState_1 0 rfl rfl)
theorem dX6_inState_25 : decode cX6_inState 25 = .ok (.iconst 1, 1) := dk_4 (dk_at dksX6_inState_1 3 rfl rfl)
theorem dX6_inState_26 : decode cX6_inState 26 = .ok (.goto 4, 3) := dk_167 0 4 (dk_at dksX6_inState_1 4 rfl rfl)
theorem dX6_inState_29 : decode cX6_inState 29 = .ok (.iconst 0, 1) := dk_3 (dk_at dksX6_inState_1 7 rfl rfl)
theorem dX6_inState_30 : decode cX6_inState 30 = .ok (.iadd, 1) := dk_96 (dk_at dksX6_inState_1 8 rfl rfl)
theorem dX6_inState_31 : decode cX6_inState 31 = .ok (.istore_n 2, 1) := dk_61 (dk_at dksX6_inState_1 9 rfl rfl)
theorem dX6_inState_32 : decode cX6_inState 32 = .ok (.iinc 3 1, 3) := dk_132 3 1 (dk_at dksX6_inState_1 10 rfl rfl)
theorem dX6_inState_35 : decode cX6_inState 35 = .ok (.goto (-31), 3) := dk_167 255 225 (dk_at dksX6_inState_1 13 rfl rfl)
theorem dX6_inState_38 : decode cX6_inState 38 = .ok (.iload_n 2, 1) := dk_28 (dk_at dksX6_inState_1 16 rfl rfl)
theorem dX6_inState_39 : decode cX6_inState 39 = .ok (.ireturn, 1) := dk_172 (dk_at dksX6_inState_1 17 rfl rfl)
theorem q124 : (Jvm.Cond.initialized "FourCarsModel") ∈ lw_all := lw_g (lw_at lw_m1 7 rfl) rfl
theorem q1125 : (Jvm.Cond.instantiable "FourCarsModel" (39 : Nat)) ∈ lw_all := lw_g (lw_at lw_m5 48 rfl) rfl
theorem q1127 : (Jvm.Cond.instanceMethod ({ cls := "FourCarsModel", name := "<init>", desc := "()V" } : Jvm.MethodName)) ∈ lw_all := lw_g (lw_at lw_m5 50 rfl) rfl
theorem q1128 : (Jvm.Cond.code ({ cls := "FourCarsModel", name := "<init>", desc := "()V" } : Jvm.MethodName) prog_15_method_1_code (1 : Nat) (Option.none : Option Jvm.ClassFile.FieldType)) ∈ lw_all := lw_g (lw_at lw_m5 51 rfl) rfl
theorem q1129 : (Jvm.Cond.methodLink "FourCarsModel" (1 : Nat) ({ cls := "java/lang/Object", name := "<init>", desc := "()V" } : Jvm.MethodName)) ∈ lw_all := lw_g (lw_at lw_m5 52 rfl) rfl
theorem q1130 : (Jvm.Cond.fieldLink "FourCarsModel" (7 : Nat) "FourCarsModel" "w" "[I") ∈ lw_all := lw_g (lw_at lw_m5 53 rfl) rfl
theorem q1131 : (Jvm.Cond.fieldLink "FourCarsModel" (13 : Nat) "FourCarsModel" "kept" "[I") ∈ lw_all := lw_g (lw_at lw_m5 54 rfl) rfl
theorem q1132 : (Jvm.Cond.fieldLink "FourCarsModel" (16 : Nat) "FourCarsModel" "before" "[I") ∈ lw_all := lw_g (lw_at lw_m5 55 rfl) rfl
theorem q1133 : (Jvm.Cond.fieldLink "FourCarsModel" (405 : Nat) "FourCarsModel" "hasImage" "Z") ∈ lw_all := lw_g (lw_at lw_m5 56 rfl) rfl
theorem q1134 : (Jvm.Cond.fieldLink "FourCarsModel" (19 : Nat) "FourCarsModel" "freshLine" "[I") ∈ lw_all := lw_g (lw_at lw_m5 57 rfl) rfl
theorem q1135 : (Jvm.Cond.fieldLink "FourCarsModel" (22 : Nat) "FourCarsModel" "freshStep" "[I") ∈ lw_all := lw_g (lw_at lw_m5 58 rfl) rfl
theorem q1136 : (Jvm.Cond.fieldLink "FourCarsModel" (25 : Nat) "FourCarsModel" "freshCar" "[I") ∈ lw_all := lw_g (lw_at lw_m5 59 rfl) rfl
theorem q1137 : (Jvm.Cond.fieldLink "FourCarsModel" (28 : Nat) "FourCarsModel" "tape" "[I") ∈ lw_all := lw_g (lw_at lw_m5 60 rfl) rfl
theorem q1138 : (Jvm.Cond.fieldLink "FourCarsModel" (31 : Nat) "FourCarsModel" "pile" "[I") ∈ lw_all := lw_g (lw_at lw_m5 61 rfl) rfl
theorem q1139 : (Jvm.Cond.fieldLink "FourCarsModel" (34 : Nat) "FourCarsModel" "facts" "[I") ∈ lw_all := lw_g (lw_at lw_m5 62 rfl) rfl
theorem q1140 : (Jvm.Cond.fieldLink "FourCarsModel" (37 : Nat) "FourCarsModel" "freshSkip" "[Z") ∈ lw_all := lw_g (lw_at lw_m5 63 rfl) rfl
theorem q1141 : (Jvm.Cond.fieldLink "FourCarsModel" (117 : Nat) "FourCarsModel" "which" "I") ∈ lw_all := lw_g (lw_at lw_m5 64 rfl) rfl
theorem q1142 : (Jvm.Cond.fieldLink "FourCarsModel" (205 : Nat) "FourCarsModel" "lines" "I") ∈ lw_all := lw_g (lw_at lw_m5 65 rfl) rfl
theorem q1143 : (Jvm.Cond.fieldLink "FourCarsModel" (170 : Nat) "FourCarsModel" "steps" "I") ∈ lw_all := lw_g (lw_at lw_m5 66 rfl) rfl
theorem q1144 : (Jvm.Cond.fieldLink "FourCarsModel" (208 : Nat) "FourCarsModel" "freshFloors" "I") ∈ lw_all := lw_g (lw_at lw_m5 67 rfl) rfl
theorem q1145 : (Jvm.Cond.fieldLink "FourCarsModel" (215 : Nat) "FourCarsModel" "freshCars" "I") ∈ lw_all := lw_g (lw_at lw_m5 68 rfl) rfl
theorem q1146 : (Jvm.Cond.fieldLink "FourCarsModel" (70 : Nat) "FourCarsModel" "taped" "I") ∈ lw_all := lw_g (lw_at lw_m5 69 rfl) rfl
theorem q1147 : (Jvm.Cond.fieldLink "FourCarsModel" (73 : Nat) "FourCarsModel" "at" "I") ∈ lw_all := lw_g (lw_at lw_m5 70 rfl) rfl
theorem q1148 : (Jvm.Cond.fieldLink "FourCarsModel" (142 : Nat) "FourCarsModel" "token" "I") ∈ lw_all := lw_g (lw_at lw_m5 71 rfl) rfl
theorem q1149 : (Jvm.Cond.fieldLink "FourCarsModel" (76 : Nat) "FourCarsModel" "tokenAt" "I") ∈ lw_all := lw_g (lw_at lw_m5 72 rfl) rfl
theorem q1150 : (Jvm.Cond.fieldLink "FourCarsModel" (155 : Nat) "FourCarsModel" "value" "I") ∈ lw_all := lw_g (lw_at lw_m5 73 rfl) rfl
theorem q1151 : (Jvm.Cond.fieldLink "FourCarsModel" (158 : Nat) "FourCarsModel" "wrong" "I") ∈ lw_all := lw_g (lw_at lw_m5 74 rfl) rfl
theorem q1152 : (Jvm.Cond.fieldLink "FourCarsModel" (161 : Nat) "FourCarsModel" "wrongAt" "I") ∈ lw_all := lw_g (lw_at lw_m5 75 rfl) rfl
theorem q1153 : (Jvm.Cond.fieldLink "FourCarsModel" (225 : Nat) "FourCarsModel" "faultKind" "I") ∈ lw_all := lw_g (lw_at lw_m5 76 rfl) rfl
theorem q1154 : (Jvm.Cond.fieldLink "FourCarsModel" (173 : Nat) "FourCarsModel" "depth" "I") ∈ lw_all := lw_g (lw_at lw_m5 77 rfl) rfl
theorem q1155 : (Jvm.Cond.fieldLink "FourCarsModel" (41 : Nat) "FourCarsModel" "faultPlace" "I") ∈ lw_all := lw_g (lw_at lw_m5 78 rfl) rfl
theorem q1156 : (Jvm.Cond.fieldLink "FourCarsModel" (285 : Nat) "FourCarsModel" "costs" "I") ∈ lw_all := lw_g (lw_at lw_m5 79 rfl) rfl
theorem q1157 : (Jvm.Cond.fieldLink "FourCarsModel" (45 : Nat) "FourCarsModel" "tried" "[I") ∈ lw_all := lw_g (lw_at lw_m5 80 rfl) rfl
theorem q1158 : (Jvm.Cond.fieldLink "FourCarsModel" (298 : Nat) "FourCarsModel" "isTried" "Z") ∈ lw_all := lw_g (lw_at lw_m5 81 rfl) rfl
theorem q1159 : (Jvm.Cond.fieldLink "FourCarsModel" (48 : Nat) "FourCarsModel" "presser" "I") ∈ lw_all := lw_g (lw_at lw_m5 82 rfl) rfl
theorem q1160 : (Jvm.Cond.fieldLink "FourCarsModel" (314 : Nat) "FourCarsModel" "pressed" "I") ∈ lw_all := lw_g (lw_at lw_m5 83 rfl) rfl
theorem q1161 : (Jvm.Cond.fieldLink "FourCarsModel" (344 : Nat) "FourCarsModel" "needed" "I") ∈ lw_all := lw_g (lw_at lw_m5 84 rfl) rfl
theorem q1162 : (Jvm.Cond.fieldLink "FourCarsModel" (51 : Nat) "FourCarsModel" "bestTried" "[I") ∈ lw_all := lw_g (lw_at lw_m5 85 rfl) rfl
theorem q1163 : (Jvm.Cond.fieldLink "FourCarsModel" (368 : Nat) "FourCarsModel" "leastOver" "I") ∈ lw_all := lw_g (lw_at lw_m5 86 rfl) rfl
theorem q1164 : (Jvm.Cond.fieldLink "FourCarsModel" (54 : Nat) "FourCarsModel" "above" "[I") ∈ lw_all := lw_g (lw_at lw_m5 87 rfl) rfl
theorem q1165 : (Jvm.Cond.fieldLink "FourCarsModel" (57 : Nat) "FourCarsModel" "chosen" "[I") ∈ lw_all := lw_g (lw_at lw_m5 88 rfl) rfl
theorem q1166 : (Jvm.Cond.fieldLink "FourCarsModel" (60 : Nat) "FourCarsModel" "cuts" "[I") ∈ lw_all := lw_g (lw_at lw_m5 89 rfl) rfl
theorem q1167 : (Jvm.Cond.fieldLink "FourCarsModel" (63 : Nat) "FourCarsModel" "bestCuts" "[I") ∈ lw_all := lw_g (lw_at lw_m5 90 rfl) rfl
theorem q1168 : (Jvm.Cond.fieldLink "FourCarsModel" (395 : Nat) "FourCarsModel" "leastZones" "I") ∈ lw_all := lw_g (lw_at lw_m5 91 rfl) rfl
theorem q1169 : (Jvm.Cond.laysFinal "FourCarsModel" "FourCarsModel" "w" "[I") ∈ lw_all := lw_g (lw_at lw_m5 92 rfl) rfl
theorem q1170 : (Jvm.Cond.soleField "FourCarsModel" "w") ∈ lw_all := lw_g (lw_at lw_m5 93 rfl) rfl
theorem q1171 : (Jvm.Cond.laysFinal "FourCarsModel" "FourCarsModel" "kept" "[I") ∈ lw_all := lw_g (lw_at lw_m5 94 rfl) rfl
theorem q1172 : (Jvm.Cond.soleField "FourCarsModel" "kept") ∈ lw_all := lw_g (lw_at lw_m5 95 rfl) rfl
theorem q1173 : (Jvm.Cond.laysFinal "FourCarsModel" "FourCarsModel" "before" "[I") ∈ lw_all := lw_g (lw_at lw_m5 96 rfl) rfl
theorem q1174 : (Jvm.Cond.soleField "FourCarsModel" "before") ∈ lw_all := lw_g (lw_at lw_m5 97 rfl) rfl
theorem q1175 : (Jvm.Cond.lays "FourCarsModel" "FourCarsModel" "hasImage" "Z") ∈ lw_all := lw_g (lw_at lw_m5 98 rfl) rfl
theorem q1176 : (Jvm.Cond.soleField "FourCarsModel" "hasImage") ∈ lw_all := lw_g (lw_at lw_m5 99 rfl) rfl
theorem q1177 : (Jvm.Cond.laysFinal "FourCarsModel" "FourCarsModel" "freshLine" "[I") ∈ lw_all := lw_g (lw_at lw_m5 100 rfl) rfl
theorem q1178 : (Jvm.Cond.soleField "FourCarsModel" "freshLine") ∈ lw_all := lw_g (lw_at lw_m5 101 rfl) rfl
theorem q1179 : (Jvm.Cond.laysFinal "FourCarsModel" "FourCarsModel" "freshStep" "[I") ∈ lw_all := lw_g (lw_at lw_m5 102 rfl) rfl
theorem q1180 : (Jvm.Cond.soleField "FourCarsModel" "freshStep") ∈ lw_all := lw_g (lw_at lw_m5 103 rfl) rfl
theorem q1181 : (Jvm.Cond.laysFinal "FourCarsModel" "FourCarsModel" "freshCar" "[I") ∈ lw_all := lw_g (lw_at lw_m5 104 rfl) rfl
theorem q1182 : (Jvm.Cond.soleField "FourCarsModel" "freshCar") ∈ lw_all := lw_g (lw_at lw_m5 105 rfl) rfl
theorem q1183 : (Jvm.Cond.laysFinal "FourCarsModel" "FourCarsModel" "tape" "[I") ∈ lw_all := lw_g (lw_at lw_m5 106 rfl) rfl
theorem q1184 : (Jvm.Cond.soleField "FourCarsModel" "tape") ∈ lw_all := lw_g (lw_at lw_m5 107 rfl) rfl
theorem q1185 : (Jvm.Cond.laysFinal "FourCarsModel" "FourCarsModel" "pile" "[I") ∈ lw_all := lw_g (lw_at lw_m5 108 rfl) rfl
theorem q1186 : (Jvm.Cond.soleField "FourCarsModel" "pile") ∈ lw_all := lw_g (lw_at lw_m5 109 rfl) rfl
theorem q1187 : (Jvm.Cond.laysFinal "FourCarsModel" "FourCarsModel" "facts" "[I") ∈ lw_all := lw_g (lw_at lw_m5 110 rfl) rfl
theorem q1188 : (Jvm.Cond.soleField "FourCarsModel" "facts") ∈ lw_all := lw_g (lw_at lw_m5 111 rfl) rfl
theorem q1189 : (Jvm.Cond.laysFinal "FourCarsModel" "FourCarsModel" "freshSkip" "[Z") ∈ lw_all := lw_g (lw_at lw_m5 112 rfl) rfl
theorem q1190 : (Jvm.Cond.soleField "FourCarsModel" "freshSkip") ∈ lw_all := lw_g (lw_at lw_m5 113 rfl) rfl
theorem q1191 : (Jvm.Cond.lays "FourCarsModel" "FourCarsModel" "which" "I") ∈ lw_all := lw_g (lw_at lw_m5 114 rfl) rfl
theorem q1192 : (Jvm.Cond.soleField "FourCarsModel" "which") ∈ lw_all := lw_g (lw_at lw_m5 115 rfl) rfl
theorem q1193 : (Jvm.Cond.lays "FourCarsModel" "FourCarsModel" "lines" "I") ∈ lw_all := lw_g (lw_at lw_m5 116 rfl) rfl
theorem q1194 : (Jvm.Cond.soleField "FourCarsModel" "lines") ∈ lw_all := lw_g (lw_at lw_m5 117 rfl) rfl
theorem q1195 : (Jvm.Cond.lays "FourCarsModel" "FourCarsModel" "steps" "I") ∈ lw_all := lw_g (lw_at lw_m5 118 rfl) rfl
theorem q1196 : (Jvm.Cond.soleField "FourCarsModel" "steps") ∈ lw_all := lw_g (lw_at lw_m5 119 rfl) rfl
theorem q1197 : (Jvm.Cond.lays "FourCarsModel" "FourCarsModel" "freshFloors" "I") ∈ lw_all := lw_g (lw_at lw_m5 120 rfl) rfl
theorem q1198 : (Jvm.Cond.soleField "FourCarsModel" "freshFloors") ∈ lw_all := lw_g (lw_at lw_m5 121 rfl) rfl
theorem q1199 : (Jvm.Cond.lays "FourCarsModel" "FourCarsModel" "freshCars" "I") ∈ lw_all := lw_g (lw_at lw_m5 122 rfl) rfl
theorem q1200 : (Jvm.Cond.soleField "FourCarsModel" "freshCars") ∈ lw_all := lw_g (lw_at lw_m5 123 rfl) rfl
theorem q1201 : (Jvm.Cond.lays "FourCarsModel" "FourCarsModel" "taped" "I") ∈ lw_all := lw_g (lw_at lw_m5 124 rfl) rfl
theorem q1202 : (Jvm.Cond.soleField "FourCarsModel" "taped") ∈ lw_all := lw_g (lw_at lw_m5 125 rfl) rfl
theorem q1203 : (Jvm.Cond.lays "FourCarsModel" "FourCarsModel" "at" "I") ∈ lw_all := lw_g (lw_at lw_m5 126 rfl) rfl
theorem q1204 : (Jvm.Cond.soleField "FourCarsModel" "at") ∈ lw_all := lw_g (lw_at lw_m5 127 rfl) rfl
theorem q1205 : (Jvm.Cond.lays "FourCarsModel" "FourCarsModel" "token" "I") ∈ lw_all := lw_g (lw_at lw_m5 128 rfl) rfl
theorem q1206 : (Jvm.Cond.soleField "FourCarsModel" "token") ∈ lw_all := lw_g (lw_at lw_m5 129 rfl) rfl
theorem q1207 : (Jvm.Cond.lays "FourCarsModel" "FourCarsModel" "tokenAt" "I") ∈ lw_all := lw_g (lw_at lw_m5 130 rfl) rfl
theorem q1208 : (Jvm.Cond.soleField "FourCarsModel" "tokenAt") ∈ lw_all := lw_g (lw_at lw_m5 131 rfl) rfl
theorem q1209 : (Jvm.Cond.lays "FourCarsModel" "FourCarsModel" "value" "I") ∈ lw_all := lw_g (lw_at lw_m5 132 rfl) rfl
theorem q1210 : (Jvm.Cond.soleField "FourCarsModel" "value") ∈ lw_all := lw_g (lw_at lw_m5 133 rfl) rfl
theorem q1211 : (Jvm.Cond.lays "FourCarsModel" "FourCarsModel" "wrong" "I") ∈ lw_all := lw_g (lw_at lw_m5 134 rfl) rfl
theorem q1212 : (Jvm.Cond.soleField "FourCarsModel" "wrong") ∈ lw_all := lw_g (lw_at lw_m5 135 rfl) rfl
theorem q1213 : (Jvm.Cond.lays "FourCarsModel" "FourCarsModel" "wrongAt" "I") ∈ lw_all := lw_g (lw_at lw_m5 136 rfl) rfl
theorem q1214 : (Jvm.Cond.soleField "FourCarsModel" "wrongAt") ∈ lw_all := lw_g (lw_at lw_m5 137 rfl) rfl
theorem q1215 : (Jvm.Cond.lays "FourCarsModel" "FourCarsModel" "faultKind" "I") ∈ lw_all := lw_g (lw_at lw_m5 138 rfl) rfl
theorem q1216 : (Jvm.Cond.soleField "FourCarsModel" "faultKind") ∈ lw_all := lw_g (lw_at lw_m5 139 rfl) rfl
theorem q1217 : (Jvm.Cond.lays "FourCarsModel" "FourCarsModel" "depth" "I") ∈ lw_all := lw_g (lw_at lw_m5 140 rfl) rfl
theorem q1218 : (Jvm.Cond.soleField "FourCarsModel" "depth") ∈ lw_all := lw_g (lw_at lw_m5 141 rfl) rfl
theorem q1219 : (Jvm.Cond.lays "FourCarsModel" "FourCarsModel" "faultPlace" "I") ∈ lw_all := lw_g (lw_at lw_m5 142 rfl) rfl
theorem q1220 : (Jvm.Cond.soleField "FourCarsModel" "faultPlace") ∈ lw_all := lw_g (lw_at lw_m5 143 rfl) rfl
theorem q1221 : (Jvm.Cond.lays "FourCarsModel" "FourCarsModel" "costs" "I") ∈ lw_all := lw_g (lw_at lw_m5 144 rfl) rfl
theorem q1222 : (Jvm.Cond.soleField "FourCarsModel" "costs") ∈ lw_all := lw_g (lw_at lw_m5 145 rfl) rfl
theorem q1223 : (Jvm.Cond.laysFinal "FourCarsModel" "FourCarsModel" "tried" "[I") ∈ lw_all := lw_g (lw_at lw_m5 146 rfl) rfl
theorem q1224 : (Jvm.Cond.soleField "FourCarsModel" "tried") ∈ lw_all := lw_g (lw_at lw_m5 147 rfl) rfl
theorem q1225 : (Jvm.Cond.lays "FourCarsModel" "FourCarsModel" "isTried" "Z") ∈ lw_all := lw_g (lw_at lw_m5 148 rfl) rfl
theorem q1226 : (Jvm.Cond.soleField "FourCarsModel" "isTried") ∈ lw_all := lw_g (lw_at lw_m5 149 rfl) rfl
theorem q1227 : (Jvm.Cond.lays "FourCarsModel" "FourCarsModel" "presser" "I") ∈ lw_all := lw_g (lw_at lw_m5 150 rfl) rfl
theorem q1228 : (Jvm.Cond.soleField "FourCarsModel" "presser") ∈ lw_all := lw_g (lw_at lw_m5 151 rfl) rfl
theorem q1229 : (Jvm.Cond.lays "FourCarsModel" "FourCarsModel" "pressed" "I") ∈ lw_all := lw_g (lw_at lw_m5 152 rfl) rfl
theorem q1230 : (Jvm.Cond.soleField "FourCarsModel" "pressed") ∈ lw_all := lw_g (lw_at lw_m5 153 rfl) rfl
theorem q1231 : (Jvm.Cond.lays "FourCarsModel" "FourCarsModel" "needed" "I") ∈ lw_all := lw_g (lw_at lw_m5 154 rfl) rfl
theorem q1232 : (Jvm.Cond.soleField "FourCarsModel" "needed") ∈ lw_all := lw_g (lw_at lw_m5 155 rfl) rfl
theorem q1233 : (Jvm.Cond.laysFinal "FourCarsModel" "FourCarsModel" "bestTried" "[I") ∈ lw_all := lw_g (lw_at lw_m5 156 rfl) rfl
theorem q1234 : (Jvm.Cond.soleField "FourCarsModel" "bestTried") ∈ lw_all := lw_g (lw_at lw_m5 157 rfl) rfl
theorem q1235 : (Jvm.Cond.lays "FourCarsModel" "FourCarsModel" "leastOver" "I") ∈ lw_all := lw_g (lw_at lw_m5 158 rfl) rfl
theorem q1236 : (Jvm.Cond.soleField "FourCarsModel" "leastOver") ∈ lw_all := lw_g (lw_at lw_m5 159 rfl) rfl
theorem q1237 : (Jvm.Cond.laysFinal "FourCarsModel" "FourCarsModel" "above" "[I") ∈ lw_all := lw_g (lw_at lw_m5 160 rfl) rfl
theorem q1238 : (Jvm.Cond.soleField "FourCarsModel" "above") ∈ lw_all := lw_g (lw_at lw_m5 161 rfl) rfl
theorem q1239 : (Jvm.Cond.laysFinal "FourCarsModel" "FourCarsModel" "chosen" "[I") ∈ lw_all := lw_g (lw_at lw_m5 162 rfl) rfl
theorem q1240 : (Jvm.Cond.soleField "FourCarsModel" "chosen") ∈ lw_all := lw_g (lw_at lw_m5 163 rfl) rfl
theorem q1241 : (Jvm.Cond.laysFinal "FourCarsModel" "FourCarsModel" "cuts" "[I") ∈ lw_all := lw_g (lw_at lw_m5 164 rfl) rfl
theorem q1242 : (Jvm.Cond.soleField "FourCarsModel" "cuts") ∈ lw_all := lw_g (lw_at lw_m5 165 rfl) rfl
theorem q1243 : (Jvm.Cond.laysFinal "FourCarsModel" "FourCarsModel" "bestCuts" "[I") ∈ lw_all := lw_g (lw_at lw_m5 166 rfl) rfl
theorem q1244 : (Jvm.Cond.soleField "FourCarsModel" "bestCuts") ∈ lw_all := lw_g (lw_at lw_m5 167 rfl) rfl
theorem q1245 : (Jvm.Cond.lays "FourCarsModel" "FourCarsModel" "leastZones" "I") ∈ lw_all := lw_g (lw_at lw_m5 168 rfl) rfl
theorem q1246 : (Jvm.Cond.soleField "FourCarsModel" "leastZones") ∈ lw_all := lw_g (lw_at lw_m5 169 rfl) rfl
theorem q1247 : (Jvm.Cond.superclass "FourCarsModel" "java/lang/Object") ∈ lw_all := lw_g (lw_at lw_m5 170 rfl) rfl
theorem q1249 : (Jvm.Cond.instanceMethod ({ cls := "FourCarsModel", name := "feed", desc := "(IIIII)I" } : Jvm.MethodName)) ∈ lw_all := lw_g (lw_at lw_m5 172 rfl) rfl
theorem q1250 : (Jvm.Cond.selects "FourCarsModel" ({ cls := "FourCarsModel", name := "feed", desc := "(IIIII)I" } : Jvm.MethodName) ({ cls := "FourCarsModel", name := "feed", desc := "(IIIII)I" } : Jvm.MethodName)) ∈ lw_all := lw_g (lw_at lw_m5 173 rfl) rfl
theorem q1251 : (Jvm.Cond.code ({ cls := "FourCarsModel", name := "feed", desc := "(IIIII)I" } : Jvm.MethodName) prog_15_method_12_code (8 : Nat) (Option.some Jvm.ClassFile.FieldType.int)) ∈ lw_all := lw_g (lw_at lw_m5 174 rfl) rfl
theorem q1253 : (Jvm.Cond.instanceMethod ({ cls := "FourCarsModel", name := "end", desc := "(I)Z" } : Jvm.MethodName)) ∈ lw_all := lw_g (lw_at lw_m5 176 rfl) rfl
theorem q1254 : (Jvm.Cond.selects "FourCarsModel" ({ cls := "FourCarsModel", name := "end", desc := "(I)Z" } : Jvm.MethodName) ({ cls := "FourCarsModel", name := "end", desc := "(I)Z" } : Jvm.MethodName)) ∈ lw_all := lw_g (lw_at lw_m5 177 rfl) rfl
theorem q1255 : (Jvm.Cond.code ({ cls := "FourCarsModel", name := "end", desc := "(I)Z" } : Jvm.MethodName) prog_15_method_13_code (2 : Nat) (Option.some Jvm.ClassFile.FieldType.boolean)) ∈ lw_all := lw_g (lw_at lw_m5 178 rfl) rfl
theorem q1256 : (Jvm.Cond.methodLink "FourCarsModel" (66 : Nat) ({ cls := "FourCarsModel", name := "isIn", desc := "(III)Z" } : Jvm.MethodName)) ∈ lw_all := lw_g (lw_at lw_m5 179 rfl) rfl
theorem q1257 : (Jvm.Cond.static ({ cls := "FourCarsModel", name := "isIn", desc := "(III)Z" } : Jvm.MethodName)) ∈ lw_all := lw_g (lw_at lw_m5 180 rfl) rfl
theorem q1258 : (Jvm.Cond.code ({ cls := "FourCarsModel", name := "isIn", desc := "(III)Z" } : Jvm.MethodName) prog_15_method_2_code (3 : Nat) (Option.some Jvm.ClassFile.FieldType.boolean)) ∈ lw_all := lw_g (lw_at lw_m5 181 rfl) rfl
theorem q1260 : (Jvm.Cond.instanceMethod ({ cls := "FourCarsModel", name := "text", desc := "(I)I" } : Jvm.MethodName)) ∈ lw_all := lw_g (lw_at lw_m5 183 rfl) rfl
theorem q1261 : (Jvm.Cond.selects "FourCarsModel" ({ cls := "FourCarsModel", name := "text", desc := "(I)I" } : Jvm.MethodName) ({ cls := "FourCarsModel", name := "text", desc := "(I)I" } : Jvm.MethodName)) ∈ lw_all := lw_g (lw_at lw_m5 184 rfl) rfl
theorem q1262 : (Jvm.Cond.code ({ cls := "FourCarsModel", name := "text", desc := "(I)I" } : Jvm.MethodName) prog_15_method_38_code (3 : Nat) (Option.some Jvm.ClassFile.FieldType.int)) ∈ lw_all := lw_g (lw_at lw_m5 185 rfl) rfl
theorem q1263 : (Jvm.Cond.methodLink "FourCarsModel" (167 : Nat) ({ cls := "FourCarsModel", name := "next0", desc := "()V" } : Jvm.MethodName)) ∈ lw_all := lw_g (lw_at lw_m5 186 rfl) rfl
theorem q1264 : (Jvm.Cond.privateMethod ({ cls := "FourCarsModel", name := "next0", desc := "()V" } : Jvm.MethodName)) ∈ lw_tbl := lw_at lw_m5 187 rfl
theorem q1265 : (Jvm.Cond.instanceMethod ({ cls := "FourCarsModel", name := "next0", desc := "()V" } : Jvm.MethodName)) ∈ lw_all := lw_g (lw_at lw_m5 188 rfl) rfl
theorem q1266 : (Jvm.Cond.code ({ cls := "FourCarsModel", name := "next0", desc := "()V" } : Jvm.MethodName) prog_15_method_21_code (3 : Nat) (Option.none : Option Jvm.ClassFile.FieldType)) ∈ lw_all := lw_g (lw_at lw_m5 189 rfl) rfl
theorem q1267 : (Jvm.Cond.methodLink "FourCarsModel" (138 : Nat) ({ cls := "FourCarsModel", name := "see", desc := "(I)I" } : Jvm.MethodName)) ∈ lw_all := lw_g (lw_at lw_m5 190 rfl) rfl
theorem q1268 : (Jvm.Cond.privateMethod ({ cls := "FourCarsModel", name := "see", desc := "(I)I" } : Jvm.MethodName)) ∈ lw_tbl := lw_at lw_m5 191 rfl
theorem q1269 : (Jvm.Cond.instanceMethod ({ cls := "FourCarsModel", name := "see", desc := "(I)I" } : Jvm.MethodName)) ∈ lw_all := lw_g (lw_at lw_m5 192 rfl) rfl
theorem q1270 : (Jvm.Cond.code ({ cls := "FourCarsModel", name := "see", desc := "(I)I" } : Jvm.MethodName) prog_15_method_14_code (2 : Nat) (Option.some Jvm.ClassFile.FieldType.int)) ∈ lw_all := lw_g (lw_at lw_m5 193 rfl) rfl
theorem q1271 : (Jvm.Cond.methodLink "FourCarsModel" (145 : Nat) ({ cls := "FourCarsModel", name := "isLetter", desc := "(I)Z" } : Jvm.MethodName)) ∈ lw_all := lw_g (lw_at lw_m5 194 rfl) rfl
theorem q1272 : (Jvm.Cond.static ({ cls := "FourCarsModel", name := "isLetter", desc := "(I)Z" } : Jvm.MethodName)) ∈ lw_all := lw_g (lw_at lw_m5 195 rfl) rfl
theorem q1273 : (Jvm.Cond.code ({ cls := "FourCarsModel", name := "isLetter", desc := "(I)Z" } : Jvm.MethodName) prog_15_method_15_code (1 : Nat) (Option.some Jvm.ClassFile.FieldType.boolean)) ∈ lw_all := lw_g (lw_at lw_m5 196 rfl) rfl
theorem q1274 : (Jvm.Cond.methodLink "FourCarsModel" (149 : Nat) ({ cls := "FourCarsModel", name := "word", desc := "()I" } : Jvm.MethodName)) ∈ lw_all := lw_g (lw_at lw_m5 197 rfl) rfl
theorem q1275 : (Jvm.Cond.privateMethod ({ cls := "FourCarsModel", name := "word", desc := "()I" } : Jvm.MethodName)) ∈ lw_tbl := lw_at lw_m5 198 rfl
theorem q1276 : (Jvm.Cond.instanceMethod ({ cls := "FourCarsModel", name := "word", desc := "()I" } : Jvm.MethodName)) ∈ lw_all := lw_g (lw_at lw_m5 199 rfl) rfl
theorem q1277 : (Jvm.Cond.code ({ cls := "FourCarsModel", name := "word", desc := "()I" } : Jvm.MethodName) prog_15_method_20_code (1 : Nat) (Option.some Jvm.ClassFile.FieldType.int)) ∈ lw_all := lw_g (lw_at lw_m5 200 rfl) rfl
theorem q1278 : (Jvm.Cond.methodLink "FourCarsModel" (120 : Nat) ({ cls := "FourCarsModel", name := "towerWord", desc := "()I" } : Jvm.MethodName)) ∈ lw_all := lw_g (lw_at lw_m5 201 rfl) rfl
theorem q1279 : (Jvm.Cond.privateMethod ({ cls := "FourCarsModel", name := "towerWord", desc := "()I" } : Jvm.MethodName)) ∈ lw_tbl := lw_at lw_m5 202 rfl
theorem q1280 : (Jvm.Cond.instanceMethod ({ cls := "FourCarsModel", name := "towerWord", desc := "()I" } : Jvm.MethodName)) ∈ lw_all := lw_g (lw_at lw_m5 203 rfl) rfl
theorem q1281 : (Jvm.Cond.code ({ cls := "FourCarsModel", name := "towerWord", desc := "()I" } : Jvm.MethodName) prog_15_method_18_code (1 : Nat) (Option.some Jvm.ClassFile.FieldType.int)) ∈ lw_all := lw_g (lw_at lw_m5 204 rfl) rfl
theorem q1282 : (Jvm.Cond.stringRef "FourCarsModel" (89 : Nat) "floors") ∈ lw_tbl := lw_at lw_m5 205 rfl
theorem q1283 : (Jvm.Cond.methodLink "FourCarsModel" (91 : Nat) ({ cls := "FourCarsModel", name := "is", desc := "(Ljava/lang/String;)Z" } : Jvm.MethodName)) ∈ lw_all := lw_g (lw_at lw_m5 206 rfl) rfl
theorem q1284 : (Jvm.Cond.privateMethod ({ cls := "FourCarsModel", name := "is", desc := "(Ljava/lang/String;)Z" } : Jvm.MethodName)) ∈ lw_tbl := lw_at lw_m5 207 rfl
theorem q1285 : (Jvm.Cond.instanceMethod ({ cls := "FourCarsModel", name := "is", desc := "(Ljava/lang/String;)Z" } : Jvm.MethodName)) ∈ lw_all := lw_g (lw_at lw_m5 208 rfl) rfl
theorem q1286 : (Jvm.Cond.code ({ cls := "FourCarsModel", name := "is", desc := "(Ljava/lang/String;)Z" } : Jvm.MethodName) prog_15_method_17_code (4 : Nat) (Option.some Jvm.ClassFile.FieldType.boolean)) ∈ lw_all := lw_g (lw_at lw_m5 209 rfl) rfl
theorem q1287 : (Jvm.Cond.methodLink "FourCarsModel" (79 : Nat) ({ cls := "java/lang/String", name := "length", desc := "()I" } : Jvm.MethodName)) ∈ lw_all := lw_g (lw_at lw_m5 210 rfl) rfl
theorem q1288 : (Jvm.Cond.methodLink "FourCarsModel" (85 : Nat) ({ cls := "java/lang/String", name := "charAt", desc := "(I)C" } : Jvm.MethodName)) ∈ lw_all := lw_g (lw_at lw_m5 211 rfl) rfl
theorem q1289 : (Jvm.Cond.stringRef "FourCarsModel" (95 : Nat) "car") ∈ lw_tbl := lw_at lw_m5 212 rfl
theorem q1290 : (Jvm.Cond.stringRef "FourCarsModel" (97 : Nat) "skip") ∈ lw_tbl := lw_at lw_m5 213 rfl
theorem q1291 : (Jvm.Cond.stringRef "FourCarsModel" (123 : Nat) "when") ∈ lw_tbl := lw_at lw_m5 214 rfl
theorem q1292 : (Jvm.Cond.stringRef "FourCarsModel" (125 : Nat) "or") ∈ lw_tbl := lw_at lw_m5 215 rfl
theorem q1293 : (Jvm.Cond.stringRef "FourCarsModel" (127 : Nat) "and") ∈ lw_tbl := lw_at lw_m5 216 rfl
theorem q1294 : (Jvm.Cond.stringRef "FourCarsModel" (129 : Nat) "not") ∈ lw_tbl := lw_at lw_m5 217 rfl
theorem q1295 : (Jvm.Cond.stringRef "FourCarsModel" (131 : Nat) "cost") ∈ lw_tbl := lw_at lw_m5 218 rfl
theorem q1296 : (Jvm.Cond.stringRef "FourCarsModel" (133 : Nat) "never") ∈ lw_tbl := lw_at lw_m5 219 rfl
theorem q1297 : (Jvm.Cond.methodLink "FourCarsModel" (135 : Nat) ({ cls := "FourCarsModel", name := "nameWord", desc := "()I" } : Jvm.MethodName)) ∈ lw_all := lw_g (lw_at lw_m5 220 rfl) rfl
theorem q1298 : (Jvm.Cond.privateMethod ({ cls := "FourCarsModel", name := "nameWord", desc := "()I" } : Jvm.MethodName)) ∈ lw_tbl := lw_at lw_m5 221 rfl
theorem q1299 : (Jvm.Cond.instanceMethod ({ cls := "FourCarsModel", name := "nameWord", desc := "()I" } : Jvm.MethodName)) ∈ lw_all := lw_g (lw_at lw_m5 222 rfl) rfl
theorem q1300 : (Jvm.Cond.code ({ cls := "FourCarsModel", name := "nameWord", desc := "()I" } : Jvm.MethodName) prog_15_method_19_code (1 : Nat) (Option.some Jvm.ClassFile.FieldType.int)) ∈ lw_all := lw_g (lw_at lw_m5 223 rfl) rfl
theorem q1301 : (Jvm.Cond.stringRef "FourCarsModel" (99 : Nat) "far") ∈ lw_tbl := lw_at lw_m5 224 rfl
theorem q1302 : (Jvm.Cond.stringRef "FourCarsModel" (101 : Nat) "same") ∈ lw_tbl := lw_at lw_m5 225 rfl
theorem q1303 : (Jvm.Cond.stringRef "FourCarsModel" (103 : Nat) "against") ∈ lw_tbl := lw_at lw_m5 226 rfl
theorem q1304 : (Jvm.Cond.stringRef "FourCarsModel" (105 : Nat) "load") ∈ lw_tbl := lw_at lw_m5 227 rfl
theorem q1305 : (Jvm.Cond.stringRef "FourCarsModel" (107 : Nat) "given") ∈ lw_tbl := lw_at lw_m5 228 rfl
theorem q1306 : (Jvm.Cond.stringRef "FourCarsModel" (109 : Nat) "idle") ∈ lw_tbl := lw_at lw_m5 229 rfl
theorem q1307 : (Jvm.Cond.stringRef "FourCarsModel" (111 : Nat) "up") ∈ lw_tbl := lw_at lw_m5 230 rfl
theorem q1308 : (Jvm.Cond.stringRef "FourCarsModel" (113 : Nat) "floor") ∈ lw_tbl := lw_at lw_m5 231 rfl
theorem q1309 : (Jvm.Cond.stringRef "FourCarsModel" (115 : Nat) "waits") ∈ lw_tbl := lw_at lw_m5 232 rfl
theorem q1310 : (Jvm.Cond.methodLink "FourCarsModel" (152 : Nat) ({ cls := "FourCarsModel", name := "isDigit", desc := "(I)Z" } : Jvm.MethodName)) ∈ lw_all := lw_g (lw_at lw_m5 233 rfl) rfl
theorem q1311 : (Jvm.Cond.static ({ cls := "FourCarsModel", name := "isDigit", desc := "(I)Z" } : Jvm.MethodName)) ∈ lw_all := lw_g (lw_at lw_m5 234 rfl) rfl
theorem q1312 : (Jvm.Cond.code ({ cls := "FourCarsModel", name := "isDigit", desc := "(I)Z" } : Jvm.MethodName) prog_15_method_16_code (1 : Nat) (Option.some Jvm.ClassFile.FieldType.boolean)) ∈ lw_all := lw_g (lw_at lw_m5 235 rfl) rfl
theorem q1313 : (Jvm.Cond.methodLink "FourCarsModel" (228 : Nat) ({ cls := "FourCarsModel", name := "aLine", desc := "()Z" } : Jvm.MethodName)) ∈ lw_all := lw_g (lw_at lw_m5 236 rfl) rfl
theorem q1314 : (Jvm.Cond.privateMethod ({ cls := "FourCarsModel", name := "aLine", desc := "()Z" } : Jvm.MethodName)) ∈ lw_tbl := lw_at lw_m5 237 rfl
theorem q1315 : (Jvm.Cond.instanceMethod ({ cls := "FourCarsModel", name := "aLine", desc := "()Z" } : Jvm.MethodName)) ∈ lw_all := lw_g (lw_at lw_m5 238 rfl) rfl
theorem q1316 : (Jvm.Cond.code ({ cls := "FourCarsModel", name := "aLine", desc := "()Z" } : Jvm.MethodName) prog_15_method_33_code (2 : Nat) (Option.some Jvm.ClassFile.FieldType.boolean)) ∈ lw_all := lw_g (lw_at lw_m5 239 rfl) rfl
theorem q1317 : (Jvm.Cond.methodLink "FourCarsModel" (164 : Nat) ({ cls := "FourCarsModel", name := "bad", desc := "(I)Z" } : Jvm.MethodName)) ∈ lw_all := lw_g (lw_at lw_m6 0 rfl) rfl
theorem q1318 : (Jvm.Cond.privateMethod ({ cls := "FourCarsModel", name := "bad", desc := "(I)Z" } : Jvm.MethodName)) ∈ lw_tbl := lw_at lw_m6 1 rfl
theorem q1319 : (Jvm.Cond.instanceMethod ({ cls := "FourCarsModel", name := "bad", desc := "(I)Z" } : Jvm.MethodName)) ∈ lw_all := lw_g (lw_at lw_m6 2 rfl) rfl
theorem q1320 : (Jvm.Cond.code ({ cls := "FourCarsModel", name := "bad", desc := "(I)Z" } : Jvm.MethodName) prog_15_method_22_code (2 : Nat) (Option.some Jvm.ClassFile.FieldType.boolean)) ∈ lw_all := lw_g (lw_at lw_m6 3 rfl) rfl
theorem q1321 : (Jvm.Cond.methodLink "FourCarsModel" (202 : Nat) ({ cls := "FourCarsModel", name := "sumUp", desc := "()Z" } : Jvm.MethodName)) ∈ lw_all := lw_g (lw_at lw_m6 4 rfl) rfl
theorem q1322 : (Jvm.Cond.privateMethod ({ cls := "FourCarsModel", name := "sumUp", desc := "()Z" } : Jvm.MethodName)) ∈ lw_tbl := lw_at lw_m6 5 rfl
theorem q1323 : (Jvm.Cond.instanceMethod ({ cls := "FourCarsModel", name := "sumUp", desc := "()Z" } : Jvm.MethodName)) ∈ lw_all := lw_g (lw_at lw_m6 6 rfl) rfl
theorem q1324 : (Jvm.Cond.code ({ cls := "FourCarsModel", name := "sumUp", desc := "()Z" } : Jvm.MethodName) prog_15_method_27_code (2 : Nat) (Option.some Jvm.ClassFile.FieldType.boolean)) ∈ lw_all := lw_g (lw_at lw_m6 7 rfl) rfl
theorem q1325 : (Jvm.Cond.methodLink "FourCarsModel" (176 : Nat) ({ cls := "FourCarsModel", name := "product", desc := "()Z" } : Jvm.MethodName)) ∈ lw_all := lw_g (lw_at lw_m6 8 rfl) rfl
theorem q1326 : (Jvm.Cond.privateMethod ({ cls := "FourCarsModel", name := "product", desc := "()Z" } : Jvm.MethodName)) ∈ lw_tbl := lw_at lw_m6 9 rfl
theorem q1327 : (Jvm.Cond.instanceMethod ({ cls := "FourCarsModel", name := "product", desc := "()Z" } : Jvm.MethodName)) ∈ lw_all := lw_g (lw_at lw_m6 10 rfl) rfl
theorem q1328 : (Jvm.Cond.code ({ cls := "FourCarsModel", name := "product", desc := "()Z" } : Jvm.MethodName) prog_15_method_28_code (3 : Nat) (Option.some Jvm.ClassFile.FieldType.boolean)) ∈ lw_all := lw_g (lw_at lw_m6 11 rfl) rfl
theorem q1329 : (Jvm.Cond.methodLink "FourCarsModel" (184 : Nat) ({ cls := "FourCarsModel", name := "unit", desc := "()Z" } : Jvm.MethodName)) ∈ lw_all := lw_g (lw_at lw_m6 12 rfl) rfl
theorem q1330 : (Jvm.Cond.privateMethod ({ cls := "FourCarsModel", name := "unit", desc := "()Z" } : Jvm.MethodName)) ∈ lw_tbl := lw_at lw_m6 13 rfl
theorem q1331 : (Jvm.Cond.instanceMethod ({ cls := "FourCarsModel", name := "unit", desc := "()Z" } : Jvm.MethodName)) ∈ lw_all := lw_g (lw_at lw_m6 14 rfl) rfl
theorem q1332 : (Jvm.Cond.code ({ cls := "FourCarsModel", name := "unit", desc := "()Z" } : Jvm.MethodName) prog_15_method_29_code (2 : Nat) (Option.some Jvm.ClassFile.FieldType.boolean)) ∈ lw_all := lw_g (lw_at lw_m6 15 rfl) rfl
theorem q1333 : (Jvm.Cond.methodLink "FourCarsModel" (180 : Nat) ({ cls := "FourCarsModel", name := "lay", desc := "(II)V" } : Jvm.MethodName)) ∈ lw_all := lw_g (lw_at lw_m6 16 rfl) rfl
theorem q1334 : (Jvm.Cond.privateMethod ({ cls := "FourCarsModel", name := "lay", desc := "(II)V" } : Jvm.MethodName)) ∈ lw_tbl := lw_at lw_m6 17 rfl
theorem q1335 : (Jvm.Cond.instanceMethod ({ cls := "FourCarsModel", name := "lay", desc := "(II)V" } : Jvm.MethodName)) ∈ lw_all := lw_g (lw_at lw_m6 18 rfl) rfl
theorem q1336 : (Jvm.Cond.code ({ cls := "FourCarsModel", name := "lay", desc := "(II)V" } : Jvm.MethodName) prog_15_method_25_code (3 : Nat) (Option.none : Option Jvm.ClassFile.FieldType)) ∈ lw_all := lw_g (lw_at lw_m6 19 rfl) rfl
theorem q1337 : (Jvm.Cond.methodLink "FourCarsModel" (196 : Nat) ({ cls := "FourCarsModel", name := "any", desc := "()Z" } : Jvm.MethodName)) ∈ lw_all := lw_g (lw_at lw_m6 20 rfl) rfl
theorem q1338 : (Jvm.Cond.privateMethod ({ cls := "FourCarsModel", name := "any", desc := "()Z" } : Jvm.MethodName)) ∈ lw_tbl := lw_at lw_m6 21 rfl
theorem q1339 : (Jvm.Cond.instanceMethod ({ cls := "FourCarsModel", name := "any", desc := "()Z" } : Jvm.MethodName)) ∈ lw_all := lw_g (lw_at lw_m6 22 rfl) rfl
theorem q1340 : (Jvm.Cond.code ({ cls := "FourCarsModel", name := "any", desc := "()Z" } : Jvm.MethodName) prog_15_method_30_code (1 : Nat) (Option.some Jvm.ClassFile.FieldType.boolean)) ∈ lw_all := lw_g (lw_at lw_m6 23 rfl) rfl
theorem q1341 : (Jvm.Cond.methodLink "FourCarsModel" (187 : Nat) ({ cls := "FourCarsModel", name := "every", desc := "()Z" } : Jvm.MethodName)) ∈ lw_all := lw_g (lw_at lw_m6 24 rfl) rfl
theorem q1342 : (Jvm.Cond.privateMethod ({ cls := "FourCarsModel", name := "every", desc := "()Z" } : Jvm.MethodName)) ∈ lw_tbl := lw_at lw_m6 25 rfl
theorem q1343 : (Jvm.Cond.instanceMethod ({ cls := "FourCarsModel", name := "every", desc := "()Z" } : Jvm.MethodName)) ∈ lw_all := lw_g (lw_at lw_m6 26 rfl) rfl
theorem q1344 : (Jvm.Cond.code ({ cls := "FourCarsModel", name := "every", desc := "()Z" } : Jvm.MethodName) prog_15_method_31_code (1 : Nat) (Option.some Jvm.ClassFile.FieldType.boolean)) ∈ lw_all := lw_g (lw_at lw_m6 27 rfl) rfl
theorem q1345 : (Jvm.Cond.methodLink "FourCarsModel" (190 : Nat) ({ cls := "FourCarsModel", name := "oneTest", desc := "()Z" } : Jvm.MethodName)) ∈ lw_all := lw_g (lw_at lw_m6 28 rfl) rfl
theorem q1346 : (Jvm.Cond.privateMethod ({ cls := "FourCarsModel", name := "oneTest", desc := "()Z" } : Jvm.MethodName)) ∈ lw_tbl := lw_at lw_m6 29 rfl
theorem q1347 : (Jvm.Cond.instanceMethod ({ cls := "FourCarsModel", name := "oneTest", desc := "()Z" } : Jvm.MethodName)) ∈ lw_all := lw_g (lw_at lw_m6 30 rfl) rfl
theorem q1348 : (Jvm.Cond.code ({ cls := "FourCarsModel", name := "oneTest", desc := "()Z" } : Jvm.MethodName) prog_15_method_32_code (2 : Nat) (Option.some Jvm.ClassFile.FieldType.boolean)) ∈ lw_all := lw_g (lw_at lw_m6 31 rfl) rfl
theorem q1349 : (Jvm.Cond.methodLink "FourCarsModel" (193 : Nat) ({ cls := "FourCarsModel", name := "opens", desc := "()Z" } : Jvm.MethodName)) ∈ lw_all := lw_g (lw_at lw_m6 32 rfl) rfl
theorem q1350 : (Jvm.Cond.privateMethod ({ cls := "FourCarsModel", name := "opens", desc := "()Z" } : Jvm.MethodName)) ∈ lw_tbl := lw_at lw_m6 33 rfl
theorem q1351 : (Jvm.Cond.instanceMethod ({ cls := "FourCarsModel", name := "opens", desc := "()Z" } : Jvm.MethodName)) ∈ lw_all := lw_g (lw_at lw_m6 34 rfl) rfl
theorem q1352 : (Jvm.Cond.code ({ cls := "FourCarsModel", name := "opens", desc := "()Z" } : Jvm.MethodName) prog_15_method_26_code (1 : Nat) (Option.some Jvm.ClassFile.FieldType.boolean)) ∈ lw_all := lw_g (lw_at lw_m6 35 rfl) rfl
theorem q1353 : (Jvm.Cond.methodLink "FourCarsModel" (199 : Nat) ({ cls := "FourCarsModel", name := "need", desc := "(I)Z" } : Jvm.MethodName)) ∈ lw_all := lw_g (lw_at lw_m6 36 rfl) rfl
theorem q1354 : (Jvm.Cond.privateMethod ({ cls := "FourCarsModel", name := "need", desc := "(I)Z" } : Jvm.MethodName)) ∈ lw_tbl := lw_at lw_m6 37 rfl
theorem q1355 : (Jvm.Cond.instanceMethod ({ cls := "FourCarsModel", name := "need", desc := "(I)Z" } : Jvm.MethodName)) ∈ lw_all := lw_g (lw_at lw_m6 38 rfl) rfl
theorem q1356 : (Jvm.Cond.code ({ cls := "FourCarsModel", name := "need", desc := "(I)Z" } : Jvm.MethodName) prog_15_method_23_code (2 : Nat) (Option.some Jvm.ClassFile.FieldType.boolean)) ∈ lw_all := lw_g (lw_at lw_m6 39 rfl) rfl
theorem q1357 : (Jvm.Cond.methodLink "FourCarsModel" (231 : Nat) ({ cls := "FourCarsModel", name := "aTowerLine", desc := "()Z" } : Jvm.MethodName)) ∈ lw_all := lw_g (lw_at lw_m6 40 rfl) rfl
theorem q1358 : (Jvm.Cond.privateMethod ({ cls := "FourCarsModel", name := "aTowerLine", desc := "()Z" } : Jvm.MethodName)) ∈ lw_tbl := lw_at lw_m6 41 rfl
theorem q1359 : (Jvm.Cond.instanceMethod ({ cls := "FourCarsModel", name := "aTowerLine", desc := "()Z" } : Jvm.MethodName)) ∈ lw_all := lw_g (lw_at lw_m6 42 rfl) rfl
theorem q1360 : (Jvm.Cond.code ({ cls := "FourCarsModel", name := "aTowerLine", desc := "()Z" } : Jvm.MethodName) prog_15_method_37_code (2 : Nat) (Option.some Jvm.ClassFile.FieldType.boolean)) ∈ lw_all := lw_g (lw_at lw_m6 43 rfl) rfl
theorem q1361 : (Jvm.Cond.methodLink "FourCarsModel" (218 : Nat) ({ cls := "FourCarsModel", name := "floors", desc := "()Z" } : Jvm.MethodName)) ∈ lw_all := lw_g (lw_at lw_m6 44 rfl) rfl
theorem q1362 : (Jvm.Cond.privateMethod ({ cls := "FourCarsModel", name := "floors", desc := "()Z" } : Jvm.MethodName)) ∈ lw_tbl := lw_at lw_m6 45 rfl
theorem q1363 : (Jvm.Cond.instanceMethod ({ cls := "FourCarsModel", name := "floors", desc := "()Z" } : Jvm.MethodName)) ∈ lw_all := lw_g (lw_at lw_m6 46 rfl) rfl
theorem q1364 : (Jvm.Cond.code ({ cls := "FourCarsModel", name := "floors", desc := "()Z" } : Jvm.MethodName) prog_15_method_34_code (2 : Nat) (Option.some Jvm.ClassFile.FieldType.boolean)) ∈ lw_all := lw_g (lw_at lw_m6 47 rfl) rfl
theorem q1365 : (Jvm.Cond.methodLink "FourCarsModel" (211 : Nat) ({ cls := "FourCarsModel", name := "number", desc := "(II)Z" } : Jvm.MethodName)) ∈ lw_all := lw_g (lw_at lw_m6 48 rfl) rfl
theorem q1366 : (Jvm.Cond.privateMethod ({ cls := "FourCarsModel", name := "number", desc := "(II)Z" } : Jvm.MethodName)) ∈ lw_tbl := lw_at lw_m6 49 rfl
theorem q1367 : (Jvm.Cond.instanceMethod ({ cls := "FourCarsModel", name := "number", desc := "(II)Z" } : Jvm.MethodName)) ∈ lw_all := lw_g (lw_at lw_m6 50 rfl) rfl
theorem q1368 : (Jvm.Cond.code ({ cls := "FourCarsModel", name := "number", desc := "(II)Z" } : Jvm.MethodName) prog_15_method_24_code (3 : Nat) (Option.some Jvm.ClassFile.FieldType.boolean)) ∈ lw_all := lw_g (lw_at lw_m6 51 rfl) rfl
theorem q1369 : (Jvm.Cond.methodLink "FourCarsModel" (220 : Nat) ({ cls := "FourCarsModel", name := "aCar", desc := "()Z" } : Jvm.MethodName)) ∈ lw_all := lw_g (lw_at lw_m6 52 rfl) rfl
theorem q1370 : (Jvm.Cond.privateMethod ({ cls := "FourCarsModel", name := "aCar", desc := "()Z" } : Jvm.MethodName)) ∈ lw_tbl := lw_at lw_m6 53 rfl
theorem q1371 : (Jvm.Cond.instanceMethod ({ cls := "FourCarsModel", name := "aCar", desc := "()Z" } : Jvm.MethodName)) ∈ lw_all := lw_g (lw_at lw_m6 54 rfl) rfl
theorem q1372 : (Jvm.Cond.code ({ cls := "FourCarsModel", name := "aCar", desc := "()Z" } : Jvm.MethodName) prog_15_method_35_code (4 : Nat) (Option.some Jvm.ClassFile.FieldType.boolean)) ∈ lw_all := lw_g (lw_at lw_m6 55 rfl) rfl
theorem q1373 : (Jvm.Cond.methodLink "FourCarsModel" (223 : Nat) ({ cls := "FourCarsModel", name := "skip", desc := "()Z" } : Jvm.MethodName)) ∈ lw_all := lw_g (lw_at lw_m6 56 rfl) rfl
theorem q1374 : (Jvm.Cond.privateMethod ({ cls := "FourCarsModel", name := "skip", desc := "()Z" } : Jvm.MethodName)) ∈ lw_tbl := lw_at lw_m6 57 rfl
theorem q1375 : (Jvm.Cond.instanceMethod ({ cls := "FourCarsModel", name := "skip", desc := "()Z" } : Jvm.MethodName)) ∈ lw_all := lw_g (lw_at lw_m6 58 rfl) rfl
theorem q1376 : (Jvm.Cond.code ({ cls := "FourCarsModel", name := "skip", desc := "()Z" } : Jvm.MethodName) prog_15_method_36_code (3 : Nat) (Option.some Jvm.ClassFile.FieldType.boolean)) ∈ lw_all := lw_g (lw_at lw_m6 59 rfl) rfl
theorem q1377 : (Jvm.Cond.methodLink "FourCarsModel" (234 : Nat) ({ cls := "FourCarsModel", name := "keepsRule", desc := "(I)V" } : Jvm.MethodName)) ∈ lw_all := lw_g (lw_at lw_m6 60 rfl) rfl
theorem q1378 : (Jvm.Cond.privateMethod ({ cls := "FourCarsModel", name := "keepsRule", desc := "(I)V" } : Jvm.MethodName)) ∈ lw_tbl := lw_at lw_m6 61 rfl
theorem q1379 : (Jvm.Cond.instanceMethod ({ cls := "FourCarsModel", name := "keepsRule", desc := "(I)V" } : Jvm.MethodName)) ∈ lw_all := lw_g (lw_at lw_m6 62 rfl) rfl
theorem q1380 : (Jvm.Cond.code ({ cls := "FourCarsModel", name := "keepsRule", desc := "(I)V" } : Jvm.MethodName) prog_15_method_39_code (3 : Nat) (Option.none : Option Jvm.ClassFile.FieldType)) ∈ lw_all := lw_g (lw_at lw_m6 63 rfl) rfl
theorem q1381 : (Jvm.Cond.methodLink "FourCarsModel" (238 : Nat) ({ cls := "FourCarsModel", name := "keepsTower", desc := "()V" } : Jvm.MethodName)) ∈ lw_all := lw_g (lw_at lw_m6 64 rfl) rfl
theorem q1382 : (Jvm.Cond.privateMethod ({ cls := "FourCarsModel", name := "keepsTower", desc := "()V" } : Jvm.MethodName)) ∈ lw_tbl := lw_at lw_m6 65 rfl
theorem q1383 : (Jvm.Cond.instanceMethod ({ cls := "FourCarsModel", name := "keepsTower", desc := "()V" } : Jvm.MethodName)) ∈ lw_all := lw_g (lw_at lw_m6 66 rfl) rfl
theorem q1384 : (Jvm.Cond.code ({ cls := "FourCarsModel", name := "keepsTower", desc := "()V" } : Jvm.MethodName) prog_15_method_40_code (4 : Nat) (Option.none : Option Jvm.ClassFile.FieldType)) ∈ lw_all := lw_g (lw_at lw_m6 67 rfl) rfl
theorem q1385 : (Jvm.Cond.methodLink "FourCarsModel" (241 : Nat) ({ cls := "FourCarsModel", name := "sets", desc := "(III)V" } : Jvm.MethodName)) ∈ lw_all := lw_g (lw_at lw_m6 68 rfl) rfl
theorem q1386 : (Jvm.Cond.privateMethod ({ cls := "FourCarsModel", name := "sets", desc := "(III)V" } : Jvm.MethodName)) ∈ lw_tbl := lw_at lw_m6 69 rfl
theorem q1387 : (Jvm.Cond.instanceMethod ({ cls := "FourCarsModel", name := "sets", desc := "(III)V" } : Jvm.MethodName)) ∈ lw_all := lw_g (lw_at lw_m6 70 rfl) rfl
theorem q1388 : (Jvm.Cond.code ({ cls := "FourCarsModel", name := "sets", desc := "(III)V" } : Jvm.MethodName) prog_15_method_8_code (4 : Nat) (Option.none : Option Jvm.ClassFile.FieldType)) ∈ lw_all := lw_g (lw_at lw_m6 71 rfl) rfl
theorem q1389 : (Jvm.Cond.methodLink "FourCarsModel" (245 : Nat) ({ cls := "FourCarsModel", name := "parks", desc := "()V" } : Jvm.MethodName)) ∈ lw_all := lw_g (lw_at lw_m6 72 rfl) rfl
theorem q1390 : (Jvm.Cond.privateMethod ({ cls := "FourCarsModel", name := "parks", desc := "()V" } : Jvm.MethodName)) ∈ lw_tbl := lw_at lw_m6 73 rfl
theorem q1391 : (Jvm.Cond.instanceMethod ({ cls := "FourCarsModel", name := "parks", desc := "()V" } : Jvm.MethodName)) ∈ lw_all := lw_g (lw_at lw_m6 74 rfl) rfl
theorem q1392 : (Jvm.Cond.code ({ cls := "FourCarsModel", name := "parks", desc := "()V" } : Jvm.MethodName) prog_15_method_41_code (2 : Nat) (Option.none : Option Jvm.ClassFile.FieldType)) ∈ lw_all := lw_g (lw_at lw_m6 75 rfl) rfl
theorem q1393 : (Jvm.Cond.methodLink "FourCarsModel" (248 : Nat) ({ cls := "FourCarsModel", name := "ofCar", desc := "(II)I" } : Jvm.MethodName)) ∈ lw_all := lw_g (lw_at lw_m6 76 rfl) rfl
theorem q1394 : (Jvm.Cond.privateMethod ({ cls := "FourCarsModel", name := "ofCar", desc := "(II)I" } : Jvm.MethodName)) ∈ lw_tbl := lw_at lw_m6 77 rfl
theorem q1395 : (Jvm.Cond.instanceMethod ({ cls := "FourCarsModel", name := "ofCar", desc := "(II)I" } : Jvm.MethodName)) ∈ lw_all := lw_g (lw_at lw_m6 78 rfl) rfl
theorem q1396 : (Jvm.Cond.code ({ cls := "FourCarsModel", name := "ofCar", desc := "(II)I" } : Jvm.MethodName) prog_15_method_7_code (3 : Nat) (Option.some Jvm.ClassFile.FieldType.int)) ∈ lw_all := lw_g (lw_at lw_m6 79 rfl) rfl
theorem q1398 : (Jvm.Cond.instanceMethod ({ cls := "FourCarsModel", name := "fault", desc := "(I)I" } : Jvm.MethodName)) ∈ lw_all := lw_g (lw_at lw_m6 81 rfl) rfl
theorem q1399 : (Jvm.Cond.selects "FourCarsModel" ({ cls := "FourCarsModel", name := "fault", desc := "(I)I" } : Jvm.MethodName) ({ cls := "FourCarsModel", name := "fault", desc := "(I)I" } : Jvm.MethodName)) ∈ lw_all := lw_g (lw_at lw_m6 82 rfl) rfl
theorem q1400 : (Jvm.Cond.code ({ cls := "FourCarsModel", name := "fault", desc := "(I)I" } : Jvm.MethodName) prog_15_method_42_code (2 : Nat) (Option.some Jvm.ClassFile.FieldType.int)) ∈ lw_all := lw_g (lw_at lw_m6 83 rfl) rfl
theorem q1402 : (Jvm.Cond.instanceMethod ({ cls := "FourCarsModel", name := "one", desc := "(III)I" } : Jvm.MethodName)) ∈ lw_all := lw_g (lw_at lw_m6 85 rfl) rfl
theorem q1403 : (Jvm.Cond.selects "FourCarsModel" ({ cls := "FourCarsModel", name := "one", desc := "(III)I" } : Jvm.MethodName) ({ cls := "FourCarsModel", name := "one", desc := "(III)I" } : Jvm.MethodName)) ∈ lw_all := lw_g (lw_at lw_m6 86 rfl) rfl
theorem q1404 : (Jvm.Cond.code ({ cls := "FourCarsModel", name := "one", desc := "(III)I" } : Jvm.MethodName) prog_15_method_45_code (4 : Nat) (Option.some Jvm.ClassFile.FieldType.int)) ∈ lw_all := lw_g (lw_at lw_m6 87 rfl) rfl
theorem q1405 : (Jvm.Cond.methodLink "FourCarsModel" (256 : Nat) ({ cls := "FourCarsModel", name := "isFloor", desc := "(I)Z" } : Jvm.MethodName)) ∈ lw_all := lw_g (lw_at lw_m6 88 rfl) rfl
theorem q1406 : (Jvm.Cond.privateMethod ({ cls := "FourCarsModel", name := "isFloor", desc := "(I)Z" } : Jvm.MethodName)) ∈ lw_tbl := lw_at lw_m6 89 rfl
theorem q1407 : (Jvm.Cond.instanceMethod ({ cls := "FourCarsModel", name := "isFloor", desc := "(I)Z" } : Jvm.MethodName)) ∈ lw_all := lw_g (lw_at lw_m6 90 rfl) rfl
theorem q1408 : (Jvm.Cond.code ({ cls := "FourCarsModel", name := "isFloor", desc := "(I)Z" } : Jvm.MethodName) prog_15_method_4_code (2 : Nat) (Option.some Jvm.ClassFile.FieldType.boolean)) ∈ lw_all := lw_g (lw_at lw_m6 91 rfl) rfl
theorem q1409 : (Jvm.Cond.methodLink "FourCarsModel" (259 : Nat) ({ cls := "FourCarsModel", name := "comes", desc := "(III)V" } : Jvm.MethodName)) ∈ lw_all := lw_g (lw_at lw_m6 92 rfl) rfl
theorem q1410 : (Jvm.Cond.privateMethod ({ cls := "FourCarsModel", name := "comes", desc := "(III)V" } : Jvm.MethodName)) ∈ lw_tbl := lw_at lw_m6 93 rfl
theorem q1411 : (Jvm.Cond.instanceMethod ({ cls := "FourCarsModel", name := "comes", desc := "(III)V" } : Jvm.MethodName)) ∈ lw_all := lw_g (lw_at lw_m6 94 rfl) rfl
theorem q1412 : (Jvm.Cond.code ({ cls := "FourCarsModel", name := "comes", desc := "(III)V" } : Jvm.MethodName) prog_15_method_46_code (5 : Nat) (Option.none : Option Jvm.ClassFile.FieldType)) ∈ lw_all := lw_g (lw_at lw_m6 95 rfl) rfl
theorem q1413 : (Jvm.Cond.methodLink "FourCarsModel" (262 : Nat) ({ cls := "FourCarsModel", name := "gives", desc := "(III)V" } : Jvm.MethodName)) ∈ lw_all := lw_g (lw_at lw_m6 96 rfl) rfl
theorem q1414 : (Jvm.Cond.privateMethod ({ cls := "FourCarsModel", name := "gives", desc := "(III)V" } : Jvm.MethodName)) ∈ lw_tbl := lw_at lw_m6 97 rfl
theorem q1415 : (Jvm.Cond.instanceMethod ({ cls := "FourCarsModel", name := "gives", desc := "(III)V" } : Jvm.MethodName)) ∈ lw_all := lw_g (lw_at lw_m6 98 rfl) rfl
theorem q1416 : (Jvm.Cond.code ({ cls := "FourCarsModel", name := "gives", desc := "(III)V" } : Jvm.MethodName) prog_15_method_10_code (4 : Nat) (Option.none : Option Jvm.ClassFile.FieldType)) ∈ lw_all := lw_g (lw_at lw_m6 99 rfl) rfl
theorem q1418 : (Jvm.Cond.instanceMethod ({ cls := "FourCarsModel", name := "set", desc := "(III)Z" } : Jvm.MethodName)) ∈ lw_all := lw_g (lw_at lw_m6 101 rfl) rfl
theorem q1419 : (Jvm.Cond.selects "FourCarsModel" ({ cls := "FourCarsModel", name := "set", desc := "(III)Z" } : Jvm.MethodName) ({ cls := "FourCarsModel", name := "set", desc := "(III)Z" } : Jvm.MethodName)) ∈ lw_all := lw_g (lw_at lw_m6 102 rfl) rfl
theorem q1420 : (Jvm.Cond.code ({ cls := "FourCarsModel", name := "set", desc := "(III)Z" } : Jvm.MethodName) prog_15_method_47_code (4 : Nat) (Option.some Jvm.ClassFile.FieldType.boolean)) ∈ lw_all := lw_g (lw_at lw_m6 103 rfl) rfl
theorem q1421 : (Jvm.Cond.methodLink "FourCarsModel" (265 : Nat) ({ cls := "FourCarsModel", name := "isCar", desc := "(I)Z" } : Jvm.MethodName)) ∈ lw_all := lw_g (lw_at lw_m6 104 rfl) rfl
theorem q1422 : (Jvm.Cond.privateMethod ({ cls := "FourCarsModel", name := "isCar", desc := "(I)Z" } : Jvm.MethodName)) ∈ lw_tbl := lw_at lw_m6 105 rfl
theorem q1423 : (Jvm.Cond.instanceMethod ({ cls := "FourCarsModel", name := "isCar", desc := "(I)Z" } : Jvm.MethodName)) ∈ lw_all := lw_g (lw_at lw_m6 106 rfl) rfl
theorem q1424 : (Jvm.Cond.code ({ cls := "FourCarsModel", name := "isCar", desc := "(I)Z" } : Jvm.MethodName) prog_15_method_5_code (2 : Nat) (Option.some Jvm.ClassFile.FieldType.boolean)) ∈ lw_all := lw_g (lw_at lw_m6 107 rfl) rfl
theorem q1425 : (Jvm.Cond.methodLink "FourCarsModel" (268 : Nat) ({ cls := "FourCarsModel", name := "takesOut", desc := "(I)V" } : Jvm.MethodName)) ∈ lw_all := lw_g (lw_at lw_m6 108 rfl) rfl
theorem q1426 : (Jvm.Cond.privateMethod ({ cls := "FourCarsModel", name := "takesOut", desc := "(I)V" } : Jvm.MethodName)) ∈ lw_tbl := lw_at lw_m6 109 rfl
theorem q1427 : (Jvm.Cond.instanceMethod ({ cls := "FourCarsModel", name := "takesOut", desc := "(I)V" } : Jvm.MethodName)) ∈ lw_all := lw_g (lw_at lw_m6 110 rfl) rfl
theorem q1428 : (Jvm.Cond.code ({ cls := "FourCarsModel", name := "takesOut", desc := "(I)V" } : Jvm.MethodName) prog_15_method_48_code (3 : Nat) (Option.none : Option Jvm.ClassFile.FieldType)) ∈ lw_all := lw_g (lw_at lw_m6 111 rfl) rfl
theorem q1429 : (Jvm.Cond.methodLink "FourCarsModel" (271 : Nat) ({ cls := "FourCarsModel", name := "own", desc := "(II)I" } : Jvm.MethodName)) ∈ lw_all := lw_g (lw_at lw_m6 112 rfl) rfl
theorem q1430 : (Jvm.Cond.privateMethod ({ cls := "FourCarsModel", name := "own", desc := "(II)I" } : Jvm.MethodName)) ∈ lw_tbl := lw_at lw_m6 113 rfl
theorem q1431 : (Jvm.Cond.instanceMethod ({ cls := "FourCarsModel", name := "own", desc := "(II)I" } : Jvm.MethodName)) ∈ lw_all := lw_g (lw_at lw_m6 114 rfl) rfl
theorem q1432 : (Jvm.Cond.code ({ cls := "FourCarsModel", name := "own", desc := "(II)I" } : Jvm.MethodName) prog_15_method_9_code (3 : Nat) (Option.some Jvm.ClassFile.FieldType.int)) ∈ lw_all := lw_g (lw_at lw_m6 115 rfl) rfl
theorem q1434 : (Jvm.Cond.instanceMethod ({ cls := "FourCarsModel", name := "cost", desc := "(III)I" } : Jvm.MethodName)) ∈ lw_all := lw_g (lw_at lw_m6 117 rfl) rfl
theorem q1435 : (Jvm.Cond.selects "FourCarsModel" ({ cls := "FourCarsModel", name := "cost", desc := "(III)I" } : Jvm.MethodName) ({ cls := "FourCarsModel", name := "cost", desc := "(III)I" } : Jvm.MethodName)) ∈ lw_all := lw_g (lw_at lw_m6 118 rfl) rfl
theorem q1436 : (Jvm.Cond.code ({ cls := "FourCarsModel", name := "cost", desc := "(III)I" } : Jvm.MethodName) prog_15_method_53_code (4 : Nat) (Option.some Jvm.ClassFile.FieldType.int)) ∈ lw_all := lw_g (lw_at lw_m6 119 rfl) rfl
theorem q1437 : (Jvm.Cond.methodLink "FourCarsModel" (291 : Nat) ({ cls := "FourCarsModel", name := "isOne", desc := "(I)Z" } : Jvm.MethodName)) ∈ lw_all := lw_g (lw_at lw_m6 120 rfl) rfl
theorem q1438 : (Jvm.Cond.privateMethod ({ cls := "FourCarsModel", name := "isOne", desc := "(I)Z" } : Jvm.MethodName)) ∈ lw_tbl := lw_at lw_m6 121 rfl
theorem q1439 : (Jvm.Cond.instanceMethod ({ cls := "FourCarsModel", name := "isOne", desc := "(I)Z" } : Jvm.MethodName)) ∈ lw_all := lw_g (lw_at lw_m6 122 rfl) rfl
theorem q1440 : (Jvm.Cond.code ({ cls := "FourCarsModel", name := "isOne", desc := "(I)Z" } : Jvm.MethodName) prog_15_method_6_code (2 : Nat) (Option.some Jvm.ClassFile.FieldType.boolean)) ∈ lw_all := lw_g (lw_at lw_m6 123 rfl) rfl
theorem q1441 : (Jvm.Cond.methodLink "FourCarsModel" (294 : Nat) ({ cls := "FourCarsModel", name := "tells", desc := "(III)Z" } : Jvm.MethodName)) ∈ lw_all := lw_g (lw_at lw_m6 124 rfl) rfl
theorem q1442 : (Jvm.Cond.privateMethod ({ cls := "FourCarsModel", name := "tells", desc := "(III)Z" } : Jvm.MethodName)) ∈ lw_tbl := lw_at lw_m6 125 rfl
theorem q1443 : (Jvm.Cond.instanceMethod ({ cls := "FourCarsModel", name := "tells", desc := "(III)Z" } : Jvm.MethodName)) ∈ lw_all := lw_g (lw_at lw_m6 126 rfl) rfl
theorem q1444 : (Jvm.Cond.code ({ cls := "FourCarsModel", name := "tells", desc := "(III)Z" } : Jvm.MethodName) prog_15_method_52_code (7 : Nat) (Option.some Jvm.ClassFile.FieldType.boolean)) ∈ lw_all := lw_g (lw_at lw_m6 127 rfl) rfl
theorem q1445 : (Jvm.Cond.methodLink "FourCarsModel" (274 : Nat) ({ cls := "FourCarsModel", name := "apart", desc := "(II)I" } : Jvm.MethodName)) ∈ lw_all := lw_g (lw_at lw_m6 128 rfl) rfl
theorem q1446 : (Jvm.Cond.static ({ cls := "FourCarsModel", name := "apart", desc := "(II)I" } : Jvm.MethodName)) ∈ lw_all := lw_g (lw_at lw_m6 129 rfl) rfl
theorem q1447 : (Jvm.Cond.code ({ cls := "FourCarsModel", name := "apart", desc := "(II)I" } : Jvm.MethodName) prog_15_method_3_code (2 : Nat) (Option.some Jvm.ClassFile.FieldType.int)) ∈ lw_all := lw_g (lw_at lw_m6 130 rfl) rfl
theorem q1448 : (Jvm.Cond.methodLink "FourCarsModel" (277 : Nat) ({ cls := "FourCarsModel", name := "wayOf", desc := "(I)I" } : Jvm.MethodName)) ∈ lw_all := lw_g (lw_at lw_m6 131 rfl) rfl
theorem q1449 : (Jvm.Cond.privateMethod ({ cls := "FourCarsModel", name := "wayOf", desc := "(I)I" } : Jvm.MethodName)) ∈ lw_tbl := lw_at lw_m6 132 rfl
theorem q1450 : (Jvm.Cond.instanceMethod ({ cls := "FourCarsModel", name := "wayOf", desc := "(I)I" } : Jvm.MethodName)) ∈ lw_all := lw_g (lw_at lw_m6 133 rfl) rfl
theorem q1451 : (Jvm.Cond.code ({ cls := "FourCarsModel", name := "wayOf", desc := "(I)I" } : Jvm.MethodName) prog_15_method_49_code (2 : Nat) (Option.some Jvm.ClassFile.FieldType.int)) ∈ lw_all := lw_g (lw_at lw_m6 134 rfl) rfl
theorem q1452 : (Jvm.Cond.methodLink "FourCarsModel" (280 : Nat) ({ cls := "FourCarsModel", name := "riding", desc := "(I)I" } : Jvm.MethodName)) ∈ lw_all := lw_g (lw_at lw_m6 135 rfl) rfl
theorem q1453 : (Jvm.Cond.privateMethod ({ cls := "FourCarsModel", name := "riding", desc := "(I)I" } : Jvm.MethodName)) ∈ lw_tbl := lw_at lw_m6 136 rfl
theorem q1454 : (Jvm.Cond.instanceMethod ({ cls := "FourCarsModel", name := "riding", desc := "(I)I" } : Jvm.MethodName)) ∈ lw_all := lw_g (lw_at lw_m6 137 rfl) rfl
theorem q1455 : (Jvm.Cond.code ({ cls := "FourCarsModel", name := "riding", desc := "(I)I" } : Jvm.MethodName) prog_15_method_50_code (4 : Nat) (Option.some Jvm.ClassFile.FieldType.int)) ∈ lw_all := lw_g (lw_at lw_m6 138 rfl) rfl
theorem q1456 : (Jvm.Cond.methodLink "FourCarsModel" (283 : Nat) ({ cls := "FourCarsModel", name := "given", desc := "(I)I" } : Jvm.MethodName)) ∈ lw_all := lw_g (lw_at lw_m6 139 rfl) rfl
theorem q1457 : (Jvm.Cond.privateMethod ({ cls := "FourCarsModel", name := "given", desc := "(I)I" } : Jvm.MethodName)) ∈ lw_tbl := lw_at lw_m6 140 rfl
theorem q1458 : (Jvm.Cond.instanceMethod ({ cls := "FourCarsModel", name := "given", desc := "(I)I" } : Jvm.MethodName)) ∈ lw_all := lw_g (lw_at lw_m6 141 rfl) rfl
theorem q1459 : (Jvm.Cond.code ({ cls := "FourCarsModel", name := "given", desc := "(I)I" } : Jvm.MethodName) prog_15_method_51_code (4 : Nat) (Option.some Jvm.ClassFile.FieldType.int)) ∈ lw_all := lw_g (lw_at lw_m6 142 rfl) rfl
theorem q1460 : (Jvm.Cond.methodLink "FourCarsModel" (288 : Nat) ({ cls := "FourCarsModel", name := "comesTo", desc := "(III)I" } : Jvm.MethodName)) ∈ lw_all := lw_g (lw_at lw_m6 143 rfl) rfl
theorem q1461 : (Jvm.Cond.privateMethod ({ cls := "FourCarsModel", name := "comesTo", desc := "(III)I" } : Jvm.MethodName)) ∈ lw_tbl := lw_at lw_m6 144 rfl
theorem q1462 : (Jvm.Cond.instanceMethod ({ cls := "FourCarsModel", name := "comesTo", desc := "(III)I" } : Jvm.MethodName)) ∈ lw_all := lw_g (lw_at lw_m6 145 rfl) rfl
theorem q1463 : (Jvm.Cond.code ({ cls := "FourCarsModel", name := "comesTo", desc := "(III)I" } : Jvm.MethodName) prog_15_method_44_code (8 : Nat) (Option.some Jvm.ClassFile.FieldType.int)) ∈ lw_all := lw_g (lw_at lw_m6 146 rfl) rfl
theorem q1464 : (Jvm.Cond.methodLink "FourCarsModel" (252 : Nat) ({ cls := "FourCarsModel", name := "both", desc := "(III)I" } : Jvm.MethodName)) ∈ lw_all := lw_g (lw_at lw_m6 147 rfl) rfl
theorem q1465 : (Jvm.Cond.static ({ cls := "FourCarsModel", name := "both", desc := "(III)I" } : Jvm.MethodName)) ∈ lw_all := lw_g (lw_at lw_m6 148 rfl) rfl
theorem q1466 : (Jvm.Cond.code ({ cls := "FourCarsModel", name := "both", desc := "(III)I" } : Jvm.MethodName) prog_15_method_43_code (3 : Nat) (Option.some Jvm.ClassFile.FieldType.int)) ∈ lw_all := lw_g (lw_at lw_m6 149 rfl) rfl
theorem q1467 : (Jvm.Cond.constant "FourCarsModel" (297 : Nat) (-100000000 : Int32)) ∈ lw_all := lw_g (lw_at lw_m6 150 rfl) rfl
theorem q1469 : (Jvm.Cond.instanceMethod ({ cls := "FourCarsModel", name := "seconds", desc := "(I)I" } : Jvm.MethodName)) ∈ lw_all := lw_g (lw_at lw_m6 152 rfl) rfl
theorem q1470 : (Jvm.Cond.selects "FourCarsModel" ({ cls := "FourCarsModel", name := "seconds", desc := "(I)I" } : Jvm.MethodName) ({ cls := "FourCarsModel", name := "seconds", desc := "(I)I" } : Jvm.MethodName)) ∈ lw_all := lw_g (lw_at lw_m6 153 rfl) rfl
theorem q1471 : (Jvm.Cond.code ({ cls := "FourCarsModel", name := "seconds", desc := "(I)I" } : Jvm.MethodName) prog_15_method_65_code (4 : Nat) (Option.some Jvm.ClassFile.FieldType.int)) ∈ lw_all := lw_g (lw_at lw_m6 154 rfl) rfl
theorem q1472 : (Jvm.Cond.methodLink "FourCarsModel" (335 : Nat) ({ cls := "FourCarsModel", name := "there", desc := "()I" } : Jvm.MethodName)) ∈ lw_all := lw_g (lw_at lw_m6 155 rfl) rfl
theorem q1473 : (Jvm.Cond.privateMethod ({ cls := "FourCarsModel", name := "there", desc := "()I" } : Jvm.MethodName)) ∈ lw_tbl := lw_at lw_m6 156 rfl
theorem q1474 : (Jvm.Cond.instanceMethod ({ cls := "FourCarsModel", name := "there", desc := "()I" } : Jvm.MethodName)) ∈ lw_all := lw_g (lw_at lw_m6 157 rfl) rfl
theorem q1475 : (Jvm.Cond.code ({ cls := "FourCarsModel", name := "there", desc := "()I" } : Jvm.MethodName) prog_15_method_64_code (3 : Nat) (Option.some Jvm.ClassFile.FieldType.int)) ∈ lw_all := lw_g (lw_at lw_m6 158 rfl) rfl
theorem q1476 : (Jvm.Cond.methodLink "FourCarsModel" (338 : Nat) ({ cls := "FourCarsModel", name := "aSecond", desc := "()V" } : Jvm.MethodName)) ∈ lw_all := lw_g (lw_at lw_m6 159 rfl) rfl
theorem q1477 : (Jvm.Cond.privateMethod ({ cls := "FourCarsModel", name := "aSecond", desc := "()V" } : Jvm.MethodName)) ∈ lw_tbl := lw_at lw_m6 160 rfl
theorem q1478 : (Jvm.Cond.instanceMethod ({ cls := "FourCarsModel", name := "aSecond", desc := "()V" } : Jvm.MethodName)) ∈ lw_all := lw_g (lw_at lw_m6 161 rfl) rfl
theorem q1479 : (Jvm.Cond.code ({ cls := "FourCarsModel", name := "aSecond", desc := "()V" } : Jvm.MethodName) prog_15_method_63_code (2 : Nat) (Option.none : Option Jvm.ClassFile.FieldType)) ∈ lw_all := lw_g (lw_at lw_m6 162 rfl) rfl
theorem q1480 : (Jvm.Cond.methodLink "FourCarsModel" (329 : Nat) ({ cls := "FourCarsModel", name := "givesCall", desc := "(I)V" } : Jvm.MethodName)) ∈ lw_all := lw_g (lw_at lw_m6 163 rfl) rfl
theorem q1481 : (Jvm.Cond.privateMethod ({ cls := "FourCarsModel", name := "givesCall", desc := "(I)V" } : Jvm.MethodName)) ∈ lw_tbl := lw_at lw_m6 164 rfl
theorem q1482 : (Jvm.Cond.instanceMethod ({ cls := "FourCarsModel", name := "givesCall", desc := "(I)V" } : Jvm.MethodName)) ∈ lw_all := lw_g (lw_at lw_m6 165 rfl) rfl
theorem q1483 : (Jvm.Cond.code ({ cls := "FourCarsModel", name := "givesCall", desc := "(I)V" } : Jvm.MethodName) prog_15_method_54_code (5 : Nat) (Option.none : Option Jvm.ClassFile.FieldType)) ∈ lw_all := lw_g (lw_at lw_m6 166 rfl) rfl
theorem q1484 : (Jvm.Cond.methodLink "FourCarsModel" (302 : Nat) ({ cls := "FourCarsModel", name := "serves", desc := "(II)Z" } : Jvm.MethodName)) ∈ lw_all := lw_g (lw_at lw_m6 167 rfl) rfl
theorem q1485 : (Jvm.Cond.privateMethod ({ cls := "FourCarsModel", name := "serves", desc := "(II)Z" } : Jvm.MethodName)) ∈ lw_tbl := lw_at lw_m6 168 rfl
theorem q1486 : (Jvm.Cond.instanceMethod ({ cls := "FourCarsModel", name := "serves", desc := "(II)Z" } : Jvm.MethodName)) ∈ lw_all := lw_g (lw_at lw_m6 169 rfl) rfl
theorem q1487 : (Jvm.Cond.code ({ cls := "FourCarsModel", name := "serves", desc := "(II)Z" } : Jvm.MethodName) prog_15_method_11_code (3 : Nat) (Option.some Jvm.ClassFile.FieldType.boolean)) ∈ lw_all := lw_g (lw_at lw_m6 170 rfl) rfl
theorem q1488 : (Jvm.Cond.methodLink "FourCarsModel" (332 : Nat) ({ cls := "FourCarsModel", name := "aCarsSecond", desc := "(I)V" } : Jvm.MethodName)) ∈ lw_all := lw_g (lw_at lw_m6 171 rfl) rfl
theorem q1489 : (Jvm.Cond.privateMethod ({ cls := "FourCarsModel", name := "aCarsSecond", desc := "(I)V" } : Jvm.MethodName)) ∈ lw_tbl := lw_at lw_m6 172 rfl
theorem q1490 : (Jvm.Cond.instanceMethod ({ cls := "FourCarsModel", name := "aCarsSecond", desc := "(I)V" } : Jvm.MethodName)) ∈ lw_all := lw_g (lw_at lw_m6 173 rfl) rfl
theorem q1491 : (Jvm.Cond.code ({ cls := "FourCarsModel", name := "aCarsSecond", desc := "(I)V" } : Jvm.MethodName) prog_15_method_62_code (2 : Nat) (Option.none : Option Jvm.ClassFile.FieldType)) ∈ lw_all := lw_g (lw_at lw_m6 174 rfl) rfl
theorem q1492 : (Jvm.Cond.methodLink "FourCarsModel" (326 : Nat) ({ cls := "FourCarsModel", name := "looks", desc := "(I)V" } : Jvm.MethodName)) ∈ lw_all := lw_g (lw_at lw_m6 175 rfl) rfl
theorem q1493 : (Jvm.Cond.privateMethod ({ cls := "FourCarsModel", name := "looks", desc := "(I)V" } : Jvm.MethodName)) ∈ lw_tbl := lw_at lw_m6 176 rfl
theorem q1494 : (Jvm.Cond.instanceMethod ({ cls := "FourCarsModel", name := "looks", desc := "(I)V" } : Jvm.MethodName)) ∈ lw_all := lw_g (lw_at lw_m6 177 rfl) rfl
theorem q1495 : (Jvm.Cond.code ({ cls := "FourCarsModel", name := "looks", desc := "(I)V" } : Jvm.MethodName) prog_15_method_61_code (6 : Nat) (Option.none : Option Jvm.ClassFile.FieldType)) ∈ lw_all := lw_g (lw_at lw_m6 178 rfl) rfl
theorem q1496 : (Jvm.Cond.methodLink "FourCarsModel" (317 : Nat) ({ cls := "FourCarsModel", name := "goOut", desc := "(I)I" } : Jvm.MethodName)) ∈ lw_all := lw_g (lw_at lw_m6 179 rfl) rfl
theorem q1497 : (Jvm.Cond.privateMethod ({ cls := "FourCarsModel", name := "goOut", desc := "(I)I" } : Jvm.MethodName)) ∈ lw_tbl := lw_at lw_m6 180 rfl
theorem q1498 : (Jvm.Cond.instanceMethod ({ cls := "FourCarsModel", name := "goOut", desc := "(I)I" } : Jvm.MethodName)) ∈ lw_all := lw_g (lw_at lw_m6 181 rfl) rfl
theorem q1499 : (Jvm.Cond.code ({ cls := "FourCarsModel", name := "goOut", desc := "(I)I" } : Jvm.MethodName) prog_15_method_59_code (4 : Nat) (Option.some Jvm.ClassFile.FieldType.int)) ∈ lw_all := lw_g (lw_at lw_m6 182 rfl) rfl
theorem q1500 : (Jvm.Cond.methodLink "FourCarsModel" (311 : Nat) ({ cls := "FourCarsModel", name := "nearest", desc := "(II)I" } : Jvm.MethodName)) ∈ lw_all := lw_g (lw_at lw_m6 183 rfl) rfl
theorem q1501 : (Jvm.Cond.privateMethod ({ cls := "FourCarsModel", name := "nearest", desc := "(II)I" } : Jvm.MethodName)) ∈ lw_tbl := lw_at lw_m6 184 rfl
theorem q1502 : (Jvm.Cond.instanceMethod ({ cls := "FourCarsModel", name := "nearest", desc := "(II)I" } : Jvm.MethodName)) ∈ lw_all := lw_g (lw_at lw_m6 185 rfl) rfl
theorem q1503 : (Jvm.Cond.code ({ cls := "FourCarsModel", name := "nearest", desc := "(II)I" } : Jvm.MethodName) prog_15_method_56_code (8 : Nat) (Option.some Jvm.ClassFile.FieldType.int)) ∈ lw_all := lw_g (lw_at lw_m6 186 rfl) rfl
theorem q1504 : (Jvm.Cond.methodLink "FourCarsModel" (305 : Nat) ({ cls := "FourCarsModel", name := "targetOf", desc := "(II)I" } : Jvm.MethodName)) ∈ lw_all := lw_g (lw_at lw_m6 187 rfl) rfl
theorem q1505 : (Jvm.Cond.privateMethod ({ cls := "FourCarsModel", name := "targetOf", desc := "(II)I" } : Jvm.MethodName)) ∈ lw_tbl := lw_at lw_m6 188 rfl
theorem q1506 : (Jvm.Cond.instanceMethod ({ cls := "FourCarsModel", name := "targetOf", desc := "(II)I" } : Jvm.MethodName)) ∈ lw_all := lw_g (lw_at lw_m6 189 rfl) rfl
theorem q1507 : (Jvm.Cond.code ({ cls := "FourCarsModel", name := "targetOf", desc := "(II)I" } : Jvm.MethodName) prog_15_method_55_code (3 : Nat) (Option.some Jvm.ClassFile.FieldType.int)) ∈ lw_all := lw_g (lw_at lw_m6 190 rfl) rfl
theorem q1508 : (Jvm.Cond.methodLink "FourCarsModel" (320 : Nat) ({ cls := "FourCarsModel", name := "newWay", desc := "(I)I" } : Jvm.MethodName)) ∈ lw_all := lw_g (lw_at lw_m6 191 rfl) rfl
theorem q1509 : (Jvm.Cond.privateMethod ({ cls := "FourCarsModel", name := "newWay", desc := "(I)I" } : Jvm.MethodName)) ∈ lw_tbl := lw_at lw_m6 192 rfl
theorem q1510 : (Jvm.Cond.instanceMethod ({ cls := "FourCarsModel", name := "newWay", desc := "(I)I" } : Jvm.MethodName)) ∈ lw_all := lw_g (lw_at lw_m6 193 rfl) rfl
theorem q1511 : (Jvm.Cond.code ({ cls := "FourCarsModel", name := "newWay", desc := "(I)I" } : Jvm.MethodName) prog_15_method_58_code (6 : Nat) (Option.some Jvm.ClassFile.FieldType.int)) ∈ lw_all := lw_g (lw_at lw_m6 194 rfl) rfl
theorem q1512 : (Jvm.Cond.methodLink "FourCarsModel" (308 : Nat) ({ cls := "FourCarsModel", name := "firstHere", desc := "(I)I" } : Jvm.MethodName)) ∈ lw_all := lw_g (lw_at lw_m6 195 rfl) rfl
theorem q1513 : (Jvm.Cond.privateMethod ({ cls := "FourCarsModel", name := "firstHere", desc := "(I)I" } : Jvm.MethodName)) ∈ lw_tbl := lw_at lw_m6 196 rfl
theorem q1514 : (Jvm.Cond.instanceMethod ({ cls := "FourCarsModel", name := "firstHere", desc := "(I)I" } : Jvm.MethodName)) ∈ lw_all := lw_g (lw_at lw_m6 197 rfl) rfl
theorem q1515 : (Jvm.Cond.code ({ cls := "FourCarsModel", name := "firstHere", desc := "(I)I" } : Jvm.MethodName) prog_15_method_57_code (3 : Nat) (Option.some Jvm.ClassFile.FieldType.int)) ∈ lw_all := lw_g (lw_at lw_m6 198 rfl) rfl
theorem q1516 : (Jvm.Cond.methodLink "FourCarsModel" (323 : Nat) ({ cls := "FourCarsModel", name := "goIn", desc := "(I)I" } : Jvm.MethodName)) ∈ lw_all := lw_g (lw_at lw_m6 199 rfl) rfl
theorem q1517 : (Jvm.Cond.privateMethod ({ cls := "FourCarsModel", name := "goIn", desc := "(I)I" } : Jvm.MethodName)) ∈ lw_tbl := lw_at lw_m6 200 rfl
theorem q1518 : (Jvm.Cond.instanceMethod ({ cls := "FourCarsModel", name := "goIn", desc := "(I)I" } : Jvm.MethodName)) ∈ lw_all := lw_g (lw_at lw_m6 201 rfl) rfl
theorem q1519 : (Jvm.Cond.code ({ cls := "FourCarsModel", name := "goIn", desc := "(I)I" } : Jvm.MethodName) prog_15_method_60_code (5 : Nat) (Option.some Jvm.ClassFile.FieldType.int)) ∈ lw_all := lw_g (lw_at lw_m6 202 rfl) rfl
theorem q1521 : (Jvm.Cond.instanceMethod ({ cls := "FourCarsModel", name := "car", desc := "(II)I" } : Jvm.MethodName)) ∈ lw_all := lw_g (lw_at lw_m6 204 rfl) rfl
theorem q1522 : (Jvm.Cond.selects "FourCarsModel" ({ cls := "FourCarsModel", name := "car", desc := "(II)I" } : Jvm.MethodName) ({ cls := "FourCarsModel", name := "car", desc := "(II)I" } : Jvm.MethodName)) ∈ lw_all := lw_g (lw_at lw_m6 205 rfl) rfl
theorem q1523 : (Jvm.Cond.code ({ cls := "FourCarsModel", name := "car", desc := "(II)I" } : Jvm.MethodName) prog_15_method_66_code (3 : Nat) (Option.some Jvm.ClassFile.FieldType.int)) ∈ lw_all := lw_g (lw_at lw_m6 206 rfl) rfl
theorem q1525 : (Jvm.Cond.instanceMethod ({ cls := "FourCarsModel", name := "person", desc := "(II)I" } : Jvm.MethodName)) ∈ lw_all := lw_g (lw_at lw_m6 208 rfl) rfl
theorem q1526 : (Jvm.Cond.selects "FourCarsModel" ({ cls := "FourCarsModel", name := "person", desc := "(II)I" } : Jvm.MethodName) ({ cls := "FourCarsModel", name := "person", desc := "(II)I" } : Jvm.MethodName)) ∈ lw_all := lw_g (lw_at lw_m6 209 rfl) rfl
theorem q1527 : (Jvm.Cond.code ({ cls := "FourCarsModel", name := "person", desc := "(II)I" } : Jvm.MethodName) prog_15_method_67_code (3 : Nat) (Option.some Jvm.ClassFile.FieldType.int)) ∈ lw_all := lw_g (lw_at lw_m6 210 rfl) rfl
theorem q1529 : (Jvm.Cond.instanceMethod ({ cls := "FourCarsModel", name := "sums", desc := "(I)I" } : Jvm.MethodName)) ∈ lw_all := lw_g (lw_at lw_m6 212 rfl) rfl
theorem q1530 : (Jvm.Cond.selects "FourCarsModel" ({ cls := "FourCarsModel", name := "sums", desc := "(I)I" } : Jvm.MethodName) ({ cls := "FourCarsModel", name := "sums", desc := "(I)I" } : Jvm.MethodName)) ∈ lw_all := lw_g (lw_at lw_m6 213 rfl) rfl
theorem q1531 : (Jvm.Cond.code ({ cls := "FourCarsModel", name := "sums", desc := "(I)I" } : Jvm.MethodName) prog_15_method_68_code (6 : Nat) (Option.some Jvm.ClassFile.FieldType.int)) ∈ lw_all := lw_g (lw_at lw_m6 214 rfl) rfl
theorem q1532 : (Jvm.Cond.methodLink "FourCarsModel" (341 : Nat) ({ cls := "FourCarsModel", name := "person", desc := "(II)I" } : Jvm.MethodName)) ∈ lw_all := lw_g (lw_at lw_m6 215 rfl) rfl
theorem q1534 : (Jvm.Cond.instanceMethod ({ cls := "FourCarsModel", name := "thought", desc := "(II)I" } : Jvm.MethodName)) ∈ lw_all := lw_g (lw_at lw_m6 217 rfl) rfl
theorem q1535 : (Jvm.Cond.selects "FourCarsModel" ({ cls := "FourCarsModel", name := "thought", desc := "(II)I" } : Jvm.MethodName) ({ cls := "FourCarsModel", name := "thought", desc := "(II)I" } : Jvm.MethodName)) ∈ lw_all := lw_g (lw_at lw_m6 218 rfl) rfl
theorem q1536 : (Jvm.Cond.code ({ cls := "FourCarsModel", name := "thought", desc := "(II)I" } : Jvm.MethodName) prog_15_method_74_code (5 : Nat) (Option.some Jvm.ClassFile.FieldType.int)) ∈ lw_all := lw_g (lw_at lw_m6 219 rfl) rfl
theorem q1537 : (Jvm.Cond.methodLink "FourCarsModel" (350 : Nat) ({ cls := "FourCarsModel", name := "setsOut", desc := "()V" } : Jvm.MethodName)) ∈ lw_all := lw_g (lw_at lw_m6 220 rfl) rfl
theorem q1538 : (Jvm.Cond.privateMethod ({ cls := "FourCarsModel", name := "setsOut", desc := "()V" } : Jvm.MethodName)) ∈ lw_tbl := lw_at lw_m6 221 rfl
theorem q1539 : (Jvm.Cond.instanceMethod ({ cls := "FourCarsModel", name := "setsOut", desc := "()V" } : Jvm.MethodName)) ∈ lw_all := lw_g (lw_at lw_m6 222 rfl) rfl
theorem q1540 : (Jvm.Cond.code ({ cls := "FourCarsModel", name := "setsOut", desc := "()V" } : Jvm.MethodName) prog_15_method_69_code (2 : Nat) (Option.none : Option Jvm.ClassFile.FieldType)) ∈ lw_all := lw_g (lw_at lw_m6 223 rfl) rfl
theorem q1541 : (Jvm.Cond.methodLink "FourCarsModel" (353 : Nat) ({ cls := "FourCarsModel", name := "ends", desc := "(I)Z" } : Jvm.MethodName)) ∈ lw_all := lw_g (lw_at lw_m6 224 rfl) rfl
theorem q1542 : (Jvm.Cond.privateMethod ({ cls := "FourCarsModel", name := "ends", desc := "(I)Z" } : Jvm.MethodName)) ∈ lw_tbl := lw_at lw_m6 225 rfl
theorem q1543 : (Jvm.Cond.instanceMethod ({ cls := "FourCarsModel", name := "ends", desc := "(I)Z" } : Jvm.MethodName)) ∈ lw_all := lw_g (lw_at lw_m6 226 rfl) rfl
theorem q1544 : (Jvm.Cond.code ({ cls := "FourCarsModel", name := "ends", desc := "(I)Z" } : Jvm.MethodName) prog_15_method_71_code (2 : Nat) (Option.some Jvm.ClassFile.FieldType.boolean)) ∈ lw_all := lw_g (lw_at lw_m6 227 rfl) rfl
theorem q1545 : (Jvm.Cond.methodLink "FourCarsModel" (356 : Nat) ({ cls := "FourCarsModel", name := "overAll", desc := "(I)I" } : Jvm.MethodName)) ∈ lw_all := lw_g (lw_at lw_m6 228 rfl) rfl
theorem q1546 : (Jvm.Cond.privateMethod ({ cls := "FourCarsModel", name := "overAll", desc := "(I)I" } : Jvm.MethodName)) ∈ lw_tbl := lw_at lw_m6 229 rfl
theorem q1547 : (Jvm.Cond.instanceMethod ({ cls := "FourCarsModel", name := "overAll", desc := "(I)I" } : Jvm.MethodName)) ∈ lw_all := lw_g (lw_at lw_m6 230 rfl) rfl
theorem q1548 : (Jvm.Cond.code ({ cls := "FourCarsModel", name := "overAll", desc := "(I)I" } : Jvm.MethodName) prog_15_method_73_code (4 : Nat) (Option.some Jvm.ClassFile.FieldType.int)) ∈ lw_all := lw_g (lw_at lw_m6 231 rfl) rfl
theorem q1549 : (Jvm.Cond.methodLink "FourCarsModel" (347 : Nat) ({ cls := "FourCarsModel", name := "over", desc := "(I)I" } : Jvm.MethodName)) ∈ lw_all := lw_g (lw_at lw_m6 232 rfl) rfl
theorem q1550 : (Jvm.Cond.privateMethod ({ cls := "FourCarsModel", name := "over", desc := "(I)I" } : Jvm.MethodName)) ∈ lw_tbl := lw_at lw_m6 233 rfl
theorem q1551 : (Jvm.Cond.instanceMethod ({ cls := "FourCarsModel", name := "over", desc := "(I)I" } : Jvm.MethodName)) ∈ lw_all := lw_g (lw_at lw_m6 234 rfl) rfl
theorem q1552 : (Jvm.Cond.code ({ cls := "FourCarsModel", name := "over", desc := "(I)I" } : Jvm.MethodName) prog_15_method_72_code (2 : Nat) (Option.some Jvm.ClassFile.FieldType.int)) ∈ lw_all := lw_g (lw_at lw_m6 235 rfl) rfl
theorem q1553 : (Jvm.Cond.methodLink "FourCarsModel" (359 : Nat) ({ cls := "FourCarsModel", name := "comesBack", desc := "()V" } : Jvm.MethodName)) ∈ lw_all := lw_g (lw_at lw_m6 236 rfl) rfl
theorem q1554 : (Jvm.Cond.privateMethod ({ cls := "FourCarsModel", name := "comesBack", desc := "()V" } : Jvm.MethodName)) ∈ lw_tbl := lw_at lw_m6 237 rfl
theorem q1555 : (Jvm.Cond.instanceMethod ({ cls := "FourCarsModel", name := "comesBack", desc := "()V" } : Jvm.MethodName)) ∈ lw_all := lw_g (lw_at lw_m6 238 rfl) rfl
theorem q1556 : (Jvm.Cond.code ({ cls := "FourCarsModel", name := "comesBack", desc := "()V" } : Jvm.MethodName) prog_15_method_70_code (2 : Nat) (Option.none : Option Jvm.ClassFile.FieldType)) ∈ lw_all := lw_g (lw_at lw_m6 239 rfl) rfl
theorem q1558 : (Jvm.Cond.instanceMethod ({ cls := "FourCarsModel", name := "better", desc := "(II)I" } : Jvm.MethodName)) ∈ lw_all := lw_g (lw_at lw_m7 1 rfl) rfl
theorem q1559 : (Jvm.Cond.selects "FourCarsModel" ({ cls := "FourCarsModel", name := "better", desc := "(II)I" } : Jvm.MethodName) ({ cls := "FourCarsModel", name := "better", desc := "(II)I" } : Jvm.MethodName)) ∈ lw_all := lw_g (lw_at lw_m7 2 rfl) rfl
theorem q1560 : (Jvm.Cond.code ({ cls := "FourCarsModel", name := "better", desc := "(II)I" } : Jvm.MethodName) prog_15_method_75_code (5 : Nat) (Option.some Jvm.ClassFile.FieldType.int)) ∈ lw_all := lw_g (lw_at lw_m7 3 rfl) rfl
theorem q1561 : (Jvm.Cond.methodLink "FourCarsModel" (362 : Nat) ({ cls := "FourCarsModel", name := "thought", desc := "(II)I" } : Jvm.MethodName)) ∈ lw_all := lw_g (lw_at lw_m7 4 rfl) rfl
theorem q1563 : (Jvm.Cond.instanceMethod ({ cls := "FourCarsModel", name := "best", desc := "(I)I" } : Jvm.MethodName)) ∈ lw_all := lw_g (lw_at lw_m7 6 rfl) rfl
theorem q1564 : (Jvm.Cond.selects "FourCarsModel" ({ cls := "FourCarsModel", name := "best", desc := "(I)I" } : Jvm.MethodName) ({ cls := "FourCarsModel", name := "best", desc := "(I)I" } : Jvm.MethodName)) ∈ lw_all := lw_g (lw_at lw_m7 7 rfl) rfl
theorem q1565 : (Jvm.Cond.code ({ cls := "FourCarsModel", name := "best", desc := "(I)I" } : Jvm.MethodName) prog_15_method_78_code (2 : Nat) (Option.some Jvm.ClassFile.FieldType.int)) ∈ lw_all := lw_g (lw_at lw_m7 8 rfl) rfl
theorem q1566 : (Jvm.Cond.methodLink "FourCarsModel" (371 : Nat) ({ cls := "FourCarsModel", name := "canGive", desc := "()Z" } : Jvm.MethodName)) ∈ lw_all := lw_g (lw_at lw_m7 9 rfl) rfl
theorem q1567 : (Jvm.Cond.privateMethod ({ cls := "FourCarsModel", name := "canGive", desc := "()Z" } : Jvm.MethodName)) ∈ lw_tbl := lw_at lw_m7 10 rfl
theorem q1568 : (Jvm.Cond.instanceMethod ({ cls := "FourCarsModel", name := "canGive", desc := "()Z" } : Jvm.MethodName)) ∈ lw_all := lw_g (lw_at lw_m7 11 rfl) rfl
theorem q1569 : (Jvm.Cond.code ({ cls := "FourCarsModel", name := "canGive", desc := "()Z" } : Jvm.MethodName) prog_15_method_77_code (2 : Nat) (Option.some Jvm.ClassFile.FieldType.boolean)) ∈ lw_all := lw_g (lw_at lw_m7 12 rfl) rfl
theorem q1570 : (Jvm.Cond.methodLink "FourCarsModel" (365 : Nat) ({ cls := "FourCarsModel", name := "triesGiving", desc := "(I)V" } : Jvm.MethodName)) ∈ lw_all := lw_g (lw_at lw_m7 13 rfl) rfl
theorem q1571 : (Jvm.Cond.privateMethod ({ cls := "FourCarsModel", name := "triesGiving", desc := "(I)V" } : Jvm.MethodName)) ∈ lw_tbl := lw_at lw_m7 14 rfl
theorem q1572 : (Jvm.Cond.instanceMethod ({ cls := "FourCarsModel", name := "triesGiving", desc := "(I)V" } : Jvm.MethodName)) ∈ lw_all := lw_g (lw_at lw_m7 15 rfl) rfl
theorem q1573 : (Jvm.Cond.code ({ cls := "FourCarsModel", name := "triesGiving", desc := "(I)V" } : Jvm.MethodName) prog_15_method_76_code (5 : Nat) (Option.none : Option Jvm.ClassFile.FieldType)) ∈ lw_all := lw_g (lw_at lw_m7 16 rfl) rfl
theorem q1575 : (Jvm.Cond.instanceMethod ({ cls := "FourCarsModel", name := "mornings", desc := "(IIII)I" } : Jvm.MethodName)) ∈ lw_all := lw_g (lw_at lw_m7 18 rfl) rfl
theorem q1576 : (Jvm.Cond.selects "FourCarsModel" ({ cls := "FourCarsModel", name := "mornings", desc := "(IIII)I" } : Jvm.MethodName) ({ cls := "FourCarsModel", name := "mornings", desc := "(IIII)I" } : Jvm.MethodName)) ∈ lw_all := lw_g (lw_at lw_m7 19 rfl) rfl
theorem q1577 : (Jvm.Cond.code ({ cls := "FourCarsModel", name := "mornings", desc := "(IIII)I" } : Jvm.MethodName) prog_15_method_81_code (9 : Nat) (Option.some Jvm.ClassFile.FieldType.int)) ∈ lw_all := lw_g (lw_at lw_m7 20 rfl) rfl
theorem q1578 : (Jvm.Cond.methodLink "FourCarsModel" (378 : Nat) ({ cls := "FourCarsModel", name := "overOf", desc := "(IIII)I" } : Jvm.MethodName)) ∈ lw_all := lw_g (lw_at lw_m7 21 rfl) rfl
theorem q1579 : (Jvm.Cond.privateMethod ({ cls := "FourCarsModel", name := "overOf", desc := "(IIII)I" } : Jvm.MethodName)) ∈ lw_tbl := lw_at lw_m7 22 rfl
theorem q1580 : (Jvm.Cond.instanceMethod ({ cls := "FourCarsModel", name := "overOf", desc := "(IIII)I" } : Jvm.MethodName)) ∈ lw_all := lw_g (lw_at lw_m7 23 rfl) rfl
theorem q1581 : (Jvm.Cond.code ({ cls := "FourCarsModel", name := "overOf", desc := "(IIII)I" } : Jvm.MethodName) prog_15_method_80_code (6 : Nat) (Option.some Jvm.ClassFile.FieldType.int)) ∈ lw_all := lw_g (lw_at lw_m7 24 rfl) rfl
theorem q1582 : (Jvm.Cond.methodLink "FourCarsModel" (374 : Nat) ({ cls := "FourCarsModel", name := "laysCall", desc := "(I)V" } : Jvm.MethodName)) ∈ lw_all := lw_g (lw_at lw_m7 25 rfl) rfl
theorem q1583 : (Jvm.Cond.privateMethod ({ cls := "FourCarsModel", name := "laysCall", desc := "(I)V" } : Jvm.MethodName)) ∈ lw_tbl := lw_at lw_m7 26 rfl
theorem q1584 : (Jvm.Cond.instanceMethod ({ cls := "FourCarsModel", name := "laysCall", desc := "(I)V" } : Jvm.MethodName)) ∈ lw_all := lw_g (lw_at lw_m7 27 rfl) rfl
theorem q1585 : (Jvm.Cond.code ({ cls := "FourCarsModel", name := "laysCall", desc := "(I)V" } : Jvm.MethodName) prog_15_method_79_code (5 : Nat) (Option.none : Option Jvm.ClassFile.FieldType)) ∈ lw_all := lw_g (lw_at lw_m7 28 rfl) rfl
theorem q1586 : (Jvm.Cond.constant "FourCarsModel" (377 : Nat) (999999 : Int32)) ∈ lw_all := lw_g (lw_at lw_m7 29 rfl) rfl
theorem q1588 : (Jvm.Cond.instanceMethod ({ cls := "FourCarsModel", name := "fun", desc := "(II)I" } : Jvm.MethodName)) ∈ lw_all := lw_g (lw_at lw_m7 31 rfl) rfl
theorem q1589 : (Jvm.Cond.selects "FourCarsModel" ({ cls := "FourCarsModel", name := "fun", desc := "(II)I" } : Jvm.MethodName) ({ cls := "FourCarsModel", name := "fun", desc := "(II)I" } : Jvm.MethodName)) ∈ lw_all := lw_g (lw_at lw_m7 32 rfl) rfl
theorem q1590 : (Jvm.Cond.code ({ cls := "FourCarsModel", name := "fun", desc := "(II)I" } : Jvm.MethodName) prog_15_method_82_code (6 : Nat) (Option.some Jvm.ClassFile.FieldType.int)) ∈ lw_all := lw_g (lw_at lw_m7 33 rfl) rfl
theorem q1591 : (Jvm.Cond.constant "FourCarsModel" (382 : Nat) (-100000 : Int32)) ∈ lw_all := lw_g (lw_at lw_m7 34 rfl) rfl
theorem q1593 : (Jvm.Cond.instanceMethod ({ cls := "FourCarsModel", name := "places", desc := "(II)I" } : Jvm.MethodName)) ∈ lw_all := lw_g (lw_at lw_m7 36 rfl) rfl
theorem q1594 : (Jvm.Cond.selects "FourCarsModel" ({ cls := "FourCarsModel", name := "places", desc := "(II)I" } : Jvm.MethodName) ({ cls := "FourCarsModel", name := "places", desc := "(II)I" } : Jvm.MethodName)) ∈ lw_all := lw_g (lw_at lw_m7 37 rfl) rfl
theorem q1595 : (Jvm.Cond.code ({ cls := "FourCarsModel", name := "places", desc := "(II)I" } : Jvm.MethodName) prog_15_method_87_code (7 : Nat) (Option.some Jvm.ClassFile.FieldType.int)) ∈ lw_all := lw_g (lw_at lw_m7 38 rfl) rfl
theorem q1596 : (Jvm.Cond.methodLink "FourCarsModel" (389 : Nat) ({ cls := "FourCarsModel", name := "laysAbove", desc := "(I)V" } : Jvm.MethodName)) ∈ lw_all := lw_g (lw_at lw_m7 39 rfl) rfl
theorem q1597 : (Jvm.Cond.privateMethod ({ cls := "FourCarsModel", name := "laysAbove", desc := "(I)V" } : Jvm.MethodName)) ∈ lw_tbl := lw_at lw_m7 40 rfl
theorem q1598 : (Jvm.Cond.instanceMethod ({ cls := "FourCarsModel", name := "laysAbove", desc := "(I)V" } : Jvm.MethodName)) ∈ lw_all := lw_g (lw_at lw_m7 41 rfl) rfl
theorem q1599 : (Jvm.Cond.code ({ cls := "FourCarsModel", name := "laysAbove", desc := "(I)V" } : Jvm.MethodName) prog_15_method_86_code (8 : Nat) (Option.none : Option Jvm.ClassFile.FieldType)) ∈ lw_all := lw_g (lw_at lw_m7 42 rfl) rfl
theorem q1600 : (Jvm.Cond.methodLink "FourCarsModel" (386 : Nat) ({ cls := "FourCarsModel", name := "between", desc := "(II)I" } : Jvm.MethodName)) ∈ lw_all := lw_g (lw_at lw_m7 43 rfl) rfl
theorem q1601 : (Jvm.Cond.privateMethod ({ cls := "FourCarsModel", name := "between", desc := "(II)I" } : Jvm.MethodName)) ∈ lw_tbl := lw_at lw_m7 44 rfl
theorem q1602 : (Jvm.Cond.instanceMethod ({ cls := "FourCarsModel", name := "between", desc := "(II)I" } : Jvm.MethodName)) ∈ lw_all := lw_g (lw_at lw_m7 45 rfl) rfl
theorem q1603 : (Jvm.Cond.code ({ cls := "FourCarsModel", name := "between", desc := "(II)I" } : Jvm.MethodName) prog_15_method_84_code (5 : Nat) (Option.some Jvm.ClassFile.FieldType.int)) ∈ lw_all := lw_g (lw_at lw_m7 46 rfl) rfl
theorem q1604 : (Jvm.Cond.methodLink "FourCarsModel" (383 : Nat) ({ cls := "FourCarsModel", name := "weight", desc := "(I)I" } : Jvm.MethodName)) ∈ lw_all := lw_g (lw_at lw_m7 47 rfl) rfl
theorem q1605 : (Jvm.Cond.privateMethod ({ cls := "FourCarsModel", name := "weight", desc := "(I)I" } : Jvm.MethodName)) ∈ lw_tbl := lw_at lw_m7 48 rfl
theorem q1606 : (Jvm.Cond.instanceMethod ({ cls := "FourCarsModel", name := "weight", desc := "(I)I" } : Jvm.MethodName)) ∈ lw_all := lw_g (lw_at lw_m7 49 rfl) rfl
theorem q1607 : (Jvm.Cond.code ({ cls := "FourCarsModel", name := "weight", desc := "(I)I" } : Jvm.MethodName) prog_15_method_83_code (2 : Nat) (Option.some Jvm.ClassFile.FieldType.int)) ∈ lw_all := lw_g (lw_at lw_m7 50 rfl) rfl
theorem q1608 : (Jvm.Cond.methodLink "FourCarsModel" (392 : Nat) ({ cls := "FourCarsModel", name := "below", desc := "(I)I" } : Jvm.MethodName)) ∈ lw_all := lw_g (lw_at lw_m7 51 rfl) rfl
theorem q1609 : (Jvm.Cond.privateMethod ({ cls := "FourCarsModel", name := "below", desc := "(I)I" } : Jvm.MethodName)) ∈ lw_tbl := lw_at lw_m7 52 rfl
theorem q1610 : (Jvm.Cond.instanceMethod ({ cls := "FourCarsModel", name := "below", desc := "(I)I" } : Jvm.MethodName)) ∈ lw_all := lw_g (lw_at lw_m7 53 rfl) rfl
theorem q1611 : (Jvm.Cond.code ({ cls := "FourCarsModel", name := "below", desc := "(I)I" } : Jvm.MethodName) prog_15_method_85_code (4 : Nat) (Option.some Jvm.ClassFile.FieldType.int)) ∈ lw_all := lw_g (lw_at lw_m7 54 rfl) rfl
theorem q1613 : (Jvm.Cond.instanceMethod ({ cls := "FourCarsModel", name := "zones", desc := "(II)I" } : Jvm.MethodName)) ∈ lw_all := lw_g (lw_at lw_m7 56 rfl) rfl
theorem q1614 : (Jvm.Cond.selects "FourCarsModel" ({ cls := "FourCarsModel", name := "zones", desc := "(II)I" } : Jvm.MethodName) ({ cls := "FourCarsModel", name := "zones", desc := "(II)I" } : Jvm.MethodName)) ∈ lw_all := lw_g (lw_at lw_m7 57 rfl) rfl
theorem q1615 : (Jvm.Cond.code ({ cls := "FourCarsModel", name := "zones", desc := "(II)I" } : Jvm.MethodName) prog_15_method_90_code (3 : Nat) (Option.some Jvm.ClassFile.FieldType.int)) ∈ lw_all := lw_g (lw_at lw_m7 58 rfl) rfl
theorem q1616 : (Jvm.Cond.methodLink "FourCarsModel" (401 : Nat) ({ cls := "FourCarsModel", name := "triesCuts", desc := "(IIII)V" } : Jvm.MethodName)) ∈ lw_all := lw_g (lw_at lw_m7 59 rfl) rfl
theorem q1617 : (Jvm.Cond.privateMethod ({ cls := "FourCarsModel", name := "triesCuts", desc := "(IIII)V" } : Jvm.MethodName)) ∈ lw_tbl := lw_at lw_m7 60 rfl
theorem q1618 : (Jvm.Cond.instanceMethod ({ cls := "FourCarsModel", name := "triesCuts", desc := "(IIII)V" } : Jvm.MethodName)) ∈ lw_all := lw_g (lw_at lw_m7 61 rfl) rfl
theorem q1619 : (Jvm.Cond.code ({ cls := "FourCarsModel", name := "triesCuts", desc := "(IIII)V" } : Jvm.MethodName) prog_15_method_89_code (7 : Nat) (Option.none : Option Jvm.ClassFile.FieldType)) ∈ lw_all := lw_g (lw_at lw_m7 62 rfl) rfl
theorem q1620 : (Jvm.Cond.methodLink "FourCarsModel" (398 : Nat) ({ cls := "FourCarsModel", name := "zone", desc := "(II)I" } : Jvm.MethodName)) ∈ lw_all := lw_g (lw_at lw_m7 63 rfl) rfl
theorem q1621 : (Jvm.Cond.privateMethod ({ cls := "FourCarsModel", name := "zone", desc := "(II)I" } : Jvm.MethodName)) ∈ lw_tbl := lw_at lw_m7 64 rfl
theorem q1622 : (Jvm.Cond.instanceMethod ({ cls := "FourCarsModel", name := "zone", desc := "(II)I" } : Jvm.MethodName)) ∈ lw_all := lw_g (lw_at lw_m7 65 rfl) rfl
theorem q1623 : (Jvm.Cond.code ({ cls := "FourCarsModel", name := "zone", desc := "(II)I" } : Jvm.MethodName) prog_15_method_88_code (5 : Nat) (Option.some Jvm.ClassFile.FieldType.int)) ∈ lw_all := lw_g (lw_at lw_m7 66 rfl) rfl
theorem q1625 : (Jvm.Cond.instanceMethod ({ cls := "FourCarsModel", name := "image", desc := "(Z)Z" } : Jvm.MethodName)) ∈ lw_all := lw_g (lw_at lw_m7 68 rfl) rfl
theorem q1626 : (Jvm.Cond.selects "FourCarsModel" ({ cls := "FourCarsModel", name := "image", desc := "(Z)Z" } : Jvm.MethodName) ({ cls := "FourCarsModel", name := "image", desc := "(Z)Z" } : Jvm.MethodName)) ∈ lw_all := lw_g (lw_at lw_m7 69 rfl) rfl
theorem q1627 : (Jvm.Cond.code ({ cls := "FourCarsModel", name := "image", desc := "(Z)Z" } : Jvm.MethodName) prog_15_method_91_code (3 : Nat) (Option.some Jvm.ClassFile.FieldType.boolean)) ∈ lw_all := lw_g (lw_at lw_m7 70 rfl) rfl
theorem q1629 : (Jvm.Cond.instanceMethod ({ cls := "FourCarsModel", name := "look", desc := "(I)I" } : Jvm.MethodName)) ∈ lw_all := lw_g (lw_at lw_m7 72 rfl) rfl
theorem q1630 : (Jvm.Cond.selects "FourCarsModel" ({ cls := "FourCarsModel", name := "look", desc := "(I)I" } : Jvm.MethodName) ({ cls := "FourCarsModel", name := "look", desc := "(I)I" } : Jvm.MethodName)) ∈ lw_all := lw_g (lw_at lw_m7 73 rfl) rfl
theorem q1631 : (Jvm.Cond.code ({ cls := "FourCarsModel", name := "look", desc := "(I)I" } : Jvm.MethodName) prog_15_method_93_code (2 : Nat) (Option.some Jvm.ClassFile.FieldType.int)) ∈ lw_all := lw_g (lw_at lw_m7 74 rfl) rfl
theorem q1632 : (Jvm.Cond.methodLink "FourCarsModel" (408 : Nat) ({ cls := "FourCarsModel", name := "inState", desc := "(I)I" } : Jvm.MethodName)) ∈ lw_all := lw_g (lw_at lw_m7 75 rfl) rfl
theorem q1633 : (Jvm.Cond.privateMethod ({ cls := "FourCarsModel", name := "inState", desc := "(I)I" } : Jvm.MethodName)) ∈ lw_tbl := lw_at lw_m7 76 rfl
theorem q1634 : (Jvm.Cond.instanceMethod ({ cls := "FourCarsModel", name := "inState", desc := "(I)I" } : Jvm.MethodName)) ∈ lw_all := lw_g (lw_at lw_m7 77 rfl) rfl
theorem q1635 : (Jvm.Cond.code ({ cls := "FourCarsModel", name := "inState", desc := "(I)I" } : Jvm.MethodName) prog_15_method_92_code (4 : Nat) (Option.some Jvm.ClassFile.FieldType.int)) ∈ lw_all := lw_g (lw_at lw_m7 78 rfl) rfl
theorem in_X6 : ∀ w ∈ wsX60, w ∈ lw_all := lw_in wsX60 [1169, 1171, 1173, 1175, 1177, 1179, 1181, 1183, 1185, 1187, 1189, 1191, 1193, 1195, 1197, 1199, 1201, 1203, 1205, 1207, 1209, 1211, 1213, 1215, 1217, 1219, 1221, 1223, 1225, 1227, 1229, 1231, 1233, 1235, 1237, 1239, 1241, 1243, 1245] (by decide +kernel) (by decide +kernel)
/-! java/lang/String -/
def RJ0 : String := "java/lang/String"
abbrev cJ0_length : ByteArray := prog_21_method_54_code
def yJ0_length : MethodName := ⟨RJ0, "length", "()I"⟩
def dkwJ0_length_0 : List UInt8 := [42, 180, 0, 9, 190, 42, 182, 1, 79, 122, 172]
abbrev dktJ0_length_0 : List UInt8 := dkwJ0_length_0 ++ []
theorem dksJ0_length_0 : cJ0_length.data.toList.drop 0 = dktJ0_length_0 := by decide +kernel
theorem dJ0_length_0 : decode cJ0_length 0 = .ok (.aload_n 0, 1) := dk_42 (dk_at dksJ0_length_0 0 rfl rfl)
theorem dJ0_length_1 : decode cJ0_length 1 = .ok (.getfield 9, 3) := dk_180 0 9 (dk_at dksJ0_length_0 1 rfl rfl)
theorem dJ0_length_4 : decode cJ0_length 4 = .ok (.arraylength, 1) := dk_190 (dk_at dksJ0_length_0 4 rfl rfl)
theorem dJ0_length_5 : decode cJ0_length 5 = .ok (.aload_n 0, 1) := dk_42 (dk_at dksJ0_length_0 5 rfl rfl)
theorem dJ0_length_6 : decode cJ0_length 6 = .ok (.invokevirtual 335, 3) := dk_182 1 79 (dk_at dksJ0_length_0 6 rfl rfl)
theorem dJ0_length_9 : decode cJ0_length 9 = .ok (.ishr, 1) := dk_122 (dk_at dksJ0_length_0 9 rfl rfl)
theorem dJ0_length_10 : decode cJ0_length 10 = .ok (.ireturn, 1) := dk_172 (dk_at dksJ0_length_0 10 rfl rfl)
abbrev cJ0_coder : ByteArray := prog_21_method_152_code
def yJ0_coder : MethodName := ⟨RJ0, "coder", "()B"⟩
def dkwJ0_coder_0 : List UInt8 := [178, 0, 38, 153, 0, 10, 42, 180, 0, 15, 167, 0, 4, 4, 172]
abbrev dktJ0_coder_0 : List UInt8 := dkwJ0_coder_0 ++ []
theorem dksJ0_coder_0 : cJ0_coder.data.toList.drop 0 = dktJ0_coder_0 := by decide +kernel
theorem dJ0_coder_0 : decode cJ0_coder 0 = .ok (.getstatic 38, 3) := dk_178 0 38 (dk_at dksJ0_coder_0 0 rfl rfl)
theorem dJ0_coder_3 : decode cJ0_coder 3 = .ok (.ifCond .eq 10, 3) := dk_153 0 10 (dk_at dksJ0_coder_0 3 rfl rfl)
theorem dJ0_coder_6 : decode cJ0_coder 6 = .ok (.aload_n 0, 1) := dk_42 (dk_at dksJ0_coder_0 6 rfl rfl)
theorem dJ0_coder_7 : decode cJ0_coder 7 = .ok (.getfield 15, 3) := dk_180 0 15 (dk_at dksJ0_coder_0 7 rfl rfl)
theorem dJ0_coder_10 : decode cJ0_coder 10 = .ok (.goto 4, 3) := dk_167 0 4 (dk_at dksJ0_coder_0 10 rfl rfl)
theorem dJ0_coder_13 : decode cJ0_coder 13 = .ok (.iconst 1, 1) := dk_4 (dk_at dksJ0_coder_0 13 rfl rfl)
theorem dJ0_coder_14 : decode cJ0_coder 14 = .ok (.ireturn, 1) := dk_172 (dk_at dksJ0_coder_0 14 rfl rfl)
abbrev cJ0_charAt : ByteArray := prog_21_method_56_code
def yJ0_charAt : MethodName := ⟨RJ0, "charAt", "(I)C"⟩
def dkwJ0_charAt_1 : List UInt8 := [172]
abbrev dktJ0_charAt_1 : List UInt8 := dkwJ0_charAt_1 ++ []
def dkwJ0_charAt_0 : List UInt8 := [42, 182, 1, 236, 153, 0, 12, 42, 180, 0, 9, 27, 184, 1, 239, 172, 42, 180, 0, 9, 27, 184, 1, 242]
abbrev dktJ0_charAt_0 : List UInt8 := dkwJ0_charAt_0 ++ dktJ0_charAt_1
theorem dksJ0_charAt_0 : cJ0_charAt.data.toList.drop 0 = dktJ0_charAt_0 := by decide +kernel
theorem dksJ0_charAt_1 : cJ0_charAt.data.toList.drop 24 = dktJ0_charAt_1 := dk_seg dksJ0_charAt_0 24 rfl rfl
theorem dJ0_charAt_0 : decode cJ0_charAt 0 = .ok (.aload_n 0, 1) := dk_42 (dk_at dksJ0_charAt_0 0 rfl rfl)
theorem dJ0_charAt_1 : decode cJ0_charAt 1 = .ok (.invokevirtual 492, 3) := dk_182 1 236 (dk_at dksJ0_charAt_0 1 rfl rfl)
theorem dJ0_charAt_4 : decode cJ0_charAt 4 = .ok (.ifCond .eq 12, 3) := dk_153 0 12 (dk_at dksJ0_charAt_0 4 rfl rfl)
theorem dJ0_charAt_7 : decode cJ0_charAt 7 = .ok (.aload_n 0, 1) := dk_42 (dk_at dksJ0_charAt_0 7 rfl rfl)
theorem dJ0_charAt_8 : decode cJ0_charAt 8 = .ok (.getfield 9, 3) := dk_180 0 9 (dk_at dksJ0_charAt_0 8 rfl rfl)
theorem dJ0_charAt_11 : decode cJ0_charAt 11 = .ok (.iload_n 1, 1) := dk_27 (dk_at dksJ0_charAt_0 11 rfl rfl)
theorem dJ0_charAt_12 : decode cJ0_charAt 12 = .ok (.invokestatic 495, 3) := dk_184 1 239 (dk_at dksJ0_charAt_0 12 rfl rfl)
theorem dJ0_charAt_15 : decode cJ0_charAt 15 = .ok (.ireturn, 1) := dk_172 (dk_at dksJ0_charAt_0 15 rfl rfl)
theorem dJ0_charAt_16 : decode cJ0_charAt 16 = .ok (.aload_n 0, 1) := dk_42 (dk_at dksJ0_charAt_0 16 rfl rfl)
theorem dJ0_charAt_17 : decode cJ0_charAt 17 = .ok (.getfield 9, 3) := dk_180 0 9 (dk_at dksJ0_charAt_0 17 rfl rfl)
theorem dJ0_charAt_20 : decode cJ0_charAt 20 = .ok (.iload_n 1, 1) := dk_27 (dk_at dksJ0_charAt_0 20 rfl rfl)
theorem dJ0_charAt_21 : decode cJ0_charAt 21 = .ok (.invokestatic 498, 3) := dk_184 1 242 (dk_at dksJ0_charAt_0 21 rfl rfl)
theorem dJ0_charAt_24 : decode cJ0_charAt 24 = .ok (.ireturn, 1) := dk_172 (dk_at dksJ0_charAt_1 0 rfl rfl)
abbrev cJ0_isLatin1 : ByteArray := prog_21_method_154_code
def yJ0_isLatin1 : MethodName := ⟨RJ0, "isLatin1", "()Z"⟩
def dkwJ0_isLatin1_0 : List UInt8 := [178, 0, 38, 153, 0, 14, 42, 180, 0, 15, 154, 0, 7, 4, 167, 0, 4, 3, 172]
abbrev dktJ0_isLatin1_0 : List UInt8 := dkwJ0_isLatin1_0 ++ []
theorem dksJ0_isLatin1_0 : cJ0_isLatin1.data.toList.drop 0 = dktJ0_isLatin1_0 := by decide +kernel
theorem dJ0_isLatin1_0 : decode cJ0_isLatin1 0 = .ok (.getstatic 38, 3) := dk_178 0 38 (dk_at dksJ0_isLatin1_0 0 rfl rfl)
theorem dJ0_isLatin1_3 : decode cJ0_isLatin1 3 = .ok (.ifCond .eq 14, 3) := dk_153 0 14 (dk_at dksJ0_isLatin1_0 3 rfl rfl)
theorem dJ0_isLatin1_6 : decode cJ0_isLatin1 6 = .ok (.aload_n 0, 1) := dk_42 (dk_at dksJ0_isLatin1_0 6 rfl rfl)
theorem dJ0_isLatin1_7 : decode cJ0_isLatin1 7 = .ok (.getfield 15, 3) := dk_180 0 15 (dk_at dksJ0_isLatin1_0 7 rfl rfl)
theorem dJ0_isLatin1_10 : decode cJ0_isLatin1 10 = .ok (.ifCond .ne 7, 3) := dk_154 0 7 (dk_at dksJ0_isLatin1_0 10 rfl rfl)
theorem dJ0_isLatin1_13 : decode cJ0_isLatin1 13 = .ok (.iconst 1, 1) := dk_4 (dk_at dksJ0_isLatin1_0 13 rfl rfl)
theorem dJ0_isLatin1_14 : decode cJ0_isLatin1 14 = .ok (.goto 4, 3) := dk_167 0 4 (dk_at dksJ0_isLatin1_0 14 rfl rfl)
theorem dJ0_isLatin1_17 : decode cJ0_isLatin1 17 = .ok (.iconst 0, 1) := dk_3 (dk_at dksJ0_isLatin1_0 17 rfl rfl)
theorem dJ0_isLatin1_18 : decode cJ0_isLatin1 18 = .ok (.ireturn, 1) := dk_172 (dk_at dksJ0_isLatin1_0 18 rfl rfl)
abbrev cJ0_checkIndex : ByteArray := prog_21_method_155_code
def yJ0_checkIndex : MethodName := ⟨RJ0, "checkIndex", "(II)V"⟩
def dkwJ0_checkIndex_0 : List UInt8 := [26, 27, 178, 4, 29, 184, 4, 35, 87, 177]
abbrev dktJ0_checkIndex_0 : List UInt8 := dkwJ0_checkIndex_0 ++ []
theorem dksJ0_checkIndex_0 : cJ0_checkIndex.data.toList.drop 0 = dktJ0_checkIndex_0 := by decide +kernel
theorem dJ0_checkIndex_0 : decode cJ0_checkIndex 0 = .ok (.iload_n 0, 1) := dk_26 (dk_at dksJ0_checkIndex_0 0 rfl rfl)
theorem dJ0_checkIndex_1 : decode cJ0_checkIndex 1 = .ok (.iload_n 1, 1) := dk_27 (dk_at dksJ0_checkIndex_0 1 rfl rfl)
theorem dJ0_checkIndex_2 : decode cJ0_checkIndex 2 = .ok (.getstatic 1053, 3) := dk_178 4 29 (dk_at dksJ0_checkIndex_0 2 rfl rfl)
theorem dJ0_checkIndex_5 : decode cJ0_checkIndex 5 = .ok (.invokestatic 1059, 3) := dk_184 4 35 (dk_at dksJ0_checkIndex_0 5 rfl rfl)
theorem dJ0_checkIndex_8 : decode cJ0_checkIndex 8 = .ok (.pop, 1) := dk_87 (dk_at dksJ0_checkIndex_0 8 rfl rfl)
theorem dJ0_checkIndex_9 : decode cJ0_checkIndex 9 = .ok (.return_, 1) := dk_177 (dk_at dksJ0_checkIndex_0 9 rfl rfl)
abbrev cJ0_indexOf : ByteArray := prog_21_method_79_code
def yJ0_indexOf : MethodName := ⟨RJ0, "indexOf", "(I)I"⟩
def dkwJ0_indexOf_0 : List UInt8 := [42, 27, 3, 182, 2, 121, 172]
abbrev dktJ0_indexOf_0 : List UInt8 := dkwJ0_indexOf_0 ++ []
theorem dksJ0_indexOf_0 : cJ0_indexOf.data.toList.drop 0 = dktJ0_indexOf_0 := by decide +kernel
theorem dJ0_indexOf_0 : decode cJ0_indexOf 0 = .ok (.aload_n 0, 1) := dk_42 (dk_at dksJ0_indexOf_0 0 rfl rfl)
theorem dJ0_indexOf_1 : decode cJ0_indexOf 1 = .ok (.iload_n 1, 1) := dk_27 (dk_at dksJ0_indexOf_0 1 rfl rfl)
theorem dJ0_indexOf_2 : decode cJ0_indexOf 2 = .ok (.iconst 0, 1) := dk_3 (dk_at dksJ0_indexOf_0 2 rfl rfl)
theorem dJ0_indexOf_3 : decode cJ0_indexOf 3 = .ok (.invokevirtual 633, 3) := dk_182 2 121 (dk_at dksJ0_indexOf_0 3 rfl rfl)
theorem dJ0_indexOf_6 : decode cJ0_indexOf 6 = .ok (.ireturn, 1) := dk_172 (dk_at dksJ0_indexOf_0 6 rfl rfl)
abbrev cJ0_indexOf_2 : ByteArray := prog_21_method_80_code
def yJ0_indexOf_2 : MethodName := ⟨RJ0, "indexOf", "(II)I"⟩
def dkwJ0_indexOf_2_1 : List UInt8 := [180, 0, 9, 27, 28, 42, 182, 1, 249, 184, 2, 128, 172]
abbrev dktJ0_indexOf_2_1 : List UInt8 := dkwJ0_indexOf_2_1 ++ []
def dkwJ0_indexOf_2_0 : List UInt8 := [42, 182, 1, 236, 153, 0, 19, 42, 180, 0, 9, 27, 28, 42, 182, 1, 249, 184, 2, 125, 167, 0, 16, 42]
abbrev dktJ0_indexOf_2_0 : List UInt8 := dkwJ0_indexOf_2_0 ++ dktJ0_indexOf_2_1
theorem dksJ0_indexOf_2_0 : cJ0_indexOf_2.data.toList.drop 0 = dktJ0_indexOf_2_0 := by decide +kernel
theorem dksJ0_indexOf_2_1 : cJ0_indexOf_2.data.toList.drop 24 = dktJ0_indexOf_2_1 := dk_seg dksJ0_indexOf_2_0 24 rfl rfl
theorem dJ0_indexOf_2_0 : decode cJ0_indexOf_2 0 = .ok (.aload_n 0, 1) := dk_42 (dk_at dksJ0_indexOf_2_0 0 rfl rfl)
theorem dJ0_indexOf_2_1 : decode cJ0_indexOf_2 1 = .ok (.invokevirtual 492, 3) := dk_182 1 236 (dk_at dksJ0_indexOf_2_0 1 rfl rfl)
theorem dJ0_indexOf_2_4 : decode cJ0_indexOf_2 4 = .ok (.ifCond .eq 19, 3) := dk_153 0 19 (dk_at dksJ0_indexOf_2_0 4 rfl rfl)
theorem dJ0_indexOf_2_7 : decode cJ0_indexOf_2 7 = .ok (.aload_n 0, 1) := dk_42 (dk_at dksJ0_indexOf_2_0 7 rfl rfl)
theorem dJ0_indexOf_2_8 : decode cJ0_indexOf_2 8 = .ok (.getfield 9, 3) := dk_180 0 9 (dk_at dksJ0_indexOf_2_0 8 rfl rfl)
theorem dJ0_indexOf_2_11 : decode cJ0_indexOf_2 11 = .ok (.iload_n 1, 1) := dk_27 (dk_at dksJ0_indexOf_2_0 11 rfl rfl)
theorem dJ0_indexOf_2_12 : decode cJ0_indexOf_2 12 = .ok (.iload_n 2, 1) := dk_28 (dk_at dksJ0_indexOf_2_0 12 rfl rfl)
theorem dJ0_indexOf_2_13 : decode cJ0_indexOf_2 13 = .ok (.aload_n 0, 1) := dk_42 (dk_at dksJ0_indexOf_2_0 13 rfl rfl)
theorem dJ0_indexOf_2_14 : decode cJ0_indexOf_2 14 = .ok (.invokevirtual 505, 3) := dk_182 1 249 (dk_at dksJ0_indexOf_2_0 14 rfl rfl)
theorem dJ0_indexOf_2_17 : decode cJ0_indexOf_2 17 = .ok (.invokestatic 637, 3) := dk_184 2 125 (dk_at dksJ0_indexOf_2_0 17 rfl rfl)
theorem dJ0_indexOf_2_20 : decode cJ0_indexOf_2 20 = .ok (.goto 16, 3) := dk_167 0 16 (dk_at dksJ0_indexOf_2_0 20 rfl rfl)
theorem dJ0_indexOf_2_23 : decode cJ0_indexOf_2 23 = .ok (.aload_n 0, 1) := dk_42 (dk_at dksJ0_indexOf_2_0 23 rfl rfl)
theorem dJ0_indexOf_2_24 : decode cJ0_indexOf_2 24 = .ok (.getfield 9, 3) := dk_180 0 9 (dk_at dksJ0_indexOf_2_1 0 rfl rfl)
theorem dJ0_indexOf_2_27 : decode cJ0_indexOf_2 27 = .ok (.iload_n 1, 1) := dk_27 (dk_at dksJ0_indexOf_2_1 3 rfl rfl)
theorem dJ0_indexOf_2_28 : decode cJ0_indexOf_2 28 = .ok (.iload_n 2, 1) := dk_28 (dk_at dksJ0_indexOf_2_1 4 rfl rfl)
theorem dJ0_indexOf_2_29 : decode cJ0_indexOf_2 29 = .ok (.aload_n 0, 1) := dk_42 (dk_at dksJ0_indexOf_2_1 5 rfl rfl)
theorem dJ0_indexOf_2_30 : decode cJ0_indexOf_2 30 = .ok (.invokevirtual 505, 3) := dk_182 1 249 (dk_at dksJ0_indexOf_2_1 6 rfl rfl)
theorem dJ0_indexOf_2_33 : decode cJ0_indexOf_2 33 = .ok (.invokestatic 640, 3) := dk_184 2 128 (dk_at dksJ0_indexOf_2_1 9 rfl rfl)
theorem dJ0_indexOf_2_36 : decode cJ0_indexOf_2 36 = .ok (.ireturn, 1) := dk_172 (dk_at dksJ0_indexOf_2_1 12 rfl rfl)
abbrev cJ0_checkBoundsBeginEnd : ByteArray := prog_21_method_158_code
def yJ0_checkBoundsBeginEnd : MethodName := ⟨RJ0, "checkBoundsBeginEnd", "(III)V"⟩
def dkwJ0_checkBoundsBeginEnd_0 : List UInt8 := [26, 27, 28, 178, 4, 29, 184, 4, 38, 87, 177]
abbrev dktJ0_checkBoundsBeginEnd_0 : List UInt8 := dkwJ0_checkBoundsBeginEnd_0 ++ []
theorem dksJ0_checkBoundsBeginEnd_0 : cJ0_checkBoundsBeginEnd.data.toList.drop 0 = dktJ0_checkBoundsBeginEnd_0 := by decide +kernel
theorem dJ0_checkBoundsBeginEnd_0 : decode cJ0_checkBoundsBeginEnd 0 = .ok (.iload_n 0, 1) := dk_26 (dk_at dksJ0_checkBoundsBeginEnd_0 0 rfl rfl)
theorem dJ0_checkBoundsBeginEnd_1 : decode cJ0_checkBoundsBeginEnd 1 = .ok (.iload_n 1, 1) := dk_27 (dk_at dksJ0_checkBoundsBeginEnd_0 1 rfl rfl)
theorem dJ0_checkBoundsBeginEnd_2 : decode cJ0_checkBoundsBeginEnd 2 = .ok (.iload_n 2, 1) := dk_28 (dk_at dksJ0_checkBoundsBeginEnd_0 2 rfl rfl)
theorem dJ0_checkBoundsBeginEnd_3 : decode cJ0_checkBoundsBeginEnd 3 = .ok (.getstatic 1053, 3) := dk_178 4 29 (dk_at dksJ0_checkBoundsBeginEnd_0 3 rfl rfl)
theorem dJ0_checkBoundsBeginEnd_6 : decode cJ0_checkBoundsBeginEnd 6 = .ok (.invokestatic 1062, 3) := dk_184 4 38 (dk_at dksJ0_checkBoundsBeginEnd_0 6 rfl rfl)
theorem dJ0_checkBoundsBeginEnd_9 : decode cJ0_checkBoundsBeginEnd 9 = .ok (.pop, 1) := dk_87 (dk_at dksJ0_checkBoundsBeginEnd_0 9 rfl rfl)
theorem dJ0_checkBoundsBeginEnd_10 : decode cJ0_checkBoundsBeginEnd 10 = .ok (.return_, 1) := dk_177 (dk_at dksJ0_checkBoundsBeginEnd_0 10 rfl rfl)
theorem q127 : (Jvm.Cond.initialized "java/lang/String") ∈ lw_all := lw_g (lw_at lw_m1 10 rfl) rfl
theorem q539 : (Jvm.Cond.instanceMethod ({ cls := "java/lang/String", name := "length", desc := "()I" } : Jvm.MethodName)) ∈ lw_all := lw_g (lw_at lw_m2 182 rfl) rfl
theorem q540 : (Jvm.Cond.selects "java/lang/String" ({ cls := "java/lang/String", name := "length", desc := "()I" } : Jvm.MethodName) ({ cls := "java/lang/String", name := "length", desc := "()I" } : Jvm.MethodName)) ∈ lw_all := lw_g (lw_at lw_m2 183 rfl) rfl
theorem q541 : (Jvm.Cond.code ({ cls := "java/lang/String", name := "length", desc := "()I" } : Jvm.MethodName) prog_21_method_54_code (1 : Nat) (Option.some Jvm.ClassFile.FieldType.int)) ∈ lw_all := lw_g (lw_at lw_m2 184 rfl) rfl
theorem q542 : (Jvm.Cond.methodLink "java/lang/String" (335 : Nat) ({ cls := "java/lang/String", name := "coder", desc := "()B" } : Jvm.MethodName)) ∈ lw_all := lw_g (lw_at lw_m2 185 rfl) rfl
theorem q543 : (Jvm.Cond.instanceMethod ({ cls := "java/lang/String", name := "coder", desc := "()B" } : Jvm.MethodName)) ∈ lw_all := lw_g (lw_at lw_m2 186 rfl) rfl
theorem q544 : (Jvm.Cond.selects "java/lang/String" ({ cls := "java/lang/String", name := "coder", desc := "()B" } : Jvm.MethodName) ({ cls := "java/lang/String", name := "coder", desc := "()B" } : Jvm.MethodName)) ∈ lw_all := lw_g (lw_at lw_m2 187 rfl) rfl
theorem q545 : (Jvm.Cond.code ({ cls := "java/lang/String", name := "coder", desc := "()B" } : Jvm.MethodName) prog_21_method_152_code (1 : Nat) (Option.some Jvm.ClassFile.FieldType.byte)) ∈ lw_all := lw_g (lw_at lw_m2 188 rfl) rfl
theorem q546 : (Jvm.Cond.fieldLink "java/lang/String" (38 : Nat) "java/lang/String" "COMPACT_STRINGS" "Z") ∈ lw_all := lw_g (lw_at lw_m2 189 rfl) rfl
theorem q547 : (Jvm.Cond.laysStatic "java/lang/String" "COMPACT_STRINGS" "Z") ∈ lw_tbl := lw_at lw_m2 190 rfl
theorem q549 : (Jvm.Cond.instanceMethod ({ cls := "java/lang/String", name := "charAt", desc := "(I)C" } : Jvm.MethodName)) ∈ lw_all := lw_g (lw_at lw_m2 192 rfl) rfl
theorem q550 : (Jvm.Cond.selects "java/lang/String" ({ cls := "java/lang/String", name := "charAt", desc := "(I)C" } : Jvm.MethodName) ({ cls := "java/lang/String", name := "charAt", desc := "(I)C" } : Jvm.MethodName)) ∈ lw_all := lw_g (lw_at lw_m2 193 rfl) rfl
theorem q551 : (Jvm.Cond.code ({ cls := "java/lang/String", name := "charAt", desc := "(I)C" } : Jvm.MethodName) prog_21_method_56_code (2 : Nat) (Option.some Jvm.ClassFile.FieldType.char)) ∈ lw_all := lw_g (lw_at lw_m2 194 rfl) rfl
theorem q552 : (Jvm.Cond.methodLink "java/lang/String" (492 : Nat) ({ cls := "java/lang/String", name := "isLatin1", desc := "()Z" } : Jvm.MethodName)) ∈ lw_all := lw_g (lw_at lw_m2 195 rfl) rfl
theorem q553 : (Jvm.Cond.instanceMethod ({ cls := "java/lang/String", name := "isLatin1", desc := "()Z" } : Jvm.MethodName)) ∈ lw_all := lw_g (lw_at lw_m2 196 rfl) rfl
theorem q554 : (Jvm.Cond.selects "java/lang/String" ({ cls := "java/lang/String", name := "isLatin1", desc := "()Z" } : Jvm.MethodName) ({ cls := "java/lang/String", name := "isLatin1", desc := "()Z" } : Jvm.MethodName)) ∈ lw_all := lw_g (lw_at lw_m2 197 rfl) rfl
theorem q555 : (Jvm.Cond.code ({ cls := "java/lang/String", name := "isLatin1", desc := "()Z" } : Jvm.MethodName) prog_21_method_154_code (1 : Nat) (Option.some Jvm.ClassFile.FieldType.boolean)) ∈ lw_all := lw_g (lw_at lw_m2 198 rfl) rfl
theorem q556 : (Jvm.Cond.methodLink "java/lang/String" (495 : Nat) ({ cls := "java/lang/StringLatin1", name := "charAt", desc := "([BI)C" } : Jvm.MethodName)) ∈ lw_all := lw_g (lw_at lw_m2 199 rfl) rfl
theorem q560 : (Jvm.Cond.static ({ cls := "java/lang/String", name := "checkIndex", desc := "(II)V" } : Jvm.MethodName)) ∈ lw_all := lw_g (lw_at lw_m2 203 rfl) rfl
theorem q561 : (Jvm.Cond.code ({ cls := "java/lang/String", name := "checkIndex", desc := "(II)V" } : Jvm.MethodName) prog_21_method_155_code (2 : Nat) (Option.none : Option Jvm.ClassFile.FieldType)) ∈ lw_all := lw_g (lw_at lw_m2 204 rfl) rfl
theorem q562 : (Jvm.Cond.fieldLink "java/lang/String" (1053 : Nat) "jdk/internal/util/Preconditions" "SIOOBE_FORMATTER" "Ljava/util/function/BiFunction;") ∈ lw_all := lw_g (lw_at lw_m2 205 rfl) rfl
theorem q564 : (Jvm.Cond.methodLink "java/lang/String" (1059 : Nat) ({ cls := "jdk/internal/util/Preconditions", name := "checkIndex", desc := "(IILjava/util/function/BiFunction;)I" } : Jvm.MethodName)) ∈ lw_all := lw_g (lw_at lw_m2 207 rfl) rfl
theorem q567 : (Jvm.Cond.methodLink "java/lang/String" (498 : Nat) ({ cls := "java/lang/StringUTF16", name := "charAt", desc := "([BI)C" } : Jvm.MethodName)) ∈ lw_all := lw_g (lw_at lw_m2 210 rfl) rfl
theorem q597 : (Jvm.Cond.instanceMethod ({ cls := "java/lang/String", name := "indexOf", desc := "(I)I" } : Jvm.MethodName)) ∈ lw_all := lw_g (lw_at lw_m3 0 rfl) rfl
theorem q598 : (Jvm.Cond.selects "java/lang/String" ({ cls := "java/lang/String", name := "indexOf", desc := "(I)I" } : Jvm.MethodName) ({ cls := "java/lang/String", name := "indexOf", desc := "(I)I" } : Jvm.MethodName)) ∈ lw_all := lw_g (lw_at lw_m3 1 rfl) rfl
theorem q599 : (Jvm.Cond.code ({ cls := "java/lang/String", name := "indexOf", desc := "(I)I" } : Jvm.MethodName) prog_21_method_79_code (2 : Nat) (Option.some Jvm.ClassFile.FieldType.int)) ∈ lw_all := lw_g (lw_at lw_m3 2 rfl) rfl
theorem q600 : (Jvm.Cond.methodLink "java/lang/String" (633 : Nat) ({ cls := "java/lang/String", name := "indexOf", desc := "(II)I" } : Jvm.MethodName)) ∈ lw_all := lw_g (lw_at lw_m3 3 rfl) rfl
theorem q601 : (Jvm.Cond.instanceMethod ({ cls := "java/lang/String", name := "indexOf", desc := "(II)I" } : Jvm.MethodName)) ∈ lw_all := lw_g (lw_at lw_m3 4 rfl) rfl
theorem q602 : (Jvm.Cond.selects "java/lang/String" ({ cls := "java/lang/String", name := "indexOf", desc := "(II)I" } : Jvm.MethodName) ({ cls := "java/lang/String", name := "indexOf", desc := "(II)I" } : Jvm.MethodName)) ∈ lw_all := lw_g (lw_at lw_m3 5 rfl) rfl
theorem q603 : (Jvm.Cond.code ({ cls := "java/lang/String", name := "indexOf", desc := "(II)I" } : Jvm.MethodName) prog_21_method_80_code (3 : Nat) (Option.some Jvm.ClassFile.FieldType.int)) ∈ lw_all := lw_g (lw_at lw_m3 6 rfl) rfl
theorem q604 : (Jvm.Cond.methodLink "java/lang/String" (505 : Nat) ({ cls := "java/lang/String", name := "length", desc := "()I" } : Jvm.MethodName)) ∈ lw_all := lw_g (lw_at lw_m3 7 rfl) rfl
theorem q605 : (Jvm.Cond.methodLink "java/lang/String" (637 : Nat) ({ cls := "java/lang/StringLatin1", name := "indexOf", desc := "([BIII)I" } : Jvm.MethodName)) ∈ lw_all := lw_g (lw_at lw_m3 8 rfl) rfl
theorem q618 : (Jvm.Cond.methodLink "java/lang/String" (640 : Nat) ({ cls := "java/lang/StringUTF16", name := "indexOf", desc := "([BIII)I" } : Jvm.MethodName)) ∈ lw_all := lw_g (lw_at lw_m3 21 rfl) rfl
theorem q631 : (Jvm.Cond.static ({ cls := "java/lang/String", name := "checkBoundsBeginEnd", desc := "(III)V" } : Jvm.MethodName)) ∈ lw_all := lw_g (lw_at lw_m3 34 rfl) rfl
theorem q632 : (Jvm.Cond.code ({ cls := "java/lang/String", name := "checkBoundsBeginEnd", desc := "(III)V" } : Jvm.MethodName) prog_21_method_158_code (3 : Nat) (Option.none : Option Jvm.ClassFile.FieldType)) ∈ lw_all := lw_g (lw_at lw_m3 35 rfl) rfl
theorem q633 : (Jvm.Cond.methodLink "java/lang/String" (1062 : Nat) ({ cls := "jdk/internal/util/Preconditions", name := "checkFromToIndex", desc := "(IIILjava/util/function/BiFunction;)I" } : Jvm.MethodName)) ∈ lw_all := lw_g (lw_at lw_m3 36 rfl) rfl
theorem q1641 : (Jvm.Cond.fieldLink "java/lang/String" (9 : Nat) "java/lang/String" "value" "[B") ∈ lw_all := lw_g (lw_at lw_m7 84 rfl) rfl
theorem q1642 : (Jvm.Cond.fieldLink "java/lang/String" (15 : Nat) "java/lang/String" "coder" "B") ∈ lw_all := lw_g (lw_at lw_m7 85 rfl) rfl
/-! java/lang/StringLatin1 -/
def RJ1 : String := "java/lang/StringLatin1"
abbrev cJ1_charAt : ByteArray := prog_22_method_2_code
def yJ1_charAt : MethodName := ⟨RJ1, "charAt", "([BI)C"⟩
def dkwJ1_charAt_0 : List UInt8 := [27, 42, 190, 184, 0, 9, 42, 27, 51, 17, 0, 255, 126, 146, 172]
abbrev dktJ1_charAt_0 : List UInt8 := dkwJ1_charAt_0 ++ []
theorem dksJ1_charAt_0 : cJ1_charAt.data.toList.drop 0 = dktJ1_charAt_0 := by decide +kernel
theorem dJ1_charAt_0 : decode cJ1_charAt 0 = .ok (.iload_n 1, 1) := dk_27 (dk_at dksJ1_charAt_0 0 rfl rfl)
theorem dJ1_charAt_1 : decode cJ1_charAt 1 = .ok (.aload_n 0, 1) := dk_42 (dk_at dksJ1_charAt_0 1 rfl rfl)
theorem dJ1_charAt_2 : decode cJ1_charAt 2 = .ok (.arraylength, 1) := dk_190 (dk_at dksJ1_charAt_0 2 rfl rfl)
theorem dJ1_charAt_3 : decode cJ1_charAt 3 = .ok (.invokestatic 9, 3) := dk_184 0 9 (dk_at dksJ1_charAt_0 3 rfl rfl)
theorem dJ1_charAt_6 : decode cJ1_charAt 6 = .ok (.aload_n 0, 1) := dk_42 (dk_at dksJ1_charAt_0 6 rfl rfl)
theorem dJ1_charAt_7 : decode cJ1_charAt 7 = .ok (.iload_n 1, 1) := dk_27 (dk_at dksJ1_charAt_0 7 rfl rfl)
theorem dJ1_charAt_8 : decode cJ1_charAt 8 = .ok (.baload, 1) := dk_51 (dk_at dksJ1_charAt_0 8 rfl rfl)
theorem dJ1_charAt_9 : decode cJ1_charAt 9 = .ok (.sipush 255, 3) := dk_17 0 255 (dk_at dksJ1_charAt_0 9 rfl rfl)
theorem dJ1_charAt_12 : decode cJ1_charAt 12 = .ok (.iand, 1) := dk_126 (dk_at dksJ1_charAt_0 12 rfl rfl)
theorem dJ1_charAt_13 : decode cJ1_charAt 13 = .ok (.i2c, 1) := dk_146 (dk_at dksJ1_charAt_0 13 rfl rfl)
theorem dJ1_charAt_14 : decode cJ1_charAt 14 = .ok (.ireturn, 1) := dk_172 (dk_at dksJ1_charAt_0 14 rfl rfl)
abbrev cJ1_indexOf : ByteArray := prog_22_method_22_code
def yJ1_indexOf : MethodName := ⟨RJ1, "indexOf", "([BIII)I"⟩
def dkwJ1_indexOf_1 : List UInt8 := [161, 0, 5, 2, 172, 42, 27, 28, 29, 184, 0, 95, 172]
abbrev dktJ1_indexOf_1 : List UInt8 := dkwJ1_indexOf_1 ++ []
def dkwJ1_indexOf_0 : List UInt8 := [27, 184, 0, 88, 154, 0, 5, 2, 172, 28, 3, 184, 0, 92, 61, 29, 42, 190, 184, 0, 38, 62, 28, 29]
abbrev dktJ1_indexOf_0 : List UInt8 := dkwJ1_indexOf_0 ++ dktJ1_indexOf_1
theorem dksJ1_indexOf_0 : cJ1_indexOf.data.toList.drop 0 = dktJ1_indexOf_0 := by decide +kernel
theorem dksJ1_indexOf_1 : cJ1_indexOf.data.toList.drop 24 = dktJ1_indexOf_1 := dk_seg dksJ1_indexOf_0 24 rfl rfl
theorem dJ1_indexOf_0 : decode cJ1_indexOf 0 = .ok (.iload_n 1, 1) := dk_27 (dk_at dksJ1_indexOf_0 0 rfl rfl)
theorem dJ1_indexOf_1 : decode cJ1_indexOf 1 = .ok (.invokestatic 88, 3) := dk_184 0 88 (dk_at dksJ1_indexOf_0 1 rfl rfl)
theorem dJ1_indexOf_4 : decode cJ1_indexOf 4 = .ok (.ifCond .ne 5, 3) := dk_154 0 5 (dk_at dksJ1_indexOf_0 4 rfl rfl)
theorem dJ1_indexOf_7 : decode cJ1_indexOf 7 = .ok (.iconst (-1), 1) := dk_2 (dk_at dksJ1_indexOf_0 7 rfl rfl)
theorem dJ1_indexOf_8 : decode cJ1_indexOf 8 = .ok (.ireturn, 1) := dk_172 (dk_at dksJ1_indexOf_0 8 rfl rfl)
theorem dJ1_indexOf_9 : decode cJ1_indexOf 9 = .ok (.iload_n 2, 1) := dk_28 (dk_at dksJ1_indexOf_0 9 rfl rfl)
theorem dJ1_indexOf_10 : decode cJ1_indexOf 10 = .ok (.iconst 0, 1) := dk_3 (dk_at dksJ1_indexOf_0 10 rfl rfl)
theorem dJ1_indexOf_11 : decode cJ1_indexOf 11 = .ok (.invokestatic 92, 3) := dk_184 0 92 (dk_at dksJ1_indexOf_0 11 rfl rfl)
theorem dJ1_indexOf_14 : decode cJ1_indexOf 14 = .ok (.istore_n 2, 1) := dk_61 (dk_at dksJ1_indexOf_0 14 rfl rfl)
theorem dJ1_indexOf_15 : decode cJ1_indexOf 15 = .ok (.iload_n 3, 1) := dk_29 (dk_at dksJ1_indexOf_0 15 rfl rfl)
theorem dJ1_indexOf_16 : decode cJ1_indexOf 16 = .ok (.aload_n 0, 1) := dk_42 (dk_at dksJ1_indexOf_0 16 rfl rfl)
theorem dJ1_indexOf_17 : decode cJ1_indexOf 17 = .ok (.arraylength, 1) := dk_190 (dk_at dksJ1_indexOf_0 17 rfl rfl)
theorem dJ1_indexOf_18 : decode cJ1_indexOf 18 = .ok (.invokestatic 38, 3) := dk_184 0 38 (dk_at dksJ1_indexOf_0 18 rfl rfl)
theorem dJ1_indexOf_21 : decode cJ1_indexOf 21 = .ok (.istore_n 3, 1) := dk_62 (dk_at dksJ1_indexOf_0 21 rfl rfl)
theorem dJ1_indexOf_22 : decode cJ1_indexOf 22 = .ok (.iload_n 2, 1) := dk_28 (dk_at dksJ1_indexOf_0 22 rfl rfl)
theorem dJ1_indexOf_23 : decode cJ1_indexOf 23 = .ok (.iload_n 3, 1) := dk_29 (dk_at dksJ1_indexOf_0 23 rfl rfl)
theorem dJ1_indexOf_24 : decode cJ1_indexOf 24 = .ok (.if_icmp .lt 5, 3) := dk_161 0 5 (dk_at dksJ1_indexOf_1 0 rfl rfl)
theorem dJ1_indexOf_27 : decode cJ1_indexOf 27 = .ok (.iconst (-1), 1) := dk_2 (dk_at dksJ1_indexOf_1 3 rfl rfl)
theorem dJ1_indexOf_28 : decode cJ1_indexOf 28 = .ok (.ireturn, 1) := dk_172 (dk_at dksJ1_indexOf_1 4 rfl rfl)
theorem dJ1_indexOf_29 : decode cJ1_indexOf 29 = .ok (.aload_n 0, 1) := dk_42 (dk_at dksJ1_indexOf_1 5 rfl rfl)
theorem dJ1_indexOf_30 : decode cJ1_indexOf 30 = .ok (.iload_n 1, 1) := dk_27 (dk_at dksJ1_indexOf_1 6 rfl rfl)
theorem dJ1_indexOf_31 : decode cJ1_indexOf 31 = .ok (.iload_n 2, 1) := dk_28 (dk_at dksJ1_indexOf_1 7 rfl rfl)
theorem dJ1_indexOf_32 : decode cJ1_indexOf 32 = .ok (.iload_n 3, 1) := dk_29 (dk_at dksJ1_indexOf_1 8 rfl rfl)
theorem dJ1_indexOf_33 : decode cJ1_indexOf 33 = .ok (.invokestatic 95, 3) := dk_184 0 95 (dk_at dksJ1_indexOf_1 9 rfl rfl)
theorem dJ1_indexOf_36 : decode cJ1_indexOf 36 = .ok (.ireturn, 1) := dk_172 (dk_at dksJ1_indexOf_1 12 rfl rfl)
abbrev cJ1_canEncode : ByteArray := prog_22_method_4_code
def yJ1_canEncode : MethodName := ⟨RJ1, "canEncode", "(I)Z"⟩
def dkwJ1_canEncode_0 : List UInt8 := [26, 155, 0, 14, 26, 17, 0, 255, 163, 0, 7, 4, 167, 0, 4, 3, 172]
abbrev dktJ1_canEncode_0 : List UInt8 := dkwJ1_canEncode_0 ++ []
theorem dksJ1_canEncode_0 : cJ1_canEncode.data.toList.drop 0 = dktJ1_canEncode_0 := by decide +kernel
theorem dJ1_canEncode_0 : decode cJ1_canEncode 0 = .ok (.iload_n 0, 1) := dk_26 (dk_at dksJ1_canEncode_0 0 rfl rfl)
theorem dJ1_canEncode_1 : decode cJ1_canEncode 1 = .ok (.ifCond .lt 14, 3) := dk_155 0 14 (dk_at dksJ1_canEncode_0 1 rfl rfl)
theorem dJ1_canEncode_4 : decode cJ1_canEncode 4 = .ok (.iload_n 0, 1) := dk_26 (dk_at dksJ1_canEncode_0 4 rfl rfl)
theorem dJ1_canEncode_5 : decode cJ1_canEncode 5 = .ok (.sipush 255, 3) := dk_17 0 255 (dk_at dksJ1_canEncode_0 5 rfl rfl)
theorem dJ1_canEncode_8 : decode cJ1_canEncode 8 = .ok (.if_icmp .gt 7, 3) := dk_163 0 7 (dk_at dksJ1_canEncode_0 8 rfl rfl)
theorem dJ1_canEncode_11 : decode cJ1_canEncode 11 = .ok (.iconst 1, 1) := dk_4 (dk_at dksJ1_canEncode_0 11 rfl rfl)
theorem dJ1_canEncode_12 : decode cJ1_canEncode 12 = .ok (.goto 4, 3) := dk_167 0 4 (dk_at dksJ1_canEncode_0 12 rfl rfl)
theorem dJ1_canEncode_15 : decode cJ1_canEncode 15 = .ok (.iconst 0, 1) := dk_3 (dk_at dksJ1_canEncode_0 15 rfl rfl)
theorem dJ1_canEncode_16 : decode cJ1_canEncode 16 = .ok (.ireturn, 1) := dk_172 (dk_at dksJ1_canEncode_0 16 rfl rfl)
abbrev cJ1_indexOfChar : ByteArray := prog_22_method_23_code
def yJ1_indexOfChar : MethodName := ⟨RJ1, "indexOfChar", "([BIII)I"⟩
def dkwJ1_indexOfChar_1 : List UInt8 := [172, 132, 5, 1, 167, 255, 235, 2, 172]
abbrev dktJ1_indexOfChar_1 : List UInt8 := dkwJ1_indexOfChar_1 ++ []
def dkwJ1_indexOfChar_0 : List UInt8 := [27, 145, 54, 4, 28, 54, 5, 21, 5, 29, 162, 0, 21, 42, 21, 5, 51, 21, 4, 160, 0, 6, 21, 5]
abbrev dktJ1_indexOfChar_0 : List UInt8 := dkwJ1_indexOfChar_0 ++ dktJ1_indexOfChar_1
theorem dksJ1_indexOfChar_0 : cJ1_indexOfChar.data.toList.drop 0 = dktJ1_indexOfChar_0 := by decide +kernel
theorem dksJ1_indexOfChar_1 : cJ1_indexOfChar.data.toList.drop 24 = dktJ1_indexOfChar_1 := dk_seg dksJ1_indexOfChar_0 24 rfl rfl
theorem dJ1_indexOfChar_0 : decode cJ1_indexOfChar 0 = .ok (.iload_n 1, 1) := dk_27 (dk_at dksJ1_indexOfChar_0 0 rfl rfl)
theorem dJ1_indexOfChar_1 : decode cJ1_indexOfChar 1 = .ok (.i2b, 1) := dk_145 (dk_at dksJ1_indexOfChar_0 1 rfl rfl)
theorem dJ1_indexOfChar_2 : decode cJ1_indexOfChar 2 = .ok (.istore 4, 2) := dk_54 4 (dk_at dksJ1_indexOfChar_0 2 rfl rfl)
theorem dJ1_indexOfChar_4 : decode cJ1_indexOfChar 4 = .ok (.iload_n 2, 1) := dk_28 (dk_at dksJ1_indexOfChar_0 4 rfl rfl)
theorem dJ1_indexOfChar_5 : decode cJ1_indexOfChar 5 = .ok (.istore 5, 2) := dk_54 5 (dk_at dksJ1_indexOfChar_0 5 rfl rfl)
theorem dJ1_indexOfChar_7 : decode cJ1_indexOfChar 7 = .ok (.iload 5, 2) := dk_21 5 (dk_at dksJ1_indexOfChar_0 7 rfl rfl)
theorem dJ1_indexOfChar_9 : decode cJ1_indexOfChar 9 = .ok (.iload_n 3, 1) := dk_29 (dk_at dksJ1_indexOfChar_0 9 rfl rfl)
theorem dJ1_indexOfChar_10 : decode cJ1_indexOfChar 10 = .ok (.if_icmp .ge 21, 3) := dk_162 0 21 (dk_at dksJ1_indexOfChar_0 10 rfl rfl)
theorem dJ1_indexOfChar_13 : decode cJ1_indexOfChar 13 = .ok (.aload_n 0, 1) := dk_42 (dk_at dksJ1_indexOfChar_0 13 rfl rfl)
theorem dJ1_indexOfChar_14 : decode cJ1_indexOfChar 14 = .ok (.iload 5, 2) := dk_21 5 (dk_at dksJ1_indexOfChar_0 14 rfl rfl)
theorem dJ1_indexOfChar_16 : decode cJ1_indexOfChar 16 = .ok (.baload, 1) := dk_51 (dk_at dksJ1_indexOfChar_0 16 rfl rfl)
theorem dJ1_indexOfChar_17 : decode cJ1_indexOfChar 17 = .ok (.iload 4, 2) := dk_21 4 (dk_at dksJ1_indexOfChar_0 17 rfl rfl)
theorem dJ1_indexOfChar_19 : decode cJ1_indexOfChar 19 = .ok (.if_icmp .ne 6, 3) := dk_160 0 6 (dk_at dksJ1_indexOfChar_0 19 rfl rfl)
theorem dJ1_indexOfChar_22 : decode cJ1_indexOfChar 22 = .ok (.iload 5, 2) := dk_21 5 (dk_at dksJ1_indexOfChar_0 22 rfl rfl)
theorem dJ1_indexOfChar_24 : decode cJ1_indexOfChar 24 = .ok (.ireturn, 1) := dk_172 (dk_at dksJ1_indexOfChar_1 0 rfl rfl)
theorem dJ1_indexOfChar_25 : decode cJ1_indexOfChar 25 = .ok (.iinc 5 1, 3) := dk_132 5 1 (dk_at dksJ1_indexOfChar_1 1 rfl rfl)
theorem dJ1_indexOfChar_28 : decode cJ1_indexOfChar 28 = .ok (.goto (-21), 3) := dk_167 255 235 (dk_at dksJ1_indexOfChar_1 4 rfl rfl)
theorem dJ1_indexOfChar_31 : decode cJ1_indexOfChar 31 = .ok (.iconst (-1), 1) := dk_2 (dk_at dksJ1_indexOfChar_1 7 rfl rfl)
theorem dJ1_indexOfChar_32 : decode cJ1_indexOfChar 32 = .ok (.ireturn, 1) := dk_172 (dk_at dksJ1_indexOfChar_1 8 rfl rfl)
theorem q128 : (Jvm.Cond.initialized "java/lang/StringLatin1") ∈ lw_all := lw_g (lw_at lw_m1 11 rfl) rfl
theorem q557 : (Jvm.Cond.static ({ cls := "java/lang/StringLatin1", name := "charAt", desc := "([BI)C" } : Jvm.MethodName)) ∈ lw_all := lw_g (lw_at lw_m2 200 rfl) rfl
theorem q558 : (Jvm.Cond.code ({ cls := "java/lang/StringLatin1", name := "charAt", desc := "([BI)C" } : Jvm.MethodName) prog_22_method_2_code (2 : Nat) (Option.some Jvm.ClassFile.FieldType.char)) ∈ lw_all := lw_g (lw_at lw_m2 201 rfl) rfl
theorem q559 : (Jvm.Cond.methodLink "java/lang/StringLatin1" (9 : Nat) ({ cls := "java/lang/String", name := "checkIndex", desc := "(II)V" } : Jvm.MethodName)) ∈ lw_all := lw_g (lw_at lw_m2 202 rfl) rfl
theorem q606 : (Jvm.Cond.static ({ cls := "java/lang/StringLatin1", name := "indexOf", desc := "([BIII)I" } : Jvm.MethodName)) ∈ lw_all := lw_g (lw_at lw_m3 9 rfl) rfl
theorem q607 : (Jvm.Cond.code ({ cls := "java/lang/StringLatin1", name := "indexOf", desc := "([BIII)I" } : Jvm.MethodName) prog_22_method_22_code (4 : Nat) (Option.some Jvm.ClassFile.FieldType.int)) ∈ lw_all := lw_g (lw_at lw_m3 10 rfl) rfl
theorem q608 : (Jvm.Cond.methodLink "java/lang/StringLatin1" (88 : Nat) ({ cls := "java/lang/StringLatin1", name := "canEncode", desc := "(I)Z" } : Jvm.MethodName)) ∈ lw_all := lw_g (lw_at lw_m3 11 rfl) rfl
theorem q609 : (Jvm.Cond.static ({ cls := "java/lang/StringLatin1", name := "canEncode", desc := "(I)Z" } : Jvm.MethodName)) ∈ lw_all := lw_g (lw_at lw_m3 12 rfl) rfl
theorem q610 : (Jvm.Cond.code ({ cls := "java/lang/StringLatin1", name := "canEncode", desc := "(I)Z" } : Jvm.MethodName) prog_22_method_4_code (1 : Nat) (Option.some Jvm.ClassFile.FieldType.boolean)) ∈ lw_all := lw_g (lw_at lw_m3 13 rfl) rfl
theorem q611 : (Jvm.Cond.methodLink "java/lang/StringLatin1" (92 : Nat) ({ cls := "java/lang/Math", name := "max", desc := "(II)I" } : Jvm.MethodName)) ∈ lw_all := lw_g (lw_at lw_m3 14 rfl) rfl
theorem q614 : (Jvm.Cond.methodLink "java/lang/StringLatin1" (38 : Nat) ({ cls := "java/lang/Math", name := "min", desc := "(II)I" } : Jvm.MethodName)) ∈ lw_all := lw_g (lw_at lw_m3 17 rfl) rfl
theorem q615 : (Jvm.Cond.methodLink "java/lang/StringLatin1" (95 : Nat) ({ cls := "java/lang/StringLatin1", name := "indexOfChar", desc := "([BIII)I" } : Jvm.MethodName)) ∈ lw_all := lw_g (lw_at lw_m3 18 rfl) rfl
theorem q616 : (Jvm.Cond.static ({ cls := "java/lang/StringLatin1", name := "indexOfChar", desc := "([BIII)I" } : Jvm.MethodName)) ∈ lw_all := lw_g (lw_at lw_m3 19 rfl) rfl
theorem q617 : (Jvm.Cond.code ({ cls := "java/lang/StringLatin1", name := "indexOfChar", desc := "([BIII)I" } : Jvm.MethodName) prog_22_method_23_code (6 : Nat) (Option.some Jvm.ClassFile.FieldType.int)) ∈ lw_all := lw_g (lw_at lw_m3 20 rfl) rfl
/-! jdk/internal/util/Preconditions -/
def RJ2 : String := "jdk/internal/util/Preconditions"
abbrev cJ2_checkIndex : ByteArray := prog_27_method_11_code
def yJ2_checkIndex : MethodName := ⟨RJ2, "checkIndex", "(IILjava/util/function/BiFunction;)I"⟩
def dkwJ2_checkIndex_0 : List UInt8 := [26, 155, 0, 8, 26, 27, 161, 0, 10, 44, 26, 27, 184, 0, 95, 191, 26, 172]
abbrev dktJ2_checkIndex_0 : List UInt8 := dkwJ2_checkIndex_0 ++ []
theorem dksJ2_checkIndex_0 : cJ2_checkIndex.data.toList.drop 0 = dktJ2_checkIndex_0 := by decide +kernel
theorem dJ2_checkIndex_0 : decode cJ2_checkIndex 0 = .ok (.iload_n 0, 1) := dk_26 (dk_at dksJ2_checkIndex_0 0 rfl rfl)
theorem dJ2_checkIndex_1 : decode cJ2_checkIndex 1 = .ok (.ifCond .lt 8, 3) := dk_155 0 8 (dk_at dksJ2_checkIndex_0 1 rfl rfl)
theorem dJ2_checkIndex_4 : decode cJ2_checkIndex 4 = .ok (.iload_n 0, 1) := dk_26 (dk_at dksJ2_checkIndex_0 4 rfl rfl)
theorem dJ2_checkIndex_5 : decode cJ2_checkIndex 5 = .ok (.iload_n 1, 1) := dk_27 (dk_at dksJ2_checkIndex_0 5 rfl rfl)
theorem dJ2_checkIndex_6 : decode cJ2_checkIndex 6 = .ok (.if_icmp .lt 10, 3) := dk_161 0 10 (dk_at dksJ2_checkIndex_0 6 rfl rfl)
theorem dJ2_checkIndex_9 : decode cJ2_checkIndex 9 = .ok (.aload_n 2, 1) := dk_44 (dk_at dksJ2_checkIndex_0 9 rfl rfl)
theorem dJ2_checkIndex_10 : decode cJ2_checkIndex 10 = .ok (.iload_n 0, 1) := dk_26 (dk_at dksJ2_checkIndex_0 10 rfl rfl)
theorem dJ2_checkIndex_11 : decode cJ2_checkIndex 11 = .ok (.iload_n 1, 1) := dk_27 (dk_at dksJ2_checkIndex_0 11 rfl rfl)
theorem dJ2_checkIndex_12 : decode cJ2_checkIndex 12 = .ok (.invokestatic 95, 3) := dk_184 0 95 (dk_at dksJ2_checkIndex_0 12 rfl rfl)
theorem dJ2_checkIndex_15 : decode cJ2_checkIndex 15 = .ok (.athrow, 1) := dk_191 (dk_at dksJ2_checkIndex_0 15 rfl rfl)
theorem dJ2_checkIndex_16 : decode cJ2_checkIndex 16 = .ok (.iload_n 0, 1) := dk_26 (dk_at dksJ2_checkIndex_0 16 rfl rfl)
theorem dJ2_checkIndex_17 : decode cJ2_checkIndex 17 = .ok (.ireturn, 1) := dk_172 (dk_at dksJ2_checkIndex_0 17 rfl rfl)
abbrev cJ2_checkFromToIndex : ByteArray := prog_27_method_12_code
def yJ2_checkFromToIndex : MethodName := ⟨RJ2, "checkFromToIndex", "(IIILjava/util/function/BiFunction;)I"⟩
def dkwJ2_checkFromToIndex_0 : List UInt8 := [26, 155, 0, 13, 26, 27, 163, 0, 8, 27, 28, 164, 0, 11, 45, 26, 27, 28, 184, 0, 99, 191, 26, 172]
abbrev dktJ2_checkFromToIndex_0 : List UInt8 := dkwJ2_checkFromToIndex_0 ++ []
theorem dksJ2_checkFromToIndex_0 : cJ2_checkFromToIndex.data.toList.drop 0 = dktJ2_checkFromToIndex_0 := by decide +kernel
theorem dJ2_checkFromToIndex_0 : decode cJ2_checkFromToIndex 0 = .ok (.iload_n 0, 1) := dk_26 (dk_at dksJ2_checkFromToIndex_0 0 rfl rfl)
theorem dJ2_checkFromToIndex_1 : decode cJ2_checkFromToIndex 1 = .ok (.ifCond .lt 13, 3) := dk_155 0 13 (dk_at dksJ2_checkFromToIndex_0 1 rfl rfl)
theorem dJ2_checkFromToIndex_4 : decode cJ2_checkFromToIndex 4 = .ok (.iload_n 0, 1) := dk_26 (dk_at dksJ2_checkFromToIndex_0 4 rfl rfl)
theorem dJ2_checkFromToIndex_5 : decode cJ2_checkFromToIndex 5 = .ok (.iload_n 1, 1) := dk_27 (dk_at dksJ2_checkFromToIndex_0 5 rfl rfl)
theorem dJ2_checkFromToIndex_6 : decode cJ2_checkFromToIndex 6 = .ok (.if_icmp .gt 8, 3) := dk_163 0 8 (dk_at dksJ2_checkFromToIndex_0 6 rfl rfl)
theorem dJ2_checkFromToIndex_9 : decode cJ2_checkFromToIndex 9 = .ok (.iload_n 1, 1) := dk_27 (dk_at dksJ2_checkFromToIndex_0 9 rfl rfl)
theorem dJ2_checkFromToIndex_10 : decode cJ2_checkFromToIndex 10 = .ok (.iload_n 2, 1) := dk_28 (dk_at dksJ2_checkFromToIndex_0 10 rfl rfl)
theorem dJ2_checkFromToIndex_11 : decode cJ2_checkFromToIndex 11 = .ok (.if_icmp .le 11, 3) := dk_164 0 11 (dk_at dksJ2_checkFromToIndex_0 11 rfl rfl)
theorem dJ2_checkFromToIndex_14 : decode cJ2_checkFromToIndex 14 = .ok (.aload_n 3, 1) := dk_45 (dk_at dksJ2_checkFromToIndex_0 14 rfl rfl)
theorem dJ2_checkFromToIndex_15 : decode cJ2_checkFromToIndex 15 = .ok (.iload_n 0, 1) := dk_26 (dk_at dksJ2_checkFromToIndex_0 15 rfl rfl)
theorem dJ2_checkFromToIndex_16 : decode cJ2_checkFromToIndex 16 = .ok (.iload_n 1, 1) := dk_27 (dk_at dksJ2_checkFromToIndex_0 16 rfl rfl)
theorem dJ2_checkFromToIndex_17 : decode cJ2_checkFromToIndex 17 = .ok (.iload_n 2, 1) := dk_28 (dk_at dksJ2_checkFromToIndex_0 17 rfl rfl)
theorem dJ2_checkFromToIndex_18 : decode cJ2_checkFromToIndex 18 = .ok (.invokestatic 99, 3) := dk_184 0 99 (dk_at dksJ2_checkFromToIndex_0 18 rfl rfl)
theorem dJ2_checkFromToIndex_21 : decode cJ2_checkFromToIndex 21 = .ok (.athrow, 1) := dk_191 (dk_at dksJ2_checkFromToIndex_0 21 rfl rfl)
theorem dJ2_checkFromToIndex_22 : decode cJ2_checkFromToIndex 22 = .ok (.iload_n 0, 1) := dk_26 (dk_at dksJ2_checkFromToIndex_0 22 rfl rfl)
theorem dJ2_checkFromToIndex_23 : decode cJ2_checkFromToIndex 23 = .ok (.ireturn, 1) := dk_172 (dk_at dksJ2_checkFromToIndex_0 23 rfl rfl)
theorem q129 : (Jvm.Cond.initialized "jdk/internal/util/Preconditions") ∈ lw_all := lw_g (lw_at lw_m1 12 rfl) rfl
theorem q563 : (Jvm.Cond.laysStatic "jdk/internal/util/Preconditions" "SIOOBE_FORMATTER" "Ljava/util/function/BiFunction;") ∈ lw_tbl := lw_at lw_m2 206 rfl
theorem q565 : (Jvm.Cond.static ({ cls := "jdk/internal/util/Preconditions", name := "checkIndex", desc := "(IILjava/util/function/BiFunction;)I" } : Jvm.MethodName)) ∈ lw_all := lw_g (lw_at lw_m2 208 rfl) rfl
theorem q566 : (Jvm.Cond.code ({ cls := "jdk/internal/util/Preconditions", name := "checkIndex", desc := "(IILjava/util/function/BiFunction;)I" } : Jvm.MethodName) prog_27_method_11_code (3 : Nat) (Option.some Jvm.ClassFile.FieldType.int)) ∈ lw_all := lw_g (lw_at lw_m2 209 rfl) rfl
theorem q634 : (Jvm.Cond.static ({ cls := "jdk/internal/util/Preconditions", name := "checkFromToIndex", desc := "(IIILjava/util/function/BiFunction;)I" } : Jvm.MethodName)) ∈ lw_all := lw_g (lw_at lw_m3 37 rfl) rfl
theorem q635 : (Jvm.Cond.code ({ cls := "jdk/internal/util/Preconditions", name := "checkFromToIndex", desc := "(IIILjava/util/function/BiFunction;)I" } : Jvm.MethodName) prog_27_method_12_code (4 : Nat) (Option.some Jvm.ClassFile.FieldType.int)) ∈ lw_all := lw_g (lw_at lw_m3 38 rfl) rfl
/-! java/lang/StringUTF16 -/
def RJ3 : String := "java/lang/StringUTF16"
abbrev cJ3_charAt : ByteArray := prog_23_method_83_code
def yJ3_charAt : MethodName := ⟨RJ3, "charAt", "([BI)C"⟩
def dkwJ3_charAt_0 : List UInt8 := [27, 42, 184, 0, 67, 42, 27, 184, 0, 71, 172]
abbrev dktJ3_charAt_0 : List UInt8 := dkwJ3_charAt_0 ++ []
theorem dksJ3_charAt_0 : cJ3_charAt.data.toList.drop 0 = dktJ3_charAt_0 := by decide +kernel
theorem dJ3_charAt_0 : decode cJ3_charAt 0 = .ok (.iload_n 1, 1) := dk_27 (dk_at dksJ3_charAt_0 0 rfl rfl)
theorem dJ3_charAt_1 : decode cJ3_charAt 1 = .ok (.aload_n 0, 1) := dk_42 (dk_at dksJ3_charAt_0 1 rfl rfl)
theorem dJ3_charAt_2 : decode cJ3_charAt 2 = .ok (.invokestatic 67, 3) := dk_184 0 67 (dk_at dksJ3_charAt_0 2 rfl rfl)
theorem dJ3_charAt_5 : decode cJ3_charAt 5 = .ok (.aload_n 0, 1) := dk_42 (dk_at dksJ3_charAt_0 5 rfl rfl)
theorem dJ3_charAt_6 : decode cJ3_charAt 6 = .ok (.iload_n 1, 1) := dk_27 (dk_at dksJ3_charAt_0 6 rfl rfl)
theorem dJ3_charAt_7 : decode cJ3_charAt 7 = .ok (.invokestatic 71, 3) := dk_184 0 71 (dk_at dksJ3_charAt_0 7 rfl rfl)
theorem dJ3_charAt_10 : decode cJ3_charAt 10 = .ok (.ireturn, 1) := dk_172 (dk_at dksJ3_charAt_0 10 rfl rfl)
abbrev cJ3_checkIndex : ByteArray := prog_23_method_91_code
def yJ3_checkIndex : MethodName := ⟨RJ3, "checkIndex", "(I[B)V"⟩
def dkwJ3_checkIndex_0 : List UInt8 := [26, 43, 184, 0, 48, 184, 1, 158, 177]
abbrev dktJ3_checkIndex_0 : List UInt8 := dkwJ3_checkIndex_0 ++ []
theorem dksJ3_checkIndex_0 : cJ3_checkIndex.data.toList.drop 0 = dktJ3_checkIndex_0 := by decide +kernel
theorem dJ3_checkIndex_0 : decode cJ3_checkIndex 0 = .ok (.iload_n 0, 1) := dk_26 (dk_at dksJ3_checkIndex_0 0 rfl rfl)
theorem dJ3_checkIndex_1 : decode cJ3_checkIndex 1 = .ok (.aload_n 1, 1) := dk_43 (dk_at dksJ3_checkIndex_0 1 rfl rfl)
theorem dJ3_checkIndex_2 : decode cJ3_checkIndex 2 = .ok (.invokestatic 48, 3) := dk_184 0 48 (dk_at dksJ3_checkIndex_0 2 rfl rfl)
theorem dJ3_checkIndex_5 : decode cJ3_checkIndex 5 = .ok (.invokestatic 414, 3) := dk_184 1 158 (dk_at dksJ3_checkIndex_0 5 rfl rfl)
theorem dJ3_checkIndex_8 : decode cJ3_checkIndex 8 = .ok (.return_, 1) := dk_177 (dk_at dksJ3_checkIndex_0 8 rfl rfl)
abbrev cJ3_length : ByteArray := prog_23_method_6_code
def yJ3_length : MethodName := ⟨RJ3, "length", "([B)I"⟩
def dkwJ3_length_0 : List UInt8 := [42, 190, 4, 122, 172]
abbrev dktJ3_length_0 : List UInt8 := dkwJ3_length_0 ++ []
theorem dksJ3_length_0 : cJ3_length.data.toList.drop 0 = dktJ3_length_0 := by decide +kernel
theorem dJ3_length_0 : decode cJ3_length 0 = .ok (.aload_n 0, 1) := dk_42 (dk_at dksJ3_length_0 0 rfl rfl)
theorem dJ3_length_1 : decode cJ3_length 1 = .ok (.arraylength, 1) := dk_190 (dk_at dksJ3_length_0 1 rfl rfl)
theorem dJ3_length_2 : decode cJ3_length 2 = .ok (.iconst 1, 1) := dk_4 (dk_at dksJ3_length_0 2 rfl rfl)
theorem dJ3_length_3 : decode cJ3_length 3 = .ok (.ishr, 1) := dk_122 (dk_at dksJ3_length_0 3 rfl rfl)
theorem dJ3_length_4 : decode cJ3_length 4 = .ok (.ireturn, 1) := dk_172 (dk_at dksJ3_length_0 4 rfl rfl)
abbrev cJ3_getChar : ByteArray := prog_23_method_5_code
def yJ3_getChar : MethodName := ⟨RJ3, "getChar", "([BI)C"⟩
def dkwJ3_getChar_2 : List UInt8 := [51, 17, 0, 255, 126, 178, 0, 63, 120, 128, 146, 172]
abbrev dktJ3_getChar_2 : List UInt8 := dkwJ3_getChar_2 ++ []
def dkwJ3_getChar_1 : List UInt8 := [183, 0, 56, 191, 27, 4, 120, 60, 42, 27, 132, 1, 1, 51, 17, 0, 255, 126, 178, 0, 59, 120, 42, 27]
abbrev dktJ3_getChar_1 : List UInt8 := dkwJ3_getChar_1 ++ dktJ3_getChar_2
def dkwJ3_getChar_0 : List UInt8 := [178, 0, 44, 154, 0, 25, 27, 155, 0, 11, 27, 42, 184, 0, 48, 161, 0, 13, 187, 0, 52, 89, 18, 54]
abbrev dktJ3_getChar_0 : List UInt8 := dkwJ3_getChar_0 ++ dktJ3_getChar_1
theorem dksJ3_getChar_0 : cJ3_getChar.data.toList.drop 0 = dktJ3_getChar_0 := by decide +kernel
theorem dksJ3_getChar_1 : cJ3_getChar.data.toList.drop 24 = dktJ3_getChar_1 := dk_seg dksJ3_getChar_0 24 rfl rfl
theorem dksJ3_getChar_2 : cJ3_getChar.data.toList.drop 48 = dktJ3_getChar_2 := dk_seg dksJ3_getChar_1 24 rfl rfl
theorem dJ3_getChar_0 : decode cJ3_getChar 0 = .ok (.getstatic 44, 3) := dk_178 0 44 (dk_at dksJ3_getChar_0 0 rfl rfl)
theorem dJ3_getChar_3 : decode cJ3_getChar 3 = .ok (.ifCond .ne 25, 3) := dk_154 0 25 (dk_at dksJ3_getChar_0 3 rfl rfl)
theorem dJ3_getChar_6 : decode cJ3_getChar 6 = .ok (.iload_n 1, 1) := dk_27 (dk_at dksJ3_getChar_0 6 rfl rfl)
theorem dJ3_getChar_7 : decode cJ3_getChar 7 = .ok (.ifCond .lt 11, 3) := dk_155 0 11 (dk_at dksJ3_getChar_0 7 rfl rfl)
theorem dJ3_getChar_10 : decode cJ3_getChar 10 = .ok (.iload_n 1, 1) := dk_27 (dk_at dksJ3_getChar_0 10 rfl rfl)
theorem dJ3_getChar_11 : decode cJ3_getChar 11 = .ok (.aload_n 0, 1) := dk_42 (dk_at dksJ3_getChar_0 11 rfl rfl)
theorem dJ3_getChar_12 : decode cJ3_getChar 12 = .ok (.invokestatic 48, 3) := dk_184 0 48 (dk_at dksJ3_getChar_0 12 rfl rfl)
theorem dJ3_getChar_15 : decode cJ3_getChar 15 = .ok (.if_icmp .lt 13, 3) := dk_161 0 13 (dk_at dksJ3_getChar_0 15 rfl rfl)
theorem dJ3_getChar_18 : decode cJ3_getChar 18 = .ok (.new 52, 3) := dk_187 0 52 (dk_at dksJ3_getChar_0 18 rfl rfl)
theorem dJ3_getChar_21 : decode cJ3_getChar 21 = .ok (.dup, 1) := dk_89 (dk_at dksJ3_getChar_0 21 rfl rfl)
theorem dJ3_getChar_22 : decode cJ3_getChar 22 = .ok (.ldc 54, 2) := dk_18 54 (dk_at dksJ3_getChar_0 22 rfl rfl)
theorem dJ3_getChar_24 : decode cJ3_getChar 24 = .ok (.invokespecial 56, 3) := dk_183 0 56 (dk_at dksJ3_getChar_1 0 rfl rfl)
theorem dJ3_getChar_27 : decode cJ3_getChar 27 = .ok (.athrow, 1) := dk_191 (dk_at dksJ3_getChar_1 3 rfl rfl)
theorem dJ3_getChar_28 : decode cJ3_getChar 28 = .ok (.iload_n 1, 1) := dk_27 (dk_at dksJ3_getChar_1 4 rfl rfl)
theorem dJ3_getChar_29 : decode cJ3_getChar 29 = .ok (.iconst 1, 1) := dk_4 (dk_at dksJ3_getChar_1 5 rfl rfl)
theorem dJ3_getChar_30 : decode cJ3_getChar 30 = .ok (.ishl, 1) := dk_120 (dk_at dksJ3_getChar_1 6 rfl rfl)
theorem dJ3_getChar_31 : decode cJ3_getChar 31 = .ok (.istore_n 1, 1) := dk_60 (dk_at dksJ3_getChar_1 7 rfl rfl)
theorem dJ3_getChar_32 : decode cJ3_getChar 32 = .ok (.aload_n 0, 1) := dk_42 (dk_at dksJ3_getChar_1 8 rfl rfl)
theorem dJ3_getChar_33 : decode cJ3_getChar 33 = .ok (.iload_n 1, 1) := dk_27 (dk_at dksJ3_getChar_1 9 rfl rfl)
theorem dJ3_getChar_34 : decode cJ3_getChar 34 = .ok (.iinc 1 1, 3) := dk_132 1 1 (dk_at dksJ3_getChar_1 10 rfl rfl)
theorem dJ3_getChar_37 : decode cJ3_getChar 37 = .ok (.baload, 1) := dk_51 (dk_at dksJ3_getChar_1 13 rfl rfl)
theorem dJ3_getChar_38 : decode cJ3_getChar 38 = .ok (.sipush 255, 3) := dk_17 0 255 (dk_at dksJ3_getChar_1 14 rfl rfl)
theorem dJ3_getChar_41 : decode cJ3_getChar 41 = .ok (.iand, 1) := dk_126 (dk_at dksJ3_getChar_1 17 rfl rfl)
theorem dJ3_getChar_42 : decode cJ3_getChar 42 = .ok (.getstatic 59, 3) := dk_178 0 59 (dk_at dksJ3_getChar_1 18 rfl rfl)
theorem dJ3_getChar_45 : decode cJ3_getChar 45 = .ok (.ishl, 1) := dk_120 (dk_at dksJ3_getChar_1 21 rfl rfl)
theorem dJ3_getChar_46 : decode cJ3_getChar 46 = .ok (.aload_n 0, 1) := dk_42 (dk_at dksJ3_getChar_1 22 rfl rfl)
theorem dJ3_getChar_47 : decode cJ3_getChar 47 = .ok (.iload_n 1, 1) := dk_27 (dk_at dksJ3_getChar_1 23 rfl rfl)
theorem dJ3_getChar_48 : decode cJ3_getChar 48 = .ok (.baload, 1) := dk_51 (dk_at dksJ3_getChar_2 0 rfl rfl)
theorem dJ3_getChar_49 : decode cJ3_getChar 49 = .ok (.sipush 255, 3) := dk_17 0 255 (dk_at dksJ3_getChar_2 1 rfl rfl)
theorem dJ3_getChar_52 : decode cJ3_getChar 52 = .ok (.iand, 1) := dk_126 (dk_at dksJ3_getChar_2 4 rfl rfl)
theorem dJ3_getChar_53 : decode cJ3_getChar 53 = .ok (.getstatic 63, 3) := dk_178 0 63 (dk_at dksJ3_getChar_2 5 rfl rfl)
theorem dJ3_getChar_56 : decode cJ3_getChar 56 = .ok (.ishl, 1) := dk_120 (dk_at dksJ3_getChar_2 8 rfl rfl)
theorem dJ3_getChar_57 : decode cJ3_getChar 57 = .ok (.ior, 1) := dk_128 (dk_at dksJ3_getChar_2 9 rfl rfl)
theorem dJ3_getChar_58 : decode cJ3_getChar 58 = .ok (.i2c, 1) := dk_146 (dk_at dksJ3_getChar_2 10 rfl rfl)
theorem dJ3_getChar_59 : decode cJ3_getChar 59 = .ok (.ireturn, 1) := dk_172 (dk_at dksJ3_getChar_2 11 rfl rfl)
abbrev cJ3_indexOf : ByteArray := prog_23_method_40_code
def yJ3_indexOf : MethodName := ⟨RJ3, "indexOf", "([BIII)I"⟩
def dkwJ3_indexOf_1 : List UInt8 := [18, 227, 162, 0, 11, 42, 27, 28, 29, 184, 0, 228, 172, 42, 27, 28, 29, 184, 0, 232, 172]
abbrev dktJ3_indexOf_1 : List UInt8 := dkwJ3_indexOf_1 ++ []
def dkwJ3_indexOf_0 : List UInt8 := [28, 3, 184, 0, 224, 61, 29, 42, 190, 4, 122, 184, 0, 183, 62, 28, 29, 161, 0, 5, 2, 172, 27]
abbrev dktJ3_indexOf_0 : List UInt8 := dkwJ3_indexOf_0 ++ dktJ3_indexOf_1
theorem dksJ3_indexOf_0 : cJ3_indexOf.data.toList.drop 0 = dktJ3_indexOf_0 := by decide +kernel
theorem dksJ3_indexOf_1 : cJ3_indexOf.data.toList.drop 23 = dktJ3_indexOf_1 := dk_seg dksJ3_indexOf_0 23 rfl rfl
theorem dJ3_indexOf_0 : decode cJ3_indexOf 0 = .ok (.iload_n 2, 1) := dk_28 (dk_at dksJ3_indexOf_0 0 rfl rfl)
theorem dJ3_indexOf_1 : decode cJ3_indexOf 1 = .ok (.iconst 0, 1) := dk_3 (dk_at dksJ3_indexOf_0 1 rfl rfl)
theorem dJ3_indexOf_2 : decode cJ3_indexOf 2 = .ok (.invokestatic 224, 3) := dk_184 0 224 (dk_at dksJ3_indexOf_0 2 rfl rfl)
theorem dJ3_indexOf_5 : decode cJ3_indexOf 5 = .ok (.istore_n 2, 1) := dk_61 (dk_at dksJ3_indexOf_0 5 rfl rfl)
theorem dJ3_indexOf_6 : decode cJ3_indexOf 6 = .ok (.iload_n 3, 1) := dk_29 (dk_at dksJ3_indexOf_0 6 rfl rfl)
theorem dJ3_indexOf_7 : decode cJ3_indexOf 7 = .ok (.aload_n 0, 1) := dk_42 (dk_at dksJ3_indexOf_0 7 rfl rfl)
theorem dJ3_indexOf_8 : decode cJ3_indexOf 8 = .ok (.arraylength, 1) := dk_190 (dk_at dksJ3_indexOf_0 8 rfl rfl)
theorem dJ3_indexOf_9 : decode cJ3_indexOf 9 = .ok (.iconst 1, 1) := dk_4 (dk_at dksJ3_indexOf_0 9 rfl rfl)
theorem dJ3_indexOf_10 : decode cJ3_indexOf 10 = .ok (.ishr, 1) := dk_122 (dk_at dksJ3_indexOf_0 10 rfl rfl)
theorem dJ3_indexOf_11 : decode cJ3_indexOf 11 = .ok (.invokestatic 183, 3) := dk_184 0 183 (dk_at dksJ3_indexOf_0 11 rfl rfl)
theorem dJ3_indexOf_14 : decode cJ3_indexOf 14 = .ok (.istore_n 3, 1) := dk_62 (dk_at dksJ3_indexOf_0 14 rfl rfl)
theorem dJ3_indexOf_15 : decode cJ3_indexOf 15 = .ok (.iload_n 2, 1) := dk_28 (dk_at dksJ3_indexOf_0 15 rfl rfl)
theorem dJ3_indexOf_16 : decode cJ3_indexOf 16 = .ok (.iload_n 3, 1) := dk_29 (dk_at dksJ3_indexOf_0 16 rfl rfl)
theorem dJ3_indexOf_17 : decode cJ3_indexOf 17 = .ok (.if_icmp .lt 5, 3) := dk_161 0 5 (dk_at dksJ3_indexOf_0 17 rfl rfl)
theorem dJ3_indexOf_20 : decode cJ3_indexOf 20 = .ok (.iconst (-1), 1) := dk_2 (dk_at dksJ3_indexOf_0 20 rfl rfl)
theorem dJ3_indexOf_21 : decode cJ3_indexOf 21 = .ok (.ireturn, 1) := dk_172 (dk_at dksJ3_indexOf_0 21 rfl rfl)
theorem dJ3_indexOf_22 : decode cJ3_indexOf 22 = .ok (.iload_n 1, 1) := dk_27 (dk_at dksJ3_indexOf_0 22 rfl rfl)
theorem dJ3_indexOf_23 : decode cJ3_indexOf 23 = .ok (.ldc 227, 2) := dk_18 227 (dk_at dksJ3_indexOf_1 0 rfl rfl)
theorem dJ3_indexOf_25 : decode cJ3_indexOf 25 = .ok (.if_icmp .ge 11, 3) := dk_162 0 11 (dk_at dksJ3_indexOf_1 2 rfl rfl)
theorem dJ3_indexOf_28 : decode cJ3_indexOf 28 = .ok (.aload_n 0, 1) := dk_42 (dk_at dksJ3_indexOf_1 5 rfl rfl)
theorem dJ3_indexOf_29 : decode cJ3_indexOf 29 = .ok (.iload_n 1, 1) := dk_27 (dk_at dksJ3_indexOf_1 6 rfl rfl)
theorem dJ3_indexOf_30 : decode cJ3_indexOf 30 = .ok (.iload_n 2, 1) := dk_28 (dk_at dksJ3_indexOf_1 7 rfl rfl)
theorem dJ3_indexOf_31 : decode cJ3_indexOf 31 = .ok (.iload_n 3, 1) := dk_29 (dk_at dksJ3_indexOf_1 8 rfl rfl)
theorem dJ3_indexOf_32 : decode cJ3_indexOf 32 = .ok (.invokestatic 228, 3) := dk_184 0 228 (dk_at dksJ3_indexOf_1 9 rfl rfl)
theorem dJ3_indexOf_35 : decode cJ3_indexOf 35 = .ok (.ireturn, 1) := dk_172 (dk_at dksJ3_indexOf_1 12 rfl rfl)
theorem dJ3_indexOf_36 : decode cJ3_indexOf 36 = .ok (.aload_n 0, 1) := dk_42 (dk_at dksJ3_indexOf_1 13 rfl rfl)
theorem dJ3_indexOf_37 : decode cJ3_indexOf 37 = .ok (.iload_n 1, 1) := dk_27 (dk_at dksJ3_indexOf_1 14 rfl rfl)
theorem dJ3_indexOf_38 : decode cJ3_indexOf 38 = .ok (.iload_n 2, 1) := dk_28 (dk_at dksJ3_indexOf_1 15 rfl rfl)
theorem dJ3_indexOf_39 : decode cJ3_indexOf 39 = .ok (.iload_n 3, 1) := dk_29 (dk_at dksJ3_indexOf_1 16 rfl rfl)
theorem dJ3_indexOf_40 : decode cJ3_indexOf 40 = .ok (.invokestatic 232, 3) := dk_184 0 232 (dk_at dksJ3_indexOf_1 17 rfl rfl)
theorem dJ3_indexOf_43 : decode cJ3_indexOf 43 = .ok (.ireturn, 1) := dk_172 (dk_at dksJ3_indexOf_1 20 rfl rfl)
abbrev cJ3_indexOfChar : ByteArray := prog_23_method_47_code
def yJ3_indexOfChar : MethodName := ⟨RJ3, "indexOfChar", "([BIII)I"⟩
def dkwJ3_indexOfChar_0 : List UInt8 := [28, 29, 42, 184, 0, 96, 42, 27, 28, 29, 184, 0, 244, 172]
abbrev dktJ3_indexOfChar_0 : List UInt8 := dkwJ3_indexOfChar_0 ++ []
theorem dksJ3_indexOfChar_0 : cJ3_indexOfChar.data.toList.drop 0 = dktJ3_indexOfChar_0 := by decide +kernel
theorem dJ3_indexOfChar_0 : decode cJ3_indexOfChar 0 = .ok (.iload_n 2, 1) := dk_28 (dk_at dksJ3_indexOfChar_0 0 rfl rfl)
theorem dJ3_indexOfChar_1 : decode cJ3_indexOfChar 1 = .ok (.iload_n 3, 1) := dk_29 (dk_at dksJ3_indexOfChar_0 1 rfl rfl)
theorem dJ3_indexOfChar_2 : decode cJ3_indexOfChar 2 = .ok (.aload_n 0, 1) := dk_42 (dk_at dksJ3_indexOfChar_0 2 rfl rfl)
theorem dJ3_indexOfChar_3 : decode cJ3_indexOfChar 3 = .ok (.invokestatic 96, 3) := dk_184 0 96 (dk_at dksJ3_indexOfChar_0 3 rfl rfl)
theorem dJ3_indexOfChar_6 : decode cJ3_indexOfChar 6 = .ok (.aload_n 0, 1) := dk_42 (dk_at dksJ3_indexOfChar_0 6 rfl rfl)
theorem dJ3_indexOfChar_7 : decode cJ3_indexOfChar 7 = .ok (.iload_n 1, 1) := dk_27 (dk_at dksJ3_indexOfChar_0 7 rfl rfl)
theorem dJ3_indexOfChar_8 : decode cJ3_indexOfChar 8 = .ok (.iload_n 2, 1) := dk_28 (dk_at dksJ3_indexOfChar_0 8 rfl rfl)
theorem dJ3_indexOfChar_9 : decode cJ3_indexOfChar 9 = .ok (.iload_n 3, 1) := dk_29 (dk_at dksJ3_indexOfChar_0 9 rfl rfl)
theorem dJ3_indexOfChar_10 : decode cJ3_indexOfChar 10 = .ok (.invokestatic 244, 3) := dk_184 0 244 (dk_at dksJ3_indexOfChar_0 10 rfl rfl)
theorem dJ3_indexOfChar_13 : decode cJ3_indexOfChar 13 = .ok (.ireturn, 1) := dk_172 (dk_at dksJ3_indexOfChar_0 13 rfl rfl)
abbrev cJ3_checkBoundsBeginEnd : ByteArray := prog_23_method_93_code
def yJ3_checkBoundsBeginEnd : MethodName := ⟨RJ3, "checkBoundsBeginEnd", "(II[B)V"⟩
def dkwJ3_checkBoundsBeginEnd_0 : List UInt8 := [26, 27, 44, 184, 0, 48, 184, 0, 241, 177]
abbrev dktJ3_checkBoundsBeginEnd_0 : List UInt8 := dkwJ3_checkBoundsBeginEnd_0 ++ []
theorem dksJ3_checkBoundsBeginEnd_0 : cJ3_checkBoundsBeginEnd.data.toList.drop 0 = dktJ3_checkBoundsBeginEnd_0 := by decide +kernel
theorem dJ3_checkBoundsBeginEnd_0 : decode cJ3_checkBoundsBeginEnd 0 = .ok (.iload_n 0, 1) := dk_26 (dk_at dksJ3_checkBoundsBeginEnd_0 0 rfl rfl)
theorem dJ3_checkBoundsBeginEnd_1 : decode cJ3_checkBoundsBeginEnd 1 = .ok (.iload_n 1, 1) := dk_27 (dk_at dksJ3_checkBoundsBeginEnd_0 1 rfl rfl)
theorem dJ3_checkBoundsBeginEnd_2 : decode cJ3_checkBoundsBeginEnd 2 = .ok (.aload_n 2, 1) := dk_44 (dk_at dksJ3_checkBoundsBeginEnd_0 2 rfl rfl)
theorem dJ3_checkBoundsBeginEnd_3 : decode cJ3_checkBoundsBeginEnd 3 = .ok (.invokestatic 48, 3) := dk_184 0 48 (dk_at dksJ3_checkBoundsBeginEnd_0 3 rfl rfl)
theorem dJ3_checkBoundsBeginEnd_6 : decode cJ3_checkBoundsBeginEnd 6 = .ok (.invokestatic 241, 3) := dk_184 0 241 (dk_at dksJ3_checkBoundsBeginEnd_0 6 rfl rfl)
theorem dJ3_checkBoundsBeginEnd_9 : decode cJ3_checkBoundsBeginEnd 9 = .ok (.return_, 1) := dk_177 (dk_at dksJ3_checkBoundsBeginEnd_0 9 rfl rfl)
abbrev cJ3_indexOfCharUnsafe : ByteArray := prog_23_method_48_code
def yJ3_indexOfCharUnsafe : MethodName := ⟨RJ3, "indexOfCharUnsafe", "([BIII)I"⟩
def dkwJ3_indexOfCharUnsafe_1 : List UInt8 := [132, 4, 1, 167, 255, 234, 2, 172]
abbrev dktJ3_indexOfCharUnsafe_1 : List UInt8 := dkwJ3_indexOfCharUnsafe_1 ++ []
def dkwJ3_indexOfCharUnsafe_0 : List UInt8 := [28, 54, 4, 21, 4, 29, 162, 0, 22, 42, 21, 4, 184, 0, 71, 27, 160, 0, 6, 21, 4, 172]
abbrev dktJ3_indexOfCharUnsafe_0 : List UInt8 := dkwJ3_indexOfCharUnsafe_0 ++ dktJ3_indexOfCharUnsafe_1
theorem dksJ3_indexOfCharUnsafe_0 : cJ3_indexOfCharUnsafe.data.toList.drop 0 = dktJ3_indexOfCharUnsafe_0 := by decide +kernel
theorem dksJ3_indexOfCharUnsafe_1 : cJ3_indexOfCharUnsafe.data.toList.drop 22 = dktJ3_indexOfCharUnsafe_1 := dk_seg dksJ3_indexOfCharUnsafe_0 22 rfl rfl
theorem dJ3_indexOfCharUnsafe_0 : decode cJ3_indexOfCharUnsafe 0 = .ok (.iload_n 2, 1) := dk_28 (dk_at dksJ3_indexOfCharUnsafe_0 0 rfl rfl)
theorem dJ3_indexOfCharUnsafe_1 : decode cJ3_indexOfCharUnsafe 1 = .ok (.istore 4, 2) := dk_54 4 (dk_at dksJ3_indexOfCharUnsafe_0 1 rfl rfl)
theorem dJ3_indexOfCharUnsafe_3 : decode cJ3_indexOfCharUnsafe 3 = .ok (.iload 4, 2) := dk_21 4 (dk_at dksJ3_indexOfCharUnsafe_0 3 rfl rfl)
theorem dJ3_indexOfCharUnsafe_5 : decode cJ3_indexOfCharUnsafe 5 = .ok (.iload_n 3, 1) := dk_29 (dk_at dksJ3_indexOfCharUnsafe_0 5 rfl rfl)
theorem dJ3_indexOfCharUnsafe_6 : decode cJ3_indexOfCharUnsafe 6 = .ok (.if_icmp .ge 22, 3) := dk_162 0 22 (dk_at dksJ3_indexOfCharUnsafe_0 6 rfl rfl)
theorem dJ3_indexOfCharUnsafe_9 : decode cJ3_indexOfCharUnsafe 9 = .ok (.aload_n 0, 1) := dk_42 (dk_at dksJ3_indexOfCharUnsafe_0 9 rfl rfl)
theorem dJ3_indexOfCharUnsafe_10 : decode cJ3_indexOfCharUnsafe 10 = .ok (.iload 4, 2) := dk_21 4 (dk_at dksJ3_indexOfCharUnsafe_0 10 rfl rfl)
theorem dJ3_indexOfCharUnsafe_12 : decode cJ3_indexOfCharUnsafe 12 = .ok (.invokestatic 71, 3) := dk_184 0 71 (dk_at dksJ3_indexOfCharUnsafe_0 12 rfl rfl)
theorem dJ3_indexOfCharUnsafe_15 : decode cJ3_indexOfCharUnsafe 15 = .ok (.iload_n 1, 1) := dk_27 (dk_at dksJ3_indexOfCharUnsafe_0 15 rfl rfl)
theorem dJ3_indexOfCharUnsafe_16 : decode cJ3_indexOfCharUnsafe 16 = .ok (.if_icmp .ne 6, 3) := dk_160 0 6 (dk_at dksJ3_indexOfCharUnsafe_0 16 rfl rfl)
theorem dJ3_indexOfCharUnsafe_19 : decode cJ3_indexOfCharUnsafe 19 = .ok (.iload 4, 2) := dk_21 4 (dk_at dksJ3_indexOfCharUnsafe_0 19 rfl rfl)
theorem dJ3_indexOfCharUnsafe_21 : decode cJ3_indexOfCharUnsafe 21 = .ok (.ireturn, 1) := dk_172 (dk_at dksJ3_indexOfCharUnsafe_0 21 rfl rfl)
theorem dJ3_indexOfCharUnsafe_22 : decode cJ3_indexOfCharUnsafe 22 = .ok (.iinc 4 1, 3) := dk_132 4 1 (dk_at dksJ3_indexOfCharUnsafe_1 0 rfl rfl)
theorem dJ3_indexOfCharUnsafe_25 : decode cJ3_indexOfCharUnsafe 25 = .ok (.goto (-22), 3) := dk_167 255 234 (dk_at dksJ3_indexOfCharUnsafe_1 3 rfl rfl)
theorem dJ3_indexOfCharUnsafe_28 : decode cJ3_indexOfCharUnsafe 28 = .ok (.iconst (-1), 1) := dk_2 (dk_at dksJ3_indexOfCharUnsafe_1 6 rfl rfl)
theorem dJ3_indexOfCharUnsafe_29 : decode cJ3_indexOfCharUnsafe 29 = .ok (.ireturn, 1) := dk_172 (dk_at dksJ3_indexOfCharUnsafe_1 7 rfl rfl)
abbrev cJ3_indexOfSupplementary : ByteArray := prog_23_method_49_code
def yJ3_indexOfSupplementary : MethodName := ⟨RJ3, "indexOfSupplementary", "([BIII)I"⟩
def dkwJ3_indexOfSupplementary_3 : List UInt8 := [167, 255, 218, 2, 172]
abbrev dktJ3_indexOfSupplementary_3 : List UInt8 := dkwJ3_indexOfSupplementary_3 ++ []
def dkwJ3_indexOfSupplementary_2 : List UInt8 := [160, 0, 19, 42, 21, 6, 4, 96, 184, 0, 71, 21, 5, 160, 0, 6, 21, 6, 172, 132, 6, 1]
abbrev dktJ3_indexOfSupplementary_2 : List UInt8 := dkwJ3_indexOfSupplementary_2 ++ dktJ3_indexOfSupplementary_3
def dkwJ3_indexOfSupplementary_1 : List UInt8 := [184, 0, 96, 28, 54, 6, 21, 6, 29, 4, 100, 162, 0, 36, 42, 21, 6, 184, 0, 71, 21, 4]
abbrev dktJ3_indexOfSupplementary_1 : List UInt8 := dkwJ3_indexOfSupplementary_1 ++ dktJ3_indexOfSupplementary_2
def dkwJ3_indexOfSupplementary_0 : List UInt8 := [27, 184, 0, 164, 153, 0, 65, 27, 184, 0, 157, 54, 4, 27, 184, 0, 161, 54, 5, 28, 29, 42]
abbrev dktJ3_indexOfSupplementary_0 : List UInt8 := dkwJ3_indexOfSupplementary_0 ++ dktJ3_indexOfSupplementary_1
theorem dksJ3_indexOfSupplementary_0 : cJ3_indexOfSupplementary.data.toList.drop 0 = dktJ3_indexOfSupplementary_0 := by decide +kernel
theorem dksJ3_indexOfSupplementary_1 : cJ3_indexOfSupplementary.data.toList.drop 22 = dktJ3_indexOfSupplementary_1 := dk_seg dksJ3_indexOfSupplementary_0 22 rfl rfl
theorem dksJ3_indexOfSupplementary_2 : cJ3_indexOfSupplementary.data.toList.drop 44 = dktJ3_indexOfSupplementary_2 := dk_seg dksJ3_indexOfSupplementary_1 22 rfl rfl
theorem dksJ3_indexOfSupplementary_3 : cJ3_indexOfSupplementary.data.toList.drop 66 = dktJ3_indexOfSupplementary_3 := dk_seg dksJ3_indexOfSupplementary_2 22 rfl rfl
theorem dJ3_indexOfSupplementary_0 : decode cJ3_indexOfSupplementary 0 = .ok (.iload_n 1, 1) := dk_27 (dk_at dksJ3_indexOfSupplementary_0 0 rfl rfl)
theorem dJ3_indexOfSupplementary_1 : decode cJ3_indexOfSupplementary 1 = .ok (.invokestatic 164, 3) := dk_184 0 164 (dk_at dksJ3_indexOfSupplementary_0 1 rfl rfl)
theorem dJ3_indexOfSupplementary_4 : decode cJ3_indexOfSupplementary 4 = .ok (.ifCond .eq 65, 3) := dk_153 0 65 (dk_at dksJ3_indexOfSupplementary_0 4 rfl rfl)
