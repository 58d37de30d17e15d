set_option maxRecDepth 100000
abbrev dktX6_person_2 : List UInt8 := dkwX6_person_2 ++ dktX6_person_3
def dkwX6_person_1 : List UInt8 := [162, 0, 10, 42, 27, 28, 182, 1, 15, 172, 28, 8, 160, 0, 31, 42, 27, 8, 182, 1, 15, 2]
abbrev dktX6_person_1 : List UInt8 := dkwX6_person_1 ++ dktX6_person_2
def dkwX6_person_0 : List UInt8 := [42, 27, 182, 1, 35, 153, 0, 13, 28, 3, 16, 6, 184, 0, 66, 154, 0, 6, 16, 254, 172, 28, 8]
abbrev dktX6_person_0 : List UInt8 := dkwX6_person_0 ++ dktX6_person_1
theorem dksX6_person_0 : cX6_person.data.toList.drop 0 = dktX6_person_0 := by decide +kernel
theorem dksX6_person_1 : cX6_person.data.toList.drop 23 = dktX6_person_1 := dk_seg dksX6_person_0 23 rfl rfl
theorem dksX6_person_2 : cX6_person.data.toList.drop 45 = dktX6_person_2 := dk_seg dksX6_person_1 22 rfl rfl
theorem dksX6_person_3 : cX6_person.data.toList.drop 68 = dktX6_person_3 := dk_seg dksX6_person_2 23 rfl rfl
theorem dksX6_person_4 : cX6_person.data.toList.drop 91 = dktX6_person_4 := dk_seg dksX6_person_3 23 rfl rfl
theorem dX6_person_0 : decode cX6_person 0 = .ok (.aload_n 0, 1) := dk_42 (dk_at dksX6_person_0 0 rfl rfl)
theorem dX6_person_1 : decode cX6_person 1 = .ok (.iload_n 1, 1) := dk_27 (dk_at dksX6_person_0 1 rfl rfl)
theorem dX6_person_2 : decode cX6_person 2 = .ok (.invokevirtual 291, 3) := dk_182 1 35 (dk_at dksX6_person_0 2 rfl rfl)
theorem dX6_person_5 : decode cX6_person 5 = .ok (.ifCond .eq 13, 3) := dk_153 0 13 (dk_at dksX6_person_0 5 rfl rfl)
theorem dX6_person_8 : decode cX6_person 8 = .ok (.iload_n 2, 1) := dk_28 (dk_at dksX6_person_0 8 rfl rfl)
theorem dX6_person_9 : decode cX6_person 9 = .ok (.iconst 0, 1) := dk_3 (dk_at dksX6_person_0 9 rfl rfl)
theorem dX6_person_10 : decode cX6_person 10 = .ok (.bipush 6, 2) := dk_16 6 (dk_at dksX6_person_0 10 rfl rfl)
theorem dX6_person_12 : decode cX6_person 12 = .ok (.invokestatic 66, 3) := dk_184 0 66 (dk_at dksX6_person_0 12 rfl rfl)
theorem dX6_person_15 : decode cX6_person 15 = .ok (.ifCond .ne 6, 3) := dk_154 0 6 (dk_at dksX6_person_0 15 rfl rfl)
theorem dX6_person_18 : decode cX6_person 18 = .ok (.bipush (-2), 2) := dk_16 254 (dk_at dksX6_person_0 18 rfl rfl)
theorem dX6_person_20 : decode cX6_person 20 = .ok (.ireturn, 1) := dk_172 (dk_at dksX6_person_0 20 rfl rfl)
theorem dX6_person_21 : decode cX6_person 21 = .ok (.iload_n 2, 1) := dk_28 (dk_at dksX6_person_0 21 rfl rfl)
theorem dX6_person_22 : decode cX6_person 22 = .ok (.iconst 5, 1) := dk_8 (dk_at dksX6_person_0 22 rfl rfl)
theorem dX6_person_23 : decode cX6_person 23 = .ok (.if_icmp .ge 10, 3) := dk_162 0 10 (dk_at dksX6_person_1 0 rfl rfl)
theorem dX6_person_26 : decode cX6_person 26 = .ok (.aload_n 0, 1) := dk_42 (dk_at dksX6_person_1 3 rfl rfl)
theorem dX6_person_27 : decode cX6_person 27 = .ok (.iload_n 1, 1) := dk_27 (dk_at dksX6_person_1 4 rfl rfl)
theorem dX6_person_28 : decode cX6_person 28 = .ok (.iload_n 2, 1) := dk_28 (dk_at dksX6_person_1 5 rfl rfl)
theorem dX6_person_29 : decode cX6_person 29 = .ok (.invokevirtual 271, 3) := dk_182 1 15 (dk_at dksX6_person_1 6 rfl rfl)
theorem dX6_person_32 : decode cX6_person 32 = .ok (.ireturn, 1) := dk_172 (dk_at dksX6_person_1 9 rfl rfl)
theorem dX6_person_33 : decode cX6_person 33 = .ok (.iload_n 2, 1) := dk_28 (dk_at dksX6_person_1 10 rfl rfl)
theorem dX6_person_34 : decode cX6_person 34 = .ok (.iconst 5, 1) := dk_8 (dk_at dksX6_person_1 11 rfl rfl)
theorem dX6_person_35 : decode cX6_person 35 = .ok (.if_icmp .ne 31, 3) := dk_160 0 31 (dk_at dksX6_person_1 12 rfl rfl)
theorem dX6_person_38 : decode cX6_person 38 = .ok (.aload_n 0, 1) := dk_42 (dk_at dksX6_person_1 15 rfl rfl)
theorem dX6_person_39 : decode cX6_person 39 = .ok (.iload_n 1, 1) := dk_27 (dk_at dksX6_person_1 16 rfl rfl)
theorem dX6_person_40 : decode cX6_person 40 = .ok (.iconst 5, 1) := dk_8 (dk_at dksX6_person_1 17 rfl rfl)
theorem dX6_person_41 : decode cX6_person 41 = .ok (.invokevirtual 271, 3) := dk_182 1 15 (dk_at dksX6_person_1 18 rfl rfl)
theorem dX6_person_44 : decode cX6_person 44 = .ok (.iconst (-1), 1) := dk_2 (dk_at dksX6_person_1 21 rfl rfl)
theorem dX6_person_45 : decode cX6_person 45 = .ok (.if_icmp .ne 7, 3) := dk_160 0 7 (dk_at dksX6_person_2 0 rfl rfl)
theorem dX6_person_48 : decode cX6_person 48 = .ok (.iconst (-1), 1) := dk_2 (dk_at dksX6_person_2 3 rfl rfl)
theorem dX6_person_49 : decode cX6_person 49 = .ok (.goto 16, 3) := dk_167 0 16 (dk_at dksX6_person_2 4 rfl rfl)
theorem dX6_person_52 : decode cX6_person 52 = .ok (.aload_n 0, 1) := dk_42 (dk_at dksX6_person_2 7 rfl rfl)
theorem dX6_person_53 : decode cX6_person 53 = .ok (.iload_n 1, 1) := dk_27 (dk_at dksX6_person_2 8 rfl rfl)
theorem dX6_person_54 : decode cX6_person 54 = .ok (.iconst 5, 1) := dk_8 (dk_at dksX6_person_2 9 rfl rfl)
theorem dX6_person_55 : decode cX6_person 55 = .ok (.invokevirtual 271, 3) := dk_182 1 15 (dk_at dksX6_person_2 10 rfl rfl)
theorem dX6_person_58 : decode cX6_person 58 = .ok (.aload_n 0, 1) := dk_42 (dk_at dksX6_person_2 13 rfl rfl)
theorem dX6_person_59 : decode cX6_person 59 = .ok (.iload_n 1, 1) := dk_27 (dk_at dksX6_person_2 14 rfl rfl)
theorem dX6_person_60 : decode cX6_person 60 = .ok (.iconst 0, 1) := dk_3 (dk_at dksX6_person_2 15 rfl rfl)
theorem dX6_person_61 : decode cX6_person 61 = .ok (.invokevirtual 271, 3) := dk_182 1 15 (dk_at dksX6_person_2 16 rfl rfl)
theorem dX6_person_64 : decode cX6_person 64 = .ok (.isub, 1) := dk_100 (dk_at dksX6_person_2 19 rfl rfl)
theorem dX6_person_65 : decode cX6_person 65 = .ok (.ireturn, 1) := dk_172 (dk_at dksX6_person_2 20 rfl rfl)
theorem dX6_person_66 : decode cX6_person 66 = .ok (.aload_n 0, 1) := dk_42 (dk_at dksX6_person_2 21 rfl rfl)
theorem dX6_person_67 : decode cX6_person 67 = .ok (.iload_n 1, 1) := dk_27 (dk_at dksX6_person_2 22 rfl rfl)
theorem dX6_person_68 : decode cX6_person 68 = .ok (.bipush 6, 2) := dk_16 6 (dk_at dksX6_person_3 0 rfl rfl)
theorem dX6_person_70 : decode cX6_person 70 = .ok (.invokevirtual 271, 3) := dk_182 1 15 (dk_at dksX6_person_3 2 rfl rfl)
theorem dX6_person_73 : decode cX6_person 73 = .ok (.iconst (-1), 1) := dk_2 (dk_at dksX6_person_3 5 rfl rfl)
theorem dX6_person_74 : decode cX6_person 74 = .ok (.if_icmp .ne 7, 3) := dk_160 0 7 (dk_at dksX6_person_3 6 rfl rfl)
theorem dX6_person_77 : decode cX6_person 77 = .ok (.iconst (-1), 1) := dk_2 (dk_at dksX6_person_3 9 rfl rfl)
theorem dX6_person_78 : decode cX6_person 78 = .ok (.goto 17, 3) := dk_167 0 17 (dk_at dksX6_person_3 10 rfl rfl)
theorem dX6_person_81 : decode cX6_person 81 = .ok (.aload_n 0, 1) := dk_42 (dk_at dksX6_person_3 13 rfl rfl)
theorem dX6_person_82 : decode cX6_person 82 = .ok (.iload_n 1, 1) := dk_27 (dk_at dksX6_person_3 14 rfl rfl)
theorem dX6_person_83 : decode cX6_person 83 = .ok (.bipush 6, 2) := dk_16 6 (dk_at dksX6_person_3 15 rfl rfl)
theorem dX6_person_85 : decode cX6_person 85 = .ok (.invokevirtual 271, 3) := dk_182 1 15 (dk_at dksX6_person_3 17 rfl rfl)
theorem dX6_person_88 : decode cX6_person 88 = .ok (.aload_n 0, 1) := dk_42 (dk_at dksX6_person_3 20 rfl rfl)
theorem dX6_person_89 : decode cX6_person 89 = .ok (.iload_n 1, 1) := dk_27 (dk_at dksX6_person_3 21 rfl rfl)
theorem dX6_person_90 : decode cX6_person 90 = .ok (.iconst 5, 1) := dk_8 (dk_at dksX6_person_3 22 rfl rfl)
theorem dX6_person_91 : decode cX6_person 91 = .ok (.invokevirtual 271, 3) := dk_182 1 15 (dk_at dksX6_person_4 0 rfl rfl)
theorem dX6_person_94 : decode cX6_person 94 = .ok (.isub, 1) := dk_100 (dk_at dksX6_person_4 3 rfl rfl)
theorem dX6_person_95 : decode cX6_person 95 = .ok (.ireturn, 1) := dk_172 (dk_at dksX6_person_4 4 rfl rfl)
abbrev cX6_sums : ByteArray := prog_15_method_68_code
def yX6_sums : MethodName := ⟨RX6, "sums", "(I)I"⟩
def dkwX6_sums_4 : List UInt8 := [160, 0, 7, 29, 167, 0, 4, 28, 172]
abbrev dktX6_sums_4 : List UInt8 := dkwX6_sums_4 ++ []
def dkwX6_sums_3 : List UInt8 := [61, 21, 5, 29, 164, 0, 8, 21, 5, 167, 0, 4, 29, 62, 132, 4, 1, 167, 255, 196, 27, 5]
abbrev dktX6_sums_3 : List UInt8 := dkwX6_sums_3 ++ dktX6_sums_4
def dkwX6_sums_2 : List UInt8 := [16, 6, 167, 0, 4, 8, 182, 1, 85, 54, 5, 21, 5, 2, 160, 0, 6, 167, 0, 21, 28, 21, 5, 96]
abbrev dktX6_sums_2 : List UInt8 := dkwX6_sums_2 ++ dktX6_sums_3
def dkwX6_sums_1 : List UInt8 := [62, 3, 54, 4, 21, 4, 42, 180, 0, 7, 5, 46, 162, 0, 55, 42, 21, 4, 27, 4, 160, 0, 8]
abbrev dktX6_sums_1 : List UInt8 := dkwX6_sums_1 ++ dktX6_sums_2
def dkwX6_sums_0 : List UInt8 := [27, 3, 6, 184, 0, 66, 154, 0, 5, 2, 172, 27, 6, 160, 0, 8, 42, 182, 1, 79, 172, 3, 61, 3]
abbrev dktX6_sums_0 : List UInt8 := dkwX6_sums_0 ++ dktX6_sums_1
theorem dksX6_sums_0 : cX6_sums.data.toList.drop 0 = dktX6_sums_0 := by decide +kernel
theorem dksX6_sums_1 : cX6_sums.data.toList.drop 24 = dktX6_sums_1 := dk_seg dksX6_sums_0 24 rfl rfl
theorem dksX6_sums_2 : cX6_sums.data.toList.drop 47 = dktX6_sums_2 := dk_seg dksX6_sums_1 23 rfl rfl
theorem dksX6_sums_3 : cX6_sums.data.toList.drop 71 = dktX6_sums_3 := dk_seg dksX6_sums_2 24 rfl rfl
theorem dksX6_sums_4 : cX6_sums.data.toList.drop 93 = dktX6_sums_4 := dk_seg dksX6_sums_3 22 rfl rfl
theorem dX6_sums_0 : decode cX6_sums 0 = .ok (.iload_n 1, 1) := dk_27 (dk_at dksX6_sums_0 0 rfl rfl)
theorem dX6_sums_1 : decode cX6_sums 1 = .ok (.iconst 0, 1) := dk_3 (dk_at dksX6_sums_0 1 rfl rfl)
theorem dX6_sums_2 : decode cX6_sums 2 = .ok (.iconst 3, 1) := dk_6 (dk_at dksX6_sums_0 2 rfl rfl)
theorem dX6_sums_3 : decode cX6_sums 3 = .ok (.invokestatic 66, 3) := dk_184 0 66 (dk_at dksX6_sums_0 3 rfl rfl)
theorem dX6_sums_6 : decode cX6_sums 6 = .ok (.ifCond .ne 5, 3) := dk_154 0 5 (dk_at dksX6_sums_0 6 rfl rfl)
theorem dX6_sums_9 : decode cX6_sums 9 = .ok (.iconst (-1), 1) := dk_2 (dk_at dksX6_sums_0 9 rfl rfl)
theorem dX6_sums_10 : decode cX6_sums 10 = .ok (.ireturn, 1) := dk_172 (dk_at dksX6_sums_0 10 rfl rfl)
theorem dX6_sums_11 : decode cX6_sums 11 = .ok (.iload_n 1, 1) := dk_27 (dk_at dksX6_sums_0 11 rfl rfl)
theorem dX6_sums_12 : decode cX6_sums 12 = .ok (.iconst 3, 1) := dk_6 (dk_at dksX6_sums_0 12 rfl rfl)
theorem dX6_sums_13 : decode cX6_sums 13 = .ok (.if_icmp .ne 8, 3) := dk_160 0 8 (dk_at dksX6_sums_0 13 rfl rfl)
theorem dX6_sums_16 : decode cX6_sums 16 = .ok (.aload_n 0, 1) := dk_42 (dk_at dksX6_sums_0 16 rfl rfl)
theorem dX6_sums_17 : decode cX6_sums 17 = .ok (.invokevirtual 335, 3) := dk_182 1 79 (dk_at dksX6_sums_0 17 rfl rfl)
theorem dX6_sums_20 : decode cX6_sums 20 = .ok (.ireturn, 1) := dk_172 (dk_at dksX6_sums_0 20 rfl rfl)
theorem dX6_sums_21 : decode cX6_sums 21 = .ok (.iconst 0, 1) := dk_3 (dk_at dksX6_sums_0 21 rfl rfl)
theorem dX6_sums_22 : decode cX6_sums 22 = .ok (.istore_n 2, 1) := dk_61 (dk_at dksX6_sums_0 22 rfl rfl)
theorem dX6_sums_23 : decode cX6_sums 23 = .ok (.iconst 0, 1) := dk_3 (dk_at dksX6_sums_0 23 rfl rfl)
theorem dX6_sums_24 : decode cX6_sums 24 = .ok (.istore_n 3, 1) := dk_62 (dk_at dksX6_sums_1 0 rfl rfl)
theorem dX6_sums_25 : decode cX6_sums 25 = .ok (.iconst 0, 1) := dk_3 (dk_at dksX6_sums_1 1 rfl rfl)
theorem dX6_sums_26 : decode cX6_sums 26 = .ok (.istore 4, 2) := dk_54 4 (dk_at dksX6_sums_1 2 rfl rfl)
theorem dX6_sums_28 : decode cX6_sums 28 = .ok (.iload 4, 2) := dk_21 4 (dk_at dksX6_sums_1 4 rfl rfl)
theorem dX6_sums_30 : decode cX6_sums 30 = .ok (.aload_n 0, 1) := dk_42 (dk_at dksX6_sums_1 6 rfl rfl)
theorem dX6_sums_31 : decode cX6_sums 31 = .ok (.getfield 7, 3) := dk_180 0 7 (dk_at dksX6_sums_1 7 rfl rfl)
theorem dX6_sums_34 : decode cX6_sums 34 = .ok (.iconst 2, 1) := dk_5 (dk_at dksX6_sums_1 10 rfl rfl)
theorem dX6_sums_35 : decode cX6_sums 35 = .ok (.iaload, 1) := dk_46 (dk_at dksX6_sums_1 11 rfl rfl)
theorem dX6_sums_36 : decode cX6_sums 36 = .ok (.if_icmp .ge 55, 3) := dk_162 0 55 (dk_at dksX6_sums_1 12 rfl rfl)
theorem dX6_sums_39 : decode cX6_sums 39 = .ok (.aload_n 0, 1) := dk_42 (dk_at dksX6_sums_1 15 rfl rfl)
theorem dX6_sums_40 : decode cX6_sums 40 = .ok (.iload 4, 2) := dk_21 4 (dk_at dksX6_sums_1 16 rfl rfl)
theorem dX6_sums_42 : decode cX6_sums 42 = .ok (.iload_n 1, 1) := dk_27 (dk_at dksX6_sums_1 18 rfl rfl)
theorem dX6_sums_43 : decode cX6_sums 43 = .ok (.iconst 1, 1) := dk_4 (dk_at dksX6_sums_1 19 rfl rfl)
theorem dX6_sums_44 : decode cX6_sums 44 = .ok (.if_icmp .ne 8, 3) := dk_160 0 8 (dk_at dksX6_sums_1 20 rfl rfl)
theorem dX6_sums_47 : decode cX6_sums 47 = .ok (.bipush 6, 2) := dk_16 6 (dk_at dksX6_sums_2 0 rfl rfl)
theorem dX6_sums_49 : decode cX6_sums 49 = .ok (.goto 4, 3) := dk_167 0 4 (dk_at dksX6_sums_2 2 rfl rfl)
theorem dX6_sums_52 : decode cX6_sums 52 = .ok (.iconst 5, 1) := dk_8 (dk_at dksX6_sums_2 5 rfl rfl)
theorem dX6_sums_53 : decode cX6_sums 53 = .ok (.invokevirtual 341, 3) := dk_182 1 85 (dk_at dksX6_sums_2 6 rfl rfl)
theorem dX6_sums_56 : decode cX6_sums 56 = .ok (.istore 5, 2) := dk_54 5 (dk_at dksX6_sums_2 9 rfl rfl)
theorem dX6_sums_58 : decode cX6_sums 58 = .ok (.iload 5, 2) := dk_21 5 (dk_at dksX6_sums_2 11 rfl rfl)
theorem dX6_sums_60 : decode cX6_sums 60 = .ok (.iconst (-1), 1) := dk_2 (dk_at dksX6_sums_2 13 rfl rfl)
theorem dX6_sums_61 : decode cX6_sums 61 = .ok (.if_icmp .ne 6, 3) := dk_160 0 6 (dk_at dksX6_sums_2 14 rfl rfl)
theorem dX6_sums_64 : decode cX6_sums 64 = .ok (.goto 21, 3) := dk_167 0 21 (dk_at dksX6_sums_2 17 rfl rfl)
theorem dX6_sums_67 : decode cX6_sums 67 = .ok (.iload_n 2, 1) := dk_28 (dk_at dksX6_sums_2 20 rfl rfl)
theorem dX6_sums_68 : decode cX6_sums 68 = .ok (.iload 5, 2) := dk_21 5 (dk_at dksX6_sums_2 21 rfl rfl)
theorem dX6_sums_70 : decode cX6_sums 70 = .ok (.iadd, 1) := dk_96 (dk_at dksX6_sums_2 23 rfl rfl)
theorem dX6_sums_71 : decode cX6_sums 71 = .ok (.istore_n 2, 1) := dk_61 (dk_at dksX6_sums_3 0 rfl rfl)
theorem dX6_sums_72 : decode cX6_sums 72 = .ok (.iload 5, 2) := dk_21 5 (dk_at dksX6_sums_3 1 rfl rfl)
theorem dX6_sums_74 : decode cX6_sums 74 = .ok (.iload_n 3, 1) := dk_29 (dk_at dksX6_sums_3 3 rfl rfl)
theorem dX6_sums_75 : decode cX6_sums 75 = .ok (.if_icmp .le 8, 3) := dk_164 0 8 (dk_at dksX6_sums_3 4 rfl rfl)
theorem dX6_sums_78 : decode cX6_sums 78 = .ok (.iload 5, 2) := dk_21 5 (dk_at dksX6_sums_3 7 rfl rfl)
theorem dX6_sums_80 : decode cX6_sums 80 = .ok (.goto 4, 3) := dk_167 0 4 (dk_at dksX6_sums_3 9 rfl rfl)
theorem dX6_sums_83 : decode cX6_sums 83 = .ok (.iload_n 3, 1) := dk_29 (dk_at dksX6_sums_3 12 rfl rfl)
theorem dX6_sums_84 : decode cX6_sums 84 = .ok (.istore_n 3, 1) := dk_62 (dk_at dksX6_sums_3 13 rfl rfl)
theorem dX6_sums_85 : decode cX6_sums 85 = .ok (.iinc 4 1, 3) := dk_132 4 1 (dk_at dksX6_sums_3 14 rfl rfl)
theorem dX6_sums_88 : decode cX6_sums 88 = .ok (.goto (-60), 3) := dk_167 255 196 (dk_at dksX6_sums_3 17 rfl rfl)
theorem dX6_sums_91 : decode cX6_sums 91 = .ok (.iload_n 1, 1) := dk_27 (dk_at dksX6_sums_3 20 rfl rfl)
theorem dX6_sums_92 : decode cX6_sums 92 = .ok (.iconst 2, 1) := dk_5 (dk_at dksX6_sums_3 21 rfl rfl)
theorem dX6_sums_93 : decode cX6_sums 93 = .ok (.if_icmp .ne 7, 3) := dk_160 0 7 (dk_at dksX6_sums_4 0 rfl rfl)
theorem dX6_sums_96 : decode cX6_sums 96 = .ok (.iload_n 3, 1) := dk_29 (dk_at dksX6_sums_4 3 rfl rfl)
theorem dX6_sums_97 : decode cX6_sums 97 = .ok (.goto 4, 3) := dk_167 0 4 (dk_at dksX6_sums_4 4 rfl rfl)
theorem dX6_sums_100 : decode cX6_sums 100 = .ok (.iload_n 2, 1) := dk_28 (dk_at dksX6_sums_4 7 rfl rfl)
theorem dX6_sums_101 : decode cX6_sums 101 = .ok (.ireturn, 1) := dk_172 (dk_at dksX6_sums_4 8 rfl rfl)
abbrev cX6_thought : ByteArray := prog_15_method_74_code
def yX6_thought : MethodName := ⟨RX6, "thought", "(II)I"⟩
def dkwX6_thought_5 : List UInt8 := [29, 172]
abbrev dktX6_thought_5 : List UInt8 := dkwX6_thought_5 ++ []
def dkwX6_thought_4 : List UInt8 := [164, 0, 12, 42, 21, 4, 182, 1, 91, 167, 0, 4, 29, 62, 132, 4, 1, 167, 255, 216, 42, 182, 1, 103]
abbrev dktX6_thought_4 : List UInt8 := dkwX6_thought_4 ++ dktX6_thought_5
def dkwX6_thought_3 : List UInt8 := [21, 4, 42, 180, 0, 7, 5, 46, 162, 0, 35, 28, 4, 160, 0, 30, 42, 21, 4, 182, 1, 91, 29]
abbrev dktX6_thought_3 : List UInt8 := dkwX6_thought_3 ++ dktX6_thought_4
def dkwX6_thought_2 : List UInt8 := [2, 182, 1, 100, 167, 0, 16, 28, 5, 160, 0, 10, 42, 180, 1, 88, 167, 0, 4, 3, 62, 3, 54, 4]
abbrev dktX6_thought_2 : List UInt8 := dkwX6_thought_2 ++ dktX6_thought_3
def dkwX6_thought_1 : List UInt8 := [42, 180, 0, 7, 7, 27, 79, 2, 62, 42, 17, 11, 184, 182, 1, 97, 153, 0, 75, 28, 154, 0, 11, 42]
abbrev dktX6_thought_1 : List UInt8 := dkwX6_thought_1 ++ dktX6_thought_2
def dkwX6_thought_0 : List UInt8 := [27, 3, 5, 184, 0, 66, 153, 0, 12, 28, 3, 5, 184, 0, 66, 154, 0, 5, 2, 172, 42, 182, 1, 94]
abbrev dktX6_thought_0 : List UInt8 := dkwX6_thought_0 ++ dktX6_thought_1
theorem dksX6_thought_0 : cX6_thought.data.toList.drop 0 = dktX6_thought_0 := by decide +kernel
theorem dksX6_thought_1 : cX6_thought.data.toList.drop 24 = dktX6_thought_1 := dk_seg dksX6_thought_0 24 rfl rfl
theorem dksX6_thought_2 : cX6_thought.data.toList.drop 48 = dktX6_thought_2 := dk_seg dksX6_thought_1 24 rfl rfl
theorem dksX6_thought_3 : cX6_thought.data.toList.drop 72 = dktX6_thought_3 := dk_seg dksX6_thought_2 24 rfl rfl
theorem dksX6_thought_4 : cX6_thought.data.toList.drop 95 = dktX6_thought_4 := dk_seg dksX6_thought_3 23 rfl rfl
theorem dksX6_thought_5 : cX6_thought.data.toList.drop 119 = dktX6_thought_5 := dk_seg dksX6_thought_4 24 rfl rfl
theorem dX6_thought_0 : decode cX6_thought 0 = .ok (.iload_n 1, 1) := dk_27 (dk_at dksX6_thought_0 0 rfl rfl)
theorem dX6_thought_1 : decode cX6_thought 1 = .ok (.iconst 0, 1) := dk_3 (dk_at dksX6_thought_0 1 rfl rfl)
theorem dX6_thought_2 : decode cX6_thought 2 = .ok (.iconst 2, 1) := dk_5 (dk_at dksX6_thought_0 2 rfl rfl)
theorem dX6_thought_3 : decode cX6_thought 3 = .ok (.invokestatic 66, 3) := dk_184 0 66 (dk_at dksX6_thought_0 3 rfl rfl)
theorem dX6_thought_6 : decode cX6_thought 6 = .ok (.ifCond .eq 12, 3) := dk_153 0 12 (dk_at dksX6_thought_0 6 rfl rfl)
theorem dX6_thought_9 : decode cX6_thought 9 = .ok (.iload_n 2, 1) := dk_28 (dk_at dksX6_thought_0 9 rfl rfl)
theorem dX6_thought_10 : decode cX6_thought 10 = .ok (.iconst 0, 1) := dk_3 (dk_at dksX6_thought_0 10 rfl rfl)
theorem dX6_thought_11 : decode cX6_thought 11 = .ok (.iconst 2, 1) := dk_5 (dk_at dksX6_thought_0 11 rfl rfl)
theorem dX6_thought_12 : decode cX6_thought 12 = .ok (.invokestatic 66, 3) := dk_184 0 66 (dk_at dksX6_thought_0 12 rfl rfl)
theorem dX6_thought_15 : decode cX6_thought 15 = .ok (.ifCond .ne 5, 3) := dk_154 0 5 (dk_at dksX6_thought_0 15 rfl rfl)
theorem dX6_thought_18 : decode cX6_thought 18 = .ok (.iconst (-1), 1) := dk_2 (dk_at dksX6_thought_0 18 rfl rfl)
theorem dX6_thought_19 : decode cX6_thought 19 = .ok (.ireturn, 1) := dk_172 (dk_at dksX6_thought_0 19 rfl rfl)
theorem dX6_thought_20 : decode cX6_thought 20 = .ok (.aload_n 0, 1) := dk_42 (dk_at dksX6_thought_0 20 rfl rfl)
theorem dX6_thought_21 : decode cX6_thought 21 = .ok (.invokevirtual 350, 3) := dk_182 1 94 (dk_at dksX6_thought_0 21 rfl rfl)
theorem dX6_thought_24 : decode cX6_thought 24 = .ok (.aload_n 0, 1) := dk_42 (dk_at dksX6_thought_1 0 rfl rfl)
theorem dX6_thought_25 : decode cX6_thought 25 = .ok (.getfield 7, 3) := dk_180 0 7 (dk_at dksX6_thought_1 1 rfl rfl)
theorem dX6_thought_28 : decode cX6_thought 28 = .ok (.iconst 4, 1) := dk_7 (dk_at dksX6_thought_1 4 rfl rfl)
theorem dX6_thought_29 : decode cX6_thought 29 = .ok (.iload_n 1, 1) := dk_27 (dk_at dksX6_thought_1 5 rfl rfl)
theorem dX6_thought_30 : decode cX6_thought 30 = .ok (.iastore, 1) := dk_79 (dk_at dksX6_thought_1 6 rfl rfl)
theorem dX6_thought_31 : decode cX6_thought 31 = .ok (.iconst (-1), 1) := dk_2 (dk_at dksX6_thought_1 7 rfl rfl)
theorem dX6_thought_32 : decode cX6_thought 32 = .ok (.istore_n 3, 1) := dk_62 (dk_at dksX6_thought_1 8 rfl rfl)
theorem dX6_thought_33 : decode cX6_thought 33 = .ok (.aload_n 0, 1) := dk_42 (dk_at dksX6_thought_1 9 rfl rfl)
theorem dX6_thought_34 : decode cX6_thought 34 = .ok (.sipush 3000, 3) := dk_17 11 184 (dk_at dksX6_thought_1 10 rfl rfl)
theorem dX6_thought_37 : decode cX6_thought 37 = .ok (.invokevirtual 353, 3) := dk_182 1 97 (dk_at dksX6_thought_1 13 rfl rfl)
theorem dX6_thought_40 : decode cX6_thought 40 = .ok (.ifCond .eq 75, 3) := dk_153 0 75 (dk_at dksX6_thought_1 16 rfl rfl)
theorem dX6_thought_43 : decode cX6_thought 43 = .ok (.iload_n 2, 1) := dk_28 (dk_at dksX6_thought_1 19 rfl rfl)
theorem dX6_thought_44 : decode cX6_thought 44 = .ok (.ifCond .ne 11, 3) := dk_154 0 11 (dk_at dksX6_thought_1 20 rfl rfl)
theorem dX6_thought_47 : decode cX6_thought 47 = .ok (.aload_n 0, 1) := dk_42 (dk_at dksX6_thought_1 23 rfl rfl)
theorem dX6_thought_48 : decode cX6_thought 48 = .ok (.iconst (-1), 1) := dk_2 (dk_at dksX6_thought_2 0 rfl rfl)
theorem dX6_thought_49 : decode cX6_thought 49 = .ok (.invokevirtual 356, 3) := dk_182 1 100 (dk_at dksX6_thought_2 1 rfl rfl)
theorem dX6_thought_52 : decode cX6_thought 52 = .ok (.goto 16, 3) := dk_167 0 16 (dk_at dksX6_thought_2 4 rfl rfl)
theorem dX6_thought_55 : decode cX6_thought 55 = .ok (.iload_n 2, 1) := dk_28 (dk_at dksX6_thought_2 7 rfl rfl)
theorem dX6_thought_56 : decode cX6_thought 56 = .ok (.iconst 2, 1) := dk_5 (dk_at dksX6_thought_2 8 rfl rfl)
theorem dX6_thought_57 : decode cX6_thought 57 = .ok (.if_icmp .ne 10, 3) := dk_160 0 10 (dk_at dksX6_thought_2 9 rfl rfl)
theorem dX6_thought_60 : decode cX6_thought 60 = .ok (.aload_n 0, 1) := dk_42 (dk_at dksX6_thought_2 12 rfl rfl)
theorem dX6_thought_61 : decode cX6_thought 61 = .ok (.getfield 344, 3) := dk_180 1 88 (dk_at dksX6_thought_2 13 rfl rfl)
theorem dX6_thought_64 : decode cX6_thought 64 = .ok (.goto 4, 3) := dk_167 0 4 (dk_at dksX6_thought_2 16 rfl rfl)
theorem dX6_thought_67 : decode cX6_thought 67 = .ok (.iconst 0, 1) := dk_3 (dk_at dksX6_thought_2 19 rfl rfl)
theorem dX6_thought_68 : decode cX6_thought 68 = .ok (.istore_n 3, 1) := dk_62 (dk_at dksX6_thought_2 20 rfl rfl)
theorem dX6_thought_69 : decode cX6_thought 69 = .ok (.iconst 0, 1) := dk_3 (dk_at dksX6_thought_2 21 rfl rfl)
theorem dX6_thought_70 : decode cX6_thought 70 = .ok (.istore 4, 2) := dk_54 4 (dk_at dksX6_thought_2 22 rfl rfl)
theorem dX6_thought_72 : decode cX6_thought 72 = .ok (.iload 4, 2) := dk_21 4 (dk_at dksX6_thought_3 0 rfl rfl)
theorem dX6_thought_74 : decode cX6_thought 74 = .ok (.aload_n 0, 1) := dk_42 (dk_at dksX6_thought_3 2 rfl rfl)
theorem dX6_thought_75 : decode cX6_thought 75 = .ok (.getfield 7, 3) := dk_180 0 7 (dk_at dksX6_thought_3 3 rfl rfl)
theorem dX6_thought_78 : decode cX6_thought 78 = .ok (.iconst 2, 1) := dk_5 (dk_at dksX6_thought_3 6 rfl rfl)
theorem dX6_thought_79 : decode cX6_thought 79 = .ok (.iaload, 1) := dk_46 (dk_at dksX6_thought_3 7 rfl rfl)
theorem dX6_thought_80 : decode cX6_thought 80 = .ok (.if_icmp .ge 35, 3) := dk_162 0 35 (dk_at dksX6_thought_3 8 rfl rfl)
theorem dX6_thought_83 : decode cX6_thought 83 = .ok (.iload_n 2, 1) := dk_28 (dk_at dksX6_thought_3 11 rfl rfl)
theorem dX6_thought_84 : decode cX6_thought 84 = .ok (.iconst 1, 1) := dk_4 (dk_at dksX6_thought_3 12 rfl rfl)
theorem dX6_thought_85 : decode cX6_thought 85 = .ok (.if_icmp .ne 30, 3) := dk_160 0 30 (dk_at dksX6_thought_3 13 rfl rfl)
theorem dX6_thought_88 : decode cX6_thought 88 = .ok (.aload_n 0, 1) := dk_42 (dk_at dksX6_thought_3 16 rfl rfl)
theorem dX6_thought_89 : decode cX6_thought 89 = .ok (.iload 4, 2) := dk_21 4 (dk_at dksX6_thought_3 17 rfl rfl)
theorem dX6_thought_91 : decode cX6_thought 91 = .ok (.invokevirtual 347, 3) := dk_182 1 91 (dk_at dksX6_thought_3 19 rfl rfl)
theorem dX6_thought_94 : decode cX6_thought 94 = .ok (.iload_n 3, 1) := dk_29 (dk_at dksX6_thought_3 22 rfl rfl)
theorem dX6_thought_95 : decode cX6_thought 95 = .ok (.if_icmp .le 12, 3) := dk_164 0 12 (dk_at dksX6_thought_4 0 rfl rfl)
theorem dX6_thought_98 : decode cX6_thought 98 = .ok (.aload_n 0, 1) := dk_42 (dk_at dksX6_thought_4 3 rfl rfl)
theorem dX6_thought_99 : decode cX6_thought 99 = .ok (.iload 4, 2) := dk_21 4 (dk_at dksX6_thought_4 4 rfl rfl)
theorem dX6_thought_101 : decode cX6_thought 101 = .ok (.invokevirtual 347, 3) := dk_182 1 91 (dk_at dksX6_thought_4 6 rfl rfl)
theorem dX6_thought_104 : decode cX6_thought 104 = .ok (.goto 4, 3) := dk_167 0 4 (dk_at dksX6_thought_4 9 rfl rfl)
theorem dX6_thought_107 : decode cX6_thought 107 = .ok (.iload_n 3, 1) := dk_29 (dk_at dksX6_thought_4 12 rfl rfl)
theorem dX6_thought_108 : decode cX6_thought 108 = .ok (.istore_n 3, 1) := dk_62 (dk_at dksX6_thought_4 13 rfl rfl)
theorem dX6_thought_109 : decode cX6_thought 109 = .ok (.iinc 4 1, 3) := dk_132 4 1 (dk_at dksX6_thought_4 14 rfl rfl)
theorem dX6_thought_112 : decode cX6_thought 112 = .ok (.goto (-40), 3) := dk_167 255 216 (dk_at dksX6_thought_4 17 rfl rfl)
theorem dX6_thought_115 : decode cX6_thought 115 = .ok (.aload_n 0, 1) := dk_42 (dk_at dksX6_thought_4 20 rfl rfl)
theorem dX6_thought_116 : decode cX6_thought 116 = .ok (.invokevirtual 359, 3) := dk_182 1 103 (dk_at dksX6_thought_4 21 rfl rfl)
theorem dX6_thought_119 : decode cX6_thought 119 = .ok (.iload_n 3, 1) := dk_29 (dk_at dksX6_thought_5 0 rfl rfl)
theorem dX6_thought_120 : decode cX6_thought 120 = .ok (.ireturn, 1) := dk_172 (dk_at dksX6_thought_5 1 rfl rfl)
abbrev cX6_setsOut : ByteArray := prog_15_method_69_code
def yX6_setsOut : MethodName := ⟨RX6, "setsOut", "()V"⟩
def dkwX6_setsOut_1 : List UInt8 := [167, 255, 234, 177]
abbrev dktX6_setsOut_1 : List UInt8 := dkwX6_setsOut_1 ++ []
def dkwX6_setsOut_0 : List UInt8 := [3, 60, 27, 17, 5, 20, 162, 0, 21, 42, 180, 0, 16, 27, 42, 180, 0, 7, 27, 46, 79, 132, 1, 1]
abbrev dktX6_setsOut_0 : List UInt8 := dkwX6_setsOut_0 ++ dktX6_setsOut_1
theorem dksX6_setsOut_0 : cX6_setsOut.data.toList.drop 0 = dktX6_setsOut_0 := by decide +kernel
theorem dksX6_setsOut_1 : cX6_setsOut.data.toList.drop 24 = dktX6_setsOut_1 := dk_seg dksX6_setsOut_0 24 rfl rfl
theorem dX6_setsOut_0 : decode cX6_setsOut 0 = .ok (.iconst 0, 1) := dk_3 (dk_at dksX6_setsOut_0 0 rfl rfl)
theorem dX6_setsOut_1 : decode cX6_setsOut 1 = .ok (.istore_n 1, 1) := dk_60 (dk_at dksX6_setsOut_0 1 rfl rfl)
theorem dX6_setsOut_2 : decode cX6_setsOut 2 = .ok (.iload_n 1, 1) := dk_27 (dk_at dksX6_setsOut_0 2 rfl rfl)
theorem dX6_setsOut_3 : decode cX6_setsOut 3 = .ok (.sipush 1300, 3) := dk_17 5 20 (dk_at dksX6_setsOut_0 3 rfl rfl)
theorem dX6_setsOut_6 : decode cX6_setsOut 6 = .ok (.if_icmp .ge 21, 3) := dk_162 0 21 (dk_at dksX6_setsOut_0 6 rfl rfl)
theorem dX6_setsOut_9 : decode cX6_setsOut 9 = .ok (.aload_n 0, 1) := dk_42 (dk_at dksX6_setsOut_0 9 rfl rfl)
theorem dX6_setsOut_10 : decode cX6_setsOut 10 = .ok (.getfield 16, 3) := dk_180 0 16 (dk_at dksX6_setsOut_0 10 rfl rfl)
theorem dX6_setsOut_13 : decode cX6_setsOut 13 = .ok (.iload_n 1, 1) := dk_27 (dk_at dksX6_setsOut_0 13 rfl rfl)
theorem dX6_setsOut_14 : decode cX6_setsOut 14 = .ok (.aload_n 0, 1) := dk_42 (dk_at dksX6_setsOut_0 14 rfl rfl)
theorem dX6_setsOut_15 : decode cX6_setsOut 15 = .ok (.getfield 7, 3) := dk_180 0 7 (dk_at dksX6_setsOut_0 15 rfl rfl)
theorem dX6_setsOut_18 : decode cX6_setsOut 18 = .ok (.iload_n 1, 1) := dk_27 (dk_at dksX6_setsOut_0 18 rfl rfl)
theorem dX6_setsOut_19 : decode cX6_setsOut 19 = .ok (.iaload, 1) := dk_46 (dk_at dksX6_setsOut_0 19 rfl rfl)
theorem dX6_setsOut_20 : decode cX6_setsOut 20 = .ok (.iastore, 1) := dk_79 (dk_at dksX6_setsOut_0 20 rfl rfl)
theorem dX6_setsOut_21 : decode cX6_setsOut 21 = .ok (.iinc 1 1, 3) := dk_132 1 1 (dk_at dksX6_setsOut_0 21 rfl rfl)
theorem dX6_setsOut_24 : decode cX6_setsOut 24 = .ok (.goto (-22), 3) := dk_167 255 234 (dk_at dksX6_setsOut_1 0 rfl rfl)
theorem dX6_setsOut_27 : decode cX6_setsOut 27 = .ok (.return_, 1) := dk_177 (dk_at dksX6_setsOut_1 3 rfl rfl)
abbrev cX6_ends : ByteArray := prog_15_method_71_code
def yX6_ends : MethodName := ⟨RX6, "ends", "(I)Z"⟩
def dkwX6_ends_2 : List UInt8 := [42, 180, 0, 7, 5, 46, 160, 0, 7, 4, 167, 0, 4, 3, 172]
abbrev dktX6_ends_2 : List UInt8 := dkwX6_ends_2 ++ []
def dkwX6_ends_1 : List UInt8 := [162, 0, 20, 42, 182, 1, 82, 42, 89, 180, 1, 88, 4, 96, 181, 1, 88, 167, 255, 221, 42, 182, 1, 79]
abbrev dktX6_ends_1 : List UInt8 := dkwX6_ends_1 ++ dktX6_ends_2
def dkwX6_ends_0 : List UInt8 := [42, 3, 181, 1, 88, 42, 182, 1, 79, 42, 180, 0, 7, 5, 46, 162, 0, 28, 42, 180, 1, 88, 27]
abbrev dktX6_ends_0 : List UInt8 := dkwX6_ends_0 ++ dktX6_ends_1
theorem dksX6_ends_0 : cX6_ends.data.toList.drop 0 = dktX6_ends_0 := by decide +kernel
theorem dksX6_ends_1 : cX6_ends.data.toList.drop 23 = dktX6_ends_1 := dk_seg dksX6_ends_0 23 rfl rfl
theorem dksX6_ends_2 : cX6_ends.data.toList.drop 47 = dktX6_ends_2 := dk_seg dksX6_ends_1 24 rfl rfl
theorem dX6_ends_0 : decode cX6_ends 0 = .ok (.aload_n 0, 1) := dk_42 (dk_at dksX6_ends_0 0 rfl rfl)
theorem dX6_ends_1 : decode cX6_ends 1 = .ok (.iconst 0, 1) := dk_3 (dk_at dksX6_ends_0 1 rfl rfl)
theorem dX6_ends_2 : decode cX6_ends 2 = .ok (.putfield 344, 3) := dk_181 1 88 (dk_at dksX6_ends_0 2 rfl rfl)
theorem dX6_ends_5 : decode cX6_ends 5 = .ok (.aload_n 0, 1) := dk_42 (dk_at dksX6_ends_0 5 rfl rfl)
theorem dX6_ends_6 : decode cX6_ends 6 = .ok (.invokevirtual 335, 3) := dk_182 1 79 (dk_at dksX6_ends_0 6 rfl rfl)
theorem dX6_ends_9 : decode cX6_ends 9 = .ok (.aload_n 0, 1) := dk_42 (dk_at dksX6_ends_0 9 rfl rfl)
theorem dX6_ends_10 : decode cX6_ends 10 = .ok (.getfield 7, 3) := dk_180 0 7 (dk_at dksX6_ends_0 10 rfl rfl)
theorem dX6_ends_13 : decode cX6_ends 13 = .ok (.iconst 2, 1) := dk_5 (dk_at dksX6_ends_0 13 rfl rfl)
theorem dX6_ends_14 : decode cX6_ends 14 = .ok (.iaload, 1) := dk_46 (dk_at dksX6_ends_0 14 rfl rfl)
theorem dX6_ends_15 : decode cX6_ends 15 = .ok (.if_icmp .ge 28, 3) := dk_162 0 28 (dk_at dksX6_ends_0 15 rfl rfl)
theorem dX6_ends_18 : decode cX6_ends 18 = .ok (.aload_n 0, 1) := dk_42 (dk_at dksX6_ends_0 18 rfl rfl)
theorem dX6_ends_19 : decode cX6_ends 19 = .ok (.getfield 344, 3) := dk_180 1 88 (dk_at dksX6_ends_0 19 rfl rfl)
theorem dX6_ends_22 : decode cX6_ends 22 = .ok (.iload_n 1, 1) := dk_27 (dk_at dksX6_ends_0 22 rfl rfl)
theorem dX6_ends_23 : decode cX6_ends 23 = .ok (.if_icmp .ge 20, 3) := dk_162 0 20 (dk_at dksX6_ends_1 0 rfl rfl)
theorem dX6_ends_26 : decode cX6_ends 26 = .ok (.aload_n 0, 1) := dk_42 (dk_at dksX6_ends_1 3 rfl rfl)
theorem dX6_ends_27 : decode cX6_ends 27 = .ok (.invokevirtual 338, 3) := dk_182 1 82 (dk_at dksX6_ends_1 4 rfl rfl)
theorem dX6_ends_30 : decode cX6_ends 30 = .ok (.aload_n 0, 1) := dk_42 (dk_at dksX6_ends_1 7 rfl rfl)
theorem dX6_ends_31 : decode cX6_ends 31 = .ok (.dup, 1) := dk_89 (dk_at dksX6_ends_1 8 rfl rfl)
theorem dX6_ends_32 : decode cX6_ends 32 = .ok (.getfield 344, 3) := dk_180 1 88 (dk_at dksX6_ends_1 9 rfl rfl)
theorem dX6_ends_35 : decode cX6_ends 35 = .ok (.iconst 1, 1) := dk_4 (dk_at dksX6_ends_1 12 rfl rfl)
theorem dX6_ends_36 : decode cX6_ends 36 = .ok (.iadd, 1) := dk_96 (dk_at dksX6_ends_1 13 rfl rfl)
theorem dX6_ends_37 : decode cX6_ends 37 = .ok (.putfield 344, 3) := dk_181 1 88 (dk_at dksX6_ends_1 14 rfl rfl)
theorem dX6_ends_40 : decode cX6_ends 40 = .ok (.goto (-35), 3) := dk_167 255 221 (dk_at dksX6_ends_1 17 rfl rfl)
theorem dX6_ends_43 : decode cX6_ends 43 = .ok (.aload_n 0, 1) := dk_42 (dk_at dksX6_ends_1 20 rfl rfl)
theorem dX6_ends_44 : decode cX6_ends 44 = .ok (.invokevirtual 335, 3) := dk_182 1 79 (dk_at dksX6_ends_1 21 rfl rfl)
theorem dX6_ends_47 : decode cX6_ends 47 = .ok (.aload_n 0, 1) := dk_42 (dk_at dksX6_ends_2 0 rfl rfl)
theorem dX6_ends_48 : decode cX6_ends 48 = .ok (.getfield 7, 3) := dk_180 0 7 (dk_at dksX6_ends_2 1 rfl rfl)
theorem dX6_ends_51 : decode cX6_ends 51 = .ok (.iconst 2, 1) := dk_5 (dk_at dksX6_ends_2 4 rfl rfl)
theorem dX6_ends_52 : decode cX6_ends 52 = .ok (.iaload, 1) := dk_46 (dk_at dksX6_ends_2 5 rfl rfl)
theorem dX6_ends_53 : decode cX6_ends 53 = .ok (.if_icmp .ne 7, 3) := dk_160 0 7 (dk_at dksX6_ends_2 6 rfl rfl)
theorem dX6_ends_56 : decode cX6_ends 56 = .ok (.iconst 1, 1) := dk_4 (dk_at dksX6_ends_2 9 rfl rfl)
theorem dX6_ends_57 : decode cX6_ends 57 = .ok (.goto 4, 3) := dk_167 0 4 (dk_at dksX6_ends_2 10 rfl rfl)
theorem dX6_ends_60 : decode cX6_ends 60 = .ok (.iconst 0, 1) := dk_3 (dk_at dksX6_ends_2 13 rfl rfl)
theorem dX6_ends_61 : decode cX6_ends 61 = .ok (.ireturn, 1) := dk_172 (dk_at dksX6_ends_2 14 rfl rfl)
abbrev cX6_overAll : ByteArray := prog_15_method_73_code
def yX6_overAll : MethodName := ⟨RX6, "overAll", "(I)I"⟩
def dkwX6_overAll_1 : List UInt8 := [42, 29, 182, 1, 91, 96, 61, 132, 3, 1, 167, 255, 226, 28, 172]
abbrev dktX6_overAll_1 : List UInt8 := dkwX6_overAll_1 ++ []
def dkwX6_overAll_0 : List UInt8 := [3, 61, 3, 62, 29, 42, 180, 0, 7, 5, 46, 162, 0, 26, 28, 29, 27, 160, 0, 7, 3, 167, 0, 8]
abbrev dktX6_overAll_0 : List UInt8 := dkwX6_overAll_0 ++ dktX6_overAll_1
theorem dksX6_overAll_0 : cX6_overAll.data.toList.drop 0 = dktX6_overAll_0 := by decide +kernel
theorem dksX6_overAll_1 : cX6_overAll.data.toList.drop 24 = dktX6_overAll_1 := dk_seg dksX6_overAll_0 24 rfl rfl
theorem dX6_overAll_0 : decode cX6_overAll 0 = .ok (.iconst 0, 1) := dk_3 (dk_at dksX6_overAll_0 0 rfl rfl)
theorem dX6_overAll_1 : decode cX6_overAll 1 = .ok (.istore_n 2, 1) := dk_61 (dk_at dksX6_overAll_0 1 rfl rfl)
theorem dX6_overAll_2 : decode cX6_overAll 2 = .ok (.iconst 0, 1) := dk_3 (dk_at dksX6_overAll_0 2 rfl rfl)
theorem dX6_overAll_3 : decode cX6_overAll 3 = .ok (.istore_n 3, 1) := dk_62 (dk_at dksX6_overAll_0 3 rfl rfl)
theorem dX6_overAll_4 : decode cX6_overAll 4 = .ok (.iload_n 3, 1) := dk_29 (dk_at dksX6_overAll_0 4 rfl rfl)
theorem dX6_overAll_5 : decode cX6_overAll 5 = .ok (.aload_n 0, 1) := dk_42 (dk_at dksX6_overAll_0 5 rfl rfl)
theorem dX6_overAll_6 : decode cX6_overAll 6 = .ok (.getfield 7, 3) := dk_180 0 7 (dk_at dksX6_overAll_0 6 rfl rfl)
theorem dX6_overAll_9 : decode cX6_overAll 9 = .ok (.iconst 2, 1) := dk_5 (dk_at dksX6_overAll_0 9 rfl rfl)
theorem dX6_overAll_10 : decode cX6_overAll 10 = .ok (.iaload, 1) := dk_46 (dk_at dksX6_overAll_0 10 rfl rfl)
theorem dX6_overAll_11 : decode cX6_overAll 11 = .ok (.if_icmp .ge 26, 3) := dk_162 0 26 (dk_at dksX6_overAll_0 11 rfl rfl)
theorem dX6_overAll_14 : decode cX6_overAll 14 = .ok (.iload_n 2, 1) := dk_28 (dk_at dksX6_overAll_0 14 rfl rfl)
theorem dX6_overAll_15 : decode cX6_overAll 15 = .ok (.iload_n 3, 1) := dk_29 (dk_at dksX6_overAll_0 15 rfl rfl)
theorem dX6_overAll_16 : decode cX6_overAll 16 = .ok (.iload_n 1, 1) := dk_27 (dk_at dksX6_overAll_0 16 rfl rfl)
theorem dX6_overAll_17 : decode cX6_overAll 17 = .ok (.if_icmp .ne 7, 3) := dk_160 0 7 (dk_at dksX6_overAll_0 17 rfl rfl)
theorem dX6_overAll_20 : decode cX6_overAll 20 = .ok (.iconst 0, 1) := dk_3 (dk_at dksX6_overAll_0 20 rfl rfl)
theorem dX6_overAll_21 : decode cX6_overAll 21 = .ok (.goto 8, 3) := dk_167 0 8 (dk_at dksX6_overAll_0 21 rfl rfl)
theorem dX6_overAll_24 : decode cX6_overAll 24 = .ok (.aload_n 0, 1) := dk_42 (dk_at dksX6_overAll_1 0 rfl rfl)
theorem dX6_overAll_25 : decode cX6_overAll 25 = .ok (.iload_n 3, 1) := dk_29 (dk_at dksX6_overAll_1 1 rfl rfl)
theorem dX6_overAll_26 : decode cX6_overAll 26 = .ok (.invokevirtual 347, 3) := dk_182 1 91 (dk_at dksX6_overAll_1 2 rfl rfl)
theorem dX6_overAll_29 : decode cX6_overAll 29 = .ok (.iadd, 1) := dk_96 (dk_at dksX6_overAll_1 5 rfl rfl)
theorem dX6_overAll_30 : decode cX6_overAll 30 = .ok (.istore_n 2, 1) := dk_61 (dk_at dksX6_overAll_1 6 rfl rfl)
theorem dX6_overAll_31 : decode cX6_overAll 31 = .ok (.iinc 3 1, 3) := dk_132 3 1 (dk_at dksX6_overAll_1 7 rfl rfl)
theorem dX6_overAll_34 : decode cX6_overAll 34 = .ok (.goto (-30), 3) := dk_167 255 226 (dk_at dksX6_overAll_1 10 rfl rfl)
theorem dX6_overAll_37 : decode cX6_overAll 37 = .ok (.iload_n 2, 1) := dk_28 (dk_at dksX6_overAll_1 13 rfl rfl)
theorem dX6_overAll_38 : decode cX6_overAll 38 = .ok (.ireturn, 1) := dk_172 (dk_at dksX6_overAll_1 14 rfl rfl)
abbrev cX6_over : ByteArray := prog_15_method_72_code
def yX6_over : MethodName := ⟨RX6, "over", "(I)I"⟩
def dkwX6_over_0 : List UInt8 := [42, 27, 16, 6, 182, 1, 15, 42, 27, 3, 182, 1, 15, 100, 172]
abbrev dktX6_over_0 : List UInt8 := dkwX6_over_0 ++ []
theorem dksX6_over_0 : cX6_over.data.toList.drop 0 = dktX6_over_0 := by decide +kernel
theorem dX6_over_0 : decode cX6_over 0 = .ok (.aload_n 0, 1) := dk_42 (dk_at dksX6_over_0 0 rfl rfl)
theorem dX6_over_1 : decode cX6_over 1 = .ok (.iload_n 1, 1) := dk_27 (dk_at dksX6_over_0 1 rfl rfl)
theorem dX6_over_2 : decode cX6_over 2 = .ok (.bipush 6, 2) := dk_16 6 (dk_at dksX6_over_0 2 rfl rfl)
theorem dX6_over_4 : decode cX6_over 4 = .ok (.invokevirtual 271, 3) := dk_182 1 15 (dk_at dksX6_over_0 4 rfl rfl)
theorem dX6_over_7 : decode cX6_over 7 = .ok (.aload_n 0, 1) := dk_42 (dk_at dksX6_over_0 7 rfl rfl)
theorem dX6_over_8 : decode cX6_over 8 = .ok (.iload_n 1, 1) := dk_27 (dk_at dksX6_over_0 8 rfl rfl)
theorem dX6_over_9 : decode cX6_over 9 = .ok (.iconst 0, 1) := dk_3 (dk_at dksX6_over_0 9 rfl rfl)
theorem dX6_over_10 : decode cX6_over 10 = .ok (.invokevirtual 271, 3) := dk_182 1 15 (dk_at dksX6_over_0 10 rfl rfl)
theorem dX6_over_13 : decode cX6_over 13 = .ok (.isub, 1) := dk_100 (dk_at dksX6_over_0 13 rfl rfl)
theorem dX6_over_14 : decode cX6_over 14 = .ok (.ireturn, 1) := dk_172 (dk_at dksX6_over_0 14 rfl rfl)
abbrev cX6_comesBack : ByteArray := prog_15_method_70_code
def yX6_comesBack : MethodName := ⟨RX6, "comesBack", "()V"⟩
def dkwX6_comesBack_1 : List UInt8 := [167, 255, 234, 177]
abbrev dktX6_comesBack_1 : List UInt8 := dkwX6_comesBack_1 ++ []
def dkwX6_comesBack_0 : List UInt8 := [3, 60, 27, 17, 5, 20, 162, 0, 21, 42, 180, 0, 7, 27, 42, 180, 0, 16, 27, 46, 79, 132, 1, 1]
abbrev dktX6_comesBack_0 : List UInt8 := dkwX6_comesBack_0 ++ dktX6_comesBack_1
theorem dksX6_comesBack_0 : cX6_comesBack.data.toList.drop 0 = dktX6_comesBack_0 := by decide +kernel
theorem dksX6_comesBack_1 : cX6_comesBack.data.toList.drop 24 = dktX6_comesBack_1 := dk_seg dksX6_comesBack_0 24 rfl rfl
theorem dX6_comesBack_0 : decode cX6_comesBack 0 = .ok (.iconst 0, 1) := dk_3 (dk_at dksX6_comesBack_0 0 rfl rfl)
theorem dX6_comesBack_1 : decode cX6_comesBack 1 = .ok (.istore_n 1, 1) := dk_60 (dk_at dksX6_comesBack_0 1 rfl rfl)
theorem dX6_comesBack_2 : decode cX6_comesBack 2 = .ok (.iload_n 1, 1) := dk_27 (dk_at dksX6_comesBack_0 2 rfl rfl)
theorem dX6_comesBack_3 : decode cX6_comesBack 3 = .ok (.sipush 1300, 3) := dk_17 5 20 (dk_at dksX6_comesBack_0 3 rfl rfl)
theorem dX6_comesBack_6 : decode cX6_comesBack 6 = .ok (.if_icmp .ge 21, 3) := dk_162 0 21 (dk_at dksX6_comesBack_0 6 rfl rfl)
theorem dX6_comesBack_9 : decode cX6_comesBack 9 = .ok (.aload_n 0, 1) := dk_42 (dk_at dksX6_comesBack_0 9 rfl rfl)
theorem dX6_comesBack_10 : decode cX6_comesBack 10 = .ok (.getfield 7, 3) := dk_180 0 7 (dk_at dksX6_comesBack_0 10 rfl rfl)
theorem dX6_comesBack_13 : decode cX6_comesBack 13 = .ok (.iload_n 1, 1) := dk_27 (dk_at dksX6_comesBack_0 13 rfl rfl)
theorem dX6_comesBack_14 : decode cX6_comesBack 14 = .ok (.aload_n 0, 1) := dk_42 (dk_at dksX6_comesBack_0 14 rfl rfl)
theorem dX6_comesBack_15 : decode cX6_comesBack 15 = .ok (.getfield 16, 3) := dk_180 0 16 (dk_at dksX6_comesBack_0 15 rfl rfl)
theorem dX6_comesBack_18 : decode cX6_comesBack 18 = .ok (.iload_n 1, 1) := dk_27 (dk_at dksX6_comesBack_0 18 rfl rfl)
theorem dX6_comesBack_19 : decode cX6_comesBack 19 = .ok (.iaload, 1) := dk_46 (dk_at dksX6_comesBack_0 19 rfl rfl)
theorem dX6_comesBack_20 : decode cX6_comesBack 20 = .ok (.iastore, 1) := dk_79 (dk_at dksX6_comesBack_0 20 rfl rfl)
theorem dX6_comesBack_21 : decode cX6_comesBack 21 = .ok (.iinc 1 1, 3) := dk_132 1 1 (dk_at dksX6_comesBack_0 21 rfl rfl)
theorem dX6_comesBack_24 : decode cX6_comesBack 24 = .ok (.goto (-22), 3) := dk_167 255 234 (dk_at dksX6_comesBack_1 0 rfl rfl)
theorem dX6_comesBack_27 : decode cX6_comesBack 27 = .ok (.return_, 1) := dk_177 (dk_at dksX6_comesBack_1 3 rfl rfl)
abbrev cX6_better : ByteArray := prog_15_method_75_code
def yX6_better : MethodName := ⟨RX6, "better", "(II)I"⟩
def dkwX6_better_3 : List UInt8 := [167, 0, 4, 28, 172]
abbrev dktX6_better_3 : List UInt8 := dkwX6_better_3 ++ []
def dkwX6_better_2 : List UInt8 := [167, 0, 4, 28, 172, 21, 4, 2, 159, 0, 14, 29, 2, 159, 0, 13, 29, 21, 4, 162, 0, 7, 27]
abbrev dktX6_better_2 : List UInt8 := dkwX6_better_2 ++ dktX6_better_3
def dkwX6_better_1 : List UInt8 := [182, 1, 106, 62, 42, 28, 3, 182, 1, 106, 54, 4, 29, 21, 4, 160, 0, 14, 27, 28, 162, 0, 7, 27]
abbrev dktX6_better_1 : List UInt8 := dkwX6_better_1 ++ dktX6_better_2
def dkwX6_better_0 : List UInt8 := [27, 3, 5, 184, 0, 66, 153, 0, 12, 28, 3, 5, 184, 0, 66, 154, 0, 5, 2, 172, 42, 27, 3]
abbrev dktX6_better_0 : List UInt8 := dkwX6_better_0 ++ dktX6_better_1
theorem dksX6_better_0 : cX6_better.data.toList.drop 0 = dktX6_better_0 := by decide +kernel
theorem dksX6_better_1 : cX6_better.data.toList.drop 23 = dktX6_better_1 := dk_seg dksX6_better_0 23 rfl rfl
theorem dksX6_better_2 : cX6_better.data.toList.drop 47 = dktX6_better_2 := dk_seg dksX6_better_1 24 rfl rfl
theorem dksX6_better_3 : cX6_better.data.toList.drop 70 = dktX6_better_3 := dk_seg dksX6_better_2 23 rfl rfl
theorem dX6_better_0 : decode cX6_better 0 = .ok (.iload_n 1, 1) := dk_27 (dk_at dksX6_better_0 0 rfl rfl)
theorem dX6_better_1 : decode cX6_better 1 = .ok (.iconst 0, 1) := dk_3 (dk_at dksX6_better_0 1 rfl rfl)
theorem dX6_better_2 : decode cX6_better 2 = .ok (.iconst 2, 1) := dk_5 (dk_at dksX6_better_0 2 rfl rfl)
theorem dX6_better_3 : decode cX6_better 3 = .ok (.invokestatic 66, 3) := dk_184 0 66 (dk_at dksX6_better_0 3 rfl rfl)
theorem dX6_better_6 : decode cX6_better 6 = .ok (.ifCond .eq 12, 3) := dk_153 0 12 (dk_at dksX6_better_0 6 rfl rfl)
theorem dX6_better_9 : decode cX6_better 9 = .ok (.iload_n 2, 1) := dk_28 (dk_at dksX6_better_0 9 rfl rfl)
theorem dX6_better_10 : decode cX6_better 10 = .ok (.iconst 0, 1) := dk_3 (dk_at dksX6_better_0 10 rfl rfl)
theorem dX6_better_11 : decode cX6_better 11 = .ok (.iconst 2, 1) := dk_5 (dk_at dksX6_better_0 11 rfl rfl)
theorem dX6_better_12 : decode cX6_better 12 = .ok (.invokestatic 66, 3) := dk_184 0 66 (dk_at dksX6_better_0 12 rfl rfl)
theorem dX6_better_15 : decode cX6_better 15 = .ok (.ifCond .ne 5, 3) := dk_154 0 5 (dk_at dksX6_better_0 15 rfl rfl)
theorem dX6_better_18 : decode cX6_better 18 = .ok (.iconst (-1), 1) := dk_2 (dk_at dksX6_better_0 18 rfl rfl)
theorem dX6_better_19 : decode cX6_better 19 = .ok (.ireturn, 1) := dk_172 (dk_at dksX6_better_0 19 rfl rfl)
theorem dX6_better_20 : decode cX6_better 20 = .ok (.aload_n 0, 1) := dk_42 (dk_at dksX6_better_0 20 rfl rfl)
theorem dX6_better_21 : decode cX6_better 21 = .ok (.iload_n 1, 1) := dk_27 (dk_at dksX6_better_0 21 rfl rfl)
theorem dX6_better_22 : decode cX6_better 22 = .ok (.iconst 0, 1) := dk_3 (dk_at dksX6_better_0 22 rfl rfl)
theorem dX6_better_23 : decode cX6_better 23 = .ok (.invokevirtual 362, 3) := dk_182 1 106 (dk_at dksX6_better_1 0 rfl rfl)
theorem dX6_better_26 : decode cX6_better 26 = .ok (.istore_n 3, 1) := dk_62 (dk_at dksX6_better_1 3 rfl rfl)
theorem dX6_better_27 : decode cX6_better 27 = .ok (.aload_n 0, 1) := dk_42 (dk_at dksX6_better_1 4 rfl rfl)
theorem dX6_better_28 : decode cX6_better 28 = .ok (.iload_n 2, 1) := dk_28 (dk_at dksX6_better_1 5 rfl rfl)
theorem dX6_better_29 : decode cX6_better 29 = .ok (.iconst 0, 1) := dk_3 (dk_at dksX6_better_1 6 rfl rfl)
theorem dX6_better_30 : decode cX6_better 30 = .ok (.invokevirtual 362, 3) := dk_182 1 106 (dk_at dksX6_better_1 7 rfl rfl)
theorem dX6_better_33 : decode cX6_better 33 = .ok (.istore 4, 2) := dk_54 4 (dk_at dksX6_better_1 10 rfl rfl)
theorem dX6_better_35 : decode cX6_better 35 = .ok (.iload_n 3, 1) := dk_29 (dk_at dksX6_better_1 12 rfl rfl)
theorem dX6_better_36 : decode cX6_better 36 = .ok (.iload 4, 2) := dk_21 4 (dk_at dksX6_better_1 13 rfl rfl)
theorem dX6_better_38 : decode cX6_better 38 = .ok (.if_icmp .ne 14, 3) := dk_160 0 14 (dk_at dksX6_better_1 15 rfl rfl)
theorem dX6_better_41 : decode cX6_better 41 = .ok (.iload_n 1, 1) := dk_27 (dk_at dksX6_better_1 18 rfl rfl)
theorem dX6_better_42 : decode cX6_better 42 = .ok (.iload_n 2, 1) := dk_28 (dk_at dksX6_better_1 19 rfl rfl)
theorem dX6_better_43 : decode cX6_better 43 = .ok (.if_icmp .ge 7, 3) := dk_162 0 7 (dk_at dksX6_better_1 20 rfl rfl)
theorem dX6_better_46 : decode cX6_better 46 = .ok (.iload_n 1, 1) := dk_27 (dk_at dksX6_better_1 23 rfl rfl)
theorem dX6_better_47 : decode cX6_better 47 = .ok (.goto 4, 3) := dk_167 0 4 (dk_at dksX6_better_2 0 rfl rfl)
theorem dX6_better_50 : decode cX6_better 50 = .ok (.iload_n 2, 1) := dk_28 (dk_at dksX6_better_2 3 rfl rfl)
theorem dX6_better_51 : decode cX6_better 51 = .ok (.ireturn, 1) := dk_172 (dk_at dksX6_better_2 4 rfl rfl)
theorem dX6_better_52 : decode cX6_better 52 = .ok (.iload 4, 2) := dk_21 4 (dk_at dksX6_better_2 5 rfl rfl)
theorem dX6_better_54 : decode cX6_better 54 = .ok (.iconst (-1), 1) := dk_2 (dk_at dksX6_better_2 7 rfl rfl)
theorem dX6_better_55 : decode cX6_better 55 = .ok (.if_icmp .eq 14, 3) := dk_159 0 14 (dk_at dksX6_better_2 8 rfl rfl)
theorem dX6_better_58 : decode cX6_better 58 = .ok (.iload_n 3, 1) := dk_29 (dk_at dksX6_better_2 11 rfl rfl)
theorem dX6_better_59 : decode cX6_better 59 = .ok (.iconst (-1), 1) := dk_2 (dk_at dksX6_better_2 12 rfl rfl)
theorem dX6_better_60 : decode cX6_better 60 = .ok (.if_icmp .eq 13, 3) := dk_159 0 13 (dk_at dksX6_better_2 13 rfl rfl)
theorem dX6_better_63 : decode cX6_better 63 = .ok (.iload_n 3, 1) := dk_29 (dk_at dksX6_better_2 16 rfl rfl)
theorem dX6_better_64 : decode cX6_better 64 = .ok (.iload 4, 2) := dk_21 4 (dk_at dksX6_better_2 17 rfl rfl)
theorem dX6_better_66 : decode cX6_better 66 = .ok (.if_icmp .ge 7, 3) := dk_162 0 7 (dk_at dksX6_better_2 19 rfl rfl)
theorem dX6_better_69 : decode cX6_better 69 = .ok (.iload_n 1, 1) := dk_27 (dk_at dksX6_better_2 22 rfl rfl)
theorem dX6_better_70 : decode cX6_better 70 = .ok (.goto 4, 3) := dk_167 0 4 (dk_at dksX6_better_3 0 rfl rfl)
theorem dX6_better_73 : decode cX6_better 73 = .ok (.iload_n 2, 1) := dk_28 (dk_at dksX6_better_3 3 rfl rfl)
theorem dX6_better_74 : decode cX6_better 74 = .ok (.ireturn, 1) := dk_172 (dk_at dksX6_better_3 4 rfl rfl)
abbrev cX6_best : ByteArray := prog_15_method_78_code
def yX6_best : MethodName := ⟨RX6, "best", "(I)I"⟩
def dkwX6_best_3 : List UInt8 := [42, 180, 1, 112, 167, 0, 12, 42, 180, 0, 51, 27, 16, 10, 100, 46, 172]
abbrev dktX6_best_3 : List UInt8 := dkwX6_best_3 ++ []
def dkwX6_best_2 : List UInt8 := [182, 1, 109, 42, 3, 181, 1, 42, 42, 180, 1, 112, 2, 160, 0, 7, 2, 167, 0, 23, 27, 154, 0, 10]
abbrev dktX6_best_2 : List UInt8 := dkwX6_best_2 ++ dktX6_best_3
def dkwX6_best_1 : List UInt8 := [184, 0, 66, 154, 0, 5, 2, 172, 42, 182, 1, 94, 42, 4, 181, 1, 42, 42, 2, 181, 1, 112, 42, 3]
abbrev dktX6_best_1 : List UInt8 := dkwX6_best_1 ++ dktX6_best_2
def dkwX6_best_0 : List UInt8 := [42, 182, 1, 115, 153, 0, 25, 27, 153, 0, 23, 27, 16, 10, 16, 9, 42, 180, 0, 7, 5, 46, 96]
abbrev dktX6_best_0 : List UInt8 := dkwX6_best_0 ++ dktX6_best_1
theorem dksX6_best_0 : cX6_best.data.toList.drop 0 = dktX6_best_0 := by decide +kernel
theorem dksX6_best_1 : cX6_best.data.toList.drop 23 = dktX6_best_1 := dk_seg dksX6_best_0 23 rfl rfl
theorem dksX6_best_2 : cX6_best.data.toList.drop 47 = dktX6_best_2 := dk_seg dksX6_best_1 24 rfl rfl
theorem dksX6_best_3 : cX6_best.data.toList.drop 71 = dktX6_best_3 := dk_seg dksX6_best_2 24 rfl rfl
theorem dX6_best_0 : decode cX6_best 0 = .ok (.aload_n 0, 1) := dk_42 (dk_at dksX6_best_0 0 rfl rfl)
theorem dX6_best_1 : decode cX6_best 1 = .ok (.invokevirtual 371, 3) := dk_182 1 115 (dk_at dksX6_best_0 1 rfl rfl)
theorem dX6_best_4 : decode cX6_best 4 = .ok (.ifCond .eq 25, 3) := dk_153 0 25 (dk_at dksX6_best_0 4 rfl rfl)
theorem dX6_best_7 : decode cX6_best 7 = .ok (.iload_n 1, 1) := dk_27 (dk_at dksX6_best_0 7 rfl rfl)
theorem dX6_best_8 : decode cX6_best 8 = .ok (.ifCond .eq 23, 3) := dk_153 0 23 (dk_at dksX6_best_0 8 rfl rfl)
theorem dX6_best_11 : decode cX6_best 11 = .ok (.iload_n 1, 1) := dk_27 (dk_at dksX6_best_0 11 rfl rfl)
theorem dX6_best_12 : decode cX6_best 12 = .ok (.bipush 10, 2) := dk_16 10 (dk_at dksX6_best_0 12 rfl rfl)
theorem dX6_best_14 : decode cX6_best 14 = .ok (.bipush 9, 2) := dk_16 9 (dk_at dksX6_best_0 14 rfl rfl)
theorem dX6_best_16 : decode cX6_best 16 = .ok (.aload_n 0, 1) := dk_42 (dk_at dksX6_best_0 16 rfl rfl)
theorem dX6_best_17 : decode cX6_best 17 = .ok (.getfield 7, 3) := dk_180 0 7 (dk_at dksX6_best_0 17 rfl rfl)
theorem dX6_best_20 : decode cX6_best 20 = .ok (.iconst 2, 1) := dk_5 (dk_at dksX6_best_0 20 rfl rfl)
theorem dX6_best_21 : decode cX6_best 21 = .ok (.iaload, 1) := dk_46 (dk_at dksX6_best_0 21 rfl rfl)
theorem dX6_best_22 : decode cX6_best 22 = .ok (.iadd, 1) := dk_96 (dk_at dksX6_best_0 22 rfl rfl)
theorem dX6_best_23 : decode cX6_best 23 = .ok (.invokestatic 66, 3) := dk_184 0 66 (dk_at dksX6_best_1 0 rfl rfl)
theorem dX6_best_26 : decode cX6_best 26 = .ok (.ifCond .ne 5, 3) := dk_154 0 5 (dk_at dksX6_best_1 3 rfl rfl)
theorem dX6_best_29 : decode cX6_best 29 = .ok (.iconst (-1), 1) := dk_2 (dk_at dksX6_best_1 6 rfl rfl)
theorem dX6_best_30 : decode cX6_best 30 = .ok (.ireturn, 1) := dk_172 (dk_at dksX6_best_1 7 rfl rfl)
theorem dX6_best_31 : decode cX6_best 31 = .ok (.aload_n 0, 1) := dk_42 (dk_at dksX6_best_1 8 rfl rfl)
theorem dX6_best_32 : decode cX6_best 32 = .ok (.invokevirtual 350, 3) := dk_182 1 94 (dk_at dksX6_best_1 9 rfl rfl)
theorem dX6_best_35 : decode cX6_best 35 = .ok (.aload_n 0, 1) := dk_42 (dk_at dksX6_best_1 12 rfl rfl)
theorem dX6_best_36 : decode cX6_best 36 = .ok (.iconst 1, 1) := dk_4 (dk_at dksX6_best_1 13 rfl rfl)
theorem dX6_best_37 : decode cX6_best 37 = .ok (.putfield 298, 3) := dk_181 1 42 (dk_at dksX6_best_1 14 rfl rfl)
theorem dX6_best_40 : decode cX6_best 40 = .ok (.aload_n 0, 1) := dk_42 (dk_at dksX6_best_1 17 rfl rfl)
theorem dX6_best_41 : decode cX6_best 41 = .ok (.iconst (-1), 1) := dk_2 (dk_at dksX6_best_1 18 rfl rfl)
theorem dX6_best_42 : decode cX6_best 42 = .ok (.putfield 368, 3) := dk_181 1 112 (dk_at dksX6_best_1 19 rfl rfl)
theorem dX6_best_45 : decode cX6_best 45 = .ok (.aload_n 0, 1) := dk_42 (dk_at dksX6_best_1 22 rfl rfl)
theorem dX6_best_46 : decode cX6_best 46 = .ok (.iconst 0, 1) := dk_3 (dk_at dksX6_best_1 23 rfl rfl)
theorem dX6_best_47 : decode cX6_best 47 = .ok (.invokevirtual 365, 3) := dk_182 1 109 (dk_at dksX6_best_2 0 rfl rfl)
theorem dX6_best_50 : decode cX6_best 50 = .ok (.aload_n 0, 1) := dk_42 (dk_at dksX6_best_2 3 rfl rfl)
theorem dX6_best_51 : decode cX6_best 51 = .ok (.iconst 0, 1) := dk_3 (dk_at dksX6_best_2 4 rfl rfl)
theorem dX6_best_52 : decode cX6_best 52 = .ok (.putfield 298, 3) := dk_181 1 42 (dk_at dksX6_best_2 5 rfl rfl)
theorem dX6_best_55 : decode cX6_best 55 = .ok (.aload_n 0, 1) := dk_42 (dk_at dksX6_best_2 8 rfl rfl)
theorem dX6_best_56 : decode cX6_best 56 = .ok (.getfield 368, 3) := dk_180 1 112 (dk_at dksX6_best_2 9 rfl rfl)
theorem dX6_best_59 : decode cX6_best 59 = .ok (.iconst (-1), 1) := dk_2 (dk_at dksX6_best_2 12 rfl rfl)
theorem dX6_best_60 : decode cX6_best 60 = .ok (.if_icmp .ne 7, 3) := dk_160 0 7 (dk_at dksX6_best_2 13 rfl rfl)
theorem dX6_best_63 : decode cX6_best 63 = .ok (.iconst (-1), 1) := dk_2 (dk_at dksX6_best_2 16 rfl rfl)
theorem dX6_best_64 : decode cX6_best 64 = .ok (.goto 23, 3) := dk_167 0 23 (dk_at dksX6_best_2 17 rfl rfl)
theorem dX6_best_67 : decode cX6_best 67 = .ok (.iload_n 1, 1) := dk_27 (dk_at dksX6_best_2 20 rfl rfl)
theorem dX6_best_68 : decode cX6_best 68 = .ok (.ifCond .ne 10, 3) := dk_154 0 10 (dk_at dksX6_best_2 21 rfl rfl)
theorem dX6_best_71 : decode cX6_best 71 = .ok (.aload_n 0, 1) := dk_42 (dk_at dksX6_best_3 0 rfl rfl)
theorem dX6_best_72 : decode cX6_best 72 = .ok (.getfield 368, 3) := dk_180 1 112 (dk_at dksX6_best_3 1 rfl rfl)
theorem dX6_best_75 : decode cX6_best 75 = .ok (.goto 12, 3) := dk_167 0 12 (dk_at dksX6_best_3 4 rfl rfl)
theorem dX6_best_78 : decode cX6_best 78 = .ok (.aload_n 0, 1) := dk_42 (dk_at dksX6_best_3 7 rfl rfl)
theorem dX6_best_79 : decode cX6_best 79 = .ok (.getfield 51, 3) := dk_180 0 51 (dk_at dksX6_best_3 8 rfl rfl)
theorem dX6_best_82 : decode cX6_best 82 = .ok (.iload_n 1, 1) := dk_27 (dk_at dksX6_best_3 11 rfl rfl)
theorem dX6_best_83 : decode cX6_best 83 = .ok (.bipush 10, 2) := dk_16 10 (dk_at dksX6_best_3 12 rfl rfl)
theorem dX6_best_85 : decode cX6_best 85 = .ok (.isub, 1) := dk_100 (dk_at dksX6_best_3 14 rfl rfl)
theorem dX6_best_86 : decode cX6_best 86 = .ok (.iaload, 1) := dk_46 (dk_at dksX6_best_3 15 rfl rfl)
theorem dX6_best_87 : decode cX6_best 87 = .ok (.ireturn, 1) := dk_172 (dk_at dksX6_best_3 16 rfl rfl)
abbrev cX6_canGive : ByteArray := prog_15_method_77_code
def yX6_canGive : MethodName := ⟨RX6, "canGive", "()Z"⟩
def dkwX6_canGive_4 : List UInt8 := [172, 132, 1, 1, 167, 255, 221, 4, 172]
abbrev dktX6_canGive_4 : List UInt8 := dkwX6_canGive_4 ++ []
def dkwX6_canGive_3 : List UInt8 := [162, 0, 31, 42, 27, 6, 182, 1, 15, 4, 163, 0, 13, 42, 27, 7, 182, 1, 15, 2, 159, 0, 5, 3]
abbrev dktX6_canGive_3 : List UInt8 := dkwX6_canGive_3 ++ dktX6_canGive_4
def dkwX6_canGive_2 : List UInt8 := [182, 0, 248, 4, 160, 0, 5, 3, 172, 132, 1, 1, 167, 255, 231, 3, 60, 27, 42, 180, 0, 7, 5, 46]
abbrev dktX6_canGive_2 : List UInt8 := dkwX6_canGive_2 ++ dktX6_canGive_3
def dkwX6_canGive_1 : List UInt8 := [184, 0, 66, 154, 0, 5, 3, 172, 3, 60, 27, 42, 180, 0, 7, 4, 46, 162, 0, 21, 42, 27, 7]
abbrev dktX6_canGive_1 : List UInt8 := dkwX6_canGive_1 ++ dktX6_canGive_2
def dkwX6_canGive_0 : List UInt8 := [42, 180, 0, 7, 5, 46, 4, 16, 6, 184, 0, 66, 153, 0, 17, 42, 180, 0, 7, 4, 46, 4, 6]
abbrev dktX6_canGive_0 : List UInt8 := dkwX6_canGive_0 ++ dktX6_canGive_1
theorem dksX6_canGive_0 : cX6_canGive.data.toList.drop 0 = dktX6_canGive_0 := by decide +kernel
theorem dksX6_canGive_1 : cX6_canGive.data.toList.drop 23 = dktX6_canGive_1 := dk_seg dksX6_canGive_0 23 rfl rfl
theorem dksX6_canGive_2 : cX6_canGive.data.toList.drop 46 = dktX6_canGive_2 := dk_seg dksX6_canGive_1 23 rfl rfl
theorem dksX6_canGive_3 : cX6_canGive.data.toList.drop 70 = dktX6_canGive_3 := dk_seg dksX6_canGive_2 24 rfl rfl
theorem dksX6_canGive_4 : cX6_canGive.data.toList.drop 94 = dktX6_canGive_4 := dk_seg dksX6_canGive_3 24 rfl rfl
theorem dX6_canGive_0 : decode cX6_canGive 0 = .ok (.aload_n 0, 1) := dk_42 (dk_at dksX6_canGive_0 0 rfl rfl)
theorem dX6_canGive_1 : decode cX6_canGive 1 = .ok (.getfield 7, 3) := dk_180 0 7 (dk_at dksX6_canGive_0 1 rfl rfl)
theorem dX6_canGive_4 : decode cX6_canGive 4 = .ok (.iconst 2, 1) := dk_5 (dk_at dksX6_canGive_0 4 rfl rfl)
theorem dX6_canGive_5 : decode cX6_canGive 5 = .ok (.iaload, 1) := dk_46 (dk_at dksX6_canGive_0 5 rfl rfl)
theorem dX6_canGive_6 : decode cX6_canGive 6 = .ok (.iconst 1, 1) := dk_4 (dk_at dksX6_canGive_0 6 rfl rfl)
theorem dX6_canGive_7 : decode cX6_canGive 7 = .ok (.bipush 6, 2) := dk_16 6 (dk_at dksX6_canGive_0 7 rfl rfl)
theorem dX6_canGive_9 : decode cX6_canGive 9 = .ok (.invokestatic 66, 3) := dk_184 0 66 (dk_at dksX6_canGive_0 9 rfl rfl)
theorem dX6_canGive_12 : decode cX6_canGive 12 = .ok (.ifCond .eq 17, 3) := dk_153 0 17 (dk_at dksX6_canGive_0 12 rfl rfl)
theorem dX6_canGive_15 : decode cX6_canGive 15 = .ok (.aload_n 0, 1) := dk_42 (dk_at dksX6_canGive_0 15 rfl rfl)
theorem dX6_canGive_16 : decode cX6_canGive 16 = .ok (.getfield 7, 3) := dk_180 0 7 (dk_at dksX6_canGive_0 16 rfl rfl)
theorem dX6_canGive_19 : decode cX6_canGive 19 = .ok (.iconst 1, 1) := dk_4 (dk_at dksX6_canGive_0 19 rfl rfl)
theorem dX6_canGive_20 : decode cX6_canGive 20 = .ok (.iaload, 1) := dk_46 (dk_at dksX6_canGive_0 20 rfl rfl)
theorem dX6_canGive_21 : decode cX6_canGive 21 = .ok (.iconst 1, 1) := dk_4 (dk_at dksX6_canGive_0 21 rfl rfl)
theorem dX6_canGive_22 : decode cX6_canGive 22 = .ok (.iconst 3, 1) := dk_6 (dk_at dksX6_canGive_0 22 rfl rfl)
theorem dX6_canGive_23 : decode cX6_canGive 23 = .ok (.invokestatic 66, 3) := dk_184 0 66 (dk_at dksX6_canGive_1 0 rfl rfl)
theorem dX6_canGive_26 : decode cX6_canGive 26 = .ok (.ifCond .ne 5, 3) := dk_154 0 5 (dk_at dksX6_canGive_1 3 rfl rfl)
theorem dX6_canGive_29 : decode cX6_canGive 29 = .ok (.iconst 0, 1) := dk_3 (dk_at dksX6_canGive_1 6 rfl rfl)
theorem dX6_canGive_30 : decode cX6_canGive 30 = .ok (.ireturn, 1) := dk_172 (dk_at dksX6_canGive_1 7 rfl rfl)
theorem dX6_canGive_31 : decode cX6_canGive 31 = .ok (.iconst 0, 1) := dk_3 (dk_at dksX6_canGive_1 8 rfl rfl)
theorem dX6_canGive_32 : decode cX6_canGive 32 = .ok (.istore_n 1, 1) := dk_60 (dk_at dksX6_canGive_1 9 rfl rfl)
theorem dX6_canGive_33 : decode cX6_canGive 33 = .ok (.iload_n 1, 1) := dk_27 (dk_at dksX6_canGive_1 10 rfl rfl)
theorem dX6_canGive_34 : decode cX6_canGive 34 = .ok (.aload_n 0, 1) := dk_42 (dk_at dksX6_canGive_1 11 rfl rfl)
theorem dX6_canGive_35 : decode cX6_canGive 35 = .ok (.getfield 7, 3) := dk_180 0 7 (dk_at dksX6_canGive_1 12 rfl rfl)
theorem dX6_canGive_38 : decode cX6_canGive 38 = .ok (.iconst 1, 1) := dk_4 (dk_at dksX6_canGive_1 15 rfl rfl)
theorem dX6_canGive_39 : decode cX6_canGive 39 = .ok (.iaload, 1) := dk_46 (dk_at dksX6_canGive_1 16 rfl rfl)
theorem dX6_canGive_40 : decode cX6_canGive 40 = .ok (.if_icmp .ge 21, 3) := dk_162 0 21 (dk_at dksX6_canGive_1 17 rfl rfl)
theorem dX6_canGive_43 : decode cX6_canGive 43 = .ok (.aload_n 0, 1) := dk_42 (dk_at dksX6_canGive_1 20 rfl rfl)
theorem dX6_canGive_44 : decode cX6_canGive 44 = .ok (.iload_n 1, 1) := dk_27 (dk_at dksX6_canGive_1 21 rfl rfl)
theorem dX6_canGive_45 : decode cX6_canGive 45 = .ok (.iconst 4, 1) := dk_7 (dk_at dksX6_canGive_1 22 rfl rfl)
theorem dX6_canGive_46 : decode cX6_canGive 46 = .ok (.invokevirtual 248, 3) := dk_182 0 248 (dk_at dksX6_canGive_2 0 rfl rfl)
theorem dX6_canGive_49 : decode cX6_canGive 49 = .ok (.iconst 1, 1) := dk_4 (dk_at dksX6_canGive_2 3 rfl rfl)
theorem dX6_canGive_50 : decode cX6_canGive 50 = .ok (.if_icmp .ne 5, 3) := dk_160 0 5 (dk_at dksX6_canGive_2 4 rfl rfl)
theorem dX6_canGive_53 : decode cX6_canGive 53 = .ok (.iconst 0, 1) := dk_3 (dk_at dksX6_canGive_2 7 rfl rfl)
theorem dX6_canGive_54 : decode cX6_canGive 54 = .ok (.ireturn, 1) := dk_172 (dk_at dksX6_canGive_2 8 rfl rfl)
theorem dX6_canGive_55 : decode cX6_canGive 55 = .ok (.iinc 1 1, 3) := dk_132 1 1 (dk_at dksX6_canGive_2 9 rfl rfl)
theorem dX6_canGive_58 : decode cX6_canGive 58 = .ok (.goto (-25), 3) := dk_167 255 231 (dk_at dksX6_canGive_2 12 rfl rfl)
theorem dX6_canGive_61 : decode cX6_canGive 61 = .ok (.iconst 0, 1) := dk_3 (dk_at dksX6_canGive_2 15 rfl rfl)
theorem dX6_canGive_62 : decode cX6_canGive 62 = .ok (.istore_n 1, 1) := dk_60 (dk_at dksX6_canGive_2 16 rfl rfl)
theorem dX6_canGive_63 : decode cX6_canGive 63 = .ok (.iload_n 1, 1) := dk_27 (dk_at dksX6_canGive_2 17 rfl rfl)
theorem dX6_canGive_64 : decode cX6_canGive 64 = .ok (.aload_n 0, 1) := dk_42 (dk_at dksX6_canGive_2 18 rfl rfl)
theorem dX6_canGive_65 : decode cX6_canGive 65 = .ok (.getfield 7, 3) := dk_180 0 7 (dk_at dksX6_canGive_2 19 rfl rfl)
theorem dX6_canGive_68 : decode cX6_canGive 68 = .ok (.iconst 2, 1) := dk_5 (dk_at dksX6_canGive_2 22 rfl rfl)
theorem dX6_canGive_69 : decode cX6_canGive 69 = .ok (.iaload, 1) := dk_46 (dk_at dksX6_canGive_2 23 rfl rfl)
theorem dX6_canGive_70 : decode cX6_canGive 70 = .ok (.if_icmp .ge 31, 3) := dk_162 0 31 (dk_at dksX6_canGive_3 0 rfl rfl)
theorem dX6_canGive_73 : decode cX6_canGive 73 = .ok (.aload_n 0, 1) := dk_42 (dk_at dksX6_canGive_3 3 rfl rfl)
theorem dX6_canGive_74 : decode cX6_canGive 74 = .ok (.iload_n 1, 1) := dk_27 (dk_at dksX6_canGive_3 4 rfl rfl)
theorem dX6_canGive_75 : decode cX6_canGive 75 = .ok (.iconst 3, 1) := dk_6 (dk_at dksX6_canGive_3 5 rfl rfl)
theorem dX6_canGive_76 : decode cX6_canGive 76 = .ok (.invokevirtual 271, 3) := dk_182 1 15 (dk_at dksX6_canGive_3 6 rfl rfl)
theorem dX6_canGive_79 : decode cX6_canGive 79 = .ok (.iconst 1, 1) := dk_4 (dk_at dksX6_canGive_3 9 rfl rfl)
theorem dX6_canGive_80 : decode cX6_canGive 80 = .ok (.if_icmp .gt 13, 3) := dk_163 0 13 (dk_at dksX6_canGive_3 10 rfl rfl)
theorem dX6_canGive_83 : decode cX6_canGive 83 = .ok (.aload_n 0, 1) := dk_42 (dk_at dksX6_canGive_3 13 rfl rfl)
theorem dX6_canGive_84 : decode cX6_canGive 84 = .ok (.iload_n 1, 1) := dk_27 (dk_at dksX6_canGive_3 14 rfl rfl)
theorem dX6_canGive_85 : decode cX6_canGive 85 = .ok (.iconst 4, 1) := dk_7 (dk_at dksX6_canGive_3 15 rfl rfl)
theorem dX6_canGive_86 : decode cX6_canGive 86 = .ok (.invokevirtual 271, 3) := dk_182 1 15 (dk_at dksX6_canGive_3 16 rfl rfl)
theorem dX6_canGive_89 : decode cX6_canGive 89 = .ok (.iconst (-1), 1) := dk_2 (dk_at dksX6_canGive_3 19 rfl rfl)
theorem dX6_canGive_90 : decode cX6_canGive 90 = .ok (.if_icmp .eq 5, 3) := dk_159 0 5 (dk_at dksX6_canGive_3 20 rfl rfl)
theorem dX6_canGive_93 : decode cX6_canGive 93 = .ok (.iconst 0, 1) := dk_3 (dk_at dksX6_canGive_3 23 rfl rfl)
theorem dX6_canGive_94 : decode cX6_canGive 94 = .ok (.ireturn, 1) := dk_172 (dk_at dksX6_canGive_4 0 rfl rfl)
theorem dX6_canGive_95 : decode cX6_canGive 95 = .ok (.iinc 1 1, 3) := dk_132 1 1 (dk_at dksX6_canGive_4 1 rfl rfl)
theorem dX6_canGive_98 : decode cX6_canGive 98 = .ok (.goto (-35), 3) := dk_167 255 221 (dk_at dksX6_canGive_4 4 rfl rfl)
theorem dX6_canGive_101 : decode cX6_canGive 101 = .ok (.iconst 1, 1) := dk_4 (dk_at dksX6_canGive_4 7 rfl rfl)
theorem dX6_canGive_102 : decode cX6_canGive 102 = .ok (.ireturn, 1) := dk_172 (dk_at dksX6_canGive_4 8 rfl rfl)
abbrev cX6_triesGiving : ByteArray := prog_15_method_76_code
def yX6_triesGiving : MethodName := ⟨RX6, "triesGiving", "(I)V"⟩
def dkwX6_triesGiving_6 : List UInt8 := [180, 0, 51, 21, 4, 42, 180, 0, 45, 21, 4, 46, 79, 132, 4, 1, 167, 255, 228, 177]
abbrev dktX6_triesGiving_6 : List UInt8 := dkwX6_triesGiving_6 ++ []
def dkwX6_triesGiving_5 : List UInt8 := [161, 0, 4, 177, 42, 29, 181, 1, 112, 3, 54, 4, 21, 4, 42, 180, 0, 7, 5, 46, 162, 0, 23, 42]
abbrev dktX6_triesGiving_5 : List UInt8 := dkwX6_triesGiving_5 ++ dktX6_triesGiving_6
def dkwX6_triesGiving_4 : List UInt8 := [2, 62, 42, 182, 1, 103, 28, 153, 0, 19, 42, 180, 1, 112, 2, 159, 0, 12, 29, 42, 180, 1, 112]
abbrev dktX6_triesGiving_4 : List UInt8 := dkwX6_triesGiving_4 ++ dktX6_triesGiving_5
def dkwX6_triesGiving_3 : List UInt8 := [167, 255, 198, 177, 42, 17, 11, 184, 182, 1, 97, 61, 28, 153, 0, 11, 42, 2, 182, 1, 100, 167, 0, 4]
abbrev dktX6_triesGiving_3 : List UInt8 := dkwX6_triesGiving_3 ++ dktX6_triesGiving_4
def dkwX6_triesGiving_2 : List UInt8 := [154, 0, 6, 167, 0, 17, 42, 180, 0, 45, 27, 28, 79, 42, 27, 4, 96, 182, 1, 109, 132, 2, 1]
abbrev dktX6_triesGiving_2 : List UInt8 := dkwX6_triesGiving_2 ++ dktX6_triesGiving_3
def dkwX6_triesGiving_1 : List UInt8 := [42, 27, 4, 182, 1, 15, 182, 1, 46, 153, 0, 34, 42, 28, 42, 27, 5, 182, 1, 15, 182, 1, 46]
abbrev dktX6_triesGiving_1 : List UInt8 := dkwX6_triesGiving_1 ++ dktX6_triesGiving_2
def dkwX6_triesGiving_0 : List UInt8 := [27, 42, 180, 0, 7, 5, 46, 162, 0, 67, 3, 61, 28, 42, 180, 0, 7, 4, 46, 162, 0, 54, 42, 28]
abbrev dktX6_triesGiving_0 : List UInt8 := dkwX6_triesGiving_0 ++ dktX6_triesGiving_1
theorem dksX6_triesGiving_0 : cX6_triesGiving.data.toList.drop 0 = dktX6_triesGiving_0 := by decide +kernel
theorem dksX6_triesGiving_1 : cX6_triesGiving.data.toList.drop 24 = dktX6_triesGiving_1 := dk_seg dksX6_triesGiving_0 24 rfl rfl
theorem dksX6_triesGiving_2 : cX6_triesGiving.data.toList.drop 47 = dktX6_triesGiving_2 := dk_seg dksX6_triesGiving_1 23 rfl rfl
theorem dksX6_triesGiving_3 : cX6_triesGiving.data.toList.drop 70 = dktX6_triesGiving_3 := dk_seg dksX6_triesGiving_2 23 rfl rfl
theorem dksX6_triesGiving_4 : cX6_triesGiving.data.toList.drop 94 = dktX6_triesGiving_4 := dk_seg dksX6_triesGiving_3 24 rfl rfl
theorem dksX6_triesGiving_5 : cX6_triesGiving.data.toList.drop 117 = dktX6_triesGiving_5 := dk_seg dksX6_triesGiving_4 23 rfl rfl
theorem dksX6_triesGiving_6 : cX6_triesGiving.data.toList.drop 141 = dktX6_triesGiving_6 := dk_seg dksX6_triesGiving_5 24 rfl rfl
theorem dX6_triesGiving_0 : decode cX6_triesGiving 0 = .ok (.iload_n 1, 1) := dk_27 (dk_at dksX6_triesGiving_0 0 rfl rfl)
theorem dX6_triesGiving_1 : decode cX6_triesGiving 1 = .ok (.aload_n 0, 1) := dk_42 (dk_at dksX6_triesGiving_0 1 rfl rfl)
theorem dX6_triesGiving_2 : decode cX6_triesGiving 2 = .ok (.getfield 7, 3) := dk_180 0 7 (dk_at dksX6_triesGiving_0 2 rfl rfl)
theorem dX6_triesGiving_5 : decode cX6_triesGiving 5 = .ok (.iconst 2, 1) := dk_5 (dk_at dksX6_triesGiving_0 5 rfl rfl)
theorem dX6_triesGiving_6 : decode cX6_triesGiving 6 = .ok (.iaload, 1) := dk_46 (dk_at dksX6_triesGiving_0 6 rfl rfl)
theorem dX6_triesGiving_7 : decode cX6_triesGiving 7 = .ok (.if_icmp .ge 67, 3) := dk_162 0 67 (dk_at dksX6_triesGiving_0 7 rfl rfl)
theorem dX6_triesGiving_10 : decode cX6_triesGiving 10 = .ok (.iconst 0, 1) := dk_3 (dk_at dksX6_triesGiving_0 10 rfl rfl)
theorem dX6_triesGiving_11 : decode cX6_triesGiving 11 = .ok (.istore_n 2, 1) := dk_61 (dk_at dksX6_triesGiving_0 11 rfl rfl)
theorem dX6_triesGiving_12 : decode cX6_triesGiving 12 = .ok (.iload_n 2, 1) := dk_28 (dk_at dksX6_triesGiving_0 12 rfl rfl)
theorem dX6_triesGiving_13 : decode cX6_triesGiving 13 = .ok (.aload_n 0, 1) := dk_42 (dk_at dksX6_triesGiving_0 13 rfl rfl)
theorem dX6_triesGiving_14 : decode cX6_triesGiving 14 = .ok (.getfield 7, 3) := dk_180 0 7 (dk_at dksX6_triesGiving_0 14 rfl rfl)
theorem dX6_triesGiving_17 : decode cX6_triesGiving 17 = .ok (.iconst 1, 1) := dk_4 (dk_at dksX6_triesGiving_0 17 rfl rfl)
theorem dX6_triesGiving_18 : decode cX6_triesGiving 18 = .ok (.iaload, 1) := dk_46 (dk_at dksX6_triesGiving_0 18 rfl rfl)
theorem dX6_triesGiving_19 : decode cX6_triesGiving 19 = .ok (.if_icmp .ge 54, 3) := dk_162 0 54 (dk_at dksX6_triesGiving_0 19 rfl rfl)
theorem dX6_triesGiving_22 : decode cX6_triesGiving 22 = .ok (.aload_n 0, 1) := dk_42 (dk_at dksX6_triesGiving_0 22 rfl rfl)
theorem dX6_triesGiving_23 : decode cX6_triesGiving 23 = .ok (.iload_n 2, 1) := dk_28 (dk_at dksX6_triesGiving_0 23 rfl rfl)
theorem dX6_triesGiving_24 : decode cX6_triesGiving 24 = .ok (.aload_n 0, 1) := dk_42 (dk_at dksX6_triesGiving_1 0 rfl rfl)
theorem dX6_triesGiving_25 : decode cX6_triesGiving 25 = .ok (.iload_n 1, 1) := dk_27 (dk_at dksX6_triesGiving_1 1 rfl rfl)
theorem dX6_triesGiving_26 : decode cX6_triesGiving 26 = .ok (.iconst 1, 1) := dk_4 (dk_at dksX6_triesGiving_1 2 rfl rfl)
theorem dX6_triesGiving_27 : decode cX6_triesGiving 27 = .ok (.invokevirtual 271, 3) := dk_182 1 15 (dk_at dksX6_triesGiving_1 3 rfl rfl)
theorem dX6_triesGiving_30 : decode cX6_triesGiving 30 = .ok (.invokevirtual 302, 3) := dk_182 1 46 (dk_at dksX6_triesGiving_1 6 rfl rfl)
theorem dX6_triesGiving_33 : decode cX6_triesGiving 33 = .ok (.ifCond .eq 34, 3) := dk_153 0 34 (dk_at dksX6_triesGiving_1 9 rfl rfl)
theorem dX6_triesGiving_36 : decode cX6_triesGiving 36 = .ok (.aload_n 0, 1) := dk_42 (dk_at dksX6_triesGiving_1 12 rfl rfl)
theorem dX6_triesGiving_37 : decode cX6_triesGiving 37 = .ok (.iload_n 2, 1) := dk_28 (dk_at dksX6_triesGiving_1 13 rfl rfl)
theorem dX6_triesGiving_38 : decode cX6_triesGiving 38 = .ok (.aload_n 0, 1) := dk_42 (dk_at dksX6_triesGiving_1 14 rfl rfl)
theorem dX6_triesGiving_39 : decode cX6_triesGiving 39 = .ok (.iload_n 1, 1) := dk_27 (dk_at dksX6_triesGiving_1 15 rfl rfl)
theorem dX6_triesGiving_40 : decode cX6_triesGiving 40 = .ok (.iconst 2, 1) := dk_5 (dk_at dksX6_triesGiving_1 16 rfl rfl)
theorem dX6_triesGiving_41 : decode cX6_triesGiving 41 = .ok (.invokevirtual 271, 3) := dk_182 1 15 (dk_at dksX6_triesGiving_1 17 rfl rfl)
theorem dX6_triesGiving_44 : decode cX6_triesGiving 44 = .ok (.invokevirtual 302, 3) := dk_182 1 46 (dk_at dksX6_triesGiving_1 20 rfl rfl)
theorem dX6_triesGiving_47 : decode cX6_triesGiving 47 = .ok (.ifCond .ne 6, 3) := dk_154 0 6 (dk_at dksX6_triesGiving_2 0 rfl rfl)
theorem dX6_triesGiving_50 : decode cX6_triesGiving 50 = .ok (.goto 17, 3) := dk_167 0 17 (dk_at dksX6_triesGiving_2 3 rfl rfl)
theorem dX6_triesGiving_53 : decode cX6_triesGiving 53 = .ok (.aload_n 0, 1) := dk_42 (dk_at dksX6_triesGiving_2 6 rfl rfl)
theorem dX6_triesGiving_54 : decode cX6_triesGiving 54 = .ok (.getfield 45, 3) := dk_180 0 45 (dk_at dksX6_triesGiving_2 7 rfl rfl)
theorem dX6_triesGiving_57 : decode cX6_triesGiving 57 = .ok (.iload_n 1, 1) := dk_27 (dk_at dksX6_triesGiving_2 10 rfl rfl)
theorem dX6_triesGiving_58 : decode cX6_triesGiving 58 = .ok (.iload_n 2, 1) := dk_28 (dk_at dksX6_triesGiving_2 11 rfl rfl)
theorem dX6_triesGiving_59 : decode cX6_triesGiving 59 = .ok (.iastore, 1) := dk_79 (dk_at dksX6_triesGiving_2 12 rfl rfl)
theorem dX6_triesGiving_60 : decode cX6_triesGiving 60 = .ok (.aload_n 0, 1) := dk_42 (dk_at dksX6_triesGiving_2 13 rfl rfl)
theorem dX6_triesGiving_61 : decode cX6_triesGiving 61 = .ok (.iload_n 1, 1) := dk_27 (dk_at dksX6_triesGiving_2 14 rfl rfl)
theorem dX6_triesGiving_62 : decode cX6_triesGiving 62 = .ok (.iconst 1, 1) := dk_4 (dk_at dksX6_triesGiving_2 15 rfl rfl)
theorem dX6_triesGiving_63 : decode cX6_triesGiving 63 = .ok (.iadd, 1) := dk_96 (dk_at dksX6_triesGiving_2 16 rfl rfl)
theorem dX6_triesGiving_64 : decode cX6_triesGiving 64 = .ok (.invokevirtual 365, 3) := dk_182 1 109 (dk_at dksX6_triesGiving_2 17 rfl rfl)
theorem dX6_triesGiving_67 : decode cX6_triesGiving 67 = .ok (.iinc 2 1, 3) := dk_132 2 1 (dk_at dksX6_triesGiving_2 20 rfl rfl)
theorem dX6_triesGiving_70 : decode cX6_triesGiving 70 = .ok (.goto (-58), 3) := dk_167 255 198 (dk_at dksX6_triesGiving_3 0 rfl rfl)
theorem dX6_triesGiving_73 : decode cX6_triesGiving 73 = .ok (.return_, 1) := dk_177 (dk_at dksX6_triesGiving_3 3 rfl rfl)
theorem dX6_triesGiving_74 : decode cX6_triesGiving 74 = .ok (.aload_n 0, 1) := dk_42 (dk_at dksX6_triesGiving_3 4 rfl rfl)
theorem dX6_triesGiving_75 : decode cX6_triesGiving 75 = .ok (.sipush 3000, 3) := dk_17 11 184 (dk_at dksX6_triesGiving_3 5 rfl rfl)
theorem dX6_triesGiving_78 : decode cX6_triesGiving 78 = .ok (.invokevirtual 353, 3) := dk_182 1 97 (dk_at dksX6_triesGiving_3 8 rfl rfl)
theorem dX6_triesGiving_81 : decode cX6_triesGiving 81 = .ok (.istore_n 2, 1) := dk_61 (dk_at dksX6_triesGiving_3 11 rfl rfl)
theorem dX6_triesGiving_82 : decode cX6_triesGiving 82 = .ok (.iload_n 2, 1) := dk_28 (dk_at dksX6_triesGiving_3 12 rfl rfl)
theorem dX6_triesGiving_83 : decode cX6_triesGiving 83 = .ok (.ifCond .eq 11, 3) := dk_153 0 11 (dk_at dksX6_triesGiving_3 13 rfl rfl)
theorem dX6_triesGiving_86 : decode cX6_triesGiving 86 = .ok (.aload_n 0, 1) := dk_42 (dk_at dksX6_triesGiving_3 16 rfl rfl)
theorem dX6_triesGiving_87 : decode cX6_triesGiving 87 = .ok (.iconst (-1), 1) := dk_2 (dk_at dksX6_triesGiving_3 17 rfl rfl)
theorem dX6_triesGiving_88 : decode cX6_triesGiving 88 = .ok (.invokevirtual 356, 3) := dk_182 1 100 (dk_at dksX6_triesGiving_3 18 rfl rfl)
theorem dX6_triesGiving_91 : decode cX6_triesGiving 91 = .ok (.goto 4, 3) := dk_167 0 4 (dk_at dksX6_triesGiving_3 21 rfl rfl)
theorem dX6_triesGiving_94 : decode cX6_triesGiving 94 = .ok (.iconst (-1), 1) := dk_2 (dk_at dksX6_triesGiving_4 0 rfl rfl)
theorem dX6_triesGiving_95 : decode cX6_triesGiving 95 = .ok (.istore_n 3, 1) := dk_62 (dk_at dksX6_triesGiving_4 1 rfl rfl)
theorem dX6_triesGiving_96 : decode cX6_triesGiving 96 = .ok (.aload_n 0, 1) := dk_42 (dk_at dksX6_triesGiving_4 2 rfl rfl)
theorem dX6_triesGiving_97 : decode cX6_triesGiving 97 = .ok (.invokevirtual 359, 3) := dk_182 1 103 (dk_at dksX6_triesGiving_4 3 rfl rfl)
theorem dX6_triesGiving_100 : decode cX6_triesGiving 100 = .ok (.iload_n 2, 1) := dk_28 (dk_at dksX6_triesGiving_4 6 rfl rfl)
theorem dX6_triesGiving_101 : decode cX6_triesGiving 101 = .ok (.ifCond .eq 19, 3) := dk_153 0 19 (dk_at dksX6_triesGiving_4 7 rfl rfl)
theorem dX6_triesGiving_104 : decode cX6_triesGiving 104 = .ok (.aload_n 0, 1) := dk_42 (dk_at dksX6_triesGiving_4 10 rfl rfl)
theorem dX6_triesGiving_105 : decode cX6_triesGiving 105 = .ok (.getfield 368, 3) := dk_180 1 112 (dk_at dksX6_triesGiving_4 11 rfl rfl)
theorem dX6_triesGiving_108 : decode cX6_triesGiving 108 = .ok (.iconst (-1), 1) := dk_2 (dk_at dksX6_triesGiving_4 14 rfl rfl)
theorem dX6_triesGiving_109 : decode cX6_triesGiving 109 = .ok (.if_icmp .eq 12, 3) := dk_159 0 12 (dk_at dksX6_triesGiving_4 15 rfl rfl)
theorem dX6_triesGiving_112 : decode cX6_triesGiving 112 = .ok (.iload_n 3, 1) := dk_29 (dk_at dksX6_triesGiving_4 18 rfl rfl)
theorem dX6_triesGiving_113 : decode cX6_triesGiving 113 = .ok (.aload_n 0, 1) := dk_42 (dk_at dksX6_triesGiving_4 19 rfl rfl)
theorem dX6_triesGiving_114 : decode cX6_triesGiving 114 = .ok (.getfield 368, 3) := dk_180 1 112 (dk_at dksX6_triesGiving_4 20 rfl rfl)
theorem dX6_triesGiving_117 : decode cX6_triesGiving 117 = .ok (.if_icmp .lt 4, 3) := dk_161 0 4 (dk_at dksX6_triesGiving_5 0 rfl rfl)
theorem dX6_triesGiving_120 : decode cX6_triesGiving 120 = .ok (.return_, 1) := dk_177 (dk_at dksX6_triesGiving_5 3 rfl rfl)
theorem dX6_triesGiving_121 : decode cX6_triesGiving 121 = .ok (.aload_n 0, 1) := dk_42 (dk_at dksX6_triesGiving_5 4 rfl rfl)
theorem dX6_triesGiving_122 : decode cX6_triesGiving 122 = .ok (.iload_n 3, 1) := dk_29 (dk_at dksX6_triesGiving_5 5 rfl rfl)
theorem dX6_triesGiving_123 : decode cX6_triesGiving 123 = .ok (.putfield 368, 3) := dk_181 1 112 (dk_at dksX6_triesGiving_5 6 rfl rfl)
theorem dX6_triesGiving_126 : decode cX6_triesGiving 126 = .ok (.iconst 0, 1) := dk_3 (dk_at dksX6_triesGiving_5 9 rfl rfl)
theorem dX6_triesGiving_127 : decode cX6_triesGiving 127 = .ok (.istore 4, 2) := dk_54 4 (dk_at dksX6_triesGiving_5 10 rfl rfl)
theorem dX6_triesGiving_129 : decode cX6_triesGiving 129 = .ok (.iload 4, 2) := dk_21 4 (dk_at dksX6_triesGiving_5 12 rfl rfl)
theorem dX6_triesGiving_131 : decode cX6_triesGiving 131 = .ok (.aload_n 0, 1) := dk_42 (dk_at dksX6_triesGiving_5 14 rfl rfl)
theorem dX6_triesGiving_132 : decode cX6_triesGiving 132 = .ok (.getfield 7, 3) := dk_180 0 7 (dk_at dksX6_triesGiving_5 15 rfl rfl)
theorem dX6_triesGiving_135 : decode cX6_triesGiving 135 = .ok (.iconst 2, 1) := dk_5 (dk_at dksX6_triesGiving_5 18 rfl rfl)
theorem dX6_triesGiving_136 : decode cX6_triesGiving 136 = .ok (.iaload, 1) := dk_46 (dk_at dksX6_triesGiving_5 19 rfl rfl)
theorem dX6_triesGiving_137 : decode cX6_triesGiving 137 = .ok (.if_icmp .ge 23, 3) := dk_162 0 23 (dk_at dksX6_triesGiving_5 20 rfl rfl)
theorem dX6_triesGiving_140 : decode cX6_triesGiving 140 = .ok (.aload_n 0, 1) := dk_42 (dk_at dksX6_triesGiving_5 23 rfl rfl)
theorem dX6_triesGiving_141 : decode cX6_triesGiving 141 = .ok (.getfield 51, 3) := dk_180 0 51 (dk_at dksX6_triesGiving_6 0 rfl rfl)
theorem dX6_triesGiving_144 : decode cX6_triesGiving 144 = .ok (.iload 4, 2) := dk_21 4 (dk_at dksX6_triesGiving_6 3 rfl rfl)
theorem dX6_triesGiving_146 : decode cX6_triesGiving 146 = .ok (.aload_n 0, 1) := dk_42 (dk_at dksX6_triesGiving_6 5 rfl rfl)
theorem dX6_triesGiving_147 : decode cX6_triesGiving 147 = .ok (.getfield 45, 3) := dk_180 0 45 (dk_at dksX6_triesGiving_6 6 rfl rfl)
theorem dX6_triesGiving_150 : decode cX6_triesGiving 150 = .ok (.iload 4, 2) := dk_21 4 (dk_at dksX6_triesGiving_6 9 rfl rfl)
theorem dX6_triesGiving_152 : decode cX6_triesGiving 152 = .ok (.iaload, 1) := dk_46 (dk_at dksX6_triesGiving_6 11 rfl rfl)
theorem dX6_triesGiving_153 : decode cX6_triesGiving 153 = .ok (.iastore, 1) := dk_79 (dk_at dksX6_triesGiving_6 12 rfl rfl)
theorem dX6_triesGiving_154 : decode cX6_triesGiving 154 = .ok (.iinc 4 1, 3) := dk_132 4 1 (dk_at dksX6_triesGiving_6 13 rfl rfl)
theorem dX6_triesGiving_157 : decode cX6_triesGiving 157 = .ok (.goto (-28), 3) := dk_167 255 228 (dk_at dksX6_triesGiving_6 16 rfl rfl)
theorem dX6_triesGiving_160 : decode cX6_triesGiving 160 = .ok (.return_, 1) := dk_177 (dk_at dksX6_triesGiving_6 19 rfl rfl)
abbrev cX6_mornings : ByteArray := prog_15_method_81_code
def yX6_mornings : MethodName := ⟨RX6, "mornings", "(IIII)I"⟩
def dkwX6_mornings_6 : List UInt8 := [182, 1, 122, 164, 0, 7, 21, 8, 54, 7, 132, 8, 1, 167, 255, 213, 42, 182, 1, 103, 21, 7, 172]
abbrev dktX6_mornings_6 : List UInt8 := dkwX6_mornings_6 ++ []
def dkwX6_mornings_5 : List UInt8 := [21, 7, 2, 160, 0, 36, 42, 21, 8, 21, 5, 29, 27, 182, 1, 122, 42, 21, 8, 21, 5, 29, 28]
abbrev dktX6_mornings_5 : List UInt8 := dkwX6_mornings_5 ++ dktX6_mornings_6
def dkwX6_mornings_4 : List UInt8 := [160, 0, 6, 21, 6, 172, 42, 182, 1, 94, 2, 54, 7, 3, 54, 8, 21, 8, 21, 6, 162, 0, 42]
abbrev dktX6_mornings_4 : List UInt8 := dkwX6_mornings_4 ++ dktX6_mornings_5
def dkwX6_mornings_3 : List UInt8 := [54, 5, 29, 4, 160, 0, 8, 21, 5, 167, 0, 8, 21, 5, 21, 5, 104, 54, 6, 21, 4, 4]
abbrev dktX6_mornings_3 : List UInt8 := dkwX6_mornings_3 ++ dktX6_mornings_4
def dkwX6_mornings_2 : List UInt8 := [184, 0, 66, 154, 0, 5, 2, 172, 42, 180, 0, 7, 3, 46, 42, 180, 0, 7, 3, 46, 4, 100, 104]
abbrev dktX6_mornings_2 : List UInt8 := dkwX6_mornings_2 ++ dktX6_mornings_3
def dkwX6_mornings_1 : List UInt8 := [153, 0, 28, 21, 4, 3, 4, 184, 0, 66, 153, 0, 18, 42, 180, 0, 7, 3, 46, 5, 16, 8]
abbrev dktX6_mornings_1 : List UInt8 := dkwX6_mornings_1 ++ dktX6_mornings_2
def dkwX6_mornings_0 : List UInt8 := [27, 3, 5, 184, 0, 66, 153, 0, 46, 28, 3, 5, 184, 0, 66, 153, 0, 37, 29, 4, 5, 184, 0, 66]
abbrev dktX6_mornings_0 : List UInt8 := dkwX6_mornings_0 ++ dktX6_mornings_1
theorem dksX6_mornings_0 : cX6_mornings.data.toList.drop 0 = dktX6_mornings_0 := by decide +kernel
theorem dksX6_mornings_1 : cX6_mornings.data.toList.drop 24 = dktX6_mornings_1 := dk_seg dksX6_mornings_0 24 rfl rfl
theorem dksX6_mornings_2 : cX6_mornings.data.toList.drop 46 = dktX6_mornings_2 := dk_seg dksX6_mornings_1 22 rfl rfl
theorem dksX6_mornings_3 : cX6_mornings.data.toList.drop 69 = dktX6_mornings_3 := dk_seg dksX6_mornings_2 23 rfl rfl
theorem dksX6_mornings_4 : cX6_mornings.data.toList.drop 91 = dktX6_mornings_4 := dk_seg dksX6_mornings_3 22 rfl rfl
theorem dksX6_mornings_5 : cX6_mornings.data.toList.drop 114 = dktX6_mornings_5 := dk_seg dksX6_mornings_4 23 rfl rfl
theorem dksX6_mornings_6 : cX6_mornings.data.toList.drop 137 = dktX6_mornings_6 := dk_seg dksX6_mornings_5 23 rfl rfl
theorem dX6_mornings_0 : decode cX6_mornings 0 = .ok (.iload_n 1, 1) := dk_27 (dk_at dksX6_mornings_0 0 rfl rfl)
theorem dX6_mornings_1 : decode cX6_mornings 1 = .ok (.iconst 0, 1) := dk_3 (dk_at dksX6_mornings_0 1 rfl rfl)
theorem dX6_mornings_2 : decode cX6_mornings 2 = .ok (.iconst 2, 1) := dk_5 (dk_at dksX6_mornings_0 2 rfl rfl)
theorem dX6_mornings_3 : decode cX6_mornings 3 = .ok (.invokestatic 66, 3) := dk_184 0 66 (dk_at dksX6_mornings_0 3 rfl rfl)
theorem dX6_mornings_6 : decode cX6_mornings 6 = .ok (.ifCond .eq 46, 3) := dk_153 0 46 (dk_at dksX6_mornings_0 6 rfl rfl)
theorem dX6_mornings_9 : decode cX6_mornings 9 = .ok (.iload_n 2, 1) := dk_28 (dk_at dksX6_mornings_0 9 rfl rfl)
theorem dX6_mornings_10 : decode cX6_mornings 10 = .ok (.iconst 0, 1) := dk_3 (dk_at dksX6_mornings_0 10 rfl rfl)
theorem dX6_mornings_11 : decode cX6_mornings 11 = .ok (.iconst 2, 1) := dk_5 (dk_at dksX6_mornings_0 11 rfl rfl)
theorem dX6_mornings_12 : decode cX6_mornings 12 = .ok (.invokestatic 66, 3) := dk_184 0 66 (dk_at dksX6_mornings_0 12 rfl rfl)
theorem dX6_mornings_15 : decode cX6_mornings 15 = .ok (.ifCond .eq 37, 3) := dk_153 0 37 (dk_at dksX6_mornings_0 15 rfl rfl)
theorem dX6_mornings_18 : decode cX6_mornings 18 = .ok (.iload_n 3, 1) := dk_29 (dk_at dksX6_mornings_0 18 rfl rfl)
theorem dX6_mornings_19 : decode cX6_mornings 19 = .ok (.iconst 1, 1) := dk_4 (dk_at dksX6_mornings_0 19 rfl rfl)
theorem dX6_mornings_20 : decode cX6_mornings 20 = .ok (.iconst 2, 1) := dk_5 (dk_at dksX6_mornings_0 20 rfl rfl)
theorem dX6_mornings_21 : decode cX6_mornings 21 = .ok (.invokestatic 66, 3) := dk_184 0 66 (dk_at dksX6_mornings_0 21 rfl rfl)
theorem dX6_mornings_24 : decode cX6_mornings 24 = .ok (.ifCond .eq 28, 3) := dk_153 0 28 (dk_at dksX6_mornings_1 0 rfl rfl)
theorem dX6_mornings_27 : decode cX6_mornings 27 = .ok (.iload 4, 2) := dk_21 4 (dk_at dksX6_mornings_1 3 rfl rfl)
theorem dX6_mornings_29 : decode cX6_mornings 29 = .ok (.iconst 0, 1) := dk_3 (dk_at dksX6_mornings_1 5 rfl rfl)
theorem dX6_mornings_30 : decode cX6_mornings 30 = .ok (.iconst 1, 1) := dk_4 (dk_at dksX6_mornings_1 6 rfl rfl)
theorem dX6_mornings_31 : decode cX6_mornings 31 = .ok (.invokestatic 66, 3) := dk_184 0 66 (dk_at dksX6_mornings_1 7 rfl rfl)
theorem dX6_mornings_34 : decode cX6_mornings 34 = .ok (.ifCond .eq 18, 3) := dk_153 0 18 (dk_at dksX6_mornings_1 10 rfl rfl)
theorem dX6_mornings_37 : decode cX6_mornings 37 = .ok (.aload_n 0, 1) := dk_42 (dk_at dksX6_mornings_1 13 rfl rfl)
theorem dX6_mornings_38 : decode cX6_mornings 38 = .ok (.getfield 7, 3) := dk_180 0 7 (dk_at dksX6_mornings_1 14 rfl rfl)
theorem dX6_mornings_41 : decode cX6_mornings 41 = .ok (.iconst 0, 1) := dk_3 (dk_at dksX6_mornings_1 17 rfl rfl)
theorem dX6_mornings_42 : decode cX6_mornings 42 = .ok (.iaload, 1) := dk_46 (dk_at dksX6_mornings_1 18 rfl rfl)
theorem dX6_mornings_43 : decode cX6_mornings 43 = .ok (.iconst 2, 1) := dk_5 (dk_at dksX6_mornings_1 19 rfl rfl)
theorem dX6_mornings_44 : decode cX6_mornings 44 = .ok (.bipush 8, 2) := dk_16 8 (dk_at dksX6_mornings_1 20 rfl rfl)
theorem dX6_mornings_46 : decode cX6_mornings 46 = .ok (.invokestatic 66, 3) := dk_184 0 66 (dk_at dksX6_mornings_2 0 rfl rfl)
theorem dX6_mornings_49 : decode cX6_mornings 49 = .ok (.ifCond .ne 5, 3) := dk_154 0 5 (dk_at dksX6_mornings_2 3 rfl rfl)
theorem dX6_mornings_52 : decode cX6_mornings 52 = .ok (.iconst (-1), 1) := dk_2 (dk_at dksX6_mornings_2 6 rfl rfl)
theorem dX6_mornings_53 : decode cX6_mornings 53 = .ok (.ireturn, 1) := dk_172 (dk_at dksX6_mornings_2 7 rfl rfl)
theorem dX6_mornings_54 : decode cX6_mornings 54 = .ok (.aload_n 0, 1) := dk_42 (dk_at dksX6_mornings_2 8 rfl rfl)
theorem dX6_mornings_55 : decode cX6_mornings 55 = .ok (.getfield 7, 3) := dk_180 0 7 (dk_at dksX6_mornings_2 9 rfl rfl)
theorem dX6_mornings_58 : decode cX6_mornings 58 = .ok (.iconst 0, 1) := dk_3 (dk_at dksX6_mornings_2 12 rfl rfl)
theorem dX6_mornings_59 : decode cX6_mornings 59 = .ok (.iaload, 1) := dk_46 (dk_at dksX6_mornings_2 13 rfl rfl)
theorem dX6_mornings_60 : decode cX6_mornings 60 = .ok (.aload_n 0, 1) := dk_42 (dk_at dksX6_mornings_2 14 rfl rfl)
theorem dX6_mornings_61 : decode cX6_mornings 61 = .ok (.getfield 7, 3) := dk_180 0 7 (dk_at dksX6_mornings_2 15 rfl rfl)
theorem dX6_mornings_64 : decode cX6_mornings 64 = .ok (.iconst 0, 1) := dk_3 (dk_at dksX6_mornings_2 18 rfl rfl)
theorem dX6_mornings_65 : decode cX6_mornings 65 = .ok (.iaload, 1) := dk_46 (dk_at dksX6_mornings_2 19 rfl rfl)
theorem dX6_mornings_66 : decode cX6_mornings 66 = .ok (.iconst 1, 1) := dk_4 (dk_at dksX6_mornings_2 20 rfl rfl)
theorem dX6_mornings_67 : decode cX6_mornings 67 = .ok (.isub, 1) := dk_100 (dk_at dksX6_mornings_2 21 rfl rfl)
theorem dX6_mornings_68 : decode cX6_mornings 68 = .ok (.imul, 1) := dk_104 (dk_at dksX6_mornings_2 22 rfl rfl)
theorem dX6_mornings_69 : decode cX6_mornings 69 = .ok (.istore 5, 2) := dk_54 5 (dk_at dksX6_mornings_3 0 rfl rfl)
theorem dX6_mornings_71 : decode cX6_mornings 71 = .ok (.iload_n 3, 1) := dk_29 (dk_at dksX6_mornings_3 2 rfl rfl)
theorem dX6_mornings_72 : decode cX6_mornings 72 = .ok (.iconst 1, 1) := dk_4 (dk_at dksX6_mornings_3 3 rfl rfl)
theorem dX6_mornings_73 : decode cX6_mornings 73 = .ok (.if_icmp .ne 8, 3) := dk_160 0 8 (dk_at dksX6_mornings_3 4 rfl rfl)
theorem dX6_mornings_76 : decode cX6_mornings 76 = .ok (.iload 5, 2) := dk_21 5 (dk_at dksX6_mornings_3 7 rfl rfl)
theorem dX6_mornings_78 : decode cX6_mornings 78 = .ok (.goto 8, 3) := dk_167 0 8 (dk_at dksX6_mornings_3 9 rfl rfl)
theorem dX6_mornings_81 : decode cX6_mornings 81 = .ok (.iload 5, 2) := dk_21 5 (dk_at dksX6_mornings_3 12 rfl rfl)
theorem dX6_mornings_83 : decode cX6_mornings 83 = .ok (.iload 5, 2) := dk_21 5 (dk_at dksX6_mornings_3 14 rfl rfl)
theorem dX6_mornings_85 : decode cX6_mornings 85 = .ok (.imul, 1) := dk_104 (dk_at dksX6_mornings_3 16 rfl rfl)
theorem dX6_mornings_86 : decode cX6_mornings 86 = .ok (.istore 6, 2) := dk_54 6 (dk_at dksX6_mornings_3 17 rfl rfl)
theorem dX6_mornings_88 : decode cX6_mornings 88 = .ok (.iload 4, 2) := dk_21 4 (dk_at dksX6_mornings_3 19 rfl rfl)
theorem dX6_mornings_90 : decode cX6_mornings 90 = .ok (.iconst 1, 1) := dk_4 (dk_at dksX6_mornings_3 21 rfl rfl)
theorem dX6_mornings_91 : decode cX6_mornings 91 = .ok (.if_icmp .ne 6, 3) := dk_160 0 6 (dk_at dksX6_mornings_4 0 rfl rfl)
theorem dX6_mornings_94 : decode cX6_mornings 94 = .ok (.iload 6, 2) := dk_21 6 (dk_at dksX6_mornings_4 3 rfl rfl)
theorem dX6_mornings_96 : decode cX6_mornings 96 = .ok (.ireturn, 1) := dk_172 (dk_at dksX6_mornings_4 5 rfl rfl)
theorem dX6_mornings_97 : decode cX6_mornings 97 = .ok (.aload_n 0, 1) := dk_42 (dk_at dksX6_mornings_4 6 rfl rfl)
theorem dX6_mornings_98 : decode cX6_mornings 98 = .ok (.invokevirtual 350, 3) := dk_182 1 94 (dk_at dksX6_mornings_4 7 rfl rfl)
theorem dX6_mornings_101 : decode cX6_mornings 101 = .ok (.iconst (-1), 1) := dk_2 (dk_at dksX6_mornings_4 10 rfl rfl)
theorem dX6_mornings_102 : decode cX6_mornings 102 = .ok (.istore 7, 2) := dk_54 7 (dk_at dksX6_mornings_4 11 rfl rfl)
theorem dX6_mornings_104 : decode cX6_mornings 104 = .ok (.iconst 0, 1) := dk_3 (dk_at dksX6_mornings_4 13 rfl rfl)
theorem dX6_mornings_105 : decode cX6_mornings 105 = .ok (.istore 8, 2) := dk_54 8 (dk_at dksX6_mornings_4 14 rfl rfl)
theorem dX6_mornings_107 : decode cX6_mornings 107 = .ok (.iload 8, 2) := dk_21 8 (dk_at dksX6_mornings_4 16 rfl rfl)
theorem dX6_mornings_109 : decode cX6_mornings 109 = .ok (.iload 6, 2) := dk_21 6 (dk_at dksX6_mornings_4 18 rfl rfl)
theorem dX6_mornings_111 : decode cX6_mornings 111 = .ok (.if_icmp .ge 42, 3) := dk_162 0 42 (dk_at dksX6_mornings_4 20 rfl rfl)
theorem dX6_mornings_114 : decode cX6_mornings 114 = .ok (.iload 7, 2) := dk_21 7 (dk_at dksX6_mornings_5 0 rfl rfl)
theorem dX6_mornings_116 : decode cX6_mornings 116 = .ok (.iconst (-1), 1) := dk_2 (dk_at dksX6_mornings_5 2 rfl rfl)
theorem dX6_mornings_117 : decode cX6_mornings 117 = .ok (.if_icmp .ne 36, 3) := dk_160 0 36 (dk_at dksX6_mornings_5 3 rfl rfl)
theorem dX6_mornings_120 : decode cX6_mornings 120 = .ok (.aload_n 0, 1) := dk_42 (dk_at dksX6_mornings_5 6 rfl rfl)
theorem dX6_mornings_121 : decode cX6_mornings 121 = .ok (.iload 8, 2) := dk_21 8 (dk_at dksX6_mornings_5 7 rfl rfl)
theorem dX6_mornings_123 : decode cX6_mornings 123 = .ok (.iload 5, 2) := dk_21 5 (dk_at dksX6_mornings_5 9 rfl rfl)
theorem dX6_mornings_125 : decode cX6_mornings 125 = .ok (.iload_n 3, 1) := dk_29 (dk_at dksX6_mornings_5 11 rfl rfl)
theorem dX6_mornings_126 : decode cX6_mornings 126 = .ok (.iload_n 1, 1) := dk_27 (dk_at dksX6_mornings_5 12 rfl rfl)
theorem dX6_mornings_127 : decode cX6_mornings 127 = .ok (.invokevirtual 378, 3) := dk_182 1 122 (dk_at dksX6_mornings_5 13 rfl rfl)
theorem dX6_mornings_130 : decode cX6_mornings 130 = .ok (.aload_n 0, 1) := dk_42 (dk_at dksX6_mornings_5 16 rfl rfl)
theorem dX6_mornings_131 : decode cX6_mornings 131 = .ok (.iload 8, 2) := dk_21 8 (dk_at dksX6_mornings_5 17 rfl rfl)
theorem dX6_mornings_133 : decode cX6_mornings 133 = .ok (.iload 5, 2) := dk_21 5 (dk_at dksX6_mornings_5 19 rfl rfl)
theorem dX6_mornings_135 : decode cX6_mornings 135 = .ok (.iload_n 3, 1) := dk_29 (dk_at dksX6_mornings_5 21 rfl rfl)
theorem dX6_mornings_136 : decode cX6_mornings 136 = .ok (.iload_n 2, 1) := dk_28 (dk_at dksX6_mornings_5 22 rfl rfl)
theorem dX6_mornings_137 : decode cX6_mornings 137 = .ok (.invokevirtual 378, 3) := dk_182 1 122 (dk_at dksX6_mornings_6 0 rfl rfl)
theorem dX6_mornings_140 : decode cX6_mornings 140 = .ok (.if_icmp .le 7, 3) := dk_164 0 7 (dk_at dksX6_mornings_6 3 rfl rfl)
theorem dX6_mornings_143 : decode cX6_mornings 143 = .ok (.iload 8, 2) := dk_21 8 (dk_at dksX6_mornings_6 6 rfl rfl)
theorem dX6_mornings_145 : decode cX6_mornings 145 = .ok (.istore 7, 2) := dk_54 7 (dk_at dksX6_mornings_6 8 rfl rfl)
theorem dX6_mornings_147 : decode cX6_mornings 147 = .ok (.iinc 8 1, 3) := dk_132 8 1 (dk_at dksX6_mornings_6 10 rfl rfl)
theorem dX6_mornings_150 : decode cX6_mornings 150 = .ok (.goto (-43), 3) := dk_167 255 213 (dk_at dksX6_mornings_6 13 rfl rfl)
theorem dX6_mornings_153 : decode cX6_mornings 153 = .ok (.aload_n 0, 1) := dk_42 (dk_at dksX6_mornings_6 16 rfl rfl)
theorem dX6_mornings_154 : decode cX6_mornings 154 = .ok (.invokevirtual 359, 3) := dk_182 1 103 (dk_at dksX6_mornings_6 17 rfl rfl)
theorem dX6_mornings_157 : decode cX6_mornings 157 = .ok (.iload 7, 2) := dk_21 7 (dk_at dksX6_mornings_6 20 rfl rfl)
theorem dX6_mornings_159 : decode cX6_mornings 159 = .ok (.ireturn, 1) := dk_172 (dk_at dksX6_mornings_6 22 rfl rfl)
abbrev cX6_overOf : ByteArray := prog_15_method_80_code
def yX6_overOf : MethodName := ⟨RX6, "overOf", "(IIII)I"⟩
def dkwX6_overOf_5 : List UInt8 := [2, 182, 1, 100, 167, 0, 6, 19, 1, 121, 172]
abbrev dktX6_overOf_5 : List UInt8 := dkwX6_overOf_5 ++ []
def dkwX6_overOf_4 : List UInt8 := [27, 28, 108, 182, 1, 118, 42, 27, 28, 112, 182, 1, 118, 42, 17, 3, 232, 182, 1, 97, 153, 0, 11, 42]
abbrev dktX6_overOf_4 : List UInt8 := dkwX6_overOf_4 ++ dktX6_overOf_5
def dkwX6_overOf_3 : List UInt8 := [42, 180, 0, 7, 21, 5, 3, 79, 132, 5, 1, 167, 255, 237, 42, 182, 0, 245, 29, 5, 160, 0, 10, 42]
abbrev dktX6_overOf_3 : List UInt8 := dkwX6_overOf_3 ++ dktX6_overOf_4
def dkwX6_overOf_2 : List UInt8 := [8, 2, 182, 0, 241, 132, 5, 1, 167, 255, 226, 17, 1, 164, 54, 5, 21, 5, 17, 2, 228, 162, 0, 17]
abbrev dktX6_overOf_2 : List UInt8 := dkwX6_overOf_2 ++ dktX6_overOf_3
def dkwX6_overOf_1 : List UInt8 := [54, 5, 21, 5, 42, 180, 0, 7, 4, 46, 162, 0, 25, 42, 21, 5, 7, 3, 182, 0, 241, 42, 21, 5]
abbrev dktX6_overOf_1 : List UInt8 := dkwX6_overOf_1 ++ dktX6_overOf_2
def dkwX6_overOf_0 : List UInt8 := [42, 180, 0, 7, 5, 3, 79, 42, 180, 0, 7, 6, 3, 79, 42, 180, 0, 7, 7, 21, 4, 79, 3]
abbrev dktX6_overOf_0 : List UInt8 := dkwX6_overOf_0 ++ dktX6_overOf_1
theorem dksX6_overOf_0 : cX6_overOf.data.toList.drop 0 = dktX6_overOf_0 := by decide +kernel
theorem dksX6_overOf_1 : cX6_overOf.data.toList.drop 23 = dktX6_overOf_1 := dk_seg dksX6_overOf_0 23 rfl rfl
theorem dksX6_overOf_2 : cX6_overOf.data.toList.drop 47 = dktX6_overOf_2 := dk_seg dksX6_overOf_1 24 rfl rfl
theorem dksX6_overOf_3 : cX6_overOf.data.toList.drop 71 = dktX6_overOf_3 := dk_seg dksX6_overOf_2 24 rfl rfl
theorem dksX6_overOf_4 : cX6_overOf.data.toList.drop 95 = dktX6_overOf_4 := dk_seg dksX6_overOf_3 24 rfl rfl
theorem dksX6_overOf_5 : cX6_overOf.data.toList.drop 119 = dktX6_overOf_5 := dk_seg dksX6_overOf_4 24 rfl rfl
theorem dX6_overOf_0 : decode cX6_overOf 0 = .ok (.aload_n 0, 1) := dk_42 (dk_at dksX6_overOf_0 0 rfl rfl)
theorem dX6_overOf_1 : decode cX6_overOf 1 = .ok (.getfield 7, 3) := dk_180 0 7 (dk_at dksX6_overOf_0 1 rfl rfl)
theorem dX6_overOf_4 : decode cX6_overOf 4 = .ok (.iconst 2, 1) := dk_5 (dk_at dksX6_overOf_0 4 rfl rfl)
theorem dX6_overOf_5 : decode cX6_overOf 5 = .ok (.iconst 0, 1) := dk_3 (dk_at dksX6_overOf_0 5 rfl rfl)
theorem dX6_overOf_6 : decode cX6_overOf 6 = .ok (.iastore, 1) := dk_79 (dk_at dksX6_overOf_0 6 rfl rfl)
theorem dX6_overOf_7 : decode cX6_overOf 7 = .ok (.aload_n 0, 1) := dk_42 (dk_at dksX6_overOf_0 7 rfl rfl)
theorem dX6_overOf_8 : decode cX6_overOf 8 = .ok (.getfield 7, 3) := dk_180 0 7 (dk_at dksX6_overOf_0 8 rfl rfl)
theorem dX6_overOf_11 : decode cX6_overOf 11 = .ok (.iconst 3, 1) := dk_6 (dk_at dksX6_overOf_0 11 rfl rfl)
theorem dX6_overOf_12 : decode cX6_overOf 12 = .ok (.iconst 0, 1) := dk_3 (dk_at dksX6_overOf_0 12 rfl rfl)
theorem dX6_overOf_13 : decode cX6_overOf 13 = .ok (.iastore, 1) := dk_79 (dk_at dksX6_overOf_0 13 rfl rfl)
theorem dX6_overOf_14 : decode cX6_overOf 14 = .ok (.aload_n 0, 1) := dk_42 (dk_at dksX6_overOf_0 14 rfl rfl)
theorem dX6_overOf_15 : decode cX6_overOf 15 = .ok (.getfield 7, 3) := dk_180 0 7 (dk_at dksX6_overOf_0 15 rfl rfl)
theorem dX6_overOf_18 : decode cX6_overOf 18 = .ok (.iconst 4, 1) := dk_7 (dk_at dksX6_overOf_0 18 rfl rfl)
theorem dX6_overOf_19 : decode cX6_overOf 19 = .ok (.iload 4, 2) := dk_21 4 (dk_at dksX6_overOf_0 19 rfl rfl)
theorem dX6_overOf_21 : decode cX6_overOf 21 = .ok (.iastore, 1) := dk_79 (dk_at dksX6_overOf_0 21 rfl rfl)
theorem dX6_overOf_22 : decode cX6_overOf 22 = .ok (.iconst 0, 1) := dk_3 (dk_at dksX6_overOf_0 22 rfl rfl)
theorem dX6_overOf_23 : decode cX6_overOf 23 = .ok (.istore 5, 2) := dk_54 5 (dk_at dksX6_overOf_1 0 rfl rfl)
theorem dX6_overOf_25 : decode cX6_overOf 25 = .ok (.iload 5, 2) := dk_21 5 (dk_at dksX6_overOf_1 2 rfl rfl)
theorem dX6_overOf_27 : decode cX6_overOf 27 = .ok (.aload_n 0, 1) := dk_42 (dk_at dksX6_overOf_1 4 rfl rfl)
theorem dX6_overOf_28 : decode cX6_overOf 28 = .ok (.getfield 7, 3) := dk_180 0 7 (dk_at dksX6_overOf_1 5 rfl rfl)
theorem dX6_overOf_31 : decode cX6_overOf 31 = .ok (.iconst 1, 1) := dk_4 (dk_at dksX6_overOf_1 8 rfl rfl)
theorem dX6_overOf_32 : decode cX6_overOf 32 = .ok (.iaload, 1) := dk_46 (dk_at dksX6_overOf_1 9 rfl rfl)
theorem dX6_overOf_33 : decode cX6_overOf 33 = .ok (.if_icmp .ge 25, 3) := dk_162 0 25 (dk_at dksX6_overOf_1 10 rfl rfl)
theorem dX6_overOf_36 : decode cX6_overOf 36 = .ok (.aload_n 0, 1) := dk_42 (dk_at dksX6_overOf_1 13 rfl rfl)
theorem dX6_overOf_37 : decode cX6_overOf 37 = .ok (.iload 5, 2) := dk_21 5 (dk_at dksX6_overOf_1 14 rfl rfl)
theorem dX6_overOf_39 : decode cX6_overOf 39 = .ok (.iconst 4, 1) := dk_7 (dk_at dksX6_overOf_1 16 rfl rfl)
theorem dX6_overOf_40 : decode cX6_overOf 40 = .ok (.iconst 0, 1) := dk_3 (dk_at dksX6_overOf_1 17 rfl rfl)
theorem dX6_overOf_41 : decode cX6_overOf 41 = .ok (.invokevirtual 241, 3) := dk_182 0 241 (dk_at dksX6_overOf_1 18 rfl rfl)
theorem dX6_overOf_44 : decode cX6_overOf 44 = .ok (.aload_n 0, 1) := dk_42 (dk_at dksX6_overOf_1 21 rfl rfl)
theorem dX6_overOf_45 : decode cX6_overOf 45 = .ok (.iload 5, 2) := dk_21 5 (dk_at dksX6_overOf_1 22 rfl rfl)
theorem dX6_overOf_47 : decode cX6_overOf 47 = .ok (.iconst 5, 1) := dk_8 (dk_at dksX6_overOf_2 0 rfl rfl)
theorem dX6_overOf_48 : decode cX6_overOf 48 = .ok (.iconst (-1), 1) := dk_2 (dk_at dksX6_overOf_2 1 rfl rfl)
theorem dX6_overOf_49 : decode cX6_overOf 49 = .ok (.invokevirtual 241, 3) := dk_182 0 241 (dk_at dksX6_overOf_2 2 rfl rfl)
theorem dX6_overOf_52 : decode cX6_overOf 52 = .ok (.iinc 5 1, 3) := dk_132 5 1 (dk_at dksX6_overOf_2 5 rfl rfl)
theorem dX6_overOf_55 : decode cX6_overOf 55 = .ok (.goto (-30), 3) := dk_167 255 226 (dk_at dksX6_overOf_2 8 rfl rfl)
theorem dX6_overOf_58 : decode cX6_overOf 58 = .ok (.sipush 420, 3) := dk_17 1 164 (dk_at dksX6_overOf_2 11 rfl rfl)
theorem dX6_overOf_61 : decode cX6_overOf 61 = .ok (.istore 5, 2) := dk_54 5 (dk_at dksX6_overOf_2 14 rfl rfl)
theorem dX6_overOf_63 : decode cX6_overOf 63 = .ok (.iload 5, 2) := dk_21 5 (dk_at dksX6_overOf_2 16 rfl rfl)
theorem dX6_overOf_65 : decode cX6_overOf 65 = .ok (.sipush 740, 3) := dk_17 2 228 (dk_at dksX6_overOf_2 18 rfl rfl)
theorem dX6_overOf_68 : decode cX6_overOf 68 = .ok (.if_icmp .ge 17, 3) := dk_162 0 17 (dk_at dksX6_overOf_2 21 rfl rfl)
theorem dX6_overOf_71 : decode cX6_overOf 71 = .ok (.aload_n 0, 1) := dk_42 (dk_at dksX6_overOf_3 0 rfl rfl)
theorem dX6_overOf_72 : decode cX6_overOf 72 = .ok (.getfield 7, 3) := dk_180 0 7 (dk_at dksX6_overOf_3 1 rfl rfl)
theorem dX6_overOf_75 : decode cX6_overOf 75 = .ok (.iload 5, 2) := dk_21 5 (dk_at dksX6_overOf_3 4 rfl rfl)
theorem dX6_overOf_77 : decode cX6_overOf 77 = .ok (.iconst 0, 1) := dk_3 (dk_at dksX6_overOf_3 6 rfl rfl)
theorem dX6_overOf_78 : decode cX6_overOf 78 = .ok (.iastore, 1) := dk_79 (dk_at dksX6_overOf_3 7 rfl rfl)
theorem dX6_overOf_79 : decode cX6_overOf 79 = .ok (.iinc 5 1, 3) := dk_132 5 1 (dk_at dksX6_overOf_3 8 rfl rfl)
theorem dX6_overOf_82 : decode cX6_overOf 82 = .ok (.goto (-19), 3) := dk_167 255 237 (dk_at dksX6_overOf_3 11 rfl rfl)
theorem dX6_overOf_85 : decode cX6_overOf 85 = .ok (.aload_n 0, 1) := dk_42 (dk_at dksX6_overOf_3 14 rfl rfl)
theorem dX6_overOf_86 : decode cX6_overOf 86 = .ok (.invokevirtual 245, 3) := dk_182 0 245 (dk_at dksX6_overOf_3 15 rfl rfl)
theorem dX6_overOf_89 : decode cX6_overOf 89 = .ok (.iload_n 3, 1) := dk_29 (dk_at dksX6_overOf_3 18 rfl rfl)
theorem dX6_overOf_90 : decode cX6_overOf 90 = .ok (.iconst 2, 1) := dk_5 (dk_at dksX6_overOf_3 19 rfl rfl)
theorem dX6_overOf_91 : decode cX6_overOf 91 = .ok (.if_icmp .ne 10, 3) := dk_160 0 10 (dk_at dksX6_overOf_3 20 rfl rfl)
theorem dX6_overOf_94 : decode cX6_overOf 94 = .ok (.aload_n 0, 1) := dk_42 (dk_at dksX6_overOf_3 23 rfl rfl)
theorem dX6_overOf_95 : decode cX6_overOf 95 = .ok (.iload_n 1, 1) := dk_27 (dk_at dksX6_overOf_4 0 rfl rfl)
theorem dX6_overOf_96 : decode cX6_overOf 96 = .ok (.iload_n 2, 1) := dk_28 (dk_at dksX6_overOf_4 1 rfl rfl)
theorem dX6_overOf_97 : decode cX6_overOf 97 = .ok (.idiv, 1) := dk_108 (dk_at dksX6_overOf_4 2 rfl rfl)
theorem dX6_overOf_98 : decode cX6_overOf 98 = .ok (.invokevirtual 374, 3) := dk_182 1 118 (dk_at dksX6_overOf_4 3 rfl rfl)
theorem dX6_overOf_101 : decode cX6_overOf 101 = .ok (.aload_n 0, 1) := dk_42 (dk_at dksX6_overOf_4 6 rfl rfl)
theorem dX6_overOf_102 : decode cX6_overOf 102 = .ok (.iload_n 1, 1) := dk_27 (dk_at dksX6_overOf_4 7 rfl rfl)
theorem dX6_overOf_103 : decode cX6_overOf 103 = .ok (.iload_n 2, 1) := dk_28 (dk_at dksX6_overOf_4 8 rfl rfl)
theorem dX6_overOf_104 : decode cX6_overOf 104 = .ok (.irem, 1) := dk_112 (dk_at dksX6_overOf_4 9 rfl rfl)
theorem dX6_overOf_105 : decode cX6_overOf 105 = .ok (.invokevirtual 374, 3) := dk_182 1 118 (dk_at dksX6_overOf_4 10 rfl rfl)
theorem dX6_overOf_108 : decode cX6_overOf 108 = .ok (.aload_n 0, 1) := dk_42 (dk_at dksX6_overOf_4 13 rfl rfl)
theorem dX6_overOf_109 : decode cX6_overOf 109 = .ok (.sipush 1000, 3) := dk_17 3 232 (dk_at dksX6_overOf_4 14 rfl rfl)
theorem dX6_overOf_112 : decode cX6_overOf 112 = .ok (.invokevirtual 353, 3) := dk_182 1 97 (dk_at dksX6_overOf_4 17 rfl rfl)
theorem dX6_overOf_115 : decode cX6_overOf 115 = .ok (.ifCond .eq 11, 3) := dk_153 0 11 (dk_at dksX6_overOf_4 20 rfl rfl)
theorem dX6_overOf_118 : decode cX6_overOf 118 = .ok (.aload_n 0, 1) := dk_42 (dk_at dksX6_overOf_4 23 rfl rfl)
theorem dX6_overOf_119 : decode cX6_overOf 119 = .ok (.iconst (-1), 1) := dk_2 (dk_at dksX6_overOf_5 0 rfl rfl)
theorem dX6_overOf_120 : decode cX6_overOf 120 = .ok (.invokevirtual 356, 3) := dk_182 1 100 (dk_at dksX6_overOf_5 1 rfl rfl)
theorem dX6_overOf_123 : decode cX6_overOf 123 = .ok (.goto 6, 3) := dk_167 0 6 (dk_at dksX6_overOf_5 4 rfl rfl)
theorem dX6_overOf_126 : decode cX6_overOf 126 = .ok (.ldc_w 377, 3) := dk_19 1 121 (dk_at dksX6_overOf_5 7 rfl rfl)
theorem dX6_overOf_129 : decode cX6_overOf 129 = .ok (.ireturn, 1) := dk_172 (dk_at dksX6_overOf_5 10 rfl rfl)
abbrev cX6_laysCall : ByteArray := prog_15_method_79_code
def yX6_laysCall : MethodName := ⟨RX6, "laysCall", "(I)V"⟩
def dkwX6_laysCall_1 : List UInt8 := [162, 0, 8, 21, 4, 167, 0, 7, 21, 4, 4, 96, 182, 1, 3, 177]
abbrev dktX6_laysCall_1 : List UInt8 := dkwX6_laysCall_1 ++ []
def dkwX6_laysCall_0 : List UInt8 := [42, 180, 0, 7, 3, 46, 4, 100, 61, 27, 28, 108, 62, 27, 28, 112, 54, 4, 42, 3, 29, 21, 4, 29]
abbrev dktX6_laysCall_0 : List UInt8 := dkwX6_laysCall_0 ++ dktX6_laysCall_1
theorem dksX6_laysCall_0 : cX6_laysCall.data.toList.drop 0 = dktX6_laysCall_0 := by decide +kernel
theorem dksX6_laysCall_1 : cX6_laysCall.data.toList.drop 24 = dktX6_laysCall_1 := dk_seg dksX6_laysCall_0 24 rfl rfl
theorem dX6_laysCall_0 : decode cX6_laysCall 0 = .ok (.aload_n 0, 1) := dk_42 (dk_at dksX6_laysCall_0 0 rfl rfl)
theorem dX6_laysCall_1 : decode cX6_laysCall 1 = .ok (.getfield 7, 3) := dk_180 0 7 (dk_at dksX6_laysCall_0 1 rfl rfl)
theorem dX6_laysCall_4 : decode cX6_laysCall 4 = .ok (.iconst 0, 1) := dk_3 (dk_at dksX6_laysCall_0 4 rfl rfl)
theorem dX6_laysCall_5 : decode cX6_laysCall 5 = .ok (.iaload, 1) := dk_46 (dk_at dksX6_laysCall_0 5 rfl rfl)
theorem dX6_laysCall_6 : decode cX6_laysCall 6 = .ok (.iconst 1, 1) := dk_4 (dk_at dksX6_laysCall_0 6 rfl rfl)
theorem dX6_laysCall_7 : decode cX6_laysCall 7 = .ok (.isub, 1) := dk_100 (dk_at dksX6_laysCall_0 7 rfl rfl)
theorem dX6_laysCall_8 : decode cX6_laysCall 8 = .ok (.istore_n 2, 1) := dk_61 (dk_at dksX6_laysCall_0 8 rfl rfl)
theorem dX6_laysCall_9 : decode cX6_laysCall 9 = .ok (.iload_n 1, 1) := dk_27 (dk_at dksX6_laysCall_0 9 rfl rfl)
theorem dX6_laysCall_10 : decode cX6_laysCall 10 = .ok (.iload_n 2, 1) := dk_28 (dk_at dksX6_laysCall_0 10 rfl rfl)
theorem dX6_laysCall_11 : decode cX6_laysCall 11 = .ok (.idiv, 1) := dk_108 (dk_at dksX6_laysCall_0 11 rfl rfl)
theorem dX6_laysCall_12 : decode cX6_laysCall 12 = .ok (.istore_n 3, 1) := dk_62 (dk_at dksX6_laysCall_0 12 rfl rfl)
theorem dX6_laysCall_13 : decode cX6_laysCall 13 = .ok (.iload_n 1, 1) := dk_27 (dk_at dksX6_laysCall_0 13 rfl rfl)
theorem dX6_laysCall_14 : decode cX6_laysCall 14 = .ok (.iload_n 2, 1) := dk_28 (dk_at dksX6_laysCall_0 14 rfl rfl)
theorem dX6_laysCall_15 : decode cX6_laysCall 15 = .ok (.irem, 1) := dk_112 (dk_at dksX6_laysCall_0 15 rfl rfl)
theorem dX6_laysCall_16 : decode cX6_laysCall 16 = .ok (.istore 4, 2) := dk_54 4 (dk_at dksX6_laysCall_0 16 rfl rfl)
theorem dX6_laysCall_18 : decode cX6_laysCall 18 = .ok (.aload_n 0, 1) := dk_42 (dk_at dksX6_laysCall_0 18 rfl rfl)
theorem dX6_laysCall_19 : decode cX6_laysCall 19 = .ok (.iconst 0, 1) := dk_3 (dk_at dksX6_laysCall_0 19 rfl rfl)
theorem dX6_laysCall_20 : decode cX6_laysCall 20 = .ok (.iload_n 3, 1) := dk_29 (dk_at dksX6_laysCall_0 20 rfl rfl)
theorem dX6_laysCall_21 : decode cX6_laysCall 21 = .ok (.iload 4, 2) := dk_21 4 (dk_at dksX6_laysCall_0 21 rfl rfl)
theorem dX6_laysCall_23 : decode cX6_laysCall 23 = .ok (.iload_n 3, 1) := dk_29 (dk_at dksX6_laysCall_0 23 rfl rfl)
theorem dX6_laysCall_24 : decode cX6_laysCall 24 = .ok (.if_icmp .ge 8, 3) := dk_162 0 8 (dk_at dksX6_laysCall_1 0 rfl rfl)
theorem dX6_laysCall_27 : decode cX6_laysCall 27 = .ok (.iload 4, 2) := dk_21 4 (dk_at dksX6_laysCall_1 3 rfl rfl)
theorem dX6_laysCall_29 : decode cX6_laysCall 29 = .ok (.goto 7, 3) := dk_167 0 7 (dk_at dksX6_laysCall_1 5 rfl rfl)
theorem dX6_laysCall_32 : decode cX6_laysCall 32 = .ok (.iload 4, 2) := dk_21 4 (dk_at dksX6_laysCall_1 8 rfl rfl)
theorem dX6_laysCall_34 : decode cX6_laysCall 34 = .ok (.iconst 1, 1) := dk_4 (dk_at dksX6_laysCall_1 10 rfl rfl)
theorem dX6_laysCall_35 : decode cX6_laysCall 35 = .ok (.iadd, 1) := dk_96 (dk_at dksX6_laysCall_1 11 rfl rfl)
theorem dX6_laysCall_36 : decode cX6_laysCall 36 = .ok (.invokevirtual 259, 3) := dk_182 1 3 (dk_at dksX6_laysCall_1 12 rfl rfl)
theorem dX6_laysCall_39 : decode cX6_laysCall 39 = .ok (.return_, 1) := dk_177 (dk_at dksX6_laysCall_1 15 rfl rfl)
abbrev cX6_fun : ByteArray := prog_15_method_82_code
def yX6_fun : MethodName := ⟨RX6, "fun", "(II)I"⟩
def dkwX6_fun_6 : List UInt8 := [21, 5, 21, 4, 100, 167, 0, 6, 19, 1, 126, 172]
abbrev dktX6_fun_6 : List UInt8 := dkwX6_fun_6 ++ []
def dkwX6_fun_5 : List UInt8 := [27, 182, 1, 100, 167, 0, 4, 3, 54, 5, 42, 2, 181, 0, 48, 42, 182, 1, 103, 29, 153, 0, 11]
abbrev dktX6_fun_5 : List UInt8 := dkwX6_fun_5 ++ dktX6_fun_6
def dkwX6_fun_4 : List UInt8 := [153, 0, 17, 42, 17, 11, 184, 182, 1, 97, 153, 0, 7, 4, 167, 0, 4, 3, 62, 29, 153, 0, 11, 42]
abbrev dktX6_fun_4 : List UInt8 := dkwX6_fun_4 ++ dktX6_fun_5
def dkwX6_fun_3 : List UInt8 := [182, 1, 100, 167, 0, 4, 3, 54, 4, 42, 182, 1, 103, 42, 27, 181, 0, 48, 42, 28, 181, 1, 58, 29]
abbrev dktX6_fun_3 : List UInt8 := dkwX6_fun_3 ++ dktX6_fun_4
def dkwX6_fun_2 : List UInt8 := [19, 1, 126, 172, 42, 182, 1, 94, 42, 17, 11, 184, 182, 1, 97, 62, 29, 153, 0, 11, 42, 27]
abbrev dktX6_fun_2 : List UInt8 := dkwX6_fun_2 ++ dktX6_fun_3
def dkwX6_fun_1 : List UInt8 := [153, 0, 23, 28, 42, 27, 4, 182, 1, 15, 159, 0, 13, 28, 42, 27, 5, 182, 1, 15, 160, 0, 7]
abbrev dktX6_fun_1 : List UInt8 := dkwX6_fun_1 ++ dktX6_fun_2
def dkwX6_fun_0 : List UInt8 := [42, 27, 182, 1, 35, 153, 0, 41, 42, 27, 6, 182, 1, 15, 4, 160, 0, 31, 42, 28, 182, 1, 0]
abbrev dktX6_fun_0 : List UInt8 := dkwX6_fun_0 ++ dktX6_fun_1
theorem dksX6_fun_0 : cX6_fun.data.toList.drop 0 = dktX6_fun_0 := by decide +kernel
theorem dksX6_fun_1 : cX6_fun.data.toList.drop 23 = dktX6_fun_1 := dk_seg dksX6_fun_0 23 rfl rfl
theorem dksX6_fun_2 : cX6_fun.data.toList.drop 46 = dktX6_fun_2 := dk_seg dksX6_fun_1 23 rfl rfl
theorem dksX6_fun_3 : cX6_fun.data.toList.drop 68 = dktX6_fun_3 := dk_seg dksX6_fun_2 22 rfl rfl
theorem dksX6_fun_4 : cX6_fun.data.toList.drop 92 = dktX6_fun_4 := dk_seg dksX6_fun_3 24 rfl rfl
theorem dksX6_fun_5 : cX6_fun.data.toList.drop 116 = dktX6_fun_5 := dk_seg dksX6_fun_4 24 rfl rfl
theorem dksX6_fun_6 : cX6_fun.data.toList.drop 139 = dktX6_fun_6 := dk_seg dksX6_fun_5 23 rfl rfl
theorem dX6_fun_0 : decode cX6_fun 0 = .ok (.aload_n 0, 1) := dk_42 (dk_at dksX6_fun_0 0 rfl rfl)
theorem dX6_fun_1 : decode cX6_fun 1 = .ok (.iload_n 1, 1) := dk_27 (dk_at dksX6_fun_0 1 rfl rfl)
theorem dX6_fun_2 : decode cX6_fun 2 = .ok (.invokevirtual 291, 3) := dk_182 1 35 (dk_at dksX6_fun_0 2 rfl rfl)
theorem dX6_fun_5 : decode cX6_fun 5 = .ok (.ifCond .eq 41, 3) := dk_153 0 41 (dk_at dksX6_fun_0 5 rfl rfl)
theorem dX6_fun_8 : decode cX6_fun 8 = .ok (.aload_n 0, 1) := dk_42 (dk_at dksX6_fun_0 8 rfl rfl)
theorem dX6_fun_9 : decode cX6_fun 9 = .ok (.iload_n 1, 1) := dk_27 (dk_at dksX6_fun_0 9 rfl rfl)
theorem dX6_fun_10 : decode cX6_fun 10 = .ok (.iconst 3, 1) := dk_6 (dk_at dksX6_fun_0 10 rfl rfl)
theorem dX6_fun_11 : decode cX6_fun 11 = .ok (.invokevirtual 271, 3) := dk_182 1 15 (dk_at dksX6_fun_0 11 rfl rfl)
theorem dX6_fun_14 : decode cX6_fun 14 = .ok (.iconst 1, 1) := dk_4 (dk_at dksX6_fun_0 14 rfl rfl)
theorem dX6_fun_15 : decode cX6_fun 15 = .ok (.if_icmp .ne 31, 3) := dk_160 0 31 (dk_at dksX6_fun_0 15 rfl rfl)
theorem dX6_fun_18 : decode cX6_fun 18 = .ok (.aload_n 0, 1) := dk_42 (dk_at dksX6_fun_0 18 rfl rfl)
theorem dX6_fun_19 : decode cX6_fun 19 = .ok (.iload_n 2, 1) := dk_28 (dk_at dksX6_fun_0 19 rfl rfl)
theorem dX6_fun_20 : decode cX6_fun 20 = .ok (.invokevirtual 256, 3) := dk_182 1 0 (dk_at dksX6_fun_0 20 rfl rfl)
theorem dX6_fun_23 : decode cX6_fun 23 = .ok (.ifCond .eq 23, 3) := dk_153 0 23 (dk_at dksX6_fun_1 0 rfl rfl)
theorem dX6_fun_26 : decode cX6_fun 26 = .ok (.iload_n 2, 1) := dk_28 (dk_at dksX6_fun_1 3 rfl rfl)
theorem dX6_fun_27 : decode cX6_fun 27 = .ok (.aload_n 0, 1) := dk_42 (dk_at dksX6_fun_1 4 rfl rfl)
theorem dX6_fun_28 : decode cX6_fun 28 = .ok (.iload_n 1, 1) := dk_27 (dk_at dksX6_fun_1 5 rfl rfl)
theorem dX6_fun_29 : decode cX6_fun 29 = .ok (.iconst 1, 1) := dk_4 (dk_at dksX6_fun_1 6 rfl rfl)
theorem dX6_fun_30 : decode cX6_fun 30 = .ok (.invokevirtual 271, 3) := dk_182 1 15 (dk_at dksX6_fun_1 7 rfl rfl)
theorem dX6_fun_33 : decode cX6_fun 33 = .ok (.if_icmp .eq 13, 3) := dk_159 0 13 (dk_at dksX6_fun_1 10 rfl rfl)
theorem dX6_fun_36 : decode cX6_fun 36 = .ok (.iload_n 2, 1) := dk_28 (dk_at dksX6_fun_1 13 rfl rfl)
theorem dX6_fun_37 : decode cX6_fun 37 = .ok (.aload_n 0, 1) := dk_42 (dk_at dksX6_fun_1 14 rfl rfl)
theorem dX6_fun_38 : decode cX6_fun 38 = .ok (.iload_n 1, 1) := dk_27 (dk_at dksX6_fun_1 15 rfl rfl)
theorem dX6_fun_39 : decode cX6_fun 39 = .ok (.iconst 2, 1) := dk_5 (dk_at dksX6_fun_1 16 rfl rfl)
theorem dX6_fun_40 : decode cX6_fun 40 = .ok (.invokevirtual 271, 3) := dk_182 1 15 (dk_at dksX6_fun_1 17 rfl rfl)
theorem dX6_fun_43 : decode cX6_fun 43 = .ok (.if_icmp .ne 7, 3) := dk_160 0 7 (dk_at dksX6_fun_1 20 rfl rfl)
theorem dX6_fun_46 : decode cX6_fun 46 = .ok (.ldc_w 382, 3) := dk_19 1 126 (dk_at dksX6_fun_2 0 rfl rfl)
theorem dX6_fun_49 : decode cX6_fun 49 = .ok (.ireturn, 1) := dk_172 (dk_at dksX6_fun_2 3 rfl rfl)
theorem dX6_fun_50 : decode cX6_fun 50 = .ok (.aload_n 0, 1) := dk_42 (dk_at dksX6_fun_2 4 rfl rfl)
theorem dX6_fun_51 : decode cX6_fun 51 = .ok (.invokevirtual 350, 3) := dk_182 1 94 (dk_at dksX6_fun_2 5 rfl rfl)
theorem dX6_fun_54 : decode cX6_fun 54 = .ok (.aload_n 0, 1) := dk_42 (dk_at dksX6_fun_2 8 rfl rfl)
theorem dX6_fun_55 : decode cX6_fun 55 = .ok (.sipush 3000, 3) := dk_17 11 184 (dk_at dksX6_fun_2 9 rfl rfl)
theorem dX6_fun_58 : decode cX6_fun 58 = .ok (.invokevirtual 353, 3) := dk_182 1 97 (dk_at dksX6_fun_2 12 rfl rfl)
theorem dX6_fun_61 : decode cX6_fun 61 = .ok (.istore_n 3, 1) := dk_62 (dk_at dksX6_fun_2 15 rfl rfl)
theorem dX6_fun_62 : decode cX6_fun 62 = .ok (.iload_n 3, 1) := dk_29 (dk_at dksX6_fun_2 16 rfl rfl)
theorem dX6_fun_63 : decode cX6_fun 63 = .ok (.ifCond .eq 11, 3) := dk_153 0 11 (dk_at dksX6_fun_2 17 rfl rfl)
theorem dX6_fun_66 : decode cX6_fun 66 = .ok (.aload_n 0, 1) := dk_42 (dk_at dksX6_fun_2 20 rfl rfl)
theorem dX6_fun_67 : decode cX6_fun 67 = .ok (.iload_n 1, 1) := dk_27 (dk_at dksX6_fun_2 21 rfl rfl)
theorem dX6_fun_68 : decode cX6_fun 68 = .ok (.invokevirtual 356, 3) := dk_182 1 100 (dk_at dksX6_fun_3 0 rfl rfl)
theorem dX6_fun_71 : decode cX6_fun 71 = .ok (.goto 4, 3) := dk_167 0 4 (dk_at dksX6_fun_3 3 rfl rfl)
theorem dX6_fun_74 : decode cX6_fun 74 = .ok (.iconst 0, 1) := dk_3 (dk_at dksX6_fun_3 6 rfl rfl)
theorem dX6_fun_75 : decode cX6_fun 75 = .ok (.istore 4, 2) := dk_54 4 (dk_at dksX6_fun_3 7 rfl rfl)
theorem dX6_fun_77 : decode cX6_fun 77 = .ok (.aload_n 0, 1) := dk_42 (dk_at dksX6_fun_3 9 rfl rfl)
theorem dX6_fun_78 : decode cX6_fun 78 = .ok (.invokevirtual 359, 3) := dk_182 1 103 (dk_at dksX6_fun_3 10 rfl rfl)
theorem dX6_fun_81 : decode cX6_fun 81 = .ok (.aload_n 0, 1) := dk_42 (dk_at dksX6_fun_3 13 rfl rfl)
theorem dX6_fun_82 : decode cX6_fun 82 = .ok (.iload_n 1, 1) := dk_27 (dk_at dksX6_fun_3 14 rfl rfl)
theorem dX6_fun_83 : decode cX6_fun 83 = .ok (.putfield 48, 3) := dk_181 0 48 (dk_at dksX6_fun_3 15 rfl rfl)
theorem dX6_fun_86 : decode cX6_fun 86 = .ok (.aload_n 0, 1) := dk_42 (dk_at dksX6_fun_3 18 rfl rfl)
theorem dX6_fun_87 : decode cX6_fun 87 = .ok (.iload_n 2, 1) := dk_28 (dk_at dksX6_fun_3 19 rfl rfl)
theorem dX6_fun_88 : decode cX6_fun 88 = .ok (.putfield 314, 3) := dk_181 1 58 (dk_at dksX6_fun_3 20 rfl rfl)
theorem dX6_fun_91 : decode cX6_fun 91 = .ok (.iload_n 3, 1) := dk_29 (dk_at dksX6_fun_3 23 rfl rfl)
theorem dX6_fun_92 : decode cX6_fun 92 = .ok (.ifCond .eq 17, 3) := dk_153 0 17 (dk_at dksX6_fun_4 0 rfl rfl)
theorem dX6_fun_95 : decode cX6_fun 95 = .ok (.aload_n 0, 1) := dk_42 (dk_at dksX6_fun_4 3 rfl rfl)
theorem dX6_fun_96 : decode cX6_fun 96 = .ok (.sipush 3000, 3) := dk_17 11 184 (dk_at dksX6_fun_4 4 rfl rfl)
theorem dX6_fun_99 : decode cX6_fun 99 = .ok (.invokevirtual 353, 3) := dk_182 1 97 (dk_at dksX6_fun_4 7 rfl rfl)
theorem dX6_fun_102 : decode cX6_fun 102 = .ok (.ifCond .eq 7, 3) := dk_153 0 7 (dk_at dksX6_fun_4 10 rfl rfl)
theorem dX6_fun_105 : decode cX6_fun 105 = .ok (.iconst 1, 1) := dk_4 (dk_at dksX6_fun_4 13 rfl rfl)
theorem dX6_fun_106 : decode cX6_fun 106 = .ok (.goto 4, 3) := dk_167 0 4 (dk_at dksX6_fun_4 14 rfl rfl)
theorem dX6_fun_109 : decode cX6_fun 109 = .ok (.iconst 0, 1) := dk_3 (dk_at dksX6_fun_4 17 rfl rfl)
theorem dX6_fun_110 : decode cX6_fun 110 = .ok (.istore_n 3, 1) := dk_62 (dk_at dksX6_fun_4 18 rfl rfl)
theorem dX6_fun_111 : decode cX6_fun 111 = .ok (.iload_n 3, 1) := dk_29 (dk_at dksX6_fun_4 19 rfl rfl)
theorem dX6_fun_112 : decode cX6_fun 112 = .ok (.ifCond .eq 11, 3) := dk_153 0 11 (dk_at dksX6_fun_4 20 rfl rfl)
theorem dX6_fun_115 : decode cX6_fun 115 = .ok (.aload_n 0, 1) := dk_42 (dk_at dksX6_fun_4 23 rfl rfl)
theorem dX6_fun_116 : decode cX6_fun 116 = .ok (.iload_n 1, 1) := dk_27 (dk_at dksX6_fun_5 0 rfl rfl)
theorem dX6_fun_117 : decode cX6_fun 117 = .ok (.invokevirtual 356, 3) := dk_182 1 100 (dk_at dksX6_fun_5 1 rfl rfl)
theorem dX6_fun_120 : decode cX6_fun 120 = .ok (.goto 4, 3) := dk_167 0 4 (dk_at dksX6_fun_5 4 rfl rfl)
theorem dX6_fun_123 : decode cX6_fun 123 = .ok (.iconst 0, 1) := dk_3 (dk_at dksX6_fun_5 7 rfl rfl)
theorem dX6_fun_124 : decode cX6_fun 124 = .ok (.istore 5, 2) := dk_54 5 (dk_at dksX6_fun_5 8 rfl rfl)
theorem dX6_fun_126 : decode cX6_fun 126 = .ok (.aload_n 0, 1) := dk_42 (dk_at dksX6_fun_5 10 rfl rfl)
theorem dX6_fun_127 : decode cX6_fun 127 = .ok (.iconst (-1), 1) := dk_2 (dk_at dksX6_fun_5 11 rfl rfl)
theorem dX6_fun_128 : decode cX6_fun 128 = .ok (.putfield 48, 3) := dk_181 0 48 (dk_at dksX6_fun_5 12 rfl rfl)
theorem dX6_fun_131 : decode cX6_fun 131 = .ok (.aload_n 0, 1) := dk_42 (dk_at dksX6_fun_5 15 rfl rfl)
theorem dX6_fun_132 : decode cX6_fun 132 = .ok (.invokevirtual 359, 3) := dk_182 1 103 (dk_at dksX6_fun_5 16 rfl rfl)
theorem dX6_fun_135 : decode cX6_fun 135 = .ok (.iload_n 3, 1) := dk_29 (dk_at dksX6_fun_5 19 rfl rfl)
theorem dX6_fun_136 : decode cX6_fun 136 = .ok (.ifCond .eq 11, 3) := dk_153 0 11 (dk_at dksX6_fun_5 20 rfl rfl)
theorem dX6_fun_139 : decode cX6_fun 139 = .ok (.iload 5, 2) := dk_21 5 (dk_at dksX6_fun_6 0 rfl rfl)
theorem dX6_fun_141 : decode cX6_fun 141 = .ok (.iload 4, 2) := dk_21 4 (dk_at dksX6_fun_6 2 rfl rfl)
theorem dX6_fun_143 : decode cX6_fun 143 = .ok (.isub, 1) := dk_100 (dk_at dksX6_fun_6 4 rfl rfl)
theorem dX6_fun_144 : decode cX6_fun 144 = .ok (.goto 6, 3) := dk_167 0 6 (dk_at dksX6_fun_6 5 rfl rfl)
theorem dX6_fun_147 : decode cX6_fun 147 = .ok (.ldc_w 382, 3) := dk_19 1 126 (dk_at dksX6_fun_6 8 rfl rfl)
theorem dX6_fun_150 : decode cX6_fun 150 = .ok (.ireturn, 1) := dk_172 (dk_at dksX6_fun_6 11 rfl rfl)
abbrev cX6_places : ByteArray := prog_15_method_87_code
def yX6_places : MethodName := ⟨RX6, "places", "(II)I"⟩
def dkwX6_places_10 : List UInt8 := [28, 154, 0, 7, 29, 167, 0, 12, 42, 180, 0, 57, 28, 16, 10, 100, 46, 172]
abbrev dktX6_places_10 : List UInt8 := dkwX6_places_10 ++ []
def dkwX6_places_9 : List UInt8 := [159, 0, 9, 132, 6, 1, 167, 255, 188, 42, 180, 0, 57, 21, 4, 21, 6, 79, 132, 4, 1, 167, 255, 150]
abbrev dktX6_places_9 : List UInt8 := dkwX6_places_9 ++ dktX6_places_10
def dkwX6_places_8 : List UInt8 := [100, 104, 21, 6, 96, 46, 96, 42, 180, 0, 54, 16, 80, 27, 21, 4, 100, 104, 21, 5, 96, 46]
abbrev dktX6_places_8 : List UInt8 := dkwX6_places_8 ++ dktX6_places_9
def dkwX6_places_7 : List UInt8 := [46, 2, 159, 0, 47, 42, 21, 5, 21, 6, 182, 1, 130, 42, 180, 0, 54, 16, 80, 27, 4, 100, 21, 4]
abbrev dktX6_places_7 : List UInt8 := dkwX6_places_7 ++ dktX6_places_8
def dkwX6_places_6 : List UInt8 := [54, 5, 21, 5, 4, 96, 54, 6, 42, 180, 0, 54, 16, 80, 27, 4, 100, 21, 4, 100, 104, 21, 6, 96]
abbrev dktX6_places_6 : List UInt8 := dkwX6_places_6 ++ dktX6_places_7
def dkwX6_places_5 : List UInt8 := [132, 4, 1, 167, 255, 181, 4, 54, 4, 21, 4, 27, 162, 0, 106, 42, 180, 0, 57, 21, 4, 4, 100, 46]
abbrev dktX6_places_5 : List UInt8 := dkwX6_places_5 ++ dktX6_places_6
def dkwX6_places_4 : List UInt8 := [161, 0, 6, 167, 0, 21, 42, 21, 4, 182, 1, 136, 21, 5, 96, 62, 42, 180, 0, 57, 3, 21, 4, 79]
abbrev dktX6_places_4 : List UInt8 := dkwX6_places_4 ++ dktX6_places_5
def dkwX6_places_3 : List UInt8 := [46, 54, 5, 21, 5, 2, 159, 0, 42, 29, 2, 159, 0, 19, 42, 21, 4, 182, 1, 136, 21, 5, 96, 29]
abbrev dktX6_places_3 : List UInt8 := dkwX6_places_3 ++ dktX6_places_4
def dkwX6_places_2 : List UInt8 := [21, 4, 42, 180, 0, 7, 3, 46, 162, 0, 70, 42, 180, 0, 54, 16, 80, 27, 4, 100, 104, 21, 4, 96]
abbrev dktX6_places_2 : List UInt8 := dkwX6_places_2 ++ dktX6_places_3
def dkwX6_places_1 : List UInt8 := [16, 10, 16, 9, 27, 96, 184, 0, 66, 154, 0, 5, 2, 172, 42, 27, 182, 1, 133, 2, 62, 3, 54, 4]
abbrev dktX6_places_1 : List UInt8 := dkwX6_places_1 ++ dktX6_places_2
def dkwX6_places_0 : List UInt8 := [27, 4, 7, 184, 0, 66, 153, 0, 30, 27, 42, 180, 0, 7, 3, 46, 163, 0, 20, 28, 153, 0, 18, 28]
abbrev dktX6_places_0 : List UInt8 := dkwX6_places_0 ++ dktX6_places_1
theorem dksX6_places_0 : cX6_places.data.toList.drop 0 = dktX6_places_0 := by decide +kernel
theorem dksX6_places_1 : cX6_places.data.toList.drop 24 = dktX6_places_1 := dk_seg dksX6_places_0 24 rfl rfl
theorem dksX6_places_2 : cX6_places.data.toList.drop 48 = dktX6_places_2 := dk_seg dksX6_places_1 24 rfl rfl
theorem dksX6_places_3 : cX6_places.data.toList.drop 72 = dktX6_places_3 := dk_seg dksX6_places_2 24 rfl rfl
theorem dksX6_places_4 : cX6_places.data.toList.drop 96 = dktX6_places_4 := dk_seg dksX6_places_3 24 rfl rfl
theorem dksX6_places_5 : cX6_places.data.toList.drop 120 = dktX6_places_5 := dk_seg dksX6_places_4 24 rfl rfl
theorem dksX6_places_6 : cX6_places.data.toList.drop 144 = dktX6_places_6 := dk_seg dksX6_places_5 24 rfl rfl
theorem dksX6_places_7 : cX6_places.data.toList.drop 168 = dktX6_places_7 := dk_seg dksX6_places_6 24 rfl rfl
theorem dksX6_places_8 : cX6_places.data.toList.drop 192 = dktX6_places_8 := dk_seg dksX6_places_7 24 rfl rfl
theorem dksX6_places_9 : cX6_places.data.toList.drop 214 = dktX6_places_9 := dk_seg dksX6_places_8 22 rfl rfl
theorem dksX6_places_10 : cX6_places.data.toList.drop 238 = dktX6_places_10 := dk_seg dksX6_places_9 24 rfl rfl
theorem dX6_places_0 : decode cX6_places 0 = .ok (.iload_n 1, 1) := dk_27 (dk_at dksX6_places_0 0 rfl rfl)
theorem dX6_places_1 : decode cX6_places 1 = .ok (.iconst 1, 1) := dk_4 (dk_at dksX6_places_0 1 rfl rfl)
theorem dX6_places_2 : decode cX6_places 2 = .ok (.iconst 4, 1) := dk_7 (dk_at dksX6_places_0 2 rfl rfl)
theorem dX6_places_3 : decode cX6_places 3 = .ok (.invokestatic 66, 3) := dk_184 0 66 (dk_at dksX6_places_0 3 rfl rfl)
theorem dX6_places_6 : decode cX6_places 6 = .ok (.ifCond .eq 30, 3) := dk_153 0 30 (dk_at dksX6_places_0 6 rfl rfl)
theorem dX6_places_9 : decode cX6_places 9 = .ok (.iload_n 1, 1) := dk_27 (dk_at dksX6_places_0 9 rfl rfl)
theorem dX6_places_10 : decode cX6_places 10 = .ok (.aload_n 0, 1) := dk_42 (dk_at dksX6_places_0 10 rfl rfl)
theorem dX6_places_11 : decode cX6_places 11 = .ok (.getfield 7, 3) := dk_180 0 7 (dk_at dksX6_places_0 11 rfl rfl)
theorem dX6_places_14 : decode cX6_places 14 = .ok (.iconst 0, 1) := dk_3 (dk_at dksX6_places_0 14 rfl rfl)
theorem dX6_places_15 : decode cX6_places 15 = .ok (.iaload, 1) := dk_46 (dk_at dksX6_places_0 15 rfl rfl)
theorem dX6_places_16 : decode cX6_places 16 = .ok (.if_icmp .gt 20, 3) := dk_163 0 20 (dk_at dksX6_places_0 16 rfl rfl)
theorem dX6_places_19 : decode cX6_places 19 = .ok (.iload_n 2, 1) := dk_28 (dk_at dksX6_places_0 19 rfl rfl)
theorem dX6_places_20 : decode cX6_places 20 = .ok (.ifCond .eq 18, 3) := dk_153 0 18 (dk_at dksX6_places_0 20 rfl rfl)
theorem dX6_places_23 : decode cX6_places 23 = .ok (.iload_n 2, 1) := dk_28 (dk_at dksX6_places_0 23 rfl rfl)
theorem dX6_places_24 : decode cX6_places 24 = .ok (.bipush 10, 2) := dk_16 10 (dk_at dksX6_places_1 0 rfl rfl)
theorem dX6_places_26 : decode cX6_places 26 = .ok (.bipush 9, 2) := dk_16 9 (dk_at dksX6_places_1 2 rfl rfl)
theorem dX6_places_28 : decode cX6_places 28 = .ok (.iload_n 1, 1) := dk_27 (dk_at dksX6_places_1 4 rfl rfl)
theorem dX6_places_29 : decode cX6_places 29 = .ok (.iadd, 1) := dk_96 (dk_at dksX6_places_1 5 rfl rfl)
theorem dX6_places_30 : decode cX6_places 30 = .ok (.invokestatic 66, 3) := dk_184 0 66 (dk_at dksX6_places_1 6 rfl rfl)
theorem dX6_places_33 : decode cX6_places 33 = .ok (.ifCond .ne 5, 3) := dk_154 0 5 (dk_at dksX6_places_1 9 rfl rfl)
theorem dX6_places_36 : decode cX6_places 36 = .ok (.iconst (-1), 1) := dk_2 (dk_at dksX6_places_1 12 rfl rfl)
theorem dX6_places_37 : decode cX6_places 37 = .ok (.ireturn, 1) := dk_172 (dk_at dksX6_places_1 13 rfl rfl)
theorem dX6_places_38 : decode cX6_places 38 = .ok (.aload_n 0, 1) := dk_42 (dk_at dksX6_places_1 14 rfl rfl)
theorem dX6_places_39 : decode cX6_places 39 = .ok (.iload_n 1, 1) := dk_27 (dk_at dksX6_places_1 15 rfl rfl)
theorem dX6_places_40 : decode cX6_places 40 = .ok (.invokevirtual 389, 3) := dk_182 1 133 (dk_at dksX6_places_1 16 rfl rfl)
theorem dX6_places_43 : decode cX6_places 43 = .ok (.iconst (-1), 1) := dk_2 (dk_at dksX6_places_1 19 rfl rfl)
theorem dX6_places_44 : decode cX6_places 44 = .ok (.istore_n 3, 1) := dk_62 (dk_at dksX6_places_1 20 rfl rfl)
theorem dX6_places_45 : decode cX6_places 45 = .ok (.iconst 0, 1) := dk_3 (dk_at dksX6_places_1 21 rfl rfl)
theorem dX6_places_46 : decode cX6_places 46 = .ok (.istore 4, 2) := dk_54 4 (dk_at dksX6_places_1 22 rfl rfl)
theorem dX6_places_48 : decode cX6_places 48 = .ok (.iload 4, 2) := dk_21 4 (dk_at dksX6_places_2 0 rfl rfl)
theorem dX6_places_50 : decode cX6_places 50 = .ok (.aload_n 0, 1) := dk_42 (dk_at dksX6_places_2 2 rfl rfl)
theorem dX6_places_51 : decode cX6_places 51 = .ok (.getfield 7, 3) := dk_180 0 7 (dk_at dksX6_places_2 3 rfl rfl)
theorem dX6_places_54 : decode cX6_places 54 = .ok (.iconst 0, 1) := dk_3 (dk_at dksX6_places_2 6 rfl rfl)
theorem dX6_places_55 : decode cX6_places 55 = .ok (.iaload, 1) := dk_46 (dk_at dksX6_places_2 7 rfl rfl)
theorem dX6_places_56 : decode cX6_places 56 = .ok (.if_icmp .ge 70, 3) := dk_162 0 70 (dk_at dksX6_places_2 8 rfl rfl)
theorem dX6_places_59 : decode cX6_places 59 = .ok (.aload_n 0, 1) := dk_42 (dk_at dksX6_places_2 11 rfl rfl)
theorem dX6_places_60 : decode cX6_places 60 = .ok (.getfield 54, 3) := dk_180 0 54 (dk_at dksX6_places_2 12 rfl rfl)
theorem dX6_places_63 : decode cX6_places 63 = .ok (.bipush 80, 2) := dk_16 80 (dk_at dksX6_places_2 15 rfl rfl)
theorem dX6_places_65 : decode cX6_places 65 = .ok (.iload_n 1, 1) := dk_27 (dk_at dksX6_places_2 17 rfl rfl)
theorem dX6_places_66 : decode cX6_places 66 = .ok (.iconst 1, 1) := dk_4 (dk_at dksX6_places_2 18 rfl rfl)
theorem dX6_places_67 : decode cX6_places 67 = .ok (.isub, 1) := dk_100 (dk_at dksX6_places_2 19 rfl rfl)
theorem dX6_places_68 : decode cX6_places 68 = .ok (.imul, 1) := dk_104 (dk_at dksX6_places_2 20 rfl rfl)
theorem dX6_places_69 : decode cX6_places 69 = .ok (.iload 4, 2) := dk_21 4 (dk_at dksX6_places_2 21 rfl rfl)
theorem dX6_places_71 : decode cX6_places 71 = .ok (.iadd, 1) := dk_96 (dk_at dksX6_places_2 23 rfl rfl)
theorem dX6_places_72 : decode cX6_places 72 = .ok (.iaload, 1) := dk_46 (dk_at dksX6_places_3 0 rfl rfl)
theorem dX6_places_73 : decode cX6_places 73 = .ok (.istore 5, 2) := dk_54 5 (dk_at dksX6_places_3 1 rfl rfl)
theorem dX6_places_75 : decode cX6_places 75 = .ok (.iload 5, 2) := dk_21 5 (dk_at dksX6_places_3 3 rfl rfl)
theorem dX6_places_77 : decode cX6_places 77 = .ok (.iconst (-1), 1) := dk_2 (dk_at dksX6_places_3 5 rfl rfl)
theorem dX6_places_78 : decode cX6_places 78 = .ok (.if_icmp .eq 42, 3) := dk_159 0 42 (dk_at dksX6_places_3 6 rfl rfl)
theorem dX6_places_81 : decode cX6_places 81 = .ok (.iload_n 3, 1) := dk_29 (dk_at dksX6_places_3 9 rfl rfl)
theorem dX6_places_82 : decode cX6_places 82 = .ok (.iconst (-1), 1) := dk_2 (dk_at dksX6_places_3 10 rfl rfl)
theorem dX6_places_83 : decode cX6_places 83 = .ok (.if_icmp .eq 19, 3) := dk_159 0 19 (dk_at dksX6_places_3 11 rfl rfl)
theorem dX6_places_86 : decode cX6_places 86 = .ok (.aload_n 0, 1) := dk_42 (dk_at dksX6_places_3 14 rfl rfl)
theorem dX6_places_87 : decode cX6_places 87 = .ok (.iload 4, 2) := dk_21 4 (dk_at dksX6_places_3 15 rfl rfl)
theorem dX6_places_89 : decode cX6_places 89 = .ok (.invokevirtual 392, 3) := dk_182 1 136 (dk_at dksX6_places_3 17 rfl rfl)
theorem dX6_places_92 : decode cX6_places 92 = .ok (.iload 5, 2) := dk_21 5 (dk_at dksX6_places_3 20 rfl rfl)
theorem dX6_places_94 : decode cX6_places 94 = .ok (.iadd, 1) := dk_96 (dk_at dksX6_places_3 22 rfl rfl)
theorem dX6_places_95 : decode cX6_places 95 = .ok (.iload_n 3, 1) := dk_29 (dk_at dksX6_places_3 23 rfl rfl)
theorem dX6_places_96 : decode cX6_places 96 = .ok (.if_icmp .lt 6, 3) := dk_161 0 6 (dk_at dksX6_places_4 0 rfl rfl)
theorem dX6_places_99 : decode cX6_places 99 = .ok (.goto 21, 3) := dk_167 0 21 (dk_at dksX6_places_4 3 rfl rfl)
theorem dX6_places_102 : decode cX6_places 102 = .ok (.aload_n 0, 1) := dk_42 (dk_at dksX6_places_4 6 rfl rfl)
theorem dX6_places_103 : decode cX6_places 103 = .ok (.iload 4, 2) := dk_21 4 (dk_at dksX6_places_4 7 rfl rfl)
theorem dX6_places_105 : decode cX6_places 105 = .ok (.invokevirtual 392, 3) := dk_182 1 136 (dk_at dksX6_places_4 9 rfl rfl)
theorem dX6_places_108 : decode cX6_places 108 = .ok (.iload 5, 2) := dk_21 5 (dk_at dksX6_places_4 12 rfl rfl)
theorem dX6_places_110 : decode cX6_places 110 = .ok (.iadd, 1) := dk_96 (dk_at dksX6_places_4 14 rfl rfl)
theorem dX6_places_111 : decode cX6_places 111 = .ok (.istore_n 3, 1) := dk_62 (dk_at dksX6_places_4 15 rfl rfl)
theorem dX6_places_112 : decode cX6_places 112 = .ok (.aload_n 0, 1) := dk_42 (dk_at dksX6_places_4 16 rfl rfl)
theorem dX6_places_113 : decode cX6_places 113 = .ok (.getfield 57, 3) := dk_180 0 57 (dk_at dksX6_places_4 17 rfl rfl)
theorem dX6_places_116 : decode cX6_places 116 = .ok (.iconst 0, 1) := dk_3 (dk_at dksX6_places_4 20 rfl rfl)
theorem dX6_places_117 : decode cX6_places 117 = .ok (.iload 4, 2) := dk_21 4 (dk_at dksX6_places_4 21 rfl rfl)
theorem dX6_places_119 : decode cX6_places 119 = .ok (.iastore, 1) := dk_79 (dk_at dksX6_places_4 23 rfl rfl)
theorem dX6_places_120 : decode cX6_places 120 = .ok (.iinc 4 1, 3) := dk_132 4 1 (dk_at dksX6_places_5 0 rfl rfl)
theorem dX6_places_123 : decode cX6_places 123 = .ok (.goto (-75), 3) := dk_167 255 181 (dk_at dksX6_places_5 3 rfl rfl)
theorem dX6_places_126 : decode cX6_places 126 = .ok (.iconst 1, 1) := dk_4 (dk_at dksX6_places_5 6 rfl rfl)
theorem dX6_places_127 : decode cX6_places 127 = .ok (.istore 4, 2) := dk_54 4 (dk_at dksX6_places_5 7 rfl rfl)
theorem dX6_places_129 : decode cX6_places 129 = .ok (.iload 4, 2) := dk_21 4 (dk_at dksX6_places_5 9 rfl rfl)
theorem dX6_places_131 : decode cX6_places 131 = .ok (.iload_n 1, 1) := dk_27 (dk_at dksX6_places_5 11 rfl rfl)
theorem dX6_places_132 : decode cX6_places 132 = .ok (.if_icmp .ge 106, 3) := dk_162 0 106 (dk_at dksX6_places_5 12 rfl rfl)
theorem dX6_places_135 : decode cX6_places 135 = .ok (.aload_n 0, 1) := dk_42 (dk_at dksX6_places_5 15 rfl rfl)
theorem dX6_places_136 : decode cX6_places 136 = .ok (.getfield 57, 3) := dk_180 0 57 (dk_at dksX6_places_5 16 rfl rfl)
theorem dX6_places_139 : decode cX6_places 139 = .ok (.iload 4, 2) := dk_21 4 (dk_at dksX6_places_5 19 rfl rfl)
theorem dX6_places_141 : decode cX6_places 141 = .ok (.iconst 1, 1) := dk_4 (dk_at dksX6_places_5 21 rfl rfl)
theorem dX6_places_142 : decode cX6_places 142 = .ok (.isub, 1) := dk_100 (dk_at dksX6_places_5 22 rfl rfl)
theorem dX6_places_143 : decode cX6_places 143 = .ok (.iaload, 1) := dk_46 (dk_at dksX6_places_5 23 rfl rfl)
theorem dX6_places_144 : decode cX6_places 144 = .ok (.istore 5, 2) := dk_54 5 (dk_at dksX6_places_6 0 rfl rfl)
theorem dX6_places_146 : decode cX6_places 146 = .ok (.iload 5, 2) := dk_21 5 (dk_at dksX6_places_6 2 rfl rfl)
theorem dX6_places_148 : decode cX6_places 148 = .ok (.iconst 1, 1) := dk_4 (dk_at dksX6_places_6 4 rfl rfl)
theorem dX6_places_149 : decode cX6_places 149 = .ok (.iadd, 1) := dk_96 (dk_at dksX6_places_6 5 rfl rfl)
theorem dX6_places_150 : decode cX6_places 150 = .ok (.istore 6, 2) := dk_54 6 (dk_at dksX6_places_6 6 rfl rfl)
theorem dX6_places_152 : decode cX6_places 152 = .ok (.aload_n 0, 1) := dk_42 (dk_at dksX6_places_6 8 rfl rfl)
theorem dX6_places_153 : decode cX6_places 153 = .ok (.getfield 54, 3) := dk_180 0 54 (dk_at dksX6_places_6 9 rfl rfl)
theorem dX6_places_156 : decode cX6_places 156 = .ok (.bipush 80, 2) := dk_16 80 (dk_at dksX6_places_6 12 rfl rfl)
theorem dX6_places_158 : decode cX6_places 158 = .ok (.iload_n 1, 1) := dk_27 (dk_at dksX6_places_6 14 rfl rfl)
theorem dX6_places_159 : decode cX6_places 159 = .ok (.iconst 1, 1) := dk_4 (dk_at dksX6_places_6 15 rfl rfl)
theorem dX6_places_160 : decode cX6_places 160 = .ok (.isub, 1) := dk_100 (dk_at dksX6_places_6 16 rfl rfl)
theorem dX6_places_161 : decode cX6_places 161 = .ok (.iload 4, 2) := dk_21 4 (dk_at dksX6_places_6 17 rfl rfl)
theorem dX6_places_163 : decode cX6_places 163 = .ok (.isub, 1) := dk_100 (dk_at dksX6_places_6 19 rfl rfl)
theorem dX6_places_164 : decode cX6_places 164 = .ok (.imul, 1) := dk_104 (dk_at dksX6_places_6 20 rfl rfl)
theorem dX6_places_165 : decode cX6_places 165 = .ok (.iload 6, 2) := dk_21 6 (dk_at dksX6_places_6 21 rfl rfl)
theorem dX6_places_167 : decode cX6_places 167 = .ok (.iadd, 1) := dk_96 (dk_at dksX6_places_6 23 rfl rfl)
theorem dX6_places_168 : decode cX6_places 168 = .ok (.iaload, 1) := dk_46 (dk_at dksX6_places_7 0 rfl rfl)
theorem dX6_places_169 : decode cX6_places 169 = .ok (.iconst (-1), 1) := dk_2 (dk_at dksX6_places_7 1 rfl rfl)
theorem dX6_places_170 : decode cX6_places 170 = .ok (.if_icmp .eq 47, 3) := dk_159 0 47 (dk_at dksX6_places_7 2 rfl rfl)
theorem dX6_places_173 : decode cX6_places 173 = .ok (.aload_n 0, 1) := dk_42 (dk_at dksX6_places_7 5 rfl rfl)
theorem dX6_places_174 : decode cX6_places 174 = .ok (.iload 5, 2) := dk_21 5 (dk_at dksX6_places_7 6 rfl rfl)
theorem dX6_places_176 : decode cX6_places 176 = .ok (.iload 6, 2) := dk_21 6 (dk_at dksX6_places_7 8 rfl rfl)
theorem dX6_places_178 : decode cX6_places 178 = .ok (.invokevirtual 386, 3) := dk_182 1 130 (dk_at dksX6_places_7 10 rfl rfl)
theorem dX6_places_181 : decode cX6_places 181 = .ok (.aload_n 0, 1) := dk_42 (dk_at dksX6_places_7 13 rfl rfl)
theorem dX6_places_182 : decode cX6_places 182 = .ok (.getfield 54, 3) := dk_180 0 54 (dk_at dksX6_places_7 14 rfl rfl)
theorem dX6_places_185 : decode cX6_places 185 = .ok (.bipush 80, 2) := dk_16 80 (dk_at dksX6_places_7 17 rfl rfl)
theorem dX6_places_187 : decode cX6_places 187 = .ok (.iload_n 1, 1) := dk_27 (dk_at dksX6_places_7 19 rfl rfl)
theorem dX6_places_188 : decode cX6_places 188 = .ok (.iconst 1, 1) := dk_4 (dk_at dksX6_places_7 20 rfl rfl)
theorem dX6_places_189 : decode cX6_places 189 = .ok (.isub, 1) := dk_100 (dk_at dksX6_places_7 21 rfl rfl)
theorem dX6_places_190 : decode cX6_places 190 = .ok (.iload 4, 2) := dk_21 4 (dk_at dksX6_places_7 22 rfl rfl)
theorem dX6_places_192 : decode cX6_places 192 = .ok (.isub, 1) := dk_100 (dk_at dksX6_places_8 0 rfl rfl)
theorem dX6_places_193 : decode cX6_places 193 = .ok (.imul, 1) := dk_104 (dk_at dksX6_places_8 1 rfl rfl)
theorem dX6_places_194 : decode cX6_places 194 = .ok (.iload 6, 2) := dk_21 6 (dk_at dksX6_places_8 2 rfl rfl)
theorem dX6_places_196 : decode cX6_places 196 = .ok (.iadd, 1) := dk_96 (dk_at dksX6_places_8 4 rfl rfl)
theorem dX6_places_197 : decode cX6_places 197 = .ok (.iaload, 1) := dk_46 (dk_at dksX6_places_8 5 rfl rfl)
theorem dX6_places_198 : decode cX6_places 198 = .ok (.iadd, 1) := dk_96 (dk_at dksX6_places_8 6 rfl rfl)
theorem dX6_places_199 : decode cX6_places 199 = .ok (.aload_n 0, 1) := dk_42 (dk_at dksX6_places_8 7 rfl rfl)
theorem dX6_places_200 : decode cX6_places 200 = .ok (.getfield 54, 3) := dk_180 0 54 (dk_at dksX6_places_8 8 rfl rfl)
theorem dX6_places_203 : decode cX6_places 203 = .ok (.bipush 80, 2) := dk_16 80 (dk_at dksX6_places_8 11 rfl rfl)
theorem dX6_places_205 : decode cX6_places 205 = .ok (.iload_n 1, 1) := dk_27 (dk_at dksX6_places_8 13 rfl rfl)
theorem dX6_places_206 : decode cX6_places 206 = .ok (.iload 4, 2) := dk_21 4 (dk_at dksX6_places_8 14 rfl rfl)
theorem dX6_places_208 : decode cX6_places 208 = .ok (.isub, 1) := dk_100 (dk_at dksX6_places_8 16 rfl rfl)
theorem dX6_places_209 : decode cX6_places 209 = .ok (.imul, 1) := dk_104 (dk_at dksX6_places_8 17 rfl rfl)
theorem dX6_places_210 : decode cX6_places 210 = .ok (.iload 5, 2) := dk_21 5 (dk_at dksX6_places_8 18 rfl rfl)
theorem dX6_places_212 : decode cX6_places 212 = .ok (.iadd, 1) := dk_96 (dk_at dksX6_places_8 20 rfl rfl)
theorem dX6_places_213 : decode cX6_places 213 = .ok (.iaload, 1) := dk_46 (dk_at dksX6_places_8 21 rfl rfl)
theorem dX6_places_214 : decode cX6_places 214 = .ok (.if_icmp .eq 9, 3) := dk_159 0 9 (dk_at dksX6_places_9 0 rfl rfl)
theorem dX6_places_217 : decode cX6_places 217 = .ok (.iinc 6 1, 3) := dk_132 6 1 (dk_at dksX6_places_9 3 rfl rfl)
theorem dX6_places_220 : decode cX6_places 220 = .ok (.goto (-68), 3) := dk_167 255 188 (dk_at dksX6_places_9 6 rfl rfl)
theorem dX6_places_223 : decode cX6_places 223 = .ok (.aload_n 0, 1) := dk_42 (dk_at dksX6_places_9 9 rfl rfl)
theorem dX6_places_224 : decode cX6_places 224 = .ok (.getfield 57, 3) := dk_180 0 57 (dk_at dksX6_places_9 10 rfl rfl)
theorem dX6_places_227 : decode cX6_places 227 = .ok (.iload 4, 2) := dk_21 4 (dk_at dksX6_places_9 13 rfl rfl)
theorem dX6_places_229 : decode cX6_places 229 = .ok (.iload 6, 2) := dk_21 6 (dk_at dksX6_places_9 15 rfl rfl)
theorem dX6_places_231 : decode cX6_places 231 = .ok (.iastore, 1) := dk_79 (dk_at dksX6_places_9 17 rfl rfl)
theorem dX6_places_232 : decode cX6_places 232 = .ok (.iinc 4 1, 3) := dk_132 4 1 (dk_at dksX6_places_9 18 rfl rfl)
theorem dX6_places_235 : decode cX6_places 235 = .ok (.goto (-106), 3) := dk_167 255 150 (dk_at dksX6_places_9 21 rfl rfl)
theorem dX6_places_238 : decode cX6_places 238 = .ok (.iload_n 2, 1) := dk_28 (dk_at dksX6_places_10 0 rfl rfl)
theorem dX6_places_239 : decode cX6_places 239 = .ok (.ifCond .ne 7, 3) := dk_154 0 7 (dk_at dksX6_places_10 1 rfl rfl)
theorem dX6_places_242 : decode cX6_places 242 = .ok (.iload_n 3, 1) := dk_29 (dk_at dksX6_places_10 4 rfl rfl)
theorem dX6_places_243 : decode cX6_places 243 = .ok (.goto 12, 3) := dk_167 0 12 (dk_at dksX6_places_10 5 rfl rfl)
theorem dX6_places_246 : decode cX6_places 246 = .ok (.aload_n 0, 1) := dk_42 (dk_at dksX6_places_10 8 rfl rfl)
theorem dX6_places_247 : decode cX6_places 247 = .ok (.getfield 57, 3) := dk_180 0 57 (dk_at dksX6_places_10 9 rfl rfl)
theorem dX6_places_250 : decode cX6_places 250 = .ok (.iload_n 2, 1) := dk_28 (dk_at dksX6_places_10 12 rfl rfl)
theorem dX6_places_251 : decode cX6_places 251 = .ok (.bipush 10, 2) := dk_16 10 (dk_at dksX6_places_10 13 rfl rfl)
theorem dX6_places_253 : decode cX6_places 253 = .ok (.isub, 1) := dk_100 (dk_at dksX6_places_10 15 rfl rfl)
theorem dX6_places_254 : decode cX6_places 254 = .ok (.iaload, 1) := dk_46 (dk_at dksX6_places_10 16 rfl rfl)
theorem dX6_places_255 : decode cX6_places 255 = .ok (.ireturn, 1) := dk_172 (dk_at dksX6_places_10 17 rfl rfl)
abbrev cX6_laysAbove : ByteArray := prog_15_method_86_code
def yX6_laysAbove : MethodName := ⟨RX6, "laysAbove", "(I)V"⟩
def dkwX6_laysAbove_6 : List UInt8 := [28, 104, 29, 96, 21, 4, 79, 132, 3, 1, 167, 255, 146, 132, 2, 1, 167, 255, 133, 177]
abbrev dktX6_laysAbove_6 : List UInt8 := dkwX6_laysAbove_6 ++ []
def dkwX6_laysAbove_5 : List UInt8 := [162, 0, 8, 21, 7, 167, 0, 5, 21, 4, 54, 4, 132, 5, 1, 167, 255, 183, 42, 180, 0, 54, 16, 80]
abbrev dktX6_laysAbove_5 : List UInt8 := dkwX6_laysAbove_5 ++ dktX6_laysAbove_6
def dkwX6_laysAbove_4 : List UInt8 := [42, 29, 21, 5, 182, 1, 130, 21, 6, 96, 54, 7, 21, 4, 2, 159, 0, 10, 21, 7, 21, 4]
abbrev dktX6_laysAbove_4 : List UInt8 := dkwX6_laysAbove_4 ++ dktX6_laysAbove_5
def dkwX6_laysAbove_3 : List UInt8 := [180, 0, 54, 16, 80, 28, 4, 100, 104, 21, 5, 96, 46, 54, 6, 21, 6, 2, 160, 0, 6, 167, 0, 37]
abbrev dktX6_laysAbove_3 : List UInt8 := dkwX6_laysAbove_3 ++ dktX6_laysAbove_4
def dkwX6_laysAbove_2 : List UInt8 := [162, 0, 106, 2, 54, 4, 29, 4, 96, 54, 5, 21, 5, 42, 180, 0, 7, 3, 46, 162, 0, 68, 42]
abbrev dktX6_laysAbove_2 : List UInt8 := dkwX6_laysAbove_2 ++ dktX6_laysAbove_3
def dkwX6_laysAbove_1 : List UInt8 := [132, 2, 1, 167, 255, 231, 4, 61, 28, 27, 162, 0, 124, 3, 62, 29, 42, 180, 0, 7, 3, 46]
abbrev dktX6_laysAbove_1 : List UInt8 := dkwX6_laysAbove_1 ++ dktX6_laysAbove_2
def dkwX6_laysAbove_0 : List UInt8 := [3, 61, 28, 42, 180, 0, 7, 3, 46, 162, 0, 21, 42, 180, 0, 54, 28, 42, 28, 2, 182, 1, 130, 79]
abbrev dktX6_laysAbove_0 : List UInt8 := dkwX6_laysAbove_0 ++ dktX6_laysAbove_1
theorem dksX6_laysAbove_0 : cX6_laysAbove.data.toList.drop 0 = dktX6_laysAbove_0 := by decide +kernel
theorem dksX6_laysAbove_1 : cX6_laysAbove.data.toList.drop 24 = dktX6_laysAbove_1 := dk_seg dksX6_laysAbove_0 24 rfl rfl
theorem dksX6_laysAbove_2 : cX6_laysAbove.data.toList.drop 46 = dktX6_laysAbove_2 := dk_seg dksX6_laysAbove_1 22 rfl rfl
theorem dksX6_laysAbove_3 : cX6_laysAbove.data.toList.drop 69 = dktX6_laysAbove_3 := dk_seg dksX6_laysAbove_2 23 rfl rfl
theorem dksX6_laysAbove_4 : cX6_laysAbove.data.toList.drop 93 = dktX6_laysAbove_4 := dk_seg dksX6_laysAbove_3 24 rfl rfl
theorem dksX6_laysAbove_5 : cX6_laysAbove.data.toList.drop 115 = dktX6_laysAbove_5 := dk_seg dksX6_laysAbove_4 22 rfl rfl
theorem dksX6_laysAbove_6 : cX6_laysAbove.data.toList.drop 139 = dktX6_laysAbove_6 := dk_seg dksX6_laysAbove_5 24 rfl rfl
theorem dX6_laysAbove_0 : decode cX6_laysAbove 0 = .ok (.iconst 0, 1) := dk_3 (dk_at dksX6_laysAbove_0 0 rfl rfl)
theorem dX6_laysAbove_1 : decode cX6_laysAbove 1 = .ok (.istore_n 2, 1) := dk_61 (dk_at dksX6_laysAbove_0 1 rfl rfl)
theorem dX6_laysAbove_2 : decode cX6_laysAbove 2 = .ok (.iload_n 2, 1) := dk_28 (dk_at dksX6_laysAbove_0 2 rfl rfl)
theorem dX6_laysAbove_3 : decode cX6_laysAbove 3 = .ok (.aload_n 0, 1) := dk_42 (dk_at dksX6_laysAbove_0 3 rfl rfl)
theorem dX6_laysAbove_4 : decode cX6_laysAbove 4 = .ok (.getfield 7, 3) := dk_180 0 7 (dk_at dksX6_laysAbove_0 4 rfl rfl)
theorem dX6_laysAbove_7 : decode cX6_laysAbove 7 = .ok (.iconst 0, 1) := dk_3 (dk_at dksX6_laysAbove_0 7 rfl rfl)
theorem dX6_laysAbove_8 : decode cX6_laysAbove 8 = .ok (.iaload, 1) := dk_46 (dk_at dksX6_laysAbove_0 8 rfl rfl)
theorem dX6_laysAbove_9 : decode cX6_laysAbove 9 = .ok (.if_icmp .ge 21, 3) := dk_162 0 21 (dk_at dksX6_laysAbove_0 9 rfl rfl)
theorem dX6_laysAbove_12 : decode cX6_laysAbove 12 = .ok (.aload_n 0, 1) := dk_42 (dk_at dksX6_laysAbove_0 12 rfl rfl)
theorem dX6_laysAbove_13 : decode cX6_laysAbove 13 = .ok (.getfield 54, 3) := dk_180 0 54 (dk_at dksX6_laysAbove_0 13 rfl rfl)
theorem dX6_laysAbove_16 : decode cX6_laysAbove 16 = .ok (.iload_n 2, 1) := dk_28 (dk_at dksX6_laysAbove_0 16 rfl rfl)
theorem dX6_laysAbove_17 : decode cX6_laysAbove 17 = .ok (.aload_n 0, 1) := dk_42 (dk_at dksX6_laysAbove_0 17 rfl rfl)
theorem dX6_laysAbove_18 : decode cX6_laysAbove 18 = .ok (.iload_n 2, 1) := dk_28 (dk_at dksX6_laysAbove_0 18 rfl rfl)
theorem dX6_laysAbove_19 : decode cX6_laysAbove 19 = .ok (.iconst (-1), 1) := dk_2 (dk_at dksX6_laysAbove_0 19 rfl rfl)
theorem dX6_laysAbove_20 : decode cX6_laysAbove 20 = .ok (.invokevirtual 386, 3) := dk_182 1 130 (dk_at dksX6_laysAbove_0 20 rfl rfl)
theorem dX6_laysAbove_23 : decode cX6_laysAbove 23 = .ok (.iastore, 1) := dk_79 (dk_at dksX6_laysAbove_0 23 rfl rfl)
theorem dX6_laysAbove_24 : decode cX6_laysAbove 24 = .ok (.iinc 2 1, 3) := dk_132 2 1 (dk_at dksX6_laysAbove_1 0 rfl rfl)
theorem dX6_laysAbove_27 : decode cX6_laysAbove 27 = .ok (.goto (-25), 3) := dk_167 255 231 (dk_at dksX6_laysAbove_1 3 rfl rfl)
theorem dX6_laysAbove_30 : decode cX6_laysAbove 30 = .ok (.iconst 1, 1) := dk_4 (dk_at dksX6_laysAbove_1 6 rfl rfl)
theorem dX6_laysAbove_31 : decode cX6_laysAbove 31 = .ok (.istore_n 2, 1) := dk_61 (dk_at dksX6_laysAbove_1 7 rfl rfl)
theorem dX6_laysAbove_32 : decode cX6_laysAbove 32 = .ok (.iload_n 2, 1) := dk_28 (dk_at dksX6_laysAbove_1 8 rfl rfl)
theorem dX6_laysAbove_33 : decode cX6_laysAbove 33 = .ok (.iload_n 1, 1) := dk_27 (dk_at dksX6_laysAbove_1 9 rfl rfl)
theorem dX6_laysAbove_34 : decode cX6_laysAbove 34 = .ok (.if_icmp .ge 124, 3) := dk_162 0 124 (dk_at dksX6_laysAbove_1 10 rfl rfl)
theorem dX6_laysAbove_37 : decode cX6_laysAbove 37 = .ok (.iconst 0, 1) := dk_3 (dk_at dksX6_laysAbove_1 13 rfl rfl)
theorem dX6_laysAbove_38 : decode cX6_laysAbove 38 = .ok (.istore_n 3, 1) := dk_62 (dk_at dksX6_laysAbove_1 14 rfl rfl)
theorem dX6_laysAbove_39 : decode cX6_laysAbove 39 = .ok (.iload_n 3, 1) := dk_29 (dk_at dksX6_laysAbove_1 15 rfl rfl)
theorem dX6_laysAbove_40 : decode cX6_laysAbove 40 = .ok (.aload_n 0, 1) := dk_42 (dk_at dksX6_laysAbove_1 16 rfl rfl)
theorem dX6_laysAbove_41 : decode cX6_laysAbove 41 = .ok (.getfield 7, 3) := dk_180 0 7 (dk_at dksX6_laysAbove_1 17 rfl rfl)
theorem dX6_laysAbove_44 : decode cX6_laysAbove 44 = .ok (.iconst 0, 1) := dk_3 (dk_at dksX6_laysAbove_1 20 rfl rfl)
theorem dX6_laysAbove_45 : decode cX6_laysAbove 45 = .ok (.iaload, 1) := dk_46 (dk_at dksX6_laysAbove_1 21 rfl rfl)
theorem dX6_laysAbove_46 : decode cX6_laysAbove 46 = .ok (.if_icmp .ge 106, 3) := dk_162 0 106 (dk_at dksX6_laysAbove_2 0 rfl rfl)
theorem dX6_laysAbove_49 : decode cX6_laysAbove 49 = .ok (.iconst (-1), 1) := dk_2 (dk_at dksX6_laysAbove_2 3 rfl rfl)
theorem dX6_laysAbove_50 : decode cX6_laysAbove 50 = .ok (.istore 4, 2) := dk_54 4 (dk_at dksX6_laysAbove_2 4 rfl rfl)
theorem dX6_laysAbove_52 : decode cX6_laysAbove 52 = .ok (.iload_n 3, 1) := dk_29 (dk_at dksX6_laysAbove_2 6 rfl rfl)
theorem dX6_laysAbove_53 : decode cX6_laysAbove 53 = .ok (.iconst 1, 1) := dk_4 (dk_at dksX6_laysAbove_2 7 rfl rfl)
theorem dX6_laysAbove_54 : decode cX6_laysAbove 54 = .ok (.iadd, 1) := dk_96 (dk_at dksX6_laysAbove_2 8 rfl rfl)
theorem dX6_laysAbove_55 : decode cX6_laysAbove 55 = .ok (.istore 5, 2) := dk_54 5 (dk_at dksX6_laysAbove_2 9 rfl rfl)
theorem dX6_laysAbove_57 : decode cX6_laysAbove 57 = .ok (.iload 5, 2) := dk_21 5 (dk_at dksX6_laysAbove_2 11 rfl rfl)
theorem dX6_laysAbove_59 : decode cX6_laysAbove 59 = .ok (.aload_n 0, 1) := dk_42 (dk_at dksX6_laysAbove_2 13 rfl rfl)
theorem dX6_laysAbove_60 : decode cX6_laysAbove 60 = .ok (.getfield 7, 3) := dk_180 0 7 (dk_at dksX6_laysAbove_2 14 rfl rfl)
theorem dX6_laysAbove_63 : decode cX6_laysAbove 63 = .ok (.iconst 0, 1) := dk_3 (dk_at dksX6_laysAbove_2 17 rfl rfl)
theorem dX6_laysAbove_64 : decode cX6_laysAbove 64 = .ok (.iaload, 1) := dk_46 (dk_at dksX6_laysAbove_2 18 rfl rfl)
theorem dX6_laysAbove_65 : decode cX6_laysAbove 65 = .ok (.if_icmp .ge 68, 3) := dk_162 0 68 (dk_at dksX6_laysAbove_2 19 rfl rfl)
theorem dX6_laysAbove_68 : decode cX6_laysAbove 68 = .ok (.aload_n 0, 1) := dk_42 (dk_at dksX6_laysAbove_2 22 rfl rfl)
theorem dX6_laysAbove_69 : decode cX6_laysAbove 69 = .ok (.getfield 54, 3) := dk_180 0 54 (dk_at dksX6_laysAbove_3 0 rfl rfl)
theorem dX6_laysAbove_72 : decode cX6_laysAbove 72 = .ok (.bipush 80, 2) := dk_16 80 (dk_at dksX6_laysAbove_3 3 rfl rfl)
theorem dX6_laysAbove_74 : decode cX6_laysAbove 74 = .ok (.iload_n 2, 1) := dk_28 (dk_at dksX6_laysAbove_3 5 rfl rfl)
theorem dX6_laysAbove_75 : decode cX6_laysAbove 75 = .ok (.iconst 1, 1) := dk_4 (dk_at dksX6_laysAbove_3 6 rfl rfl)
theorem dX6_laysAbove_76 : decode cX6_laysAbove 76 = .ok (.isub, 1) := dk_100 (dk_at dksX6_laysAbove_3 7 rfl rfl)
theorem dX6_laysAbove_77 : decode cX6_laysAbove 77 = .ok (.imul, 1) := dk_104 (dk_at dksX6_laysAbove_3 8 rfl rfl)
theorem dX6_laysAbove_78 : decode cX6_laysAbove 78 = .ok (.iload 5, 2) := dk_21 5 (dk_at dksX6_laysAbove_3 9 rfl rfl)
theorem dX6_laysAbove_80 : decode cX6_laysAbove 80 = .ok (.iadd, 1) := dk_96 (dk_at dksX6_laysAbove_3 11 rfl rfl)
theorem dX6_laysAbove_81 : decode cX6_laysAbove 81 = .ok (.iaload, 1) := dk_46 (dk_at dksX6_laysAbove_3 12 rfl rfl)
theorem dX6_laysAbove_82 : decode cX6_laysAbove 82 = .ok (.istore 6, 2) := dk_54 6 (dk_at dksX6_laysAbove_3 13 rfl rfl)
theorem dX6_laysAbove_84 : decode cX6_laysAbove 84 = .ok (.iload 6, 2) := dk_21 6 (dk_at dksX6_laysAbove_3 15 rfl rfl)
theorem dX6_laysAbove_86 : decode cX6_laysAbove 86 = .ok (.iconst (-1), 1) := dk_2 (dk_at dksX6_laysAbove_3 17 rfl rfl)
theorem dX6_laysAbove_87 : decode cX6_laysAbove 87 = .ok (.if_icmp .ne 6, 3) := dk_160 0 6 (dk_at dksX6_laysAbove_3 18 rfl rfl)
theorem dX6_laysAbove_90 : decode cX6_laysAbove 90 = .ok (.goto 37, 3) := dk_167 0 37 (dk_at dksX6_laysAbove_3 21 rfl rfl)
theorem dX6_laysAbove_93 : decode cX6_laysAbove 93 = .ok (.aload_n 0, 1) := dk_42 (dk_at dksX6_laysAbove_4 0 rfl rfl)
theorem dX6_laysAbove_94 : decode cX6_laysAbove 94 = .ok (.iload_n 3, 1) := dk_29 (dk_at dksX6_laysAbove_4 1 rfl rfl)
theorem dX6_laysAbove_95 : decode cX6_laysAbove 95 = .ok (.iload 5, 2) := dk_21 5 (dk_at dksX6_laysAbove_4 2 rfl rfl)
theorem dX6_laysAbove_97 : decode cX6_laysAbove 97 = .ok (.invokevirtual 386, 3) := dk_182 1 130 (dk_at dksX6_laysAbove_4 4 rfl rfl)
theorem dX6_laysAbove_100 : decode cX6_laysAbove 100 = .ok (.iload 6, 2) := dk_21 6 (dk_at dksX6_laysAbove_4 7 rfl rfl)
theorem dX6_laysAbove_102 : decode cX6_laysAbove 102 = .ok (.iadd, 1) := dk_96 (dk_at dksX6_laysAbove_4 9 rfl rfl)
theorem dX6_laysAbove_103 : decode cX6_laysAbove 103 = .ok (.istore 7, 2) := dk_54 7 (dk_at dksX6_laysAbove_4 10 rfl rfl)
theorem dX6_laysAbove_105 : decode cX6_laysAbove 105 = .ok (.iload 4, 2) := dk_21 4 (dk_at dksX6_laysAbove_4 12 rfl rfl)
theorem dX6_laysAbove_107 : decode cX6_laysAbove 107 = .ok (.iconst (-1), 1) := dk_2 (dk_at dksX6_laysAbove_4 14 rfl rfl)
theorem dX6_laysAbove_108 : decode cX6_laysAbove 108 = .ok (.if_icmp .eq 10, 3) := dk_159 0 10 (dk_at dksX6_laysAbove_4 15 rfl rfl)
theorem dX6_laysAbove_111 : decode cX6_laysAbove 111 = .ok (.iload 7, 2) := dk_21 7 (dk_at dksX6_laysAbove_4 18 rfl rfl)
theorem dX6_laysAbove_113 : decode cX6_laysAbove 113 = .ok (.iload 4, 2) := dk_21 4 (dk_at dksX6_laysAbove_4 20 rfl rfl)
theorem dX6_laysAbove_115 : decode cX6_laysAbove 115 = .ok (.if_icmp .ge 8, 3) := dk_162 0 8 (dk_at dksX6_laysAbove_5 0 rfl rfl)
theorem dX6_laysAbove_118 : decode cX6_laysAbove 118 = .ok (.iload 7, 2) := dk_21 7 (dk_at dksX6_laysAbove_5 3 rfl rfl)
theorem dX6_laysAbove_120 : decode cX6_laysAbove 120 = .ok (.goto 5, 3) := dk_167 0 5 (dk_at dksX6_laysAbove_5 5 rfl rfl)
theorem dX6_laysAbove_123 : decode cX6_laysAbove 123 = .ok (.iload 4, 2) := dk_21 4 (dk_at dksX6_laysAbove_5 8 rfl rfl)
theorem dX6_laysAbove_125 : decode cX6_laysAbove 125 = .ok (.istore 4, 2) := dk_54 4 (dk_at dksX6_laysAbove_5 10 rfl rfl)
theorem dX6_laysAbove_127 : decode cX6_laysAbove 127 = .ok (.iinc 5 1, 3) := dk_132 5 1 (dk_at dksX6_laysAbove_5 12 rfl rfl)
theorem dX6_laysAbove_130 : decode cX6_laysAbove 130 = .ok (.goto (-73), 3) := dk_167 255 183 (dk_at dksX6_laysAbove_5 15 rfl rfl)
theorem dX6_laysAbove_133 : decode cX6_laysAbove 133 = .ok (.aload_n 0, 1) := dk_42 (dk_at dksX6_laysAbove_5 18 rfl rfl)
theorem dX6_laysAbove_134 : decode cX6_laysAbove 134 = .ok (.getfield 54, 3) := dk_180 0 54 (dk_at dksX6_laysAbove_5 19 rfl rfl)
theorem dX6_laysAbove_137 : decode cX6_laysAbove 137 = .ok (.bipush 80, 2) := dk_16 80 (dk_at dksX6_laysAbove_5 22 rfl rfl)
theorem dX6_laysAbove_139 : decode cX6_laysAbove 139 = .ok (.iload_n 2, 1) := dk_28 (dk_at dksX6_laysAbove_6 0 rfl rfl)
theorem dX6_laysAbove_140 : decode cX6_laysAbove 140 = .ok (.imul, 1) := dk_104 (dk_at dksX6_laysAbove_6 1 rfl rfl)
theorem dX6_laysAbove_141 : decode cX6_laysAbove 141 = .ok (.iload_n 3, 1) := dk_29 (dk_at dksX6_laysAbove_6 2 rfl rfl)
theorem dX6_laysAbove_142 : decode cX6_laysAbove 142 = .ok (.iadd, 1) := dk_96 (dk_at dksX6_laysAbove_6 3 rfl rfl)
theorem dX6_laysAbove_143 : decode cX6_laysAbove 143 = .ok (.iload 4, 2) := dk_21 4 (dk_at dksX6_laysAbove_6 4 rfl rfl)
theorem dX6_laysAbove_145 : decode cX6_laysAbove 145 = .ok (.iastore, 1) := dk_79 (dk_at dksX6_laysAbove_6 6 rfl rfl)
theorem dX6_laysAbove_146 : decode cX6_laysAbove 146 = .ok (.iinc 3 1, 3) := dk_132 3 1 (dk_at dksX6_laysAbove_6 7 rfl rfl)
theorem dX6_laysAbove_149 : decode cX6_laysAbove 149 = .ok (.goto (-110), 3) := dk_167 255 146 (dk_at dksX6_laysAbove_6 10 rfl rfl)
theorem dX6_laysAbove_152 : decode cX6_laysAbove 152 = .ok (.iinc 2 1, 3) := dk_132 2 1 (dk_at dksX6_laysAbove_6 13 rfl rfl)
theorem dX6_laysAbove_155 : decode cX6_laysAbove 155 = .ok (.goto (-123), 3) := dk_167 255 133 (dk_at dksX6_laysAbove_6 16 rfl rfl)
theorem dX6_laysAbove_158 : decode cX6_laysAbove 158 = .ok (.return_, 1) := dk_177 (dk_at dksX6_laysAbove_6 19 rfl rfl)
abbrev cX6_between : ByteArray := prog_15_method_84_code
def yX6_between : MethodName := ⟨RX6, "between", "(II)I"⟩
def dkwX6_between_2 : List UInt8 := [21, 4, 27, 100, 167, 0, 7, 28, 21, 4, 100, 104, 96, 62, 132, 4, 1, 167, 255, 199, 29, 172]
abbrev dktX6_between_2 : List UInt8 := dkwX6_between_2 ++ []
def dkwX6_between_1 : List UInt8 := [29, 42, 21, 4, 182, 1, 127, 28, 2, 159, 0, 14, 21, 4, 27, 100, 28, 21, 4, 100, 162, 0, 10]
abbrev dktX6_between_1 : List UInt8 := dkwX6_between_1 ++ dktX6_between_2
def dkwX6_between_0 : List UInt8 := [3, 62, 27, 4, 96, 54, 4, 21, 4, 42, 180, 0, 7, 3, 46, 162, 0, 52, 21, 4, 28, 159, 0, 46]
abbrev dktX6_between_0 : List UInt8 := dkwX6_between_0 ++ dktX6_between_1
theorem dksX6_between_0 : cX6_between.data.toList.drop 0 = dktX6_between_0 := by decide +kernel
theorem dksX6_between_1 : cX6_between.data.toList.drop 24 = dktX6_between_1 := dk_seg dksX6_between_0 24 rfl rfl
theorem dksX6_between_2 : cX6_between.data.toList.drop 47 = dktX6_between_2 := dk_seg dksX6_between_1 23 rfl rfl
theorem dX6_between_0 : decode cX6_between 0 = .ok (.iconst 0, 1) := dk_3 (dk_at dksX6_between_0 0 rfl rfl)
theorem dX6_between_1 : decode cX6_between 1 = .ok (.istore_n 3, 1) := dk_62 (dk_at dksX6_between_0 1 rfl rfl)
theorem dX6_between_2 : decode cX6_between 2 = .ok (.iload_n 1, 1) := dk_27 (dk_at dksX6_between_0 2 rfl rfl)
theorem dX6_between_3 : decode cX6_between 3 = .ok (.iconst 1, 1) := dk_4 (dk_at dksX6_between_0 3 rfl rfl)
theorem dX6_between_4 : decode cX6_between 4 = .ok (.iadd, 1) := dk_96 (dk_at dksX6_between_0 4 rfl rfl)
theorem dX6_between_5 : decode cX6_between 5 = .ok (.istore 4, 2) := dk_54 4 (dk_at dksX6_between_0 5 rfl rfl)
theorem dX6_between_7 : decode cX6_between 7 = .ok (.iload 4, 2) := dk_21 4 (dk_at dksX6_between_0 7 rfl rfl)
theorem dX6_between_9 : decode cX6_between 9 = .ok (.aload_n 0, 1) := dk_42 (dk_at dksX6_between_0 9 rfl rfl)
theorem dX6_between_10 : decode cX6_between 10 = .ok (.getfield 7, 3) := dk_180 0 7 (dk_at dksX6_between_0 10 rfl rfl)
theorem dX6_between_13 : decode cX6_between 13 = .ok (.iconst 0, 1) := dk_3 (dk_at dksX6_between_0 13 rfl rfl)
theorem dX6_between_14 : decode cX6_between 14 = .ok (.iaload, 1) := dk_46 (dk_at dksX6_between_0 14 rfl rfl)
theorem dX6_between_15 : decode cX6_between 15 = .ok (.if_icmp .ge 52, 3) := dk_162 0 52 (dk_at dksX6_between_0 15 rfl rfl)
theorem dX6_between_18 : decode cX6_between 18 = .ok (.iload 4, 2) := dk_21 4 (dk_at dksX6_between_0 18 rfl rfl)
theorem dX6_between_20 : decode cX6_between 20 = .ok (.iload_n 2, 1) := dk_28 (dk_at dksX6_between_0 20 rfl rfl)
theorem dX6_between_21 : decode cX6_between 21 = .ok (.if_icmp .eq 46, 3) := dk_159 0 46 (dk_at dksX6_between_0 21 rfl rfl)
theorem dX6_between_24 : decode cX6_between 24 = .ok (.iload_n 3, 1) := dk_29 (dk_at dksX6_between_1 0 rfl rfl)
theorem dX6_between_25 : decode cX6_between 25 = .ok (.aload_n 0, 1) := dk_42 (dk_at dksX6_between_1 1 rfl rfl)
theorem dX6_between_26 : decode cX6_between 26 = .ok (.iload 4, 2) := dk_21 4 (dk_at dksX6_between_1 2 rfl rfl)
theorem dX6_between_28 : decode cX6_between 28 = .ok (.invokevirtual 383, 3) := dk_182 1 127 (dk_at dksX6_between_1 4 rfl rfl)
theorem dX6_between_31 : decode cX6_between 31 = .ok (.iload_n 2, 1) := dk_28 (dk_at dksX6_between_1 7 rfl rfl)
theorem dX6_between_32 : decode cX6_between 32 = .ok (.iconst (-1), 1) := dk_2 (dk_at dksX6_between_1 8 rfl rfl)
theorem dX6_between_33 : decode cX6_between 33 = .ok (.if_icmp .eq 14, 3) := dk_159 0 14 (dk_at dksX6_between_1 9 rfl rfl)
theorem dX6_between_36 : decode cX6_between 36 = .ok (.iload 4, 2) := dk_21 4 (dk_at dksX6_between_1 12 rfl rfl)
theorem dX6_between_38 : decode cX6_between 38 = .ok (.iload_n 1, 1) := dk_27 (dk_at dksX6_between_1 14 rfl rfl)
theorem dX6_between_39 : decode cX6_between 39 = .ok (.isub, 1) := dk_100 (dk_at dksX6_between_1 15 rfl rfl)
theorem dX6_between_40 : decode cX6_between 40 = .ok (.iload_n 2, 1) := dk_28 (dk_at dksX6_between_1 16 rfl rfl)
theorem dX6_between_41 : decode cX6_between 41 = .ok (.iload 4, 2) := dk_21 4 (dk_at dksX6_between_1 17 rfl rfl)
theorem dX6_between_43 : decode cX6_between 43 = .ok (.isub, 1) := dk_100 (dk_at dksX6_between_1 19 rfl rfl)
theorem dX6_between_44 : decode cX6_between 44 = .ok (.if_icmp .ge 10, 3) := dk_162 0 10 (dk_at dksX6_between_1 20 rfl rfl)
theorem dX6_between_47 : decode cX6_between 47 = .ok (.iload 4, 2) := dk_21 4 (dk_at dksX6_between_2 0 rfl rfl)
theorem dX6_between_49 : decode cX6_between 49 = .ok (.iload_n 1, 1) := dk_27 (dk_at dksX6_between_2 2 rfl rfl)
theorem dX6_between_50 : decode cX6_between 50 = .ok (.isub, 1) := dk_100 (dk_at dksX6_between_2 3 rfl rfl)
theorem dX6_between_51 : decode cX6_between 51 = .ok (.goto 7, 3) := dk_167 0 7 (dk_at dksX6_between_2 4 rfl rfl)
theorem dX6_between_54 : decode cX6_between 54 = .ok (.iload_n 2, 1) := dk_28 (dk_at dksX6_between_2 7 rfl rfl)
theorem dX6_between_55 : decode cX6_between 55 = .ok (.iload 4, 2) := dk_21 4 (dk_at dksX6_between_2 8 rfl rfl)
theorem dX6_between_57 : decode cX6_between 57 = .ok (.isub, 1) := dk_100 (dk_at dksX6_between_2 10 rfl rfl)
theorem dX6_between_58 : decode cX6_between 58 = .ok (.imul, 1) := dk_104 (dk_at dksX6_between_2 11 rfl rfl)
theorem dX6_between_59 : decode cX6_between 59 = .ok (.iadd, 1) := dk_96 (dk_at dksX6_between_2 12 rfl rfl)
theorem dX6_between_60 : decode cX6_between 60 = .ok (.istore_n 3, 1) := dk_62 (dk_at dksX6_between_2 13 rfl rfl)
theorem dX6_between_61 : decode cX6_between 61 = .ok (.iinc 4 1, 3) := dk_132 4 1 (dk_at dksX6_between_2 14 rfl rfl)
theorem dX6_between_64 : decode cX6_between 64 = .ok (.goto (-57), 3) := dk_167 255 199 (dk_at dksX6_between_2 17 rfl rfl)
theorem dX6_between_67 : decode cX6_between 67 = .ok (.iload_n 3, 1) := dk_29 (dk_at dksX6_between_2 20 rfl rfl)
theorem dX6_between_68 : decode cX6_between 68 = .ok (.ireturn, 1) := dk_172 (dk_at dksX6_between_2 21 rfl rfl)
abbrev cX6_weight : ByteArray := prog_15_method_83_code
def yX6_weight : MethodName := ⟨RX6, "weight", "(I)I"⟩
def dkwX6_weight_0 : List UInt8 := [42, 180, 0, 7, 17, 2, 228, 27, 96, 46, 172]
abbrev dktX6_weight_0 : List UInt8 := dkwX6_weight_0 ++ []
theorem dksX6_weight_0 : cX6_weight.data.toList.drop 0 = dktX6_weight_0 := by decide +kernel
theorem dX6_weight_0 : decode cX6_weight 0 = .ok (.aload_n 0, 1) := dk_42 (dk_at dksX6_weight_0 0 rfl rfl)
theorem dX6_weight_1 : decode cX6_weight 1 = .ok (.getfield 7, 3) := dk_180 0 7 (dk_at dksX6_weight_0 1 rfl rfl)
theorem dX6_weight_4 : decode cX6_weight 4 = .ok (.sipush 740, 3) := dk_17 2 228 (dk_at dksX6_weight_0 4 rfl rfl)
theorem dX6_weight_7 : decode cX6_weight 7 = .ok (.iload_n 1, 1) := dk_27 (dk_at dksX6_weight_0 7 rfl rfl)
theorem dX6_weight_8 : decode cX6_weight 8 = .ok (.iadd, 1) := dk_96 (dk_at dksX6_weight_0 8 rfl rfl)
theorem dX6_weight_9 : decode cX6_weight 9 = .ok (.iaload, 1) := dk_46 (dk_at dksX6_weight_0 9 rfl rfl)
theorem dX6_weight_10 : decode cX6_weight 10 = .ok (.ireturn, 1) := dk_172 (dk_at dksX6_weight_0 10 rfl rfl)
abbrev cX6_below : ByteArray := prog_15_method_85_code
def yX6_below : MethodName := ⟨RX6, "below", "(I)I"⟩
def dkwX6_below_1 : List UInt8 := [167, 255, 236, 28, 172]
abbrev dktX6_below_1 : List UInt8 := dkwX6_below_1 ++ []
def dkwX6_below_0 : List UInt8 := [3, 61, 3, 62, 29, 27, 162, 0, 21, 28, 42, 29, 182, 1, 127, 27, 29, 100, 104, 96, 61, 132, 3, 1]
abbrev dktX6_below_0 : List UInt8 := dkwX6_below_0 ++ dktX6_below_1
theorem dksX6_below_0 : cX6_below.data.toList.drop 0 = dktX6_below_0 := by decide +kernel
theorem dksX6_below_1 : cX6_below.data.toList.drop 24 = dktX6_below_1 := dk_seg dksX6_below_0 24 rfl rfl
theorem dX6_below_0 : decode cX6_below 0 = .ok (.iconst 0, 1) := dk_3 (dk_at dksX6_below_0 0 rfl rfl)
theorem dX6_below_1 : decode cX6_below 1 = .ok (.istore_n 2, 1) := dk_61 (dk_at dksX6_below_0 1 rfl rfl)
theorem dX6_below_2 : decode cX6_below 2 = .ok (.iconst 0, 1) := dk_3 (dk_at dksX6_below_0 2 rfl rfl)
theorem dX6_below_3 : decode cX6_below 3 = .ok (.istore_n 3, 1) := dk_62 (dk_at dksX6_below_0 3 rfl rfl)
theorem dX6_below_4 : decode cX6_below 4 = .ok (.iload_n 3, 1) := dk_29 (dk_at dksX6_below_0 4 rfl rfl)
theorem dX6_below_5 : decode cX6_below 5 = .ok (.iload_n 1, 1) := dk_27 (dk_at dksX6_below_0 5 rfl rfl)
theorem dX6_below_6 : decode cX6_below 6 = .ok (.if_icmp .ge 21, 3) := dk_162 0 21 (dk_at dksX6_below_0 6 rfl rfl)
theorem dX6_below_9 : decode cX6_below 9 = .ok (.iload_n 2, 1) := dk_28 (dk_at dksX6_below_0 9 rfl rfl)
theorem dX6_below_10 : decode cX6_below 10 = .ok (.aload_n 0, 1) := dk_42 (dk_at dksX6_below_0 10 rfl rfl)
theorem dX6_below_11 : decode cX6_below 11 = .ok (.iload_n 3, 1) := dk_29 (dk_at dksX6_below_0 11 rfl rfl)
theorem dX6_below_12 : decode cX6_below 12 = .ok (.invokevirtual 383, 3) := dk_182 1 127 (dk_at dksX6_below_0 12 rfl rfl)
theorem dX6_below_15 : decode cX6_below 15 = .ok (.iload_n 1, 1) := dk_27 (dk_at dksX6_below_0 15 rfl rfl)
theorem dX6_below_16 : decode cX6_below 16 = .ok (.iload_n 3, 1) := dk_29 (dk_at dksX6_below_0 16 rfl rfl)
theorem dX6_below_17 : decode cX6_below 17 = .ok (.isub, 1) := dk_100 (dk_at dksX6_below_0 17 rfl rfl)
theorem dX6_below_18 : decode cX6_below 18 = .ok (.imul, 1) := dk_104 (dk_at dksX6_below_0 18 rfl rfl)
theorem dX6_below_19 : decode cX6_below 19 = .ok (.iadd, 1) := dk_96 (dk_at dksX6_below_0 19 rfl rfl)
theorem dX6_below_20 : decode cX6_below 20 = .ok (.istore_n 2, 1) := dk_61 (dk_at dksX6_below_0 20 rfl rfl)
theorem dX6_below_21 : decode cX6_below 21 = .ok (.iinc 3 1, 3) := dk_132 3 1 (dk_at dksX6_below_0 21 rfl rfl)
theorem dX6_below_24 : decode cX6_below 24 = .ok (.goto (-20), 3) := dk_167 255 236 (dk_at dksX6_below_1 0 rfl rfl)
theorem dX6_below_27 : decode cX6_below 27 = .ok (.iload_n 2, 1) := dk_28 (dk_at dksX6_below_1 3 rfl rfl)
theorem dX6_below_28 : decode cX6_below 28 = .ok (.ireturn, 1) := dk_172 (dk_at dksX6_below_1 4 rfl rfl)
abbrev cX6_zones : ByteArray := prog_15_method_90_code
def yX6_zones : MethodName := ⟨RX6, "zones", "(II)I"⟩
def dkwX6_zones_3 : List UInt8 := [180, 1, 139, 167, 0, 12, 42, 180, 0, 63, 28, 16, 10, 100, 46, 172]
abbrev dktX6_zones_3 : List UInt8 := dkwX6_zones_3 ++ []
def dkwX6_zones_2 : List UInt8 := [154, 0, 5, 2, 172, 42, 2, 181, 1, 139, 42, 3, 27, 4, 3, 182, 1, 145, 28, 154, 0, 10, 42]
abbrev dktX6_zones_2 : List UInt8 := dkwX6_zones_2 ++ dktX6_zones_3
def dkwX6_zones_1 : List UInt8 := [180, 0, 7, 4, 46, 153, 0, 20, 28, 153, 0, 18, 28, 16, 10, 16, 9, 27, 96, 184, 0, 66]
abbrev dktX6_zones_1 : List UInt8 := dkwX6_zones_1 ++ dktX6_zones_2
def dkwX6_zones_0 : List UInt8 := [27, 4, 6, 184, 0, 66, 153, 0, 41, 42, 180, 0, 7, 3, 46, 27, 5, 96, 161, 0, 29, 42]
abbrev dktX6_zones_0 : List UInt8 := dkwX6_zones_0 ++ dktX6_zones_1
theorem dksX6_zones_0 : cX6_zones.data.toList.drop 0 = dktX6_zones_0 := by decide +kernel
theorem dksX6_zones_1 : cX6_zones.data.toList.drop 22 = dktX6_zones_1 := dk_seg dksX6_zones_0 22 rfl rfl
theorem dksX6_zones_2 : cX6_zones.data.toList.drop 44 = dktX6_zones_2 := dk_seg dksX6_zones_1 22 rfl rfl
theorem dksX6_zones_3 : cX6_zones.data.toList.drop 67 = dktX6_zones_3 := dk_seg dksX6_zones_2 23 rfl rfl
theorem dX6_zones_0 : decode cX6_zones 0 = .ok (.iload_n 1, 1) := dk_27 (dk_at dksX6_zones_0 0 rfl rfl)
theorem dX6_zones_1 : decode cX6_zones 1 = .ok (.iconst 1, 1) := dk_4 (dk_at dksX6_zones_0 1 rfl rfl)
theorem dX6_zones_2 : decode cX6_zones 2 = .ok (.iconst 3, 1) := dk_6 (dk_at dksX6_zones_0 2 rfl rfl)
theorem dX6_zones_3 : decode cX6_zones 3 = .ok (.invokestatic 66, 3) := dk_184 0 66 (dk_at dksX6_zones_0 3 rfl rfl)
theorem dX6_zones_6 : decode cX6_zones 6 = .ok (.ifCond .eq 41, 3) := dk_153 0 41 (dk_at dksX6_zones_0 6 rfl rfl)
theorem dX6_zones_9 : decode cX6_zones 9 = .ok (.aload_n 0, 1) := dk_42 (dk_at dksX6_zones_0 9 rfl rfl)
theorem dX6_zones_10 : decode cX6_zones 10 = .ok (.getfield 7, 3) := dk_180 0 7 (dk_at dksX6_zones_0 10 rfl rfl)
theorem dX6_zones_13 : decode cX6_zones 13 = .ok (.iconst 0, 1) := dk_3 (dk_at dksX6_zones_0 13 rfl rfl)
theorem dX6_zones_14 : decode cX6_zones 14 = .ok (.iaload, 1) := dk_46 (dk_at dksX6_zones_0 14 rfl rfl)
theorem dX6_zones_15 : decode cX6_zones 15 = .ok (.iload_n 1, 1) := dk_27 (dk_at dksX6_zones_0 15 rfl rfl)
theorem dX6_zones_16 : decode cX6_zones 16 = .ok (.iconst 2, 1) := dk_5 (dk_at dksX6_zones_0 16 rfl rfl)
theorem dX6_zones_17 : decode cX6_zones 17 = .ok (.iadd, 1) := dk_96 (dk_at dksX6_zones_0 17 rfl rfl)
theorem dX6_zones_18 : decode cX6_zones 18 = .ok (.if_icmp .lt 29, 3) := dk_161 0 29 (dk_at dksX6_zones_0 18 rfl rfl)
theorem dX6_zones_21 : decode cX6_zones 21 = .ok (.aload_n 0, 1) := dk_42 (dk_at dksX6_zones_0 21 rfl rfl)
theorem dX6_zones_22 : decode cX6_zones 22 = .ok (.getfield 7, 3) := dk_180 0 7 (dk_at dksX6_zones_1 0 rfl rfl)
theorem dX6_zones_25 : decode cX6_zones 25 = .ok (.iconst 1, 1) := dk_4 (dk_at dksX6_zones_1 3 rfl rfl)
theorem dX6_zones_26 : decode cX6_zones 26 = .ok (.iaload, 1) := dk_46 (dk_at dksX6_zones_1 4 rfl rfl)
theorem dX6_zones_27 : decode cX6_zones 27 = .ok (.ifCond .eq 20, 3) := dk_153 0 20 (dk_at dksX6_zones_1 5 rfl rfl)
theorem dX6_zones_30 : decode cX6_zones 30 = .ok (.iload_n 2, 1) := dk_28 (dk_at dksX6_zones_1 8 rfl rfl)
theorem dX6_zones_31 : decode cX6_zones 31 = .ok (.ifCond .eq 18, 3) := dk_153 0 18 (dk_at dksX6_zones_1 9 rfl rfl)
theorem dX6_zones_34 : decode cX6_zones 34 = .ok (.iload_n 2, 1) := dk_28 (dk_at dksX6_zones_1 12 rfl rfl)
theorem dX6_zones_35 : decode cX6_zones 35 = .ok (.bipush 10, 2) := dk_16 10 (dk_at dksX6_zones_1 13 rfl rfl)
theorem dX6_zones_37 : decode cX6_zones 37 = .ok (.bipush 9, 2) := dk_16 9 (dk_at dksX6_zones_1 15 rfl rfl)
theorem dX6_zones_39 : decode cX6_zones 39 = .ok (.iload_n 1, 1) := dk_27 (dk_at dksX6_zones_1 17 rfl rfl)
theorem dX6_zones_40 : decode cX6_zones 40 = .ok (.iadd, 1) := dk_96 (dk_at dksX6_zones_1 18 rfl rfl)
theorem dX6_zones_41 : decode cX6_zones 41 = .ok (.invokestatic 66, 3) := dk_184 0 66 (dk_at dksX6_zones_1 19 rfl rfl)
theorem dX6_zones_44 : decode cX6_zones 44 = .ok (.ifCond .ne 5, 3) := dk_154 0 5 (dk_at dksX6_zones_2 0 rfl rfl)
theorem dX6_zones_47 : decode cX6_zones 47 = .ok (.iconst (-1), 1) := dk_2 (dk_at dksX6_zones_2 3 rfl rfl)
theorem dX6_zones_48 : decode cX6_zones 48 = .ok (.ireturn, 1) := dk_172 (dk_at dksX6_zones_2 4 rfl rfl)
theorem dX6_zones_49 : decode cX6_zones 49 = .ok (.aload_n 0, 1) := dk_42 (dk_at dksX6_zones_2 5 rfl rfl)
theorem dX6_zones_50 : decode cX6_zones 50 = .ok (.iconst (-1), 1) := dk_2 (dk_at dksX6_zones_2 6 rfl rfl)
theorem dX6_zones_51 : decode cX6_zones 51 = .ok (.putfield 395, 3) := dk_181 1 139 (dk_at dksX6_zones_2 7 rfl rfl)
theorem dX6_zones_54 : decode cX6_zones 54 = .ok (.aload_n 0, 1) := dk_42 (dk_at dksX6_zones_2 10 rfl rfl)
theorem dX6_zones_55 : decode cX6_zones 55 = .ok (.iconst 0, 1) := dk_3 (dk_at dksX6_zones_2 11 rfl rfl)
theorem dX6_zones_56 : decode cX6_zones 56 = .ok (.iload_n 1, 1) := dk_27 (dk_at dksX6_zones_2 12 rfl rfl)
theorem dX6_zones_57 : decode cX6_zones 57 = .ok (.iconst 1, 1) := dk_4 (dk_at dksX6_zones_2 13 rfl rfl)
theorem dX6_zones_58 : decode cX6_zones 58 = .ok (.iconst 0, 1) := dk_3 (dk_at dksX6_zones_2 14 rfl rfl)
theorem dX6_zones_59 : decode cX6_zones 59 = .ok (.invokevirtual 401, 3) := dk_182 1 145 (dk_at dksX6_zones_2 15 rfl rfl)
theorem dX6_zones_62 : decode cX6_zones 62 = .ok (.iload_n 2, 1) := dk_28 (dk_at dksX6_zones_2 18 rfl rfl)
theorem dX6_zones_63 : decode cX6_zones 63 = .ok (.ifCond .ne 10, 3) := dk_154 0 10 (dk_at dksX6_zones_2 19 rfl rfl)
theorem dX6_zones_66 : decode cX6_zones 66 = .ok (.aload_n 0, 1) := dk_42 (dk_at dksX6_zones_2 22 rfl rfl)
theorem dX6_zones_67 : decode cX6_zones 67 = .ok (.getfield 395, 3) := dk_180 1 139 (dk_at dksX6_zones_3 0 rfl rfl)
theorem dX6_zones_70 : decode cX6_zones 70 = .ok (.goto 12, 3) := dk_167 0 12 (dk_at dksX6_zones_3 3 rfl rfl)
theorem dX6_zones_73 : decode cX6_zones 73 = .ok (.aload_n 0, 1) := dk_42 (dk_at dksX6_zones_3 6 rfl rfl)
theorem dX6_zones_74 : decode cX6_zones 74 = .ok (.getfield 63, 3) := dk_180 0 63 (dk_at dksX6_zones_3 7 rfl rfl)
theorem dX6_zones_77 : decode cX6_zones 77 = .ok (.iload_n 2, 1) := dk_28 (dk_at dksX6_zones_3 10 rfl rfl)
theorem dX6_zones_78 : decode cX6_zones 78 = .ok (.bipush 10, 2) := dk_16 10 (dk_at dksX6_zones_3 11 rfl rfl)
theorem dX6_zones_80 : decode cX6_zones 80 = .ok (.isub, 1) := dk_100 (dk_at dksX6_zones_3 13 rfl rfl)
theorem dX6_zones_81 : decode cX6_zones 81 = .ok (.iaload, 1) := dk_46 (dk_at dksX6_zones_3 14 rfl rfl)
theorem dX6_zones_82 : decode cX6_zones 82 = .ok (.ireturn, 1) := dk_172 (dk_at dksX6_zones_3 15 rfl rfl)
abbrev cX6_triesCuts : ByteArray := prog_15_method_89_code
def yX6_triesCuts : MethodName := ⟨RX6, "triesCuts", "(IIII)V"⟩
def dkwX6_triesCuts_6 : List UInt8 := [132, 5, 1, 167, 255, 212, 177]
abbrev dktX6_triesCuts_6 : List UInt8 := dkwX6_triesCuts_6 ++ []
def dkwX6_triesCuts_5 : List UInt8 := [79, 42, 27, 4, 96, 28, 21, 5, 21, 4, 42, 29, 21, 5, 4, 100, 182, 1, 142, 96, 182, 1, 145]
abbrev dktX6_triesCuts_5 : List UInt8 := dkwX6_triesCuts_5 ++ dktX6_triesCuts_6
def dkwX6_triesCuts_4 : List UInt8 := [177, 29, 4, 96, 54, 5, 21, 5, 42, 180, 0, 7, 3, 46, 162, 0, 39, 42, 180, 0, 60, 27, 21, 5]
abbrev dktX6_triesCuts_4 : List UInt8 := dkwX6_triesCuts_4 ++ dktX6_triesCuts_5
def dkwX6_triesCuts_3 : List UInt8 := [28, 162, 0, 23, 42, 180, 0, 63, 21, 6, 42, 180, 0, 60, 21, 6, 46, 79, 132, 6, 1, 167, 255, 233]
abbrev dktX6_triesCuts_3 : List UInt8 := dkwX6_triesCuts_3 ++ dktX6_triesCuts_4
def dkwX6_triesCuts_2 : List UInt8 := [159, 0, 13, 21, 5, 42, 180, 1, 139, 161, 0, 4, 177, 42, 21, 5, 181, 1, 139, 3, 54, 6, 21, 6]
abbrev dktX6_triesCuts_2 : List UInt8 := dkwX6_triesCuts_2 ++ dktX6_triesCuts_3
def dkwX6_triesCuts_1 : List UInt8 := [21, 4, 42, 29, 42, 180, 0, 7, 3, 46, 4, 100, 182, 1, 142, 96, 54, 5, 42, 180, 1, 139, 2]
abbrev dktX6_triesCuts_1 : List UInt8 := dkwX6_triesCuts_1 ++ dktX6_triesCuts_2
def dkwX6_triesCuts_0 : List UInt8 := [42, 180, 1, 139, 2, 159, 0, 13, 21, 4, 42, 180, 1, 139, 161, 0, 4, 177, 27, 28, 160, 0, 75]
abbrev dktX6_triesCuts_0 : List UInt8 := dkwX6_triesCuts_0 ++ dktX6_triesCuts_1
theorem dksX6_triesCuts_0 : cX6_triesCuts.data.toList.drop 0 = dktX6_triesCuts_0 := by decide +kernel
theorem dksX6_triesCuts_1 : cX6_triesCuts.data.toList.drop 23 = dktX6_triesCuts_1 := dk_seg dksX6_triesCuts_0 23 rfl rfl
theorem dksX6_triesCuts_2 : cX6_triesCuts.data.toList.drop 46 = dktX6_triesCuts_2 := dk_seg dksX6_triesCuts_1 23 rfl rfl
theorem dksX6_triesCuts_3 : cX6_triesCuts.data.toList.drop 70 = dktX6_triesCuts_3 := dk_seg dksX6_triesCuts_2 24 rfl rfl
theorem dksX6_triesCuts_4 : cX6_triesCuts.data.toList.drop 94 = dktX6_triesCuts_4 := dk_seg dksX6_triesCuts_3 24 rfl rfl
theorem dksX6_triesCuts_5 : cX6_triesCuts.data.toList.drop 118 = dktX6_triesCuts_5 := dk_seg dksX6_triesCuts_4 24 rfl rfl
theorem dksX6_triesCuts_6 : cX6_triesCuts.data.toList.drop 141 = dktX6_triesCuts_6 := dk_seg dksX6_triesCuts_5 23 rfl rfl
theorem dX6_triesCuts_0 : decode cX6_triesCuts 0 = .ok (.aload_n 0, 1) := dk_42 (dk_at dksX6_triesCuts_0 0 rfl rfl)
theorem dX6_triesCuts_1 : decode cX6_triesCuts 1 = .ok (.getfield 395, 3) := dk_180 1 139 (dk_at dksX6_triesCuts_0 1 rfl rfl)
theorem dX6_triesCuts_4 : decode cX6_triesCuts 4 = .ok (.iconst (-1), 1) := dk_2 (dk_at dksX6_triesCuts_0 4 rfl rfl)
theorem dX6_triesCuts_5 : decode cX6_triesCuts 5 = .ok (.if_icmp .eq 13, 3) := dk_159 0 13 (dk_at dksX6_triesCuts_0 5 rfl rfl)
theorem dX6_triesCuts_8 : decode cX6_triesCuts 8 = .ok (.iload 4, 2) := dk_21 4 (dk_at dksX6_triesCuts_0 8 rfl rfl)
theorem dX6_triesCuts_10 : decode cX6_triesCuts 10 = .ok (.aload_n 0, 1) := dk_42 (dk_at dksX6_triesCuts_0 10 rfl rfl)
theorem dX6_triesCuts_11 : decode cX6_triesCuts 11 = .ok (.getfield 395, 3) := dk_180 1 139 (dk_at dksX6_triesCuts_0 11 rfl rfl)
theorem dX6_triesCuts_14 : decode cX6_triesCuts 14 = .ok (.if_icmp .lt 4, 3) := dk_161 0 4 (dk_at dksX6_triesCuts_0 14 rfl rfl)
theorem dX6_triesCuts_17 : decode cX6_triesCuts 17 = .ok (.return_, 1) := dk_177 (dk_at dksX6_triesCuts_0 17 rfl rfl)
theorem dX6_triesCuts_18 : decode cX6_triesCuts 18 = .ok (.iload_n 1, 1) := dk_27 (dk_at dksX6_triesCuts_0 18 rfl rfl)
theorem dX6_triesCuts_19 : decode cX6_triesCuts 19 = .ok (.iload_n 2, 1) := dk_28 (dk_at dksX6_triesCuts_0 19 rfl rfl)
theorem dX6_triesCuts_20 : decode cX6_triesCuts 20 = .ok (.if_icmp .ne 75, 3) := dk_160 0 75 (dk_at dksX6_triesCuts_0 20 rfl rfl)
theorem dX6_triesCuts_23 : decode cX6_triesCuts 23 = .ok (.iload 4, 2) := dk_21 4 (dk_at dksX6_triesCuts_1 0 rfl rfl)
theorem dX6_triesCuts_25 : decode cX6_triesCuts 25 = .ok (.aload_n 0, 1) := dk_42 (dk_at dksX6_triesCuts_1 2 rfl rfl)
theorem dX6_triesCuts_26 : decode cX6_triesCuts 26 = .ok (.iload_n 3, 1) := dk_29 (dk_at dksX6_triesCuts_1 3 rfl rfl)
theorem dX6_triesCuts_27 : decode cX6_triesCuts 27 = .ok (.aload_n 0, 1) := dk_42 (dk_at dksX6_triesCuts_1 4 rfl rfl)
theorem dX6_triesCuts_28 : decode cX6_triesCuts 28 = .ok (.getfield 7, 3) := dk_180 0 7 (dk_at dksX6_triesCuts_1 5 rfl rfl)
theorem dX6_triesCuts_31 : decode cX6_triesCuts 31 = .ok (.iconst 0, 1) := dk_3 (dk_at dksX6_triesCuts_1 8 rfl rfl)
theorem dX6_triesCuts_32 : decode cX6_triesCuts 32 = .ok (.iaload, 1) := dk_46 (dk_at dksX6_triesCuts_1 9 rfl rfl)
theorem dX6_triesCuts_33 : decode cX6_triesCuts 33 = .ok (.iconst 1, 1) := dk_4 (dk_at dksX6_triesCuts_1 10 rfl rfl)
theorem dX6_triesCuts_34 : decode cX6_triesCuts 34 = .ok (.isub, 1) := dk_100 (dk_at dksX6_triesCuts_1 11 rfl rfl)
theorem dX6_triesCuts_35 : decode cX6_triesCuts 35 = .ok (.invokevirtual 398, 3) := dk_182 1 142 (dk_at dksX6_triesCuts_1 12 rfl rfl)
theorem dX6_triesCuts_38 : decode cX6_triesCuts 38 = .ok (.iadd, 1) := dk_96 (dk_at dksX6_triesCuts_1 15 rfl rfl)
theorem dX6_triesCuts_39 : decode cX6_triesCuts 39 = .ok (.istore 5, 2) := dk_54 5 (dk_at dksX6_triesCuts_1 16 rfl rfl)
theorem dX6_triesCuts_41 : decode cX6_triesCuts 41 = .ok (.aload_n 0, 1) := dk_42 (dk_at dksX6_triesCuts_1 18 rfl rfl)
theorem dX6_triesCuts_42 : decode cX6_triesCuts 42 = .ok (.getfield 395, 3) := dk_180 1 139 (dk_at dksX6_triesCuts_1 19 rfl rfl)
theorem dX6_triesCuts_45 : decode cX6_triesCuts 45 = .ok (.iconst (-1), 1) := dk_2 (dk_at dksX6_triesCuts_1 22 rfl rfl)
theorem dX6_triesCuts_46 : decode cX6_triesCuts 46 = .ok (.if_icmp .eq 13, 3) := dk_159 0 13 (dk_at dksX6_triesCuts_2 0 rfl rfl)
theorem dX6_triesCuts_49 : decode cX6_triesCuts 49 = .ok (.iload 5, 2) := dk_21 5 (dk_at dksX6_triesCuts_2 3 rfl rfl)
theorem dX6_triesCuts_51 : decode cX6_triesCuts 51 = .ok (.aload_n 0, 1) := dk_42 (dk_at dksX6_triesCuts_2 5 rfl rfl)
theorem dX6_triesCuts_52 : decode cX6_triesCuts 52 = .ok (.getfield 395, 3) := dk_180 1 139 (dk_at dksX6_triesCuts_2 6 rfl rfl)
theorem dX6_triesCuts_55 : decode cX6_triesCuts 55 = .ok (.if_icmp .lt 4, 3) := dk_161 0 4 (dk_at dksX6_triesCuts_2 9 rfl rfl)
theorem dX6_triesCuts_58 : decode cX6_triesCuts 58 = .ok (.return_, 1) := dk_177 (dk_at dksX6_triesCuts_2 12 rfl rfl)
theorem dX6_triesCuts_59 : decode cX6_triesCuts 59 = .ok (.aload_n 0, 1) := dk_42 (dk_at dksX6_triesCuts_2 13 rfl rfl)
theorem dX6_triesCuts_60 : decode cX6_triesCuts 60 = .ok (.iload 5, 2) := dk_21 5 (dk_at dksX6_triesCuts_2 14 rfl rfl)
theorem dX6_triesCuts_62 : decode cX6_triesCuts 62 = .ok (.putfield 395, 3) := dk_181 1 139 (dk_at dksX6_triesCuts_2 16 rfl rfl)
theorem dX6_triesCuts_65 : decode cX6_triesCuts 65 = .ok (.iconst 0, 1) := dk_3 (dk_at dksX6_triesCuts_2 19 rfl rfl)
theorem dX6_triesCuts_66 : decode cX6_triesCuts 66 = .ok (.istore 6, 2) := dk_54 6 (dk_at dksX6_triesCuts_2 20 rfl rfl)
theorem dX6_triesCuts_68 : decode cX6_triesCuts 68 = .ok (.iload 6, 2) := dk_21 6 (dk_at dksX6_triesCuts_2 22 rfl rfl)
theorem dX6_triesCuts_70 : decode cX6_triesCuts 70 = .ok (.iload_n 2, 1) := dk_28 (dk_at dksX6_triesCuts_3 0 rfl rfl)
theorem dX6_triesCuts_71 : decode cX6_triesCuts 71 = .ok (.if_icmp .ge 23, 3) := dk_162 0 23 (dk_at dksX6_triesCuts_3 1 rfl rfl)
