set_option maxRecDepth 100000
abbrev cX3_nextShut : ByteArray := prog_16_method_65_code
def yX3_nextShut : MethodName := ⟨RX3, "nextShut", "(I)I"⟩
def dkwX3_nextShut_5 : List UInt8 := [42, 180, 0, 247, 4, 96, 29, 79, 28, 172]
abbrev dktX3_nextShut_5 : List UInt8 := dkwX3_nextShut_5 ++ []
def dkwX3_nextShut_4 : List UInt8 := [182, 0, 244, 21, 6, 153, 0, 9, 21, 4, 61, 21, 5, 62, 132, 4, 1, 167, 255, 152, 42, 180, 0, 34]
abbrev dktX3_nextShut_4 : List UInt8 := dkwX3_nextShut_4 ++ dktX3_nextShut_5
def dkwX3_nextShut_3 : List UInt8 := [29, 162, 0, 14, 42, 182, 0, 219, 154, 0, 7, 4, 167, 0, 4, 3, 54, 6, 42, 4, 21, 4, 120, 3]
abbrev dktX3_nextShut_3 : List UInt8 := dkwX3_nextShut_3 ++ dktX3_nextShut_4
def dkwX3_nextShut_2 : List UInt8 := [154, 0, 62, 42, 4, 21, 4, 120, 4, 182, 0, 244, 42, 182, 0, 208, 42, 182, 0, 216, 54, 5, 21, 5]
abbrev dktX3_nextShut_2 : List UInt8 := dkwX3_nextShut_2 ++ dktX3_nextShut_3
def dkwX3_nextShut_1 : List UInt8 := [182, 0, 79, 154, 0, 82, 42, 21, 4, 5, 182, 0, 79, 2, 160, 0, 71, 42, 21, 4, 182, 0, 96]
abbrev dktX3_nextShut_1 : List UInt8 := dkwX3_nextShut_1 ++ dktX3_nextShut_2
def dkwX3_nextShut_0 : List UInt8 := [2, 61, 27, 62, 3, 54, 4, 21, 4, 42, 180, 0, 7, 4, 46, 162, 0, 99, 42, 21, 4, 16, 7]
abbrev dktX3_nextShut_0 : List UInt8 := dkwX3_nextShut_0 ++ dktX3_nextShut_1
theorem dksX3_nextShut_0 : cX3_nextShut.data.toList.drop 0 = dktX3_nextShut_0 := by decide +kernel
theorem dksX3_nextShut_1 : cX3_nextShut.data.toList.drop 23 = dktX3_nextShut_1 := dk_seg dksX3_nextShut_0 23 rfl rfl
theorem dksX3_nextShut_2 : cX3_nextShut.data.toList.drop 46 = dktX3_nextShut_2 := dk_seg dksX3_nextShut_1 23 rfl rfl
theorem dksX3_nextShut_3 : cX3_nextShut.data.toList.drop 70 = dktX3_nextShut_3 := dk_seg dksX3_nextShut_2 24 rfl rfl
theorem dksX3_nextShut_4 : cX3_nextShut.data.toList.drop 94 = dktX3_nextShut_4 := dk_seg dksX3_nextShut_3 24 rfl rfl
theorem dksX3_nextShut_5 : cX3_nextShut.data.toList.drop 118 = dktX3_nextShut_5 := dk_seg dksX3_nextShut_4 24 rfl rfl
theorem dX3_nextShut_0 : decode cX3_nextShut 0 = .ok (.iconst (-1), 1) := dk_2 (dk_at dksX3_nextShut_0 0 rfl rfl)
theorem dX3_nextShut_1 : decode cX3_nextShut 1 = .ok (.istore_n 2, 1) := dk_61 (dk_at dksX3_nextShut_0 1 rfl rfl)
theorem dX3_nextShut_2 : decode cX3_nextShut 2 = .ok (.iload_n 1, 1) := dk_27 (dk_at dksX3_nextShut_0 2 rfl rfl)
theorem dX3_nextShut_3 : decode cX3_nextShut 3 = .ok (.istore_n 3, 1) := dk_62 (dk_at dksX3_nextShut_0 3 rfl rfl)
theorem dX3_nextShut_4 : decode cX3_nextShut 4 = .ok (.iconst 0, 1) := dk_3 (dk_at dksX3_nextShut_0 4 rfl rfl)
theorem dX3_nextShut_5 : decode cX3_nextShut 5 = .ok (.istore 4, 2) := dk_54 4 (dk_at dksX3_nextShut_0 5 rfl rfl)
theorem dX3_nextShut_7 : decode cX3_nextShut 7 = .ok (.iload 4, 2) := dk_21 4 (dk_at dksX3_nextShut_0 7 rfl rfl)
theorem dX3_nextShut_9 : decode cX3_nextShut 9 = .ok (.aload_n 0, 1) := dk_42 (dk_at dksX3_nextShut_0 9 rfl rfl)
theorem dX3_nextShut_10 : decode cX3_nextShut 10 = .ok (.getfield 7, 3) := dk_180 0 7 (dk_at dksX3_nextShut_0 10 rfl rfl)
theorem dX3_nextShut_13 : decode cX3_nextShut 13 = .ok (.iconst 1, 1) := dk_4 (dk_at dksX3_nextShut_0 13 rfl rfl)
theorem dX3_nextShut_14 : decode cX3_nextShut 14 = .ok (.iaload, 1) := dk_46 (dk_at dksX3_nextShut_0 14 rfl rfl)
theorem dX3_nextShut_15 : decode cX3_nextShut 15 = .ok (.if_icmp .ge 99, 3) := dk_162 0 99 (dk_at dksX3_nextShut_0 15 rfl rfl)
theorem dX3_nextShut_18 : decode cX3_nextShut 18 = .ok (.aload_n 0, 1) := dk_42 (dk_at dksX3_nextShut_0 18 rfl rfl)
theorem dX3_nextShut_19 : decode cX3_nextShut 19 = .ok (.iload 4, 2) := dk_21 4 (dk_at dksX3_nextShut_0 19 rfl rfl)
theorem dX3_nextShut_21 : decode cX3_nextShut 21 = .ok (.bipush 7, 2) := dk_16 7 (dk_at dksX3_nextShut_0 21 rfl rfl)
theorem dX3_nextShut_23 : decode cX3_nextShut 23 = .ok (.invokevirtual 79, 3) := dk_182 0 79 (dk_at dksX3_nextShut_1 0 rfl rfl)
theorem dX3_nextShut_26 : decode cX3_nextShut 26 = .ok (.ifCond .ne 82, 3) := dk_154 0 82 (dk_at dksX3_nextShut_1 3 rfl rfl)
theorem dX3_nextShut_29 : decode cX3_nextShut 29 = .ok (.aload_n 0, 1) := dk_42 (dk_at dksX3_nextShut_1 6 rfl rfl)
theorem dX3_nextShut_30 : decode cX3_nextShut 30 = .ok (.iload 4, 2) := dk_21 4 (dk_at dksX3_nextShut_1 7 rfl rfl)
theorem dX3_nextShut_32 : decode cX3_nextShut 32 = .ok (.iconst 2, 1) := dk_5 (dk_at dksX3_nextShut_1 9 rfl rfl)
theorem dX3_nextShut_33 : decode cX3_nextShut 33 = .ok (.invokevirtual 79, 3) := dk_182 0 79 (dk_at dksX3_nextShut_1 10 rfl rfl)
theorem dX3_nextShut_36 : decode cX3_nextShut 36 = .ok (.iconst (-1), 1) := dk_2 (dk_at dksX3_nextShut_1 13 rfl rfl)
theorem dX3_nextShut_37 : decode cX3_nextShut 37 = .ok (.if_icmp .ne 71, 3) := dk_160 0 71 (dk_at dksX3_nextShut_1 14 rfl rfl)
theorem dX3_nextShut_40 : decode cX3_nextShut 40 = .ok (.aload_n 0, 1) := dk_42 (dk_at dksX3_nextShut_1 17 rfl rfl)
theorem dX3_nextShut_41 : decode cX3_nextShut 41 = .ok (.iload 4, 2) := dk_21 4 (dk_at dksX3_nextShut_1 18 rfl rfl)
theorem dX3_nextShut_43 : decode cX3_nextShut 43 = .ok (.invokevirtual 96, 3) := dk_182 0 96 (dk_at dksX3_nextShut_1 20 rfl rfl)
theorem dX3_nextShut_46 : decode cX3_nextShut 46 = .ok (.ifCond .ne 62, 3) := dk_154 0 62 (dk_at dksX3_nextShut_2 0 rfl rfl)
theorem dX3_nextShut_49 : decode cX3_nextShut 49 = .ok (.aload_n 0, 1) := dk_42 (dk_at dksX3_nextShut_2 3 rfl rfl)
theorem dX3_nextShut_50 : decode cX3_nextShut 50 = .ok (.iconst 1, 1) := dk_4 (dk_at dksX3_nextShut_2 4 rfl rfl)
theorem dX3_nextShut_51 : decode cX3_nextShut 51 = .ok (.iload 4, 2) := dk_21 4 (dk_at dksX3_nextShut_2 5 rfl rfl)
theorem dX3_nextShut_53 : decode cX3_nextShut 53 = .ok (.ishl, 1) := dk_120 (dk_at dksX3_nextShut_2 7 rfl rfl)
theorem dX3_nextShut_54 : decode cX3_nextShut 54 = .ok (.iconst 1, 1) := dk_4 (dk_at dksX3_nextShut_2 8 rfl rfl)
theorem dX3_nextShut_55 : decode cX3_nextShut 55 = .ok (.invokevirtual 244, 3) := dk_182 0 244 (dk_at dksX3_nextShut_2 9 rfl rfl)
theorem dX3_nextShut_58 : decode cX3_nextShut 58 = .ok (.aload_n 0, 1) := dk_42 (dk_at dksX3_nextShut_2 12 rfl rfl)
theorem dX3_nextShut_59 : decode cX3_nextShut 59 = .ok (.invokevirtual 208, 3) := dk_182 0 208 (dk_at dksX3_nextShut_2 13 rfl rfl)
theorem dX3_nextShut_62 : decode cX3_nextShut 62 = .ok (.aload_n 0, 1) := dk_42 (dk_at dksX3_nextShut_2 16 rfl rfl)
theorem dX3_nextShut_63 : decode cX3_nextShut 63 = .ok (.invokevirtual 216, 3) := dk_182 0 216 (dk_at dksX3_nextShut_2 17 rfl rfl)
theorem dX3_nextShut_66 : decode cX3_nextShut 66 = .ok (.istore 5, 2) := dk_54 5 (dk_at dksX3_nextShut_2 20 rfl rfl)
theorem dX3_nextShut_68 : decode cX3_nextShut 68 = .ok (.iload 5, 2) := dk_21 5 (dk_at dksX3_nextShut_2 22 rfl rfl)
theorem dX3_nextShut_70 : decode cX3_nextShut 70 = .ok (.iload_n 3, 1) := dk_29 (dk_at dksX3_nextShut_3 0 rfl rfl)
theorem dX3_nextShut_71 : decode cX3_nextShut 71 = .ok (.if_icmp .ge 14, 3) := dk_162 0 14 (dk_at dksX3_nextShut_3 1 rfl rfl)
theorem dX3_nextShut_74 : decode cX3_nextShut 74 = .ok (.aload_n 0, 1) := dk_42 (dk_at dksX3_nextShut_3 4 rfl rfl)
theorem dX3_nextShut_75 : decode cX3_nextShut 75 = .ok (.invokevirtual 219, 3) := dk_182 0 219 (dk_at dksX3_nextShut_3 5 rfl rfl)
theorem dX3_nextShut_78 : decode cX3_nextShut 78 = .ok (.ifCond .ne 7, 3) := dk_154 0 7 (dk_at dksX3_nextShut_3 8 rfl rfl)
theorem dX3_nextShut_81 : decode cX3_nextShut 81 = .ok (.iconst 1, 1) := dk_4 (dk_at dksX3_nextShut_3 11 rfl rfl)
theorem dX3_nextShut_82 : decode cX3_nextShut 82 = .ok (.goto 4, 3) := dk_167 0 4 (dk_at dksX3_nextShut_3 12 rfl rfl)
theorem dX3_nextShut_85 : decode cX3_nextShut 85 = .ok (.iconst 0, 1) := dk_3 (dk_at dksX3_nextShut_3 15 rfl rfl)
theorem dX3_nextShut_86 : decode cX3_nextShut 86 = .ok (.istore 6, 2) := dk_54 6 (dk_at dksX3_nextShut_3 16 rfl rfl)
theorem dX3_nextShut_88 : decode cX3_nextShut 88 = .ok (.aload_n 0, 1) := dk_42 (dk_at dksX3_nextShut_3 18 rfl rfl)
theorem dX3_nextShut_89 : decode cX3_nextShut 89 = .ok (.iconst 1, 1) := dk_4 (dk_at dksX3_nextShut_3 19 rfl rfl)
theorem dX3_nextShut_90 : decode cX3_nextShut 90 = .ok (.iload 4, 2) := dk_21 4 (dk_at dksX3_nextShut_3 20 rfl rfl)
theorem dX3_nextShut_92 : decode cX3_nextShut 92 = .ok (.ishl, 1) := dk_120 (dk_at dksX3_nextShut_3 22 rfl rfl)
theorem dX3_nextShut_93 : decode cX3_nextShut 93 = .ok (.iconst 0, 1) := dk_3 (dk_at dksX3_nextShut_3 23 rfl rfl)
theorem dX3_nextShut_94 : decode cX3_nextShut 94 = .ok (.invokevirtual 244, 3) := dk_182 0 244 (dk_at dksX3_nextShut_4 0 rfl rfl)
theorem dX3_nextShut_97 : decode cX3_nextShut 97 = .ok (.iload 6, 2) := dk_21 6 (dk_at dksX3_nextShut_4 3 rfl rfl)
theorem dX3_nextShut_99 : decode cX3_nextShut 99 = .ok (.ifCond .eq 9, 3) := dk_153 0 9 (dk_at dksX3_nextShut_4 5 rfl rfl)
theorem dX3_nextShut_102 : decode cX3_nextShut 102 = .ok (.iload 4, 2) := dk_21 4 (dk_at dksX3_nextShut_4 8 rfl rfl)
theorem dX3_nextShut_104 : decode cX3_nextShut 104 = .ok (.istore_n 2, 1) := dk_61 (dk_at dksX3_nextShut_4 10 rfl rfl)
theorem dX3_nextShut_105 : decode cX3_nextShut 105 = .ok (.iload 5, 2) := dk_21 5 (dk_at dksX3_nextShut_4 11 rfl rfl)
theorem dX3_nextShut_107 : decode cX3_nextShut 107 = .ok (.istore_n 3, 1) := dk_62 (dk_at dksX3_nextShut_4 13 rfl rfl)
theorem dX3_nextShut_108 : decode cX3_nextShut 108 = .ok (.iinc 4 1, 3) := dk_132 4 1 (dk_at dksX3_nextShut_4 14 rfl rfl)
theorem dX3_nextShut_111 : decode cX3_nextShut 111 = .ok (.goto (-104), 3) := dk_167 255 152 (dk_at dksX3_nextShut_4 17 rfl rfl)
theorem dX3_nextShut_114 : decode cX3_nextShut 114 = .ok (.aload_n 0, 1) := dk_42 (dk_at dksX3_nextShut_4 20 rfl rfl)
theorem dX3_nextShut_115 : decode cX3_nextShut 115 = .ok (.getfield 34, 3) := dk_180 0 34 (dk_at dksX3_nextShut_4 21 rfl rfl)
theorem dX3_nextShut_118 : decode cX3_nextShut 118 = .ok (.aload_n 0, 1) := dk_42 (dk_at dksX3_nextShut_5 0 rfl rfl)
theorem dX3_nextShut_119 : decode cX3_nextShut 119 = .ok (.getfield 247, 3) := dk_180 0 247 (dk_at dksX3_nextShut_5 1 rfl rfl)
theorem dX3_nextShut_122 : decode cX3_nextShut 122 = .ok (.iconst 1, 1) := dk_4 (dk_at dksX3_nextShut_5 4 rfl rfl)
theorem dX3_nextShut_123 : decode cX3_nextShut 123 = .ok (.iadd, 1) := dk_96 (dk_at dksX3_nextShut_5 5 rfl rfl)
theorem dX3_nextShut_124 : decode cX3_nextShut 124 = .ok (.iload_n 3, 1) := dk_29 (dk_at dksX3_nextShut_5 6 rfl rfl)
theorem dX3_nextShut_125 : decode cX3_nextShut 125 = .ok (.iastore, 1) := dk_79 (dk_at dksX3_nextShut_5 7 rfl rfl)
theorem dX3_nextShut_126 : decode cX3_nextShut 126 = .ok (.iload_n 2, 1) := dk_28 (dk_at dksX3_nextShut_5 8 rfl rfl)
theorem dX3_nextShut_127 : decode cX3_nextShut 127 = .ok (.ireturn, 1) := dk_172 (dk_at dksX3_nextShut_5 9 rfl rfl)
abbrev cX3_saved : ByteArray := prog_16_method_68_code
def yX3_saved : MethodName := ⟨RX3, "saved", "(I)I"⟩
def dkwX3_saved_1 : List UInt8 := [180, 0, 34, 27, 42, 180, 0, 247, 162, 0, 7, 27, 167, 0, 7, 42, 180, 0, 247, 46, 172]
abbrev dktX3_saved_1 : List UInt8 := dkwX3_saved_1 ++ []
def dkwX3_saved_0 : List UInt8 := [27, 133, 9, 20, 1, 2, 184, 0, 54, 154, 0, 10, 42, 18, 53, 182, 0, 59, 172, 42, 182, 0, 255, 42]
abbrev dktX3_saved_0 : List UInt8 := dkwX3_saved_0 ++ dktX3_saved_1
theorem dksX3_saved_0 : cX3_saved.data.toList.drop 0 = dktX3_saved_0 := by decide +kernel
theorem dksX3_saved_1 : cX3_saved.data.toList.drop 24 = dktX3_saved_1 := dk_seg dksX3_saved_0 24 rfl rfl
theorem dX3_saved_0 : decode cX3_saved 0 = .ok (.iload_n 1, 1) := dk_27 (dk_at dksX3_saved_0 0 rfl rfl)
theorem dX3_saved_1 : decode cX3_saved 1 = .ok (.i2l, 1) := dk_133 (dk_at dksX3_saved_0 1 rfl rfl)
theorem dX3_saved_2 : decode cX3_saved 2 = .ok (.lconst 0, 1) := dk_9 (dk_at dksX3_saved_0 2 rfl rfl)
theorem dX3_saved_3 : decode cX3_saved 3 = .ok (.ldc2_w 258, 3) := dk_20 1 2 (dk_at dksX3_saved_0 3 rfl rfl)
theorem dX3_saved_6 : decode cX3_saved 6 = .ok (.invokestatic 54, 3) := dk_184 0 54 (dk_at dksX3_saved_0 6 rfl rfl)
theorem dX3_saved_9 : decode cX3_saved 9 = .ok (.ifCond .ne 10, 3) := dk_154 0 10 (dk_at dksX3_saved_0 9 rfl rfl)
theorem dX3_saved_12 : decode cX3_saved 12 = .ok (.aload_n 0, 1) := dk_42 (dk_at dksX3_saved_0 12 rfl rfl)
theorem dX3_saved_13 : decode cX3_saved 13 = .ok (.ldc 53, 2) := dk_18 53 (dk_at dksX3_saved_0 13 rfl rfl)
theorem dX3_saved_15 : decode cX3_saved 15 = .ok (.invokevirtual 59, 3) := dk_182 0 59 (dk_at dksX3_saved_0 15 rfl rfl)
theorem dX3_saved_18 : decode cX3_saved 18 = .ok (.ireturn, 1) := dk_172 (dk_at dksX3_saved_0 18 rfl rfl)
theorem dX3_saved_19 : decode cX3_saved 19 = .ok (.aload_n 0, 1) := dk_42 (dk_at dksX3_saved_0 19 rfl rfl)
theorem dX3_saved_20 : decode cX3_saved 20 = .ok (.invokevirtual 255, 3) := dk_182 0 255 (dk_at dksX3_saved_0 20 rfl rfl)
theorem dX3_saved_23 : decode cX3_saved 23 = .ok (.aload_n 0, 1) := dk_42 (dk_at dksX3_saved_0 23 rfl rfl)
theorem dX3_saved_24 : decode cX3_saved 24 = .ok (.getfield 34, 3) := dk_180 0 34 (dk_at dksX3_saved_1 0 rfl rfl)
theorem dX3_saved_27 : decode cX3_saved 27 = .ok (.iload_n 1, 1) := dk_27 (dk_at dksX3_saved_1 3 rfl rfl)
theorem dX3_saved_28 : decode cX3_saved 28 = .ok (.aload_n 0, 1) := dk_42 (dk_at dksX3_saved_1 4 rfl rfl)
theorem dX3_saved_29 : decode cX3_saved 29 = .ok (.getfield 247, 3) := dk_180 0 247 (dk_at dksX3_saved_1 5 rfl rfl)
theorem dX3_saved_32 : decode cX3_saved 32 = .ok (.if_icmp .ge 7, 3) := dk_162 0 7 (dk_at dksX3_saved_1 8 rfl rfl)
theorem dX3_saved_35 : decode cX3_saved 35 = .ok (.iload_n 1, 1) := dk_27 (dk_at dksX3_saved_1 11 rfl rfl)
theorem dX3_saved_36 : decode cX3_saved 36 = .ok (.goto 7, 3) := dk_167 0 7 (dk_at dksX3_saved_1 12 rfl rfl)
theorem dX3_saved_39 : decode cX3_saved 39 = .ok (.aload_n 0, 1) := dk_42 (dk_at dksX3_saved_1 15 rfl rfl)
theorem dX3_saved_40 : decode cX3_saved 40 = .ok (.getfield 247, 3) := dk_180 0 247 (dk_at dksX3_saved_1 16 rfl rfl)
theorem dX3_saved_43 : decode cX3_saved 43 = .ok (.iaload, 1) := dk_46 (dk_at dksX3_saved_1 19 rfl rfl)
theorem dX3_saved_44 : decode cX3_saved 44 = .ok (.ireturn, 1) := dk_172 (dk_at dksX3_saved_1 20 rfl rfl)
abbrev cX3_line : ByteArray := prog_16_method_69_code
def yX3_line : MethodName := ⟨RX3, "line", "()I"⟩
def dkwX3_line_2 : List UInt8 := [180, 0, 7, 6, 27, 79, 28, 156, 0, 12, 42, 18, 230, 182, 0, 59, 167, 0, 4, 28, 172]
abbrev dktX3_line_2 : List UInt8 := dkwX3_line_2 ++ []
def dkwX3_line_1 : List UInt8 := [182, 0, 208, 42, 182, 0, 219, 153, 0, 7, 29, 167, 0, 4, 28, 61, 132, 3, 255, 167, 255, 225, 42]
abbrev dktX3_line_1 : List UInt8 := dkwX3_line_1 ++ dktX3_line_2
def dkwX3_line_0 : List UInt8 := [42, 180, 0, 7, 6, 46, 60, 2, 61, 16, 99, 62, 29, 155, 0, 33, 42, 180, 0, 7, 6, 29, 79, 42]
abbrev dktX3_line_0 : List UInt8 := dkwX3_line_0 ++ dktX3_line_1
theorem dksX3_line_0 : cX3_line.data.toList.drop 0 = dktX3_line_0 := by decide +kernel
theorem dksX3_line_1 : cX3_line.data.toList.drop 24 = dktX3_line_1 := dk_seg dksX3_line_0 24 rfl rfl
theorem dksX3_line_2 : cX3_line.data.toList.drop 47 = dktX3_line_2 := dk_seg dksX3_line_1 23 rfl rfl
theorem dX3_line_0 : decode cX3_line 0 = .ok (.aload_n 0, 1) := dk_42 (dk_at dksX3_line_0 0 rfl rfl)
theorem dX3_line_1 : decode cX3_line 1 = .ok (.getfield 7, 3) := dk_180 0 7 (dk_at dksX3_line_0 1 rfl rfl)
theorem dX3_line_4 : decode cX3_line 4 = .ok (.iconst 3, 1) := dk_6 (dk_at dksX3_line_0 4 rfl rfl)
theorem dX3_line_5 : decode cX3_line 5 = .ok (.iaload, 1) := dk_46 (dk_at dksX3_line_0 5 rfl rfl)
theorem dX3_line_6 : decode cX3_line 6 = .ok (.istore_n 1, 1) := dk_60 (dk_at dksX3_line_0 6 rfl rfl)
theorem dX3_line_7 : decode cX3_line 7 = .ok (.iconst (-1), 1) := dk_2 (dk_at dksX3_line_0 7 rfl rfl)
theorem dX3_line_8 : decode cX3_line 8 = .ok (.istore_n 2, 1) := dk_61 (dk_at dksX3_line_0 8 rfl rfl)
theorem dX3_line_9 : decode cX3_line 9 = .ok (.bipush 99, 2) := dk_16 99 (dk_at dksX3_line_0 9 rfl rfl)
theorem dX3_line_11 : decode cX3_line 11 = .ok (.istore_n 3, 1) := dk_62 (dk_at dksX3_line_0 11 rfl rfl)
theorem dX3_line_12 : decode cX3_line 12 = .ok (.iload_n 3, 1) := dk_29 (dk_at dksX3_line_0 12 rfl rfl)
theorem dX3_line_13 : decode cX3_line 13 = .ok (.ifCond .lt 33, 3) := dk_155 0 33 (dk_at dksX3_line_0 13 rfl rfl)
theorem dX3_line_16 : decode cX3_line 16 = .ok (.aload_n 0, 1) := dk_42 (dk_at dksX3_line_0 16 rfl rfl)
theorem dX3_line_17 : decode cX3_line 17 = .ok (.getfield 7, 3) := dk_180 0 7 (dk_at dksX3_line_0 17 rfl rfl)
theorem dX3_line_20 : decode cX3_line 20 = .ok (.iconst 3, 1) := dk_6 (dk_at dksX3_line_0 20 rfl rfl)
theorem dX3_line_21 : decode cX3_line 21 = .ok (.iload_n 3, 1) := dk_29 (dk_at dksX3_line_0 21 rfl rfl)
theorem dX3_line_22 : decode cX3_line 22 = .ok (.iastore, 1) := dk_79 (dk_at dksX3_line_0 22 rfl rfl)
theorem dX3_line_23 : decode cX3_line 23 = .ok (.aload_n 0, 1) := dk_42 (dk_at dksX3_line_0 23 rfl rfl)
theorem dX3_line_24 : decode cX3_line 24 = .ok (.invokevirtual 208, 3) := dk_182 0 208 (dk_at dksX3_line_1 0 rfl rfl)
theorem dX3_line_27 : decode cX3_line 27 = .ok (.aload_n 0, 1) := dk_42 (dk_at dksX3_line_1 3 rfl rfl)
theorem dX3_line_28 : decode cX3_line 28 = .ok (.invokevirtual 219, 3) := dk_182 0 219 (dk_at dksX3_line_1 4 rfl rfl)
theorem dX3_line_31 : decode cX3_line 31 = .ok (.ifCond .eq 7, 3) := dk_153 0 7 (dk_at dksX3_line_1 7 rfl rfl)
theorem dX3_line_34 : decode cX3_line 34 = .ok (.iload_n 3, 1) := dk_29 (dk_at dksX3_line_1 10 rfl rfl)
theorem dX3_line_35 : decode cX3_line 35 = .ok (.goto 4, 3) := dk_167 0 4 (dk_at dksX3_line_1 11 rfl rfl)
theorem dX3_line_38 : decode cX3_line 38 = .ok (.iload_n 2, 1) := dk_28 (dk_at dksX3_line_1 14 rfl rfl)
theorem dX3_line_39 : decode cX3_line 39 = .ok (.istore_n 2, 1) := dk_61 (dk_at dksX3_line_1 15 rfl rfl)
theorem dX3_line_40 : decode cX3_line 40 = .ok (.iinc 3 (-1), 3) := dk_132 3 255 (dk_at dksX3_line_1 16 rfl rfl)
theorem dX3_line_43 : decode cX3_line 43 = .ok (.goto (-31), 3) := dk_167 255 225 (dk_at dksX3_line_1 19 rfl rfl)
theorem dX3_line_46 : decode cX3_line 46 = .ok (.aload_n 0, 1) := dk_42 (dk_at dksX3_line_1 22 rfl rfl)
theorem dX3_line_47 : decode cX3_line 47 = .ok (.getfield 7, 3) := dk_180 0 7 (dk_at dksX3_line_2 0 rfl rfl)
theorem dX3_line_50 : decode cX3_line 50 = .ok (.iconst 3, 1) := dk_6 (dk_at dksX3_line_2 3 rfl rfl)
theorem dX3_line_51 : decode cX3_line 51 = .ok (.iload_n 1, 1) := dk_27 (dk_at dksX3_line_2 4 rfl rfl)
theorem dX3_line_52 : decode cX3_line 52 = .ok (.iastore, 1) := dk_79 (dk_at dksX3_line_2 5 rfl rfl)
theorem dX3_line_53 : decode cX3_line 53 = .ok (.iload_n 2, 1) := dk_28 (dk_at dksX3_line_2 6 rfl rfl)
theorem dX3_line_54 : decode cX3_line 54 = .ok (.ifCond .ge 12, 3) := dk_156 0 12 (dk_at dksX3_line_2 7 rfl rfl)
theorem dX3_line_57 : decode cX3_line 57 = .ok (.aload_n 0, 1) := dk_42 (dk_at dksX3_line_2 10 rfl rfl)
theorem dX3_line_58 : decode cX3_line 58 = .ok (.ldc 230, 2) := dk_18 230 (dk_at dksX3_line_2 11 rfl rfl)
theorem dX3_line_60 : decode cX3_line 60 = .ok (.invokevirtual 59, 3) := dk_182 0 59 (dk_at dksX3_line_2 13 rfl rfl)
theorem dX3_line_63 : decode cX3_line 63 = .ok (.goto 4, 3) := dk_167 0 4 (dk_at dksX3_line_2 16 rfl rfl)
theorem dX3_line_66 : decode cX3_line 66 = .ok (.iload_n 2, 1) := dk_28 (dk_at dksX3_line_2 19 rfl rfl)
theorem dX3_line_67 : decode cX3_line 67 = .ok (.ireturn, 1) := dk_172 (dk_at dksX3_line_2 20 rfl rfl)
abbrev cX3_alone : ByteArray := prog_16_method_70_code
def yX3_alone : MethodName := ⟨RX3, "alone", "(II)I"⟩
def dkwX3_alone_3 : List UInt8 := [21, 4, 182, 0, 244, 21, 5, 172]
abbrev dktX3_alone_3 : List UInt8 := dkwX3_alone_3 ++ []
def dkwX3_alone_2 : List UInt8 := [4, 28, 120, 4, 182, 0, 244, 42, 182, 0, 208, 42, 27, 182, 0, 199, 29, 100, 54, 5, 42, 4, 28, 120]
abbrev dktX3_alone_2 : List UInt8 := dkwX3_alone_2 ++ dktX3_alone_3
def dkwX3_alone_1 : List UInt8 := [182, 0, 59, 172, 42, 182, 0, 208, 42, 27, 182, 0, 199, 62, 42, 28, 16, 7, 182, 0, 79, 54, 4, 42]
abbrev dktX3_alone_1 : List UInt8 := dkwX3_alone_1 ++ dktX3_alone_2
def dkwX3_alone_0 : List UInt8 := [42, 27, 182, 0, 83, 153, 0, 16, 42, 28, 182, 0, 83, 153, 0, 8, 27, 28, 160, 0, 10, 42, 18, 53]
abbrev dktX3_alone_0 : List UInt8 := dkwX3_alone_0 ++ dktX3_alone_1
theorem dksX3_alone_0 : cX3_alone.data.toList.drop 0 = dktX3_alone_0 := by decide +kernel
theorem dksX3_alone_1 : cX3_alone.data.toList.drop 24 = dktX3_alone_1 := dk_seg dksX3_alone_0 24 rfl rfl
theorem dksX3_alone_2 : cX3_alone.data.toList.drop 48 = dktX3_alone_2 := dk_seg dksX3_alone_1 24 rfl rfl
theorem dksX3_alone_3 : cX3_alone.data.toList.drop 72 = dktX3_alone_3 := dk_seg dksX3_alone_2 24 rfl rfl
theorem dX3_alone_0 : decode cX3_alone 0 = .ok (.aload_n 0, 1) := dk_42 (dk_at dksX3_alone_0 0 rfl rfl)
theorem dX3_alone_1 : decode cX3_alone 1 = .ok (.iload_n 1, 1) := dk_27 (dk_at dksX3_alone_0 1 rfl rfl)
theorem dX3_alone_2 : decode cX3_alone 2 = .ok (.invokevirtual 83, 3) := dk_182 0 83 (dk_at dksX3_alone_0 2 rfl rfl)
theorem dX3_alone_5 : decode cX3_alone 5 = .ok (.ifCond .eq 16, 3) := dk_153 0 16 (dk_at dksX3_alone_0 5 rfl rfl)
theorem dX3_alone_8 : decode cX3_alone 8 = .ok (.aload_n 0, 1) := dk_42 (dk_at dksX3_alone_0 8 rfl rfl)
theorem dX3_alone_9 : decode cX3_alone 9 = .ok (.iload_n 2, 1) := dk_28 (dk_at dksX3_alone_0 9 rfl rfl)
theorem dX3_alone_10 : decode cX3_alone 10 = .ok (.invokevirtual 83, 3) := dk_182 0 83 (dk_at dksX3_alone_0 10 rfl rfl)
theorem dX3_alone_13 : decode cX3_alone 13 = .ok (.ifCond .eq 8, 3) := dk_153 0 8 (dk_at dksX3_alone_0 13 rfl rfl)
theorem dX3_alone_16 : decode cX3_alone 16 = .ok (.iload_n 1, 1) := dk_27 (dk_at dksX3_alone_0 16 rfl rfl)
theorem dX3_alone_17 : decode cX3_alone 17 = .ok (.iload_n 2, 1) := dk_28 (dk_at dksX3_alone_0 17 rfl rfl)
theorem dX3_alone_18 : decode cX3_alone 18 = .ok (.if_icmp .ne 10, 3) := dk_160 0 10 (dk_at dksX3_alone_0 18 rfl rfl)
theorem dX3_alone_21 : decode cX3_alone 21 = .ok (.aload_n 0, 1) := dk_42 (dk_at dksX3_alone_0 21 rfl rfl)
theorem dX3_alone_22 : decode cX3_alone 22 = .ok (.ldc 53, 2) := dk_18 53 (dk_at dksX3_alone_0 22 rfl rfl)
theorem dX3_alone_24 : decode cX3_alone 24 = .ok (.invokevirtual 59, 3) := dk_182 0 59 (dk_at dksX3_alone_1 0 rfl rfl)
theorem dX3_alone_27 : decode cX3_alone 27 = .ok (.ireturn, 1) := dk_172 (dk_at dksX3_alone_1 3 rfl rfl)
theorem dX3_alone_28 : decode cX3_alone 28 = .ok (.aload_n 0, 1) := dk_42 (dk_at dksX3_alone_1 4 rfl rfl)
theorem dX3_alone_29 : decode cX3_alone 29 = .ok (.invokevirtual 208, 3) := dk_182 0 208 (dk_at dksX3_alone_1 5 rfl rfl)
theorem dX3_alone_32 : decode cX3_alone 32 = .ok (.aload_n 0, 1) := dk_42 (dk_at dksX3_alone_1 8 rfl rfl)
theorem dX3_alone_33 : decode cX3_alone 33 = .ok (.iload_n 1, 1) := dk_27 (dk_at dksX3_alone_1 9 rfl rfl)
theorem dX3_alone_34 : decode cX3_alone 34 = .ok (.invokevirtual 199, 3) := dk_182 0 199 (dk_at dksX3_alone_1 10 rfl rfl)
theorem dX3_alone_37 : decode cX3_alone 37 = .ok (.istore_n 3, 1) := dk_62 (dk_at dksX3_alone_1 13 rfl rfl)
theorem dX3_alone_38 : decode cX3_alone 38 = .ok (.aload_n 0, 1) := dk_42 (dk_at dksX3_alone_1 14 rfl rfl)
theorem dX3_alone_39 : decode cX3_alone 39 = .ok (.iload_n 2, 1) := dk_28 (dk_at dksX3_alone_1 15 rfl rfl)
theorem dX3_alone_40 : decode cX3_alone 40 = .ok (.bipush 7, 2) := dk_16 7 (dk_at dksX3_alone_1 16 rfl rfl)
theorem dX3_alone_42 : decode cX3_alone 42 = .ok (.invokevirtual 79, 3) := dk_182 0 79 (dk_at dksX3_alone_1 18 rfl rfl)
theorem dX3_alone_45 : decode cX3_alone 45 = .ok (.istore 4, 2) := dk_54 4 (dk_at dksX3_alone_1 21 rfl rfl)
theorem dX3_alone_47 : decode cX3_alone 47 = .ok (.aload_n 0, 1) := dk_42 (dk_at dksX3_alone_1 23 rfl rfl)
theorem dX3_alone_48 : decode cX3_alone 48 = .ok (.iconst 1, 1) := dk_4 (dk_at dksX3_alone_2 0 rfl rfl)
theorem dX3_alone_49 : decode cX3_alone 49 = .ok (.iload_n 2, 1) := dk_28 (dk_at dksX3_alone_2 1 rfl rfl)
theorem dX3_alone_50 : decode cX3_alone 50 = .ok (.ishl, 1) := dk_120 (dk_at dksX3_alone_2 2 rfl rfl)
theorem dX3_alone_51 : decode cX3_alone 51 = .ok (.iconst 1, 1) := dk_4 (dk_at dksX3_alone_2 3 rfl rfl)
theorem dX3_alone_52 : decode cX3_alone 52 = .ok (.invokevirtual 244, 3) := dk_182 0 244 (dk_at dksX3_alone_2 4 rfl rfl)
theorem dX3_alone_55 : decode cX3_alone 55 = .ok (.aload_n 0, 1) := dk_42 (dk_at dksX3_alone_2 7 rfl rfl)
theorem dX3_alone_56 : decode cX3_alone 56 = .ok (.invokevirtual 208, 3) := dk_182 0 208 (dk_at dksX3_alone_2 8 rfl rfl)
theorem dX3_alone_59 : decode cX3_alone 59 = .ok (.aload_n 0, 1) := dk_42 (dk_at dksX3_alone_2 11 rfl rfl)
theorem dX3_alone_60 : decode cX3_alone 60 = .ok (.iload_n 1, 1) := dk_27 (dk_at dksX3_alone_2 12 rfl rfl)
theorem dX3_alone_61 : decode cX3_alone 61 = .ok (.invokevirtual 199, 3) := dk_182 0 199 (dk_at dksX3_alone_2 13 rfl rfl)
theorem dX3_alone_64 : decode cX3_alone 64 = .ok (.iload_n 3, 1) := dk_29 (dk_at dksX3_alone_2 16 rfl rfl)
theorem dX3_alone_65 : decode cX3_alone 65 = .ok (.isub, 1) := dk_100 (dk_at dksX3_alone_2 17 rfl rfl)
theorem dX3_alone_66 : decode cX3_alone 66 = .ok (.istore 5, 2) := dk_54 5 (dk_at dksX3_alone_2 18 rfl rfl)
theorem dX3_alone_68 : decode cX3_alone 68 = .ok (.aload_n 0, 1) := dk_42 (dk_at dksX3_alone_2 20 rfl rfl)
theorem dX3_alone_69 : decode cX3_alone 69 = .ok (.iconst 1, 1) := dk_4 (dk_at dksX3_alone_2 21 rfl rfl)
theorem dX3_alone_70 : decode cX3_alone 70 = .ok (.iload_n 2, 1) := dk_28 (dk_at dksX3_alone_2 22 rfl rfl)
theorem dX3_alone_71 : decode cX3_alone 71 = .ok (.ishl, 1) := dk_120 (dk_at dksX3_alone_2 23 rfl rfl)
theorem dX3_alone_72 : decode cX3_alone 72 = .ok (.iload 4, 2) := dk_21 4 (dk_at dksX3_alone_3 0 rfl rfl)
theorem dX3_alone_74 : decode cX3_alone 74 = .ok (.invokevirtual 244, 3) := dk_182 0 244 (dk_at dksX3_alone_3 2 rfl rfl)
theorem dX3_alone_77 : decode cX3_alone 77 = .ok (.iload 5, 2) := dk_21 5 (dk_at dksX3_alone_3 5 rfl rfl)
theorem dX3_alone_79 : decode cX3_alone 79 = .ok (.ireturn, 1) := dk_172 (dk_at dksX3_alone_3 7 rfl rfl)
abbrev cX3_turns : ByteArray := prog_16_method_71_code
def yX3_turns : MethodName := ⟨RX3, "turns", "(I)I"⟩
def dkwX3_turns_5 : List UInt8 := [167, 255, 214, 42, 4, 27, 120, 28, 182, 0, 244, 29, 172]
abbrev dktX3_turns_5 : List UInt8 := dkwX3_turns_5 ++ []
def dkwX3_turns_4 : List UInt8 := [21, 4, 182, 0, 211, 104, 156, 0, 10, 4, 21, 4, 120, 167, 0, 4, 3, 128, 62, 132, 4, 1]
abbrev dktX3_turns_4 : List UInt8 := dkwX3_turns_4 ++ dktX3_turns_5
def dkwX3_turns_3 : List UInt8 := [62, 3, 54, 4, 21, 4, 42, 180, 0, 7, 4, 46, 162, 0, 37, 29, 42, 180, 0, 37, 21, 4, 46, 42]
abbrev dktX3_turns_3 : List UInt8 := dkwX3_turns_3 ++ dktX3_turns_4
def dkwX3_turns_2 : List UInt8 := [167, 255, 232, 42, 27, 16, 7, 182, 0, 79, 61, 42, 4, 27, 120, 4, 182, 0, 244, 42, 182, 0, 208, 3]
abbrev dktX3_turns_2 : List UInt8 := dkwX3_turns_2 ++ dktX3_turns_3
def dkwX3_turns_1 : List UInt8 := [180, 0, 7, 4, 46, 162, 0, 20, 42, 180, 0, 37, 28, 42, 28, 182, 0, 211, 79, 132, 2, 1]
abbrev dktX3_turns_1 : List UInt8 := dkwX3_turns_1 ++ dktX3_turns_2
def dkwX3_turns_0 : List UInt8 := [42, 27, 182, 0, 83, 154, 0, 10, 42, 18, 53, 182, 0, 59, 172, 42, 182, 0, 208, 3, 61, 28, 42]
abbrev dktX3_turns_0 : List UInt8 := dkwX3_turns_0 ++ dktX3_turns_1
theorem dksX3_turns_0 : cX3_turns.data.toList.drop 0 = dktX3_turns_0 := by decide +kernel
theorem dksX3_turns_1 : cX3_turns.data.toList.drop 23 = dktX3_turns_1 := dk_seg dksX3_turns_0 23 rfl rfl
theorem dksX3_turns_2 : cX3_turns.data.toList.drop 45 = dktX3_turns_2 := dk_seg dksX3_turns_1 22 rfl rfl
theorem dksX3_turns_3 : cX3_turns.data.toList.drop 69 = dktX3_turns_3 := dk_seg dksX3_turns_2 24 rfl rfl
theorem dksX3_turns_4 : cX3_turns.data.toList.drop 93 = dktX3_turns_4 := dk_seg dksX3_turns_3 24 rfl rfl
theorem dksX3_turns_5 : cX3_turns.data.toList.drop 115 = dktX3_turns_5 := dk_seg dksX3_turns_4 22 rfl rfl
theorem dX3_turns_0 : decode cX3_turns 0 = .ok (.aload_n 0, 1) := dk_42 (dk_at dksX3_turns_0 0 rfl rfl)
theorem dX3_turns_1 : decode cX3_turns 1 = .ok (.iload_n 1, 1) := dk_27 (dk_at dksX3_turns_0 1 rfl rfl)
theorem dX3_turns_2 : decode cX3_turns 2 = .ok (.invokevirtual 83, 3) := dk_182 0 83 (dk_at dksX3_turns_0 2 rfl rfl)
theorem dX3_turns_5 : decode cX3_turns 5 = .ok (.ifCond .ne 10, 3) := dk_154 0 10 (dk_at dksX3_turns_0 5 rfl rfl)
theorem dX3_turns_8 : decode cX3_turns 8 = .ok (.aload_n 0, 1) := dk_42 (dk_at dksX3_turns_0 8 rfl rfl)
theorem dX3_turns_9 : decode cX3_turns 9 = .ok (.ldc 53, 2) := dk_18 53 (dk_at dksX3_turns_0 9 rfl rfl)
theorem dX3_turns_11 : decode cX3_turns 11 = .ok (.invokevirtual 59, 3) := dk_182 0 59 (dk_at dksX3_turns_0 11 rfl rfl)
theorem dX3_turns_14 : decode cX3_turns 14 = .ok (.ireturn, 1) := dk_172 (dk_at dksX3_turns_0 14 rfl rfl)
theorem dX3_turns_15 : decode cX3_turns 15 = .ok (.aload_n 0, 1) := dk_42 (dk_at dksX3_turns_0 15 rfl rfl)
theorem dX3_turns_16 : decode cX3_turns 16 = .ok (.invokevirtual 208, 3) := dk_182 0 208 (dk_at dksX3_turns_0 16 rfl rfl)
theorem dX3_turns_19 : decode cX3_turns 19 = .ok (.iconst 0, 1) := dk_3 (dk_at dksX3_turns_0 19 rfl rfl)
theorem dX3_turns_20 : decode cX3_turns 20 = .ok (.istore_n 2, 1) := dk_61 (dk_at dksX3_turns_0 20 rfl rfl)
theorem dX3_turns_21 : decode cX3_turns 21 = .ok (.iload_n 2, 1) := dk_28 (dk_at dksX3_turns_0 21 rfl rfl)
theorem dX3_turns_22 : decode cX3_turns 22 = .ok (.aload_n 0, 1) := dk_42 (dk_at dksX3_turns_0 22 rfl rfl)
theorem dX3_turns_23 : decode cX3_turns 23 = .ok (.getfield 7, 3) := dk_180 0 7 (dk_at dksX3_turns_1 0 rfl rfl)
theorem dX3_turns_26 : decode cX3_turns 26 = .ok (.iconst 1, 1) := dk_4 (dk_at dksX3_turns_1 3 rfl rfl)
theorem dX3_turns_27 : decode cX3_turns 27 = .ok (.iaload, 1) := dk_46 (dk_at dksX3_turns_1 4 rfl rfl)
theorem dX3_turns_28 : decode cX3_turns 28 = .ok (.if_icmp .ge 20, 3) := dk_162 0 20 (dk_at dksX3_turns_1 5 rfl rfl)
theorem dX3_turns_31 : decode cX3_turns 31 = .ok (.aload_n 0, 1) := dk_42 (dk_at dksX3_turns_1 8 rfl rfl)
theorem dX3_turns_32 : decode cX3_turns 32 = .ok (.getfield 37, 3) := dk_180 0 37 (dk_at dksX3_turns_1 9 rfl rfl)
theorem dX3_turns_35 : decode cX3_turns 35 = .ok (.iload_n 2, 1) := dk_28 (dk_at dksX3_turns_1 12 rfl rfl)
theorem dX3_turns_36 : decode cX3_turns 36 = .ok (.aload_n 0, 1) := dk_42 (dk_at dksX3_turns_1 13 rfl rfl)
theorem dX3_turns_37 : decode cX3_turns 37 = .ok (.iload_n 2, 1) := dk_28 (dk_at dksX3_turns_1 14 rfl rfl)
theorem dX3_turns_38 : decode cX3_turns 38 = .ok (.invokevirtual 211, 3) := dk_182 0 211 (dk_at dksX3_turns_1 15 rfl rfl)
theorem dX3_turns_41 : decode cX3_turns 41 = .ok (.iastore, 1) := dk_79 (dk_at dksX3_turns_1 18 rfl rfl)
theorem dX3_turns_42 : decode cX3_turns 42 = .ok (.iinc 2 1, 3) := dk_132 2 1 (dk_at dksX3_turns_1 19 rfl rfl)
theorem dX3_turns_45 : decode cX3_turns 45 = .ok (.goto (-24), 3) := dk_167 255 232 (dk_at dksX3_turns_2 0 rfl rfl)
theorem dX3_turns_48 : decode cX3_turns 48 = .ok (.aload_n 0, 1) := dk_42 (dk_at dksX3_turns_2 3 rfl rfl)
theorem dX3_turns_49 : decode cX3_turns 49 = .ok (.iload_n 1, 1) := dk_27 (dk_at dksX3_turns_2 4 rfl rfl)
theorem dX3_turns_50 : decode cX3_turns 50 = .ok (.bipush 7, 2) := dk_16 7 (dk_at dksX3_turns_2 5 rfl rfl)
theorem dX3_turns_52 : decode cX3_turns 52 = .ok (.invokevirtual 79, 3) := dk_182 0 79 (dk_at dksX3_turns_2 7 rfl rfl)
theorem dX3_turns_55 : decode cX3_turns 55 = .ok (.istore_n 2, 1) := dk_61 (dk_at dksX3_turns_2 10 rfl rfl)
theorem dX3_turns_56 : decode cX3_turns 56 = .ok (.aload_n 0, 1) := dk_42 (dk_at dksX3_turns_2 11 rfl rfl)
theorem dX3_turns_57 : decode cX3_turns 57 = .ok (.iconst 1, 1) := dk_4 (dk_at dksX3_turns_2 12 rfl rfl)
theorem dX3_turns_58 : decode cX3_turns 58 = .ok (.iload_n 1, 1) := dk_27 (dk_at dksX3_turns_2 13 rfl rfl)
theorem dX3_turns_59 : decode cX3_turns 59 = .ok (.ishl, 1) := dk_120 (dk_at dksX3_turns_2 14 rfl rfl)
theorem dX3_turns_60 : decode cX3_turns 60 = .ok (.iconst 1, 1) := dk_4 (dk_at dksX3_turns_2 15 rfl rfl)
theorem dX3_turns_61 : decode cX3_turns 61 = .ok (.invokevirtual 244, 3) := dk_182 0 244 (dk_at dksX3_turns_2 16 rfl rfl)
theorem dX3_turns_64 : decode cX3_turns 64 = .ok (.aload_n 0, 1) := dk_42 (dk_at dksX3_turns_2 19 rfl rfl)
theorem dX3_turns_65 : decode cX3_turns 65 = .ok (.invokevirtual 208, 3) := dk_182 0 208 (dk_at dksX3_turns_2 20 rfl rfl)
theorem dX3_turns_68 : decode cX3_turns 68 = .ok (.iconst 0, 1) := dk_3 (dk_at dksX3_turns_2 23 rfl rfl)
theorem dX3_turns_69 : decode cX3_turns 69 = .ok (.istore_n 3, 1) := dk_62 (dk_at dksX3_turns_3 0 rfl rfl)
theorem dX3_turns_70 : decode cX3_turns 70 = .ok (.iconst 0, 1) := dk_3 (dk_at dksX3_turns_3 1 rfl rfl)
theorem dX3_turns_71 : decode cX3_turns 71 = .ok (.istore 4, 2) := dk_54 4 (dk_at dksX3_turns_3 2 rfl rfl)
theorem dX3_turns_73 : decode cX3_turns 73 = .ok (.iload 4, 2) := dk_21 4 (dk_at dksX3_turns_3 4 rfl rfl)
theorem dX3_turns_75 : decode cX3_turns 75 = .ok (.aload_n 0, 1) := dk_42 (dk_at dksX3_turns_3 6 rfl rfl)
theorem dX3_turns_76 : decode cX3_turns 76 = .ok (.getfield 7, 3) := dk_180 0 7 (dk_at dksX3_turns_3 7 rfl rfl)
theorem dX3_turns_79 : decode cX3_turns 79 = .ok (.iconst 1, 1) := dk_4 (dk_at dksX3_turns_3 10 rfl rfl)
theorem dX3_turns_80 : decode cX3_turns 80 = .ok (.iaload, 1) := dk_46 (dk_at dksX3_turns_3 11 rfl rfl)
theorem dX3_turns_81 : decode cX3_turns 81 = .ok (.if_icmp .ge 37, 3) := dk_162 0 37 (dk_at dksX3_turns_3 12 rfl rfl)
theorem dX3_turns_84 : decode cX3_turns 84 = .ok (.iload_n 3, 1) := dk_29 (dk_at dksX3_turns_3 15 rfl rfl)
theorem dX3_turns_85 : decode cX3_turns 85 = .ok (.aload_n 0, 1) := dk_42 (dk_at dksX3_turns_3 16 rfl rfl)
theorem dX3_turns_86 : decode cX3_turns 86 = .ok (.getfield 37, 3) := dk_180 0 37 (dk_at dksX3_turns_3 17 rfl rfl)
theorem dX3_turns_89 : decode cX3_turns 89 = .ok (.iload 4, 2) := dk_21 4 (dk_at dksX3_turns_3 20 rfl rfl)
theorem dX3_turns_91 : decode cX3_turns 91 = .ok (.iaload, 1) := dk_46 (dk_at dksX3_turns_3 22 rfl rfl)
theorem dX3_turns_92 : decode cX3_turns 92 = .ok (.aload_n 0, 1) := dk_42 (dk_at dksX3_turns_3 23 rfl rfl)
theorem dX3_turns_93 : decode cX3_turns 93 = .ok (.iload 4, 2) := dk_21 4 (dk_at dksX3_turns_4 0 rfl rfl)
theorem dX3_turns_95 : decode cX3_turns 95 = .ok (.invokevirtual 211, 3) := dk_182 0 211 (dk_at dksX3_turns_4 2 rfl rfl)
theorem dX3_turns_98 : decode cX3_turns 98 = .ok (.imul, 1) := dk_104 (dk_at dksX3_turns_4 5 rfl rfl)
theorem dX3_turns_99 : decode cX3_turns 99 = .ok (.ifCond .ge 10, 3) := dk_156 0 10 (dk_at dksX3_turns_4 6 rfl rfl)
theorem dX3_turns_102 : decode cX3_turns 102 = .ok (.iconst 1, 1) := dk_4 (dk_at dksX3_turns_4 9 rfl rfl)
theorem dX3_turns_103 : decode cX3_turns 103 = .ok (.iload 4, 2) := dk_21 4 (dk_at dksX3_turns_4 10 rfl rfl)
theorem dX3_turns_105 : decode cX3_turns 105 = .ok (.ishl, 1) := dk_120 (dk_at dksX3_turns_4 12 rfl rfl)
theorem dX3_turns_106 : decode cX3_turns 106 = .ok (.goto 4, 3) := dk_167 0 4 (dk_at dksX3_turns_4 13 rfl rfl)
theorem dX3_turns_109 : decode cX3_turns 109 = .ok (.iconst 0, 1) := dk_3 (dk_at dksX3_turns_4 16 rfl rfl)
theorem dX3_turns_110 : decode cX3_turns 110 = .ok (.ior, 1) := dk_128 (dk_at dksX3_turns_4 17 rfl rfl)
theorem dX3_turns_111 : decode cX3_turns 111 = .ok (.istore_n 3, 1) := dk_62 (dk_at dksX3_turns_4 18 rfl rfl)
theorem dX3_turns_112 : decode cX3_turns 112 = .ok (.iinc 4 1, 3) := dk_132 4 1 (dk_at dksX3_turns_4 19 rfl rfl)
theorem dX3_turns_115 : decode cX3_turns 115 = .ok (.goto (-42), 3) := dk_167 255 214 (dk_at dksX3_turns_5 0 rfl rfl)
theorem dX3_turns_118 : decode cX3_turns 118 = .ok (.aload_n 0, 1) := dk_42 (dk_at dksX3_turns_5 3 rfl rfl)
theorem dX3_turns_119 : decode cX3_turns 119 = .ok (.iconst 1, 1) := dk_4 (dk_at dksX3_turns_5 4 rfl rfl)
theorem dX3_turns_120 : decode cX3_turns 120 = .ok (.iload_n 1, 1) := dk_27 (dk_at dksX3_turns_5 5 rfl rfl)
theorem dX3_turns_121 : decode cX3_turns 121 = .ok (.ishl, 1) := dk_120 (dk_at dksX3_turns_5 6 rfl rfl)
theorem dX3_turns_122 : decode cX3_turns 122 = .ok (.iload_n 2, 1) := dk_28 (dk_at dksX3_turns_5 7 rfl rfl)
theorem dX3_turns_123 : decode cX3_turns 123 = .ok (.invokevirtual 244, 3) := dk_182 0 244 (dk_at dksX3_turns_5 8 rfl rfl)
theorem dX3_turns_126 : decode cX3_turns 126 = .ok (.iload_n 3, 1) := dk_29 (dk_at dksX3_turns_5 11 rfl rfl)
theorem dX3_turns_127 : decode cX3_turns 127 = .ok (.ireturn, 1) := dk_172 (dk_at dksX3_turns_5 12 rfl rfl)
abbrev cX3_worst : ByteArray := prog_16_method_72_code
def yX3_worst : MethodName := ⟨RX3, "worst", "()I"⟩
def dkwX3_worst_2 : List UInt8 := [132, 4, 1, 167, 255, 219, 42, 180, 0, 7, 7, 27, 79, 28, 172]
abbrev dktX3_worst_2 : List UInt8 := dkwX3_worst_2 ++ []
def dkwX3_worst_1 : List UInt8 := [7, 21, 4, 79, 42, 182, 0, 208, 42, 182, 0, 216, 29, 164, 0, 11, 21, 4, 61, 42, 182, 0, 216, 62]
abbrev dktX3_worst_1 : List UInt8 := dkwX3_worst_1 ++ dktX3_worst_2
def dkwX3_worst_0 : List UInt8 := [42, 180, 0, 7, 7, 46, 60, 3, 61, 2, 62, 3, 54, 4, 21, 4, 7, 162, 0, 37, 42, 180, 0, 7]
abbrev dktX3_worst_0 : List UInt8 := dkwX3_worst_0 ++ dktX3_worst_1
theorem dksX3_worst_0 : cX3_worst.data.toList.drop 0 = dktX3_worst_0 := by decide +kernel
theorem dksX3_worst_1 : cX3_worst.data.toList.drop 24 = dktX3_worst_1 := dk_seg dksX3_worst_0 24 rfl rfl
theorem dksX3_worst_2 : cX3_worst.data.toList.drop 48 = dktX3_worst_2 := dk_seg dksX3_worst_1 24 rfl rfl
theorem dX3_worst_0 : decode cX3_worst 0 = .ok (.aload_n 0, 1) := dk_42 (dk_at dksX3_worst_0 0 rfl rfl)
theorem dX3_worst_1 : decode cX3_worst 1 = .ok (.getfield 7, 3) := dk_180 0 7 (dk_at dksX3_worst_0 1 rfl rfl)
theorem dX3_worst_4 : decode cX3_worst 4 = .ok (.iconst 4, 1) := dk_7 (dk_at dksX3_worst_0 4 rfl rfl)
theorem dX3_worst_5 : decode cX3_worst 5 = .ok (.iaload, 1) := dk_46 (dk_at dksX3_worst_0 5 rfl rfl)
theorem dX3_worst_6 : decode cX3_worst 6 = .ok (.istore_n 1, 1) := dk_60 (dk_at dksX3_worst_0 6 rfl rfl)
theorem dX3_worst_7 : decode cX3_worst 7 = .ok (.iconst 0, 1) := dk_3 (dk_at dksX3_worst_0 7 rfl rfl)
theorem dX3_worst_8 : decode cX3_worst 8 = .ok (.istore_n 2, 1) := dk_61 (dk_at dksX3_worst_0 8 rfl rfl)
theorem dX3_worst_9 : decode cX3_worst 9 = .ok (.iconst (-1), 1) := dk_2 (dk_at dksX3_worst_0 9 rfl rfl)
theorem dX3_worst_10 : decode cX3_worst 10 = .ok (.istore_n 3, 1) := dk_62 (dk_at dksX3_worst_0 10 rfl rfl)
theorem dX3_worst_11 : decode cX3_worst 11 = .ok (.iconst 0, 1) := dk_3 (dk_at dksX3_worst_0 11 rfl rfl)
theorem dX3_worst_12 : decode cX3_worst 12 = .ok (.istore 4, 2) := dk_54 4 (dk_at dksX3_worst_0 12 rfl rfl)
theorem dX3_worst_14 : decode cX3_worst 14 = .ok (.iload 4, 2) := dk_21 4 (dk_at dksX3_worst_0 14 rfl rfl)
theorem dX3_worst_16 : decode cX3_worst 16 = .ok (.iconst 4, 1) := dk_7 (dk_at dksX3_worst_0 16 rfl rfl)
theorem dX3_worst_17 : decode cX3_worst 17 = .ok (.if_icmp .ge 37, 3) := dk_162 0 37 (dk_at dksX3_worst_0 17 rfl rfl)
theorem dX3_worst_20 : decode cX3_worst 20 = .ok (.aload_n 0, 1) := dk_42 (dk_at dksX3_worst_0 20 rfl rfl)
theorem dX3_worst_21 : decode cX3_worst 21 = .ok (.getfield 7, 3) := dk_180 0 7 (dk_at dksX3_worst_0 21 rfl rfl)
theorem dX3_worst_24 : decode cX3_worst 24 = .ok (.iconst 4, 1) := dk_7 (dk_at dksX3_worst_1 0 rfl rfl)
theorem dX3_worst_25 : decode cX3_worst 25 = .ok (.iload 4, 2) := dk_21 4 (dk_at dksX3_worst_1 1 rfl rfl)
theorem dX3_worst_27 : decode cX3_worst 27 = .ok (.iastore, 1) := dk_79 (dk_at dksX3_worst_1 3 rfl rfl)
theorem dX3_worst_28 : decode cX3_worst 28 = .ok (.aload_n 0, 1) := dk_42 (dk_at dksX3_worst_1 4 rfl rfl)
theorem dX3_worst_29 : decode cX3_worst 29 = .ok (.invokevirtual 208, 3) := dk_182 0 208 (dk_at dksX3_worst_1 5 rfl rfl)
theorem dX3_worst_32 : decode cX3_worst 32 = .ok (.aload_n 0, 1) := dk_42 (dk_at dksX3_worst_1 8 rfl rfl)
theorem dX3_worst_33 : decode cX3_worst 33 = .ok (.invokevirtual 216, 3) := dk_182 0 216 (dk_at dksX3_worst_1 9 rfl rfl)
theorem dX3_worst_36 : decode cX3_worst 36 = .ok (.iload_n 3, 1) := dk_29 (dk_at dksX3_worst_1 12 rfl rfl)
theorem dX3_worst_37 : decode cX3_worst 37 = .ok (.if_icmp .le 11, 3) := dk_164 0 11 (dk_at dksX3_worst_1 13 rfl rfl)
theorem dX3_worst_40 : decode cX3_worst 40 = .ok (.iload 4, 2) := dk_21 4 (dk_at dksX3_worst_1 16 rfl rfl)
theorem dX3_worst_42 : decode cX3_worst 42 = .ok (.istore_n 2, 1) := dk_61 (dk_at dksX3_worst_1 18 rfl rfl)
theorem dX3_worst_43 : decode cX3_worst 43 = .ok (.aload_n 0, 1) := dk_42 (dk_at dksX3_worst_1 19 rfl rfl)
theorem dX3_worst_44 : decode cX3_worst 44 = .ok (.invokevirtual 216, 3) := dk_182 0 216 (dk_at dksX3_worst_1 20 rfl rfl)
theorem dX3_worst_47 : decode cX3_worst 47 = .ok (.istore_n 3, 1) := dk_62 (dk_at dksX3_worst_1 23 rfl rfl)
theorem dX3_worst_48 : decode cX3_worst 48 = .ok (.iinc 4 1, 3) := dk_132 4 1 (dk_at dksX3_worst_2 0 rfl rfl)
theorem dX3_worst_51 : decode cX3_worst 51 = .ok (.goto (-37), 3) := dk_167 255 219 (dk_at dksX3_worst_2 3 rfl rfl)
theorem dX3_worst_54 : decode cX3_worst 54 = .ok (.aload_n 0, 1) := dk_42 (dk_at dksX3_worst_2 6 rfl rfl)
theorem dX3_worst_55 : decode cX3_worst 55 = .ok (.getfield 7, 3) := dk_180 0 7 (dk_at dksX3_worst_2 7 rfl rfl)
theorem dX3_worst_58 : decode cX3_worst 58 = .ok (.iconst 4, 1) := dk_7 (dk_at dksX3_worst_2 10 rfl rfl)
theorem dX3_worst_59 : decode cX3_worst 59 = .ok (.iload_n 1, 1) := dk_27 (dk_at dksX3_worst_2 11 rfl rfl)
theorem dX3_worst_60 : decode cX3_worst 60 = .ok (.iastore, 1) := dk_79 (dk_at dksX3_worst_2 12 rfl rfl)
theorem dX3_worst_61 : decode cX3_worst 61 = .ok (.iload_n 2, 1) := dk_28 (dk_at dksX3_worst_2 13 rfl rfl)
theorem dX3_worst_62 : decode cX3_worst 62 = .ok (.ireturn, 1) := dk_172 (dk_at dksX3_worst_2 14 rfl rfl)
abbrev cX3_sheet : ByteArray := prog_16_method_74_code
def yX3_sheet : MethodName := ⟨RX3, "sheet", "(III)I"⟩
def dkwX3_sheet_5 : List UInt8 := [172]
abbrev dktX3_sheet_5 : List UInt8 := dkwX3_sheet_5 ++ []
def dkwX3_sheet_4 : List UInt8 := [180, 0, 46, 16, 40, 27, 104, 21, 4, 96, 9, 80, 132, 4, 1, 167, 255, 233, 42, 180, 0, 43, 27, 46]
abbrev dktX3_sheet_4 : List UInt8 := dkwX3_sheet_4 ++ dktX3_sheet_5
def dkwX3_sheet_3 : List UInt8 := [27, 28, 154, 0, 7, 3, 167, 0, 4, 29, 79, 3, 54, 4, 21, 4, 16, 40, 162, 0, 22, 42]
abbrev dktX3_sheet_3 : List UInt8 := dkwX3_sheet_3 ++ dktX3_sheet_4
def dkwX3_sheet_2 : List UInt8 := [29, 16, 40, 164, 0, 10, 42, 18, 53, 182, 0, 59, 172, 42, 180, 0, 40, 27, 28, 79, 42, 180, 0, 43]
abbrev dktX3_sheet_2 : List UInt8 := dkwX3_sheet_2 ++ dktX3_sheet_3
def dkwX3_sheet_1 : List UInt8 := [16, 64, 159, 0, 10, 42, 18, 53, 182, 0, 59, 172, 29, 156, 0, 11, 42, 19, 1, 7, 182, 0, 59, 172]
abbrev dktX3_sheet_1 : List UInt8 := dkwX3_sheet_1 ++ dktX3_sheet_2
def dkwX3_sheet_0 : List UInt8 := [27, 184, 1, 4, 153, 0, 25, 28, 153, 0, 28, 28, 16, 8, 159, 0, 22, 28, 16, 16, 159, 0, 16, 28]
abbrev dktX3_sheet_0 : List UInt8 := dkwX3_sheet_0 ++ dktX3_sheet_1
theorem dksX3_sheet_0 : cX3_sheet.data.toList.drop 0 = dktX3_sheet_0 := by decide +kernel
theorem dksX3_sheet_1 : cX3_sheet.data.toList.drop 24 = dktX3_sheet_1 := dk_seg dksX3_sheet_0 24 rfl rfl
theorem dksX3_sheet_2 : cX3_sheet.data.toList.drop 48 = dktX3_sheet_2 := dk_seg dksX3_sheet_1 24 rfl rfl
theorem dksX3_sheet_3 : cX3_sheet.data.toList.drop 72 = dktX3_sheet_3 := dk_seg dksX3_sheet_2 24 rfl rfl
theorem dksX3_sheet_4 : cX3_sheet.data.toList.drop 94 = dktX3_sheet_4 := dk_seg dksX3_sheet_3 22 rfl rfl
theorem dksX3_sheet_5 : cX3_sheet.data.toList.drop 118 = dktX3_sheet_5 := dk_seg dksX3_sheet_4 24 rfl rfl
theorem dX3_sheet_0 : decode cX3_sheet 0 = .ok (.iload_n 1, 1) := dk_27 (dk_at dksX3_sheet_0 0 rfl rfl)
theorem dX3_sheet_1 : decode cX3_sheet 1 = .ok (.invokestatic 260, 3) := dk_184 1 4 (dk_at dksX3_sheet_0 1 rfl rfl)
theorem dX3_sheet_4 : decode cX3_sheet 4 = .ok (.ifCond .eq 25, 3) := dk_153 0 25 (dk_at dksX3_sheet_0 4 rfl rfl)
theorem dX3_sheet_7 : decode cX3_sheet 7 = .ok (.iload_n 2, 1) := dk_28 (dk_at dksX3_sheet_0 7 rfl rfl)
theorem dX3_sheet_8 : decode cX3_sheet 8 = .ok (.ifCond .eq 28, 3) := dk_153 0 28 (dk_at dksX3_sheet_0 8 rfl rfl)
theorem dX3_sheet_11 : decode cX3_sheet 11 = .ok (.iload_n 2, 1) := dk_28 (dk_at dksX3_sheet_0 11 rfl rfl)
theorem dX3_sheet_12 : decode cX3_sheet 12 = .ok (.bipush 8, 2) := dk_16 8 (dk_at dksX3_sheet_0 12 rfl rfl)
theorem dX3_sheet_14 : decode cX3_sheet 14 = .ok (.if_icmp .eq 22, 3) := dk_159 0 22 (dk_at dksX3_sheet_0 14 rfl rfl)
theorem dX3_sheet_17 : decode cX3_sheet 17 = .ok (.iload_n 2, 1) := dk_28 (dk_at dksX3_sheet_0 17 rfl rfl)
theorem dX3_sheet_18 : decode cX3_sheet 18 = .ok (.bipush 16, 2) := dk_16 16 (dk_at dksX3_sheet_0 18 rfl rfl)
theorem dX3_sheet_20 : decode cX3_sheet 20 = .ok (.if_icmp .eq 16, 3) := dk_159 0 16 (dk_at dksX3_sheet_0 20 rfl rfl)
theorem dX3_sheet_23 : decode cX3_sheet 23 = .ok (.iload_n 2, 1) := dk_28 (dk_at dksX3_sheet_0 23 rfl rfl)
theorem dX3_sheet_24 : decode cX3_sheet 24 = .ok (.bipush 64, 2) := dk_16 64 (dk_at dksX3_sheet_1 0 rfl rfl)
theorem dX3_sheet_26 : decode cX3_sheet 26 = .ok (.if_icmp .eq 10, 3) := dk_159 0 10 (dk_at dksX3_sheet_1 2 rfl rfl)
theorem dX3_sheet_29 : decode cX3_sheet 29 = .ok (.aload_n 0, 1) := dk_42 (dk_at dksX3_sheet_1 5 rfl rfl)
theorem dX3_sheet_30 : decode cX3_sheet 30 = .ok (.ldc 53, 2) := dk_18 53 (dk_at dksX3_sheet_1 6 rfl rfl)
theorem dX3_sheet_32 : decode cX3_sheet 32 = .ok (.invokevirtual 59, 3) := dk_182 0 59 (dk_at dksX3_sheet_1 8 rfl rfl)
theorem dX3_sheet_35 : decode cX3_sheet 35 = .ok (.ireturn, 1) := dk_172 (dk_at dksX3_sheet_1 11 rfl rfl)
theorem dX3_sheet_36 : decode cX3_sheet 36 = .ok (.iload_n 3, 1) := dk_29 (dk_at dksX3_sheet_1 12 rfl rfl)
theorem dX3_sheet_37 : decode cX3_sheet 37 = .ok (.ifCond .ge 11, 3) := dk_156 0 11 (dk_at dksX3_sheet_1 13 rfl rfl)
theorem dX3_sheet_40 : decode cX3_sheet 40 = .ok (.aload_n 0, 1) := dk_42 (dk_at dksX3_sheet_1 16 rfl rfl)
theorem dX3_sheet_41 : decode cX3_sheet 41 = .ok (.ldc_w 263, 3) := dk_19 1 7 (dk_at dksX3_sheet_1 17 rfl rfl)
theorem dX3_sheet_44 : decode cX3_sheet 44 = .ok (.invokevirtual 59, 3) := dk_182 0 59 (dk_at dksX3_sheet_1 20 rfl rfl)
theorem dX3_sheet_47 : decode cX3_sheet 47 = .ok (.ireturn, 1) := dk_172 (dk_at dksX3_sheet_1 23 rfl rfl)
theorem dX3_sheet_48 : decode cX3_sheet 48 = .ok (.iload_n 3, 1) := dk_29 (dk_at dksX3_sheet_2 0 rfl rfl)
theorem dX3_sheet_49 : decode cX3_sheet 49 = .ok (.bipush 40, 2) := dk_16 40 (dk_at dksX3_sheet_2 1 rfl rfl)
theorem dX3_sheet_51 : decode cX3_sheet 51 = .ok (.if_icmp .le 10, 3) := dk_164 0 10 (dk_at dksX3_sheet_2 3 rfl rfl)
theorem dX3_sheet_54 : decode cX3_sheet 54 = .ok (.aload_n 0, 1) := dk_42 (dk_at dksX3_sheet_2 6 rfl rfl)
theorem dX3_sheet_55 : decode cX3_sheet 55 = .ok (.ldc 53, 2) := dk_18 53 (dk_at dksX3_sheet_2 7 rfl rfl)
theorem dX3_sheet_57 : decode cX3_sheet 57 = .ok (.invokevirtual 59, 3) := dk_182 0 59 (dk_at dksX3_sheet_2 9 rfl rfl)
theorem dX3_sheet_60 : decode cX3_sheet 60 = .ok (.ireturn, 1) := dk_172 (dk_at dksX3_sheet_2 12 rfl rfl)
theorem dX3_sheet_61 : decode cX3_sheet 61 = .ok (.aload_n 0, 1) := dk_42 (dk_at dksX3_sheet_2 13 rfl rfl)
theorem dX3_sheet_62 : decode cX3_sheet 62 = .ok (.getfield 40, 3) := dk_180 0 40 (dk_at dksX3_sheet_2 14 rfl rfl)
theorem dX3_sheet_65 : decode cX3_sheet 65 = .ok (.iload_n 1, 1) := dk_27 (dk_at dksX3_sheet_2 17 rfl rfl)
theorem dX3_sheet_66 : decode cX3_sheet 66 = .ok (.iload_n 2, 1) := dk_28 (dk_at dksX3_sheet_2 18 rfl rfl)
theorem dX3_sheet_67 : decode cX3_sheet 67 = .ok (.iastore, 1) := dk_79 (dk_at dksX3_sheet_2 19 rfl rfl)
theorem dX3_sheet_68 : decode cX3_sheet 68 = .ok (.aload_n 0, 1) := dk_42 (dk_at dksX3_sheet_2 20 rfl rfl)
theorem dX3_sheet_69 : decode cX3_sheet 69 = .ok (.getfield 43, 3) := dk_180 0 43 (dk_at dksX3_sheet_2 21 rfl rfl)
theorem dX3_sheet_72 : decode cX3_sheet 72 = .ok (.iload_n 1, 1) := dk_27 (dk_at dksX3_sheet_3 0 rfl rfl)
theorem dX3_sheet_73 : decode cX3_sheet 73 = .ok (.iload_n 2, 1) := dk_28 (dk_at dksX3_sheet_3 1 rfl rfl)
theorem dX3_sheet_74 : decode cX3_sheet 74 = .ok (.ifCond .ne 7, 3) := dk_154 0 7 (dk_at dksX3_sheet_3 2 rfl rfl)
theorem dX3_sheet_77 : decode cX3_sheet 77 = .ok (.iconst 0, 1) := dk_3 (dk_at dksX3_sheet_3 5 rfl rfl)
theorem dX3_sheet_78 : decode cX3_sheet 78 = .ok (.goto 4, 3) := dk_167 0 4 (dk_at dksX3_sheet_3 6 rfl rfl)
theorem dX3_sheet_81 : decode cX3_sheet 81 = .ok (.iload_n 3, 1) := dk_29 (dk_at dksX3_sheet_3 9 rfl rfl)
theorem dX3_sheet_82 : decode cX3_sheet 82 = .ok (.iastore, 1) := dk_79 (dk_at dksX3_sheet_3 10 rfl rfl)
theorem dX3_sheet_83 : decode cX3_sheet 83 = .ok (.iconst 0, 1) := dk_3 (dk_at dksX3_sheet_3 11 rfl rfl)
theorem dX3_sheet_84 : decode cX3_sheet 84 = .ok (.istore 4, 2) := dk_54 4 (dk_at dksX3_sheet_3 12 rfl rfl)
theorem dX3_sheet_86 : decode cX3_sheet 86 = .ok (.iload 4, 2) := dk_21 4 (dk_at dksX3_sheet_3 14 rfl rfl)
theorem dX3_sheet_88 : decode cX3_sheet 88 = .ok (.bipush 40, 2) := dk_16 40 (dk_at dksX3_sheet_3 16 rfl rfl)
theorem dX3_sheet_90 : decode cX3_sheet 90 = .ok (.if_icmp .ge 22, 3) := dk_162 0 22 (dk_at dksX3_sheet_3 18 rfl rfl)
theorem dX3_sheet_93 : decode cX3_sheet 93 = .ok (.aload_n 0, 1) := dk_42 (dk_at dksX3_sheet_3 21 rfl rfl)
theorem dX3_sheet_94 : decode cX3_sheet 94 = .ok (.getfield 46, 3) := dk_180 0 46 (dk_at dksX3_sheet_4 0 rfl rfl)
theorem dX3_sheet_97 : decode cX3_sheet 97 = .ok (.bipush 40, 2) := dk_16 40 (dk_at dksX3_sheet_4 3 rfl rfl)
theorem dX3_sheet_99 : decode cX3_sheet 99 = .ok (.iload_n 1, 1) := dk_27 (dk_at dksX3_sheet_4 5 rfl rfl)
theorem dX3_sheet_100 : decode cX3_sheet 100 = .ok (.imul, 1) := dk_104 (dk_at dksX3_sheet_4 6 rfl rfl)
theorem dX3_sheet_101 : decode cX3_sheet 101 = .ok (.iload 4, 2) := dk_21 4 (dk_at dksX3_sheet_4 7 rfl rfl)
theorem dX3_sheet_103 : decode cX3_sheet 103 = .ok (.iadd, 1) := dk_96 (dk_at dksX3_sheet_4 9 rfl rfl)
theorem dX3_sheet_104 : decode cX3_sheet 104 = .ok (.lconst 0, 1) := dk_9 (dk_at dksX3_sheet_4 10 rfl rfl)
theorem dX3_sheet_105 : decode cX3_sheet 105 = .ok (.lastore, 1) := dk_80 (dk_at dksX3_sheet_4 11 rfl rfl)
theorem dX3_sheet_106 : decode cX3_sheet 106 = .ok (.iinc 4 1, 3) := dk_132 4 1 (dk_at dksX3_sheet_4 12 rfl rfl)
theorem dX3_sheet_109 : decode cX3_sheet 109 = .ok (.goto (-23), 3) := dk_167 255 233 (dk_at dksX3_sheet_4 15 rfl rfl)
theorem dX3_sheet_112 : decode cX3_sheet 112 = .ok (.aload_n 0, 1) := dk_42 (dk_at dksX3_sheet_4 18 rfl rfl)
theorem dX3_sheet_113 : decode cX3_sheet 113 = .ok (.getfield 43, 3) := dk_180 0 43 (dk_at dksX3_sheet_4 19 rfl rfl)
theorem dX3_sheet_116 : decode cX3_sheet 116 = .ok (.iload_n 1, 1) := dk_27 (dk_at dksX3_sheet_4 22 rfl rfl)
theorem dX3_sheet_117 : decode cX3_sheet 117 = .ok (.iaload, 1) := dk_46 (dk_at dksX3_sheet_4 23 rfl rfl)
theorem dX3_sheet_118 : decode cX3_sheet 118 = .ok (.ireturn, 1) := dk_172 (dk_at dksX3_sheet_5 0 rfl rfl)
abbrev cX3_isOne : ByteArray := prog_16_method_73_code
def yX3_isOne : MethodName := ⟨RX3, "isOne", "(I)Z"⟩
def dkwX3_isOne_0 : List UInt8 := [26, 133, 9, 20, 0, 214, 184, 0, 54, 172]
abbrev dktX3_isOne_0 : List UInt8 := dkwX3_isOne_0 ++ []
theorem dksX3_isOne_0 : cX3_isOne.data.toList.drop 0 = dktX3_isOne_0 := by decide +kernel
theorem dX3_isOne_0 : decode cX3_isOne 0 = .ok (.iload_n 0, 1) := dk_26 (dk_at dksX3_isOne_0 0 rfl rfl)
theorem dX3_isOne_1 : decode cX3_isOne 1 = .ok (.i2l, 1) := dk_133 (dk_at dksX3_isOne_0 1 rfl rfl)
theorem dX3_isOne_2 : decode cX3_isOne 2 = .ok (.lconst 0, 1) := dk_9 (dk_at dksX3_isOne_0 2 rfl rfl)
theorem dX3_isOne_3 : decode cX3_isOne 3 = .ok (.ldc2_w 214, 3) := dk_20 0 214 (dk_at dksX3_isOne_0 3 rfl rfl)
theorem dX3_isOne_6 : decode cX3_isOne 6 = .ok (.invokestatic 54, 3) := dk_184 0 54 (dk_at dksX3_isOne_0 6 rfl rfl)
theorem dX3_isOne_9 : decode cX3_isOne 9 = .ok (.ireturn, 1) := dk_172 (dk_at dksX3_isOne_0 9 rfl rfl)
abbrev cX3_write : ByteArray := prog_16_method_77_code
def yX3_write : MethodName := ⟨RX3, "write", "(IIJ)J"⟩
def dkwX3_write_3 : List UInt8 := [180, 0, 40, 27, 46, 33, 184, 1, 12, 80, 22, 6, 173]
abbrev dktX3_write_3 : List UInt8 := dkwX3_write_3 ++ []
def dkwX3_write_2 : List UInt8 := [180, 0, 46, 16, 40, 27, 104, 28, 96, 47, 55, 6, 42, 180, 0, 46, 16, 40, 27, 104, 28, 96, 42]
abbrev dktX3_write_2 : List UInt8 := dkwX3_write_2 ++ dktX3_write_3
def dkwX3_write_1 : List UInt8 := [180, 0, 43, 27, 46, 4, 100, 133, 184, 0, 54, 154, 0, 11, 42, 18, 53, 182, 0, 59, 133, 173, 42]
abbrev dktX3_write_1 : List UInt8 := dkwX3_write_1 ++ dktX3_write_2
def dkwX3_write_0 : List UInt8 := [42, 27, 182, 1, 9, 54, 5, 21, 5, 153, 0, 11, 42, 21, 5, 182, 0, 59, 133, 173, 28, 133, 9, 42]
abbrev dktX3_write_0 : List UInt8 := dkwX3_write_0 ++ dktX3_write_1
theorem dksX3_write_0 : cX3_write.data.toList.drop 0 = dktX3_write_0 := by decide +kernel
theorem dksX3_write_1 : cX3_write.data.toList.drop 24 = dktX3_write_1 := dk_seg dksX3_write_0 24 rfl rfl
theorem dksX3_write_2 : cX3_write.data.toList.drop 47 = dktX3_write_2 := dk_seg dksX3_write_1 23 rfl rfl
theorem dksX3_write_3 : cX3_write.data.toList.drop 70 = dktX3_write_3 := dk_seg dksX3_write_2 23 rfl rfl
theorem dX3_write_0 : decode cX3_write 0 = .ok (.aload_n 0, 1) := dk_42 (dk_at dksX3_write_0 0 rfl rfl)
theorem dX3_write_1 : decode cX3_write 1 = .ok (.iload_n 1, 1) := dk_27 (dk_at dksX3_write_0 1 rfl rfl)
theorem dX3_write_2 : decode cX3_write 2 = .ok (.invokevirtual 265, 3) := dk_182 1 9 (dk_at dksX3_write_0 2 rfl rfl)
theorem dX3_write_5 : decode cX3_write 5 = .ok (.istore 5, 2) := dk_54 5 (dk_at dksX3_write_0 5 rfl rfl)
theorem dX3_write_7 : decode cX3_write 7 = .ok (.iload 5, 2) := dk_21 5 (dk_at dksX3_write_0 7 rfl rfl)
theorem dX3_write_9 : decode cX3_write 9 = .ok (.ifCond .eq 11, 3) := dk_153 0 11 (dk_at dksX3_write_0 9 rfl rfl)
theorem dX3_write_12 : decode cX3_write 12 = .ok (.aload_n 0, 1) := dk_42 (dk_at dksX3_write_0 12 rfl rfl)
theorem dX3_write_13 : decode cX3_write 13 = .ok (.iload 5, 2) := dk_21 5 (dk_at dksX3_write_0 13 rfl rfl)
theorem dX3_write_15 : decode cX3_write 15 = .ok (.invokevirtual 59, 3) := dk_182 0 59 (dk_at dksX3_write_0 15 rfl rfl)
theorem dX3_write_18 : decode cX3_write 18 = .ok (.i2l, 1) := dk_133 (dk_at dksX3_write_0 18 rfl rfl)
theorem dX3_write_19 : decode cX3_write 19 = .ok (.lreturn, 1) := dk_173 (dk_at dksX3_write_0 19 rfl rfl)
theorem dX3_write_20 : decode cX3_write 20 = .ok (.iload_n 2, 1) := dk_28 (dk_at dksX3_write_0 20 rfl rfl)
theorem dX3_write_21 : decode cX3_write 21 = .ok (.i2l, 1) := dk_133 (dk_at dksX3_write_0 21 rfl rfl)
theorem dX3_write_22 : decode cX3_write 22 = .ok (.lconst 0, 1) := dk_9 (dk_at dksX3_write_0 22 rfl rfl)
theorem dX3_write_23 : decode cX3_write 23 = .ok (.aload_n 0, 1) := dk_42 (dk_at dksX3_write_0 23 rfl rfl)
theorem dX3_write_24 : decode cX3_write 24 = .ok (.getfield 43, 3) := dk_180 0 43 (dk_at dksX3_write_1 0 rfl rfl)
theorem dX3_write_27 : decode cX3_write 27 = .ok (.iload_n 1, 1) := dk_27 (dk_at dksX3_write_1 3 rfl rfl)
theorem dX3_write_28 : decode cX3_write 28 = .ok (.iaload, 1) := dk_46 (dk_at dksX3_write_1 4 rfl rfl)
theorem dX3_write_29 : decode cX3_write 29 = .ok (.iconst 1, 1) := dk_4 (dk_at dksX3_write_1 5 rfl rfl)
theorem dX3_write_30 : decode cX3_write 30 = .ok (.isub, 1) := dk_100 (dk_at dksX3_write_1 6 rfl rfl)
theorem dX3_write_31 : decode cX3_write 31 = .ok (.i2l, 1) := dk_133 (dk_at dksX3_write_1 7 rfl rfl)
theorem dX3_write_32 : decode cX3_write 32 = .ok (.invokestatic 54, 3) := dk_184 0 54 (dk_at dksX3_write_1 8 rfl rfl)
theorem dX3_write_35 : decode cX3_write 35 = .ok (.ifCond .ne 11, 3) := dk_154 0 11 (dk_at dksX3_write_1 11 rfl rfl)
theorem dX3_write_38 : decode cX3_write 38 = .ok (.aload_n 0, 1) := dk_42 (dk_at dksX3_write_1 14 rfl rfl)
theorem dX3_write_39 : decode cX3_write 39 = .ok (.ldc 53, 2) := dk_18 53 (dk_at dksX3_write_1 15 rfl rfl)
theorem dX3_write_41 : decode cX3_write 41 = .ok (.invokevirtual 59, 3) := dk_182 0 59 (dk_at dksX3_write_1 17 rfl rfl)
theorem dX3_write_44 : decode cX3_write 44 = .ok (.i2l, 1) := dk_133 (dk_at dksX3_write_1 20 rfl rfl)
theorem dX3_write_45 : decode cX3_write 45 = .ok (.lreturn, 1) := dk_173 (dk_at dksX3_write_1 21 rfl rfl)
theorem dX3_write_46 : decode cX3_write 46 = .ok (.aload_n 0, 1) := dk_42 (dk_at dksX3_write_1 22 rfl rfl)
theorem dX3_write_47 : decode cX3_write 47 = .ok (.getfield 46, 3) := dk_180 0 46 (dk_at dksX3_write_2 0 rfl rfl)
theorem dX3_write_50 : decode cX3_write 50 = .ok (.bipush 40, 2) := dk_16 40 (dk_at dksX3_write_2 3 rfl rfl)
theorem dX3_write_52 : decode cX3_write 52 = .ok (.iload_n 1, 1) := dk_27 (dk_at dksX3_write_2 5 rfl rfl)
theorem dX3_write_53 : decode cX3_write 53 = .ok (.imul, 1) := dk_104 (dk_at dksX3_write_2 6 rfl rfl)
theorem dX3_write_54 : decode cX3_write 54 = .ok (.iload_n 2, 1) := dk_28 (dk_at dksX3_write_2 7 rfl rfl)
theorem dX3_write_55 : decode cX3_write 55 = .ok (.iadd, 1) := dk_96 (dk_at dksX3_write_2 8 rfl rfl)
theorem dX3_write_56 : decode cX3_write 56 = .ok (.laload, 1) := dk_47 (dk_at dksX3_write_2 9 rfl rfl)
theorem dX3_write_57 : decode cX3_write 57 = .ok (.lstore 6, 2) := dk_55 6 (dk_at dksX3_write_2 10 rfl rfl)
theorem dX3_write_59 : decode cX3_write 59 = .ok (.aload_n 0, 1) := dk_42 (dk_at dksX3_write_2 12 rfl rfl)
theorem dX3_write_60 : decode cX3_write 60 = .ok (.getfield 46, 3) := dk_180 0 46 (dk_at dksX3_write_2 13 rfl rfl)
theorem dX3_write_63 : decode cX3_write 63 = .ok (.bipush 40, 2) := dk_16 40 (dk_at dksX3_write_2 16 rfl rfl)
theorem dX3_write_65 : decode cX3_write 65 = .ok (.iload_n 1, 1) := dk_27 (dk_at dksX3_write_2 18 rfl rfl)
theorem dX3_write_66 : decode cX3_write 66 = .ok (.imul, 1) := dk_104 (dk_at dksX3_write_2 19 rfl rfl)
theorem dX3_write_67 : decode cX3_write 67 = .ok (.iload_n 2, 1) := dk_28 (dk_at dksX3_write_2 20 rfl rfl)
theorem dX3_write_68 : decode cX3_write 68 = .ok (.iadd, 1) := dk_96 (dk_at dksX3_write_2 21 rfl rfl)
theorem dX3_write_69 : decode cX3_write 69 = .ok (.aload_n 0, 1) := dk_42 (dk_at dksX3_write_2 22 rfl rfl)
theorem dX3_write_70 : decode cX3_write 70 = .ok (.getfield 40, 3) := dk_180 0 40 (dk_at dksX3_write_3 0 rfl rfl)
theorem dX3_write_73 : decode cX3_write 73 = .ok (.iload_n 1, 1) := dk_27 (dk_at dksX3_write_3 3 rfl rfl)
theorem dX3_write_74 : decode cX3_write 74 = .ok (.iaload, 1) := dk_46 (dk_at dksX3_write_3 4 rfl rfl)
theorem dX3_write_75 : decode cX3_write 75 = .ok (.lload_n 3, 1) := dk_33 (dk_at dksX3_write_3 5 rfl rfl)
theorem dX3_write_76 : decode cX3_write 76 = .ok (.invokestatic 268, 3) := dk_184 1 12 (dk_at dksX3_write_3 6 rfl rfl)
theorem dX3_write_79 : decode cX3_write 79 = .ok (.lastore, 1) := dk_80 (dk_at dksX3_write_3 9 rfl rfl)
theorem dX3_write_80 : decode cX3_write 80 = .ok (.lload 6, 2) := dk_22 6 (dk_at dksX3_write_3 10 rfl rfl)
theorem dX3_write_82 : decode cX3_write 82 = .ok (.lreturn, 1) := dk_173 (dk_at dksX3_write_3 12 rfl rfl)
abbrev cX3_wrong : ByteArray := prog_16_method_76_code
def yX3_wrong : MethodName := ⟨RX3, "wrong", "(I)I"⟩
def dkwX3_wrong_1 : List UInt8 := [167, 0, 4, 3, 172]
abbrev dktX3_wrong_1 : List UInt8 := dkwX3_wrong_1 ++ []
def dkwX3_wrong_0 : List UInt8 := [27, 184, 1, 4, 154, 0, 8, 18, 53, 167, 0, 19, 42, 180, 0, 40, 27, 46, 154, 0, 9, 19, 1, 8]
abbrev dktX3_wrong_0 : List UInt8 := dkwX3_wrong_0 ++ dktX3_wrong_1
theorem dksX3_wrong_0 : cX3_wrong.data.toList.drop 0 = dktX3_wrong_0 := by decide +kernel
theorem dksX3_wrong_1 : cX3_wrong.data.toList.drop 24 = dktX3_wrong_1 := dk_seg dksX3_wrong_0 24 rfl rfl
theorem dX3_wrong_0 : decode cX3_wrong 0 = .ok (.iload_n 1, 1) := dk_27 (dk_at dksX3_wrong_0 0 rfl rfl)
theorem dX3_wrong_1 : decode cX3_wrong 1 = .ok (.invokestatic 260, 3) := dk_184 1 4 (dk_at dksX3_wrong_0 1 rfl rfl)
theorem dX3_wrong_4 : decode cX3_wrong 4 = .ok (.ifCond .ne 8, 3) := dk_154 0 8 (dk_at dksX3_wrong_0 4 rfl rfl)
theorem dX3_wrong_7 : decode cX3_wrong 7 = .ok (.ldc 53, 2) := dk_18 53 (dk_at dksX3_wrong_0 7 rfl rfl)
theorem dX3_wrong_9 : decode cX3_wrong 9 = .ok (.goto 19, 3) := dk_167 0 19 (dk_at dksX3_wrong_0 9 rfl rfl)
theorem dX3_wrong_12 : decode cX3_wrong 12 = .ok (.aload_n 0, 1) := dk_42 (dk_at dksX3_wrong_0 12 rfl rfl)
theorem dX3_wrong_13 : decode cX3_wrong 13 = .ok (.getfield 40, 3) := dk_180 0 40 (dk_at dksX3_wrong_0 13 rfl rfl)
theorem dX3_wrong_16 : decode cX3_wrong 16 = .ok (.iload_n 1, 1) := dk_27 (dk_at dksX3_wrong_0 16 rfl rfl)
theorem dX3_wrong_17 : decode cX3_wrong 17 = .ok (.iaload, 1) := dk_46 (dk_at dksX3_wrong_0 17 rfl rfl)
theorem dX3_wrong_18 : decode cX3_wrong 18 = .ok (.ifCond .ne 9, 3) := dk_154 0 9 (dk_at dksX3_wrong_0 18 rfl rfl)
theorem dX3_wrong_21 : decode cX3_wrong 21 = .ok (.ldc_w 264, 3) := dk_19 1 8 (dk_at dksX3_wrong_0 21 rfl rfl)
theorem dX3_wrong_24 : decode cX3_wrong 24 = .ok (.goto 4, 3) := dk_167 0 4 (dk_at dksX3_wrong_1 0 rfl rfl)
theorem dX3_wrong_27 : decode cX3_wrong 27 = .ok (.iconst 0, 1) := dk_3 (dk_at dksX3_wrong_1 3 rfl rfl)
theorem dX3_wrong_28 : decode cX3_wrong 28 = .ok (.ireturn, 1) := dk_172 (dk_at dksX3_wrong_1 4 rfl rfl)
abbrev cX3_narrowed : ByteArray := prog_16_method_75_code
def yX3_narrowed : MethodName := ⟨RX3, "narrowed", "(IJ)J"⟩
def dkwX3_narrowed_1 : List UInt8 := [167, 0, 4, 31, 173]
abbrev dktX3_narrowed_1 : List UInt8 := dkwX3_narrowed_1 ++ []
def dkwX3_narrowed_0 : List UInt8 := [26, 16, 8, 160, 0, 10, 31, 136, 145, 133, 167, 0, 17, 26, 16, 16, 160, 0, 10, 31, 136, 147, 133]
abbrev dktX3_narrowed_0 : List UInt8 := dkwX3_narrowed_0 ++ dktX3_narrowed_1
theorem dksX3_narrowed_0 : cX3_narrowed.data.toList.drop 0 = dktX3_narrowed_0 := by decide +kernel
theorem dksX3_narrowed_1 : cX3_narrowed.data.toList.drop 23 = dktX3_narrowed_1 := dk_seg dksX3_narrowed_0 23 rfl rfl
theorem dX3_narrowed_0 : decode cX3_narrowed 0 = .ok (.iload_n 0, 1) := dk_26 (dk_at dksX3_narrowed_0 0 rfl rfl)
theorem dX3_narrowed_1 : decode cX3_narrowed 1 = .ok (.bipush 8, 2) := dk_16 8 (dk_at dksX3_narrowed_0 1 rfl rfl)
theorem dX3_narrowed_3 : decode cX3_narrowed 3 = .ok (.if_icmp .ne 10, 3) := dk_160 0 10 (dk_at dksX3_narrowed_0 3 rfl rfl)
theorem dX3_narrowed_6 : decode cX3_narrowed 6 = .ok (.lload_n 1, 1) := dk_31 (dk_at dksX3_narrowed_0 6 rfl rfl)
theorem dX3_narrowed_7 : decode cX3_narrowed 7 = .ok (.l2i, 1) := dk_136 (dk_at dksX3_narrowed_0 7 rfl rfl)
theorem dX3_narrowed_8 : decode cX3_narrowed 8 = .ok (.i2b, 1) := dk_145 (dk_at dksX3_narrowed_0 8 rfl rfl)
theorem dX3_narrowed_9 : decode cX3_narrowed 9 = .ok (.i2l, 1) := dk_133 (dk_at dksX3_narrowed_0 9 rfl rfl)
theorem dX3_narrowed_10 : decode cX3_narrowed 10 = .ok (.goto 17, 3) := dk_167 0 17 (dk_at dksX3_narrowed_0 10 rfl rfl)
theorem dX3_narrowed_13 : decode cX3_narrowed 13 = .ok (.iload_n 0, 1) := dk_26 (dk_at dksX3_narrowed_0 13 rfl rfl)
theorem dX3_narrowed_14 : decode cX3_narrowed 14 = .ok (.bipush 16, 2) := dk_16 16 (dk_at dksX3_narrowed_0 14 rfl rfl)
theorem dX3_narrowed_16 : decode cX3_narrowed 16 = .ok (.if_icmp .ne 10, 3) := dk_160 0 10 (dk_at dksX3_narrowed_0 16 rfl rfl)
theorem dX3_narrowed_19 : decode cX3_narrowed 19 = .ok (.lload_n 1, 1) := dk_31 (dk_at dksX3_narrowed_0 19 rfl rfl)
theorem dX3_narrowed_20 : decode cX3_narrowed 20 = .ok (.l2i, 1) := dk_136 (dk_at dksX3_narrowed_0 20 rfl rfl)
theorem dX3_narrowed_21 : decode cX3_narrowed 21 = .ok (.i2s, 1) := dk_147 (dk_at dksX3_narrowed_0 21 rfl rfl)
theorem dX3_narrowed_22 : decode cX3_narrowed 22 = .ok (.i2l, 1) := dk_133 (dk_at dksX3_narrowed_0 22 rfl rfl)
theorem dX3_narrowed_23 : decode cX3_narrowed 23 = .ok (.goto 4, 3) := dk_167 0 4 (dk_at dksX3_narrowed_1 0 rfl rfl)
theorem dX3_narrowed_26 : decode cX3_narrowed 26 = .ok (.lload_n 1, 1) := dk_31 (dk_at dksX3_narrowed_1 3 rfl rfl)
theorem dX3_narrowed_27 : decode cX3_narrowed 27 = .ok (.lreturn, 1) := dk_173 (dk_at dksX3_narrowed_1 4 rfl rfl)
abbrev cX3_copy : ByteArray := prog_16_method_78_code
def yX3_copy : MethodName := ⟨RX3, "copy", "(IIIII)I"⟩
def dkwX3_copy_8 : List UInt8 := [167, 255, 224, 21, 5, 172]
abbrev dktX3_copy_8 : List UInt8 := dkwX3_copy_8 ++ []
def dkwX3_copy_7 : List UInt8 := [180, 0, 46, 16, 40, 29, 104, 21, 4, 96, 21, 6, 96, 42, 180, 0, 50, 21, 6, 47, 80, 132, 6, 1]
abbrev dktX3_copy_7 : List UInt8 := dkwX3_copy_7 ++ dktX3_copy_8
def dkwX3_copy_6 : List UInt8 := [28, 96, 21, 6, 96, 47, 80, 132, 6, 1, 167, 255, 225, 3, 54, 6, 21, 6, 21, 5, 162, 0, 31, 42]
abbrev dktX3_copy_6 : List UInt8 := dkwX3_copy_6 ++ dktX3_copy_7
def dkwX3_copy_5 : List UInt8 := [3, 54, 6, 21, 6, 21, 5, 162, 0, 30, 42, 180, 0, 50, 21, 6, 42, 180, 0, 46, 16, 40, 27, 104]
abbrev dktX3_copy_5 : List UInt8 := dkwX3_copy_5 ++ dktX3_copy_6
def dkwX3_copy_4 : List UInt8 := [163, 0, 17, 21, 5, 42, 180, 0, 43, 29, 46, 21, 4, 100, 164, 0, 10, 42, 18, 53, 182, 0, 59, 172]
abbrev dktX3_copy_4 : List UInt8 := dkwX3_copy_4 ++ dktX3_copy_5
def dkwX3_copy_3 : List UInt8 := [155, 0, 40, 21, 4, 155, 0, 35, 21, 5, 155, 0, 30, 21, 5, 42, 180, 0, 43, 27, 46, 28, 100]
abbrev dktX3_copy_3 : List UInt8 := dkwX3_copy_3 ++ dktX3_copy_4
def dkwX3_copy_2 : List UInt8 := [172, 42, 180, 0, 40, 27, 46, 42, 180, 0, 40, 29, 46, 159, 0, 10, 42, 18, 99, 182, 0, 59, 172, 28]
abbrev dktX3_copy_2 : List UInt8 := dkwX3_copy_2 ++ dktX3_copy_3
def dkwX3_copy_1 : List UInt8 := [180, 0, 40, 27, 46, 153, 0, 12, 42, 180, 0, 40, 29, 46, 154, 0, 11, 42, 19, 1, 8, 182, 0, 59]
abbrev dktX3_copy_1 : List UInt8 := dkwX3_copy_1 ++ dktX3_copy_2
def dkwX3_copy_0 : List UInt8 := [27, 184, 1, 4, 153, 0, 10, 29, 184, 1, 4, 154, 0, 10, 42, 18, 53, 182, 0, 59, 172, 42]
abbrev dktX3_copy_0 : List UInt8 := dkwX3_copy_0 ++ dktX3_copy_1
theorem dksX3_copy_0 : cX3_copy.data.toList.drop 0 = dktX3_copy_0 := by decide +kernel
theorem dksX3_copy_1 : cX3_copy.data.toList.drop 22 = dktX3_copy_1 := dk_seg dksX3_copy_0 22 rfl rfl
theorem dksX3_copy_2 : cX3_copy.data.toList.drop 46 = dktX3_copy_2 := dk_seg dksX3_copy_1 24 rfl rfl
theorem dksX3_copy_3 : cX3_copy.data.toList.drop 70 = dktX3_copy_3 := dk_seg dksX3_copy_2 24 rfl rfl
theorem dksX3_copy_4 : cX3_copy.data.toList.drop 93 = dktX3_copy_4 := dk_seg dksX3_copy_3 23 rfl rfl
theorem dksX3_copy_5 : cX3_copy.data.toList.drop 117 = dktX3_copy_5 := dk_seg dksX3_copy_4 24 rfl rfl
theorem dksX3_copy_6 : cX3_copy.data.toList.drop 141 = dktX3_copy_6 := dk_seg dksX3_copy_5 24 rfl rfl
theorem dksX3_copy_7 : cX3_copy.data.toList.drop 165 = dktX3_copy_7 := dk_seg dksX3_copy_6 24 rfl rfl
theorem dksX3_copy_8 : cX3_copy.data.toList.drop 189 = dktX3_copy_8 := dk_seg dksX3_copy_7 24 rfl rfl
theorem dX3_copy_0 : decode cX3_copy 0 = .ok (.iload_n 1, 1) := dk_27 (dk_at dksX3_copy_0 0 rfl rfl)
theorem dX3_copy_1 : decode cX3_copy 1 = .ok (.invokestatic 260, 3) := dk_184 1 4 (dk_at dksX3_copy_0 1 rfl rfl)
theorem dX3_copy_4 : decode cX3_copy 4 = .ok (.ifCond .eq 10, 3) := dk_153 0 10 (dk_at dksX3_copy_0 4 rfl rfl)
theorem dX3_copy_7 : decode cX3_copy 7 = .ok (.iload_n 3, 1) := dk_29 (dk_at dksX3_copy_0 7 rfl rfl)
theorem dX3_copy_8 : decode cX3_copy 8 = .ok (.invokestatic 260, 3) := dk_184 1 4 (dk_at dksX3_copy_0 8 rfl rfl)
theorem dX3_copy_11 : decode cX3_copy 11 = .ok (.ifCond .ne 10, 3) := dk_154 0 10 (dk_at dksX3_copy_0 11 rfl rfl)
theorem dX3_copy_14 : decode cX3_copy 14 = .ok (.aload_n 0, 1) := dk_42 (dk_at dksX3_copy_0 14 rfl rfl)
theorem dX3_copy_15 : decode cX3_copy 15 = .ok (.ldc 53, 2) := dk_18 53 (dk_at dksX3_copy_0 15 rfl rfl)
theorem dX3_copy_17 : decode cX3_copy 17 = .ok (.invokevirtual 59, 3) := dk_182 0 59 (dk_at dksX3_copy_0 17 rfl rfl)
theorem dX3_copy_20 : decode cX3_copy 20 = .ok (.ireturn, 1) := dk_172 (dk_at dksX3_copy_0 20 rfl rfl)
theorem dX3_copy_21 : decode cX3_copy 21 = .ok (.aload_n 0, 1) := dk_42 (dk_at dksX3_copy_0 21 rfl rfl)
theorem dX3_copy_22 : decode cX3_copy 22 = .ok (.getfield 40, 3) := dk_180 0 40 (dk_at dksX3_copy_1 0 rfl rfl)
theorem dX3_copy_25 : decode cX3_copy 25 = .ok (.iload_n 1, 1) := dk_27 (dk_at dksX3_copy_1 3 rfl rfl)
theorem dX3_copy_26 : decode cX3_copy 26 = .ok (.iaload, 1) := dk_46 (dk_at dksX3_copy_1 4 rfl rfl)
theorem dX3_copy_27 : decode cX3_copy 27 = .ok (.ifCond .eq 12, 3) := dk_153 0 12 (dk_at dksX3_copy_1 5 rfl rfl)
theorem dX3_copy_30 : decode cX3_copy 30 = .ok (.aload_n 0, 1) := dk_42 (dk_at dksX3_copy_1 8 rfl rfl)
theorem dX3_copy_31 : decode cX3_copy 31 = .ok (.getfield 40, 3) := dk_180 0 40 (dk_at dksX3_copy_1 9 rfl rfl)
theorem dX3_copy_34 : decode cX3_copy 34 = .ok (.iload_n 3, 1) := dk_29 (dk_at dksX3_copy_1 12 rfl rfl)
theorem dX3_copy_35 : decode cX3_copy 35 = .ok (.iaload, 1) := dk_46 (dk_at dksX3_copy_1 13 rfl rfl)
theorem dX3_copy_36 : decode cX3_copy 36 = .ok (.ifCond .ne 11, 3) := dk_154 0 11 (dk_at dksX3_copy_1 14 rfl rfl)
theorem dX3_copy_39 : decode cX3_copy 39 = .ok (.aload_n 0, 1) := dk_42 (dk_at dksX3_copy_1 17 rfl rfl)
theorem dX3_copy_40 : decode cX3_copy 40 = .ok (.ldc_w 264, 3) := dk_19 1 8 (dk_at dksX3_copy_1 18 rfl rfl)
theorem dX3_copy_43 : decode cX3_copy 43 = .ok (.invokevirtual 59, 3) := dk_182 0 59 (dk_at dksX3_copy_1 21 rfl rfl)
theorem dX3_copy_46 : decode cX3_copy 46 = .ok (.ireturn, 1) := dk_172 (dk_at dksX3_copy_2 0 rfl rfl)
theorem dX3_copy_47 : decode cX3_copy 47 = .ok (.aload_n 0, 1) := dk_42 (dk_at dksX3_copy_2 1 rfl rfl)
theorem dX3_copy_48 : decode cX3_copy 48 = .ok (.getfield 40, 3) := dk_180 0 40 (dk_at dksX3_copy_2 2 rfl rfl)
theorem dX3_copy_51 : decode cX3_copy 51 = .ok (.iload_n 1, 1) := dk_27 (dk_at dksX3_copy_2 5 rfl rfl)
theorem dX3_copy_52 : decode cX3_copy 52 = .ok (.iaload, 1) := dk_46 (dk_at dksX3_copy_2 6 rfl rfl)
theorem dX3_copy_53 : decode cX3_copy 53 = .ok (.aload_n 0, 1) := dk_42 (dk_at dksX3_copy_2 7 rfl rfl)
theorem dX3_copy_54 : decode cX3_copy 54 = .ok (.getfield 40, 3) := dk_180 0 40 (dk_at dksX3_copy_2 8 rfl rfl)
theorem dX3_copy_57 : decode cX3_copy 57 = .ok (.iload_n 3, 1) := dk_29 (dk_at dksX3_copy_2 11 rfl rfl)
theorem dX3_copy_58 : decode cX3_copy 58 = .ok (.iaload, 1) := dk_46 (dk_at dksX3_copy_2 12 rfl rfl)
theorem dX3_copy_59 : decode cX3_copy 59 = .ok (.if_icmp .eq 10, 3) := dk_159 0 10 (dk_at dksX3_copy_2 13 rfl rfl)
theorem dX3_copy_62 : decode cX3_copy 62 = .ok (.aload_n 0, 1) := dk_42 (dk_at dksX3_copy_2 16 rfl rfl)
theorem dX3_copy_63 : decode cX3_copy 63 = .ok (.ldc 99, 2) := dk_18 99 (dk_at dksX3_copy_2 17 rfl rfl)
theorem dX3_copy_65 : decode cX3_copy 65 = .ok (.invokevirtual 59, 3) := dk_182 0 59 (dk_at dksX3_copy_2 19 rfl rfl)
theorem dX3_copy_68 : decode cX3_copy 68 = .ok (.ireturn, 1) := dk_172 (dk_at dksX3_copy_2 22 rfl rfl)
theorem dX3_copy_69 : decode cX3_copy 69 = .ok (.iload_n 2, 1) := dk_28 (dk_at dksX3_copy_2 23 rfl rfl)
theorem dX3_copy_70 : decode cX3_copy 70 = .ok (.ifCond .lt 40, 3) := dk_155 0 40 (dk_at dksX3_copy_3 0 rfl rfl)
theorem dX3_copy_73 : decode cX3_copy 73 = .ok (.iload 4, 2) := dk_21 4 (dk_at dksX3_copy_3 3 rfl rfl)
theorem dX3_copy_75 : decode cX3_copy 75 = .ok (.ifCond .lt 35, 3) := dk_155 0 35 (dk_at dksX3_copy_3 5 rfl rfl)
theorem dX3_copy_78 : decode cX3_copy 78 = .ok (.iload 5, 2) := dk_21 5 (dk_at dksX3_copy_3 8 rfl rfl)
theorem dX3_copy_80 : decode cX3_copy 80 = .ok (.ifCond .lt 30, 3) := dk_155 0 30 (dk_at dksX3_copy_3 10 rfl rfl)
theorem dX3_copy_83 : decode cX3_copy 83 = .ok (.iload 5, 2) := dk_21 5 (dk_at dksX3_copy_3 13 rfl rfl)
theorem dX3_copy_85 : decode cX3_copy 85 = .ok (.aload_n 0, 1) := dk_42 (dk_at dksX3_copy_3 15 rfl rfl)
theorem dX3_copy_86 : decode cX3_copy 86 = .ok (.getfield 43, 3) := dk_180 0 43 (dk_at dksX3_copy_3 16 rfl rfl)
theorem dX3_copy_89 : decode cX3_copy 89 = .ok (.iload_n 1, 1) := dk_27 (dk_at dksX3_copy_3 19 rfl rfl)
theorem dX3_copy_90 : decode cX3_copy 90 = .ok (.iaload, 1) := dk_46 (dk_at dksX3_copy_3 20 rfl rfl)
theorem dX3_copy_91 : decode cX3_copy 91 = .ok (.iload_n 2, 1) := dk_28 (dk_at dksX3_copy_3 21 rfl rfl)
theorem dX3_copy_92 : decode cX3_copy 92 = .ok (.isub, 1) := dk_100 (dk_at dksX3_copy_3 22 rfl rfl)
theorem dX3_copy_93 : decode cX3_copy 93 = .ok (.if_icmp .gt 17, 3) := dk_163 0 17 (dk_at dksX3_copy_4 0 rfl rfl)
theorem dX3_copy_96 : decode cX3_copy 96 = .ok (.iload 5, 2) := dk_21 5 (dk_at dksX3_copy_4 3 rfl rfl)
theorem dX3_copy_98 : decode cX3_copy 98 = .ok (.aload_n 0, 1) := dk_42 (dk_at dksX3_copy_4 5 rfl rfl)
theorem dX3_copy_99 : decode cX3_copy 99 = .ok (.getfield 43, 3) := dk_180 0 43 (dk_at dksX3_copy_4 6 rfl rfl)
theorem dX3_copy_102 : decode cX3_copy 102 = .ok (.iload_n 3, 1) := dk_29 (dk_at dksX3_copy_4 9 rfl rfl)
theorem dX3_copy_103 : decode cX3_copy 103 = .ok (.iaload, 1) := dk_46 (dk_at dksX3_copy_4 10 rfl rfl)
theorem dX3_copy_104 : decode cX3_copy 104 = .ok (.iload 4, 2) := dk_21 4 (dk_at dksX3_copy_4 11 rfl rfl)
theorem dX3_copy_106 : decode cX3_copy 106 = .ok (.isub, 1) := dk_100 (dk_at dksX3_copy_4 13 rfl rfl)
theorem dX3_copy_107 : decode cX3_copy 107 = .ok (.if_icmp .le 10, 3) := dk_164 0 10 (dk_at dksX3_copy_4 14 rfl rfl)
theorem dX3_copy_110 : decode cX3_copy 110 = .ok (.aload_n 0, 1) := dk_42 (dk_at dksX3_copy_4 17 rfl rfl)
theorem dX3_copy_111 : decode cX3_copy 111 = .ok (.ldc 53, 2) := dk_18 53 (dk_at dksX3_copy_4 18 rfl rfl)
theorem dX3_copy_113 : decode cX3_copy 113 = .ok (.invokevirtual 59, 3) := dk_182 0 59 (dk_at dksX3_copy_4 20 rfl rfl)
theorem dX3_copy_116 : decode cX3_copy 116 = .ok (.ireturn, 1) := dk_172 (dk_at dksX3_copy_4 23 rfl rfl)
theorem dX3_copy_117 : decode cX3_copy 117 = .ok (.iconst 0, 1) := dk_3 (dk_at dksX3_copy_5 0 rfl rfl)
theorem dX3_copy_118 : decode cX3_copy 118 = .ok (.istore 6, 2) := dk_54 6 (dk_at dksX3_copy_5 1 rfl rfl)
theorem dX3_copy_120 : decode cX3_copy 120 = .ok (.iload 6, 2) := dk_21 6 (dk_at dksX3_copy_5 3 rfl rfl)
theorem dX3_copy_122 : decode cX3_copy 122 = .ok (.iload 5, 2) := dk_21 5 (dk_at dksX3_copy_5 5 rfl rfl)
theorem dX3_copy_124 : decode cX3_copy 124 = .ok (.if_icmp .ge 30, 3) := dk_162 0 30 (dk_at dksX3_copy_5 7 rfl rfl)
theorem dX3_copy_127 : decode cX3_copy 127 = .ok (.aload_n 0, 1) := dk_42 (dk_at dksX3_copy_5 10 rfl rfl)
theorem dX3_copy_128 : decode cX3_copy 128 = .ok (.getfield 50, 3) := dk_180 0 50 (dk_at dksX3_copy_5 11 rfl rfl)
theorem dX3_copy_131 : decode cX3_copy 131 = .ok (.iload 6, 2) := dk_21 6 (dk_at dksX3_copy_5 14 rfl rfl)
theorem dX3_copy_133 : decode cX3_copy 133 = .ok (.aload_n 0, 1) := dk_42 (dk_at dksX3_copy_5 16 rfl rfl)
theorem dX3_copy_134 : decode cX3_copy 134 = .ok (.getfield 46, 3) := dk_180 0 46 (dk_at dksX3_copy_5 17 rfl rfl)
theorem dX3_copy_137 : decode cX3_copy 137 = .ok (.bipush 40, 2) := dk_16 40 (dk_at dksX3_copy_5 20 rfl rfl)
theorem dX3_copy_139 : decode cX3_copy 139 = .ok (.iload_n 1, 1) := dk_27 (dk_at dksX3_copy_5 22 rfl rfl)
theorem dX3_copy_140 : decode cX3_copy 140 = .ok (.imul, 1) := dk_104 (dk_at dksX3_copy_5 23 rfl rfl)
theorem dX3_copy_141 : decode cX3_copy 141 = .ok (.iload_n 2, 1) := dk_28 (dk_at dksX3_copy_6 0 rfl rfl)
theorem dX3_copy_142 : decode cX3_copy 142 = .ok (.iadd, 1) := dk_96 (dk_at dksX3_copy_6 1 rfl rfl)
theorem dX3_copy_143 : decode cX3_copy 143 = .ok (.iload 6, 2) := dk_21 6 (dk_at dksX3_copy_6 2 rfl rfl)
theorem dX3_copy_145 : decode cX3_copy 145 = .ok (.iadd, 1) := dk_96 (dk_at dksX3_copy_6 4 rfl rfl)
theorem dX3_copy_146 : decode cX3_copy 146 = .ok (.laload, 1) := dk_47 (dk_at dksX3_copy_6 5 rfl rfl)
theorem dX3_copy_147 : decode cX3_copy 147 = .ok (.lastore, 1) := dk_80 (dk_at dksX3_copy_6 6 rfl rfl)
theorem dX3_copy_148 : decode cX3_copy 148 = .ok (.iinc 6 1, 3) := dk_132 6 1 (dk_at dksX3_copy_6 7 rfl rfl)
theorem dX3_copy_151 : decode cX3_copy 151 = .ok (.goto (-31), 3) := dk_167 255 225 (dk_at dksX3_copy_6 10 rfl rfl)
theorem dX3_copy_154 : decode cX3_copy 154 = .ok (.iconst 0, 1) := dk_3 (dk_at dksX3_copy_6 13 rfl rfl)
theorem dX3_copy_155 : decode cX3_copy 155 = .ok (.istore 6, 2) := dk_54 6 (dk_at dksX3_copy_6 14 rfl rfl)
theorem dX3_copy_157 : decode cX3_copy 157 = .ok (.iload 6, 2) := dk_21 6 (dk_at dksX3_copy_6 16 rfl rfl)
theorem dX3_copy_159 : decode cX3_copy 159 = .ok (.iload 5, 2) := dk_21 5 (dk_at dksX3_copy_6 18 rfl rfl)
theorem dX3_copy_161 : decode cX3_copy 161 = .ok (.if_icmp .ge 31, 3) := dk_162 0 31 (dk_at dksX3_copy_6 20 rfl rfl)
theorem dX3_copy_164 : decode cX3_copy 164 = .ok (.aload_n 0, 1) := dk_42 (dk_at dksX3_copy_6 23 rfl rfl)
theorem dX3_copy_165 : decode cX3_copy 165 = .ok (.getfield 46, 3) := dk_180 0 46 (dk_at dksX3_copy_7 0 rfl rfl)
theorem dX3_copy_168 : decode cX3_copy 168 = .ok (.bipush 40, 2) := dk_16 40 (dk_at dksX3_copy_7 3 rfl rfl)
theorem dX3_copy_170 : decode cX3_copy 170 = .ok (.iload_n 3, 1) := dk_29 (dk_at dksX3_copy_7 5 rfl rfl)
theorem dX3_copy_171 : decode cX3_copy 171 = .ok (.imul, 1) := dk_104 (dk_at dksX3_copy_7 6 rfl rfl)
theorem dX3_copy_172 : decode cX3_copy 172 = .ok (.iload 4, 2) := dk_21 4 (dk_at dksX3_copy_7 7 rfl rfl)
theorem dX3_copy_174 : decode cX3_copy 174 = .ok (.iadd, 1) := dk_96 (dk_at dksX3_copy_7 9 rfl rfl)
theorem dX3_copy_175 : decode cX3_copy 175 = .ok (.iload 6, 2) := dk_21 6 (dk_at dksX3_copy_7 10 rfl rfl)
theorem dX3_copy_177 : decode cX3_copy 177 = .ok (.iadd, 1) := dk_96 (dk_at dksX3_copy_7 12 rfl rfl)
theorem dX3_copy_178 : decode cX3_copy 178 = .ok (.aload_n 0, 1) := dk_42 (dk_at dksX3_copy_7 13 rfl rfl)
theorem dX3_copy_179 : decode cX3_copy 179 = .ok (.getfield 50, 3) := dk_180 0 50 (dk_at dksX3_copy_7 14 rfl rfl)
theorem dX3_copy_182 : decode cX3_copy 182 = .ok (.iload 6, 2) := dk_21 6 (dk_at dksX3_copy_7 17 rfl rfl)
theorem dX3_copy_184 : decode cX3_copy 184 = .ok (.laload, 1) := dk_47 (dk_at dksX3_copy_7 19 rfl rfl)
theorem dX3_copy_185 : decode cX3_copy 185 = .ok (.lastore, 1) := dk_80 (dk_at dksX3_copy_7 20 rfl rfl)
theorem dX3_copy_186 : decode cX3_copy 186 = .ok (.iinc 6 1, 3) := dk_132 6 1 (dk_at dksX3_copy_7 21 rfl rfl)
theorem dX3_copy_189 : decode cX3_copy 189 = .ok (.goto (-32), 3) := dk_167 255 224 (dk_at dksX3_copy_8 0 rfl rfl)
theorem dX3_copy_192 : decode cX3_copy 192 = .ok (.iload 5, 2) := dk_21 5 (dk_at dksX3_copy_8 3 rfl rfl)
theorem dX3_copy_194 : decode cX3_copy 194 = .ok (.ireturn, 1) := dk_172 (dk_at dksX3_copy_8 5 rfl rfl)
abbrev cX3_sticks : ByteArray := prog_16_method_79_code
def yX3_sticks : MethodName := ⟨RX3, "sticks", "(I)I"⟩
def dkwX3_sticks_3 : List UInt8 := [42, 21, 4, 182, 0, 223, 133, 80, 132, 4, 1, 167, 255, 228, 29, 172]
abbrev dktX3_sticks_3 : List UInt8 := dkwX3_sticks_3 ++ []
def dkwX3_sticks_2 : List UInt8 := [42, 182, 0, 208, 3, 54, 4, 21, 4, 29, 162, 0, 28, 42, 180, 0, 46, 16, 40, 27, 104, 21, 4, 96]
abbrev dktX3_sticks_2 : List UInt8 := dkwX3_sticks_2 ++ dktX3_sticks_3
def dkwX3_sticks_1 : List UInt8 := [180, 0, 7, 4, 46, 162, 0, 12, 42, 180, 0, 43, 27, 46, 167, 0, 9, 42, 180, 0, 7, 4, 46, 62]
abbrev dktX3_sticks_1 : List UInt8 := dkwX3_sticks_1 ++ dktX3_sticks_2
def dkwX3_sticks_0 : List UInt8 := [42, 27, 182, 1, 9, 61, 28, 153, 0, 9, 42, 28, 182, 0, 59, 172, 42, 180, 0, 43, 27, 46, 42]
abbrev dktX3_sticks_0 : List UInt8 := dkwX3_sticks_0 ++ dktX3_sticks_1
theorem dksX3_sticks_0 : cX3_sticks.data.toList.drop 0 = dktX3_sticks_0 := by decide +kernel
theorem dksX3_sticks_1 : cX3_sticks.data.toList.drop 23 = dktX3_sticks_1 := dk_seg dksX3_sticks_0 23 rfl rfl
theorem dksX3_sticks_2 : cX3_sticks.data.toList.drop 47 = dktX3_sticks_2 := dk_seg dksX3_sticks_1 24 rfl rfl
theorem dksX3_sticks_3 : cX3_sticks.data.toList.drop 71 = dktX3_sticks_3 := dk_seg dksX3_sticks_2 24 rfl rfl
theorem dX3_sticks_0 : decode cX3_sticks 0 = .ok (.aload_n 0, 1) := dk_42 (dk_at dksX3_sticks_0 0 rfl rfl)
theorem dX3_sticks_1 : decode cX3_sticks 1 = .ok (.iload_n 1, 1) := dk_27 (dk_at dksX3_sticks_0 1 rfl rfl)
theorem dX3_sticks_2 : decode cX3_sticks 2 = .ok (.invokevirtual 265, 3) := dk_182 1 9 (dk_at dksX3_sticks_0 2 rfl rfl)
theorem dX3_sticks_5 : decode cX3_sticks 5 = .ok (.istore_n 2, 1) := dk_61 (dk_at dksX3_sticks_0 5 rfl rfl)
theorem dX3_sticks_6 : decode cX3_sticks 6 = .ok (.iload_n 2, 1) := dk_28 (dk_at dksX3_sticks_0 6 rfl rfl)
theorem dX3_sticks_7 : decode cX3_sticks 7 = .ok (.ifCond .eq 9, 3) := dk_153 0 9 (dk_at dksX3_sticks_0 7 rfl rfl)
theorem dX3_sticks_10 : decode cX3_sticks 10 = .ok (.aload_n 0, 1) := dk_42 (dk_at dksX3_sticks_0 10 rfl rfl)
theorem dX3_sticks_11 : decode cX3_sticks 11 = .ok (.iload_n 2, 1) := dk_28 (dk_at dksX3_sticks_0 11 rfl rfl)
theorem dX3_sticks_12 : decode cX3_sticks 12 = .ok (.invokevirtual 59, 3) := dk_182 0 59 (dk_at dksX3_sticks_0 12 rfl rfl)
theorem dX3_sticks_15 : decode cX3_sticks 15 = .ok (.ireturn, 1) := dk_172 (dk_at dksX3_sticks_0 15 rfl rfl)
theorem dX3_sticks_16 : decode cX3_sticks 16 = .ok (.aload_n 0, 1) := dk_42 (dk_at dksX3_sticks_0 16 rfl rfl)
theorem dX3_sticks_17 : decode cX3_sticks 17 = .ok (.getfield 43, 3) := dk_180 0 43 (dk_at dksX3_sticks_0 17 rfl rfl)
theorem dX3_sticks_20 : decode cX3_sticks 20 = .ok (.iload_n 1, 1) := dk_27 (dk_at dksX3_sticks_0 20 rfl rfl)
theorem dX3_sticks_21 : decode cX3_sticks 21 = .ok (.iaload, 1) := dk_46 (dk_at dksX3_sticks_0 21 rfl rfl)
theorem dX3_sticks_22 : decode cX3_sticks 22 = .ok (.aload_n 0, 1) := dk_42 (dk_at dksX3_sticks_0 22 rfl rfl)
theorem dX3_sticks_23 : decode cX3_sticks 23 = .ok (.getfield 7, 3) := dk_180 0 7 (dk_at dksX3_sticks_1 0 rfl rfl)
theorem dX3_sticks_26 : decode cX3_sticks 26 = .ok (.iconst 1, 1) := dk_4 (dk_at dksX3_sticks_1 3 rfl rfl)
theorem dX3_sticks_27 : decode cX3_sticks 27 = .ok (.iaload, 1) := dk_46 (dk_at dksX3_sticks_1 4 rfl rfl)
theorem dX3_sticks_28 : decode cX3_sticks 28 = .ok (.if_icmp .ge 12, 3) := dk_162 0 12 (dk_at dksX3_sticks_1 5 rfl rfl)
theorem dX3_sticks_31 : decode cX3_sticks 31 = .ok (.aload_n 0, 1) := dk_42 (dk_at dksX3_sticks_1 8 rfl rfl)
theorem dX3_sticks_32 : decode cX3_sticks 32 = .ok (.getfield 43, 3) := dk_180 0 43 (dk_at dksX3_sticks_1 9 rfl rfl)
theorem dX3_sticks_35 : decode cX3_sticks 35 = .ok (.iload_n 1, 1) := dk_27 (dk_at dksX3_sticks_1 12 rfl rfl)
theorem dX3_sticks_36 : decode cX3_sticks 36 = .ok (.iaload, 1) := dk_46 (dk_at dksX3_sticks_1 13 rfl rfl)
theorem dX3_sticks_37 : decode cX3_sticks 37 = .ok (.goto 9, 3) := dk_167 0 9 (dk_at dksX3_sticks_1 14 rfl rfl)
theorem dX3_sticks_40 : decode cX3_sticks 40 = .ok (.aload_n 0, 1) := dk_42 (dk_at dksX3_sticks_1 17 rfl rfl)
theorem dX3_sticks_41 : decode cX3_sticks 41 = .ok (.getfield 7, 3) := dk_180 0 7 (dk_at dksX3_sticks_1 18 rfl rfl)
theorem dX3_sticks_44 : decode cX3_sticks 44 = .ok (.iconst 1, 1) := dk_4 (dk_at dksX3_sticks_1 21 rfl rfl)
theorem dX3_sticks_45 : decode cX3_sticks 45 = .ok (.iaload, 1) := dk_46 (dk_at dksX3_sticks_1 22 rfl rfl)
theorem dX3_sticks_46 : decode cX3_sticks 46 = .ok (.istore_n 3, 1) := dk_62 (dk_at dksX3_sticks_1 23 rfl rfl)
theorem dX3_sticks_47 : decode cX3_sticks 47 = .ok (.aload_n 0, 1) := dk_42 (dk_at dksX3_sticks_2 0 rfl rfl)
theorem dX3_sticks_48 : decode cX3_sticks 48 = .ok (.invokevirtual 208, 3) := dk_182 0 208 (dk_at dksX3_sticks_2 1 rfl rfl)
theorem dX3_sticks_51 : decode cX3_sticks 51 = .ok (.iconst 0, 1) := dk_3 (dk_at dksX3_sticks_2 4 rfl rfl)
theorem dX3_sticks_52 : decode cX3_sticks 52 = .ok (.istore 4, 2) := dk_54 4 (dk_at dksX3_sticks_2 5 rfl rfl)
theorem dX3_sticks_54 : decode cX3_sticks 54 = .ok (.iload 4, 2) := dk_21 4 (dk_at dksX3_sticks_2 7 rfl rfl)
theorem dX3_sticks_56 : decode cX3_sticks 56 = .ok (.iload_n 3, 1) := dk_29 (dk_at dksX3_sticks_2 9 rfl rfl)
theorem dX3_sticks_57 : decode cX3_sticks 57 = .ok (.if_icmp .ge 28, 3) := dk_162 0 28 (dk_at dksX3_sticks_2 10 rfl rfl)
theorem dX3_sticks_60 : decode cX3_sticks 60 = .ok (.aload_n 0, 1) := dk_42 (dk_at dksX3_sticks_2 13 rfl rfl)
theorem dX3_sticks_61 : decode cX3_sticks 61 = .ok (.getfield 46, 3) := dk_180 0 46 (dk_at dksX3_sticks_2 14 rfl rfl)
theorem dX3_sticks_64 : decode cX3_sticks 64 = .ok (.bipush 40, 2) := dk_16 40 (dk_at dksX3_sticks_2 17 rfl rfl)
theorem dX3_sticks_66 : decode cX3_sticks 66 = .ok (.iload_n 1, 1) := dk_27 (dk_at dksX3_sticks_2 19 rfl rfl)
theorem dX3_sticks_67 : decode cX3_sticks 67 = .ok (.imul, 1) := dk_104 (dk_at dksX3_sticks_2 20 rfl rfl)
theorem dX3_sticks_68 : decode cX3_sticks 68 = .ok (.iload 4, 2) := dk_21 4 (dk_at dksX3_sticks_2 21 rfl rfl)
theorem dX3_sticks_70 : decode cX3_sticks 70 = .ok (.iadd, 1) := dk_96 (dk_at dksX3_sticks_2 23 rfl rfl)
theorem dX3_sticks_71 : decode cX3_sticks 71 = .ok (.aload_n 0, 1) := dk_42 (dk_at dksX3_sticks_3 0 rfl rfl)
theorem dX3_sticks_72 : decode cX3_sticks 72 = .ok (.iload 4, 2) := dk_21 4 (dk_at dksX3_sticks_3 1 rfl rfl)
theorem dX3_sticks_74 : decode cX3_sticks 74 = .ok (.invokevirtual 223, 3) := dk_182 0 223 (dk_at dksX3_sticks_3 3 rfl rfl)
theorem dX3_sticks_77 : decode cX3_sticks 77 = .ok (.i2l, 1) := dk_133 (dk_at dksX3_sticks_3 6 rfl rfl)
theorem dX3_sticks_78 : decode cX3_sticks 78 = .ok (.lastore, 1) := dk_80 (dk_at dksX3_sticks_3 7 rfl rfl)
theorem dX3_sticks_79 : decode cX3_sticks 79 = .ok (.iinc 4 1, 3) := dk_132 4 1 (dk_at dksX3_sticks_3 8 rfl rfl)
theorem dX3_sticks_82 : decode cX3_sticks 82 = .ok (.goto (-28), 3) := dk_167 255 228 (dk_at dksX3_sticks_3 11 rfl rfl)
theorem dX3_sticks_85 : decode cX3_sticks 85 = .ok (.iload_n 3, 1) := dk_29 (dk_at dksX3_sticks_3 14 rfl rfl)
theorem dX3_sticks_86 : decode cX3_sticks 86 = .ok (.ireturn, 1) := dk_172 (dk_at dksX3_sticks_3 15 rfl rfl)
abbrev cX3_lays : ByteArray := prog_16_method_80_code
def yX3_lays : MethodName := ⟨RX3, "lays", "(I)I"⟩
def dkwX3_lays_4 : List UInt8 := [167, 255, 184, 29, 172]
abbrev dktX3_lays_4 : List UInt8 := dkwX3_lays_4 ++ []
def dkwX3_lays_3 : List UInt8 := [180, 0, 7, 16, 9, 16, 8, 21, 4, 104, 96, 6, 96, 22, 5, 136, 79, 132, 3, 1, 132, 4, 1]
abbrev dktX3_lays_3 : List UInt8 := dkwX3_lays_3 ++ dktX3_lays_4
def dkwX3_lays_2 : List UInt8 := [16, 40, 27, 104, 21, 4, 96, 47, 55, 5, 22, 5, 9, 20, 0, 94, 184, 0, 54, 153, 0, 24, 42]
abbrev dktX3_lays_2 : List UInt8 := dkwX3_lays_2 ++ dktX3_lays_3
def dkwX3_lays_1 : List UInt8 := [180, 0, 43, 27, 46, 162, 0, 67, 21, 4, 42, 180, 0, 7, 4, 46, 162, 0, 56, 42, 180, 0, 46]
abbrev dktX3_lays_1 : List UInt8 := dkwX3_lays_1 ++ dktX3_lays_2
def dkwX3_lays_0 : List UInt8 := [42, 27, 182, 1, 9, 61, 28, 153, 0, 9, 42, 28, 182, 0, 59, 172, 3, 62, 3, 54, 4, 21, 4, 42]
abbrev dktX3_lays_0 : List UInt8 := dkwX3_lays_0 ++ dktX3_lays_1
theorem dksX3_lays_0 : cX3_lays.data.toList.drop 0 = dktX3_lays_0 := by decide +kernel
theorem dksX3_lays_1 : cX3_lays.data.toList.drop 24 = dktX3_lays_1 := dk_seg dksX3_lays_0 24 rfl rfl
theorem dksX3_lays_2 : cX3_lays.data.toList.drop 47 = dktX3_lays_2 := dk_seg dksX3_lays_1 23 rfl rfl
theorem dksX3_lays_3 : cX3_lays.data.toList.drop 70 = dktX3_lays_3 := dk_seg dksX3_lays_2 23 rfl rfl
theorem dksX3_lays_4 : cX3_lays.data.toList.drop 93 = dktX3_lays_4 := dk_seg dksX3_lays_3 23 rfl rfl
theorem dX3_lays_0 : decode cX3_lays 0 = .ok (.aload_n 0, 1) := dk_42 (dk_at dksX3_lays_0 0 rfl rfl)
theorem dX3_lays_1 : decode cX3_lays 1 = .ok (.iload_n 1, 1) := dk_27 (dk_at dksX3_lays_0 1 rfl rfl)
theorem dX3_lays_2 : decode cX3_lays 2 = .ok (.invokevirtual 265, 3) := dk_182 1 9 (dk_at dksX3_lays_0 2 rfl rfl)
theorem dX3_lays_5 : decode cX3_lays 5 = .ok (.istore_n 2, 1) := dk_61 (dk_at dksX3_lays_0 5 rfl rfl)
theorem dX3_lays_6 : decode cX3_lays 6 = .ok (.iload_n 2, 1) := dk_28 (dk_at dksX3_lays_0 6 rfl rfl)
theorem dX3_lays_7 : decode cX3_lays 7 = .ok (.ifCond .eq 9, 3) := dk_153 0 9 (dk_at dksX3_lays_0 7 rfl rfl)
theorem dX3_lays_10 : decode cX3_lays 10 = .ok (.aload_n 0, 1) := dk_42 (dk_at dksX3_lays_0 10 rfl rfl)
theorem dX3_lays_11 : decode cX3_lays 11 = .ok (.iload_n 2, 1) := dk_28 (dk_at dksX3_lays_0 11 rfl rfl)
theorem dX3_lays_12 : decode cX3_lays 12 = .ok (.invokevirtual 59, 3) := dk_182 0 59 (dk_at dksX3_lays_0 12 rfl rfl)
theorem dX3_lays_15 : decode cX3_lays 15 = .ok (.ireturn, 1) := dk_172 (dk_at dksX3_lays_0 15 rfl rfl)
theorem dX3_lays_16 : decode cX3_lays 16 = .ok (.iconst 0, 1) := dk_3 (dk_at dksX3_lays_0 16 rfl rfl)
theorem dX3_lays_17 : decode cX3_lays 17 = .ok (.istore_n 3, 1) := dk_62 (dk_at dksX3_lays_0 17 rfl rfl)
theorem dX3_lays_18 : decode cX3_lays 18 = .ok (.iconst 0, 1) := dk_3 (dk_at dksX3_lays_0 18 rfl rfl)
theorem dX3_lays_19 : decode cX3_lays 19 = .ok (.istore 4, 2) := dk_54 4 (dk_at dksX3_lays_0 19 rfl rfl)
theorem dX3_lays_21 : decode cX3_lays 21 = .ok (.iload 4, 2) := dk_21 4 (dk_at dksX3_lays_0 21 rfl rfl)
theorem dX3_lays_23 : decode cX3_lays 23 = .ok (.aload_n 0, 1) := dk_42 (dk_at dksX3_lays_0 23 rfl rfl)
theorem dX3_lays_24 : decode cX3_lays 24 = .ok (.getfield 43, 3) := dk_180 0 43 (dk_at dksX3_lays_1 0 rfl rfl)
theorem dX3_lays_27 : decode cX3_lays 27 = .ok (.iload_n 1, 1) := dk_27 (dk_at dksX3_lays_1 3 rfl rfl)
theorem dX3_lays_28 : decode cX3_lays 28 = .ok (.iaload, 1) := dk_46 (dk_at dksX3_lays_1 4 rfl rfl)
theorem dX3_lays_29 : decode cX3_lays 29 = .ok (.if_icmp .ge 67, 3) := dk_162 0 67 (dk_at dksX3_lays_1 5 rfl rfl)
theorem dX3_lays_32 : decode cX3_lays 32 = .ok (.iload 4, 2) := dk_21 4 (dk_at dksX3_lays_1 8 rfl rfl)
theorem dX3_lays_34 : decode cX3_lays 34 = .ok (.aload_n 0, 1) := dk_42 (dk_at dksX3_lays_1 10 rfl rfl)
theorem dX3_lays_35 : decode cX3_lays 35 = .ok (.getfield 7, 3) := dk_180 0 7 (dk_at dksX3_lays_1 11 rfl rfl)
theorem dX3_lays_38 : decode cX3_lays 38 = .ok (.iconst 1, 1) := dk_4 (dk_at dksX3_lays_1 14 rfl rfl)
theorem dX3_lays_39 : decode cX3_lays 39 = .ok (.iaload, 1) := dk_46 (dk_at dksX3_lays_1 15 rfl rfl)
theorem dX3_lays_40 : decode cX3_lays 40 = .ok (.if_icmp .ge 56, 3) := dk_162 0 56 (dk_at dksX3_lays_1 16 rfl rfl)
theorem dX3_lays_43 : decode cX3_lays 43 = .ok (.aload_n 0, 1) := dk_42 (dk_at dksX3_lays_1 19 rfl rfl)
theorem dX3_lays_44 : decode cX3_lays 44 = .ok (.getfield 46, 3) := dk_180 0 46 (dk_at dksX3_lays_1 20 rfl rfl)
theorem dX3_lays_47 : decode cX3_lays 47 = .ok (.bipush 40, 2) := dk_16 40 (dk_at dksX3_lays_2 0 rfl rfl)
theorem dX3_lays_49 : decode cX3_lays 49 = .ok (.iload_n 1, 1) := dk_27 (dk_at dksX3_lays_2 2 rfl rfl)
theorem dX3_lays_50 : decode cX3_lays 50 = .ok (.imul, 1) := dk_104 (dk_at dksX3_lays_2 3 rfl rfl)
theorem dX3_lays_51 : decode cX3_lays 51 = .ok (.iload 4, 2) := dk_21 4 (dk_at dksX3_lays_2 4 rfl rfl)
theorem dX3_lays_53 : decode cX3_lays 53 = .ok (.iadd, 1) := dk_96 (dk_at dksX3_lays_2 6 rfl rfl)
theorem dX3_lays_54 : decode cX3_lays 54 = .ok (.laload, 1) := dk_47 (dk_at dksX3_lays_2 7 rfl rfl)
theorem dX3_lays_55 : decode cX3_lays 55 = .ok (.lstore 5, 2) := dk_55 5 (dk_at dksX3_lays_2 8 rfl rfl)
theorem dX3_lays_57 : decode cX3_lays 57 = .ok (.lload 5, 2) := dk_22 5 (dk_at dksX3_lays_2 10 rfl rfl)
theorem dX3_lays_59 : decode cX3_lays 59 = .ok (.lconst 0, 1) := dk_9 (dk_at dksX3_lays_2 12 rfl rfl)
theorem dX3_lays_60 : decode cX3_lays 60 = .ok (.ldc2_w 94, 3) := dk_20 0 94 (dk_at dksX3_lays_2 13 rfl rfl)
theorem dX3_lays_63 : decode cX3_lays 63 = .ok (.invokestatic 54, 3) := dk_184 0 54 (dk_at dksX3_lays_2 16 rfl rfl)
theorem dX3_lays_66 : decode cX3_lays 66 = .ok (.ifCond .eq 24, 3) := dk_153 0 24 (dk_at dksX3_lays_2 19 rfl rfl)
theorem dX3_lays_69 : decode cX3_lays 69 = .ok (.aload_n 0, 1) := dk_42 (dk_at dksX3_lays_2 22 rfl rfl)
theorem dX3_lays_70 : decode cX3_lays 70 = .ok (.getfield 7, 3) := dk_180 0 7 (dk_at dksX3_lays_3 0 rfl rfl)
theorem dX3_lays_73 : decode cX3_lays 73 = .ok (.bipush 9, 2) := dk_16 9 (dk_at dksX3_lays_3 3 rfl rfl)
theorem dX3_lays_75 : decode cX3_lays 75 = .ok (.bipush 8, 2) := dk_16 8 (dk_at dksX3_lays_3 5 rfl rfl)
theorem dX3_lays_77 : decode cX3_lays 77 = .ok (.iload 4, 2) := dk_21 4 (dk_at dksX3_lays_3 7 rfl rfl)
theorem dX3_lays_79 : decode cX3_lays 79 = .ok (.imul, 1) := dk_104 (dk_at dksX3_lays_3 9 rfl rfl)
theorem dX3_lays_80 : decode cX3_lays 80 = .ok (.iadd, 1) := dk_96 (dk_at dksX3_lays_3 10 rfl rfl)
theorem dX3_lays_81 : decode cX3_lays 81 = .ok (.iconst 3, 1) := dk_6 (dk_at dksX3_lays_3 11 rfl rfl)
theorem dX3_lays_82 : decode cX3_lays 82 = .ok (.iadd, 1) := dk_96 (dk_at dksX3_lays_3 12 rfl rfl)
theorem dX3_lays_83 : decode cX3_lays 83 = .ok (.lload 5, 2) := dk_22 5 (dk_at dksX3_lays_3 13 rfl rfl)
theorem dX3_lays_85 : decode cX3_lays 85 = .ok (.l2i, 1) := dk_136 (dk_at dksX3_lays_3 15 rfl rfl)
theorem dX3_lays_86 : decode cX3_lays 86 = .ok (.iastore, 1) := dk_79 (dk_at dksX3_lays_3 16 rfl rfl)
theorem dX3_lays_87 : decode cX3_lays 87 = .ok (.iinc 3 1, 3) := dk_132 3 1 (dk_at dksX3_lays_3 17 rfl rfl)
theorem dX3_lays_90 : decode cX3_lays 90 = .ok (.iinc 4 1, 3) := dk_132 4 1 (dk_at dksX3_lays_3 20 rfl rfl)
theorem dX3_lays_93 : decode cX3_lays 93 = .ok (.goto (-72), 3) := dk_167 255 184 (dk_at dksX3_lays_4 0 rfl rfl)
theorem dX3_lays_96 : decode cX3_lays 96 = .ok (.iload_n 3, 1) := dk_29 (dk_at dksX3_lays_4 3 rfl rfl)
theorem dX3_lays_97 : decode cX3_lays 97 = .ok (.ireturn, 1) := dk_172 (dk_at dksX3_lays_4 4 rfl rfl)
abbrev cX3_read : ByteArray := prog_16_method_81_code
def yX3_read : MethodName := ⟨RX3, "read", "(I)I"⟩
def dkwX3_read_3 : List UInt8 := [172]
abbrev dktX3_read_3 : List UInt8 := dkwX3_read_3 ++ []
def dkwX3_read_2 : List UInt8 := [29, 96, 47, 42, 29, 182, 0, 211, 133, 148, 153, 0, 7, 29, 4, 96, 172, 132, 3, 1, 167, 255, 210, 3]
abbrev dktX3_read_2 : List UInt8 := dkwX3_read_2 ++ dktX3_read_3
def dkwX3_read_1 : List UInt8 := [180, 0, 43, 27, 46, 162, 0, 42, 42, 29, 182, 0, 83, 153, 0, 24, 42, 180, 0, 46, 16, 40, 27, 104]
abbrev dktX3_read_1 : List UInt8 := dkwX3_read_1 ++ dktX3_read_2
def dkwX3_read_0 : List UInt8 := [42, 27, 182, 1, 9, 61, 28, 153, 0, 9, 42, 28, 182, 0, 59, 172, 42, 182, 0, 208, 3, 62, 29, 42]
abbrev dktX3_read_0 : List UInt8 := dkwX3_read_0 ++ dktX3_read_1
theorem dksX3_read_0 : cX3_read.data.toList.drop 0 = dktX3_read_0 := by decide +kernel
theorem dksX3_read_1 : cX3_read.data.toList.drop 24 = dktX3_read_1 := dk_seg dksX3_read_0 24 rfl rfl
theorem dksX3_read_2 : cX3_read.data.toList.drop 48 = dktX3_read_2 := dk_seg dksX3_read_1 24 rfl rfl
theorem dksX3_read_3 : cX3_read.data.toList.drop 72 = dktX3_read_3 := dk_seg dksX3_read_2 24 rfl rfl
theorem dX3_read_0 : decode cX3_read 0 = .ok (.aload_n 0, 1) := dk_42 (dk_at dksX3_read_0 0 rfl rfl)
theorem dX3_read_1 : decode cX3_read 1 = .ok (.iload_n 1, 1) := dk_27 (dk_at dksX3_read_0 1 rfl rfl)
theorem dX3_read_2 : decode cX3_read 2 = .ok (.invokevirtual 265, 3) := dk_182 1 9 (dk_at dksX3_read_0 2 rfl rfl)
theorem dX3_read_5 : decode cX3_read 5 = .ok (.istore_n 2, 1) := dk_61 (dk_at dksX3_read_0 5 rfl rfl)
theorem dX3_read_6 : decode cX3_read 6 = .ok (.iload_n 2, 1) := dk_28 (dk_at dksX3_read_0 6 rfl rfl)
theorem dX3_read_7 : decode cX3_read 7 = .ok (.ifCond .eq 9, 3) := dk_153 0 9 (dk_at dksX3_read_0 7 rfl rfl)
theorem dX3_read_10 : decode cX3_read 10 = .ok (.aload_n 0, 1) := dk_42 (dk_at dksX3_read_0 10 rfl rfl)
theorem dX3_read_11 : decode cX3_read 11 = .ok (.iload_n 2, 1) := dk_28 (dk_at dksX3_read_0 11 rfl rfl)
theorem dX3_read_12 : decode cX3_read 12 = .ok (.invokevirtual 59, 3) := dk_182 0 59 (dk_at dksX3_read_0 12 rfl rfl)
theorem dX3_read_15 : decode cX3_read 15 = .ok (.ireturn, 1) := dk_172 (dk_at dksX3_read_0 15 rfl rfl)
theorem dX3_read_16 : decode cX3_read 16 = .ok (.aload_n 0, 1) := dk_42 (dk_at dksX3_read_0 16 rfl rfl)
theorem dX3_read_17 : decode cX3_read 17 = .ok (.invokevirtual 208, 3) := dk_182 0 208 (dk_at dksX3_read_0 17 rfl rfl)
theorem dX3_read_20 : decode cX3_read 20 = .ok (.iconst 0, 1) := dk_3 (dk_at dksX3_read_0 20 rfl rfl)
theorem dX3_read_21 : decode cX3_read 21 = .ok (.istore_n 3, 1) := dk_62 (dk_at dksX3_read_0 21 rfl rfl)
theorem dX3_read_22 : decode cX3_read 22 = .ok (.iload_n 3, 1) := dk_29 (dk_at dksX3_read_0 22 rfl rfl)
theorem dX3_read_23 : decode cX3_read 23 = .ok (.aload_n 0, 1) := dk_42 (dk_at dksX3_read_0 23 rfl rfl)
theorem dX3_read_24 : decode cX3_read 24 = .ok (.getfield 43, 3) := dk_180 0 43 (dk_at dksX3_read_1 0 rfl rfl)
theorem dX3_read_27 : decode cX3_read 27 = .ok (.iload_n 1, 1) := dk_27 (dk_at dksX3_read_1 3 rfl rfl)
theorem dX3_read_28 : decode cX3_read 28 = .ok (.iaload, 1) := dk_46 (dk_at dksX3_read_1 4 rfl rfl)
theorem dX3_read_29 : decode cX3_read 29 = .ok (.if_icmp .ge 42, 3) := dk_162 0 42 (dk_at dksX3_read_1 5 rfl rfl)
theorem dX3_read_32 : decode cX3_read 32 = .ok (.aload_n 0, 1) := dk_42 (dk_at dksX3_read_1 8 rfl rfl)
theorem dX3_read_33 : decode cX3_read 33 = .ok (.iload_n 3, 1) := dk_29 (dk_at dksX3_read_1 9 rfl rfl)
theorem dX3_read_34 : decode cX3_read 34 = .ok (.invokevirtual 83, 3) := dk_182 0 83 (dk_at dksX3_read_1 10 rfl rfl)
theorem dX3_read_37 : decode cX3_read 37 = .ok (.ifCond .eq 24, 3) := dk_153 0 24 (dk_at dksX3_read_1 13 rfl rfl)
theorem dX3_read_40 : decode cX3_read 40 = .ok (.aload_n 0, 1) := dk_42 (dk_at dksX3_read_1 16 rfl rfl)
theorem dX3_read_41 : decode cX3_read 41 = .ok (.getfield 46, 3) := dk_180 0 46 (dk_at dksX3_read_1 17 rfl rfl)
theorem dX3_read_44 : decode cX3_read 44 = .ok (.bipush 40, 2) := dk_16 40 (dk_at dksX3_read_1 20 rfl rfl)
theorem dX3_read_46 : decode cX3_read 46 = .ok (.iload_n 1, 1) := dk_27 (dk_at dksX3_read_1 22 rfl rfl)
theorem dX3_read_47 : decode cX3_read 47 = .ok (.imul, 1) := dk_104 (dk_at dksX3_read_1 23 rfl rfl)
theorem dX3_read_48 : decode cX3_read 48 = .ok (.iload_n 3, 1) := dk_29 (dk_at dksX3_read_2 0 rfl rfl)
theorem dX3_read_49 : decode cX3_read 49 = .ok (.iadd, 1) := dk_96 (dk_at dksX3_read_2 1 rfl rfl)
theorem dX3_read_50 : decode cX3_read 50 = .ok (.laload, 1) := dk_47 (dk_at dksX3_read_2 2 rfl rfl)
theorem dX3_read_51 : decode cX3_read 51 = .ok (.aload_n 0, 1) := dk_42 (dk_at dksX3_read_2 3 rfl rfl)
theorem dX3_read_52 : decode cX3_read 52 = .ok (.iload_n 3, 1) := dk_29 (dk_at dksX3_read_2 4 rfl rfl)
theorem dX3_read_53 : decode cX3_read 53 = .ok (.invokevirtual 211, 3) := dk_182 0 211 (dk_at dksX3_read_2 5 rfl rfl)
theorem dX3_read_56 : decode cX3_read 56 = .ok (.i2l, 1) := dk_133 (dk_at dksX3_read_2 8 rfl rfl)
theorem dX3_read_57 : decode cX3_read 57 = .ok (.lcmp, 1) := dk_148 (dk_at dksX3_read_2 9 rfl rfl)
theorem dX3_read_58 : decode cX3_read 58 = .ok (.ifCond .eq 7, 3) := dk_153 0 7 (dk_at dksX3_read_2 10 rfl rfl)
theorem dX3_read_61 : decode cX3_read 61 = .ok (.iload_n 3, 1) := dk_29 (dk_at dksX3_read_2 13 rfl rfl)
theorem dX3_read_62 : decode cX3_read 62 = .ok (.iconst 1, 1) := dk_4 (dk_at dksX3_read_2 14 rfl rfl)
theorem dX3_read_63 : decode cX3_read 63 = .ok (.iadd, 1) := dk_96 (dk_at dksX3_read_2 15 rfl rfl)
theorem dX3_read_64 : decode cX3_read 64 = .ok (.ireturn, 1) := dk_172 (dk_at dksX3_read_2 16 rfl rfl)
theorem dX3_read_65 : decode cX3_read 65 = .ok (.iinc 3 1, 3) := dk_132 3 1 (dk_at dksX3_read_2 17 rfl rfl)
theorem dX3_read_68 : decode cX3_read 68 = .ok (.goto (-46), 3) := dk_167 255 210 (dk_at dksX3_read_2 20 rfl rfl)
theorem dX3_read_71 : decode cX3_read 71 = .ok (.iconst 0, 1) := dk_3 (dk_at dksX3_read_2 23 rfl rfl)
theorem dX3_read_72 : decode cX3_read 72 = .ok (.ireturn, 1) := dk_172 (dk_at dksX3_read_3 0 rfl rfl)
abbrev cX3_image : ByteArray := prog_16_method_82_code
def yX3_image : MethodName := ⟨RX3, "image", "()I"⟩
def dkwX3_image_1 : List UInt8 := [167, 255, 234, 42, 4, 181, 1, 16, 4, 172]
abbrev dktX3_image_1 : List UInt8 := dkwX3_image_1 ++ []
def dkwX3_image_0 : List UInt8 := [3, 60, 27, 17, 0, 169, 162, 0, 21, 42, 180, 0, 13, 27, 42, 180, 0, 7, 27, 46, 79, 132, 1, 1]
abbrev dktX3_image_0 : List UInt8 := dkwX3_image_0 ++ dktX3_image_1
theorem dksX3_image_0 : cX3_image.data.toList.drop 0 = dktX3_image_0 := by decide +kernel
theorem dksX3_image_1 : cX3_image.data.toList.drop 24 = dktX3_image_1 := dk_seg dksX3_image_0 24 rfl rfl
theorem dX3_image_0 : decode cX3_image 0 = .ok (.iconst 0, 1) := dk_3 (dk_at dksX3_image_0 0 rfl rfl)
theorem dX3_image_1 : decode cX3_image 1 = .ok (.istore_n 1, 1) := dk_60 (dk_at dksX3_image_0 1 rfl rfl)
theorem dX3_image_2 : decode cX3_image 2 = .ok (.iload_n 1, 1) := dk_27 (dk_at dksX3_image_0 2 rfl rfl)
theorem dX3_image_3 : decode cX3_image 3 = .ok (.sipush 169, 3) := dk_17 0 169 (dk_at dksX3_image_0 3 rfl rfl)
theorem dX3_image_6 : decode cX3_image 6 = .ok (.if_icmp .ge 21, 3) := dk_162 0 21 (dk_at dksX3_image_0 6 rfl rfl)
theorem dX3_image_9 : decode cX3_image 9 = .ok (.aload_n 0, 1) := dk_42 (dk_at dksX3_image_0 9 rfl rfl)
theorem dX3_image_10 : decode cX3_image 10 = .ok (.getfield 13, 3) := dk_180 0 13 (dk_at dksX3_image_0 10 rfl rfl)
theorem dX3_image_13 : decode cX3_image 13 = .ok (.iload_n 1, 1) := dk_27 (dk_at dksX3_image_0 13 rfl rfl)
theorem dX3_image_14 : decode cX3_image 14 = .ok (.aload_n 0, 1) := dk_42 (dk_at dksX3_image_0 14 rfl rfl)
theorem dX3_image_15 : decode cX3_image 15 = .ok (.getfield 7, 3) := dk_180 0 7 (dk_at dksX3_image_0 15 rfl rfl)
theorem dX3_image_18 : decode cX3_image 18 = .ok (.iload_n 1, 1) := dk_27 (dk_at dksX3_image_0 18 rfl rfl)
theorem dX3_image_19 : decode cX3_image 19 = .ok (.iaload, 1) := dk_46 (dk_at dksX3_image_0 19 rfl rfl)
theorem dX3_image_20 : decode cX3_image 20 = .ok (.iastore, 1) := dk_79 (dk_at dksX3_image_0 20 rfl rfl)
theorem dX3_image_21 : decode cX3_image 21 = .ok (.iinc 1 1, 3) := dk_132 1 1 (dk_at dksX3_image_0 21 rfl rfl)
theorem dX3_image_24 : decode cX3_image 24 = .ok (.goto (-22), 3) := dk_167 255 234 (dk_at dksX3_image_1 0 rfl rfl)
theorem dX3_image_27 : decode cX3_image 27 = .ok (.aload_n 0, 1) := dk_42 (dk_at dksX3_image_1 3 rfl rfl)
theorem dX3_image_28 : decode cX3_image 28 = .ok (.iconst 1, 1) := dk_4 (dk_at dksX3_image_1 4 rfl rfl)
theorem dX3_image_29 : decode cX3_image 29 = .ok (.putfield 272, 3) := dk_181 1 16 (dk_at dksX3_image_1 5 rfl rfl)
theorem dX3_image_32 : decode cX3_image 32 = .ok (.iconst 1, 1) := dk_4 (dk_at dksX3_image_1 8 rfl rfl)
theorem dX3_image_33 : decode cX3_image 33 = .ok (.ireturn, 1) := dk_172 (dk_at dksX3_image_1 9 rfl rfl)
abbrev cX3_undo : ByteArray := prog_16_method_83_code
def yX3_undo : MethodName := ⟨RX3, "undo", "()I"⟩
def dkwX3_undo_1 : List UInt8 := [180, 0, 7, 27, 42, 180, 0, 13, 27, 46, 79, 132, 1, 1, 167, 255, 234, 42, 180, 0, 7, 4, 46, 172]
abbrev dktX3_undo_1 : List UInt8 := dkwX3_undo_1 ++ []
def dkwX3_undo_0 : List UInt8 := [42, 180, 1, 16, 154, 0, 10, 42, 18, 230, 182, 0, 59, 172, 3, 60, 27, 17, 0, 169, 162, 0, 21, 42]
abbrev dktX3_undo_0 : List UInt8 := dkwX3_undo_0 ++ dktX3_undo_1
theorem dksX3_undo_0 : cX3_undo.data.toList.drop 0 = dktX3_undo_0 := by decide +kernel
theorem dksX3_undo_1 : cX3_undo.data.toList.drop 24 = dktX3_undo_1 := dk_seg dksX3_undo_0 24 rfl rfl
theorem dX3_undo_0 : decode cX3_undo 0 = .ok (.aload_n 0, 1) := dk_42 (dk_at dksX3_undo_0 0 rfl rfl)
theorem dX3_undo_1 : decode cX3_undo 1 = .ok (.getfield 272, 3) := dk_180 1 16 (dk_at dksX3_undo_0 1 rfl rfl)
theorem dX3_undo_4 : decode cX3_undo 4 = .ok (.ifCond .ne 10, 3) := dk_154 0 10 (dk_at dksX3_undo_0 4 rfl rfl)
theorem dX3_undo_7 : decode cX3_undo 7 = .ok (.aload_n 0, 1) := dk_42 (dk_at dksX3_undo_0 7 rfl rfl)
theorem dX3_undo_8 : decode cX3_undo 8 = .ok (.ldc 230, 2) := dk_18 230 (dk_at dksX3_undo_0 8 rfl rfl)
theorem dX3_undo_10 : decode cX3_undo 10 = .ok (.invokevirtual 59, 3) := dk_182 0 59 (dk_at dksX3_undo_0 10 rfl rfl)
theorem dX3_undo_13 : decode cX3_undo 13 = .ok (.ireturn, 1) := dk_172 (dk_at dksX3_undo_0 13 rfl rfl)
theorem dX3_undo_14 : decode cX3_undo 14 = .ok (.iconst 0, 1) := dk_3 (dk_at dksX3_undo_0 14 rfl rfl)
theorem dX3_undo_15 : decode cX3_undo 15 = .ok (.istore_n 1, 1) := dk_60 (dk_at dksX3_undo_0 15 rfl rfl)
theorem dX3_undo_16 : decode cX3_undo 16 = .ok (.iload_n 1, 1) := dk_27 (dk_at dksX3_undo_0 16 rfl rfl)
theorem dX3_undo_17 : decode cX3_undo 17 = .ok (.sipush 169, 3) := dk_17 0 169 (dk_at dksX3_undo_0 17 rfl rfl)
theorem dX3_undo_20 : decode cX3_undo 20 = .ok (.if_icmp .ge 21, 3) := dk_162 0 21 (dk_at dksX3_undo_0 20 rfl rfl)
theorem dX3_undo_23 : decode cX3_undo 23 = .ok (.aload_n 0, 1) := dk_42 (dk_at dksX3_undo_0 23 rfl rfl)
theorem dX3_undo_24 : decode cX3_undo 24 = .ok (.getfield 7, 3) := dk_180 0 7 (dk_at dksX3_undo_1 0 rfl rfl)
theorem dX3_undo_27 : decode cX3_undo 27 = .ok (.iload_n 1, 1) := dk_27 (dk_at dksX3_undo_1 3 rfl rfl)
theorem dX3_undo_28 : decode cX3_undo 28 = .ok (.aload_n 0, 1) := dk_42 (dk_at dksX3_undo_1 4 rfl rfl)
theorem dX3_undo_29 : decode cX3_undo 29 = .ok (.getfield 13, 3) := dk_180 0 13 (dk_at dksX3_undo_1 5 rfl rfl)
theorem dX3_undo_32 : decode cX3_undo 32 = .ok (.iload_n 1, 1) := dk_27 (dk_at dksX3_undo_1 8 rfl rfl)
theorem dX3_undo_33 : decode cX3_undo 33 = .ok (.iaload, 1) := dk_46 (dk_at dksX3_undo_1 9 rfl rfl)
theorem dX3_undo_34 : decode cX3_undo 34 = .ok (.iastore, 1) := dk_79 (dk_at dksX3_undo_1 10 rfl rfl)
theorem dX3_undo_35 : decode cX3_undo 35 = .ok (.iinc 1 1, 3) := dk_132 1 1 (dk_at dksX3_undo_1 11 rfl rfl)
theorem dX3_undo_38 : decode cX3_undo 38 = .ok (.goto (-22), 3) := dk_167 255 234 (dk_at dksX3_undo_1 14 rfl rfl)
theorem dX3_undo_41 : decode cX3_undo 41 = .ok (.aload_n 0, 1) := dk_42 (dk_at dksX3_undo_1 17 rfl rfl)
theorem dX3_undo_42 : decode cX3_undo 42 = .ok (.getfield 7, 3) := dk_180 0 7 (dk_at dksX3_undo_1 18 rfl rfl)
theorem dX3_undo_45 : decode cX3_undo 45 = .ok (.iconst 1, 1) := dk_4 (dk_at dksX3_undo_1 21 rfl rfl)
theorem dX3_undo_46 : decode cX3_undo 46 = .ok (.iaload, 1) := dk_46 (dk_at dksX3_undo_1 22 rfl rfl)
theorem dX3_undo_47 : decode cX3_undo 47 = .ok (.ireturn, 1) := dk_172 (dk_at dksX3_undo_1 23 rfl rfl)
abbrev cX3_tear : ByteArray := prog_16_method_84_code
def yX3_tear : MethodName := ⟨RX3, "tear", "()I"⟩
def dkwX3_tear_0 : List UInt8 := [42, 180, 1, 16, 153, 0, 7, 4, 167, 0, 4, 3, 60, 42, 3, 181, 1, 16, 27, 172]
abbrev dktX3_tear_0 : List UInt8 := dkwX3_tear_0 ++ []
theorem dksX3_tear_0 : cX3_tear.data.toList.drop 0 = dktX3_tear_0 := by decide +kernel
theorem dX3_tear_0 : decode cX3_tear 0 = .ok (.aload_n 0, 1) := dk_42 (dk_at dksX3_tear_0 0 rfl rfl)
theorem dX3_tear_1 : decode cX3_tear 1 = .ok (.getfield 272, 3) := dk_180 1 16 (dk_at dksX3_tear_0 1 rfl rfl)
theorem dX3_tear_4 : decode cX3_tear 4 = .ok (.ifCond .eq 7, 3) := dk_153 0 7 (dk_at dksX3_tear_0 4 rfl rfl)
theorem dX3_tear_7 : decode cX3_tear 7 = .ok (.iconst 1, 1) := dk_4 (dk_at dksX3_tear_0 7 rfl rfl)
theorem dX3_tear_8 : decode cX3_tear 8 = .ok (.goto 4, 3) := dk_167 0 4 (dk_at dksX3_tear_0 8 rfl rfl)
theorem dX3_tear_11 : decode cX3_tear 11 = .ok (.iconst 0, 1) := dk_3 (dk_at dksX3_tear_0 11 rfl rfl)
theorem dX3_tear_12 : decode cX3_tear 12 = .ok (.istore_n 1, 1) := dk_60 (dk_at dksX3_tear_0 12 rfl rfl)
theorem dX3_tear_13 : decode cX3_tear 13 = .ok (.aload_n 0, 1) := dk_42 (dk_at dksX3_tear_0 13 rfl rfl)
theorem dX3_tear_14 : decode cX3_tear 14 = .ok (.iconst 0, 1) := dk_3 (dk_at dksX3_tear_0 14 rfl rfl)
theorem dX3_tear_15 : decode cX3_tear 15 = .ok (.putfield 272, 3) := dk_181 1 16 (dk_at dksX3_tear_0 15 rfl rfl)
theorem dX3_tear_18 : decode cX3_tear 18 = .ok (.iload_n 1, 1) := dk_27 (dk_at dksX3_tear_0 18 rfl rfl)
theorem dX3_tear_19 : decode cX3_tear 19 = .ok (.ireturn, 1) := dk_172 (dk_at dksX3_tear_0 19 rfl rfl)
abbrev cX3_count : ByteArray := prog_16_method_85_code
def yX3_count : MethodName := ⟨RX3, "count", "(I)I"⟩
def dkwX3_count_7 : List UInt8 := [16, 6, 182, 0, 79, 96, 61, 132, 3, 1, 167, 255, 218, 28, 172, 42, 18, 53, 182, 0, 59, 172]
abbrev dktX3_count_7 : List UInt8 := dkwX3_count_7 ++ []
def dkwX3_count_6 : List UInt8 := [4, 46, 162, 0, 34, 28, 42, 29, 16, 7, 182, 0, 79, 4, 160, 0, 7, 3, 167, 0, 10, 42, 29]
abbrev dktX3_count_6 : List UInt8 := dkwX3_count_6 ++ dktX3_count_7
def dkwX3_count_5 : List UInt8 := [28, 42, 29, 6, 182, 0, 79, 96, 61, 132, 3, 1, 167, 255, 234, 28, 172, 3, 62, 29, 42, 180, 0, 7]
abbrev dktX3_count_5 : List UInt8 := dkwX3_count_5 ++ dktX3_count_6
def dkwX3_count_4 : List UInt8 := [180, 0, 108, 172, 42, 180, 0, 7, 16, 8, 46, 172, 3, 62, 29, 42, 180, 0, 7, 4, 46, 162, 0, 18]
abbrev dktX3_count_4 : List UInt8 := dkwX3_count_4 ++ dktX3_count_5
def dkwX3_count_3 : List UInt8 := [162, 0, 21, 28, 4, 42, 29, 16, 7, 182, 0, 79, 100, 96, 61, 132, 3, 1, 167, 255, 231, 28, 172, 42]
abbrev dktX3_count_3 : List UInt8 := dkwX3_count_3 ++ dktX3_count_4
def dkwX3_count_2 : List UInt8 := [42, 180, 0, 7, 3, 46, 172, 42, 180, 0, 7, 4, 46, 172, 3, 62, 29, 42, 180, 0, 7, 4, 46]
abbrev dktX3_count_2 : List UInt8 := dkwX3_count_2 ++ dktX3_count_3
def dkwX3_count_1 : List UInt8 := [170, 0, 0, 0, 174, 0, 0, 0, 0, 0, 0, 0, 6, 0, 0, 0, 41, 0, 0, 0, 48, 0, 0, 0, 55, 0, 0, 0, 87, 0, 0, 0, 92, 0, 0, 0, 100, 0, 0, 0, 129]
abbrev dktX3_count_1 : List UInt8 := dkwX3_count_1 ++ dktX3_count_2
def dkwX3_count_0 : List UInt8 := [3, 61, 27]
abbrev dktX3_count_0 : List UInt8 := dkwX3_count_0 ++ dktX3_count_1
theorem dksX3_count_0 : cX3_count.data.toList.drop 0 = dktX3_count_0 := by decide +kernel
theorem dksX3_count_1 : cX3_count.data.toList.drop 3 = dktX3_count_1 := dk_seg dksX3_count_0 3 rfl rfl
theorem dksX3_count_2 : cX3_count.data.toList.drop 44 = dktX3_count_2 := dk_seg dksX3_count_1 41 rfl rfl
theorem dksX3_count_3 : cX3_count.data.toList.drop 67 = dktX3_count_3 := dk_seg dksX3_count_2 23 rfl rfl
theorem dksX3_count_4 : cX3_count.data.toList.drop 91 = dktX3_count_4 := dk_seg dksX3_count_3 24 rfl rfl
theorem dksX3_count_5 : cX3_count.data.toList.drop 115 = dktX3_count_5 := dk_seg dksX3_count_4 24 rfl rfl
theorem dksX3_count_6 : cX3_count.data.toList.drop 139 = dktX3_count_6 := dk_seg dksX3_count_5 24 rfl rfl
theorem dksX3_count_7 : cX3_count.data.toList.drop 162 = dktX3_count_7 := dk_seg dksX3_count_6 23 rfl rfl
theorem dX3_count_0 : decode cX3_count 0 = .ok (.iconst 0, 1) := dk_3 (dk_at dksX3_count_0 0 rfl rfl)
theorem dX3_count_1 : decode cX3_count 1 = .ok (.istore_n 2, 1) := dk_61 (dk_at dksX3_count_0 1 rfl rfl)
theorem dX3_count_2 : decode cX3_count 2 = .ok (.iload_n 1, 1) := dk_27 (dk_at dksX3_count_0 2 rfl rfl)
theorem dX3_count_3 : decode cX3_count 3 = .ok (.tableswitch 174 0 6 #[41, 48, 55, 87, 92, 100, 129], 41) := by decide +kernel
theorem dX3_count_44 : decode cX3_count 44 = .ok (.aload_n 0, 1) := dk_42 (dk_at dksX3_count_2 0 rfl rfl)
theorem dX3_count_45 : decode cX3_count 45 = .ok (.getfield 7, 3) := dk_180 0 7 (dk_at dksX3_count_2 1 rfl rfl)
theorem dX3_count_48 : decode cX3_count 48 = .ok (.iconst 0, 1) := dk_3 (dk_at dksX3_count_2 4 rfl rfl)
theorem dX3_count_49 : decode cX3_count 49 = .ok (.iaload, 1) := dk_46 (dk_at dksX3_count_2 5 rfl rfl)
theorem dX3_count_50 : decode cX3_count 50 = .ok (.ireturn, 1) := dk_172 (dk_at dksX3_count_2 6 rfl rfl)
theorem dX3_count_51 : decode cX3_count 51 = .ok (.aload_n 0, 1) := dk_42 (dk_at dksX3_count_2 7 rfl rfl)
theorem dX3_count_52 : decode cX3_count 52 = .ok (.getfield 7, 3) := dk_180 0 7 (dk_at dksX3_count_2 8 rfl rfl)
theorem dX3_count_55 : decode cX3_count 55 = .ok (.iconst 1, 1) := dk_4 (dk_at dksX3_count_2 11 rfl rfl)
theorem dX3_count_56 : decode cX3_count 56 = .ok (.iaload, 1) := dk_46 (dk_at dksX3_count_2 12 rfl rfl)
theorem dX3_count_57 : decode cX3_count 57 = .ok (.ireturn, 1) := dk_172 (dk_at dksX3_count_2 13 rfl rfl)
theorem dX3_count_58 : decode cX3_count 58 = .ok (.iconst 0, 1) := dk_3 (dk_at dksX3_count_2 14 rfl rfl)
theorem dX3_count_59 : decode cX3_count 59 = .ok (.istore_n 3, 1) := dk_62 (dk_at dksX3_count_2 15 rfl rfl)
theorem dX3_count_60 : decode cX3_count 60 = .ok (.iload_n 3, 1) := dk_29 (dk_at dksX3_count_2 16 rfl rfl)
theorem dX3_count_61 : decode cX3_count 61 = .ok (.aload_n 0, 1) := dk_42 (dk_at dksX3_count_2 17 rfl rfl)
theorem dX3_count_62 : decode cX3_count 62 = .ok (.getfield 7, 3) := dk_180 0 7 (dk_at dksX3_count_2 18 rfl rfl)
theorem dX3_count_65 : decode cX3_count 65 = .ok (.iconst 1, 1) := dk_4 (dk_at dksX3_count_2 21 rfl rfl)
theorem dX3_count_66 : decode cX3_count 66 = .ok (.iaload, 1) := dk_46 (dk_at dksX3_count_2 22 rfl rfl)
theorem dX3_count_67 : decode cX3_count 67 = .ok (.if_icmp .ge 21, 3) := dk_162 0 21 (dk_at dksX3_count_3 0 rfl rfl)
theorem dX3_count_70 : decode cX3_count 70 = .ok (.iload_n 2, 1) := dk_28 (dk_at dksX3_count_3 3 rfl rfl)
theorem dX3_count_71 : decode cX3_count 71 = .ok (.iconst 1, 1) := dk_4 (dk_at dksX3_count_3 4 rfl rfl)
theorem dX3_count_72 : decode cX3_count 72 = .ok (.aload_n 0, 1) := dk_42 (dk_at dksX3_count_3 5 rfl rfl)
theorem dX3_count_73 : decode cX3_count 73 = .ok (.iload_n 3, 1) := dk_29 (dk_at dksX3_count_3 6 rfl rfl)
theorem dX3_count_74 : decode cX3_count 74 = .ok (.bipush 7, 2) := dk_16 7 (dk_at dksX3_count_3 7 rfl rfl)
theorem dX3_count_76 : decode cX3_count 76 = .ok (.invokevirtual 79, 3) := dk_182 0 79 (dk_at dksX3_count_3 9 rfl rfl)
theorem dX3_count_79 : decode cX3_count 79 = .ok (.isub, 1) := dk_100 (dk_at dksX3_count_3 12 rfl rfl)
theorem dX3_count_80 : decode cX3_count 80 = .ok (.iadd, 1) := dk_96 (dk_at dksX3_count_3 13 rfl rfl)
theorem dX3_count_81 : decode cX3_count 81 = .ok (.istore_n 2, 1) := dk_61 (dk_at dksX3_count_3 14 rfl rfl)
theorem dX3_count_82 : decode cX3_count 82 = .ok (.iinc 3 1, 3) := dk_132 3 1 (dk_at dksX3_count_3 15 rfl rfl)
theorem dX3_count_85 : decode cX3_count 85 = .ok (.goto (-25), 3) := dk_167 255 231 (dk_at dksX3_count_3 18 rfl rfl)
theorem dX3_count_88 : decode cX3_count 88 = .ok (.iload_n 2, 1) := dk_28 (dk_at dksX3_count_3 21 rfl rfl)
theorem dX3_count_89 : decode cX3_count 89 = .ok (.ireturn, 1) := dk_172 (dk_at dksX3_count_3 22 rfl rfl)
theorem dX3_count_90 : decode cX3_count 90 = .ok (.aload_n 0, 1) := dk_42 (dk_at dksX3_count_3 23 rfl rfl)
theorem dX3_count_91 : decode cX3_count 91 = .ok (.getfield 108, 3) := dk_180 0 108 (dk_at dksX3_count_4 0 rfl rfl)
theorem dX3_count_94 : decode cX3_count 94 = .ok (.ireturn, 1) := dk_172 (dk_at dksX3_count_4 3 rfl rfl)
theorem dX3_count_95 : decode cX3_count 95 = .ok (.aload_n 0, 1) := dk_42 (dk_at dksX3_count_4 4 rfl rfl)
theorem dX3_count_96 : decode cX3_count 96 = .ok (.getfield 7, 3) := dk_180 0 7 (dk_at dksX3_count_4 5 rfl rfl)
theorem dX3_count_99 : decode cX3_count 99 = .ok (.bipush 8, 2) := dk_16 8 (dk_at dksX3_count_4 8 rfl rfl)
theorem dX3_count_101 : decode cX3_count 101 = .ok (.iaload, 1) := dk_46 (dk_at dksX3_count_4 10 rfl rfl)
theorem dX3_count_102 : decode cX3_count 102 = .ok (.ireturn, 1) := dk_172 (dk_at dksX3_count_4 11 rfl rfl)
theorem dX3_count_103 : decode cX3_count 103 = .ok (.iconst 0, 1) := dk_3 (dk_at dksX3_count_4 12 rfl rfl)
theorem dX3_count_104 : decode cX3_count 104 = .ok (.istore_n 3, 1) := dk_62 (dk_at dksX3_count_4 13 rfl rfl)
theorem dX3_count_105 : decode cX3_count 105 = .ok (.iload_n 3, 1) := dk_29 (dk_at dksX3_count_4 14 rfl rfl)
theorem dX3_count_106 : decode cX3_count 106 = .ok (.aload_n 0, 1) := dk_42 (dk_at dksX3_count_4 15 rfl rfl)
theorem dX3_count_107 : decode cX3_count 107 = .ok (.getfield 7, 3) := dk_180 0 7 (dk_at dksX3_count_4 16 rfl rfl)
theorem dX3_count_110 : decode cX3_count 110 = .ok (.iconst 1, 1) := dk_4 (dk_at dksX3_count_4 19 rfl rfl)
theorem dX3_count_111 : decode cX3_count 111 = .ok (.iaload, 1) := dk_46 (dk_at dksX3_count_4 20 rfl rfl)
theorem dX3_count_112 : decode cX3_count 112 = .ok (.if_icmp .ge 18, 3) := dk_162 0 18 (dk_at dksX3_count_4 21 rfl rfl)
theorem dX3_count_115 : decode cX3_count 115 = .ok (.iload_n 2, 1) := dk_28 (dk_at dksX3_count_5 0 rfl rfl)
theorem dX3_count_116 : decode cX3_count 116 = .ok (.aload_n 0, 1) := dk_42 (dk_at dksX3_count_5 1 rfl rfl)
theorem dX3_count_117 : decode cX3_count 117 = .ok (.iload_n 3, 1) := dk_29 (dk_at dksX3_count_5 2 rfl rfl)
theorem dX3_count_118 : decode cX3_count 118 = .ok (.iconst 3, 1) := dk_6 (dk_at dksX3_count_5 3 rfl rfl)
theorem dX3_count_119 : decode cX3_count 119 = .ok (.invokevirtual 79, 3) := dk_182 0 79 (dk_at dksX3_count_5 4 rfl rfl)
theorem dX3_count_122 : decode cX3_count 122 = .ok (.iadd, 1) := dk_96 (dk_at dksX3_count_5 7 rfl rfl)
theorem dX3_count_123 : decode cX3_count 123 = .ok (.istore_n 2, 1) := dk_61 (dk_at dksX3_count_5 8 rfl rfl)
theorem dX3_count_124 : decode cX3_count 124 = .ok (.iinc 3 1, 3) := dk_132 3 1 (dk_at dksX3_count_5 9 rfl rfl)
theorem dX3_count_127 : decode cX3_count 127 = .ok (.goto (-22), 3) := dk_167 255 234 (dk_at dksX3_count_5 12 rfl rfl)
theorem dX3_count_130 : decode cX3_count 130 = .ok (.iload_n 2, 1) := dk_28 (dk_at dksX3_count_5 15 rfl rfl)
theorem dX3_count_131 : decode cX3_count 131 = .ok (.ireturn, 1) := dk_172 (dk_at dksX3_count_5 16 rfl rfl)
theorem dX3_count_132 : decode cX3_count 132 = .ok (.iconst 0, 1) := dk_3 (dk_at dksX3_count_5 17 rfl rfl)
theorem dX3_count_133 : decode cX3_count 133 = .ok (.istore_n 3, 1) := dk_62 (dk_at dksX3_count_5 18 rfl rfl)
theorem dX3_count_134 : decode cX3_count 134 = .ok (.iload_n 3, 1) := dk_29 (dk_at dksX3_count_5 19 rfl rfl)
theorem dX3_count_135 : decode cX3_count 135 = .ok (.aload_n 0, 1) := dk_42 (dk_at dksX3_count_5 20 rfl rfl)
theorem dX3_count_136 : decode cX3_count 136 = .ok (.getfield 7, 3) := dk_180 0 7 (dk_at dksX3_count_5 21 rfl rfl)
theorem dX3_count_139 : decode cX3_count 139 = .ok (.iconst 1, 1) := dk_4 (dk_at dksX3_count_6 0 rfl rfl)
theorem dX3_count_140 : decode cX3_count 140 = .ok (.iaload, 1) := dk_46 (dk_at dksX3_count_6 1 rfl rfl)
theorem dX3_count_141 : decode cX3_count 141 = .ok (.if_icmp .ge 34, 3) := dk_162 0 34 (dk_at dksX3_count_6 2 rfl rfl)
theorem dX3_count_144 : decode cX3_count 144 = .ok (.iload_n 2, 1) := dk_28 (dk_at dksX3_count_6 5 rfl rfl)
theorem dX3_count_145 : decode cX3_count 145 = .ok (.aload_n 0, 1) := dk_42 (dk_at dksX3_count_6 6 rfl rfl)
theorem dX3_count_146 : decode cX3_count 146 = .ok (.iload_n 3, 1) := dk_29 (dk_at dksX3_count_6 7 rfl rfl)
theorem dX3_count_147 : decode cX3_count 147 = .ok (.bipush 7, 2) := dk_16 7 (dk_at dksX3_count_6 8 rfl rfl)
theorem dX3_count_149 : decode cX3_count 149 = .ok (.invokevirtual 79, 3) := dk_182 0 79 (dk_at dksX3_count_6 10 rfl rfl)
theorem dX3_count_152 : decode cX3_count 152 = .ok (.iconst 1, 1) := dk_4 (dk_at dksX3_count_6 13 rfl rfl)
theorem dX3_count_153 : decode cX3_count 153 = .ok (.if_icmp .ne 7, 3) := dk_160 0 7 (dk_at dksX3_count_6 14 rfl rfl)
theorem dX3_count_156 : decode cX3_count 156 = .ok (.iconst 0, 1) := dk_3 (dk_at dksX3_count_6 17 rfl rfl)
theorem dX3_count_157 : decode cX3_count 157 = .ok (.goto 10, 3) := dk_167 0 10 (dk_at dksX3_count_6 18 rfl rfl)
theorem dX3_count_160 : decode cX3_count 160 = .ok (.aload_n 0, 1) := dk_42 (dk_at dksX3_count_6 21 rfl rfl)
theorem dX3_count_161 : decode cX3_count 161 = .ok (.iload_n 3, 1) := dk_29 (dk_at dksX3_count_6 22 rfl rfl)
theorem dX3_count_162 : decode cX3_count 162 = .ok (.bipush 6, 2) := dk_16 6 (dk_at dksX3_count_7 0 rfl rfl)
theorem dX3_count_164 : decode cX3_count 164 = .ok (.invokevirtual 79, 3) := dk_182 0 79 (dk_at dksX3_count_7 2 rfl rfl)
theorem dX3_count_167 : decode cX3_count 167 = .ok (.iadd, 1) := dk_96 (dk_at dksX3_count_7 5 rfl rfl)
theorem dX3_count_168 : decode cX3_count 168 = .ok (.istore_n 2, 1) := dk_61 (dk_at dksX3_count_7 6 rfl rfl)
theorem dX3_count_169 : decode cX3_count 169 = .ok (.iinc 3 1, 3) := dk_132 3 1 (dk_at dksX3_count_7 7 rfl rfl)
theorem dX3_count_172 : decode cX3_count 172 = .ok (.goto (-38), 3) := dk_167 255 218 (dk_at dksX3_count_7 10 rfl rfl)
theorem dX3_count_175 : decode cX3_count 175 = .ok (.iload_n 2, 1) := dk_28 (dk_at dksX3_count_7 13 rfl rfl)
theorem dX3_count_176 : decode cX3_count 176 = .ok (.ireturn, 1) := dk_172 (dk_at dksX3_count_7 14 rfl rfl)
theorem dX3_count_177 : decode cX3_count 177 = .ok (.aload_n 0, 1) := dk_42 (dk_at dksX3_count_7 15 rfl rfl)
theorem dX3_count_178 : decode cX3_count 178 = .ok (.ldc 53, 2) := dk_18 53 (dk_at dksX3_count_7 16 rfl rfl)
theorem dX3_count_180 : decode cX3_count 180 = .ok (.invokevirtual 59, 3) := dk_182 0 59 (dk_at dksX3_count_7 18 rfl rfl)
theorem dX3_count_183 : decode cX3_count 183 = .ok (.ireturn, 1) := dk_172 (dk_at dksX3_count_7 21 rfl rfl)
abbrev cX3_status : ByteArray := prog_16_method_86_code
def yX3_status : MethodName := ⟨RX3, "status", "(I)I"⟩
def dkwX3_status_2 : List UInt8 := [167, 0, 4, 3, 96, 61, 132, 3, 1, 167, 255, 225, 28, 172]
abbrev dktX3_status_2 : List UInt8 := dkwX3_status_2 ++ []
def dkwX3_status_1 : List UInt8 := [62, 29, 16, 7, 162, 0, 31, 28, 27, 155, 0, 8, 29, 27, 160, 0, 12, 42, 180, 0, 19, 29, 46]
abbrev dktX3_status_1 : List UInt8 := dkwX3_status_1 ++ dktX3_status_2
def dkwX3_status_0 : List UInt8 := [27, 133, 20, 1, 19, 20, 1, 21, 184, 0, 54, 154, 0, 10, 42, 18, 53, 182, 0, 59, 172, 3, 61, 3]
abbrev dktX3_status_0 : List UInt8 := dkwX3_status_0 ++ dktX3_status_1
theorem dksX3_status_0 : cX3_status.data.toList.drop 0 = dktX3_status_0 := by decide +kernel
theorem dksX3_status_1 : cX3_status.data.toList.drop 24 = dktX3_status_1 := dk_seg dksX3_status_0 24 rfl rfl
theorem dksX3_status_2 : cX3_status.data.toList.drop 47 = dktX3_status_2 := dk_seg dksX3_status_1 23 rfl rfl
theorem dX3_status_0 : decode cX3_status 0 = .ok (.iload_n 1, 1) := dk_27 (dk_at dksX3_status_0 0 rfl rfl)
theorem dX3_status_1 : decode cX3_status 1 = .ok (.i2l, 1) := dk_133 (dk_at dksX3_status_0 1 rfl rfl)
theorem dX3_status_2 : decode cX3_status 2 = .ok (.ldc2_w 275, 3) := dk_20 1 19 (dk_at dksX3_status_0 2 rfl rfl)
theorem dX3_status_5 : decode cX3_status 5 = .ok (.ldc2_w 277, 3) := dk_20 1 21 (dk_at dksX3_status_0 5 rfl rfl)
theorem dX3_status_8 : decode cX3_status 8 = .ok (.invokestatic 54, 3) := dk_184 0 54 (dk_at dksX3_status_0 8 rfl rfl)
theorem dX3_status_11 : decode cX3_status 11 = .ok (.ifCond .ne 10, 3) := dk_154 0 10 (dk_at dksX3_status_0 11 rfl rfl)
theorem dX3_status_14 : decode cX3_status 14 = .ok (.aload_n 0, 1) := dk_42 (dk_at dksX3_status_0 14 rfl rfl)
theorem dX3_status_15 : decode cX3_status 15 = .ok (.ldc 53, 2) := dk_18 53 (dk_at dksX3_status_0 15 rfl rfl)
theorem dX3_status_17 : decode cX3_status 17 = .ok (.invokevirtual 59, 3) := dk_182 0 59 (dk_at dksX3_status_0 17 rfl rfl)
theorem dX3_status_20 : decode cX3_status 20 = .ok (.ireturn, 1) := dk_172 (dk_at dksX3_status_0 20 rfl rfl)
theorem dX3_status_21 : decode cX3_status 21 = .ok (.iconst 0, 1) := dk_3 (dk_at dksX3_status_0 21 rfl rfl)
theorem dX3_status_22 : decode cX3_status 22 = .ok (.istore_n 2, 1) := dk_61 (dk_at dksX3_status_0 22 rfl rfl)
theorem dX3_status_23 : decode cX3_status 23 = .ok (.iconst 0, 1) := dk_3 (dk_at dksX3_status_0 23 rfl rfl)
theorem dX3_status_24 : decode cX3_status 24 = .ok (.istore_n 3, 1) := dk_62 (dk_at dksX3_status_1 0 rfl rfl)
theorem dX3_status_25 : decode cX3_status 25 = .ok (.iload_n 3, 1) := dk_29 (dk_at dksX3_status_1 1 rfl rfl)
theorem dX3_status_26 : decode cX3_status 26 = .ok (.bipush 7, 2) := dk_16 7 (dk_at dksX3_status_1 2 rfl rfl)
theorem dX3_status_28 : decode cX3_status 28 = .ok (.if_icmp .ge 31, 3) := dk_162 0 31 (dk_at dksX3_status_1 4 rfl rfl)
theorem dX3_status_31 : decode cX3_status 31 = .ok (.iload_n 2, 1) := dk_28 (dk_at dksX3_status_1 7 rfl rfl)
theorem dX3_status_32 : decode cX3_status 32 = .ok (.iload_n 1, 1) := dk_27 (dk_at dksX3_status_1 8 rfl rfl)
theorem dX3_status_33 : decode cX3_status 33 = .ok (.ifCond .lt 8, 3) := dk_155 0 8 (dk_at dksX3_status_1 9 rfl rfl)
theorem dX3_status_36 : decode cX3_status 36 = .ok (.iload_n 3, 1) := dk_29 (dk_at dksX3_status_1 12 rfl rfl)
theorem dX3_status_37 : decode cX3_status 37 = .ok (.iload_n 1, 1) := dk_27 (dk_at dksX3_status_1 13 rfl rfl)
theorem dX3_status_38 : decode cX3_status 38 = .ok (.if_icmp .ne 12, 3) := dk_160 0 12 (dk_at dksX3_status_1 14 rfl rfl)
theorem dX3_status_41 : decode cX3_status 41 = .ok (.aload_n 0, 1) := dk_42 (dk_at dksX3_status_1 17 rfl rfl)
theorem dX3_status_42 : decode cX3_status 42 = .ok (.getfield 19, 3) := dk_180 0 19 (dk_at dksX3_status_1 18 rfl rfl)
theorem dX3_status_45 : decode cX3_status 45 = .ok (.iload_n 3, 1) := dk_29 (dk_at dksX3_status_1 21 rfl rfl)
theorem dX3_status_46 : decode cX3_status 46 = .ok (.iaload, 1) := dk_46 (dk_at dksX3_status_1 22 rfl rfl)
theorem dX3_status_47 : decode cX3_status 47 = .ok (.goto 4, 3) := dk_167 0 4 (dk_at dksX3_status_2 0 rfl rfl)
theorem dX3_status_50 : decode cX3_status 50 = .ok (.iconst 0, 1) := dk_3 (dk_at dksX3_status_2 3 rfl rfl)
theorem dX3_status_51 : decode cX3_status 51 = .ok (.iadd, 1) := dk_96 (dk_at dksX3_status_2 4 rfl rfl)
theorem dX3_status_52 : decode cX3_status 52 = .ok (.istore_n 2, 1) := dk_61 (dk_at dksX3_status_2 5 rfl rfl)
theorem dX3_status_53 : decode cX3_status 53 = .ok (.iinc 3 1, 3) := dk_132 3 1 (dk_at dksX3_status_2 6 rfl rfl)
theorem dX3_status_56 : decode cX3_status 56 = .ok (.goto (-31), 3) := dk_167 255 225 (dk_at dksX3_status_2 9 rfl rfl)
theorem dX3_status_59 : decode cX3_status 59 = .ok (.iload_n 2, 1) := dk_28 (dk_at dksX3_status_2 12 rfl rfl)
theorem dX3_status_60 : decode cX3_status 60 = .ok (.ireturn, 1) := dk_172 (dk_at dksX3_status_2 13 rfl rfl)
theorem q70 : (Jvm.Cond.initialized "SmokeLeansModel") ∈ lw_all := lw_g (lw_at lw_m1 4 rfl) rfl
theorem q995 : (Jvm.Cond.instantiable "SmokeLeansModel" (23 : Nat)) ∈ lw_all := lw_g (lw_at lw_m4 209 rfl) rfl
theorem q997 : (Jvm.Cond.instanceMethod ({ cls := "SmokeLeansModel", name := "<init>", desc := "()V" } : Jvm.MethodName)) ∈ lw_all := lw_g (lw_at lw_m4 211 rfl) rfl
theorem q998 : (Jvm.Cond.code ({ cls := "SmokeLeansModel", name := "<init>", desc := "()V" } : Jvm.MethodName) prog_16_method_1_code (1 : Nat) (Option.none : Option Jvm.ClassFile.FieldType)) ∈ lw_all := lw_g (lw_at lw_m4 212 rfl) rfl
theorem q999 : (Jvm.Cond.methodLink "SmokeLeansModel" (1 : Nat) ({ cls := "java/lang/Object", name := "<init>", desc := "()V" } : Jvm.MethodName)) ∈ lw_all := lw_g (lw_at lw_m4 213 rfl) rfl
theorem q1000 : (Jvm.Cond.fieldLink "SmokeLeansModel" (7 : Nat) "SmokeLeansModel" "s" "[I") ∈ lw_all := lw_g (lw_at lw_m4 214 rfl) rfl
theorem q1001 : (Jvm.Cond.fieldLink "SmokeLeansModel" (13 : Nat) "SmokeLeansModel" "keptS" "[I") ∈ lw_all := lw_g (lw_at lw_m4 215 rfl) rfl
theorem q1002 : (Jvm.Cond.fieldLink "SmokeLeansModel" (16 : Nat) "SmokeLeansModel" "other" "[I") ∈ lw_all := lw_g (lw_at lw_m4 216 rfl) rfl
theorem q1003 : (Jvm.Cond.fieldLink "SmokeLeansModel" (19 : Nat) "SmokeLeansModel" "statuses" "[I") ∈ lw_all := lw_g (lw_at lw_m4 217 rfl) rfl
theorem q1004 : (Jvm.Cond.fieldLink "SmokeLeansModel" (272 : Nat) "SmokeLeansModel" "isKept" "Z") ∈ lw_all := lw_g (lw_at lw_m4 218 rfl) rfl
theorem q1005 : (Jvm.Cond.fieldLink "SmokeLeansModel" (22 : Nat) "SmokeLeansModel" "tape" "[I") ∈ lw_all := lw_g (lw_at lw_m4 219 rfl) rfl
theorem q1006 : (Jvm.Cond.fieldLink "SmokeLeansModel" (108 : Nat) "SmokeLeansModel" "taped" "I") ∈ lw_all := lw_g (lw_at lw_m4 220 rfl) rfl
theorem q1007 : (Jvm.Cond.fieldLink "SmokeLeansModel" (123 : Nat) "SmokeLeansModel" "from" "I") ∈ lw_all := lw_g (lw_at lw_m4 221 rfl) rfl
theorem q1008 : (Jvm.Cond.fieldLink "SmokeLeansModel" (120 : Nat) "SmokeLeansModel" "to" "I") ∈ lw_all := lw_g (lw_at lw_m4 222 rfl) rfl
theorem q1009 : (Jvm.Cond.fieldLink "SmokeLeansModel" (146 : Nat) "SmokeLeansModel" "value" "I") ∈ lw_all := lw_g (lw_at lw_m4 223 rfl) rfl
theorem q1010 : (Jvm.Cond.fieldLink "SmokeLeansModel" (135 : Nat) "SmokeLeansModel" "isWrong" "Z") ∈ lw_all := lw_g (lw_at lw_m4 224 rfl) rfl
theorem q1011 : (Jvm.Cond.fieldLink "SmokeLeansModel" (25 : Nat) "SmokeLeansModel" "pressures" "[I") ∈ lw_all := lw_g (lw_at lw_m4 225 rfl) rfl
theorem q1012 : (Jvm.Cond.fieldLink "SmokeLeansModel" (28 : Nat) "SmokeLeansModel" "now" "[I") ∈ lw_all := lw_g (lw_at lw_m4 226 rfl) rfl
theorem q1013 : (Jvm.Cond.fieldLink "SmokeLeansModel" (189 : Nat) "SmokeLeansModel" "roundMany" "I") ∈ lw_all := lw_g (lw_at lw_m4 227 rfl) rfl
theorem q1014 : (Jvm.Cond.fieldLink "SmokeLeansModel" (196 : Nat) "SmokeLeansModel" "isRestless" "Z") ∈ lw_all := lw_g (lw_at lw_m4 228 rfl) rfl
theorem q1015 : (Jvm.Cond.fieldLink "SmokeLeansModel" (31 : Nat) "SmokeLeansModel" "ordered" "[I") ∈ lw_all := lw_g (lw_at lw_m4 229 rfl) rfl
theorem q1016 : (Jvm.Cond.fieldLink "SmokeLeansModel" (34 : Nat) "SmokeLeansModel" "savings" "[I") ∈ lw_all := lw_g (lw_at lw_m4 230 rfl) rfl
theorem q1017 : (Jvm.Cond.fieldLink "SmokeLeansModel" (247 : Nat) "SmokeLeansModel" "orderMany" "I") ∈ lw_all := lw_g (lw_at lw_m4 231 rfl) rfl
theorem q1018 : (Jvm.Cond.fieldLink "SmokeLeansModel" (37 : Nat) "SmokeLeansModel" "leans" "[I") ∈ lw_all := lw_g (lw_at lw_m4 232 rfl) rfl
theorem q1019 : (Jvm.Cond.fieldLink "SmokeLeansModel" (40 : Nat) "SmokeLeansModel" "bitsOf" "[I") ∈ lw_all := lw_g (lw_at lw_m4 233 rfl) rfl
theorem q1020 : (Jvm.Cond.fieldLink "SmokeLeansModel" (43 : Nat) "SmokeLeansModel" "sizeOf" "[I") ∈ lw_all := lw_g (lw_at lw_m4 234 rfl) rfl
theorem q1021 : (Jvm.Cond.fieldLink "SmokeLeansModel" (46 : Nat) "SmokeLeansModel" "number" "[J") ∈ lw_all := lw_g (lw_at lw_m4 235 rfl) rfl
theorem q1022 : (Jvm.Cond.fieldLink "SmokeLeansModel" (50 : Nat) "SmokeLeansModel" "moved" "[J") ∈ lw_all := lw_g (lw_at lw_m4 236 rfl) rfl
theorem q1023 : (Jvm.Cond.laysFinal "SmokeLeansModel" "SmokeLeansModel" "s" "[I") ∈ lw_all := lw_g (lw_at lw_m4 237 rfl) rfl
theorem q1024 : (Jvm.Cond.soleField "SmokeLeansModel" "s") ∈ lw_all := lw_g (lw_at lw_m4 238 rfl) rfl
theorem q1025 : (Jvm.Cond.laysFinal "SmokeLeansModel" "SmokeLeansModel" "keptS" "[I") ∈ lw_all := lw_g (lw_at lw_m4 239 rfl) rfl
theorem q1026 : (Jvm.Cond.soleField "SmokeLeansModel" "keptS") ∈ lw_all := lw_g (lw_at lw_m5 0 rfl) rfl
theorem q1027 : (Jvm.Cond.laysFinal "SmokeLeansModel" "SmokeLeansModel" "other" "[I") ∈ lw_all := lw_g (lw_at lw_m5 1 rfl) rfl
theorem q1028 : (Jvm.Cond.soleField "SmokeLeansModel" "other") ∈ lw_all := lw_g (lw_at lw_m5 2 rfl) rfl
theorem q1029 : (Jvm.Cond.laysFinal "SmokeLeansModel" "SmokeLeansModel" "statuses" "[I") ∈ lw_all := lw_g (lw_at lw_m5 3 rfl) rfl
theorem q1030 : (Jvm.Cond.soleField "SmokeLeansModel" "statuses") ∈ lw_all := lw_g (lw_at lw_m5 4 rfl) rfl
theorem q1031 : (Jvm.Cond.lays "SmokeLeansModel" "SmokeLeansModel" "isKept" "Z") ∈ lw_all := lw_g (lw_at lw_m5 5 rfl) rfl
theorem q1032 : (Jvm.Cond.soleField "SmokeLeansModel" "isKept") ∈ lw_all := lw_g (lw_at lw_m5 6 rfl) rfl
theorem q1033 : (Jvm.Cond.laysFinal "SmokeLeansModel" "SmokeLeansModel" "tape" "[I") ∈ lw_all := lw_g (lw_at lw_m5 7 rfl) rfl
theorem q1034 : (Jvm.Cond.soleField "SmokeLeansModel" "tape") ∈ lw_all := lw_g (lw_at lw_m5 8 rfl) rfl
theorem q1035 : (Jvm.Cond.lays "SmokeLeansModel" "SmokeLeansModel" "taped" "I") ∈ lw_all := lw_g (lw_at lw_m5 9 rfl) rfl
theorem q1036 : (Jvm.Cond.soleField "SmokeLeansModel" "taped") ∈ lw_all := lw_g (lw_at lw_m5 10 rfl) rfl
theorem q1037 : (Jvm.Cond.lays "SmokeLeansModel" "SmokeLeansModel" "from" "I") ∈ lw_all := lw_g (lw_at lw_m5 11 rfl) rfl
theorem q1038 : (Jvm.Cond.soleField "SmokeLeansModel" "from") ∈ lw_all := lw_g (lw_at lw_m5 12 rfl) rfl
theorem q1039 : (Jvm.Cond.lays "SmokeLeansModel" "SmokeLeansModel" "to" "I") ∈ lw_all := lw_g (lw_at lw_m5 13 rfl) rfl
theorem q1040 : (Jvm.Cond.soleField "SmokeLeansModel" "to") ∈ lw_all := lw_g (lw_at lw_m5 14 rfl) rfl
theorem q1041 : (Jvm.Cond.lays "SmokeLeansModel" "SmokeLeansModel" "value" "I") ∈ lw_all := lw_g (lw_at lw_m5 15 rfl) rfl
theorem q1042 : (Jvm.Cond.soleField "SmokeLeansModel" "value") ∈ lw_all := lw_g (lw_at lw_m5 16 rfl) rfl
theorem q1043 : (Jvm.Cond.lays "SmokeLeansModel" "SmokeLeansModel" "isWrong" "Z") ∈ lw_all := lw_g (lw_at lw_m5 17 rfl) rfl
theorem q1044 : (Jvm.Cond.soleField "SmokeLeansModel" "isWrong") ∈ lw_all := lw_g (lw_at lw_m5 18 rfl) rfl
theorem q1045 : (Jvm.Cond.laysFinal "SmokeLeansModel" "SmokeLeansModel" "pressures" "[I") ∈ lw_all := lw_g (lw_at lw_m5 19 rfl) rfl
theorem q1046 : (Jvm.Cond.soleField "SmokeLeansModel" "pressures") ∈ lw_all := lw_g (lw_at lw_m5 20 rfl) rfl
theorem q1047 : (Jvm.Cond.laysFinal "SmokeLeansModel" "SmokeLeansModel" "now" "[I") ∈ lw_all := lw_g (lw_at lw_m5 21 rfl) rfl
theorem q1048 : (Jvm.Cond.soleField "SmokeLeansModel" "now") ∈ lw_all := lw_g (lw_at lw_m5 22 rfl) rfl
theorem q1049 : (Jvm.Cond.lays "SmokeLeansModel" "SmokeLeansModel" "roundMany" "I") ∈ lw_all := lw_g (lw_at lw_m5 23 rfl) rfl
theorem q1050 : (Jvm.Cond.soleField "SmokeLeansModel" "roundMany") ∈ lw_all := lw_g (lw_at lw_m5 24 rfl) rfl
theorem q1051 : (Jvm.Cond.lays "SmokeLeansModel" "SmokeLeansModel" "isRestless" "Z") ∈ lw_all := lw_g (lw_at lw_m5 25 rfl) rfl
theorem q1052 : (Jvm.Cond.soleField "SmokeLeansModel" "isRestless") ∈ lw_all := lw_g (lw_at lw_m5 26 rfl) rfl
theorem q1053 : (Jvm.Cond.laysFinal "SmokeLeansModel" "SmokeLeansModel" "ordered" "[I") ∈ lw_all := lw_g (lw_at lw_m5 27 rfl) rfl
theorem q1054 : (Jvm.Cond.soleField "SmokeLeansModel" "ordered") ∈ lw_all := lw_g (lw_at lw_m5 28 rfl) rfl
theorem q1055 : (Jvm.Cond.laysFinal "SmokeLeansModel" "SmokeLeansModel" "savings" "[I") ∈ lw_all := lw_g (lw_at lw_m5 29 rfl) rfl
theorem q1056 : (Jvm.Cond.soleField "SmokeLeansModel" "savings") ∈ lw_all := lw_g (lw_at lw_m5 30 rfl) rfl
theorem q1057 : (Jvm.Cond.lays "SmokeLeansModel" "SmokeLeansModel" "orderMany" "I") ∈ lw_all := lw_g (lw_at lw_m5 31 rfl) rfl
theorem q1058 : (Jvm.Cond.soleField "SmokeLeansModel" "orderMany") ∈ lw_all := lw_g (lw_at lw_m5 32 rfl) rfl
theorem q1059 : (Jvm.Cond.laysFinal "SmokeLeansModel" "SmokeLeansModel" "leans" "[I") ∈ lw_all := lw_g (lw_at lw_m5 33 rfl) rfl
theorem q1060 : (Jvm.Cond.soleField "SmokeLeansModel" "leans") ∈ lw_all := lw_g (lw_at lw_m5 34 rfl) rfl
theorem q1061 : (Jvm.Cond.laysFinal "SmokeLeansModel" "SmokeLeansModel" "bitsOf" "[I") ∈ lw_all := lw_g (lw_at lw_m5 35 rfl) rfl
theorem q1062 : (Jvm.Cond.soleField "SmokeLeansModel" "bitsOf") ∈ lw_all := lw_g (lw_at lw_m5 36 rfl) rfl
theorem q1063 : (Jvm.Cond.laysFinal "SmokeLeansModel" "SmokeLeansModel" "sizeOf" "[I") ∈ lw_all := lw_g (lw_at lw_m5 37 rfl) rfl
theorem q1064 : (Jvm.Cond.soleField "SmokeLeansModel" "sizeOf") ∈ lw_all := lw_g (lw_at lw_m5 38 rfl) rfl
theorem q1065 : (Jvm.Cond.laysFinal "SmokeLeansModel" "SmokeLeansModel" "number" "[J") ∈ lw_all := lw_g (lw_at lw_m5 39 rfl) rfl
theorem q1066 : (Jvm.Cond.soleField "SmokeLeansModel" "number") ∈ lw_all := lw_g (lw_at lw_m5 40 rfl) rfl
theorem q1067 : (Jvm.Cond.laysFinal "SmokeLeansModel" "SmokeLeansModel" "moved" "[J") ∈ lw_all := lw_g (lw_at lw_m5 41 rfl) rfl
theorem q1068 : (Jvm.Cond.soleField "SmokeLeansModel" "moved") ∈ lw_all := lw_g (lw_at lw_m5 42 rfl) rfl
theorem q1069 : (Jvm.Cond.superclass "SmokeLeansModel" "java/lang/Object") ∈ lw_all := lw_g (lw_at lw_m5 43 rfl) rfl
theorem q1071 : (Jvm.Cond.instanceMethod ({ cls := "SmokeLeansModel", name := "room", desc := "()I" } : Jvm.MethodName)) ∈ lw_all := lw_g (lw_at lw_m5 45 rfl) rfl
theorem q1072 : (Jvm.Cond.selects "SmokeLeansModel" ({ cls := "SmokeLeansModel", name := "room", desc := "()I" } : Jvm.MethodName) ({ cls := "SmokeLeansModel", name := "room", desc := "()I" } : Jvm.MethodName)) ∈ lw_all := lw_g (lw_at lw_m5 46 rfl) rfl
theorem q1073 : (Jvm.Cond.code ({ cls := "SmokeLeansModel", name := "room", desc := "()I" } : Jvm.MethodName) prog_16_method_8_code (1 : Nat) (Option.some Jvm.ClassFile.FieldType.int)) ∈ lw_all := lw_g (lw_at lw_m5 47 rfl) rfl
theorem q1074 : (Jvm.Cond.constant "SmokeLeansModel" (58 : Nat) (-1000000002 : Int32)) ∈ lw_all := lw_g (lw_at lw_m5 48 rfl) rfl
theorem q1075 : (Jvm.Cond.methodLink "SmokeLeansModel" (59 : Nat) ({ cls := "SmokeLeansModel", name := "finds", desc := "(I)I" } : Jvm.MethodName)) ∈ lw_all := lw_g (lw_at lw_m5 49 rfl) rfl
theorem q1076 : (Jvm.Cond.privateMethod ({ cls := "SmokeLeansModel", name := "finds", desc := "(I)I" } : Jvm.MethodName)) ∈ lw_tbl := lw_at lw_m5 50 rfl
theorem q1077 : (Jvm.Cond.instanceMethod ({ cls := "SmokeLeansModel", name := "finds", desc := "(I)I" } : Jvm.MethodName)) ∈ lw_all := lw_g (lw_at lw_m5 51 rfl) rfl
theorem q1078 : (Jvm.Cond.code ({ cls := "SmokeLeansModel", name := "finds", desc := "(I)I" } : Jvm.MethodName) prog_16_method_3_code (2 : Nat) (Option.some Jvm.ClassFile.FieldType.int)) ∈ lw_all := lw_g (lw_at lw_m5 52 rfl) rfl
theorem q1079 : (Jvm.Cond.constant "SmokeLeansModel" (53 : Nat) (-1000000001 : Int32)) ∈ lw_all := lw_g (lw_at lw_m5 53 rfl) rfl
theorem q1080 : (Jvm.Cond.methodLink "SmokeLeansModel" (63 : Nat) ({ cls := "SmokeLeansModel", name := "newRoom", desc := "()I" } : Jvm.MethodName)) ∈ lw_all := lw_g (lw_at lw_m5 54 rfl) rfl
theorem q1081 : (Jvm.Cond.privateMethod ({ cls := "SmokeLeansModel", name := "newRoom", desc := "()I" } : Jvm.MethodName)) ∈ lw_tbl := lw_at lw_m5 55 rfl
theorem q1082 : (Jvm.Cond.instanceMethod ({ cls := "SmokeLeansModel", name := "newRoom", desc := "()I" } : Jvm.MethodName)) ∈ lw_all := lw_g (lw_at lw_m5 56 rfl) rfl
theorem q1083 : (Jvm.Cond.code ({ cls := "SmokeLeansModel", name := "newRoom", desc := "()I" } : Jvm.MethodName) prog_16_method_7_code (1 : Nat) (Option.some Jvm.ClassFile.FieldType.int)) ∈ lw_all := lw_g (lw_at lw_m5 57 rfl) rfl
theorem q1085 : (Jvm.Cond.instanceMethod ({ cls := "SmokeLeansModel", name := "gap", desc := "(IIII)I" } : Jvm.MethodName)) ∈ lw_all := lw_g (lw_at lw_m5 59 rfl) rfl
theorem q1086 : (Jvm.Cond.selects "SmokeLeansModel" ({ cls := "SmokeLeansModel", name := "gap", desc := "(IIII)I" } : Jvm.MethodName) ({ cls := "SmokeLeansModel", name := "gap", desc := "(IIII)I" } : Jvm.MethodName)) ∈ lw_all := lw_g (lw_at lw_m5 60 rfl) rfl
theorem q1087 : (Jvm.Cond.code ({ cls := "SmokeLeansModel", name := "gap", desc := "(IIII)I" } : Jvm.MethodName) prog_16_method_10_code (5 : Nat) (Option.some Jvm.ClassFile.FieldType.int)) ∈ lw_all := lw_g (lw_at lw_m5 61 rfl) rfl
theorem q1088 : (Jvm.Cond.constantLong "SmokeLeansModel" (67 : Nat) (5 : Int64)) ∈ lw_all := lw_g (lw_at lw_m5 62 rfl) rfl
theorem q1089 : (Jvm.Cond.methodLink "SmokeLeansModel" (54 : Nat) ({ cls := "SmokeLeansModel", name := "in", desc := "(JJJ)Z" } : Jvm.MethodName)) ∈ lw_all := lw_g (lw_at lw_m5 63 rfl) rfl
theorem q1090 : (Jvm.Cond.static ({ cls := "SmokeLeansModel", name := "in", desc := "(JJJ)Z" } : Jvm.MethodName)) ∈ lw_all := lw_g (lw_at lw_m5 64 rfl) rfl
theorem q1091 : (Jvm.Cond.code ({ cls := "SmokeLeansModel", name := "in", desc := "(JJJ)Z" } : Jvm.MethodName) prog_16_method_2_code (6 : Nat) (Option.some Jvm.ClassFile.FieldType.boolean)) ∈ lw_all := lw_g (lw_at lw_m5 65 rfl) rfl
theorem q1092 : (Jvm.Cond.methodLink "SmokeLeansModel" (69 : Nat) ({ cls := "SmokeLeansModel", name := "isRoom", desc := "(I)Z" } : Jvm.MethodName)) ∈ lw_all := lw_g (lw_at lw_m5 66 rfl) rfl
theorem q1093 : (Jvm.Cond.privateMethod ({ cls := "SmokeLeansModel", name := "isRoom", desc := "(I)Z" } : Jvm.MethodName)) ∈ lw_tbl := lw_at lw_m5 67 rfl
theorem q1094 : (Jvm.Cond.instanceMethod ({ cls := "SmokeLeansModel", name := "isRoom", desc := "(I)Z" } : Jvm.MethodName)) ∈ lw_all := lw_g (lw_at lw_m5 68 rfl) rfl
theorem q1095 : (Jvm.Cond.code ({ cls := "SmokeLeansModel", name := "isRoom", desc := "(I)Z" } : Jvm.MethodName) prog_16_method_6_code (2 : Nat) (Option.some Jvm.ClassFile.FieldType.boolean)) ∈ lw_all := lw_g (lw_at lw_m5 69 rfl) rfl
theorem q1096 : (Jvm.Cond.constantLong "SmokeLeansModel" (73 : Nat) (999999 : Int64)) ∈ lw_all := lw_g (lw_at lw_m5 70 rfl) rfl
theorem q1097 : (Jvm.Cond.methodLink "SmokeLeansModel" (75 : Nat) ({ cls := "SmokeLeansModel", name := "newGap", desc := "(IIIIIII)I" } : Jvm.MethodName)) ∈ lw_all := lw_g (lw_at lw_m5 71 rfl) rfl
theorem q1098 : (Jvm.Cond.privateMethod ({ cls := "SmokeLeansModel", name := "newGap", desc := "(IIIIIII)I" } : Jvm.MethodName)) ∈ lw_tbl := lw_at lw_m5 72 rfl
theorem q1099 : (Jvm.Cond.instanceMethod ({ cls := "SmokeLeansModel", name := "newGap", desc := "(IIIIIII)I" } : Jvm.MethodName)) ∈ lw_all := lw_g (lw_at lw_m5 73 rfl) rfl
theorem q1100 : (Jvm.Cond.code ({ cls := "SmokeLeansModel", name := "newGap", desc := "(IIIIIII)I" } : Jvm.MethodName) prog_16_method_9_code (9 : Nat) (Option.some Jvm.ClassFile.FieldType.int)) ∈ lw_all := lw_g (lw_at lw_m5 74 rfl) rfl
theorem q1102 : (Jvm.Cond.instanceMethod ({ cls := "SmokeLeansModel", name := "of", desc := "(II)I" } : Jvm.MethodName)) ∈ lw_all := lw_g (lw_at lw_m5 76 rfl) rfl
theorem q1103 : (Jvm.Cond.selects "SmokeLeansModel" ({ cls := "SmokeLeansModel", name := "of", desc := "(II)I" } : Jvm.MethodName) ({ cls := "SmokeLeansModel", name := "of", desc := "(II)I" } : Jvm.MethodName)) ∈ lw_all := lw_g (lw_at lw_m5 77 rfl) rfl
theorem q1104 : (Jvm.Cond.code ({ cls := "SmokeLeansModel", name := "of", desc := "(II)I" } : Jvm.MethodName) prog_16_method_13_code (3 : Nat) (Option.some Jvm.ClassFile.FieldType.int)) ∈ lw_all := lw_g (lw_at lw_m5 78 rfl) rfl
theorem q1105 : (Jvm.Cond.methodLink "SmokeLeansModel" (83 : Nat) ({ cls := "SmokeLeansModel", name := "isGap", desc := "(I)Z" } : Jvm.MethodName)) ∈ lw_all := lw_g (lw_at lw_m5 79 rfl) rfl
theorem q1106 : (Jvm.Cond.privateMethod ({ cls := "SmokeLeansModel", name := "isGap", desc := "(I)Z" } : Jvm.MethodName)) ∈ lw_tbl := lw_at lw_m5 80 rfl
theorem q1107 : (Jvm.Cond.instanceMethod ({ cls := "SmokeLeansModel", name := "isGap", desc := "(I)Z" } : Jvm.MethodName)) ∈ lw_all := lw_g (lw_at lw_m5 81 rfl) rfl
theorem q1108 : (Jvm.Cond.code ({ cls := "SmokeLeansModel", name := "isGap", desc := "(I)Z" } : Jvm.MethodName) prog_16_method_5_code (2 : Nat) (Option.some Jvm.ClassFile.FieldType.boolean)) ∈ lw_all := lw_g (lw_at lw_m5 82 rfl) rfl
theorem q1109 : (Jvm.Cond.constantLong "SmokeLeansModel" (86 : Nat) (9 : Int64)) ∈ lw_all := lw_g (lw_at lw_m5 83 rfl) rfl
theorem q1110 : (Jvm.Cond.methodLink "SmokeLeansModel" (79 : Nat) ({ cls := "SmokeLeansModel", name := "has", desc := "(II)I" } : Jvm.MethodName)) ∈ lw_all := lw_g (lw_at lw_m5 84 rfl) rfl
theorem q1111 : (Jvm.Cond.privateMethod ({ cls := "SmokeLeansModel", name := "has", desc := "(II)I" } : Jvm.MethodName)) ∈ lw_tbl := lw_at lw_m5 85 rfl
theorem q1112 : (Jvm.Cond.instanceMethod ({ cls := "SmokeLeansModel", name := "has", desc := "(II)I" } : Jvm.MethodName)) ∈ lw_all := lw_g (lw_at lw_m5 86 rfl) rfl
theorem q1113 : (Jvm.Cond.code ({ cls := "SmokeLeansModel", name := "has", desc := "(II)I" } : Jvm.MethodName) prog_16_method_4_code (3 : Nat) (Option.some Jvm.ClassFile.FieldType.int)) ∈ lw_all := lw_g (lw_at lw_m5 87 rfl) rfl
theorem q1114 : (Jvm.Cond.methodLink "SmokeLeansModel" (88 : Nat) ({ cls := "SmokeLeansModel", name := "breadth", desc := "(I)I" } : Jvm.MethodName)) ∈ lw_all := lw_g (lw_at lw_m5 88 rfl) rfl
theorem q1115 : (Jvm.Cond.privateMethod ({ cls := "SmokeLeansModel", name := "breadth", desc := "(I)I" } : Jvm.MethodName)) ∈ lw_tbl := lw_at lw_m5 89 rfl
theorem q1116 : (Jvm.Cond.instanceMethod ({ cls := "SmokeLeansModel", name := "breadth", desc := "(I)I" } : Jvm.MethodName)) ∈ lw_all := lw_g (lw_at lw_m5 90 rfl) rfl
theorem q1117 : (Jvm.Cond.code ({ cls := "SmokeLeansModel", name := "breadth", desc := "(I)I" } : Jvm.MethodName) prog_16_method_11_code (3 : Nat) (Option.some Jvm.ClassFile.FieldType.int)) ∈ lw_all := lw_g (lw_at lw_m5 91 rfl) rfl
theorem q1118 : (Jvm.Cond.methodLink "SmokeLeansModel" (91 : Nat) ({ cls := "SmokeLeansModel", name := "push", desc := "(I)I" } : Jvm.MethodName)) ∈ lw_all := lw_g (lw_at lw_m5 92 rfl) rfl
theorem q1119 : (Jvm.Cond.privateMethod ({ cls := "SmokeLeansModel", name := "push", desc := "(I)I" } : Jvm.MethodName)) ∈ lw_tbl := lw_at lw_m5 93 rfl
theorem q1120 : (Jvm.Cond.instanceMethod ({ cls := "SmokeLeansModel", name := "push", desc := "(I)I" } : Jvm.MethodName)) ∈ lw_all := lw_g (lw_at lw_m5 94 rfl) rfl
theorem q1121 : (Jvm.Cond.code ({ cls := "SmokeLeansModel", name := "push", desc := "(I)I" } : Jvm.MethodName) prog_16_method_12_code (4 : Nat) (Option.some Jvm.ClassFile.FieldType.int)) ∈ lw_all := lw_g (lw_at lw_m5 95 rfl) rfl
theorem q1123 : (Jvm.Cond.instanceMethod ({ cls := "SmokeLeansModel", name := "width", desc := "(II)I" } : Jvm.MethodName)) ∈ lw_all := lw_g (lw_at lw_m5 97 rfl) rfl
theorem q1124 : (Jvm.Cond.selects "SmokeLeansModel" ({ cls := "SmokeLeansModel", name := "width", desc := "(II)I" } : Jvm.MethodName) ({ cls := "SmokeLeansModel", name := "width", desc := "(II)I" } : Jvm.MethodName)) ∈ lw_all := lw_g (lw_at lw_m5 98 rfl) rfl
theorem q1125 : (Jvm.Cond.code ({ cls := "SmokeLeansModel", name := "width", desc := "(II)I" } : Jvm.MethodName) prog_16_method_14_code (4 : Nat) (Option.some Jvm.ClassFile.FieldType.int)) ∈ lw_all := lw_g (lw_at lw_m5 99 rfl) rfl
theorem q1126 : (Jvm.Cond.constantLong "SmokeLeansModel" (94 : Nat) (99 : Int64)) ∈ lw_all := lw_g (lw_at lw_m5 100 rfl) rfl
theorem q1128 : (Jvm.Cond.instanceMethod ({ cls := "SmokeLeansModel", name := "shut", desc := "(IZ)I" } : Jvm.MethodName)) ∈ lw_all := lw_g (lw_at lw_m5 102 rfl) rfl
theorem q1129 : (Jvm.Cond.selects "SmokeLeansModel" ({ cls := "SmokeLeansModel", name := "shut", desc := "(IZ)I" } : Jvm.MethodName) ({ cls := "SmokeLeansModel", name := "shut", desc := "(IZ)I" } : Jvm.MethodName)) ∈ lw_all := lw_g (lw_at lw_m5 103 rfl) rfl
theorem q1130 : (Jvm.Cond.code ({ cls := "SmokeLeansModel", name := "shut", desc := "(IZ)I" } : Jvm.MethodName) prog_16_method_15_code (4 : Nat) (Option.some Jvm.ClassFile.FieldType.int)) ∈ lw_all := lw_g (lw_at lw_m5 104 rfl) rfl
theorem q1132 : (Jvm.Cond.instanceMethod ({ cls := "SmokeLeansModel", name := "as", desc := "(II)I" } : Jvm.MethodName)) ∈ lw_all := lw_g (lw_at lw_m5 106 rfl) rfl
theorem q1133 : (Jvm.Cond.selects "SmokeLeansModel" ({ cls := "SmokeLeansModel", name := "as", desc := "(II)I" } : Jvm.MethodName) ({ cls := "SmokeLeansModel", name := "as", desc := "(II)I" } : Jvm.MethodName)) ∈ lw_all := lw_g (lw_at lw_m5 107 rfl) rfl
theorem q1134 : (Jvm.Cond.code ({ cls := "SmokeLeansModel", name := "as", desc := "(II)I" } : Jvm.MethodName) prog_16_method_17_code (4 : Nat) (Option.some Jvm.ClassFile.FieldType.int)) ∈ lw_all := lw_g (lw_at lw_m5 108 rfl) rfl
theorem q1135 : (Jvm.Cond.methodLink "SmokeLeansModel" (96 : Nat) ({ cls := "SmokeLeansModel", name := "isNeeded", desc := "(I)Z" } : Jvm.MethodName)) ∈ lw_all := lw_g (lw_at lw_m5 109 rfl) rfl
theorem q1136 : (Jvm.Cond.privateMethod ({ cls := "SmokeLeansModel", name := "isNeeded", desc := "(I)Z" } : Jvm.MethodName)) ∈ lw_tbl := lw_at lw_m5 110 rfl
theorem q1137 : (Jvm.Cond.instanceMethod ({ cls := "SmokeLeansModel", name := "isNeeded", desc := "(I)Z" } : Jvm.MethodName)) ∈ lw_all := lw_g (lw_at lw_m5 111 rfl) rfl
theorem q1138 : (Jvm.Cond.code ({ cls := "SmokeLeansModel", name := "isNeeded", desc := "(I)Z" } : Jvm.MethodName) prog_16_method_16_code (2 : Nat) (Option.some Jvm.ClassFile.FieldType.boolean)) ∈ lw_all := lw_g (lw_at lw_m5 112 rfl) rfl
theorem q1139 : (Jvm.Cond.constant "SmokeLeansModel" (99 : Nat) (-1000000003 : Int32)) ∈ lw_all := lw_g (lw_at lw_m5 113 rfl) rfl
theorem q1141 : (Jvm.Cond.instanceMethod ({ cls := "SmokeLeansModel", name := "night", desc := "(II)I" } : Jvm.MethodName)) ∈ lw_all := lw_g (lw_at lw_m5 115 rfl) rfl
theorem q1142 : (Jvm.Cond.selects "SmokeLeansModel" ({ cls := "SmokeLeansModel", name := "night", desc := "(II)I" } : Jvm.MethodName) ({ cls := "SmokeLeansModel", name := "night", desc := "(II)I" } : Jvm.MethodName)) ∈ lw_all := lw_g (lw_at lw_m5 116 rfl) rfl
theorem q1143 : (Jvm.Cond.code ({ cls := "SmokeLeansModel", name := "night", desc := "(II)I" } : Jvm.MethodName) prog_16_method_20_code (4 : Nat) (Option.some Jvm.ClassFile.FieldType.int)) ∈ lw_all := lw_g (lw_at lw_m5 117 rfl) rfl
theorem q1144 : (Jvm.Cond.methodLink "SmokeLeansModel" (100 : Nat) ({ cls := "SmokeLeansModel", name := "leastOf", desc := "(I)I" } : Jvm.MethodName)) ∈ lw_all := lw_g (lw_at lw_m5 118 rfl) rfl
theorem q1145 : (Jvm.Cond.static ({ cls := "SmokeLeansModel", name := "leastOf", desc := "(I)I" } : Jvm.MethodName)) ∈ lw_all := lw_g (lw_at lw_m5 119 rfl) rfl
theorem q1146 : (Jvm.Cond.code ({ cls := "SmokeLeansModel", name := "leastOf", desc := "(I)I" } : Jvm.MethodName) prog_16_method_18_code (1 : Nat) (Option.some Jvm.ClassFile.FieldType.int)) ∈ lw_all := lw_g (lw_at lw_m5 120 rfl) rfl
theorem q1147 : (Jvm.Cond.methodLink "SmokeLeansModel" (103 : Nat) ({ cls := "SmokeLeansModel", name := "mostOf", desc := "(I)I" } : Jvm.MethodName)) ∈ lw_all := lw_g (lw_at lw_m5 121 rfl) rfl
theorem q1148 : (Jvm.Cond.static ({ cls := "SmokeLeansModel", name := "mostOf", desc := "(I)I" } : Jvm.MethodName)) ∈ lw_all := lw_g (lw_at lw_m5 122 rfl) rfl
theorem q1149 : (Jvm.Cond.code ({ cls := "SmokeLeansModel", name := "mostOf", desc := "(I)I" } : Jvm.MethodName) prog_16_method_19_code (1 : Nat) (Option.some Jvm.ClassFile.FieldType.int)) ∈ lw_all := lw_g (lw_at lw_m5 123 rfl) rfl
theorem q1151 : (Jvm.Cond.instanceMethod ({ cls := "SmokeLeansModel", name := "feed", desc := "(II)I" } : Jvm.MethodName)) ∈ lw_all := lw_g (lw_at lw_m5 125 rfl) rfl
theorem q1152 : (Jvm.Cond.selects "SmokeLeansModel" ({ cls := "SmokeLeansModel", name := "feed", desc := "(II)I" } : Jvm.MethodName) ({ cls := "SmokeLeansModel", name := "feed", desc := "(II)I" } : Jvm.MethodName)) ∈ lw_all := lw_g (lw_at lw_m5 126 rfl) rfl
theorem q1153 : (Jvm.Cond.code ({ cls := "SmokeLeansModel", name := "feed", desc := "(II)I" } : Jvm.MethodName) prog_16_method_21_code (4 : Nat) (Option.some Jvm.ClassFile.FieldType.int)) ∈ lw_all := lw_g (lw_at lw_m5 127 rfl) rfl
theorem q1154 : (Jvm.Cond.constantLong "SmokeLeansModel" (106 : Nat) (4 : Int64)) ∈ lw_all := lw_g (lw_at lw_m5 128 rfl) rfl
theorem q1156 : (Jvm.Cond.instanceMethod ({ cls := "SmokeLeansModel", name := "wipe", desc := "()I" } : Jvm.MethodName)) ∈ lw_all := lw_g (lw_at lw_m5 130 rfl) rfl
theorem q1157 : (Jvm.Cond.selects "SmokeLeansModel" ({ cls := "SmokeLeansModel", name := "wipe", desc := "()I" } : Jvm.MethodName) ({ cls := "SmokeLeansModel", name := "wipe", desc := "()I" } : Jvm.MethodName)) ∈ lw_all := lw_g (lw_at lw_m5 131 rfl) rfl
theorem q1158 : (Jvm.Cond.code ({ cls := "SmokeLeansModel", name := "wipe", desc := "()I" } : Jvm.MethodName) prog_16_method_22_code (2 : Nat) (Option.some Jvm.ClassFile.FieldType.int)) ∈ lw_all := lw_g (lw_at lw_m5 132 rfl) rfl
theorem q1160 : (Jvm.Cond.instanceMethod ({ cls := "SmokeLeansModel", name := "house", desc := "()I" } : Jvm.MethodName)) ∈ lw_all := lw_g (lw_at lw_m5 134 rfl) rfl
theorem q1161 : (Jvm.Cond.selects "SmokeLeansModel" ({ cls := "SmokeLeansModel", name := "house", desc := "()I" } : Jvm.MethodName) ({ cls := "SmokeLeansModel", name := "house", desc := "()I" } : Jvm.MethodName)) ∈ lw_all := lw_g (lw_at lw_m5 135 rfl) rfl
theorem q1162 : (Jvm.Cond.code ({ cls := "SmokeLeansModel", name := "house", desc := "()I" } : Jvm.MethodName) prog_16_method_39_code (2 : Nat) (Option.some Jvm.ClassFile.FieldType.int)) ∈ lw_all := lw_g (lw_at lw_m5 136 rfl) rfl
theorem q1163 : (Jvm.Cond.methodLink "SmokeLeansModel" (177 : Nat) ({ cls := "SmokeLeansModel", name := "puts", desc := "()V" } : Jvm.MethodName)) ∈ lw_all := lw_g (lw_at lw_m5 137 rfl) rfl
theorem q1164 : (Jvm.Cond.privateMethod ({ cls := "SmokeLeansModel", name := "puts", desc := "()V" } : Jvm.MethodName)) ∈ lw_tbl := lw_at lw_m5 138 rfl
theorem q1165 : (Jvm.Cond.instanceMethod ({ cls := "SmokeLeansModel", name := "puts", desc := "()V" } : Jvm.MethodName)) ∈ lw_all := lw_g (lw_at lw_m5 139 rfl) rfl
theorem q1166 : (Jvm.Cond.code ({ cls := "SmokeLeansModel", name := "puts", desc := "()V" } : Jvm.MethodName) prog_16_method_37_code (2 : Nat) (Option.none : Option Jvm.ClassFile.FieldType)) ∈ lw_all := lw_g (lw_at lw_m5 140 rfl) rfl
theorem q1167 : (Jvm.Cond.methodLink "SmokeLeansModel" (139 : Nat) ({ cls := "SmokeLeansModel", name := "next", desc := "()V" } : Jvm.MethodName)) ∈ lw_all := lw_g (lw_at lw_m5 141 rfl) rfl
theorem q1168 : (Jvm.Cond.privateMethod ({ cls := "SmokeLeansModel", name := "next", desc := "()V" } : Jvm.MethodName)) ∈ lw_tbl := lw_at lw_m5 142 rfl
theorem q1169 : (Jvm.Cond.instanceMethod ({ cls := "SmokeLeansModel", name := "next", desc := "()V" } : Jvm.MethodName)) ∈ lw_all := lw_g (lw_at lw_m5 143 rfl) rfl
theorem q1170 : (Jvm.Cond.code ({ cls := "SmokeLeansModel", name := "next", desc := "()V" } : Jvm.MethodName) prog_16_method_26_code (3 : Nat) (Option.none : Option Jvm.ClassFile.FieldType)) ∈ lw_all := lw_g (lw_at lw_m5 144 rfl) rfl
theorem q1171 : (Jvm.Cond.methodLink "SmokeLeansModel" (126 : Nat) ({ cls := "SmokeLeansModel", name := "byteAt", desc := "(I)I" } : Jvm.MethodName)) ∈ lw_all := lw_g (lw_at lw_m5 145 rfl) rfl
theorem q1172 : (Jvm.Cond.privateMethod ({ cls := "SmokeLeansModel", name := "byteAt", desc := "(I)I" } : Jvm.MethodName)) ∈ lw_tbl := lw_at lw_m5 146 rfl
theorem q1173 : (Jvm.Cond.instanceMethod ({ cls := "SmokeLeansModel", name := "byteAt", desc := "(I)I" } : Jvm.MethodName)) ∈ lw_all := lw_g (lw_at lw_m5 147 rfl) rfl
theorem q1174 : (Jvm.Cond.code ({ cls := "SmokeLeansModel", name := "byteAt", desc := "(I)I" } : Jvm.MethodName) prog_16_method_23_code (2 : Nat) (Option.some Jvm.ClassFile.FieldType.int)) ∈ lw_all := lw_g (lw_at lw_m5 148 rfl) rfl
theorem q1175 : (Jvm.Cond.methodLink "SmokeLeansModel" (129 : Nat) ({ cls := "SmokeLeansModel", name := "isLetter", desc := "(I)Z" } : Jvm.MethodName)) ∈ lw_all := lw_g (lw_at lw_m5 149 rfl) rfl
theorem q1176 : (Jvm.Cond.static ({ cls := "SmokeLeansModel", name := "isLetter", desc := "(I)Z" } : Jvm.MethodName)) ∈ lw_all := lw_g (lw_at lw_m5 150 rfl) rfl
theorem q1177 : (Jvm.Cond.code ({ cls := "SmokeLeansModel", name := "isLetter", desc := "(I)Z" } : Jvm.MethodName) prog_16_method_24_code (1 : Nat) (Option.some Jvm.ClassFile.FieldType.boolean)) ∈ lw_all := lw_g (lw_at lw_m5 151 rfl) rfl
theorem q1178 : (Jvm.Cond.constantLong "SmokeLeansModel" (112 : Nat) (97 : Int64)) ∈ lw_all := lw_g (lw_at lw_m5 152 rfl) rfl
theorem q1179 : (Jvm.Cond.constantLong "SmokeLeansModel" (114 : Nat) (122 : Int64)) ∈ lw_all := lw_g (lw_at lw_m5 153 rfl) rfl
theorem q1180 : (Jvm.Cond.methodLink "SmokeLeansModel" (132 : Nat) ({ cls := "SmokeLeansModel", name := "isDigit", desc := "(I)Z" } : Jvm.MethodName)) ∈ lw_all := lw_g (lw_at lw_m5 154 rfl) rfl
theorem q1181 : (Jvm.Cond.static ({ cls := "SmokeLeansModel", name := "isDigit", desc := "(I)Z" } : Jvm.MethodName)) ∈ lw_all := lw_g (lw_at lw_m5 155 rfl) rfl
theorem q1182 : (Jvm.Cond.code ({ cls := "SmokeLeansModel", name := "isDigit", desc := "(I)Z" } : Jvm.MethodName) prog_16_method_25_code (1 : Nat) (Option.some Jvm.ClassFile.FieldType.boolean)) ∈ lw_all := lw_g (lw_at lw_m5 156 rfl) rfl
theorem q1183 : (Jvm.Cond.constantLong "SmokeLeansModel" (116 : Nat) (48 : Int64)) ∈ lw_all := lw_g (lw_at lw_m5 157 rfl) rfl
theorem q1184 : (Jvm.Cond.constantLong "SmokeLeansModel" (118 : Nat) (57 : Int64)) ∈ lw_all := lw_g (lw_at lw_m5 158 rfl) rfl
theorem q1185 : (Jvm.Cond.methodLink "SmokeLeansModel" (180 : Nat) ({ cls := "SmokeLeansModel", name := "item", desc := "()V" } : Jvm.MethodName)) ∈ lw_all := lw_g (lw_at lw_m5 159 rfl) rfl
theorem q1186 : (Jvm.Cond.privateMethod ({ cls := "SmokeLeansModel", name := "item", desc := "()V" } : Jvm.MethodName)) ∈ lw_tbl := lw_at lw_m5 160 rfl
theorem q1187 : (Jvm.Cond.instanceMethod ({ cls := "SmokeLeansModel", name := "item", desc := "()V" } : Jvm.MethodName)) ∈ lw_all := lw_g (lw_at lw_m5 161 rfl) rfl
theorem q1188 : (Jvm.Cond.code ({ cls := "SmokeLeansModel", name := "item", desc := "()V" } : Jvm.MethodName) prog_16_method_36_code (2 : Nat) (Option.none : Option Jvm.ClassFile.FieldType)) ∈ lw_all := lw_g (lw_at lw_m5 162 rfl) rfl
theorem q1189 : (Jvm.Cond.methodLink "SmokeLeansModel" (167 : Nat) ({ cls := "SmokeLeansModel", name := "kindHere", desc := "()I" } : Jvm.MethodName)) ∈ lw_all := lw_g (lw_at lw_m5 163 rfl) rfl
theorem q1190 : (Jvm.Cond.privateMethod ({ cls := "SmokeLeansModel", name := "kindHere", desc := "()I" } : Jvm.MethodName)) ∈ lw_tbl := lw_at lw_m5 164 rfl
theorem q1191 : (Jvm.Cond.instanceMethod ({ cls := "SmokeLeansModel", name := "kindHere", desc := "()I" } : Jvm.MethodName)) ∈ lw_all := lw_g (lw_at lw_m5 165 rfl) rfl
theorem q1192 : (Jvm.Cond.code ({ cls := "SmokeLeansModel", name := "kindHere", desc := "()I" } : Jvm.MethodName) prog_16_method_31_code (1 : Nat) (Option.some Jvm.ClassFile.FieldType.int)) ∈ lw_all := lw_g (lw_at lw_m5 166 rfl) rfl
theorem q1193 : (Jvm.Cond.methodLink "SmokeLeansModel" (153 : Nat) ({ cls := "SmokeLeansModel", name := "isWord", desc := "(IIIIIII)Z" } : Jvm.MethodName)) ∈ lw_all := lw_g (lw_at lw_m5 167 rfl) rfl
theorem q1194 : (Jvm.Cond.privateMethod ({ cls := "SmokeLeansModel", name := "isWord", desc := "(IIIIIII)Z" } : Jvm.MethodName)) ∈ lw_tbl := lw_at lw_m5 168 rfl
theorem q1195 : (Jvm.Cond.instanceMethod ({ cls := "SmokeLeansModel", name := "isWord", desc := "(IIIIIII)Z" } : Jvm.MethodName)) ∈ lw_all := lw_g (lw_at lw_m5 169 rfl) rfl
theorem q1196 : (Jvm.Cond.code ({ cls := "SmokeLeansModel", name := "isWord", desc := "(IIIIIII)Z" } : Jvm.MethodName) prog_16_method_29_code (9 : Nat) (Option.some Jvm.ClassFile.FieldType.boolean)) ∈ lw_all := lw_g (lw_at lw_m5 170 rfl) rfl
theorem q1197 : (Jvm.Cond.methodLink "SmokeLeansModel" (142 : Nat) ({ cls := "SmokeLeansModel", name := "isAt", desc := "(II)Z" } : Jvm.MethodName)) ∈ lw_all := lw_g (lw_at lw_m5 171 rfl) rfl
theorem q1198 : (Jvm.Cond.privateMethod ({ cls := "SmokeLeansModel", name := "isAt", desc := "(II)Z" } : Jvm.MethodName)) ∈ lw_tbl := lw_at lw_m5 172 rfl
theorem q1199 : (Jvm.Cond.instanceMethod ({ cls := "SmokeLeansModel", name := "isAt", desc := "(II)Z" } : Jvm.MethodName)) ∈ lw_all := lw_g (lw_at lw_m5 173 rfl) rfl
theorem q1200 : (Jvm.Cond.code ({ cls := "SmokeLeansModel", name := "isAt", desc := "(II)Z" } : Jvm.MethodName) prog_16_method_28_code (3 : Nat) (Option.some Jvm.ClassFile.FieldType.boolean)) ∈ lw_all := lw_g (lw_at lw_m5 174 rfl) rfl
theorem q1201 : (Jvm.Cond.methodLink "SmokeLeansModel" (170 : Nat) ({ cls := "SmokeLeansModel", name := "gapItem", desc := "(I)V" } : Jvm.MethodName)) ∈ lw_all := lw_g (lw_at lw_m5 175 rfl) rfl
theorem q1202 : (Jvm.Cond.privateMethod ({ cls := "SmokeLeansModel", name := "gapItem", desc := "(I)V" } : Jvm.MethodName)) ∈ lw_tbl := lw_at lw_m5 176 rfl
theorem q1203 : (Jvm.Cond.instanceMethod ({ cls := "SmokeLeansModel", name := "gapItem", desc := "(I)V" } : Jvm.MethodName)) ∈ lw_all := lw_g (lw_at lw_m5 177 rfl) rfl
theorem q1204 : (Jvm.Cond.code ({ cls := "SmokeLeansModel", name := "gapItem", desc := "(I)V" } : Jvm.MethodName) prog_16_method_33_code (8 : Nat) (Option.none : Option Jvm.ClassFile.FieldType)) ∈ lw_all := lw_g (lw_at lw_m5 178 rfl) rfl
theorem q1205 : (Jvm.Cond.methodLink "SmokeLeansModel" (149 : Nat) ({ cls := "SmokeLeansModel", name := "needs", desc := "(Z)V" } : Jvm.MethodName)) ∈ lw_all := lw_g (lw_at lw_m5 179 rfl) rfl
theorem q1206 : (Jvm.Cond.privateMethod ({ cls := "SmokeLeansModel", name := "needs", desc := "(Z)V" } : Jvm.MethodName)) ∈ lw_tbl := lw_at lw_m5 180 rfl
theorem q1207 : (Jvm.Cond.instanceMethod ({ cls := "SmokeLeansModel", name := "needs", desc := "(Z)V" } : Jvm.MethodName)) ∈ lw_all := lw_g (lw_at lw_m5 181 rfl) rfl
theorem q1208 : (Jvm.Cond.code ({ cls := "SmokeLeansModel", name := "needs", desc := "(Z)V" } : Jvm.MethodName) prog_16_method_27_code (2 : Nat) (Option.none : Option Jvm.ClassFile.FieldType)) ∈ lw_all := lw_g (lw_at lw_m5 182 rfl) rfl
theorem q1209 : (Jvm.Cond.methodLink "SmokeLeansModel" (157 : Nat) ({ cls := "SmokeLeansModel", name := "number", desc := "(II)V" } : Jvm.MethodName)) ∈ lw_all := lw_g (lw_at lw_m5 183 rfl) rfl
theorem q1210 : (Jvm.Cond.privateMethod ({ cls := "SmokeLeansModel", name := "number", desc := "(II)V" } : Jvm.MethodName)) ∈ lw_tbl := lw_at lw_m5 184 rfl
theorem q1211 : (Jvm.Cond.instanceMethod ({ cls := "SmokeLeansModel", name := "number", desc := "(II)V" } : Jvm.MethodName)) ∈ lw_all := lw_g (lw_at lw_m5 185 rfl) rfl
theorem q1212 : (Jvm.Cond.code ({ cls := "SmokeLeansModel", name := "number", desc := "(II)V" } : Jvm.MethodName) prog_16_method_30_code (6 : Nat) (Option.none : Option Jvm.ClassFile.FieldType)) ∈ lw_all := lw_g (lw_at lw_m5 186 rfl) rfl
theorem q1213 : (Jvm.Cond.methodLink "SmokeLeansModel" (160 : Nat) ({ cls := "SmokeLeansModel", name := "sameNumber", desc := "(I)Z" } : Jvm.MethodName)) ∈ lw_all := lw_g (lw_at lw_m5 187 rfl) rfl
theorem q1214 : (Jvm.Cond.privateMethod ({ cls := "SmokeLeansModel", name := "sameNumber", desc := "(I)Z" } : Jvm.MethodName)) ∈ lw_tbl := lw_at lw_m5 188 rfl
theorem q1215 : (Jvm.Cond.instanceMethod ({ cls := "SmokeLeansModel", name := "sameNumber", desc := "(I)Z" } : Jvm.MethodName)) ∈ lw_all := lw_g (lw_at lw_m5 189 rfl) rfl
theorem q1216 : (Jvm.Cond.code ({ cls := "SmokeLeansModel", name := "sameNumber", desc := "(I)Z" } : Jvm.MethodName) prog_16_method_34_code (4 : Nat) (Option.some Jvm.ClassFile.FieldType.boolean)) ∈ lw_all := lw_g (lw_at lw_m5 190 rfl) rfl
theorem q1217 : (Jvm.Cond.methodLink "SmokeLeansModel" (163 : Nat) ({ cls := "SmokeLeansModel", name := "perhaps", desc := "(ZI)I" } : Jvm.MethodName)) ∈ lw_all := lw_g (lw_at lw_m5 191 rfl) rfl
theorem q1218 : (Jvm.Cond.privateMethod ({ cls := "SmokeLeansModel", name := "perhaps", desc := "(ZI)I" } : Jvm.MethodName)) ∈ lw_tbl := lw_at lw_m5 192 rfl
theorem q1219 : (Jvm.Cond.instanceMethod ({ cls := "SmokeLeansModel", name := "perhaps", desc := "(ZI)I" } : Jvm.MethodName)) ∈ lw_all := lw_g (lw_at lw_m5 193 rfl) rfl
theorem q1220 : (Jvm.Cond.code ({ cls := "SmokeLeansModel", name := "perhaps", desc := "(ZI)I" } : Jvm.MethodName) prog_16_method_32_code (3 : Nat) (Option.some Jvm.ClassFile.FieldType.int)) ∈ lw_all := lw_g (lw_at lw_m5 194 rfl) rfl
theorem q1221 : (Jvm.Cond.methodLink "SmokeLeansModel" (174 : Nat) ({ cls := "SmokeLeansModel", name := "nightItem", desc := "()V" } : Jvm.MethodName)) ∈ lw_all := lw_g (lw_at lw_m5 195 rfl) rfl
theorem q1222 : (Jvm.Cond.privateMethod ({ cls := "SmokeLeansModel", name := "nightItem", desc := "()V" } : Jvm.MethodName)) ∈ lw_tbl := lw_at lw_m5 196 rfl
theorem q1223 : (Jvm.Cond.instanceMethod ({ cls := "SmokeLeansModel", name := "nightItem", desc := "()V" } : Jvm.MethodName)) ∈ lw_all := lw_g (lw_at lw_m5 197 rfl) rfl
theorem q1224 : (Jvm.Cond.code ({ cls := "SmokeLeansModel", name := "nightItem", desc := "()V" } : Jvm.MethodName) prog_16_method_35_code (2 : Nat) (Option.none : Option Jvm.ClassFile.FieldType)) ∈ lw_all := lw_g (lw_at lw_m5 198 rfl) rfl
theorem q1225 : (Jvm.Cond.methodLink "SmokeLeansModel" (183 : Nat) ({ cls := "SmokeLeansModel", name := "putsBack", desc := "()V" } : Jvm.MethodName)) ∈ lw_all := lw_g (lw_at lw_m5 199 rfl) rfl
theorem q1226 : (Jvm.Cond.privateMethod ({ cls := "SmokeLeansModel", name := "putsBack", desc := "()V" } : Jvm.MethodName)) ∈ lw_tbl := lw_at lw_m5 200 rfl
theorem q1227 : (Jvm.Cond.instanceMethod ({ cls := "SmokeLeansModel", name := "putsBack", desc := "()V" } : Jvm.MethodName)) ∈ lw_all := lw_g (lw_at lw_m5 201 rfl) rfl
theorem q1228 : (Jvm.Cond.code ({ cls := "SmokeLeansModel", name := "putsBack", desc := "()V" } : Jvm.MethodName) prog_16_method_38_code (2 : Nat) (Option.none : Option Jvm.ClassFile.FieldType)) ∈ lw_all := lw_g (lw_at lw_m5 202 rfl) rfl
theorem q1230 : (Jvm.Cond.instanceMethod ({ cls := "SmokeLeansModel", name := "pressure", desc := "(I)I" } : Jvm.MethodName)) ∈ lw_all := lw_g (lw_at lw_m5 204 rfl) rfl
theorem q1231 : (Jvm.Cond.selects "SmokeLeansModel" ({ cls := "SmokeLeansModel", name := "pressure", desc := "(I)I" } : Jvm.MethodName) ({ cls := "SmokeLeansModel", name := "pressure", desc := "(I)I" } : Jvm.MethodName)) ∈ lw_all := lw_g (lw_at lw_m5 205 rfl) rfl
theorem q1232 : (Jvm.Cond.code ({ cls := "SmokeLeansModel", name := "pressure", desc := "(I)I" } : Jvm.MethodName) prog_16_method_49_code (2 : Nat) (Option.some Jvm.ClassFile.FieldType.int)) ∈ lw_all := lw_g (lw_at lw_m5 206 rfl) rfl
theorem q1233 : (Jvm.Cond.methodLink "SmokeLeansModel" (208 : Nat) ({ cls := "SmokeLeansModel", name := "rests", desc := "()V" } : Jvm.MethodName)) ∈ lw_all := lw_g (lw_at lw_m5 207 rfl) rfl
theorem q1234 : (Jvm.Cond.privateMethod ({ cls := "SmokeLeansModel", name := "rests", desc := "()V" } : Jvm.MethodName)) ∈ lw_tbl := lw_at lw_m5 208 rfl
theorem q1235 : (Jvm.Cond.instanceMethod ({ cls := "SmokeLeansModel", name := "rests", desc := "()V" } : Jvm.MethodName)) ∈ lw_all := lw_g (lw_at lw_m5 209 rfl) rfl
theorem q1236 : (Jvm.Cond.code ({ cls := "SmokeLeansModel", name := "rests", desc := "()V" } : Jvm.MethodName) prog_16_method_42_code (2 : Nat) (Option.none : Option Jvm.ClassFile.FieldType)) ∈ lw_all := lw_g (lw_at lw_m5 210 rfl) rfl
theorem q1237 : (Jvm.Cond.methodLink "SmokeLeansModel" (192 : Nat) ({ cls := "SmokeLeansModel", name := "round", desc := "()Z" } : Jvm.MethodName)) ∈ lw_all := lw_g (lw_at lw_m5 211 rfl) rfl
theorem q1238 : (Jvm.Cond.privateMethod ({ cls := "SmokeLeansModel", name := "round", desc := "()Z" } : Jvm.MethodName)) ∈ lw_tbl := lw_at lw_m5 212 rfl
theorem q1239 : (Jvm.Cond.instanceMethod ({ cls := "SmokeLeansModel", name := "round", desc := "()Z" } : Jvm.MethodName)) ∈ lw_all := lw_g (lw_at lw_m5 213 rfl) rfl
theorem q1240 : (Jvm.Cond.code ({ cls := "SmokeLeansModel", name := "round", desc := "()Z" } : Jvm.MethodName) prog_16_method_41_code (3 : Nat) (Option.some Jvm.ClassFile.FieldType.boolean)) ∈ lw_all := lw_g (lw_at lw_m5 214 rfl) rfl
theorem q1241 : (Jvm.Cond.methodLink "SmokeLeansModel" (186 : Nat) ({ cls := "SmokeLeansModel", name := "asked", desc := "(I)I" } : Jvm.MethodName)) ∈ lw_all := lw_g (lw_at lw_m5 215 rfl) rfl
theorem q1242 : (Jvm.Cond.privateMethod ({ cls := "SmokeLeansModel", name := "asked", desc := "(I)I" } : Jvm.MethodName)) ∈ lw_tbl := lw_at lw_m5 216 rfl
theorem q1243 : (Jvm.Cond.instanceMethod ({ cls := "SmokeLeansModel", name := "asked", desc := "(I)I" } : Jvm.MethodName)) ∈ lw_all := lw_g (lw_at lw_m5 217 rfl) rfl
theorem q1244 : (Jvm.Cond.code ({ cls := "SmokeLeansModel", name := "asked", desc := "(I)I" } : Jvm.MethodName) prog_16_method_40_code (6 : Nat) (Option.some Jvm.ClassFile.FieldType.int)) ∈ lw_all := lw_g (lw_at lw_m5 218 rfl) rfl
theorem q1246 : (Jvm.Cond.instanceMethod ({ cls := "SmokeLeansModel", name := "flow", desc := "(I)I" } : Jvm.MethodName)) ∈ lw_all := lw_g (lw_at lw_m5 220 rfl) rfl
theorem q1247 : (Jvm.Cond.selects "SmokeLeansModel" ({ cls := "SmokeLeansModel", name := "flow", desc := "(I)I" } : Jvm.MethodName) ({ cls := "SmokeLeansModel", name := "flow", desc := "(I)I" } : Jvm.MethodName)) ∈ lw_all := lw_g (lw_at lw_m5 221 rfl) rfl
theorem q1248 : (Jvm.Cond.code ({ cls := "SmokeLeansModel", name := "flow", desc := "(I)I" } : Jvm.MethodName) prog_16_method_50_code (2 : Nat) (Option.some Jvm.ClassFile.FieldType.int)) ∈ lw_all := lw_g (lw_at lw_m5 222 rfl) rfl
theorem q1249 : (Jvm.Cond.methodLink "SmokeLeansModel" (199 : Nat) ({ cls := "SmokeLeansModel", name := "flowOf", desc := "(I)I" } : Jvm.MethodName)) ∈ lw_all := lw_g (lw_at lw_m5 223 rfl) rfl
theorem q1250 : (Jvm.Cond.privateMethod ({ cls := "SmokeLeansModel", name := "flowOf", desc := "(I)I" } : Jvm.MethodName)) ∈ lw_tbl := lw_at lw_m5 224 rfl
theorem q1251 : (Jvm.Cond.instanceMethod ({ cls := "SmokeLeansModel", name := "flowOf", desc := "(I)I" } : Jvm.MethodName)) ∈ lw_all := lw_g (lw_at lw_m5 225 rfl) rfl
theorem q1252 : (Jvm.Cond.code ({ cls := "SmokeLeansModel", name := "flowOf", desc := "(I)I" } : Jvm.MethodName) prog_16_method_43_code (3 : Nat) (Option.some Jvm.ClassFile.FieldType.int)) ∈ lw_all := lw_g (lw_at lw_m5 226 rfl) rfl
theorem q1254 : (Jvm.Cond.instanceMethod ({ cls := "SmokeLeansModel", name := "lean", desc := "(I)I" } : Jvm.MethodName)) ∈ lw_all := lw_g (lw_at lw_m5 228 rfl) rfl
theorem q1255 : (Jvm.Cond.selects "SmokeLeansModel" ({ cls := "SmokeLeansModel", name := "lean", desc := "(I)I" } : Jvm.MethodName) ({ cls := "SmokeLeansModel", name := "lean", desc := "(I)I" } : Jvm.MethodName)) ∈ lw_all := lw_g (lw_at lw_m5 229 rfl) rfl
theorem q1256 : (Jvm.Cond.code ({ cls := "SmokeLeansModel", name := "lean", desc := "(I)I" } : Jvm.MethodName) prog_16_method_51_code (2 : Nat) (Option.some Jvm.ClassFile.FieldType.int)) ∈ lw_all := lw_g (lw_at lw_m5 230 rfl) rfl
theorem q1257 : (Jvm.Cond.methodLink "SmokeLeansModel" (211 : Nat) ({ cls := "SmokeLeansModel", name := "leanOf", desc := "(I)I" } : Jvm.MethodName)) ∈ lw_all := lw_g (lw_at lw_m5 231 rfl) rfl
theorem q1258 : (Jvm.Cond.privateMethod ({ cls := "SmokeLeansModel", name := "leanOf", desc := "(I)I" } : Jvm.MethodName)) ∈ lw_tbl := lw_at lw_m5 232 rfl
theorem q1259 : (Jvm.Cond.instanceMethod ({ cls := "SmokeLeansModel", name := "leanOf", desc := "(I)I" } : Jvm.MethodName)) ∈ lw_all := lw_g (lw_at lw_m5 233 rfl) rfl
theorem q1260 : (Jvm.Cond.code ({ cls := "SmokeLeansModel", name := "leanOf", desc := "(I)I" } : Jvm.MethodName) prog_16_method_45_code (4 : Nat) (Option.some Jvm.ClassFile.FieldType.int)) ∈ lw_all := lw_g (lw_at lw_m5 234 rfl) rfl
theorem q1261 : (Jvm.Cond.methodLink "SmokeLeansModel" (202 : Nat) ({ cls := "SmokeLeansModel", name := "size", desc := "(I)I" } : Jvm.MethodName)) ∈ lw_all := lw_g (lw_at lw_m5 235 rfl) rfl
theorem q1262 : (Jvm.Cond.static ({ cls := "SmokeLeansModel", name := "size", desc := "(I)I" } : Jvm.MethodName)) ∈ lw_all := lw_g (lw_at lw_m5 236 rfl) rfl
theorem q1263 : (Jvm.Cond.code ({ cls := "SmokeLeansModel", name := "size", desc := "(I)I" } : Jvm.MethodName) prog_16_method_44_code (1 : Nat) (Option.some Jvm.ClassFile.FieldType.int)) ∈ lw_all := lw_g (lw_at lw_m5 237 rfl) rfl
theorem q1265 : (Jvm.Cond.instanceMethod ({ cls := "SmokeLeansModel", name := "rounds", desc := "()I" } : Jvm.MethodName)) ∈ lw_all := lw_g (lw_at lw_m5 239 rfl) rfl
theorem q1266 : (Jvm.Cond.selects "SmokeLeansModel" ({ cls := "SmokeLeansModel", name := "rounds", desc := "()I" } : Jvm.MethodName) ({ cls := "SmokeLeansModel", name := "rounds", desc := "()I" } : Jvm.MethodName)) ∈ lw_all := lw_g (lw_at lw_m6 0 rfl) rfl
theorem q1267 : (Jvm.Cond.code ({ cls := "SmokeLeansModel", name := "rounds", desc := "()I" } : Jvm.MethodName) prog_16_method_52_code (1 : Nat) (Option.some Jvm.ClassFile.FieldType.int)) ∈ lw_all := lw_g (lw_at lw_m6 1 rfl) rfl
theorem q1269 : (Jvm.Cond.instanceMethod ({ cls := "SmokeLeansModel", name := "rest", desc := "(I)I" } : Jvm.MethodName)) ∈ lw_all := lw_g (lw_at lw_m6 3 rfl) rfl
theorem q1270 : (Jvm.Cond.selects "SmokeLeansModel" ({ cls := "SmokeLeansModel", name := "rest", desc := "(I)I" } : Jvm.MethodName) ({ cls := "SmokeLeansModel", name := "rest", desc := "(I)I" } : Jvm.MethodName)) ∈ lw_all := lw_g (lw_at lw_m6 4 rfl) rfl
theorem q1271 : (Jvm.Cond.code ({ cls := "SmokeLeansModel", name := "rest", desc := "(I)I" } : Jvm.MethodName) prog_16_method_53_code (4 : Nat) (Option.some Jvm.ClassFile.FieldType.int)) ∈ lw_all := lw_g (lw_at lw_m6 5 rfl) rfl
theorem q1273 : (Jvm.Cond.instanceMethod ({ cls := "SmokeLeansModel", name := "air", desc := "(I)I" } : Jvm.MethodName)) ∈ lw_all := lw_g (lw_at lw_m6 7 rfl) rfl
theorem q1274 : (Jvm.Cond.selects "SmokeLeansModel" ({ cls := "SmokeLeansModel", name := "air", desc := "(I)I" } : Jvm.MethodName) ({ cls := "SmokeLeansModel", name := "air", desc := "(I)I" } : Jvm.MethodName)) ∈ lw_all := lw_g (lw_at lw_m6 8 rfl) rfl
theorem q1275 : (Jvm.Cond.code ({ cls := "SmokeLeansModel", name := "air", desc := "(I)I" } : Jvm.MethodName) prog_16_method_54_code (2 : Nat) (Option.some Jvm.ClassFile.FieldType.int)) ∈ lw_all := lw_g (lw_at lw_m6 9 rfl) rfl
theorem q1276 : (Jvm.Cond.constantLong "SmokeLeansModel" (214 : Nat) (3 : Int64)) ∈ lw_all := lw_g (lw_at lw_m6 10 rfl) rfl
theorem q1277 : (Jvm.Cond.methodLink "SmokeLeansModel" (205 : Nat) ({ cls := "SmokeLeansModel", name := "fresh", desc := "()I" } : Jvm.MethodName)) ∈ lw_all := lw_g (lw_at lw_m6 11 rfl) rfl
theorem q1278 : (Jvm.Cond.privateMethod ({ cls := "SmokeLeansModel", name := "fresh", desc := "()I" } : Jvm.MethodName)) ∈ lw_tbl := lw_at lw_m6 12 rfl
theorem q1279 : (Jvm.Cond.instanceMethod ({ cls := "SmokeLeansModel", name := "fresh", desc := "()I" } : Jvm.MethodName)) ∈ lw_all := lw_g (lw_at lw_m6 13 rfl) rfl
theorem q1280 : (Jvm.Cond.code ({ cls := "SmokeLeansModel", name := "fresh", desc := "()I" } : Jvm.MethodName) prog_16_method_46_code (4 : Nat) (Option.some Jvm.ClassFile.FieldType.int)) ∈ lw_all := lw_g (lw_at lw_m6 14 rfl) rfl
theorem q1281 : (Jvm.Cond.methodLink "SmokeLeansModel" (216 : Nat) ({ cls := "SmokeLeansModel", name := "lost", desc := "()I" } : Jvm.MethodName)) ∈ lw_all := lw_g (lw_at lw_m6 15 rfl) rfl
theorem q1282 : (Jvm.Cond.privateMethod ({ cls := "SmokeLeansModel", name := "lost", desc := "()I" } : Jvm.MethodName)) ∈ lw_tbl := lw_at lw_m6 16 rfl
theorem q1283 : (Jvm.Cond.instanceMethod ({ cls := "SmokeLeansModel", name := "lost", desc := "()I" } : Jvm.MethodName)) ∈ lw_all := lw_g (lw_at lw_m6 17 rfl) rfl
theorem q1284 : (Jvm.Cond.code ({ cls := "SmokeLeansModel", name := "lost", desc := "()I" } : Jvm.MethodName) prog_16_method_47_code (1 : Nat) (Option.some Jvm.ClassFile.FieldType.int)) ∈ lw_all := lw_g (lw_at lw_m6 18 rfl) rfl
theorem q1285 : (Jvm.Cond.methodLink "SmokeLeansModel" (219 : Nat) ({ cls := "SmokeLeansModel", name := "smokes", desc := "()Z" } : Jvm.MethodName)) ∈ lw_all := lw_g (lw_at lw_m6 19 rfl) rfl
theorem q1286 : (Jvm.Cond.privateMethod ({ cls := "SmokeLeansModel", name := "smokes", desc := "()Z" } : Jvm.MethodName)) ∈ lw_tbl := lw_at lw_m6 20 rfl
theorem q1287 : (Jvm.Cond.instanceMethod ({ cls := "SmokeLeansModel", name := "smokes", desc := "()Z" } : Jvm.MethodName)) ∈ lw_all := lw_g (lw_at lw_m6 21 rfl) rfl
theorem q1288 : (Jvm.Cond.code ({ cls := "SmokeLeansModel", name := "smokes", desc := "()Z" } : Jvm.MethodName) prog_16_method_48_code (3 : Nat) (Option.some Jvm.ClassFile.FieldType.boolean)) ∈ lw_all := lw_g (lw_at lw_m6 22 rfl) rfl
theorem q1290 : (Jvm.Cond.instanceMethod ({ cls := "SmokeLeansModel", name := "seed", desc := "(I)I" } : Jvm.MethodName)) ∈ lw_all := lw_g (lw_at lw_m6 24 rfl) rfl
theorem q1291 : (Jvm.Cond.selects "SmokeLeansModel" ({ cls := "SmokeLeansModel", name := "seed", desc := "(I)I" } : Jvm.MethodName) ({ cls := "SmokeLeansModel", name := "seed", desc := "(I)I" } : Jvm.MethodName)) ∈ lw_all := lw_g (lw_at lw_m6 25 rfl) rfl
theorem q1292 : (Jvm.Cond.code ({ cls := "SmokeLeansModel", name := "seed", desc := "(I)I" } : Jvm.MethodName) prog_16_method_55_code (3 : Nat) (Option.some Jvm.ClassFile.FieldType.int)) ∈ lw_all := lw_g (lw_at lw_m6 26 rfl) rfl
theorem q1294 : (Jvm.Cond.instanceMethod ({ cls := "SmokeLeansModel", name := "stick", desc := "(I)I" } : Jvm.MethodName)) ∈ lw_all := lw_g (lw_at lw_m6 28 rfl) rfl
theorem q1295 : (Jvm.Cond.selects "SmokeLeansModel" ({ cls := "SmokeLeansModel", name := "stick", desc := "(I)I" } : Jvm.MethodName) ({ cls := "SmokeLeansModel", name := "stick", desc := "(I)I" } : Jvm.MethodName)) ∈ lw_all := lw_g (lw_at lw_m6 29 rfl) rfl
theorem q1296 : (Jvm.Cond.code ({ cls := "SmokeLeansModel", name := "stick", desc := "(I)I" } : Jvm.MethodName) prog_16_method_57_code (2 : Nat) (Option.some Jvm.ClassFile.FieldType.int)) ∈ lw_all := lw_g (lw_at lw_m6 30 rfl) rfl
theorem q1297 : (Jvm.Cond.methodLink "SmokeLeansModel" (223 : Nat) ({ cls := "SmokeLeansModel", name := "seen", desc := "(I)I" } : Jvm.MethodName)) ∈ lw_all := lw_g (lw_at lw_m6 31 rfl) rfl
theorem q1298 : (Jvm.Cond.privateMethod ({ cls := "SmokeLeansModel", name := "seen", desc := "(I)I" } : Jvm.MethodName)) ∈ lw_tbl := lw_at lw_m6 32 rfl
theorem q1299 : (Jvm.Cond.instanceMethod ({ cls := "SmokeLeansModel", name := "seen", desc := "(I)I" } : Jvm.MethodName)) ∈ lw_all := lw_g (lw_at lw_m6 33 rfl) rfl
theorem q1300 : (Jvm.Cond.code ({ cls := "SmokeLeansModel", name := "seen", desc := "(I)I" } : Jvm.MethodName) prog_16_method_56_code (3 : Nat) (Option.some Jvm.ClassFile.FieldType.int)) ∈ lw_all := lw_g (lw_at lw_m6 34 rfl) rfl
theorem q1301 : (Jvm.Cond.constant "SmokeLeansModel" (222 : Nat) (1103515245 : Int32)) ∈ lw_all := lw_g (lw_at lw_m6 35 rfl) rfl
theorem q1303 : (Jvm.Cond.instanceMethod ({ cls := "SmokeLeansModel", name := "widths", desc := "(III)I" } : Jvm.MethodName)) ∈ lw_all := lw_g (lw_at lw_m6 37 rfl) rfl
theorem q1304 : (Jvm.Cond.selects "SmokeLeansModel" ({ cls := "SmokeLeansModel", name := "widths", desc := "(III)I" } : Jvm.MethodName) ({ cls := "SmokeLeansModel", name := "widths", desc := "(III)I" } : Jvm.MethodName)) ∈ lw_all := lw_g (lw_at lw_m6 38 rfl) rfl
theorem q1305 : (Jvm.Cond.code ({ cls := "SmokeLeansModel", name := "widths", desc := "(III)I" } : Jvm.MethodName) prog_16_method_58_code (9 : Nat) (Option.some Jvm.ClassFile.FieldType.int)) ∈ lw_all := lw_g (lw_at lw_m6 39 rfl) rfl
theorem q1306 : (Jvm.Cond.constantLong "SmokeLeansModel" (226 : Nat) (-9 : Int64)) ∈ lw_all := lw_g (lw_at lw_m6 40 rfl) rfl
theorem q1307 : (Jvm.Cond.constantLong "SmokeLeansModel" (228 : Nat) (2 : Int64)) ∈ lw_all := lw_g (lw_at lw_m6 41 rfl) rfl
theorem q1308 : (Jvm.Cond.constant "SmokeLeansModel" (230 : Nat) (-1000000004 : Int32)) ∈ lw_all := lw_g (lw_at lw_m6 42 rfl) rfl
theorem q1310 : (Jvm.Cond.instanceMethod ({ cls := "SmokeLeansModel", name := "most", desc := "()I" } : Jvm.MethodName)) ∈ lw_all := lw_g (lw_at lw_m6 44 rfl) rfl
theorem q1311 : (Jvm.Cond.selects "SmokeLeansModel" ({ cls := "SmokeLeansModel", name := "most", desc := "()I" } : Jvm.MethodName) ({ cls := "SmokeLeansModel", name := "most", desc := "()I" } : Jvm.MethodName)) ∈ lw_all := lw_g (lw_at lw_m6 45 rfl) rfl
theorem q1312 : (Jvm.Cond.code ({ cls := "SmokeLeansModel", name := "most", desc := "()I" } : Jvm.MethodName) prog_16_method_59_code (3 : Nat) (Option.some Jvm.ClassFile.FieldType.int)) ∈ lw_all := lw_g (lw_at lw_m6 46 rfl) rfl
theorem q1314 : (Jvm.Cond.instanceMethod ({ cls := "SmokeLeansModel", name := "stop", desc := "(IIII)I" } : Jvm.MethodName)) ∈ lw_all := lw_g (lw_at lw_m6 48 rfl) rfl
theorem q1315 : (Jvm.Cond.selects "SmokeLeansModel" ({ cls := "SmokeLeansModel", name := "stop", desc := "(IIII)I" } : Jvm.MethodName) ({ cls := "SmokeLeansModel", name := "stop", desc := "(IIII)I" } : Jvm.MethodName)) ∈ lw_all := lw_g (lw_at lw_m6 49 rfl) rfl
theorem q1316 : (Jvm.Cond.code ({ cls := "SmokeLeansModel", name := "stop", desc := "(IIII)I" } : Jvm.MethodName) prog_16_method_64_code (11 : Nat) (Option.some Jvm.ClassFile.FieldType.int)) ∈ lw_all := lw_g (lw_at lw_m6 50 rfl) rfl
theorem q1317 : (Jvm.Cond.methodLink "SmokeLeansModel" (234 : Nat) ({ cls := "SmokeLeansModel", name := "isStopping", desc := "(I)Z" } : Jvm.MethodName)) ∈ lw_all := lw_g (lw_at lw_m6 51 rfl) rfl
theorem q1318 : (Jvm.Cond.privateMethod ({ cls := "SmokeLeansModel", name := "isStopping", desc := "(I)Z" } : Jvm.MethodName)) ∈ lw_tbl := lw_at lw_m6 52 rfl
theorem q1319 : (Jvm.Cond.instanceMethod ({ cls := "SmokeLeansModel", name := "isStopping", desc := "(I)Z" } : Jvm.MethodName)) ∈ lw_all := lw_g (lw_at lw_m6 53 rfl) rfl
theorem q1320 : (Jvm.Cond.code ({ cls := "SmokeLeansModel", name := "isStopping", desc := "(I)Z" } : Jvm.MethodName) prog_16_method_63_code (4 : Nat) (Option.some Jvm.ClassFile.FieldType.boolean)) ∈ lw_all := lw_g (lw_at lw_m6 54 rfl) rfl
theorem q1321 : (Jvm.Cond.methodLink "SmokeLeansModel" (231 : Nat) ({ cls := "SmokeLeansModel", name := "ones", desc := "(I)I" } : Jvm.MethodName)) ∈ lw_all := lw_g (lw_at lw_m6 55 rfl) rfl
theorem q1322 : (Jvm.Cond.static ({ cls := "SmokeLeansModel", name := "ones", desc := "(I)I" } : Jvm.MethodName)) ∈ lw_all := lw_g (lw_at lw_m6 56 rfl) rfl
theorem q1323 : (Jvm.Cond.code ({ cls := "SmokeLeansModel", name := "ones", desc := "(I)I" } : Jvm.MethodName) prog_16_method_61_code (3 : Nat) (Option.some Jvm.ClassFile.FieldType.int)) ∈ lw_all := lw_g (lw_at lw_m6 57 rfl) rfl
theorem q1324 : (Jvm.Cond.constantLong "SmokeLeansModel" (237 : Nat) (999 : Int64)) ∈ lw_all := lw_g (lw_at lw_m6 58 rfl) rfl
theorem q1325 : (Jvm.Cond.constantLong "SmokeLeansModel" (239 : Nat) (99999 : Int64)) ∈ lw_all := lw_g (lw_at lw_m6 59 rfl) rfl
theorem q1326 : (Jvm.Cond.methodLink "SmokeLeansModel" (241 : Nat) ({ cls := "SmokeLeansModel", name := "costs", desc := "(I)I" } : Jvm.MethodName)) ∈ lw_all := lw_g (lw_at lw_m6 60 rfl) rfl
theorem q1327 : (Jvm.Cond.privateMethod ({ cls := "SmokeLeansModel", name := "costs", desc := "(I)I" } : Jvm.MethodName)) ∈ lw_tbl := lw_at lw_m6 61 rfl
theorem q1328 : (Jvm.Cond.instanceMethod ({ cls := "SmokeLeansModel", name := "costs", desc := "(I)I" } : Jvm.MethodName)) ∈ lw_all := lw_g (lw_at lw_m6 62 rfl) rfl
theorem q1329 : (Jvm.Cond.code ({ cls := "SmokeLeansModel", name := "costs", desc := "(I)I" } : Jvm.MethodName) prog_16_method_62_code (4 : Nat) (Option.some Jvm.ClassFile.FieldType.int)) ∈ lw_all := lw_g (lw_at lw_m6 63 rfl) rfl
theorem q1330 : (Jvm.Cond.methodLink "SmokeLeansModel" (244 : Nat) ({ cls := "SmokeLeansModel", name := "shuts", desc := "(II)V" } : Jvm.MethodName)) ∈ lw_all := lw_g (lw_at lw_m6 64 rfl) rfl
theorem q1331 : (Jvm.Cond.privateMethod ({ cls := "SmokeLeansModel", name := "shuts", desc := "(II)V" } : Jvm.MethodName)) ∈ lw_tbl := lw_at lw_m6 65 rfl
theorem q1332 : (Jvm.Cond.instanceMethod ({ cls := "SmokeLeansModel", name := "shuts", desc := "(II)V" } : Jvm.MethodName)) ∈ lw_all := lw_g (lw_at lw_m6 66 rfl) rfl
theorem q1333 : (Jvm.Cond.code ({ cls := "SmokeLeansModel", name := "shuts", desc := "(II)V" } : Jvm.MethodName) prog_16_method_60_code (4 : Nat) (Option.none : Option Jvm.ClassFile.FieldType)) ∈ lw_all := lw_g (lw_at lw_m6 67 rfl) rfl
theorem q1335 : (Jvm.Cond.instanceMethod ({ cls := "SmokeLeansModel", name := "order", desc := "(I)I" } : Jvm.MethodName)) ∈ lw_all := lw_g (lw_at lw_m6 69 rfl) rfl
theorem q1336 : (Jvm.Cond.selects "SmokeLeansModel" ({ cls := "SmokeLeansModel", name := "order", desc := "(I)I" } : Jvm.MethodName) ({ cls := "SmokeLeansModel", name := "order", desc := "(I)I" } : Jvm.MethodName)) ∈ lw_all := lw_g (lw_at lw_m6 70 rfl) rfl
theorem q1337 : (Jvm.Cond.code ({ cls := "SmokeLeansModel", name := "order", desc := "(I)I" } : Jvm.MethodName) prog_16_method_67_code (2 : Nat) (Option.some Jvm.ClassFile.FieldType.int)) ∈ lw_all := lw_g (lw_at lw_m6 71 rfl) rfl
theorem q1338 : (Jvm.Cond.constantLong "SmokeLeansModel" (253 : Nat) (19 : Int64)) ∈ lw_all := lw_g (lw_at lw_m6 72 rfl) rfl
theorem q1339 : (Jvm.Cond.methodLink "SmokeLeansModel" (255 : Nat) ({ cls := "SmokeLeansModel", name := "findOrder", desc := "()V" } : Jvm.MethodName)) ∈ lw_all := lw_g (lw_at lw_m6 73 rfl) rfl
theorem q1340 : (Jvm.Cond.privateMethod ({ cls := "SmokeLeansModel", name := "findOrder", desc := "()V" } : Jvm.MethodName)) ∈ lw_tbl := lw_at lw_m6 74 rfl
theorem q1341 : (Jvm.Cond.instanceMethod ({ cls := "SmokeLeansModel", name := "findOrder", desc := "()V" } : Jvm.MethodName)) ∈ lw_all := lw_g (lw_at lw_m6 75 rfl) rfl
theorem q1342 : (Jvm.Cond.code ({ cls := "SmokeLeansModel", name := "findOrder", desc := "()V" } : Jvm.MethodName) prog_16_method_66_code (2 : Nat) (Option.none : Option Jvm.ClassFile.FieldType)) ∈ lw_all := lw_g (lw_at lw_m6 76 rfl) rfl
theorem q1343 : (Jvm.Cond.methodLink "SmokeLeansModel" (250 : Nat) ({ cls := "SmokeLeansModel", name := "nextShut", desc := "(I)I" } : Jvm.MethodName)) ∈ lw_all := lw_g (lw_at lw_m6 77 rfl) rfl
theorem q1344 : (Jvm.Cond.privateMethod ({ cls := "SmokeLeansModel", name := "nextShut", desc := "(I)I" } : Jvm.MethodName)) ∈ lw_tbl := lw_at lw_m6 78 rfl
theorem q1345 : (Jvm.Cond.instanceMethod ({ cls := "SmokeLeansModel", name := "nextShut", desc := "(I)I" } : Jvm.MethodName)) ∈ lw_all := lw_g (lw_at lw_m6 79 rfl) rfl
theorem q1346 : (Jvm.Cond.code ({ cls := "SmokeLeansModel", name := "nextShut", desc := "(I)I" } : Jvm.MethodName) prog_16_method_65_code (7 : Nat) (Option.some Jvm.ClassFile.FieldType.int)) ∈ lw_all := lw_g (lw_at lw_m6 80 rfl) rfl
theorem q1348 : (Jvm.Cond.instanceMethod ({ cls := "SmokeLeansModel", name := "saved", desc := "(I)I" } : Jvm.MethodName)) ∈ lw_all := lw_g (lw_at lw_m6 82 rfl) rfl
theorem q1349 : (Jvm.Cond.selects "SmokeLeansModel" ({ cls := "SmokeLeansModel", name := "saved", desc := "(I)I" } : Jvm.MethodName) ({ cls := "SmokeLeansModel", name := "saved", desc := "(I)I" } : Jvm.MethodName)) ∈ lw_all := lw_g (lw_at lw_m6 83 rfl) rfl
theorem q1350 : (Jvm.Cond.code ({ cls := "SmokeLeansModel", name := "saved", desc := "(I)I" } : Jvm.MethodName) prog_16_method_68_code (2 : Nat) (Option.some Jvm.ClassFile.FieldType.int)) ∈ lw_all := lw_g (lw_at lw_m6 84 rfl) rfl
theorem q1351 : (Jvm.Cond.constantLong "SmokeLeansModel" (258 : Nat) (20 : Int64)) ∈ lw_all := lw_g (lw_at lw_m6 85 rfl) rfl
theorem q1353 : (Jvm.Cond.instanceMethod ({ cls := "SmokeLeansModel", name := "line", desc := "()I" } : Jvm.MethodName)) ∈ lw_all := lw_g (lw_at lw_m6 87 rfl) rfl
theorem q1354 : (Jvm.Cond.selects "SmokeLeansModel" ({ cls := "SmokeLeansModel", name := "line", desc := "()I" } : Jvm.MethodName) ({ cls := "SmokeLeansModel", name := "line", desc := "()I" } : Jvm.MethodName)) ∈ lw_all := lw_g (lw_at lw_m6 88 rfl) rfl
theorem q1355 : (Jvm.Cond.code ({ cls := "SmokeLeansModel", name := "line", desc := "()I" } : Jvm.MethodName) prog_16_method_69_code (4 : Nat) (Option.some Jvm.ClassFile.FieldType.int)) ∈ lw_all := lw_g (lw_at lw_m6 89 rfl) rfl
theorem q1357 : (Jvm.Cond.instanceMethod ({ cls := "SmokeLeansModel", name := "alone", desc := "(II)I" } : Jvm.MethodName)) ∈ lw_all := lw_g (lw_at lw_m6 91 rfl) rfl
theorem q1358 : (Jvm.Cond.selects "SmokeLeansModel" ({ cls := "SmokeLeansModel", name := "alone", desc := "(II)I" } : Jvm.MethodName) ({ cls := "SmokeLeansModel", name := "alone", desc := "(II)I" } : Jvm.MethodName)) ∈ lw_all := lw_g (lw_at lw_m6 92 rfl) rfl
theorem q1359 : (Jvm.Cond.code ({ cls := "SmokeLeansModel", name := "alone", desc := "(II)I" } : Jvm.MethodName) prog_16_method_70_code (6 : Nat) (Option.some Jvm.ClassFile.FieldType.int)) ∈ lw_all := lw_g (lw_at lw_m6 93 rfl) rfl
theorem q1361 : (Jvm.Cond.instanceMethod ({ cls := "SmokeLeansModel", name := "turns", desc := "(I)I" } : Jvm.MethodName)) ∈ lw_all := lw_g (lw_at lw_m6 95 rfl) rfl
theorem q1362 : (Jvm.Cond.selects "SmokeLeansModel" ({ cls := "SmokeLeansModel", name := "turns", desc := "(I)I" } : Jvm.MethodName) ({ cls := "SmokeLeansModel", name := "turns", desc := "(I)I" } : Jvm.MethodName)) ∈ lw_all := lw_g (lw_at lw_m6 96 rfl) rfl
theorem q1363 : (Jvm.Cond.code ({ cls := "SmokeLeansModel", name := "turns", desc := "(I)I" } : Jvm.MethodName) prog_16_method_71_code (5 : Nat) (Option.some Jvm.ClassFile.FieldType.int)) ∈ lw_all := lw_g (lw_at lw_m6 97 rfl) rfl
theorem q1365 : (Jvm.Cond.instanceMethod ({ cls := "SmokeLeansModel", name := "worst", desc := "()I" } : Jvm.MethodName)) ∈ lw_all := lw_g (lw_at lw_m6 99 rfl) rfl
theorem q1366 : (Jvm.Cond.selects "SmokeLeansModel" ({ cls := "SmokeLeansModel", name := "worst", desc := "()I" } : Jvm.MethodName) ({ cls := "SmokeLeansModel", name := "worst", desc := "()I" } : Jvm.MethodName)) ∈ lw_all := lw_g (lw_at lw_m6 100 rfl) rfl
theorem q1367 : (Jvm.Cond.code ({ cls := "SmokeLeansModel", name := "worst", desc := "()I" } : Jvm.MethodName) prog_16_method_72_code (5 : Nat) (Option.some Jvm.ClassFile.FieldType.int)) ∈ lw_all := lw_g (lw_at lw_m6 101 rfl) rfl
theorem q1369 : (Jvm.Cond.instanceMethod ({ cls := "SmokeLeansModel", name := "sheet", desc := "(III)I" } : Jvm.MethodName)) ∈ lw_all := lw_g (lw_at lw_m6 103 rfl) rfl
theorem q1370 : (Jvm.Cond.selects "SmokeLeansModel" ({ cls := "SmokeLeansModel", name := "sheet", desc := "(III)I" } : Jvm.MethodName) ({ cls := "SmokeLeansModel", name := "sheet", desc := "(III)I" } : Jvm.MethodName)) ∈ lw_all := lw_g (lw_at lw_m6 104 rfl) rfl
theorem q1371 : (Jvm.Cond.code ({ cls := "SmokeLeansModel", name := "sheet", desc := "(III)I" } : Jvm.MethodName) prog_16_method_74_code (5 : Nat) (Option.some Jvm.ClassFile.FieldType.int)) ∈ lw_all := lw_g (lw_at lw_m6 105 rfl) rfl
theorem q1372 : (Jvm.Cond.methodLink "SmokeLeansModel" (260 : Nat) ({ cls := "SmokeLeansModel", name := "isOne", desc := "(I)Z" } : Jvm.MethodName)) ∈ lw_all := lw_g (lw_at lw_m6 106 rfl) rfl
theorem q1373 : (Jvm.Cond.static ({ cls := "SmokeLeansModel", name := "isOne", desc := "(I)Z" } : Jvm.MethodName)) ∈ lw_all := lw_g (lw_at lw_m6 107 rfl) rfl
theorem q1374 : (Jvm.Cond.code ({ cls := "SmokeLeansModel", name := "isOne", desc := "(I)Z" } : Jvm.MethodName) prog_16_method_73_code (1 : Nat) (Option.some Jvm.ClassFile.FieldType.boolean)) ∈ lw_all := lw_g (lw_at lw_m6 108 rfl) rfl
theorem q1375 : (Jvm.Cond.constant "SmokeLeansModel" (263 : Nat) (-1000000007 : Int32)) ∈ lw_all := lw_g (lw_at lw_m6 109 rfl) rfl
theorem q1377 : (Jvm.Cond.instanceMethod ({ cls := "SmokeLeansModel", name := "write", desc := "(IIJ)J" } : Jvm.MethodName)) ∈ lw_all := lw_g (lw_at lw_m6 111 rfl) rfl
theorem q1378 : (Jvm.Cond.selects "SmokeLeansModel" ({ cls := "SmokeLeansModel", name := "write", desc := "(IIJ)J" } : Jvm.MethodName) ({ cls := "SmokeLeansModel", name := "write", desc := "(IIJ)J" } : Jvm.MethodName)) ∈ lw_all := lw_g (lw_at lw_m6 112 rfl) rfl
theorem q1379 : (Jvm.Cond.code ({ cls := "SmokeLeansModel", name := "write", desc := "(IIJ)J" } : Jvm.MethodName) prog_16_method_77_code (8 : Nat) (Option.some Jvm.ClassFile.FieldType.long)) ∈ lw_all := lw_g (lw_at lw_m6 113 rfl) rfl
theorem q1380 : (Jvm.Cond.methodLink "SmokeLeansModel" (265 : Nat) ({ cls := "SmokeLeansModel", name := "wrong", desc := "(I)I" } : Jvm.MethodName)) ∈ lw_all := lw_g (lw_at lw_m6 114 rfl) rfl
theorem q1381 : (Jvm.Cond.privateMethod ({ cls := "SmokeLeansModel", name := "wrong", desc := "(I)I" } : Jvm.MethodName)) ∈ lw_tbl := lw_at lw_m6 115 rfl
theorem q1382 : (Jvm.Cond.instanceMethod ({ cls := "SmokeLeansModel", name := "wrong", desc := "(I)I" } : Jvm.MethodName)) ∈ lw_all := lw_g (lw_at lw_m6 116 rfl) rfl
theorem q1383 : (Jvm.Cond.code ({ cls := "SmokeLeansModel", name := "wrong", desc := "(I)I" } : Jvm.MethodName) prog_16_method_76_code (2 : Nat) (Option.some Jvm.ClassFile.FieldType.int)) ∈ lw_all := lw_g (lw_at lw_m6 117 rfl) rfl
theorem q1384 : (Jvm.Cond.constant "SmokeLeansModel" (264 : Nat) (-1000000006 : Int32)) ∈ lw_all := lw_g (lw_at lw_m6 118 rfl) rfl
theorem q1385 : (Jvm.Cond.methodLink "SmokeLeansModel" (268 : Nat) ({ cls := "SmokeLeansModel", name := "narrowed", desc := "(IJ)J" } : Jvm.MethodName)) ∈ lw_all := lw_g (lw_at lw_m6 119 rfl) rfl
theorem q1386 : (Jvm.Cond.static ({ cls := "SmokeLeansModel", name := "narrowed", desc := "(IJ)J" } : Jvm.MethodName)) ∈ lw_all := lw_g (lw_at lw_m6 120 rfl) rfl
theorem q1387 : (Jvm.Cond.code ({ cls := "SmokeLeansModel", name := "narrowed", desc := "(IJ)J" } : Jvm.MethodName) prog_16_method_75_code (3 : Nat) (Option.some Jvm.ClassFile.FieldType.long)) ∈ lw_all := lw_g (lw_at lw_m6 121 rfl) rfl
theorem q1389 : (Jvm.Cond.instanceMethod ({ cls := "SmokeLeansModel", name := "copy", desc := "(IIIII)I" } : Jvm.MethodName)) ∈ lw_all := lw_g (lw_at lw_m6 123 rfl) rfl
theorem q1390 : (Jvm.Cond.selects "SmokeLeansModel" ({ cls := "SmokeLeansModel", name := "copy", desc := "(IIIII)I" } : Jvm.MethodName) ({ cls := "SmokeLeansModel", name := "copy", desc := "(IIIII)I" } : Jvm.MethodName)) ∈ lw_all := lw_g (lw_at lw_m6 124 rfl) rfl
theorem q1391 : (Jvm.Cond.code ({ cls := "SmokeLeansModel", name := "copy", desc := "(IIIII)I" } : Jvm.MethodName) prog_16_method_78_code (7 : Nat) (Option.some Jvm.ClassFile.FieldType.int)) ∈ lw_all := lw_g (lw_at lw_m6 125 rfl) rfl
theorem q1393 : (Jvm.Cond.instanceMethod ({ cls := "SmokeLeansModel", name := "sticks", desc := "(I)I" } : Jvm.MethodName)) ∈ lw_all := lw_g (lw_at lw_m6 127 rfl) rfl
theorem q1394 : (Jvm.Cond.selects "SmokeLeansModel" ({ cls := "SmokeLeansModel", name := "sticks", desc := "(I)I" } : Jvm.MethodName) ({ cls := "SmokeLeansModel", name := "sticks", desc := "(I)I" } : Jvm.MethodName)) ∈ lw_all := lw_g (lw_at lw_m6 128 rfl) rfl
theorem q1395 : (Jvm.Cond.code ({ cls := "SmokeLeansModel", name := "sticks", desc := "(I)I" } : Jvm.MethodName) prog_16_method_79_code (5 : Nat) (Option.some Jvm.ClassFile.FieldType.int)) ∈ lw_all := lw_g (lw_at lw_m6 129 rfl) rfl
theorem q1397 : (Jvm.Cond.instanceMethod ({ cls := "SmokeLeansModel", name := "lays", desc := "(I)I" } : Jvm.MethodName)) ∈ lw_all := lw_g (lw_at lw_m6 131 rfl) rfl
theorem q1398 : (Jvm.Cond.selects "SmokeLeansModel" ({ cls := "SmokeLeansModel", name := "lays", desc := "(I)I" } : Jvm.MethodName) ({ cls := "SmokeLeansModel", name := "lays", desc := "(I)I" } : Jvm.MethodName)) ∈ lw_all := lw_g (lw_at lw_m6 132 rfl) rfl
theorem q1399 : (Jvm.Cond.code ({ cls := "SmokeLeansModel", name := "lays", desc := "(I)I" } : Jvm.MethodName) prog_16_method_80_code (7 : Nat) (Option.some Jvm.ClassFile.FieldType.int)) ∈ lw_all := lw_g (lw_at lw_m6 133 rfl) rfl
theorem q1401 : (Jvm.Cond.instanceMethod ({ cls := "SmokeLeansModel", name := "read", desc := "(I)I" } : Jvm.MethodName)) ∈ lw_all := lw_g (lw_at lw_m6 135 rfl) rfl
theorem q1402 : (Jvm.Cond.selects "SmokeLeansModel" ({ cls := "SmokeLeansModel", name := "read", desc := "(I)I" } : Jvm.MethodName) ({ cls := "SmokeLeansModel", name := "read", desc := "(I)I" } : Jvm.MethodName)) ∈ lw_all := lw_g (lw_at lw_m6 136 rfl) rfl
theorem q1403 : (Jvm.Cond.code ({ cls := "SmokeLeansModel", name := "read", desc := "(I)I" } : Jvm.MethodName) prog_16_method_81_code (4 : Nat) (Option.some Jvm.ClassFile.FieldType.int)) ∈ lw_all := lw_g (lw_at lw_m6 137 rfl) rfl
theorem q1405 : (Jvm.Cond.instanceMethod ({ cls := "SmokeLeansModel", name := "image", desc := "()I" } : Jvm.MethodName)) ∈ lw_all := lw_g (lw_at lw_m6 139 rfl) rfl
theorem q1406 : (Jvm.Cond.selects "SmokeLeansModel" ({ cls := "SmokeLeansModel", name := "image", desc := "()I" } : Jvm.MethodName) ({ cls := "SmokeLeansModel", name := "image", desc := "()I" } : Jvm.MethodName)) ∈ lw_all := lw_g (lw_at lw_m6 140 rfl) rfl
theorem q1407 : (Jvm.Cond.code ({ cls := "SmokeLeansModel", name := "image", desc := "()I" } : Jvm.MethodName) prog_16_method_82_code (2 : Nat) (Option.some Jvm.ClassFile.FieldType.int)) ∈ lw_all := lw_g (lw_at lw_m6 141 rfl) rfl
theorem q1409 : (Jvm.Cond.instanceMethod ({ cls := "SmokeLeansModel", name := "undo", desc := "()I" } : Jvm.MethodName)) ∈ lw_all := lw_g (lw_at lw_m6 143 rfl) rfl
theorem q1410 : (Jvm.Cond.selects "SmokeLeansModel" ({ cls := "SmokeLeansModel", name := "undo", desc := "()I" } : Jvm.MethodName) ({ cls := "SmokeLeansModel", name := "undo", desc := "()I" } : Jvm.MethodName)) ∈ lw_all := lw_g (lw_at lw_m6 144 rfl) rfl
theorem q1411 : (Jvm.Cond.code ({ cls := "SmokeLeansModel", name := "undo", desc := "()I" } : Jvm.MethodName) prog_16_method_83_code (2 : Nat) (Option.some Jvm.ClassFile.FieldType.int)) ∈ lw_all := lw_g (lw_at lw_m6 145 rfl) rfl
theorem q1413 : (Jvm.Cond.instanceMethod ({ cls := "SmokeLeansModel", name := "tear", desc := "()I" } : Jvm.MethodName)) ∈ lw_all := lw_g (lw_at lw_m6 147 rfl) rfl
theorem q1414 : (Jvm.Cond.selects "SmokeLeansModel" ({ cls := "SmokeLeansModel", name := "tear", desc := "()I" } : Jvm.MethodName) ({ cls := "SmokeLeansModel", name := "tear", desc := "()I" } : Jvm.MethodName)) ∈ lw_all := lw_g (lw_at lw_m6 148 rfl) rfl
theorem q1415 : (Jvm.Cond.code ({ cls := "SmokeLeansModel", name := "tear", desc := "()I" } : Jvm.MethodName) prog_16_method_84_code (2 : Nat) (Option.some Jvm.ClassFile.FieldType.int)) ∈ lw_all := lw_g (lw_at lw_m6 149 rfl) rfl
theorem q1417 : (Jvm.Cond.instanceMethod ({ cls := "SmokeLeansModel", name := "count", desc := "(I)I" } : Jvm.MethodName)) ∈ lw_all := lw_g (lw_at lw_m6 151 rfl) rfl
theorem q1418 : (Jvm.Cond.selects "SmokeLeansModel" ({ cls := "SmokeLeansModel", name := "count", desc := "(I)I" } : Jvm.MethodName) ({ cls := "SmokeLeansModel", name := "count", desc := "(I)I" } : Jvm.MethodName)) ∈ lw_all := lw_g (lw_at lw_m6 152 rfl) rfl
theorem q1419 : (Jvm.Cond.code ({ cls := "SmokeLeansModel", name := "count", desc := "(I)I" } : Jvm.MethodName) prog_16_method_85_code (4 : Nat) (Option.some Jvm.ClassFile.FieldType.int)) ∈ lw_all := lw_g (lw_at lw_m6 153 rfl) rfl
theorem q1421 : (Jvm.Cond.instanceMethod ({ cls := "SmokeLeansModel", name := "status", desc := "(I)I" } : Jvm.MethodName)) ∈ lw_all := lw_g (lw_at lw_m6 155 rfl) rfl
theorem q1422 : (Jvm.Cond.selects "SmokeLeansModel" ({ cls := "SmokeLeansModel", name := "status", desc := "(I)I" } : Jvm.MethodName) ({ cls := "SmokeLeansModel", name := "status", desc := "(I)I" } : Jvm.MethodName)) ∈ lw_all := lw_g (lw_at lw_m6 156 rfl) rfl
theorem q1423 : (Jvm.Cond.code ({ cls := "SmokeLeansModel", name := "status", desc := "(I)I" } : Jvm.MethodName) prog_16_method_86_code (4 : Nat) (Option.some Jvm.ClassFile.FieldType.int)) ∈ lw_all := lw_g (lw_at lw_m6 157 rfl) rfl
theorem q1424 : (Jvm.Cond.constantLong "SmokeLeansModel" (275 : Nat) (-1 : Int64)) ∈ lw_all := lw_g (lw_at lw_m6 158 rfl) rfl
theorem q1425 : (Jvm.Cond.constantLong "SmokeLeansModel" (277 : Nat) (6 : Int64)) ∈ lw_all := lw_g (lw_at lw_m6 159 rfl) rfl
theorem in_X3 : ∀ w ∈ wsX30, w ∈ lw_all := lw_in wsX30 [1023, 1025, 1027, 1029, 1031, 1033, 1035, 1037, 1039, 1041, 1043, 1045, 1047, 1049, 1051, 1053, 1055, 1057, 1059, 1061, 1063, 1065, 1067] (by decide +kernel) (by decide +kernel)
