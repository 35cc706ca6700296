set_option maxRecDepth 100000
abbrev cX0_has : ByteArray := prog_1_method_3_code
def yX0_has : MethodName := ⟨RX0, "has", "(II)Z"⟩
def dkwX0_has_0 : List UInt8 := [26, 27, 122, 4, 126, 4, 160, 0, 7, 4, 167, 0, 4, 3, 172]
abbrev dktX0_has_0 : List UInt8 := dkwX0_has_0 ++ []
theorem dksX0_has_0 : cX0_has.data.toList.drop 0 = dktX0_has_0 := by decide +kernel
theorem dX0_has_0 : decode cX0_has 0 = .ok (.iload_n 0, 1) := dk_26 (dk_at dksX0_has_0 0 rfl rfl)
theorem dX0_has_1 : decode cX0_has 1 = .ok (.iload_n 1, 1) := dk_27 (dk_at dksX0_has_0 1 rfl rfl)
theorem dX0_has_2 : decode cX0_has 2 = .ok (.ishr, 1) := dk_122 (dk_at dksX0_has_0 2 rfl rfl)
theorem dX0_has_3 : decode cX0_has 3 = .ok (.iconst 1, 1) := dk_4 (dk_at dksX0_has_0 3 rfl rfl)
theorem dX0_has_4 : decode cX0_has 4 = .ok (.iand, 1) := dk_126 (dk_at dksX0_has_0 4 rfl rfl)
theorem dX0_has_5 : decode cX0_has 5 = .ok (.iconst 1, 1) := dk_4 (dk_at dksX0_has_0 5 rfl rfl)
theorem dX0_has_6 : decode cX0_has 6 = .ok (.if_icmp .ne 7, 3) := dk_160 0 7 (dk_at dksX0_has_0 6 rfl rfl)
theorem dX0_has_9 : decode cX0_has 9 = .ok (.iconst 1, 1) := dk_4 (dk_at dksX0_has_0 9 rfl rfl)
theorem dX0_has_10 : decode cX0_has 10 = .ok (.goto 4, 3) := dk_167 0 4 (dk_at dksX0_has_0 10 rfl rfl)
theorem dX0_has_13 : decode cX0_has 13 = .ok (.iconst 0, 1) := dk_3 (dk_at dksX0_has_0 13 rfl rfl)
theorem dX0_has_14 : decode cX0_has 14 = .ok (.ireturn, 1) := dk_172 (dk_at dksX0_has_0 14 rfl rfl)
abbrev cX0_stops : ByteArray := prog_1_method_39_code
def yX0_stops : MethodName := ⟨RX0, "stops", "(III)V"⟩
def dkwX0_stops_6 : List UInt8 := [27, 126, 54, 4, 21, 4, 154, 255, 116, 177]
abbrev dktX0_stops_6 : List UInt8 := dkwX0_stops_6 ++ []
def dkwX0_stops_5 : List UInt8 := [153, 0, 20, 21, 7, 153, 0, 15, 42, 21, 4, 181, 1, 26, 42, 21, 5, 181, 1, 36, 21, 4, 27, 100]
abbrev dktX0_stops_5 : List UInt8 := dkwX0_stops_5 ++ dktX0_stops_6
def dkwX0_stops_4 : List UInt8 := [21, 4, 184, 1, 21, 42, 180, 1, 26, 184, 1, 21, 162, 0, 7, 4, 167, 0, 4, 3, 54, 7, 21, 6]
abbrev dktX0_stops_4 : List UInt8 := dkwX0_stops_4 ++ dktX0_stops_5
def dkwX0_stops_3 : List UInt8 := [180, 1, 26, 155, 0, 36, 21, 5, 42, 180, 1, 36, 161, 0, 27, 21, 5, 42, 180, 1, 36, 160, 0, 22]
abbrev dktX0_stops_3 : List UInt8 := dkwX0_stops_3 ++ dktX0_stops_4
def dkwX0_stops_2 : List UInt8 := [180, 0, 85, 182, 0, 230, 154, 0, 7, 4, 167, 0, 4, 3, 54, 6, 42, 21, 4, 3, 182, 1, 32, 42]
abbrev dktX0_stops_2 : List UInt8 := dkwX0_stops_2 ++ dktX0_stops_3
def dkwX0_stops_1 : List UInt8 := [182, 1, 32, 42, 180, 0, 85, 182, 0, 227, 54, 5, 42, 180, 0, 85, 182, 0, 224, 29, 161, 0, 17, 42]
abbrev dktX0_stops_1 : List UInt8 := dkwX0_stops_1 ++ dktX0_stops_2
def dkwX0_stops_0 : List UInt8 := [42, 2, 181, 1, 26, 3, 54, 4, 42, 21, 4, 182, 1, 29, 28, 163, 0, 123, 42, 21, 4, 4]
abbrev dktX0_stops_0 : List UInt8 := dkwX0_stops_0 ++ dktX0_stops_1
theorem dksX0_stops_0 : cX0_stops.data.toList.drop 0 = dktX0_stops_0 := by decide +kernel
theorem dksX0_stops_1 : cX0_stops.data.toList.drop 22 = dktX0_stops_1 := dk_seg dksX0_stops_0 22 rfl rfl
theorem dksX0_stops_2 : cX0_stops.data.toList.drop 46 = dktX0_stops_2 := dk_seg dksX0_stops_1 24 rfl rfl
theorem dksX0_stops_3 : cX0_stops.data.toList.drop 70 = dktX0_stops_3 := dk_seg dksX0_stops_2 24 rfl rfl
theorem dksX0_stops_4 : cX0_stops.data.toList.drop 94 = dktX0_stops_4 := dk_seg dksX0_stops_3 24 rfl rfl
theorem dksX0_stops_5 : cX0_stops.data.toList.drop 118 = dktX0_stops_5 := dk_seg dksX0_stops_4 24 rfl rfl
theorem dksX0_stops_6 : cX0_stops.data.toList.drop 142 = dktX0_stops_6 := dk_seg dksX0_stops_5 24 rfl rfl
theorem dX0_stops_0 : decode cX0_stops 0 = .ok (.aload_n 0, 1) := dk_42 (dk_at dksX0_stops_0 0 rfl rfl)
theorem dX0_stops_1 : decode cX0_stops 1 = .ok (.iconst (-1), 1) := dk_2 (dk_at dksX0_stops_0 1 rfl rfl)
theorem dX0_stops_2 : decode cX0_stops 2 = .ok (.putfield 282, 3) := dk_181 1 26 (dk_at dksX0_stops_0 2 rfl rfl)
theorem dX0_stops_5 : decode cX0_stops 5 = .ok (.iconst 0, 1) := dk_3 (dk_at dksX0_stops_0 5 rfl rfl)
theorem dX0_stops_6 : decode cX0_stops 6 = .ok (.istore 4, 2) := dk_54 4 (dk_at dksX0_stops_0 6 rfl rfl)
theorem dX0_stops_8 : decode cX0_stops 8 = .ok (.aload_n 0, 1) := dk_42 (dk_at dksX0_stops_0 8 rfl rfl)
theorem dX0_stops_9 : decode cX0_stops 9 = .ok (.iload 4, 2) := dk_21 4 (dk_at dksX0_stops_0 9 rfl rfl)
theorem dX0_stops_11 : decode cX0_stops 11 = .ok (.invokevirtual 285, 3) := dk_182 1 29 (dk_at dksX0_stops_0 11 rfl rfl)
theorem dX0_stops_14 : decode cX0_stops 14 = .ok (.iload_n 2, 1) := dk_28 (dk_at dksX0_stops_0 14 rfl rfl)
theorem dX0_stops_15 : decode cX0_stops 15 = .ok (.if_icmp .gt 123, 3) := dk_163 0 123 (dk_at dksX0_stops_0 15 rfl rfl)
theorem dX0_stops_18 : decode cX0_stops 18 = .ok (.aload_n 0, 1) := dk_42 (dk_at dksX0_stops_0 18 rfl rfl)
theorem dX0_stops_19 : decode cX0_stops 19 = .ok (.iload 4, 2) := dk_21 4 (dk_at dksX0_stops_0 19 rfl rfl)
theorem dX0_stops_21 : decode cX0_stops 21 = .ok (.iconst 1, 1) := dk_4 (dk_at dksX0_stops_0 21 rfl rfl)
theorem dX0_stops_22 : decode cX0_stops 22 = .ok (.invokevirtual 288, 3) := dk_182 1 32 (dk_at dksX0_stops_1 0 rfl rfl)
theorem dX0_stops_25 : decode cX0_stops 25 = .ok (.aload_n 0, 1) := dk_42 (dk_at dksX0_stops_1 3 rfl rfl)
theorem dX0_stops_26 : decode cX0_stops 26 = .ok (.getfield 85, 3) := dk_180 0 85 (dk_at dksX0_stops_1 4 rfl rfl)
theorem dX0_stops_29 : decode cX0_stops 29 = .ok (.invokevirtual 227, 3) := dk_182 0 227 (dk_at dksX0_stops_1 7 rfl rfl)
theorem dX0_stops_32 : decode cX0_stops 32 = .ok (.istore 5, 2) := dk_54 5 (dk_at dksX0_stops_1 10 rfl rfl)
theorem dX0_stops_34 : decode cX0_stops 34 = .ok (.aload_n 0, 1) := dk_42 (dk_at dksX0_stops_1 12 rfl rfl)
theorem dX0_stops_35 : decode cX0_stops 35 = .ok (.getfield 85, 3) := dk_180 0 85 (dk_at dksX0_stops_1 13 rfl rfl)
theorem dX0_stops_38 : decode cX0_stops 38 = .ok (.invokevirtual 224, 3) := dk_182 0 224 (dk_at dksX0_stops_1 16 rfl rfl)
theorem dX0_stops_41 : decode cX0_stops 41 = .ok (.iload_n 3, 1) := dk_29 (dk_at dksX0_stops_1 19 rfl rfl)
theorem dX0_stops_42 : decode cX0_stops 42 = .ok (.if_icmp .lt 17, 3) := dk_161 0 17 (dk_at dksX0_stops_1 20 rfl rfl)
theorem dX0_stops_45 : decode cX0_stops 45 = .ok (.aload_n 0, 1) := dk_42 (dk_at dksX0_stops_1 23 rfl rfl)
theorem dX0_stops_46 : decode cX0_stops 46 = .ok (.getfield 85, 3) := dk_180 0 85 (dk_at dksX0_stops_2 0 rfl rfl)
theorem dX0_stops_49 : decode cX0_stops 49 = .ok (.invokevirtual 230, 3) := dk_182 0 230 (dk_at dksX0_stops_2 3 rfl rfl)
theorem dX0_stops_52 : decode cX0_stops 52 = .ok (.ifCond .ne 7, 3) := dk_154 0 7 (dk_at dksX0_stops_2 6 rfl rfl)
theorem dX0_stops_55 : decode cX0_stops 55 = .ok (.iconst 1, 1) := dk_4 (dk_at dksX0_stops_2 9 rfl rfl)
theorem dX0_stops_56 : decode cX0_stops 56 = .ok (.goto 4, 3) := dk_167 0 4 (dk_at dksX0_stops_2 10 rfl rfl)
theorem dX0_stops_59 : decode cX0_stops 59 = .ok (.iconst 0, 1) := dk_3 (dk_at dksX0_stops_2 13 rfl rfl)
theorem dX0_stops_60 : decode cX0_stops 60 = .ok (.istore 6, 2) := dk_54 6 (dk_at dksX0_stops_2 14 rfl rfl)
theorem dX0_stops_62 : decode cX0_stops 62 = .ok (.aload_n 0, 1) := dk_42 (dk_at dksX0_stops_2 16 rfl rfl)
theorem dX0_stops_63 : decode cX0_stops 63 = .ok (.iload 4, 2) := dk_21 4 (dk_at dksX0_stops_2 17 rfl rfl)
theorem dX0_stops_65 : decode cX0_stops 65 = .ok (.iconst 0, 1) := dk_3 (dk_at dksX0_stops_2 19 rfl rfl)
theorem dX0_stops_66 : decode cX0_stops 66 = .ok (.invokevirtual 288, 3) := dk_182 1 32 (dk_at dksX0_stops_2 20 rfl rfl)
theorem dX0_stops_69 : decode cX0_stops 69 = .ok (.aload_n 0, 1) := dk_42 (dk_at dksX0_stops_2 23 rfl rfl)
theorem dX0_stops_70 : decode cX0_stops 70 = .ok (.getfield 282, 3) := dk_180 1 26 (dk_at dksX0_stops_3 0 rfl rfl)
theorem dX0_stops_73 : decode cX0_stops 73 = .ok (.ifCond .lt 36, 3) := dk_155 0 36 (dk_at dksX0_stops_3 3 rfl rfl)
theorem dX0_stops_76 : decode cX0_stops 76 = .ok (.iload 5, 2) := dk_21 5 (dk_at dksX0_stops_3 6 rfl rfl)
theorem dX0_stops_78 : decode cX0_stops 78 = .ok (.aload_n 0, 1) := dk_42 (dk_at dksX0_stops_3 8 rfl rfl)
theorem dX0_stops_79 : decode cX0_stops 79 = .ok (.getfield 292, 3) := dk_180 1 36 (dk_at dksX0_stops_3 9 rfl rfl)
theorem dX0_stops_82 : decode cX0_stops 82 = .ok (.if_icmp .lt 27, 3) := dk_161 0 27 (dk_at dksX0_stops_3 12 rfl rfl)
theorem dX0_stops_85 : decode cX0_stops 85 = .ok (.iload 5, 2) := dk_21 5 (dk_at dksX0_stops_3 15 rfl rfl)
theorem dX0_stops_87 : decode cX0_stops 87 = .ok (.aload_n 0, 1) := dk_42 (dk_at dksX0_stops_3 17 rfl rfl)
theorem dX0_stops_88 : decode cX0_stops 88 = .ok (.getfield 292, 3) := dk_180 1 36 (dk_at dksX0_stops_3 18 rfl rfl)
theorem dX0_stops_91 : decode cX0_stops 91 = .ok (.if_icmp .ne 22, 3) := dk_160 0 22 (dk_at dksX0_stops_3 21 rfl rfl)
theorem dX0_stops_94 : decode cX0_stops 94 = .ok (.iload 4, 2) := dk_21 4 (dk_at dksX0_stops_4 0 rfl rfl)
theorem dX0_stops_96 : decode cX0_stops 96 = .ok (.invokestatic 277, 3) := dk_184 1 21 (dk_at dksX0_stops_4 2 rfl rfl)
theorem dX0_stops_99 : decode cX0_stops 99 = .ok (.aload_n 0, 1) := dk_42 (dk_at dksX0_stops_4 5 rfl rfl)
theorem dX0_stops_100 : decode cX0_stops 100 = .ok (.getfield 282, 3) := dk_180 1 26 (dk_at dksX0_stops_4 6 rfl rfl)
theorem dX0_stops_103 : decode cX0_stops 103 = .ok (.invokestatic 277, 3) := dk_184 1 21 (dk_at dksX0_stops_4 9 rfl rfl)
theorem dX0_stops_106 : decode cX0_stops 106 = .ok (.if_icmp .ge 7, 3) := dk_162 0 7 (dk_at dksX0_stops_4 12 rfl rfl)
theorem dX0_stops_109 : decode cX0_stops 109 = .ok (.iconst 1, 1) := dk_4 (dk_at dksX0_stops_4 15 rfl rfl)
theorem dX0_stops_110 : decode cX0_stops 110 = .ok (.goto 4, 3) := dk_167 0 4 (dk_at dksX0_stops_4 16 rfl rfl)
theorem dX0_stops_113 : decode cX0_stops 113 = .ok (.iconst 0, 1) := dk_3 (dk_at dksX0_stops_4 19 rfl rfl)
theorem dX0_stops_114 : decode cX0_stops 114 = .ok (.istore 7, 2) := dk_54 7 (dk_at dksX0_stops_4 20 rfl rfl)
theorem dX0_stops_116 : decode cX0_stops 116 = .ok (.iload 6, 2) := dk_21 6 (dk_at dksX0_stops_4 22 rfl rfl)
theorem dX0_stops_118 : decode cX0_stops 118 = .ok (.ifCond .eq 20, 3) := dk_153 0 20 (dk_at dksX0_stops_5 0 rfl rfl)
theorem dX0_stops_121 : decode cX0_stops 121 = .ok (.iload 7, 2) := dk_21 7 (dk_at dksX0_stops_5 3 rfl rfl)
theorem dX0_stops_123 : decode cX0_stops 123 = .ok (.ifCond .eq 15, 3) := dk_153 0 15 (dk_at dksX0_stops_5 5 rfl rfl)
theorem dX0_stops_126 : decode cX0_stops 126 = .ok (.aload_n 0, 1) := dk_42 (dk_at dksX0_stops_5 8 rfl rfl)
theorem dX0_stops_127 : decode cX0_stops 127 = .ok (.iload 4, 2) := dk_21 4 (dk_at dksX0_stops_5 9 rfl rfl)
theorem dX0_stops_129 : decode cX0_stops 129 = .ok (.putfield 282, 3) := dk_181 1 26 (dk_at dksX0_stops_5 11 rfl rfl)
theorem dX0_stops_132 : decode cX0_stops 132 = .ok (.aload_n 0, 1) := dk_42 (dk_at dksX0_stops_5 14 rfl rfl)
theorem dX0_stops_133 : decode cX0_stops 133 = .ok (.iload 5, 2) := dk_21 5 (dk_at dksX0_stops_5 15 rfl rfl)
theorem dX0_stops_135 : decode cX0_stops 135 = .ok (.putfield 292, 3) := dk_181 1 36 (dk_at dksX0_stops_5 17 rfl rfl)
theorem dX0_stops_138 : decode cX0_stops 138 = .ok (.iload 4, 2) := dk_21 4 (dk_at dksX0_stops_5 20 rfl rfl)
theorem dX0_stops_140 : decode cX0_stops 140 = .ok (.iload_n 1, 1) := dk_27 (dk_at dksX0_stops_5 22 rfl rfl)
theorem dX0_stops_141 : decode cX0_stops 141 = .ok (.isub, 1) := dk_100 (dk_at dksX0_stops_5 23 rfl rfl)
theorem dX0_stops_142 : decode cX0_stops 142 = .ok (.iload_n 1, 1) := dk_27 (dk_at dksX0_stops_6 0 rfl rfl)
theorem dX0_stops_143 : decode cX0_stops 143 = .ok (.iand, 1) := dk_126 (dk_at dksX0_stops_6 1 rfl rfl)
theorem dX0_stops_144 : decode cX0_stops 144 = .ok (.istore 4, 2) := dk_54 4 (dk_at dksX0_stops_6 2 rfl rfl)
theorem dX0_stops_146 : decode cX0_stops 146 = .ok (.iload 4, 2) := dk_21 4 (dk_at dksX0_stops_6 4 rfl rfl)
theorem dX0_stops_148 : decode cX0_stops 148 = .ok (.ifCond .ne (-140), 3) := dk_154 255 116 (dk_at dksX0_stops_6 6 rfl rfl)
theorem dX0_stops_151 : decode cX0_stops 151 = .ok (.return_, 1) := dk_177 (dk_at dksX0_stops_6 9 rfl rfl)
abbrev cX0_costs : ByteArray := prog_1_method_37_code
def yX0_costs : MethodName := ⟨RX0, "costs", "(I)I"⟩
def dkwX0_costs_1 : List UInt8 := [42, 180, 0, 85, 29, 182, 0, 172, 180, 0, 68, 96, 61, 132, 3, 1, 167, 255, 220, 28, 172]
abbrev dktX0_costs_1 : List UInt8 := dkwX0_costs_1 ++ []
def dkwX0_costs_0 : List UInt8 := [3, 61, 3, 62, 29, 42, 180, 0, 85, 180, 0, 130, 162, 0, 31, 27, 29, 184, 1, 18, 153, 0, 17, 28]
abbrev dktX0_costs_0 : List UInt8 := dkwX0_costs_0 ++ dktX0_costs_1
theorem dksX0_costs_0 : cX0_costs.data.toList.drop 0 = dktX0_costs_0 := by decide +kernel
theorem dksX0_costs_1 : cX0_costs.data.toList.drop 24 = dktX0_costs_1 := dk_seg dksX0_costs_0 24 rfl rfl
theorem dX0_costs_0 : decode cX0_costs 0 = .ok (.iconst 0, 1) := dk_3 (dk_at dksX0_costs_0 0 rfl rfl)
theorem dX0_costs_1 : decode cX0_costs 1 = .ok (.istore_n 2, 1) := dk_61 (dk_at dksX0_costs_0 1 rfl rfl)
theorem dX0_costs_2 : decode cX0_costs 2 = .ok (.iconst 0, 1) := dk_3 (dk_at dksX0_costs_0 2 rfl rfl)
theorem dX0_costs_3 : decode cX0_costs 3 = .ok (.istore_n 3, 1) := dk_62 (dk_at dksX0_costs_0 3 rfl rfl)
theorem dX0_costs_4 : decode cX0_costs 4 = .ok (.iload_n 3, 1) := dk_29 (dk_at dksX0_costs_0 4 rfl rfl)
theorem dX0_costs_5 : decode cX0_costs 5 = .ok (.aload_n 0, 1) := dk_42 (dk_at dksX0_costs_0 5 rfl rfl)
theorem dX0_costs_6 : decode cX0_costs 6 = .ok (.getfield 85, 3) := dk_180 0 85 (dk_at dksX0_costs_0 6 rfl rfl)
theorem dX0_costs_9 : decode cX0_costs 9 = .ok (.getfield 130, 3) := dk_180 0 130 (dk_at dksX0_costs_0 9 rfl rfl)
theorem dX0_costs_12 : decode cX0_costs 12 = .ok (.if_icmp .ge 31, 3) := dk_162 0 31 (dk_at dksX0_costs_0 12 rfl rfl)
theorem dX0_costs_15 : decode cX0_costs 15 = .ok (.iload_n 1, 1) := dk_27 (dk_at dksX0_costs_0 15 rfl rfl)
theorem dX0_costs_16 : decode cX0_costs 16 = .ok (.iload_n 3, 1) := dk_29 (dk_at dksX0_costs_0 16 rfl rfl)
theorem dX0_costs_17 : decode cX0_costs 17 = .ok (.invokestatic 274, 3) := dk_184 1 18 (dk_at dksX0_costs_0 17 rfl rfl)
theorem dX0_costs_20 : decode cX0_costs 20 = .ok (.ifCond .eq 17, 3) := dk_153 0 17 (dk_at dksX0_costs_0 20 rfl rfl)
theorem dX0_costs_23 : decode cX0_costs 23 = .ok (.iload_n 2, 1) := dk_28 (dk_at dksX0_costs_0 23 rfl rfl)
theorem dX0_costs_24 : decode cX0_costs 24 = .ok (.aload_n 0, 1) := dk_42 (dk_at dksX0_costs_1 0 rfl rfl)
theorem dX0_costs_25 : decode cX0_costs 25 = .ok (.getfield 85, 3) := dk_180 0 85 (dk_at dksX0_costs_1 1 rfl rfl)
theorem dX0_costs_28 : decode cX0_costs 28 = .ok (.iload_n 3, 1) := dk_29 (dk_at dksX0_costs_1 4 rfl rfl)
theorem dX0_costs_29 : decode cX0_costs 29 = .ok (.invokevirtual 172, 3) := dk_182 0 172 (dk_at dksX0_costs_1 5 rfl rfl)
theorem dX0_costs_32 : decode cX0_costs 32 = .ok (.getfield 68, 3) := dk_180 0 68 (dk_at dksX0_costs_1 8 rfl rfl)
theorem dX0_costs_35 : decode cX0_costs 35 = .ok (.iadd, 1) := dk_96 (dk_at dksX0_costs_1 11 rfl rfl)
theorem dX0_costs_36 : decode cX0_costs 36 = .ok (.istore_n 2, 1) := dk_61 (dk_at dksX0_costs_1 12 rfl rfl)
theorem dX0_costs_37 : decode cX0_costs 37 = .ok (.iinc 3 1, 3) := dk_132 3 1 (dk_at dksX0_costs_1 13 rfl rfl)
theorem dX0_costs_40 : decode cX0_costs 40 = .ok (.goto (-36), 3) := dk_167 255 220 (dk_at dksX0_costs_1 16 rfl rfl)
theorem dX0_costs_43 : decode cX0_costs 43 = .ok (.iload_n 2, 1) := dk_28 (dk_at dksX0_costs_1 19 rfl rfl)
theorem dX0_costs_44 : decode cX0_costs 44 = .ok (.ireturn, 1) := dk_172 (dk_at dksX0_costs_1 20 rfl rfl)
abbrev cX0_shutAll : ByteArray := prog_1_method_36_code
def yX0_shutAll : MethodName := ⟨RX0, "shutAll", "(IZ)V"⟩
def dkwX0_shutAll_1 : List UInt8 := [180, 0, 85, 29, 28, 182, 0, 179, 87, 132, 3, 1, 167, 255, 224, 177]
abbrev dktX0_shutAll_1 : List UInt8 := dkwX0_shutAll_1 ++ []
def dkwX0_shutAll_0 : List UInt8 := [3, 62, 29, 42, 180, 0, 85, 180, 0, 130, 162, 0, 27, 27, 29, 184, 1, 18, 153, 0, 13, 42]
abbrev dktX0_shutAll_0 : List UInt8 := dkwX0_shutAll_0 ++ dktX0_shutAll_1
theorem dksX0_shutAll_0 : cX0_shutAll.data.toList.drop 0 = dktX0_shutAll_0 := by decide +kernel
theorem dksX0_shutAll_1 : cX0_shutAll.data.toList.drop 22 = dktX0_shutAll_1 := dk_seg dksX0_shutAll_0 22 rfl rfl
theorem dX0_shutAll_0 : decode cX0_shutAll 0 = .ok (.iconst 0, 1) := dk_3 (dk_at dksX0_shutAll_0 0 rfl rfl)
theorem dX0_shutAll_1 : decode cX0_shutAll 1 = .ok (.istore_n 3, 1) := dk_62 (dk_at dksX0_shutAll_0 1 rfl rfl)
theorem dX0_shutAll_2 : decode cX0_shutAll 2 = .ok (.iload_n 3, 1) := dk_29 (dk_at dksX0_shutAll_0 2 rfl rfl)
theorem dX0_shutAll_3 : decode cX0_shutAll 3 = .ok (.aload_n 0, 1) := dk_42 (dk_at dksX0_shutAll_0 3 rfl rfl)
theorem dX0_shutAll_4 : decode cX0_shutAll 4 = .ok (.getfield 85, 3) := dk_180 0 85 (dk_at dksX0_shutAll_0 4 rfl rfl)
theorem dX0_shutAll_7 : decode cX0_shutAll 7 = .ok (.getfield 130, 3) := dk_180 0 130 (dk_at dksX0_shutAll_0 7 rfl rfl)
theorem dX0_shutAll_10 : decode cX0_shutAll 10 = .ok (.if_icmp .ge 27, 3) := dk_162 0 27 (dk_at dksX0_shutAll_0 10 rfl rfl)
theorem dX0_shutAll_13 : decode cX0_shutAll 13 = .ok (.iload_n 1, 1) := dk_27 (dk_at dksX0_shutAll_0 13 rfl rfl)
theorem dX0_shutAll_14 : decode cX0_shutAll 14 = .ok (.iload_n 3, 1) := dk_29 (dk_at dksX0_shutAll_0 14 rfl rfl)
theorem dX0_shutAll_15 : decode cX0_shutAll 15 = .ok (.invokestatic 274, 3) := dk_184 1 18 (dk_at dksX0_shutAll_0 15 rfl rfl)
theorem dX0_shutAll_18 : decode cX0_shutAll 18 = .ok (.ifCond .eq 13, 3) := dk_153 0 13 (dk_at dksX0_shutAll_0 18 rfl rfl)
theorem dX0_shutAll_21 : decode cX0_shutAll 21 = .ok (.aload_n 0, 1) := dk_42 (dk_at dksX0_shutAll_0 21 rfl rfl)
theorem dX0_shutAll_22 : decode cX0_shutAll 22 = .ok (.getfield 85, 3) := dk_180 0 85 (dk_at dksX0_shutAll_1 0 rfl rfl)
theorem dX0_shutAll_25 : decode cX0_shutAll 25 = .ok (.iload_n 3, 1) := dk_29 (dk_at dksX0_shutAll_1 3 rfl rfl)
theorem dX0_shutAll_26 : decode cX0_shutAll 26 = .ok (.iload_n 2, 1) := dk_28 (dk_at dksX0_shutAll_1 4 rfl rfl)
theorem dX0_shutAll_27 : decode cX0_shutAll 27 = .ok (.invokevirtual 179, 3) := dk_182 0 179 (dk_at dksX0_shutAll_1 5 rfl rfl)
theorem dX0_shutAll_30 : decode cX0_shutAll 30 = .ok (.pop, 1) := dk_87 (dk_at dksX0_shutAll_1 8 rfl rfl)
theorem dX0_shutAll_31 : decode cX0_shutAll 31 = .ok (.iinc 3 1, 3) := dk_132 3 1 (dk_at dksX0_shutAll_1 9 rfl rfl)
theorem dX0_shutAll_34 : decode cX0_shutAll 34 = .ok (.goto (-32), 3) := dk_167 255 224 (dk_at dksX0_shutAll_1 12 rfl rfl)
theorem dX0_shutAll_37 : decode cX0_shutAll 37 = .ok (.return_, 1) := dk_177 (dk_at dksX0_shutAll_1 15 rfl rfl)
abbrev cX0_order : ByteArray := prog_1_method_43_code
def yX0_order : MethodName := ⟨RX0, "order", "(I)I"⟩
def dkwX0_order_1 : List UInt8 := [4, 167, 0, 4, 3, 6, 184, 0, 123, 42, 180, 0, 111, 27, 46, 172, 77, 42, 44, 182, 0, 136, 172]
abbrev dktX0_order_1 : List UInt8 := dkwX0_order_1 ++ []
def dkwX0_order_0 : List UInt8 := [27, 133, 9, 20, 1, 56, 184, 0, 14, 3, 184, 0, 123, 42, 27, 4, 96, 182, 1, 58, 27, 164, 0, 7]
abbrev dktX0_order_0 : List UInt8 := dkwX0_order_0 ++ dktX0_order_1
theorem dksX0_order_0 : cX0_order.data.toList.drop 0 = dktX0_order_0 := by decide +kernel
theorem dksX0_order_1 : cX0_order.data.toList.drop 24 = dktX0_order_1 := dk_seg dksX0_order_0 24 rfl rfl
theorem dX0_order_0 : decode cX0_order 0 = .ok (.iload_n 1, 1) := dk_27 (dk_at dksX0_order_0 0 rfl rfl)
theorem dX0_order_1 : decode cX0_order 1 = .ok (.i2l, 1) := dk_133 (dk_at dksX0_order_0 1 rfl rfl)
theorem dX0_order_2 : decode cX0_order 2 = .ok (.lconst 0, 1) := dk_9 (dk_at dksX0_order_0 2 rfl rfl)
theorem dX0_order_3 : decode cX0_order 3 = .ok (.ldc2_w 312, 3) := dk_20 1 56 (dk_at dksX0_order_0 3 rfl rfl)
theorem dX0_order_6 : decode cX0_order 6 = .ok (.invokestatic 14, 3) := dk_184 0 14 (dk_at dksX0_order_0 6 rfl rfl)
theorem dX0_order_9 : decode cX0_order 9 = .ok (.iconst 0, 1) := dk_3 (dk_at dksX0_order_0 9 rfl rfl)
theorem dX0_order_10 : decode cX0_order 10 = .ok (.invokestatic 123, 3) := dk_184 0 123 (dk_at dksX0_order_0 10 rfl rfl)
theorem dX0_order_13 : decode cX0_order 13 = .ok (.aload_n 0, 1) := dk_42 (dk_at dksX0_order_0 13 rfl rfl)
theorem dX0_order_14 : decode cX0_order 14 = .ok (.iload_n 1, 1) := dk_27 (dk_at dksX0_order_0 14 rfl rfl)
theorem dX0_order_15 : decode cX0_order 15 = .ok (.iconst 1, 1) := dk_4 (dk_at dksX0_order_0 15 rfl rfl)
theorem dX0_order_16 : decode cX0_order 16 = .ok (.iadd, 1) := dk_96 (dk_at dksX0_order_0 16 rfl rfl)
theorem dX0_order_17 : decode cX0_order 17 = .ok (.invokevirtual 314, 3) := dk_182 1 58 (dk_at dksX0_order_0 17 rfl rfl)
theorem dX0_order_20 : decode cX0_order 20 = .ok (.iload_n 1, 1) := dk_27 (dk_at dksX0_order_0 20 rfl rfl)
theorem dX0_order_21 : decode cX0_order 21 = .ok (.if_icmp .le 7, 3) := dk_164 0 7 (dk_at dksX0_order_0 21 rfl rfl)
theorem dX0_order_24 : decode cX0_order 24 = .ok (.iconst 1, 1) := dk_4 (dk_at dksX0_order_1 0 rfl rfl)
theorem dX0_order_25 : decode cX0_order 25 = .ok (.goto 4, 3) := dk_167 0 4 (dk_at dksX0_order_1 1 rfl rfl)
theorem dX0_order_28 : decode cX0_order 28 = .ok (.iconst 0, 1) := dk_3 (dk_at dksX0_order_1 4 rfl rfl)
theorem dX0_order_29 : decode cX0_order 29 = .ok (.iconst 3, 1) := dk_6 (dk_at dksX0_order_1 5 rfl rfl)
theorem dX0_order_30 : decode cX0_order 30 = .ok (.invokestatic 123, 3) := dk_184 0 123 (dk_at dksX0_order_1 6 rfl rfl)
theorem dX0_order_33 : decode cX0_order 33 = .ok (.aload_n 0, 1) := dk_42 (dk_at dksX0_order_1 9 rfl rfl)
theorem dX0_order_34 : decode cX0_order 34 = .ok (.getfield 111, 3) := dk_180 0 111 (dk_at dksX0_order_1 10 rfl rfl)
theorem dX0_order_37 : decode cX0_order 37 = .ok (.iload_n 1, 1) := dk_27 (dk_at dksX0_order_1 13 rfl rfl)
theorem dX0_order_38 : decode cX0_order 38 = .ok (.iaload, 1) := dk_46 (dk_at dksX0_order_1 14 rfl rfl)
theorem dX0_order_39 : decode cX0_order 39 = .ok (.ireturn, 1) := dk_172 (dk_at dksX0_order_1 15 rfl rfl)
theorem dX0_order_40 : decode cX0_order 40 = .ok (.astore_n 2, 1) := dk_77 (dk_at dksX0_order_1 16 rfl rfl)
theorem dX0_order_41 : decode cX0_order 41 = .ok (.aload_n 0, 1) := dk_42 (dk_at dksX0_order_1 17 rfl rfl)
theorem dX0_order_42 : decode cX0_order 42 = .ok (.aload_n 2, 1) := dk_44 (dk_at dksX0_order_1 18 rfl rfl)
theorem dX0_order_43 : decode cX0_order 43 = .ok (.invokevirtual 136, 3) := dk_182 0 136 (dk_at dksX0_order_1 19 rfl rfl)
theorem dX0_order_46 : decode cX0_order 46 = .ok (.ireturn, 1) := dk_172 (dk_at dksX0_order_1 22 rfl rfl)
abbrev cX0_steps : ByteArray := prog_1_method_42_code
def yX0_steps : MethodName := ⟨RX0, "steps", "(I)I"⟩
def dkwX0_steps_4 : List UInt8 := [167, 255, 231, 28, 172]
abbrev dktX0_steps_4 : List UInt8 := dkwX0_steps_4 ++ []
def dkwX0_steps_3 : List UInt8 := [28, 162, 0, 25, 42, 180, 0, 85, 42, 180, 0, 111, 21, 4, 46, 3, 182, 0, 179, 87, 132, 4, 1]
abbrev dktX0_steps_3 : List UInt8 := dkwX0_steps_3 ++ dktX0_steps_4
def dkwX0_steps_2 : List UInt8 := [167, 0, 4, 2, 62, 167, 255, 218, 42, 42, 180, 0, 85, 182, 0, 227, 181, 1, 53, 3, 54, 4, 21, 4]
abbrev dktX0_steps_2 : List UInt8 := dkwX0_steps_2 ++ dktX0_steps_3
def dkwX0_steps_1 : List UInt8 := [4, 182, 0, 179, 87, 42, 180, 0, 111, 28, 29, 79, 132, 2, 1, 28, 27, 162, 0, 10, 42, 182, 1, 50]
abbrev dktX0_steps_1 : List UInt8 := dkwX0_steps_1 ++ dktX0_steps_2
def dkwX0_steps_0 : List UInt8 := [3, 61, 27, 158, 0, 10, 42, 182, 1, 50, 167, 0, 4, 2, 62, 29, 155, 0, 40, 42, 180, 0, 85, 29]
abbrev dktX0_steps_0 : List UInt8 := dkwX0_steps_0 ++ dktX0_steps_1
theorem dksX0_steps_0 : cX0_steps.data.toList.drop 0 = dktX0_steps_0 := by decide +kernel
theorem dksX0_steps_1 : cX0_steps.data.toList.drop 24 = dktX0_steps_1 := dk_seg dksX0_steps_0 24 rfl rfl
theorem dksX0_steps_2 : cX0_steps.data.toList.drop 48 = dktX0_steps_2 := dk_seg dksX0_steps_1 24 rfl rfl
theorem dksX0_steps_3 : cX0_steps.data.toList.drop 72 = dktX0_steps_3 := dk_seg dksX0_steps_2 24 rfl rfl
theorem dksX0_steps_4 : cX0_steps.data.toList.drop 95 = dktX0_steps_4 := dk_seg dksX0_steps_3 23 rfl rfl
theorem dX0_steps_0 : decode cX0_steps 0 = .ok (.iconst 0, 1) := dk_3 (dk_at dksX0_steps_0 0 rfl rfl)
theorem dX0_steps_1 : decode cX0_steps 1 = .ok (.istore_n 2, 1) := dk_61 (dk_at dksX0_steps_0 1 rfl rfl)
theorem dX0_steps_2 : decode cX0_steps 2 = .ok (.iload_n 1, 1) := dk_27 (dk_at dksX0_steps_0 2 rfl rfl)
theorem dX0_steps_3 : decode cX0_steps 3 = .ok (.ifCond .le 10, 3) := dk_158 0 10 (dk_at dksX0_steps_0 3 rfl rfl)
theorem dX0_steps_6 : decode cX0_steps 6 = .ok (.aload_n 0, 1) := dk_42 (dk_at dksX0_steps_0 6 rfl rfl)
theorem dX0_steps_7 : decode cX0_steps 7 = .ok (.invokevirtual 306, 3) := dk_182 1 50 (dk_at dksX0_steps_0 7 rfl rfl)
theorem dX0_steps_10 : decode cX0_steps 10 = .ok (.goto 4, 3) := dk_167 0 4 (dk_at dksX0_steps_0 10 rfl rfl)
theorem dX0_steps_13 : decode cX0_steps 13 = .ok (.iconst (-1), 1) := dk_2 (dk_at dksX0_steps_0 13 rfl rfl)
theorem dX0_steps_14 : decode cX0_steps 14 = .ok (.istore_n 3, 1) := dk_62 (dk_at dksX0_steps_0 14 rfl rfl)
theorem dX0_steps_15 : decode cX0_steps 15 = .ok (.iload_n 3, 1) := dk_29 (dk_at dksX0_steps_0 15 rfl rfl)
theorem dX0_steps_16 : decode cX0_steps 16 = .ok (.ifCond .lt 40, 3) := dk_155 0 40 (dk_at dksX0_steps_0 16 rfl rfl)
theorem dX0_steps_19 : decode cX0_steps 19 = .ok (.aload_n 0, 1) := dk_42 (dk_at dksX0_steps_0 19 rfl rfl)
theorem dX0_steps_20 : decode cX0_steps 20 = .ok (.getfield 85, 3) := dk_180 0 85 (dk_at dksX0_steps_0 20 rfl rfl)
theorem dX0_steps_23 : decode cX0_steps 23 = .ok (.iload_n 3, 1) := dk_29 (dk_at dksX0_steps_0 23 rfl rfl)
theorem dX0_steps_24 : decode cX0_steps 24 = .ok (.iconst 1, 1) := dk_4 (dk_at dksX0_steps_1 0 rfl rfl)
theorem dX0_steps_25 : decode cX0_steps 25 = .ok (.invokevirtual 179, 3) := dk_182 0 179 (dk_at dksX0_steps_1 1 rfl rfl)
theorem dX0_steps_28 : decode cX0_steps 28 = .ok (.pop, 1) := dk_87 (dk_at dksX0_steps_1 4 rfl rfl)
theorem dX0_steps_29 : decode cX0_steps 29 = .ok (.aload_n 0, 1) := dk_42 (dk_at dksX0_steps_1 5 rfl rfl)
theorem dX0_steps_30 : decode cX0_steps 30 = .ok (.getfield 111, 3) := dk_180 0 111 (dk_at dksX0_steps_1 6 rfl rfl)
theorem dX0_steps_33 : decode cX0_steps 33 = .ok (.iload_n 2, 1) := dk_28 (dk_at dksX0_steps_1 9 rfl rfl)
theorem dX0_steps_34 : decode cX0_steps 34 = .ok (.iload_n 3, 1) := dk_29 (dk_at dksX0_steps_1 10 rfl rfl)
theorem dX0_steps_35 : decode cX0_steps 35 = .ok (.iastore, 1) := dk_79 (dk_at dksX0_steps_1 11 rfl rfl)
theorem dX0_steps_36 : decode cX0_steps 36 = .ok (.iinc 2 1, 3) := dk_132 2 1 (dk_at dksX0_steps_1 12 rfl rfl)
theorem dX0_steps_39 : decode cX0_steps 39 = .ok (.iload_n 2, 1) := dk_28 (dk_at dksX0_steps_1 15 rfl rfl)
theorem dX0_steps_40 : decode cX0_steps 40 = .ok (.iload_n 1, 1) := dk_27 (dk_at dksX0_steps_1 16 rfl rfl)
theorem dX0_steps_41 : decode cX0_steps 41 = .ok (.if_icmp .ge 10, 3) := dk_162 0 10 (dk_at dksX0_steps_1 17 rfl rfl)
theorem dX0_steps_44 : decode cX0_steps 44 = .ok (.aload_n 0, 1) := dk_42 (dk_at dksX0_steps_1 20 rfl rfl)
theorem dX0_steps_45 : decode cX0_steps 45 = .ok (.invokevirtual 306, 3) := dk_182 1 50 (dk_at dksX0_steps_1 21 rfl rfl)
theorem dX0_steps_48 : decode cX0_steps 48 = .ok (.goto 4, 3) := dk_167 0 4 (dk_at dksX0_steps_2 0 rfl rfl)
theorem dX0_steps_51 : decode cX0_steps 51 = .ok (.iconst (-1), 1) := dk_2 (dk_at dksX0_steps_2 3 rfl rfl)
theorem dX0_steps_52 : decode cX0_steps 52 = .ok (.istore_n 3, 1) := dk_62 (dk_at dksX0_steps_2 4 rfl rfl)
theorem dX0_steps_53 : decode cX0_steps 53 = .ok (.goto (-38), 3) := dk_167 255 218 (dk_at dksX0_steps_2 5 rfl rfl)
theorem dX0_steps_56 : decode cX0_steps 56 = .ok (.aload_n 0, 1) := dk_42 (dk_at dksX0_steps_2 8 rfl rfl)
theorem dX0_steps_57 : decode cX0_steps 57 = .ok (.aload_n 0, 1) := dk_42 (dk_at dksX0_steps_2 9 rfl rfl)
theorem dX0_steps_58 : decode cX0_steps 58 = .ok (.getfield 85, 3) := dk_180 0 85 (dk_at dksX0_steps_2 10 rfl rfl)
theorem dX0_steps_61 : decode cX0_steps 61 = .ok (.invokevirtual 227, 3) := dk_182 0 227 (dk_at dksX0_steps_2 13 rfl rfl)
theorem dX0_steps_64 : decode cX0_steps 64 = .ok (.putfield 309, 3) := dk_181 1 53 (dk_at dksX0_steps_2 16 rfl rfl)
theorem dX0_steps_67 : decode cX0_steps 67 = .ok (.iconst 0, 1) := dk_3 (dk_at dksX0_steps_2 19 rfl rfl)
theorem dX0_steps_68 : decode cX0_steps 68 = .ok (.istore 4, 2) := dk_54 4 (dk_at dksX0_steps_2 20 rfl rfl)
theorem dX0_steps_70 : decode cX0_steps 70 = .ok (.iload 4, 2) := dk_21 4 (dk_at dksX0_steps_2 22 rfl rfl)
theorem dX0_steps_72 : decode cX0_steps 72 = .ok (.iload_n 2, 1) := dk_28 (dk_at dksX0_steps_3 0 rfl rfl)
theorem dX0_steps_73 : decode cX0_steps 73 = .ok (.if_icmp .ge 25, 3) := dk_162 0 25 (dk_at dksX0_steps_3 1 rfl rfl)
theorem dX0_steps_76 : decode cX0_steps 76 = .ok (.aload_n 0, 1) := dk_42 (dk_at dksX0_steps_3 4 rfl rfl)
theorem dX0_steps_77 : decode cX0_steps 77 = .ok (.getfield 85, 3) := dk_180 0 85 (dk_at dksX0_steps_3 5 rfl rfl)
theorem dX0_steps_80 : decode cX0_steps 80 = .ok (.aload_n 0, 1) := dk_42 (dk_at dksX0_steps_3 8 rfl rfl)
theorem dX0_steps_81 : decode cX0_steps 81 = .ok (.getfield 111, 3) := dk_180 0 111 (dk_at dksX0_steps_3 9 rfl rfl)
theorem dX0_steps_84 : decode cX0_steps 84 = .ok (.iload 4, 2) := dk_21 4 (dk_at dksX0_steps_3 12 rfl rfl)
theorem dX0_steps_86 : decode cX0_steps 86 = .ok (.iaload, 1) := dk_46 (dk_at dksX0_steps_3 14 rfl rfl)
theorem dX0_steps_87 : decode cX0_steps 87 = .ok (.iconst 0, 1) := dk_3 (dk_at dksX0_steps_3 15 rfl rfl)
theorem dX0_steps_88 : decode cX0_steps 88 = .ok (.invokevirtual 179, 3) := dk_182 0 179 (dk_at dksX0_steps_3 16 rfl rfl)
theorem dX0_steps_91 : decode cX0_steps 91 = .ok (.pop, 1) := dk_87 (dk_at dksX0_steps_3 19 rfl rfl)
theorem dX0_steps_92 : decode cX0_steps 92 = .ok (.iinc 4 1, 3) := dk_132 4 1 (dk_at dksX0_steps_3 20 rfl rfl)
theorem dX0_steps_95 : decode cX0_steps 95 = .ok (.goto (-25), 3) := dk_167 255 231 (dk_at dksX0_steps_4 0 rfl rfl)
theorem dX0_steps_98 : decode cX0_steps 98 = .ok (.iload_n 2, 1) := dk_28 (dk_at dksX0_steps_4 3 rfl rfl)
theorem dX0_steps_99 : decode cX0_steps 99 = .ok (.ireturn, 1) := dk_172 (dk_at dksX0_steps_4 4 rfl rfl)
abbrev cX0_pays : ByteArray := prog_1_method_41_code
def yX0_pays : MethodName := ⟨RX0, "pays", "()I"⟩
def dkwX0_pays_5 : List UInt8 := [87, 132, 3, 1, 167, 255, 145, 27, 172]
abbrev dktX0_pays_5 : List UInt8 := dkwX0_pays_5 ++ []
def dkwX0_pays_4 : List UInt8 := [42, 180, 0, 85, 182, 0, 230, 154, 0, 8, 29, 60, 21, 4, 61, 42, 180, 0, 85, 29, 3, 182, 0, 179]
abbrev dktX0_pays_4 : List UInt8 := dkwX0_pays_4 ++ dktX0_pays_5
def dkwX0_pays_3 : List UInt8 := [180, 0, 85, 29, 4, 182, 0, 179, 87, 42, 180, 0, 85, 182, 0, 227, 54, 4, 21, 4, 28, 162, 0, 18]
abbrev dktX0_pays_3 : List UInt8 := dkwX0_pays_3 ++ dktX0_pays_4
def dkwX0_pays_2 : List UInt8 := [2, 160, 0, 71, 42, 180, 0, 85, 29, 182, 0, 172, 5, 182, 0, 183, 153, 0, 6, 167, 0, 53, 42]
abbrev dktX0_pays_2 : List UInt8 := dkwX0_pays_2 ++ dktX0_pays_3
def dkwX0_pays_1 : List UInt8 := [180, 0, 85, 29, 182, 0, 172, 180, 0, 75, 154, 0, 86, 42, 180, 0, 85, 29, 182, 0, 172, 180, 0, 56]
abbrev dktX0_pays_1 : List UInt8 := dkwX0_pays_1 ++ dktX0_pays_2
def dkwX0_pays_0 : List UInt8 := [2, 60, 42, 180, 0, 85, 182, 0, 227, 61, 3, 62, 29, 42, 180, 0, 85, 180, 0, 130, 162, 0, 106, 42]
abbrev dktX0_pays_0 : List UInt8 := dkwX0_pays_0 ++ dktX0_pays_1
theorem dksX0_pays_0 : cX0_pays.data.toList.drop 0 = dktX0_pays_0 := by decide +kernel
theorem dksX0_pays_1 : cX0_pays.data.toList.drop 24 = dktX0_pays_1 := dk_seg dksX0_pays_0 24 rfl rfl
theorem dksX0_pays_2 : cX0_pays.data.toList.drop 48 = dktX0_pays_2 := dk_seg dksX0_pays_1 24 rfl rfl
theorem dksX0_pays_3 : cX0_pays.data.toList.drop 71 = dktX0_pays_3 := dk_seg dksX0_pays_2 23 rfl rfl
theorem dksX0_pays_4 : cX0_pays.data.toList.drop 95 = dktX0_pays_4 := dk_seg dksX0_pays_3 24 rfl rfl
theorem dksX0_pays_5 : cX0_pays.data.toList.drop 119 = dktX0_pays_5 := dk_seg dksX0_pays_4 24 rfl rfl
theorem dX0_pays_0 : decode cX0_pays 0 = .ok (.iconst (-1), 1) := dk_2 (dk_at dksX0_pays_0 0 rfl rfl)
theorem dX0_pays_1 : decode cX0_pays 1 = .ok (.istore_n 1, 1) := dk_60 (dk_at dksX0_pays_0 1 rfl rfl)
theorem dX0_pays_2 : decode cX0_pays 2 = .ok (.aload_n 0, 1) := dk_42 (dk_at dksX0_pays_0 2 rfl rfl)
theorem dX0_pays_3 : decode cX0_pays 3 = .ok (.getfield 85, 3) := dk_180 0 85 (dk_at dksX0_pays_0 3 rfl rfl)
theorem dX0_pays_6 : decode cX0_pays 6 = .ok (.invokevirtual 227, 3) := dk_182 0 227 (dk_at dksX0_pays_0 6 rfl rfl)
theorem dX0_pays_9 : decode cX0_pays 9 = .ok (.istore_n 2, 1) := dk_61 (dk_at dksX0_pays_0 9 rfl rfl)
theorem dX0_pays_10 : decode cX0_pays 10 = .ok (.iconst 0, 1) := dk_3 (dk_at dksX0_pays_0 10 rfl rfl)
theorem dX0_pays_11 : decode cX0_pays 11 = .ok (.istore_n 3, 1) := dk_62 (dk_at dksX0_pays_0 11 rfl rfl)
theorem dX0_pays_12 : decode cX0_pays 12 = .ok (.iload_n 3, 1) := dk_29 (dk_at dksX0_pays_0 12 rfl rfl)
theorem dX0_pays_13 : decode cX0_pays 13 = .ok (.aload_n 0, 1) := dk_42 (dk_at dksX0_pays_0 13 rfl rfl)
theorem dX0_pays_14 : decode cX0_pays 14 = .ok (.getfield 85, 3) := dk_180 0 85 (dk_at dksX0_pays_0 14 rfl rfl)
theorem dX0_pays_17 : decode cX0_pays 17 = .ok (.getfield 130, 3) := dk_180 0 130 (dk_at dksX0_pays_0 17 rfl rfl)
theorem dX0_pays_20 : decode cX0_pays 20 = .ok (.if_icmp .ge 106, 3) := dk_162 0 106 (dk_at dksX0_pays_0 20 rfl rfl)
theorem dX0_pays_23 : decode cX0_pays 23 = .ok (.aload_n 0, 1) := dk_42 (dk_at dksX0_pays_0 23 rfl rfl)
theorem dX0_pays_24 : decode cX0_pays 24 = .ok (.getfield 85, 3) := dk_180 0 85 (dk_at dksX0_pays_1 0 rfl rfl)
theorem dX0_pays_27 : decode cX0_pays 27 = .ok (.iload_n 3, 1) := dk_29 (dk_at dksX0_pays_1 3 rfl rfl)
theorem dX0_pays_28 : decode cX0_pays 28 = .ok (.invokevirtual 172, 3) := dk_182 0 172 (dk_at dksX0_pays_1 4 rfl rfl)
theorem dX0_pays_31 : decode cX0_pays 31 = .ok (.getfield 75, 3) := dk_180 0 75 (dk_at dksX0_pays_1 7 rfl rfl)
theorem dX0_pays_34 : decode cX0_pays 34 = .ok (.ifCond .ne 86, 3) := dk_154 0 86 (dk_at dksX0_pays_1 10 rfl rfl)
theorem dX0_pays_37 : decode cX0_pays 37 = .ok (.aload_n 0, 1) := dk_42 (dk_at dksX0_pays_1 13 rfl rfl)
theorem dX0_pays_38 : decode cX0_pays 38 = .ok (.getfield 85, 3) := dk_180 0 85 (dk_at dksX0_pays_1 14 rfl rfl)
theorem dX0_pays_41 : decode cX0_pays 41 = .ok (.iload_n 3, 1) := dk_29 (dk_at dksX0_pays_1 17 rfl rfl)
theorem dX0_pays_42 : decode cX0_pays 42 = .ok (.invokevirtual 172, 3) := dk_182 0 172 (dk_at dksX0_pays_1 18 rfl rfl)
theorem dX0_pays_45 : decode cX0_pays 45 = .ok (.getfield 56, 3) := dk_180 0 56 (dk_at dksX0_pays_1 21 rfl rfl)
theorem dX0_pays_48 : decode cX0_pays 48 = .ok (.iconst (-1), 1) := dk_2 (dk_at dksX0_pays_2 0 rfl rfl)
theorem dX0_pays_49 : decode cX0_pays 49 = .ok (.if_icmp .ne 71, 3) := dk_160 0 71 (dk_at dksX0_pays_2 1 rfl rfl)
theorem dX0_pays_52 : decode cX0_pays 52 = .ok (.aload_n 0, 1) := dk_42 (dk_at dksX0_pays_2 4 rfl rfl)
theorem dX0_pays_53 : decode cX0_pays 53 = .ok (.getfield 85, 3) := dk_180 0 85 (dk_at dksX0_pays_2 5 rfl rfl)
theorem dX0_pays_56 : decode cX0_pays 56 = .ok (.iload_n 3, 1) := dk_29 (dk_at dksX0_pays_2 8 rfl rfl)
theorem dX0_pays_57 : decode cX0_pays 57 = .ok (.invokevirtual 172, 3) := dk_182 0 172 (dk_at dksX0_pays_2 9 rfl rfl)
theorem dX0_pays_60 : decode cX0_pays 60 = .ok (.iconst 2, 1) := dk_5 (dk_at dksX0_pays_2 12 rfl rfl)
theorem dX0_pays_61 : decode cX0_pays 61 = .ok (.invokevirtual 183, 3) := dk_182 0 183 (dk_at dksX0_pays_2 13 rfl rfl)
theorem dX0_pays_64 : decode cX0_pays 64 = .ok (.ifCond .eq 6, 3) := dk_153 0 6 (dk_at dksX0_pays_2 16 rfl rfl)
theorem dX0_pays_67 : decode cX0_pays 67 = .ok (.goto 53, 3) := dk_167 0 53 (dk_at dksX0_pays_2 19 rfl rfl)
theorem dX0_pays_70 : decode cX0_pays 70 = .ok (.aload_n 0, 1) := dk_42 (dk_at dksX0_pays_2 22 rfl rfl)
theorem dX0_pays_71 : decode cX0_pays 71 = .ok (.getfield 85, 3) := dk_180 0 85 (dk_at dksX0_pays_3 0 rfl rfl)
theorem dX0_pays_74 : decode cX0_pays 74 = .ok (.iload_n 3, 1) := dk_29 (dk_at dksX0_pays_3 3 rfl rfl)
theorem dX0_pays_75 : decode cX0_pays 75 = .ok (.iconst 1, 1) := dk_4 (dk_at dksX0_pays_3 4 rfl rfl)
theorem dX0_pays_76 : decode cX0_pays 76 = .ok (.invokevirtual 179, 3) := dk_182 0 179 (dk_at dksX0_pays_3 5 rfl rfl)
theorem dX0_pays_79 : decode cX0_pays 79 = .ok (.pop, 1) := dk_87 (dk_at dksX0_pays_3 8 rfl rfl)
theorem dX0_pays_80 : decode cX0_pays 80 = .ok (.aload_n 0, 1) := dk_42 (dk_at dksX0_pays_3 9 rfl rfl)
theorem dX0_pays_81 : decode cX0_pays 81 = .ok (.getfield 85, 3) := dk_180 0 85 (dk_at dksX0_pays_3 10 rfl rfl)
theorem dX0_pays_84 : decode cX0_pays 84 = .ok (.invokevirtual 227, 3) := dk_182 0 227 (dk_at dksX0_pays_3 13 rfl rfl)
theorem dX0_pays_87 : decode cX0_pays 87 = .ok (.istore 4, 2) := dk_54 4 (dk_at dksX0_pays_3 16 rfl rfl)
theorem dX0_pays_89 : decode cX0_pays 89 = .ok (.iload 4, 2) := dk_21 4 (dk_at dksX0_pays_3 18 rfl rfl)
theorem dX0_pays_91 : decode cX0_pays 91 = .ok (.iload_n 2, 1) := dk_28 (dk_at dksX0_pays_3 20 rfl rfl)
theorem dX0_pays_92 : decode cX0_pays 92 = .ok (.if_icmp .ge 18, 3) := dk_162 0 18 (dk_at dksX0_pays_3 21 rfl rfl)
theorem dX0_pays_95 : decode cX0_pays 95 = .ok (.aload_n 0, 1) := dk_42 (dk_at dksX0_pays_4 0 rfl rfl)
theorem dX0_pays_96 : decode cX0_pays 96 = .ok (.getfield 85, 3) := dk_180 0 85 (dk_at dksX0_pays_4 1 rfl rfl)
theorem dX0_pays_99 : decode cX0_pays 99 = .ok (.invokevirtual 230, 3) := dk_182 0 230 (dk_at dksX0_pays_4 4 rfl rfl)
theorem dX0_pays_102 : decode cX0_pays 102 = .ok (.ifCond .ne 8, 3) := dk_154 0 8 (dk_at dksX0_pays_4 7 rfl rfl)
theorem dX0_pays_105 : decode cX0_pays 105 = .ok (.iload_n 3, 1) := dk_29 (dk_at dksX0_pays_4 10 rfl rfl)
theorem dX0_pays_106 : decode cX0_pays 106 = .ok (.istore_n 1, 1) := dk_60 (dk_at dksX0_pays_4 11 rfl rfl)
theorem dX0_pays_107 : decode cX0_pays 107 = .ok (.iload 4, 2) := dk_21 4 (dk_at dksX0_pays_4 12 rfl rfl)
theorem dX0_pays_109 : decode cX0_pays 109 = .ok (.istore_n 2, 1) := dk_61 (dk_at dksX0_pays_4 14 rfl rfl)
theorem dX0_pays_110 : decode cX0_pays 110 = .ok (.aload_n 0, 1) := dk_42 (dk_at dksX0_pays_4 15 rfl rfl)
theorem dX0_pays_111 : decode cX0_pays 111 = .ok (.getfield 85, 3) := dk_180 0 85 (dk_at dksX0_pays_4 16 rfl rfl)
theorem dX0_pays_114 : decode cX0_pays 114 = .ok (.iload_n 3, 1) := dk_29 (dk_at dksX0_pays_4 19 rfl rfl)
theorem dX0_pays_115 : decode cX0_pays 115 = .ok (.iconst 0, 1) := dk_3 (dk_at dksX0_pays_4 20 rfl rfl)
theorem dX0_pays_116 : decode cX0_pays 116 = .ok (.invokevirtual 179, 3) := dk_182 0 179 (dk_at dksX0_pays_4 21 rfl rfl)
theorem dX0_pays_119 : decode cX0_pays 119 = .ok (.pop, 1) := dk_87 (dk_at dksX0_pays_5 0 rfl rfl)
theorem dX0_pays_120 : decode cX0_pays 120 = .ok (.iinc 3 1, 3) := dk_132 3 1 (dk_at dksX0_pays_5 1 rfl rfl)
theorem dX0_pays_123 : decode cX0_pays 123 = .ok (.goto (-111), 3) := dk_167 255 145 (dk_at dksX0_pays_5 4 rfl rfl)
theorem dX0_pays_126 : decode cX0_pays 126 = .ok (.iload_n 1, 1) := dk_27 (dk_at dksX0_pays_5 7 rfl rfl)
theorem dX0_pays_127 : decode cX0_pays 127 = .ok (.ireturn, 1) := dk_172 (dk_at dksX0_pays_5 8 rfl rfl)
abbrev cX0_saved : ByteArray := prog_1_method_44_code
def yX0_saved : MethodName := ⟨RX0, "saved", "(I)I"⟩
def dkwX0_saved_1 : List UInt8 := [167, 0, 7, 42, 180, 1, 53, 172, 77, 42, 44, 182, 0, 136, 172]
abbrev dktX0_saved_1 : List UInt8 := dkwX0_saved_1 ++ []
def dkwX0_saved_0 : List UInt8 := [27, 133, 9, 20, 1, 61, 184, 0, 14, 3, 184, 0, 123, 42, 27, 182, 1, 58, 156, 0, 7, 3]
abbrev dktX0_saved_0 : List UInt8 := dkwX0_saved_0 ++ dktX0_saved_1
theorem dksX0_saved_0 : cX0_saved.data.toList.drop 0 = dktX0_saved_0 := by decide +kernel
theorem dksX0_saved_1 : cX0_saved.data.toList.drop 22 = dktX0_saved_1 := dk_seg dksX0_saved_0 22 rfl rfl
theorem dX0_saved_0 : decode cX0_saved 0 = .ok (.iload_n 1, 1) := dk_27 (dk_at dksX0_saved_0 0 rfl rfl)
theorem dX0_saved_1 : decode cX0_saved 1 = .ok (.i2l, 1) := dk_133 (dk_at dksX0_saved_0 1 rfl rfl)
theorem dX0_saved_2 : decode cX0_saved 2 = .ok (.lconst 0, 1) := dk_9 (dk_at dksX0_saved_0 2 rfl rfl)
theorem dX0_saved_3 : decode cX0_saved 3 = .ok (.ldc2_w 317, 3) := dk_20 1 61 (dk_at dksX0_saved_0 3 rfl rfl)
theorem dX0_saved_6 : decode cX0_saved 6 = .ok (.invokestatic 14, 3) := dk_184 0 14 (dk_at dksX0_saved_0 6 rfl rfl)
theorem dX0_saved_9 : decode cX0_saved 9 = .ok (.iconst 0, 1) := dk_3 (dk_at dksX0_saved_0 9 rfl rfl)
theorem dX0_saved_10 : decode cX0_saved 10 = .ok (.invokestatic 123, 3) := dk_184 0 123 (dk_at dksX0_saved_0 10 rfl rfl)
theorem dX0_saved_13 : decode cX0_saved 13 = .ok (.aload_n 0, 1) := dk_42 (dk_at dksX0_saved_0 13 rfl rfl)
theorem dX0_saved_14 : decode cX0_saved 14 = .ok (.iload_n 1, 1) := dk_27 (dk_at dksX0_saved_0 14 rfl rfl)
theorem dX0_saved_15 : decode cX0_saved 15 = .ok (.invokevirtual 314, 3) := dk_182 1 58 (dk_at dksX0_saved_0 15 rfl rfl)
theorem dX0_saved_18 : decode cX0_saved 18 = .ok (.ifCond .ge 7, 3) := dk_156 0 7 (dk_at dksX0_saved_0 18 rfl rfl)
theorem dX0_saved_21 : decode cX0_saved 21 = .ok (.iconst 0, 1) := dk_3 (dk_at dksX0_saved_0 21 rfl rfl)
theorem dX0_saved_22 : decode cX0_saved 22 = .ok (.goto 7, 3) := dk_167 0 7 (dk_at dksX0_saved_1 0 rfl rfl)
theorem dX0_saved_25 : decode cX0_saved 25 = .ok (.aload_n 0, 1) := dk_42 (dk_at dksX0_saved_1 3 rfl rfl)
theorem dX0_saved_26 : decode cX0_saved 26 = .ok (.getfield 309, 3) := dk_180 1 53 (dk_at dksX0_saved_1 4 rfl rfl)
theorem dX0_saved_29 : decode cX0_saved 29 = .ok (.ireturn, 1) := dk_172 (dk_at dksX0_saved_1 7 rfl rfl)
theorem dX0_saved_30 : decode cX0_saved 30 = .ok (.astore_n 2, 1) := dk_77 (dk_at dksX0_saved_1 8 rfl rfl)
theorem dX0_saved_31 : decode cX0_saved 31 = .ok (.aload_n 0, 1) := dk_42 (dk_at dksX0_saved_1 9 rfl rfl)
theorem dX0_saved_32 : decode cX0_saved 32 = .ok (.aload_n 2, 1) := dk_44 (dk_at dksX0_saved_1 10 rfl rfl)
theorem dX0_saved_33 : decode cX0_saved 33 = .ok (.invokevirtual 136, 3) := dk_182 0 136 (dk_at dksX0_saved_1 11 rfl rfl)
theorem dX0_saved_36 : decode cX0_saved 36 = .ok (.ireturn, 1) := dk_172 (dk_at dksX0_saved_1 14 rfl rfl)
abbrev cX0_line : ByteArray := prog_1_method_45_code
def yX0_line : MethodName := ⟨RX0, "line", "()I"⟩
def dkwX0_line_5 : List UInt8 := [180, 0, 160, 4, 27, 79, 42, 180, 0, 85, 182, 0, 133, 25, 4, 191]
abbrev dktX0_line_5 : List UInt8 := dkwX0_line_5 ++ []
def dkwX0_line_4 : List UInt8 := [180, 0, 85, 180, 0, 160, 4, 27, 79, 42, 180, 0, 85, 182, 0, 133, 29, 172, 58, 4, 42, 180, 0, 85]
abbrev dktX0_line_4 : List UInt8 := dkwX0_line_4 ++ dktX0_line_5
def dkwX0_line_3 : List UInt8 := [180, 0, 160, 4, 27, 79, 42, 180, 0, 85, 182, 0, 133, 29, 172, 77, 42, 44, 182, 0, 136, 62, 42]
abbrev dktX0_line_3 : List UInt8 := dkwX0_line_3 ++ dktX0_line_4
def dkwX0_line_2 : List UInt8 := [153, 0, 7, 29, 167, 0, 4, 2, 61, 132, 3, 1, 167, 255, 210, 28, 184, 1, 12, 62, 42, 180, 0, 85]
abbrev dktX0_line_2 : List UInt8 := dkwX0_line_2 ++ dktX0_line_3
def dkwX0_line_1 : List UInt8 := [42, 180, 0, 85, 180, 0, 160, 4, 29, 79, 42, 180, 0, 85, 182, 0, 133, 42, 180, 0, 85, 182, 0, 230]
abbrev dktX0_line_1 : List UInt8 := dkwX0_line_1 ++ dktX0_line_2
def dkwX0_line_0 : List UInt8 := [42, 180, 0, 85, 180, 0, 160, 4, 46, 60, 2, 61, 3, 62, 29, 16, 99, 163, 0, 46, 28, 156, 0, 42]
abbrev dktX0_line_0 : List UInt8 := dkwX0_line_0 ++ dktX0_line_1
theorem dksX0_line_0 : cX0_line.data.toList.drop 0 = dktX0_line_0 := by decide +kernel
theorem dksX0_line_1 : cX0_line.data.toList.drop 24 = dktX0_line_1 := dk_seg dksX0_line_0 24 rfl rfl
theorem dksX0_line_2 : cX0_line.data.toList.drop 48 = dktX0_line_2 := dk_seg dksX0_line_1 24 rfl rfl
theorem dksX0_line_3 : cX0_line.data.toList.drop 72 = dktX0_line_3 := dk_seg dksX0_line_2 24 rfl rfl
theorem dksX0_line_4 : cX0_line.data.toList.drop 95 = dktX0_line_4 := dk_seg dksX0_line_3 23 rfl rfl
theorem dksX0_line_5 : cX0_line.data.toList.drop 119 = dktX0_line_5 := dk_seg dksX0_line_4 24 rfl rfl
theorem dX0_line_0 : decode cX0_line 0 = .ok (.aload_n 0, 1) := dk_42 (dk_at dksX0_line_0 0 rfl rfl)
theorem dX0_line_1 : decode cX0_line 1 = .ok (.getfield 85, 3) := dk_180 0 85 (dk_at dksX0_line_0 1 rfl rfl)
theorem dX0_line_4 : decode cX0_line 4 = .ok (.getfield 160, 3) := dk_180 0 160 (dk_at dksX0_line_0 4 rfl rfl)
theorem dX0_line_7 : decode cX0_line 7 = .ok (.iconst 1, 1) := dk_4 (dk_at dksX0_line_0 7 rfl rfl)
theorem dX0_line_8 : decode cX0_line 8 = .ok (.iaload, 1) := dk_46 (dk_at dksX0_line_0 8 rfl rfl)
theorem dX0_line_9 : decode cX0_line 9 = .ok (.istore_n 1, 1) := dk_60 (dk_at dksX0_line_0 9 rfl rfl)
theorem dX0_line_10 : decode cX0_line 10 = .ok (.iconst (-1), 1) := dk_2 (dk_at dksX0_line_0 10 rfl rfl)
theorem dX0_line_11 : decode cX0_line 11 = .ok (.istore_n 2, 1) := dk_61 (dk_at dksX0_line_0 11 rfl rfl)
theorem dX0_line_12 : decode cX0_line 12 = .ok (.iconst 0, 1) := dk_3 (dk_at dksX0_line_0 12 rfl rfl)
theorem dX0_line_13 : decode cX0_line 13 = .ok (.istore_n 3, 1) := dk_62 (dk_at dksX0_line_0 13 rfl rfl)
theorem dX0_line_14 : decode cX0_line 14 = .ok (.iload_n 3, 1) := dk_29 (dk_at dksX0_line_0 14 rfl rfl)
theorem dX0_line_15 : decode cX0_line 15 = .ok (.bipush 99, 2) := dk_16 99 (dk_at dksX0_line_0 15 rfl rfl)
theorem dX0_line_17 : decode cX0_line 17 = .ok (.if_icmp .gt 46, 3) := dk_163 0 46 (dk_at dksX0_line_0 17 rfl rfl)
theorem dX0_line_20 : decode cX0_line 20 = .ok (.iload_n 2, 1) := dk_28 (dk_at dksX0_line_0 20 rfl rfl)
theorem dX0_line_21 : decode cX0_line 21 = .ok (.ifCond .ge 42, 3) := dk_156 0 42 (dk_at dksX0_line_0 21 rfl rfl)
theorem dX0_line_24 : decode cX0_line 24 = .ok (.aload_n 0, 1) := dk_42 (dk_at dksX0_line_1 0 rfl rfl)
theorem dX0_line_25 : decode cX0_line 25 = .ok (.getfield 85, 3) := dk_180 0 85 (dk_at dksX0_line_1 1 rfl rfl)
theorem dX0_line_28 : decode cX0_line 28 = .ok (.getfield 160, 3) := dk_180 0 160 (dk_at dksX0_line_1 4 rfl rfl)
theorem dX0_line_31 : decode cX0_line 31 = .ok (.iconst 1, 1) := dk_4 (dk_at dksX0_line_1 7 rfl rfl)
theorem dX0_line_32 : decode cX0_line 32 = .ok (.iload_n 3, 1) := dk_29 (dk_at dksX0_line_1 8 rfl rfl)
theorem dX0_line_33 : decode cX0_line 33 = .ok (.iastore, 1) := dk_79 (dk_at dksX0_line_1 9 rfl rfl)
theorem dX0_line_34 : decode cX0_line 34 = .ok (.aload_n 0, 1) := dk_42 (dk_at dksX0_line_1 10 rfl rfl)
theorem dX0_line_35 : decode cX0_line 35 = .ok (.getfield 85, 3) := dk_180 0 85 (dk_at dksX0_line_1 11 rfl rfl)
theorem dX0_line_38 : decode cX0_line 38 = .ok (.invokevirtual 133, 3) := dk_182 0 133 (dk_at dksX0_line_1 14 rfl rfl)
theorem dX0_line_41 : decode cX0_line 41 = .ok (.aload_n 0, 1) := dk_42 (dk_at dksX0_line_1 17 rfl rfl)
theorem dX0_line_42 : decode cX0_line 42 = .ok (.getfield 85, 3) := dk_180 0 85 (dk_at dksX0_line_1 18 rfl rfl)
theorem dX0_line_45 : decode cX0_line 45 = .ok (.invokevirtual 230, 3) := dk_182 0 230 (dk_at dksX0_line_1 21 rfl rfl)
theorem dX0_line_48 : decode cX0_line 48 = .ok (.ifCond .eq 7, 3) := dk_153 0 7 (dk_at dksX0_line_2 0 rfl rfl)
theorem dX0_line_51 : decode cX0_line 51 = .ok (.iload_n 3, 1) := dk_29 (dk_at dksX0_line_2 3 rfl rfl)
theorem dX0_line_52 : decode cX0_line 52 = .ok (.goto 4, 3) := dk_167 0 4 (dk_at dksX0_line_2 4 rfl rfl)
theorem dX0_line_55 : decode cX0_line 55 = .ok (.iconst (-1), 1) := dk_2 (dk_at dksX0_line_2 7 rfl rfl)
theorem dX0_line_56 : decode cX0_line 56 = .ok (.istore_n 2, 1) := dk_61 (dk_at dksX0_line_2 8 rfl rfl)
theorem dX0_line_57 : decode cX0_line 57 = .ok (.iinc 3 1, 3) := dk_132 3 1 (dk_at dksX0_line_2 9 rfl rfl)
theorem dX0_line_60 : decode cX0_line 60 = .ok (.goto (-46), 3) := dk_167 255 210 (dk_at dksX0_line_2 12 rfl rfl)
theorem dX0_line_63 : decode cX0_line 63 = .ok (.iload_n 2, 1) := dk_28 (dk_at dksX0_line_2 15 rfl rfl)
theorem dX0_line_64 : decode cX0_line 64 = .ok (.invokestatic 268, 3) := dk_184 1 12 (dk_at dksX0_line_2 16 rfl rfl)
theorem dX0_line_67 : decode cX0_line 67 = .ok (.istore_n 3, 1) := dk_62 (dk_at dksX0_line_2 19 rfl rfl)
theorem dX0_line_68 : decode cX0_line 68 = .ok (.aload_n 0, 1) := dk_42 (dk_at dksX0_line_2 20 rfl rfl)
theorem dX0_line_69 : decode cX0_line 69 = .ok (.getfield 85, 3) := dk_180 0 85 (dk_at dksX0_line_2 21 rfl rfl)
theorem dX0_line_72 : decode cX0_line 72 = .ok (.getfield 160, 3) := dk_180 0 160 (dk_at dksX0_line_3 0 rfl rfl)
theorem dX0_line_75 : decode cX0_line 75 = .ok (.iconst 1, 1) := dk_4 (dk_at dksX0_line_3 3 rfl rfl)
theorem dX0_line_76 : decode cX0_line 76 = .ok (.iload_n 1, 1) := dk_27 (dk_at dksX0_line_3 4 rfl rfl)
theorem dX0_line_77 : decode cX0_line 77 = .ok (.iastore, 1) := dk_79 (dk_at dksX0_line_3 5 rfl rfl)
theorem dX0_line_78 : decode cX0_line 78 = .ok (.aload_n 0, 1) := dk_42 (dk_at dksX0_line_3 6 rfl rfl)
theorem dX0_line_79 : decode cX0_line 79 = .ok (.getfield 85, 3) := dk_180 0 85 (dk_at dksX0_line_3 7 rfl rfl)
theorem dX0_line_82 : decode cX0_line 82 = .ok (.invokevirtual 133, 3) := dk_182 0 133 (dk_at dksX0_line_3 10 rfl rfl)
theorem dX0_line_85 : decode cX0_line 85 = .ok (.iload_n 3, 1) := dk_29 (dk_at dksX0_line_3 13 rfl rfl)
theorem dX0_line_86 : decode cX0_line 86 = .ok (.ireturn, 1) := dk_172 (dk_at dksX0_line_3 14 rfl rfl)
theorem dX0_line_87 : decode cX0_line 87 = .ok (.astore_n 2, 1) := dk_77 (dk_at dksX0_line_3 15 rfl rfl)
theorem dX0_line_88 : decode cX0_line 88 = .ok (.aload_n 0, 1) := dk_42 (dk_at dksX0_line_3 16 rfl rfl)
theorem dX0_line_89 : decode cX0_line 89 = .ok (.aload_n 2, 1) := dk_44 (dk_at dksX0_line_3 17 rfl rfl)
theorem dX0_line_90 : decode cX0_line 90 = .ok (.invokevirtual 136, 3) := dk_182 0 136 (dk_at dksX0_line_3 18 rfl rfl)
theorem dX0_line_93 : decode cX0_line 93 = .ok (.istore_n 3, 1) := dk_62 (dk_at dksX0_line_3 21 rfl rfl)
theorem dX0_line_94 : decode cX0_line 94 = .ok (.aload_n 0, 1) := dk_42 (dk_at dksX0_line_3 22 rfl rfl)
theorem dX0_line_95 : decode cX0_line 95 = .ok (.getfield 85, 3) := dk_180 0 85 (dk_at dksX0_line_4 0 rfl rfl)
theorem dX0_line_98 : decode cX0_line 98 = .ok (.getfield 160, 3) := dk_180 0 160 (dk_at dksX0_line_4 3 rfl rfl)
theorem dX0_line_101 : decode cX0_line 101 = .ok (.iconst 1, 1) := dk_4 (dk_at dksX0_line_4 6 rfl rfl)
theorem dX0_line_102 : decode cX0_line 102 = .ok (.iload_n 1, 1) := dk_27 (dk_at dksX0_line_4 7 rfl rfl)
theorem dX0_line_103 : decode cX0_line 103 = .ok (.iastore, 1) := dk_79 (dk_at dksX0_line_4 8 rfl rfl)
theorem dX0_line_104 : decode cX0_line 104 = .ok (.aload_n 0, 1) := dk_42 (dk_at dksX0_line_4 9 rfl rfl)
theorem dX0_line_105 : decode cX0_line 105 = .ok (.getfield 85, 3) := dk_180 0 85 (dk_at dksX0_line_4 10 rfl rfl)
theorem dX0_line_108 : decode cX0_line 108 = .ok (.invokevirtual 133, 3) := dk_182 0 133 (dk_at dksX0_line_4 13 rfl rfl)
theorem dX0_line_111 : decode cX0_line 111 = .ok (.iload_n 3, 1) := dk_29 (dk_at dksX0_line_4 16 rfl rfl)
theorem dX0_line_112 : decode cX0_line 112 = .ok (.ireturn, 1) := dk_172 (dk_at dksX0_line_4 17 rfl rfl)
theorem dX0_line_113 : decode cX0_line 113 = .ok (.astore 4, 2) := dk_58 4 (dk_at dksX0_line_4 18 rfl rfl)
theorem dX0_line_115 : decode cX0_line 115 = .ok (.aload_n 0, 1) := dk_42 (dk_at dksX0_line_4 20 rfl rfl)
theorem dX0_line_116 : decode cX0_line 116 = .ok (.getfield 85, 3) := dk_180 0 85 (dk_at dksX0_line_4 21 rfl rfl)
theorem dX0_line_119 : decode cX0_line 119 = .ok (.getfield 160, 3) := dk_180 0 160 (dk_at dksX0_line_5 0 rfl rfl)
theorem dX0_line_122 : decode cX0_line 122 = .ok (.iconst 1, 1) := dk_4 (dk_at dksX0_line_5 3 rfl rfl)
theorem dX0_line_123 : decode cX0_line 123 = .ok (.iload_n 1, 1) := dk_27 (dk_at dksX0_line_5 4 rfl rfl)
theorem dX0_line_124 : decode cX0_line 124 = .ok (.iastore, 1) := dk_79 (dk_at dksX0_line_5 5 rfl rfl)
theorem dX0_line_125 : decode cX0_line 125 = .ok (.aload_n 0, 1) := dk_42 (dk_at dksX0_line_5 6 rfl rfl)
theorem dX0_line_126 : decode cX0_line 126 = .ok (.getfield 85, 3) := dk_180 0 85 (dk_at dksX0_line_5 7 rfl rfl)
theorem dX0_line_129 : decode cX0_line 129 = .ok (.invokevirtual 133, 3) := dk_182 0 133 (dk_at dksX0_line_5 10 rfl rfl)
theorem dX0_line_132 : decode cX0_line 132 = .ok (.aload 4, 2) := dk_25 4 (dk_at dksX0_line_5 13 rfl rfl)
theorem dX0_line_134 : decode cX0_line 134 = .ok (.athrow, 1) := dk_191 (dk_at dksX0_line_5 15 rfl rfl)
abbrev cX0_alone : ByteArray := prog_1_method_46_code
def yX0_alone : MethodName := ⟨RX0, "alone", "(II)I"⟩
def dkwX0_alone_3 : List UInt8 := [182, 0, 179, 54, 6, 21, 6, 153, 0, 8, 21, 5, 167, 0, 4, 3, 172, 78, 42, 45, 182, 0, 136, 172]
abbrev dktX0_alone_3 : List UInt8 := dkwX0_alone_3 ++ []
def dkwX0_alone_2 : List UInt8 := [182, 0, 179, 54, 4, 42, 180, 0, 85, 27, 182, 0, 215, 29, 100, 54, 5, 42, 180, 0, 85, 28, 21, 4]
abbrev dktX0_alone_2 : List UInt8 := dkwX0_alone_2 ++ dktX0_alone_3
def dkwX0_alone_1 : List UInt8 := [167, 0, 4, 3, 3, 184, 0, 123, 42, 180, 0, 85, 27, 182, 0, 215, 62, 42, 180, 0, 85, 28, 4]
abbrev dktX0_alone_1 : List UInt8 := dkwX0_alone_1 ++ dktX0_alone_2
def dkwX0_alone_0 : List UInt8 := [42, 27, 182, 0, 167, 153, 0, 20, 42, 28, 182, 0, 167, 153, 0, 12, 27, 28, 159, 0, 7, 4]
abbrev dktX0_alone_0 : List UInt8 := dkwX0_alone_0 ++ dktX0_alone_1
theorem dksX0_alone_0 : cX0_alone.data.toList.drop 0 = dktX0_alone_0 := by decide +kernel
theorem dksX0_alone_1 : cX0_alone.data.toList.drop 22 = dktX0_alone_1 := dk_seg dksX0_alone_0 22 rfl rfl
theorem dksX0_alone_2 : cX0_alone.data.toList.drop 45 = dktX0_alone_2 := dk_seg dksX0_alone_1 23 rfl rfl
theorem dksX0_alone_3 : cX0_alone.data.toList.drop 69 = dktX0_alone_3 := dk_seg dksX0_alone_2 24 rfl rfl
theorem dX0_alone_0 : decode cX0_alone 0 = .ok (.aload_n 0, 1) := dk_42 (dk_at dksX0_alone_0 0 rfl rfl)
theorem dX0_alone_1 : decode cX0_alone 1 = .ok (.iload_n 1, 1) := dk_27 (dk_at dksX0_alone_0 1 rfl rfl)
theorem dX0_alone_2 : decode cX0_alone 2 = .ok (.invokevirtual 167, 3) := dk_182 0 167 (dk_at dksX0_alone_0 2 rfl rfl)
theorem dX0_alone_5 : decode cX0_alone 5 = .ok (.ifCond .eq 20, 3) := dk_153 0 20 (dk_at dksX0_alone_0 5 rfl rfl)
theorem dX0_alone_8 : decode cX0_alone 8 = .ok (.aload_n 0, 1) := dk_42 (dk_at dksX0_alone_0 8 rfl rfl)
theorem dX0_alone_9 : decode cX0_alone 9 = .ok (.iload_n 2, 1) := dk_28 (dk_at dksX0_alone_0 9 rfl rfl)
theorem dX0_alone_10 : decode cX0_alone 10 = .ok (.invokevirtual 167, 3) := dk_182 0 167 (dk_at dksX0_alone_0 10 rfl rfl)
theorem dX0_alone_13 : decode cX0_alone 13 = .ok (.ifCond .eq 12, 3) := dk_153 0 12 (dk_at dksX0_alone_0 13 rfl rfl)
theorem dX0_alone_16 : decode cX0_alone 16 = .ok (.iload_n 1, 1) := dk_27 (dk_at dksX0_alone_0 16 rfl rfl)
theorem dX0_alone_17 : decode cX0_alone 17 = .ok (.iload_n 2, 1) := dk_28 (dk_at dksX0_alone_0 17 rfl rfl)
theorem dX0_alone_18 : decode cX0_alone 18 = .ok (.if_icmp .eq 7, 3) := dk_159 0 7 (dk_at dksX0_alone_0 18 rfl rfl)
theorem dX0_alone_21 : decode cX0_alone 21 = .ok (.iconst 1, 1) := dk_4 (dk_at dksX0_alone_0 21 rfl rfl)
theorem dX0_alone_22 : decode cX0_alone 22 = .ok (.goto 4, 3) := dk_167 0 4 (dk_at dksX0_alone_1 0 rfl rfl)
theorem dX0_alone_25 : decode cX0_alone 25 = .ok (.iconst 0, 1) := dk_3 (dk_at dksX0_alone_1 3 rfl rfl)
theorem dX0_alone_26 : decode cX0_alone 26 = .ok (.iconst 0, 1) := dk_3 (dk_at dksX0_alone_1 4 rfl rfl)
theorem dX0_alone_27 : decode cX0_alone 27 = .ok (.invokestatic 123, 3) := dk_184 0 123 (dk_at dksX0_alone_1 5 rfl rfl)
theorem dX0_alone_30 : decode cX0_alone 30 = .ok (.aload_n 0, 1) := dk_42 (dk_at dksX0_alone_1 8 rfl rfl)
theorem dX0_alone_31 : decode cX0_alone 31 = .ok (.getfield 85, 3) := dk_180 0 85 (dk_at dksX0_alone_1 9 rfl rfl)
theorem dX0_alone_34 : decode cX0_alone 34 = .ok (.iload_n 1, 1) := dk_27 (dk_at dksX0_alone_1 12 rfl rfl)
theorem dX0_alone_35 : decode cX0_alone 35 = .ok (.invokevirtual 215, 3) := dk_182 0 215 (dk_at dksX0_alone_1 13 rfl rfl)
theorem dX0_alone_38 : decode cX0_alone 38 = .ok (.istore_n 3, 1) := dk_62 (dk_at dksX0_alone_1 16 rfl rfl)
theorem dX0_alone_39 : decode cX0_alone 39 = .ok (.aload_n 0, 1) := dk_42 (dk_at dksX0_alone_1 17 rfl rfl)
theorem dX0_alone_40 : decode cX0_alone 40 = .ok (.getfield 85, 3) := dk_180 0 85 (dk_at dksX0_alone_1 18 rfl rfl)
theorem dX0_alone_43 : decode cX0_alone 43 = .ok (.iload_n 2, 1) := dk_28 (dk_at dksX0_alone_1 21 rfl rfl)
theorem dX0_alone_44 : decode cX0_alone 44 = .ok (.iconst 1, 1) := dk_4 (dk_at dksX0_alone_1 22 rfl rfl)
theorem dX0_alone_45 : decode cX0_alone 45 = .ok (.invokevirtual 179, 3) := dk_182 0 179 (dk_at dksX0_alone_2 0 rfl rfl)
theorem dX0_alone_48 : decode cX0_alone 48 = .ok (.istore 4, 2) := dk_54 4 (dk_at dksX0_alone_2 3 rfl rfl)
theorem dX0_alone_50 : decode cX0_alone 50 = .ok (.aload_n 0, 1) := dk_42 (dk_at dksX0_alone_2 5 rfl rfl)
theorem dX0_alone_51 : decode cX0_alone 51 = .ok (.getfield 85, 3) := dk_180 0 85 (dk_at dksX0_alone_2 6 rfl rfl)
theorem dX0_alone_54 : decode cX0_alone 54 = .ok (.iload_n 1, 1) := dk_27 (dk_at dksX0_alone_2 9 rfl rfl)
theorem dX0_alone_55 : decode cX0_alone 55 = .ok (.invokevirtual 215, 3) := dk_182 0 215 (dk_at dksX0_alone_2 10 rfl rfl)
theorem dX0_alone_58 : decode cX0_alone 58 = .ok (.iload_n 3, 1) := dk_29 (dk_at dksX0_alone_2 13 rfl rfl)
theorem dX0_alone_59 : decode cX0_alone 59 = .ok (.isub, 1) := dk_100 (dk_at dksX0_alone_2 14 rfl rfl)
theorem dX0_alone_60 : decode cX0_alone 60 = .ok (.istore 5, 2) := dk_54 5 (dk_at dksX0_alone_2 15 rfl rfl)
theorem dX0_alone_62 : decode cX0_alone 62 = .ok (.aload_n 0, 1) := dk_42 (dk_at dksX0_alone_2 17 rfl rfl)
theorem dX0_alone_63 : decode cX0_alone 63 = .ok (.getfield 85, 3) := dk_180 0 85 (dk_at dksX0_alone_2 18 rfl rfl)
theorem dX0_alone_66 : decode cX0_alone 66 = .ok (.iload_n 2, 1) := dk_28 (dk_at dksX0_alone_2 21 rfl rfl)
theorem dX0_alone_67 : decode cX0_alone 67 = .ok (.iload 4, 2) := dk_21 4 (dk_at dksX0_alone_2 22 rfl rfl)
theorem dX0_alone_69 : decode cX0_alone 69 = .ok (.invokevirtual 179, 3) := dk_182 0 179 (dk_at dksX0_alone_3 0 rfl rfl)
theorem dX0_alone_72 : decode cX0_alone 72 = .ok (.istore 6, 2) := dk_54 6 (dk_at dksX0_alone_3 3 rfl rfl)
theorem dX0_alone_74 : decode cX0_alone 74 = .ok (.iload 6, 2) := dk_21 6 (dk_at dksX0_alone_3 5 rfl rfl)
theorem dX0_alone_76 : decode cX0_alone 76 = .ok (.ifCond .eq 8, 3) := dk_153 0 8 (dk_at dksX0_alone_3 7 rfl rfl)
theorem dX0_alone_79 : decode cX0_alone 79 = .ok (.iload 5, 2) := dk_21 5 (dk_at dksX0_alone_3 10 rfl rfl)
theorem dX0_alone_81 : decode cX0_alone 81 = .ok (.goto 4, 3) := dk_167 0 4 (dk_at dksX0_alone_3 12 rfl rfl)
theorem dX0_alone_84 : decode cX0_alone 84 = .ok (.iconst 0, 1) := dk_3 (dk_at dksX0_alone_3 15 rfl rfl)
theorem dX0_alone_85 : decode cX0_alone 85 = .ok (.ireturn, 1) := dk_172 (dk_at dksX0_alone_3 16 rfl rfl)
theorem dX0_alone_86 : decode cX0_alone 86 = .ok (.astore_n 3, 1) := dk_78 (dk_at dksX0_alone_3 17 rfl rfl)
theorem dX0_alone_87 : decode cX0_alone 87 = .ok (.aload_n 0, 1) := dk_42 (dk_at dksX0_alone_3 18 rfl rfl)
theorem dX0_alone_88 : decode cX0_alone 88 = .ok (.aload_n 3, 1) := dk_45 (dk_at dksX0_alone_3 19 rfl rfl)
theorem dX0_alone_89 : decode cX0_alone 89 = .ok (.invokevirtual 136, 3) := dk_182 0 136 (dk_at dksX0_alone_3 20 rfl rfl)
theorem dX0_alone_92 : decode cX0_alone 92 = .ok (.ireturn, 1) := dk_172 (dk_at dksX0_alone_3 23 rfl rfl)
abbrev cX0_turns : ByteArray := prog_1_method_47_code
def yX0_turns : MethodName := ⟨RX0, "turns", "(I)I"⟩
def dkwX0_turns_5 : List UInt8 := [182, 0, 133, 29, 172, 77, 42, 44, 182, 0, 136, 172]
abbrev dktX0_turns_5 : List UInt8 := dkwX0_turns_5 ++ []
def dkwX0_turns_4 : List UInt8 := [128, 62, 132, 4, 1, 167, 255, 214, 42, 180, 0, 85, 27, 182, 0, 172, 28, 181, 0, 75, 42, 180, 0, 85]
abbrev dktX0_turns_4 : List UInt8 := dkwX0_turns_4 ++ dktX0_turns_5
def dkwX0_turns_3 : List UInt8 := [180, 0, 114, 21, 4, 46, 42, 180, 0, 85, 21, 4, 182, 0, 218, 104, 156, 0, 10, 29, 4, 21, 4, 120]
abbrev dktX0_turns_3 : List UInt8 := dkwX0_turns_3 ++ dktX0_turns_4
def dkwX0_turns_2 : List UInt8 := [4, 182, 0, 179, 61, 3, 62, 3, 54, 4, 21, 4, 42, 180, 0, 85, 180, 0, 130, 162, 0, 36, 42]
abbrev dktX0_turns_2 : List UInt8 := dkwX0_turns_2 ++ dktX0_turns_3
def dkwX0_turns_1 : List UInt8 := [180, 0, 114, 28, 42, 180, 0, 85, 28, 182, 0, 218, 79, 132, 2, 1, 167, 255, 228, 42, 180, 0, 85, 27]
abbrev dktX0_turns_1 : List UInt8 := dkwX0_turns_1 ++ dktX0_turns_2
def dkwX0_turns_0 : List UInt8 := [42, 27, 182, 0, 167, 3, 184, 0, 123, 3, 61, 28, 42, 180, 0, 85, 180, 0, 130, 162, 0, 23, 42]
abbrev dktX0_turns_0 : List UInt8 := dkwX0_turns_0 ++ dktX0_turns_1
theorem dksX0_turns_0 : cX0_turns.data.toList.drop 0 = dktX0_turns_0 := by decide +kernel
theorem dksX0_turns_1 : cX0_turns.data.toList.drop 23 = dktX0_turns_1 := dk_seg dksX0_turns_0 23 rfl rfl
theorem dksX0_turns_2 : cX0_turns.data.toList.drop 47 = dktX0_turns_2 := dk_seg dksX0_turns_1 24 rfl rfl
theorem dksX0_turns_3 : cX0_turns.data.toList.drop 70 = dktX0_turns_3 := dk_seg dksX0_turns_2 23 rfl rfl
theorem dksX0_turns_4 : cX0_turns.data.toList.drop 94 = dktX0_turns_4 := dk_seg dksX0_turns_3 24 rfl rfl
theorem dksX0_turns_5 : cX0_turns.data.toList.drop 118 = dktX0_turns_5 := dk_seg dksX0_turns_4 24 rfl rfl
theorem dX0_turns_0 : decode cX0_turns 0 = .ok (.aload_n 0, 1) := dk_42 (dk_at dksX0_turns_0 0 rfl rfl)
theorem dX0_turns_1 : decode cX0_turns 1 = .ok (.iload_n 1, 1) := dk_27 (dk_at dksX0_turns_0 1 rfl rfl)
theorem dX0_turns_2 : decode cX0_turns 2 = .ok (.invokevirtual 167, 3) := dk_182 0 167 (dk_at dksX0_turns_0 2 rfl rfl)
theorem dX0_turns_5 : decode cX0_turns 5 = .ok (.iconst 0, 1) := dk_3 (dk_at dksX0_turns_0 5 rfl rfl)
theorem dX0_turns_6 : decode cX0_turns 6 = .ok (.invokestatic 123, 3) := dk_184 0 123 (dk_at dksX0_turns_0 6 rfl rfl)
theorem dX0_turns_9 : decode cX0_turns 9 = .ok (.iconst 0, 1) := dk_3 (dk_at dksX0_turns_0 9 rfl rfl)
theorem dX0_turns_10 : decode cX0_turns 10 = .ok (.istore_n 2, 1) := dk_61 (dk_at dksX0_turns_0 10 rfl rfl)
theorem dX0_turns_11 : decode cX0_turns 11 = .ok (.iload_n 2, 1) := dk_28 (dk_at dksX0_turns_0 11 rfl rfl)
theorem dX0_turns_12 : decode cX0_turns 12 = .ok (.aload_n 0, 1) := dk_42 (dk_at dksX0_turns_0 12 rfl rfl)
theorem dX0_turns_13 : decode cX0_turns 13 = .ok (.getfield 85, 3) := dk_180 0 85 (dk_at dksX0_turns_0 13 rfl rfl)
theorem dX0_turns_16 : decode cX0_turns 16 = .ok (.getfield 130, 3) := dk_180 0 130 (dk_at dksX0_turns_0 16 rfl rfl)
theorem dX0_turns_19 : decode cX0_turns 19 = .ok (.if_icmp .ge 23, 3) := dk_162 0 23 (dk_at dksX0_turns_0 19 rfl rfl)
theorem dX0_turns_22 : decode cX0_turns 22 = .ok (.aload_n 0, 1) := dk_42 (dk_at dksX0_turns_0 22 rfl rfl)
theorem dX0_turns_23 : decode cX0_turns 23 = .ok (.getfield 114, 3) := dk_180 0 114 (dk_at dksX0_turns_1 0 rfl rfl)
theorem dX0_turns_26 : decode cX0_turns 26 = .ok (.iload_n 2, 1) := dk_28 (dk_at dksX0_turns_1 3 rfl rfl)
theorem dX0_turns_27 : decode cX0_turns 27 = .ok (.aload_n 0, 1) := dk_42 (dk_at dksX0_turns_1 4 rfl rfl)
theorem dX0_turns_28 : decode cX0_turns 28 = .ok (.getfield 85, 3) := dk_180 0 85 (dk_at dksX0_turns_1 5 rfl rfl)
theorem dX0_turns_31 : decode cX0_turns 31 = .ok (.iload_n 2, 1) := dk_28 (dk_at dksX0_turns_1 8 rfl rfl)
theorem dX0_turns_32 : decode cX0_turns 32 = .ok (.invokevirtual 218, 3) := dk_182 0 218 (dk_at dksX0_turns_1 9 rfl rfl)
theorem dX0_turns_35 : decode cX0_turns 35 = .ok (.iastore, 1) := dk_79 (dk_at dksX0_turns_1 12 rfl rfl)
theorem dX0_turns_36 : decode cX0_turns 36 = .ok (.iinc 2 1, 3) := dk_132 2 1 (dk_at dksX0_turns_1 13 rfl rfl)
theorem dX0_turns_39 : decode cX0_turns 39 = .ok (.goto (-28), 3) := dk_167 255 228 (dk_at dksX0_turns_1 16 rfl rfl)
theorem dX0_turns_42 : decode cX0_turns 42 = .ok (.aload_n 0, 1) := dk_42 (dk_at dksX0_turns_1 19 rfl rfl)
theorem dX0_turns_43 : decode cX0_turns 43 = .ok (.getfield 85, 3) := dk_180 0 85 (dk_at dksX0_turns_1 20 rfl rfl)
theorem dX0_turns_46 : decode cX0_turns 46 = .ok (.iload_n 1, 1) := dk_27 (dk_at dksX0_turns_1 23 rfl rfl)
theorem dX0_turns_47 : decode cX0_turns 47 = .ok (.iconst 1, 1) := dk_4 (dk_at dksX0_turns_2 0 rfl rfl)
theorem dX0_turns_48 : decode cX0_turns 48 = .ok (.invokevirtual 179, 3) := dk_182 0 179 (dk_at dksX0_turns_2 1 rfl rfl)
theorem dX0_turns_51 : decode cX0_turns 51 = .ok (.istore_n 2, 1) := dk_61 (dk_at dksX0_turns_2 4 rfl rfl)
theorem dX0_turns_52 : decode cX0_turns 52 = .ok (.iconst 0, 1) := dk_3 (dk_at dksX0_turns_2 5 rfl rfl)
theorem dX0_turns_53 : decode cX0_turns 53 = .ok (.istore_n 3, 1) := dk_62 (dk_at dksX0_turns_2 6 rfl rfl)
theorem dX0_turns_54 : decode cX0_turns 54 = .ok (.iconst 0, 1) := dk_3 (dk_at dksX0_turns_2 7 rfl rfl)
theorem dX0_turns_55 : decode cX0_turns 55 = .ok (.istore 4, 2) := dk_54 4 (dk_at dksX0_turns_2 8 rfl rfl)
theorem dX0_turns_57 : decode cX0_turns 57 = .ok (.iload 4, 2) := dk_21 4 (dk_at dksX0_turns_2 10 rfl rfl)
theorem dX0_turns_59 : decode cX0_turns 59 = .ok (.aload_n 0, 1) := dk_42 (dk_at dksX0_turns_2 12 rfl rfl)
theorem dX0_turns_60 : decode cX0_turns 60 = .ok (.getfield 85, 3) := dk_180 0 85 (dk_at dksX0_turns_2 13 rfl rfl)
theorem dX0_turns_63 : decode cX0_turns 63 = .ok (.getfield 130, 3) := dk_180 0 130 (dk_at dksX0_turns_2 16 rfl rfl)
theorem dX0_turns_66 : decode cX0_turns 66 = .ok (.if_icmp .ge 36, 3) := dk_162 0 36 (dk_at dksX0_turns_2 19 rfl rfl)
theorem dX0_turns_69 : decode cX0_turns 69 = .ok (.aload_n 0, 1) := dk_42 (dk_at dksX0_turns_2 22 rfl rfl)
theorem dX0_turns_70 : decode cX0_turns 70 = .ok (.getfield 114, 3) := dk_180 0 114 (dk_at dksX0_turns_3 0 rfl rfl)
theorem dX0_turns_73 : decode cX0_turns 73 = .ok (.iload 4, 2) := dk_21 4 (dk_at dksX0_turns_3 3 rfl rfl)
theorem dX0_turns_75 : decode cX0_turns 75 = .ok (.iaload, 1) := dk_46 (dk_at dksX0_turns_3 5 rfl rfl)
theorem dX0_turns_76 : decode cX0_turns 76 = .ok (.aload_n 0, 1) := dk_42 (dk_at dksX0_turns_3 6 rfl rfl)
theorem dX0_turns_77 : decode cX0_turns 77 = .ok (.getfield 85, 3) := dk_180 0 85 (dk_at dksX0_turns_3 7 rfl rfl)
theorem dX0_turns_80 : decode cX0_turns 80 = .ok (.iload 4, 2) := dk_21 4 (dk_at dksX0_turns_3 10 rfl rfl)
theorem dX0_turns_82 : decode cX0_turns 82 = .ok (.invokevirtual 218, 3) := dk_182 0 218 (dk_at dksX0_turns_3 12 rfl rfl)
theorem dX0_turns_85 : decode cX0_turns 85 = .ok (.imul, 1) := dk_104 (dk_at dksX0_turns_3 15 rfl rfl)
theorem dX0_turns_86 : decode cX0_turns 86 = .ok (.ifCond .ge 10, 3) := dk_156 0 10 (dk_at dksX0_turns_3 16 rfl rfl)
theorem dX0_turns_89 : decode cX0_turns 89 = .ok (.iload_n 3, 1) := dk_29 (dk_at dksX0_turns_3 19 rfl rfl)
theorem dX0_turns_90 : decode cX0_turns 90 = .ok (.iconst 1, 1) := dk_4 (dk_at dksX0_turns_3 20 rfl rfl)
theorem dX0_turns_91 : decode cX0_turns 91 = .ok (.iload 4, 2) := dk_21 4 (dk_at dksX0_turns_3 21 rfl rfl)
theorem dX0_turns_93 : decode cX0_turns 93 = .ok (.ishl, 1) := dk_120 (dk_at dksX0_turns_3 23 rfl rfl)
theorem dX0_turns_94 : decode cX0_turns 94 = .ok (.ior, 1) := dk_128 (dk_at dksX0_turns_4 0 rfl rfl)
theorem dX0_turns_95 : decode cX0_turns 95 = .ok (.istore_n 3, 1) := dk_62 (dk_at dksX0_turns_4 1 rfl rfl)
theorem dX0_turns_96 : decode cX0_turns 96 = .ok (.iinc 4 1, 3) := dk_132 4 1 (dk_at dksX0_turns_4 2 rfl rfl)
theorem dX0_turns_99 : decode cX0_turns 99 = .ok (.goto (-42), 3) := dk_167 255 214 (dk_at dksX0_turns_4 5 rfl rfl)
theorem dX0_turns_102 : decode cX0_turns 102 = .ok (.aload_n 0, 1) := dk_42 (dk_at dksX0_turns_4 8 rfl rfl)
theorem dX0_turns_103 : decode cX0_turns 103 = .ok (.getfield 85, 3) := dk_180 0 85 (dk_at dksX0_turns_4 9 rfl rfl)
theorem dX0_turns_106 : decode cX0_turns 106 = .ok (.iload_n 1, 1) := dk_27 (dk_at dksX0_turns_4 12 rfl rfl)
theorem dX0_turns_107 : decode cX0_turns 107 = .ok (.invokevirtual 172, 3) := dk_182 0 172 (dk_at dksX0_turns_4 13 rfl rfl)
theorem dX0_turns_110 : decode cX0_turns 110 = .ok (.iload_n 2, 1) := dk_28 (dk_at dksX0_turns_4 16 rfl rfl)
theorem dX0_turns_111 : decode cX0_turns 111 = .ok (.putfield 75, 3) := dk_181 0 75 (dk_at dksX0_turns_4 17 rfl rfl)
theorem dX0_turns_114 : decode cX0_turns 114 = .ok (.aload_n 0, 1) := dk_42 (dk_at dksX0_turns_4 20 rfl rfl)
theorem dX0_turns_115 : decode cX0_turns 115 = .ok (.getfield 85, 3) := dk_180 0 85 (dk_at dksX0_turns_4 21 rfl rfl)
theorem dX0_turns_118 : decode cX0_turns 118 = .ok (.invokevirtual 133, 3) := dk_182 0 133 (dk_at dksX0_turns_5 0 rfl rfl)
theorem dX0_turns_121 : decode cX0_turns 121 = .ok (.iload_n 3, 1) := dk_29 (dk_at dksX0_turns_5 3 rfl rfl)
theorem dX0_turns_122 : decode cX0_turns 122 = .ok (.ireturn, 1) := dk_172 (dk_at dksX0_turns_5 4 rfl rfl)
theorem dX0_turns_123 : decode cX0_turns 123 = .ok (.astore_n 2, 1) := dk_77 (dk_at dksX0_turns_5 5 rfl rfl)
theorem dX0_turns_124 : decode cX0_turns 124 = .ok (.aload_n 0, 1) := dk_42 (dk_at dksX0_turns_5 6 rfl rfl)
theorem dX0_turns_125 : decode cX0_turns 125 = .ok (.aload_n 2, 1) := dk_44 (dk_at dksX0_turns_5 7 rfl rfl)
theorem dX0_turns_126 : decode cX0_turns 126 = .ok (.invokevirtual 136, 3) := dk_182 0 136 (dk_at dksX0_turns_5 8 rfl rfl)
theorem dX0_turns_129 : decode cX0_turns 129 = .ok (.ireturn, 1) := dk_172 (dk_at dksX0_turns_5 11 rfl rfl)
abbrev cX0_worst : ByteArray := prog_1_method_48_code
def yX0_worst : MethodName := ⟨RX0, "worst", "()I"⟩
def dkwX0_worst_3 : List UInt8 := [180, 0, 85, 180, 0, 160, 5, 27, 79, 42, 180, 0, 85, 182, 0, 133, 28, 172]
abbrev dktX0_worst_3 : List UInt8 := dkwX0_worst_3 ++ []
def dkwX0_worst_2 : List UInt8 := [54, 5, 21, 5, 29, 163, 0, 6, 167, 0, 9, 21, 4, 61, 21, 5, 62, 132, 4, 1, 167, 255, 205, 42]
abbrev dktX0_worst_2 : List UInt8 := dkwX0_worst_2 ++ dktX0_worst_3
def dkwX0_worst_1 : List UInt8 := [180, 0, 85, 180, 0, 160, 5, 21, 4, 79, 42, 180, 0, 85, 182, 0, 133, 42, 180, 0, 85, 182, 0, 227]
abbrev dktX0_worst_1 : List UInt8 := dkwX0_worst_1 ++ dktX0_worst_2
def dkwX0_worst_0 : List UInt8 := [42, 180, 0, 85, 180, 0, 160, 5, 46, 60, 3, 61, 2, 62, 3, 54, 4, 21, 4, 7, 162, 0, 51, 42]
abbrev dktX0_worst_0 : List UInt8 := dkwX0_worst_0 ++ dktX0_worst_1
theorem dksX0_worst_0 : cX0_worst.data.toList.drop 0 = dktX0_worst_0 := by decide +kernel
theorem dksX0_worst_1 : cX0_worst.data.toList.drop 24 = dktX0_worst_1 := dk_seg dksX0_worst_0 24 rfl rfl
theorem dksX0_worst_2 : cX0_worst.data.toList.drop 48 = dktX0_worst_2 := dk_seg dksX0_worst_1 24 rfl rfl
theorem dksX0_worst_3 : cX0_worst.data.toList.drop 72 = dktX0_worst_3 := dk_seg dksX0_worst_2 24 rfl rfl
theorem dX0_worst_0 : decode cX0_worst 0 = .ok (.aload_n 0, 1) := dk_42 (dk_at dksX0_worst_0 0 rfl rfl)
theorem dX0_worst_1 : decode cX0_worst 1 = .ok (.getfield 85, 3) := dk_180 0 85 (dk_at dksX0_worst_0 1 rfl rfl)
theorem dX0_worst_4 : decode cX0_worst 4 = .ok (.getfield 160, 3) := dk_180 0 160 (dk_at dksX0_worst_0 4 rfl rfl)
theorem dX0_worst_7 : decode cX0_worst 7 = .ok (.iconst 2, 1) := dk_5 (dk_at dksX0_worst_0 7 rfl rfl)
theorem dX0_worst_8 : decode cX0_worst 8 = .ok (.iaload, 1) := dk_46 (dk_at dksX0_worst_0 8 rfl rfl)
theorem dX0_worst_9 : decode cX0_worst 9 = .ok (.istore_n 1, 1) := dk_60 (dk_at dksX0_worst_0 9 rfl rfl)
theorem dX0_worst_10 : decode cX0_worst 10 = .ok (.iconst 0, 1) := dk_3 (dk_at dksX0_worst_0 10 rfl rfl)
theorem dX0_worst_11 : decode cX0_worst 11 = .ok (.istore_n 2, 1) := dk_61 (dk_at dksX0_worst_0 11 rfl rfl)
theorem dX0_worst_12 : decode cX0_worst 12 = .ok (.iconst (-1), 1) := dk_2 (dk_at dksX0_worst_0 12 rfl rfl)
theorem dX0_worst_13 : decode cX0_worst 13 = .ok (.istore_n 3, 1) := dk_62 (dk_at dksX0_worst_0 13 rfl rfl)
theorem dX0_worst_14 : decode cX0_worst 14 = .ok (.iconst 0, 1) := dk_3 (dk_at dksX0_worst_0 14 rfl rfl)
theorem dX0_worst_15 : decode cX0_worst 15 = .ok (.istore 4, 2) := dk_54 4 (dk_at dksX0_worst_0 15 rfl rfl)
theorem dX0_worst_17 : decode cX0_worst 17 = .ok (.iload 4, 2) := dk_21 4 (dk_at dksX0_worst_0 17 rfl rfl)
theorem dX0_worst_19 : decode cX0_worst 19 = .ok (.iconst 4, 1) := dk_7 (dk_at dksX0_worst_0 19 rfl rfl)
theorem dX0_worst_20 : decode cX0_worst 20 = .ok (.if_icmp .ge 51, 3) := dk_162 0 51 (dk_at dksX0_worst_0 20 rfl rfl)
theorem dX0_worst_23 : decode cX0_worst 23 = .ok (.aload_n 0, 1) := dk_42 (dk_at dksX0_worst_0 23 rfl rfl)
theorem dX0_worst_24 : decode cX0_worst 24 = .ok (.getfield 85, 3) := dk_180 0 85 (dk_at dksX0_worst_1 0 rfl rfl)
theorem dX0_worst_27 : decode cX0_worst 27 = .ok (.getfield 160, 3) := dk_180 0 160 (dk_at dksX0_worst_1 3 rfl rfl)
theorem dX0_worst_30 : decode cX0_worst 30 = .ok (.iconst 2, 1) := dk_5 (dk_at dksX0_worst_1 6 rfl rfl)
theorem dX0_worst_31 : decode cX0_worst 31 = .ok (.iload 4, 2) := dk_21 4 (dk_at dksX0_worst_1 7 rfl rfl)
theorem dX0_worst_33 : decode cX0_worst 33 = .ok (.iastore, 1) := dk_79 (dk_at dksX0_worst_1 9 rfl rfl)
theorem dX0_worst_34 : decode cX0_worst 34 = .ok (.aload_n 0, 1) := dk_42 (dk_at dksX0_worst_1 10 rfl rfl)
theorem dX0_worst_35 : decode cX0_worst 35 = .ok (.getfield 85, 3) := dk_180 0 85 (dk_at dksX0_worst_1 11 rfl rfl)
theorem dX0_worst_38 : decode cX0_worst 38 = .ok (.invokevirtual 133, 3) := dk_182 0 133 (dk_at dksX0_worst_1 14 rfl rfl)
theorem dX0_worst_41 : decode cX0_worst 41 = .ok (.aload_n 0, 1) := dk_42 (dk_at dksX0_worst_1 17 rfl rfl)
theorem dX0_worst_42 : decode cX0_worst 42 = .ok (.getfield 85, 3) := dk_180 0 85 (dk_at dksX0_worst_1 18 rfl rfl)
theorem dX0_worst_45 : decode cX0_worst 45 = .ok (.invokevirtual 227, 3) := dk_182 0 227 (dk_at dksX0_worst_1 21 rfl rfl)
theorem dX0_worst_48 : decode cX0_worst 48 = .ok (.istore 5, 2) := dk_54 5 (dk_at dksX0_worst_2 0 rfl rfl)
theorem dX0_worst_50 : decode cX0_worst 50 = .ok (.iload 5, 2) := dk_21 5 (dk_at dksX0_worst_2 2 rfl rfl)
theorem dX0_worst_52 : decode cX0_worst 52 = .ok (.iload_n 3, 1) := dk_29 (dk_at dksX0_worst_2 4 rfl rfl)
theorem dX0_worst_53 : decode cX0_worst 53 = .ok (.if_icmp .gt 6, 3) := dk_163 0 6 (dk_at dksX0_worst_2 5 rfl rfl)
theorem dX0_worst_56 : decode cX0_worst 56 = .ok (.goto 9, 3) := dk_167 0 9 (dk_at dksX0_worst_2 8 rfl rfl)
theorem dX0_worst_59 : decode cX0_worst 59 = .ok (.iload 4, 2) := dk_21 4 (dk_at dksX0_worst_2 11 rfl rfl)
theorem dX0_worst_61 : decode cX0_worst 61 = .ok (.istore_n 2, 1) := dk_61 (dk_at dksX0_worst_2 13 rfl rfl)
theorem dX0_worst_62 : decode cX0_worst 62 = .ok (.iload 5, 2) := dk_21 5 (dk_at dksX0_worst_2 14 rfl rfl)
theorem dX0_worst_64 : decode cX0_worst 64 = .ok (.istore_n 3, 1) := dk_62 (dk_at dksX0_worst_2 16 rfl rfl)
theorem dX0_worst_65 : decode cX0_worst 65 = .ok (.iinc 4 1, 3) := dk_132 4 1 (dk_at dksX0_worst_2 17 rfl rfl)
theorem dX0_worst_68 : decode cX0_worst 68 = .ok (.goto (-51), 3) := dk_167 255 205 (dk_at dksX0_worst_2 20 rfl rfl)
theorem dX0_worst_71 : decode cX0_worst 71 = .ok (.aload_n 0, 1) := dk_42 (dk_at dksX0_worst_2 23 rfl rfl)
theorem dX0_worst_72 : decode cX0_worst 72 = .ok (.getfield 85, 3) := dk_180 0 85 (dk_at dksX0_worst_3 0 rfl rfl)
theorem dX0_worst_75 : decode cX0_worst 75 = .ok (.getfield 160, 3) := dk_180 0 160 (dk_at dksX0_worst_3 3 rfl rfl)
theorem dX0_worst_78 : decode cX0_worst 78 = .ok (.iconst 2, 1) := dk_5 (dk_at dksX0_worst_3 6 rfl rfl)
theorem dX0_worst_79 : decode cX0_worst 79 = .ok (.iload_n 1, 1) := dk_27 (dk_at dksX0_worst_3 7 rfl rfl)
theorem dX0_worst_80 : decode cX0_worst 80 = .ok (.iastore, 1) := dk_79 (dk_at dksX0_worst_3 8 rfl rfl)
theorem dX0_worst_81 : decode cX0_worst 81 = .ok (.aload_n 0, 1) := dk_42 (dk_at dksX0_worst_3 9 rfl rfl)
theorem dX0_worst_82 : decode cX0_worst 82 = .ok (.getfield 85, 3) := dk_180 0 85 (dk_at dksX0_worst_3 10 rfl rfl)
theorem dX0_worst_85 : decode cX0_worst 85 = .ok (.invokevirtual 133, 3) := dk_182 0 133 (dk_at dksX0_worst_3 13 rfl rfl)
theorem dX0_worst_88 : decode cX0_worst 88 = .ok (.iload_n 2, 1) := dk_28 (dk_at dksX0_worst_3 16 rfl rfl)
theorem dX0_worst_89 : decode cX0_worst 89 = .ok (.ireturn, 1) := dk_172 (dk_at dksX0_worst_3 17 rfl rfl)
abbrev cX0_lays : ByteArray := prog_1_method_49_code
def yX0_lays : MethodName := ⟨RX0, "lays", "(I)I"⟩
def dkwX0_lays_4 : List UInt8 := [44, 182, 0, 136, 172]
abbrev dktX0_lays_4 : List UInt8 := dkwX0_lays_4 ++ []
def dkwX0_lays_3 : List UInt8 := [136, 181, 0, 59, 132, 3, 1, 132, 4, 1, 167, 255, 191, 42, 180, 0, 85, 182, 0, 133, 29, 172, 77, 42]
abbrev dktX0_lays_3 : List UInt8 := dkwX0_lays_3 ++ dktX0_lays_4
def dkwX0_lays_2 : List UInt8 := [184, 0, 14, 154, 0, 6, 167, 0, 25, 42, 180, 0, 85, 21, 4, 182, 0, 172, 44, 21, 4, 184, 1, 63]
abbrev dktX0_lays_2 : List UInt8 := dkwX0_lays_2 ++ dktX0_lays_3
def dkwX0_lays_1 : List UInt8 := [21, 4, 42, 180, 0, 85, 180, 0, 130, 162, 0, 50, 44, 21, 4, 184, 1, 63, 9, 20, 0, 24]
abbrev dktX0_lays_1 : List UInt8 := dkwX0_lays_1 ++ dktX0_lays_2
def dkwX0_lays_0 : List UInt8 := [27, 184, 0, 243, 42, 27, 182, 0, 246, 77, 3, 62, 3, 54, 4, 21, 4, 44, 184, 0, 250, 162, 0, 62]
abbrev dktX0_lays_0 : List UInt8 := dkwX0_lays_0 ++ dktX0_lays_1
theorem dksX0_lays_0 : cX0_lays.data.toList.drop 0 = dktX0_lays_0 := by decide +kernel
theorem dksX0_lays_1 : cX0_lays.data.toList.drop 24 = dktX0_lays_1 := dk_seg dksX0_lays_0 24 rfl rfl
theorem dksX0_lays_2 : cX0_lays.data.toList.drop 46 = dktX0_lays_2 := dk_seg dksX0_lays_1 22 rfl rfl
theorem dksX0_lays_3 : cX0_lays.data.toList.drop 70 = dktX0_lays_3 := dk_seg dksX0_lays_2 24 rfl rfl
theorem dksX0_lays_4 : cX0_lays.data.toList.drop 94 = dktX0_lays_4 := dk_seg dksX0_lays_3 24 rfl rfl
theorem dX0_lays_0 : decode cX0_lays 0 = .ok (.iload_n 1, 1) := dk_27 (dk_at dksX0_lays_0 0 rfl rfl)
theorem dX0_lays_1 : decode cX0_lays 1 = .ok (.invokestatic 243, 3) := dk_184 0 243 (dk_at dksX0_lays_0 1 rfl rfl)
theorem dX0_lays_4 : decode cX0_lays 4 = .ok (.aload_n 0, 1) := dk_42 (dk_at dksX0_lays_0 4 rfl rfl)
theorem dX0_lays_5 : decode cX0_lays 5 = .ok (.iload_n 1, 1) := dk_27 (dk_at dksX0_lays_0 5 rfl rfl)
theorem dX0_lays_6 : decode cX0_lays 6 = .ok (.invokevirtual 246, 3) := dk_182 0 246 (dk_at dksX0_lays_0 6 rfl rfl)
theorem dX0_lays_9 : decode cX0_lays 9 = .ok (.astore_n 2, 1) := dk_77 (dk_at dksX0_lays_0 9 rfl rfl)
theorem dX0_lays_10 : decode cX0_lays 10 = .ok (.iconst 0, 1) := dk_3 (dk_at dksX0_lays_0 10 rfl rfl)
theorem dX0_lays_11 : decode cX0_lays 11 = .ok (.istore_n 3, 1) := dk_62 (dk_at dksX0_lays_0 11 rfl rfl)
theorem dX0_lays_12 : decode cX0_lays 12 = .ok (.iconst 0, 1) := dk_3 (dk_at dksX0_lays_0 12 rfl rfl)
theorem dX0_lays_13 : decode cX0_lays 13 = .ok (.istore 4, 2) := dk_54 4 (dk_at dksX0_lays_0 13 rfl rfl)
theorem dX0_lays_15 : decode cX0_lays 15 = .ok (.iload 4, 2) := dk_21 4 (dk_at dksX0_lays_0 15 rfl rfl)
theorem dX0_lays_17 : decode cX0_lays 17 = .ok (.aload_n 2, 1) := dk_44 (dk_at dksX0_lays_0 17 rfl rfl)
theorem dX0_lays_18 : decode cX0_lays 18 = .ok (.invokestatic 250, 3) := dk_184 0 250 (dk_at dksX0_lays_0 18 rfl rfl)
theorem dX0_lays_21 : decode cX0_lays 21 = .ok (.if_icmp .ge 62, 3) := dk_162 0 62 (dk_at dksX0_lays_0 21 rfl rfl)
theorem dX0_lays_24 : decode cX0_lays 24 = .ok (.iload 4, 2) := dk_21 4 (dk_at dksX0_lays_1 0 rfl rfl)
theorem dX0_lays_26 : decode cX0_lays 26 = .ok (.aload_n 0, 1) := dk_42 (dk_at dksX0_lays_1 2 rfl rfl)
theorem dX0_lays_27 : decode cX0_lays 27 = .ok (.getfield 85, 3) := dk_180 0 85 (dk_at dksX0_lays_1 3 rfl rfl)
theorem dX0_lays_30 : decode cX0_lays 30 = .ok (.getfield 130, 3) := dk_180 0 130 (dk_at dksX0_lays_1 6 rfl rfl)
theorem dX0_lays_33 : decode cX0_lays 33 = .ok (.if_icmp .ge 50, 3) := dk_162 0 50 (dk_at dksX0_lays_1 9 rfl rfl)
theorem dX0_lays_36 : decode cX0_lays 36 = .ok (.aload_n 2, 1) := dk_44 (dk_at dksX0_lays_1 12 rfl rfl)
theorem dX0_lays_37 : decode cX0_lays 37 = .ok (.iload 4, 2) := dk_21 4 (dk_at dksX0_lays_1 13 rfl rfl)
theorem dX0_lays_39 : decode cX0_lays 39 = .ok (.invokestatic 319, 3) := dk_184 1 63 (dk_at dksX0_lays_1 15 rfl rfl)
theorem dX0_lays_42 : decode cX0_lays 42 = .ok (.lconst 0, 1) := dk_9 (dk_at dksX0_lays_1 18 rfl rfl)
theorem dX0_lays_43 : decode cX0_lays 43 = .ok (.ldc2_w 24, 3) := dk_20 0 24 (dk_at dksX0_lays_1 19 rfl rfl)
theorem dX0_lays_46 : decode cX0_lays 46 = .ok (.invokestatic 14, 3) := dk_184 0 14 (dk_at dksX0_lays_2 0 rfl rfl)
theorem dX0_lays_49 : decode cX0_lays 49 = .ok (.ifCond .ne 6, 3) := dk_154 0 6 (dk_at dksX0_lays_2 3 rfl rfl)
theorem dX0_lays_52 : decode cX0_lays 52 = .ok (.goto 25, 3) := dk_167 0 25 (dk_at dksX0_lays_2 6 rfl rfl)
theorem dX0_lays_55 : decode cX0_lays 55 = .ok (.aload_n 0, 1) := dk_42 (dk_at dksX0_lays_2 9 rfl rfl)
theorem dX0_lays_56 : decode cX0_lays 56 = .ok (.getfield 85, 3) := dk_180 0 85 (dk_at dksX0_lays_2 10 rfl rfl)
theorem dX0_lays_59 : decode cX0_lays 59 = .ok (.iload 4, 2) := dk_21 4 (dk_at dksX0_lays_2 13 rfl rfl)
theorem dX0_lays_61 : decode cX0_lays 61 = .ok (.invokevirtual 172, 3) := dk_182 0 172 (dk_at dksX0_lays_2 15 rfl rfl)
theorem dX0_lays_64 : decode cX0_lays 64 = .ok (.aload_n 2, 1) := dk_44 (dk_at dksX0_lays_2 18 rfl rfl)
theorem dX0_lays_65 : decode cX0_lays 65 = .ok (.iload 4, 2) := dk_21 4 (dk_at dksX0_lays_2 19 rfl rfl)
theorem dX0_lays_67 : decode cX0_lays 67 = .ok (.invokestatic 319, 3) := dk_184 1 63 (dk_at dksX0_lays_2 21 rfl rfl)
theorem dX0_lays_70 : decode cX0_lays 70 = .ok (.l2i, 1) := dk_136 (dk_at dksX0_lays_3 0 rfl rfl)
theorem dX0_lays_71 : decode cX0_lays 71 = .ok (.putfield 59, 3) := dk_181 0 59 (dk_at dksX0_lays_3 1 rfl rfl)
theorem dX0_lays_74 : decode cX0_lays 74 = .ok (.iinc 3 1, 3) := dk_132 3 1 (dk_at dksX0_lays_3 4 rfl rfl)
theorem dX0_lays_77 : decode cX0_lays 77 = .ok (.iinc 4 1, 3) := dk_132 4 1 (dk_at dksX0_lays_3 7 rfl rfl)
theorem dX0_lays_80 : decode cX0_lays 80 = .ok (.goto (-65), 3) := dk_167 255 191 (dk_at dksX0_lays_3 10 rfl rfl)
theorem dX0_lays_83 : decode cX0_lays 83 = .ok (.aload_n 0, 1) := dk_42 (dk_at dksX0_lays_3 13 rfl rfl)
theorem dX0_lays_84 : decode cX0_lays 84 = .ok (.getfield 85, 3) := dk_180 0 85 (dk_at dksX0_lays_3 14 rfl rfl)
theorem dX0_lays_87 : decode cX0_lays 87 = .ok (.invokevirtual 133, 3) := dk_182 0 133 (dk_at dksX0_lays_3 17 rfl rfl)
theorem dX0_lays_90 : decode cX0_lays 90 = .ok (.iload_n 3, 1) := dk_29 (dk_at dksX0_lays_3 20 rfl rfl)
theorem dX0_lays_91 : decode cX0_lays 91 = .ok (.ireturn, 1) := dk_172 (dk_at dksX0_lays_3 21 rfl rfl)
theorem dX0_lays_92 : decode cX0_lays 92 = .ok (.astore_n 2, 1) := dk_77 (dk_at dksX0_lays_3 22 rfl rfl)
theorem dX0_lays_93 : decode cX0_lays 93 = .ok (.aload_n 0, 1) := dk_42 (dk_at dksX0_lays_3 23 rfl rfl)
theorem dX0_lays_94 : decode cX0_lays 94 = .ok (.aload_n 2, 1) := dk_44 (dk_at dksX0_lays_4 0 rfl rfl)
theorem dX0_lays_95 : decode cX0_lays 95 = .ok (.invokevirtual 136, 3) := dk_182 0 136 (dk_at dksX0_lays_4 1 rfl rfl)
theorem dX0_lays_98 : decode cX0_lays 98 = .ok (.ireturn, 1) := dk_172 (dk_at dksX0_lays_4 4 rfl rfl)
abbrev cX0_get : ByteArray := prog_1_method_55_code
def yX0_get : MethodName := ⟨RX0, "get", "(Ljava/lang/Object;I)J"⟩
def dkwX0_get_1 : List UInt8 := [192, 1, 68, 27, 53, 133, 167, 0, 9, 42, 192, 1, 70, 27, 47, 173]
abbrev dktX0_get_1 : List UInt8 := dkwX0_get_1 ++ []
def dkwX0_get_0 : List UInt8 := [42, 193, 1, 67, 153, 0, 11, 42, 192, 1, 67, 27, 51, 133, 173, 42, 193, 1, 68, 153, 0, 13, 42]
abbrev dktX0_get_0 : List UInt8 := dkwX0_get_0 ++ dktX0_get_1
theorem dksX0_get_0 : cX0_get.data.toList.drop 0 = dktX0_get_0 := by decide +kernel
theorem dksX0_get_1 : cX0_get.data.toList.drop 23 = dktX0_get_1 := dk_seg dksX0_get_0 23 rfl rfl
theorem dX0_get_0 : decode cX0_get 0 = .ok (.aload_n 0, 1) := dk_42 (dk_at dksX0_get_0 0 rfl rfl)
theorem dX0_get_1 : decode cX0_get 1 = .ok (.instanceof 323, 3) := dk_193 1 67 (dk_at dksX0_get_0 1 rfl rfl)
theorem dX0_get_4 : decode cX0_get 4 = .ok (.ifCond .eq 11, 3) := dk_153 0 11 (dk_at dksX0_get_0 4 rfl rfl)
theorem dX0_get_7 : decode cX0_get 7 = .ok (.aload_n 0, 1) := dk_42 (dk_at dksX0_get_0 7 rfl rfl)
theorem dX0_get_8 : decode cX0_get 8 = .ok (.checkcast 323, 3) := dk_192 1 67 (dk_at dksX0_get_0 8 rfl rfl)
theorem dX0_get_11 : decode cX0_get 11 = .ok (.iload_n 1, 1) := dk_27 (dk_at dksX0_get_0 11 rfl rfl)
theorem dX0_get_12 : decode cX0_get 12 = .ok (.baload, 1) := dk_51 (dk_at dksX0_get_0 12 rfl rfl)
theorem dX0_get_13 : decode cX0_get 13 = .ok (.i2l, 1) := dk_133 (dk_at dksX0_get_0 13 rfl rfl)
theorem dX0_get_14 : decode cX0_get 14 = .ok (.lreturn, 1) := dk_173 (dk_at dksX0_get_0 14 rfl rfl)
theorem dX0_get_15 : decode cX0_get 15 = .ok (.aload_n 0, 1) := dk_42 (dk_at dksX0_get_0 15 rfl rfl)
theorem dX0_get_16 : decode cX0_get 16 = .ok (.instanceof 324, 3) := dk_193 1 68 (dk_at dksX0_get_0 16 rfl rfl)
theorem dX0_get_19 : decode cX0_get 19 = .ok (.ifCond .eq 13, 3) := dk_153 0 13 (dk_at dksX0_get_0 19 rfl rfl)
theorem dX0_get_22 : decode cX0_get 22 = .ok (.aload_n 0, 1) := dk_42 (dk_at dksX0_get_0 22 rfl rfl)
theorem dX0_get_23 : decode cX0_get 23 = .ok (.checkcast 324, 3) := dk_192 1 68 (dk_at dksX0_get_1 0 rfl rfl)
theorem dX0_get_26 : decode cX0_get 26 = .ok (.iload_n 1, 1) := dk_27 (dk_at dksX0_get_1 3 rfl rfl)
theorem dX0_get_27 : decode cX0_get 27 = .ok (.saload, 1) := dk_53 (dk_at dksX0_get_1 4 rfl rfl)
theorem dX0_get_28 : decode cX0_get 28 = .ok (.i2l, 1) := dk_133 (dk_at dksX0_get_1 5 rfl rfl)
theorem dX0_get_29 : decode cX0_get 29 = .ok (.goto 9, 3) := dk_167 0 9 (dk_at dksX0_get_1 6 rfl rfl)
theorem dX0_get_32 : decode cX0_get 32 = .ok (.aload_n 0, 1) := dk_42 (dk_at dksX0_get_1 9 rfl rfl)
theorem dX0_get_33 : decode cX0_get 33 = .ok (.checkcast 326, 3) := dk_192 1 70 (dk_at dksX0_get_1 10 rfl rfl)
theorem dX0_get_36 : decode cX0_get 36 = .ok (.iload_n 1, 1) := dk_27 (dk_at dksX0_get_1 13 rfl rfl)
theorem dX0_get_37 : decode cX0_get 37 = .ok (.laload, 1) := dk_47 (dk_at dksX0_get_1 14 rfl rfl)
theorem dX0_get_38 : decode cX0_get 38 = .ok (.lreturn, 1) := dk_173 (dk_at dksX0_get_1 15 rfl rfl)
abbrev cX0_read : ByteArray := prog_1_method_50_code
def yX0_read : MethodName := ⟨RX0, "read", "(I)I"⟩
def dkwX0_read_2 : List UInt8 := [153, 0, 7, 4, 29, 96, 172, 132, 3, 1, 167, 255, 212, 3, 172, 77, 42, 44, 182, 0, 136, 172]
abbrev dktX0_read_2 : List UInt8 := dkwX0_read_2 ++ []
def dkwX0_read_1 : List UInt8 := [180, 0, 85, 180, 0, 130, 162, 0, 21, 44, 29, 184, 1, 63, 42, 180, 0, 85, 29, 182, 0, 218, 133, 148]
abbrev dktX0_read_1 : List UInt8 := dkwX0_read_1 ++ dktX0_read_2
def dkwX0_read_0 : List UInt8 := [27, 184, 0, 243, 42, 27, 182, 0, 246, 77, 3, 62, 29, 44, 184, 0, 250, 162, 0, 42, 29, 42]
abbrev dktX0_read_0 : List UInt8 := dkwX0_read_0 ++ dktX0_read_1
theorem dksX0_read_0 : cX0_read.data.toList.drop 0 = dktX0_read_0 := by decide +kernel
theorem dksX0_read_1 : cX0_read.data.toList.drop 22 = dktX0_read_1 := dk_seg dksX0_read_0 22 rfl rfl
theorem dksX0_read_2 : cX0_read.data.toList.drop 46 = dktX0_read_2 := dk_seg dksX0_read_1 24 rfl rfl
theorem dX0_read_0 : decode cX0_read 0 = .ok (.iload_n 1, 1) := dk_27 (dk_at dksX0_read_0 0 rfl rfl)
theorem dX0_read_1 : decode cX0_read 1 = .ok (.invokestatic 243, 3) := dk_184 0 243 (dk_at dksX0_read_0 1 rfl rfl)
theorem dX0_read_4 : decode cX0_read 4 = .ok (.aload_n 0, 1) := dk_42 (dk_at dksX0_read_0 4 rfl rfl)
theorem dX0_read_5 : decode cX0_read 5 = .ok (.iload_n 1, 1) := dk_27 (dk_at dksX0_read_0 5 rfl rfl)
theorem dX0_read_6 : decode cX0_read 6 = .ok (.invokevirtual 246, 3) := dk_182 0 246 (dk_at dksX0_read_0 6 rfl rfl)
theorem dX0_read_9 : decode cX0_read 9 = .ok (.astore_n 2, 1) := dk_77 (dk_at dksX0_read_0 9 rfl rfl)
theorem dX0_read_10 : decode cX0_read 10 = .ok (.iconst 0, 1) := dk_3 (dk_at dksX0_read_0 10 rfl rfl)
theorem dX0_read_11 : decode cX0_read 11 = .ok (.istore_n 3, 1) := dk_62 (dk_at dksX0_read_0 11 rfl rfl)
theorem dX0_read_12 : decode cX0_read 12 = .ok (.iload_n 3, 1) := dk_29 (dk_at dksX0_read_0 12 rfl rfl)
theorem dX0_read_13 : decode cX0_read 13 = .ok (.aload_n 2, 1) := dk_44 (dk_at dksX0_read_0 13 rfl rfl)
theorem dX0_read_14 : decode cX0_read 14 = .ok (.invokestatic 250, 3) := dk_184 0 250 (dk_at dksX0_read_0 14 rfl rfl)
theorem dX0_read_17 : decode cX0_read 17 = .ok (.if_icmp .ge 42, 3) := dk_162 0 42 (dk_at dksX0_read_0 17 rfl rfl)
theorem dX0_read_20 : decode cX0_read 20 = .ok (.iload_n 3, 1) := dk_29 (dk_at dksX0_read_0 20 rfl rfl)
theorem dX0_read_21 : decode cX0_read 21 = .ok (.aload_n 0, 1) := dk_42 (dk_at dksX0_read_0 21 rfl rfl)
theorem dX0_read_22 : decode cX0_read 22 = .ok (.getfield 85, 3) := dk_180 0 85 (dk_at dksX0_read_1 0 rfl rfl)
theorem dX0_read_25 : decode cX0_read 25 = .ok (.getfield 130, 3) := dk_180 0 130 (dk_at dksX0_read_1 3 rfl rfl)
theorem dX0_read_28 : decode cX0_read 28 = .ok (.if_icmp .ge 21, 3) := dk_162 0 21 (dk_at dksX0_read_1 6 rfl rfl)
theorem dX0_read_31 : decode cX0_read 31 = .ok (.aload_n 2, 1) := dk_44 (dk_at dksX0_read_1 9 rfl rfl)
theorem dX0_read_32 : decode cX0_read 32 = .ok (.iload_n 3, 1) := dk_29 (dk_at dksX0_read_1 10 rfl rfl)
theorem dX0_read_33 : decode cX0_read 33 = .ok (.invokestatic 319, 3) := dk_184 1 63 (dk_at dksX0_read_1 11 rfl rfl)
theorem dX0_read_36 : decode cX0_read 36 = .ok (.aload_n 0, 1) := dk_42 (dk_at dksX0_read_1 14 rfl rfl)
theorem dX0_read_37 : decode cX0_read 37 = .ok (.getfield 85, 3) := dk_180 0 85 (dk_at dksX0_read_1 15 rfl rfl)
theorem dX0_read_40 : decode cX0_read 40 = .ok (.iload_n 3, 1) := dk_29 (dk_at dksX0_read_1 18 rfl rfl)
theorem dX0_read_41 : decode cX0_read 41 = .ok (.invokevirtual 218, 3) := dk_182 0 218 (dk_at dksX0_read_1 19 rfl rfl)
theorem dX0_read_44 : decode cX0_read 44 = .ok (.i2l, 1) := dk_133 (dk_at dksX0_read_1 22 rfl rfl)
theorem dX0_read_45 : decode cX0_read 45 = .ok (.lcmp, 1) := dk_148 (dk_at dksX0_read_1 23 rfl rfl)
theorem dX0_read_46 : decode cX0_read 46 = .ok (.ifCond .eq 7, 3) := dk_153 0 7 (dk_at dksX0_read_2 0 rfl rfl)
theorem dX0_read_49 : decode cX0_read 49 = .ok (.iconst 1, 1) := dk_4 (dk_at dksX0_read_2 3 rfl rfl)
theorem dX0_read_50 : decode cX0_read 50 = .ok (.iload_n 3, 1) := dk_29 (dk_at dksX0_read_2 4 rfl rfl)
theorem dX0_read_51 : decode cX0_read 51 = .ok (.iadd, 1) := dk_96 (dk_at dksX0_read_2 5 rfl rfl)
theorem dX0_read_52 : decode cX0_read 52 = .ok (.ireturn, 1) := dk_172 (dk_at dksX0_read_2 6 rfl rfl)
theorem dX0_read_53 : decode cX0_read 53 = .ok (.iinc 3 1, 3) := dk_132 3 1 (dk_at dksX0_read_2 7 rfl rfl)
theorem dX0_read_56 : decode cX0_read 56 = .ok (.goto (-44), 3) := dk_167 255 212 (dk_at dksX0_read_2 10 rfl rfl)
theorem dX0_read_59 : decode cX0_read 59 = .ok (.iconst 0, 1) := dk_3 (dk_at dksX0_read_2 13 rfl rfl)
theorem dX0_read_60 : decode cX0_read 60 = .ok (.ireturn, 1) := dk_172 (dk_at dksX0_read_2 14 rfl rfl)
theorem dX0_read_61 : decode cX0_read 61 = .ok (.astore_n 2, 1) := dk_77 (dk_at dksX0_read_2 15 rfl rfl)
theorem dX0_read_62 : decode cX0_read 62 = .ok (.aload_n 0, 1) := dk_42 (dk_at dksX0_read_2 16 rfl rfl)
theorem dX0_read_63 : decode cX0_read 63 = .ok (.aload_n 2, 1) := dk_44 (dk_at dksX0_read_2 17 rfl rfl)
theorem dX0_read_64 : decode cX0_read 64 = .ok (.invokevirtual 136, 3) := dk_182 0 136 (dk_at dksX0_read_2 18 rfl rfl)
theorem dX0_read_67 : decode cX0_read 67 = .ok (.ireturn, 1) := dk_172 (dk_at dksX0_read_2 21 rfl rfl)
abbrev cX0_sheet : ByteArray := prog_1_method_58_code
def yX0_sheet : MethodName := ⟨RX0, "sheet", "(III)I"⟩
def dkwX0_sheet_4 : List UInt8 := [182, 0, 136, 172]
abbrev dktX0_sheet_4 : List UInt8 := dkwX0_sheet_4 ++ []
def dkwX0_sheet_3 : List UInt8 := [28, 29, 184, 1, 72, 181, 0, 152, 28, 154, 0, 7, 3, 167, 0, 4, 29, 172, 58, 4, 42, 25, 4]
abbrev dktX0_sheet_3 : List UInt8 := dkwX0_sheet_3 ++ dktX0_sheet_4
def dkwX0_sheet_2 : List UInt8 := [184, 0, 123, 29, 16, 40, 163, 0, 7, 4, 167, 0, 4, 3, 3, 184, 0, 123, 42, 180, 0, 103, 27, 50]
abbrev dktX0_sheet_2 : List UInt8 := dkwX0_sheet_2 ++ dktX0_sheet_3
def dkwX0_sheet_1 : List UInt8 := [160, 0, 7, 4, 167, 0, 4, 3, 3, 184, 0, 123, 29, 155, 0, 7, 4, 167, 0, 4, 3, 16, 6]
abbrev dktX0_sheet_1 : List UInt8 := dkwX0_sheet_1 ++ dktX0_sheet_2
def dkwX0_sheet_0 : List UInt8 := [27, 184, 0, 243, 28, 153, 0, 21, 28, 16, 8, 159, 0, 15, 28, 16, 16, 159, 0, 9, 28, 16, 64]
abbrev dktX0_sheet_0 : List UInt8 := dkwX0_sheet_0 ++ dktX0_sheet_1
theorem dksX0_sheet_0 : cX0_sheet.data.toList.drop 0 = dktX0_sheet_0 := by decide +kernel
theorem dksX0_sheet_1 : cX0_sheet.data.toList.drop 23 = dktX0_sheet_1 := dk_seg dksX0_sheet_0 23 rfl rfl
theorem dksX0_sheet_2 : cX0_sheet.data.toList.drop 46 = dktX0_sheet_2 := dk_seg dksX0_sheet_1 23 rfl rfl
theorem dksX0_sheet_3 : cX0_sheet.data.toList.drop 70 = dktX0_sheet_3 := dk_seg dksX0_sheet_2 24 rfl rfl
theorem dksX0_sheet_4 : cX0_sheet.data.toList.drop 93 = dktX0_sheet_4 := dk_seg dksX0_sheet_3 23 rfl rfl
theorem dX0_sheet_0 : decode cX0_sheet 0 = .ok (.iload_n 1, 1) := dk_27 (dk_at dksX0_sheet_0 0 rfl rfl)
theorem dX0_sheet_1 : decode cX0_sheet 1 = .ok (.invokestatic 243, 3) := dk_184 0 243 (dk_at dksX0_sheet_0 1 rfl rfl)
theorem dX0_sheet_4 : decode cX0_sheet 4 = .ok (.iload_n 2, 1) := dk_28 (dk_at dksX0_sheet_0 4 rfl rfl)
theorem dX0_sheet_5 : decode cX0_sheet 5 = .ok (.ifCond .eq 21, 3) := dk_153 0 21 (dk_at dksX0_sheet_0 5 rfl rfl)
theorem dX0_sheet_8 : decode cX0_sheet 8 = .ok (.iload_n 2, 1) := dk_28 (dk_at dksX0_sheet_0 8 rfl rfl)
theorem dX0_sheet_9 : decode cX0_sheet 9 = .ok (.bipush 8, 2) := dk_16 8 (dk_at dksX0_sheet_0 9 rfl rfl)
theorem dX0_sheet_11 : decode cX0_sheet 11 = .ok (.if_icmp .eq 15, 3) := dk_159 0 15 (dk_at dksX0_sheet_0 11 rfl rfl)
theorem dX0_sheet_14 : decode cX0_sheet 14 = .ok (.iload_n 2, 1) := dk_28 (dk_at dksX0_sheet_0 14 rfl rfl)
theorem dX0_sheet_15 : decode cX0_sheet 15 = .ok (.bipush 16, 2) := dk_16 16 (dk_at dksX0_sheet_0 15 rfl rfl)
theorem dX0_sheet_17 : decode cX0_sheet 17 = .ok (.if_icmp .eq 9, 3) := dk_159 0 9 (dk_at dksX0_sheet_0 17 rfl rfl)
theorem dX0_sheet_20 : decode cX0_sheet 20 = .ok (.iload_n 2, 1) := dk_28 (dk_at dksX0_sheet_0 20 rfl rfl)
theorem dX0_sheet_21 : decode cX0_sheet 21 = .ok (.bipush 64, 2) := dk_16 64 (dk_at dksX0_sheet_0 21 rfl rfl)
theorem dX0_sheet_23 : decode cX0_sheet 23 = .ok (.if_icmp .ne 7, 3) := dk_160 0 7 (dk_at dksX0_sheet_1 0 rfl rfl)
theorem dX0_sheet_26 : decode cX0_sheet 26 = .ok (.iconst 1, 1) := dk_4 (dk_at dksX0_sheet_1 3 rfl rfl)
theorem dX0_sheet_27 : decode cX0_sheet 27 = .ok (.goto 4, 3) := dk_167 0 4 (dk_at dksX0_sheet_1 4 rfl rfl)
theorem dX0_sheet_30 : decode cX0_sheet 30 = .ok (.iconst 0, 1) := dk_3 (dk_at dksX0_sheet_1 7 rfl rfl)
theorem dX0_sheet_31 : decode cX0_sheet 31 = .ok (.iconst 0, 1) := dk_3 (dk_at dksX0_sheet_1 8 rfl rfl)
theorem dX0_sheet_32 : decode cX0_sheet 32 = .ok (.invokestatic 123, 3) := dk_184 0 123 (dk_at dksX0_sheet_1 9 rfl rfl)
theorem dX0_sheet_35 : decode cX0_sheet 35 = .ok (.iload_n 3, 1) := dk_29 (dk_at dksX0_sheet_1 12 rfl rfl)
theorem dX0_sheet_36 : decode cX0_sheet 36 = .ok (.ifCond .lt 7, 3) := dk_155 0 7 (dk_at dksX0_sheet_1 13 rfl rfl)
theorem dX0_sheet_39 : decode cX0_sheet 39 = .ok (.iconst 1, 1) := dk_4 (dk_at dksX0_sheet_1 16 rfl rfl)
theorem dX0_sheet_40 : decode cX0_sheet 40 = .ok (.goto 4, 3) := dk_167 0 4 (dk_at dksX0_sheet_1 17 rfl rfl)
theorem dX0_sheet_43 : decode cX0_sheet 43 = .ok (.iconst 0, 1) := dk_3 (dk_at dksX0_sheet_1 20 rfl rfl)
theorem dX0_sheet_44 : decode cX0_sheet 44 = .ok (.bipush 6, 2) := dk_16 6 (dk_at dksX0_sheet_1 21 rfl rfl)
theorem dX0_sheet_46 : decode cX0_sheet 46 = .ok (.invokestatic 123, 3) := dk_184 0 123 (dk_at dksX0_sheet_2 0 rfl rfl)
theorem dX0_sheet_49 : decode cX0_sheet 49 = .ok (.iload_n 3, 1) := dk_29 (dk_at dksX0_sheet_2 3 rfl rfl)
theorem dX0_sheet_50 : decode cX0_sheet 50 = .ok (.bipush 40, 2) := dk_16 40 (dk_at dksX0_sheet_2 4 rfl rfl)
theorem dX0_sheet_52 : decode cX0_sheet 52 = .ok (.if_icmp .gt 7, 3) := dk_163 0 7 (dk_at dksX0_sheet_2 6 rfl rfl)
theorem dX0_sheet_55 : decode cX0_sheet 55 = .ok (.iconst 1, 1) := dk_4 (dk_at dksX0_sheet_2 9 rfl rfl)
theorem dX0_sheet_56 : decode cX0_sheet 56 = .ok (.goto 4, 3) := dk_167 0 4 (dk_at dksX0_sheet_2 10 rfl rfl)
theorem dX0_sheet_59 : decode cX0_sheet 59 = .ok (.iconst 0, 1) := dk_3 (dk_at dksX0_sheet_2 13 rfl rfl)
theorem dX0_sheet_60 : decode cX0_sheet 60 = .ok (.iconst 0, 1) := dk_3 (dk_at dksX0_sheet_2 14 rfl rfl)
theorem dX0_sheet_61 : decode cX0_sheet 61 = .ok (.invokestatic 123, 3) := dk_184 0 123 (dk_at dksX0_sheet_2 15 rfl rfl)
theorem dX0_sheet_64 : decode cX0_sheet 64 = .ok (.aload_n 0, 1) := dk_42 (dk_at dksX0_sheet_2 18 rfl rfl)
theorem dX0_sheet_65 : decode cX0_sheet 65 = .ok (.getfield 103, 3) := dk_180 0 103 (dk_at dksX0_sheet_2 19 rfl rfl)
theorem dX0_sheet_68 : decode cX0_sheet 68 = .ok (.iload_n 1, 1) := dk_27 (dk_at dksX0_sheet_2 22 rfl rfl)
theorem dX0_sheet_69 : decode cX0_sheet 69 = .ok (.aaload, 1) := dk_50 (dk_at dksX0_sheet_2 23 rfl rfl)
theorem dX0_sheet_70 : decode cX0_sheet 70 = .ok (.iload_n 2, 1) := dk_28 (dk_at dksX0_sheet_3 0 rfl rfl)
theorem dX0_sheet_71 : decode cX0_sheet 71 = .ok (.iload_n 3, 1) := dk_29 (dk_at dksX0_sheet_3 1 rfl rfl)
theorem dX0_sheet_72 : decode cX0_sheet 72 = .ok (.invokestatic 328, 3) := dk_184 1 72 (dk_at dksX0_sheet_3 2 rfl rfl)
theorem dX0_sheet_75 : decode cX0_sheet 75 = .ok (.putfield 152, 3) := dk_181 0 152 (dk_at dksX0_sheet_3 5 rfl rfl)
theorem dX0_sheet_78 : decode cX0_sheet 78 = .ok (.iload_n 2, 1) := dk_28 (dk_at dksX0_sheet_3 8 rfl rfl)
theorem dX0_sheet_79 : decode cX0_sheet 79 = .ok (.ifCond .ne 7, 3) := dk_154 0 7 (dk_at dksX0_sheet_3 9 rfl rfl)
theorem dX0_sheet_82 : decode cX0_sheet 82 = .ok (.iconst 0, 1) := dk_3 (dk_at dksX0_sheet_3 12 rfl rfl)
theorem dX0_sheet_83 : decode cX0_sheet 83 = .ok (.goto 4, 3) := dk_167 0 4 (dk_at dksX0_sheet_3 13 rfl rfl)
theorem dX0_sheet_86 : decode cX0_sheet 86 = .ok (.iload_n 3, 1) := dk_29 (dk_at dksX0_sheet_3 16 rfl rfl)
theorem dX0_sheet_87 : decode cX0_sheet 87 = .ok (.ireturn, 1) := dk_172 (dk_at dksX0_sheet_3 17 rfl rfl)
theorem dX0_sheet_88 : decode cX0_sheet 88 = .ok (.astore 4, 2) := dk_58 4 (dk_at dksX0_sheet_3 18 rfl rfl)
theorem dX0_sheet_90 : decode cX0_sheet 90 = .ok (.aload_n 0, 1) := dk_42 (dk_at dksX0_sheet_3 20 rfl rfl)
theorem dX0_sheet_91 : decode cX0_sheet 91 = .ok (.aload 4, 2) := dk_25 4 (dk_at dksX0_sheet_3 21 rfl rfl)
theorem dX0_sheet_93 : decode cX0_sheet 93 = .ok (.invokevirtual 136, 3) := dk_182 0 136 (dk_at dksX0_sheet_4 0 rfl rfl)
theorem dX0_sheet_96 : decode cX0_sheet 96 = .ok (.ireturn, 1) := dk_172 (dk_at dksX0_sheet_4 3 rfl rfl)
abbrev cX0_made : ByteArray := prog_1_method_57_code
def yX0_made : MethodName := ⟨RX0, "made", "(II)Ljava/lang/Object;"⟩
def dkwX0_made_2 : List UInt8 := [27, 188, 8, 176, 27, 188, 9, 176, 27, 188, 11, 176, 1, 176]
abbrev dktX0_made_2 : List UInt8 := dkwX0_made_2 ++ []
def dkwX0_made_1 : List UInt8 := [171, 0, 0, 0, 0, 0, 47, 0, 0, 0, 3, 0, 0, 0, 8, 0, 0, 0, 35, 0, 0, 0, 16, 0, 0, 0, 39, 0, 0, 0, 64, 0, 0, 0, 43]
abbrev dktX0_made_1 : List UInt8 := dkwX0_made_1 ++ dktX0_made_2
def dkwX0_made_0 : List UInt8 := [26]
abbrev dktX0_made_0 : List UInt8 := dkwX0_made_0 ++ dktX0_made_1
theorem dksX0_made_0 : cX0_made.data.toList.drop 0 = dktX0_made_0 := by decide +kernel
theorem dksX0_made_1 : cX0_made.data.toList.drop 1 = dktX0_made_1 := dk_seg dksX0_made_0 1 rfl rfl
theorem dksX0_made_2 : cX0_made.data.toList.drop 36 = dktX0_made_2 := dk_seg dksX0_made_1 35 rfl rfl
theorem dX0_made_0 : decode cX0_made 0 = .ok (.iload_n 0, 1) := dk_26 (dk_at dksX0_made_0 0 rfl rfl)
theorem dX0_made_1 : decode cX0_made 1 = .ok (.lookupswitch 47 #[(8, 35), (16, 39), (64, 43)], 35) := by decide +kernel
theorem dX0_made_36 : decode cX0_made 36 = .ok (.iload_n 1, 1) := dk_27 (dk_at dksX0_made_2 0 rfl rfl)
theorem dX0_made_37 : decode cX0_made 37 = .ok (.newarray .byte, 2) := dk_188_8 (dk_at dksX0_made_2 1 rfl rfl)
theorem dX0_made_39 : decode cX0_made 39 = .ok (.areturn, 1) := dk_176 (dk_at dksX0_made_2 3 rfl rfl)
theorem dX0_made_40 : decode cX0_made 40 = .ok (.iload_n 1, 1) := dk_27 (dk_at dksX0_made_2 4 rfl rfl)
theorem dX0_made_41 : decode cX0_made 41 = .ok (.newarray .short, 2) := dk_188_9 (dk_at dksX0_made_2 5 rfl rfl)
theorem dX0_made_43 : decode cX0_made 43 = .ok (.areturn, 1) := dk_176 (dk_at dksX0_made_2 7 rfl rfl)
theorem dX0_made_44 : decode cX0_made 44 = .ok (.iload_n 1, 1) := dk_27 (dk_at dksX0_made_2 8 rfl rfl)
theorem dX0_made_45 : decode cX0_made 45 = .ok (.newarray .long, 2) := dk_188_11 (dk_at dksX0_made_2 9 rfl rfl)
theorem dX0_made_47 : decode cX0_made 47 = .ok (.areturn, 1) := dk_176 (dk_at dksX0_made_2 11 rfl rfl)
theorem dX0_made_48 : decode cX0_made 48 = .ok (.aconst_null, 1) := dk_1 (dk_at dksX0_made_2 12 rfl rfl)
theorem dX0_made_49 : decode cX0_made 49 = .ok (.areturn, 1) := dk_176 (dk_at dksX0_made_2 13 rfl rfl)
abbrev cX0_write : ByteArray := prog_1_method_60_code
def yX0_write : MethodName := ⟨RX0, "write", "(IIJ)J"⟩
def dkwX0_write_1 : List UInt8 := [22, 6, 173, 58, 5, 42, 25, 5, 182, 0, 136, 133, 173]
abbrev dktX0_write_1 : List UInt8 := dkwX0_write_1 ++ []
def dkwX0_write_0 : List UInt8 := [42, 27, 28, 182, 1, 76, 58, 5, 25, 5, 28, 184, 1, 63, 55, 6, 25, 5, 28, 33, 184, 1, 4]
abbrev dktX0_write_0 : List UInt8 := dkwX0_write_0 ++ dktX0_write_1
theorem dksX0_write_0 : cX0_write.data.toList.drop 0 = dktX0_write_0 := by decide +kernel
theorem dksX0_write_1 : cX0_write.data.toList.drop 23 = dktX0_write_1 := dk_seg dksX0_write_0 23 rfl rfl
theorem dX0_write_0 : decode cX0_write 0 = .ok (.aload_n 0, 1) := dk_42 (dk_at dksX0_write_0 0 rfl rfl)
theorem dX0_write_1 : decode cX0_write 1 = .ok (.iload_n 1, 1) := dk_27 (dk_at dksX0_write_0 1 rfl rfl)
theorem dX0_write_2 : decode cX0_write 2 = .ok (.iload_n 2, 1) := dk_28 (dk_at dksX0_write_0 2 rfl rfl)
theorem dX0_write_3 : decode cX0_write 3 = .ok (.invokevirtual 332, 3) := dk_182 1 76 (dk_at dksX0_write_0 3 rfl rfl)
theorem dX0_write_6 : decode cX0_write 6 = .ok (.astore 5, 2) := dk_58 5 (dk_at dksX0_write_0 6 rfl rfl)
theorem dX0_write_8 : decode cX0_write 8 = .ok (.aload 5, 2) := dk_25 5 (dk_at dksX0_write_0 8 rfl rfl)
theorem dX0_write_10 : decode cX0_write 10 = .ok (.iload_n 2, 1) := dk_28 (dk_at dksX0_write_0 10 rfl rfl)
theorem dX0_write_11 : decode cX0_write 11 = .ok (.invokestatic 319, 3) := dk_184 1 63 (dk_at dksX0_write_0 11 rfl rfl)
theorem dX0_write_14 : decode cX0_write 14 = .ok (.lstore 6, 2) := dk_55 6 (dk_at dksX0_write_0 14 rfl rfl)
theorem dX0_write_16 : decode cX0_write 16 = .ok (.aload 5, 2) := dk_25 5 (dk_at dksX0_write_0 16 rfl rfl)
theorem dX0_write_18 : decode cX0_write 18 = .ok (.iload_n 2, 1) := dk_28 (dk_at dksX0_write_0 18 rfl rfl)
theorem dX0_write_19 : decode cX0_write 19 = .ok (.lload_n 3, 1) := dk_33 (dk_at dksX0_write_0 19 rfl rfl)
theorem dX0_write_20 : decode cX0_write 20 = .ok (.invokestatic 260, 3) := dk_184 1 4 (dk_at dksX0_write_0 20 rfl rfl)
theorem dX0_write_23 : decode cX0_write 23 = .ok (.lload 6, 2) := dk_22 6 (dk_at dksX0_write_1 0 rfl rfl)
theorem dX0_write_25 : decode cX0_write 25 = .ok (.lreturn, 1) := dk_173 (dk_at dksX0_write_1 2 rfl rfl)
theorem dX0_write_26 : decode cX0_write 26 = .ok (.astore 5, 2) := dk_58 5 (dk_at dksX0_write_1 3 rfl rfl)
theorem dX0_write_28 : decode cX0_write 28 = .ok (.aload_n 0, 1) := dk_42 (dk_at dksX0_write_1 5 rfl rfl)
theorem dX0_write_29 : decode cX0_write 29 = .ok (.aload 5, 2) := dk_25 5 (dk_at dksX0_write_1 6 rfl rfl)
theorem dX0_write_31 : decode cX0_write 31 = .ok (.invokevirtual 136, 3) := dk_182 0 136 (dk_at dksX0_write_1 8 rfl rfl)
theorem dX0_write_34 : decode cX0_write 34 = .ok (.i2l, 1) := dk_133 (dk_at dksX0_write_1 11 rfl rfl)
theorem dX0_write_35 : decode cX0_write 35 = .ok (.lreturn, 1) := dk_173 (dk_at dksX0_write_1 12 rfl rfl)
abbrev cX0_numberAt : ByteArray := prog_1_method_59_code
def yX0_numberAt : MethodName := ⟨RX0, "numberAt", "(II)Ljava/lang/Object;"⟩
def dkwX0_numberAt_1 : List UInt8 := [184, 0, 123, 45, 176]
abbrev dktX0_numberAt_1 : List UInt8 := dkwX0_numberAt_1 ++ []
def dkwX0_numberAt_0 : List UInt8 := [27, 184, 0, 243, 42, 27, 182, 0, 246, 78, 28, 133, 9, 45, 184, 0, 250, 4, 100, 133, 184, 0, 14, 3]
abbrev dktX0_numberAt_0 : List UInt8 := dkwX0_numberAt_0 ++ dktX0_numberAt_1
theorem dksX0_numberAt_0 : cX0_numberAt.data.toList.drop 0 = dktX0_numberAt_0 := by decide +kernel
theorem dksX0_numberAt_1 : cX0_numberAt.data.toList.drop 24 = dktX0_numberAt_1 := dk_seg dksX0_numberAt_0 24 rfl rfl
theorem dX0_numberAt_0 : decode cX0_numberAt 0 = .ok (.iload_n 1, 1) := dk_27 (dk_at dksX0_numberAt_0 0 rfl rfl)
theorem dX0_numberAt_1 : decode cX0_numberAt 1 = .ok (.invokestatic 243, 3) := dk_184 0 243 (dk_at dksX0_numberAt_0 1 rfl rfl)
theorem dX0_numberAt_4 : decode cX0_numberAt 4 = .ok (.aload_n 0, 1) := dk_42 (dk_at dksX0_numberAt_0 4 rfl rfl)
theorem dX0_numberAt_5 : decode cX0_numberAt 5 = .ok (.iload_n 1, 1) := dk_27 (dk_at dksX0_numberAt_0 5 rfl rfl)
theorem dX0_numberAt_6 : decode cX0_numberAt 6 = .ok (.invokevirtual 246, 3) := dk_182 0 246 (dk_at dksX0_numberAt_0 6 rfl rfl)
theorem dX0_numberAt_9 : decode cX0_numberAt 9 = .ok (.astore_n 3, 1) := dk_78 (dk_at dksX0_numberAt_0 9 rfl rfl)
theorem dX0_numberAt_10 : decode cX0_numberAt 10 = .ok (.iload_n 2, 1) := dk_28 (dk_at dksX0_numberAt_0 10 rfl rfl)
theorem dX0_numberAt_11 : decode cX0_numberAt 11 = .ok (.i2l, 1) := dk_133 (dk_at dksX0_numberAt_0 11 rfl rfl)
theorem dX0_numberAt_12 : decode cX0_numberAt 12 = .ok (.lconst 0, 1) := dk_9 (dk_at dksX0_numberAt_0 12 rfl rfl)
theorem dX0_numberAt_13 : decode cX0_numberAt 13 = .ok (.aload_n 3, 1) := dk_45 (dk_at dksX0_numberAt_0 13 rfl rfl)
theorem dX0_numberAt_14 : decode cX0_numberAt 14 = .ok (.invokestatic 250, 3) := dk_184 0 250 (dk_at dksX0_numberAt_0 14 rfl rfl)
theorem dX0_numberAt_17 : decode cX0_numberAt 17 = .ok (.iconst 1, 1) := dk_4 (dk_at dksX0_numberAt_0 17 rfl rfl)
theorem dX0_numberAt_18 : decode cX0_numberAt 18 = .ok (.isub, 1) := dk_100 (dk_at dksX0_numberAt_0 18 rfl rfl)
theorem dX0_numberAt_19 : decode cX0_numberAt 19 = .ok (.i2l, 1) := dk_133 (dk_at dksX0_numberAt_0 19 rfl rfl)
theorem dX0_numberAt_20 : decode cX0_numberAt 20 = .ok (.invokestatic 14, 3) := dk_184 0 14 (dk_at dksX0_numberAt_0 20 rfl rfl)
theorem dX0_numberAt_23 : decode cX0_numberAt 23 = .ok (.iconst 0, 1) := dk_3 (dk_at dksX0_numberAt_0 23 rfl rfl)
theorem dX0_numberAt_24 : decode cX0_numberAt 24 = .ok (.invokestatic 123, 3) := dk_184 0 123 (dk_at dksX0_numberAt_1 0 rfl rfl)
theorem dX0_numberAt_27 : decode cX0_numberAt 27 = .ok (.aload_n 3, 1) := dk_45 (dk_at dksX0_numberAt_1 3 rfl rfl)
theorem dX0_numberAt_28 : decode cX0_numberAt 28 = .ok (.areturn, 1) := dk_176 (dk_at dksX0_numberAt_1 4 rfl rfl)
abbrev cX0_copy : ByteArray := prog_1_method_61_code
def yX0_copy : MethodName := ⟨RX0, "copy", "(IIIII)I"⟩
def dkwX0_copy_5 : List UInt8 := [184, 1, 82, 21, 5, 172, 58, 6, 42, 25, 6, 182, 0, 136, 172]
abbrev dktX0_copy_5 : List UInt8 := dkwX0_copy_5 ++ []
def dkwX0_copy_4 : List UInt8 := [148, 157, 0, 7, 4, 167, 0, 4, 3, 3, 184, 0, 123, 25, 6, 28, 25, 7, 21, 4, 21, 5]
abbrev dktX0_copy_4 : List UInt8 := dkwX0_copy_4 ++ dktX0_copy_5
def dkwX0_copy_3 : List UInt8 := [97, 25, 6, 184, 0, 250, 133, 148, 157, 0, 24, 21, 4, 133, 21, 5, 133, 97, 25, 7, 184, 0, 250, 133]
abbrev dktX0_copy_3 : List UInt8 := dkwX0_copy_3 ++ dktX0_copy_4
def dkwX0_copy_2 : List UInt8 := [21, 4, 155, 0, 12, 21, 5, 155, 0, 7, 4, 167, 0, 4, 3, 3, 184, 0, 123, 28, 133, 21, 5, 133]
abbrev dktX0_copy_2 : List UInt8 := dkwX0_copy_2 ++ dktX0_copy_3
def dkwX0_copy_1 : List UInt8 := [184, 1, 79, 25, 7, 184, 1, 79, 160, 0, 7, 4, 167, 0, 4, 3, 5, 184, 0, 123, 28, 155, 0, 17]
abbrev dktX0_copy_1 : List UInt8 := dkwX0_copy_1 ++ dktX0_copy_2
def dkwX0_copy_0 : List UInt8 := [27, 184, 0, 243, 29, 184, 0, 243, 42, 27, 182, 0, 246, 58, 6, 42, 29, 182, 0, 246, 58, 7, 25, 6]
abbrev dktX0_copy_0 : List UInt8 := dkwX0_copy_0 ++ dktX0_copy_1
theorem dksX0_copy_0 : cX0_copy.data.toList.drop 0 = dktX0_copy_0 := by decide +kernel
theorem dksX0_copy_1 : cX0_copy.data.toList.drop 24 = dktX0_copy_1 := dk_seg dksX0_copy_0 24 rfl rfl
theorem dksX0_copy_2 : cX0_copy.data.toList.drop 48 = dktX0_copy_2 := dk_seg dksX0_copy_1 24 rfl rfl
theorem dksX0_copy_3 : cX0_copy.data.toList.drop 72 = dktX0_copy_3 := dk_seg dksX0_copy_2 24 rfl rfl
theorem dksX0_copy_4 : cX0_copy.data.toList.drop 96 = dktX0_copy_4 := dk_seg dksX0_copy_3 24 rfl rfl
theorem dksX0_copy_5 : cX0_copy.data.toList.drop 118 = dktX0_copy_5 := dk_seg dksX0_copy_4 22 rfl rfl
theorem dX0_copy_0 : decode cX0_copy 0 = .ok (.iload_n 1, 1) := dk_27 (dk_at dksX0_copy_0 0 rfl rfl)
theorem dX0_copy_1 : decode cX0_copy 1 = .ok (.invokestatic 243, 3) := dk_184 0 243 (dk_at dksX0_copy_0 1 rfl rfl)
theorem dX0_copy_4 : decode cX0_copy 4 = .ok (.iload_n 3, 1) := dk_29 (dk_at dksX0_copy_0 4 rfl rfl)
theorem dX0_copy_5 : decode cX0_copy 5 = .ok (.invokestatic 243, 3) := dk_184 0 243 (dk_at dksX0_copy_0 5 rfl rfl)
theorem dX0_copy_8 : decode cX0_copy 8 = .ok (.aload_n 0, 1) := dk_42 (dk_at dksX0_copy_0 8 rfl rfl)
theorem dX0_copy_9 : decode cX0_copy 9 = .ok (.iload_n 1, 1) := dk_27 (dk_at dksX0_copy_0 9 rfl rfl)
theorem dX0_copy_10 : decode cX0_copy 10 = .ok (.invokevirtual 246, 3) := dk_182 0 246 (dk_at dksX0_copy_0 10 rfl rfl)
theorem dX0_copy_13 : decode cX0_copy 13 = .ok (.astore 6, 2) := dk_58 6 (dk_at dksX0_copy_0 13 rfl rfl)
theorem dX0_copy_15 : decode cX0_copy 15 = .ok (.aload_n 0, 1) := dk_42 (dk_at dksX0_copy_0 15 rfl rfl)
theorem dX0_copy_16 : decode cX0_copy 16 = .ok (.iload_n 3, 1) := dk_29 (dk_at dksX0_copy_0 16 rfl rfl)
theorem dX0_copy_17 : decode cX0_copy 17 = .ok (.invokevirtual 246, 3) := dk_182 0 246 (dk_at dksX0_copy_0 17 rfl rfl)
theorem dX0_copy_20 : decode cX0_copy 20 = .ok (.astore 7, 2) := dk_58 7 (dk_at dksX0_copy_0 20 rfl rfl)
theorem dX0_copy_22 : decode cX0_copy 22 = .ok (.aload 6, 2) := dk_25 6 (dk_at dksX0_copy_0 22 rfl rfl)
theorem dX0_copy_24 : decode cX0_copy 24 = .ok (.invokestatic 335, 3) := dk_184 1 79 (dk_at dksX0_copy_1 0 rfl rfl)
theorem dX0_copy_27 : decode cX0_copy 27 = .ok (.aload 7, 2) := dk_25 7 (dk_at dksX0_copy_1 3 rfl rfl)
theorem dX0_copy_29 : decode cX0_copy 29 = .ok (.invokestatic 335, 3) := dk_184 1 79 (dk_at dksX0_copy_1 5 rfl rfl)
theorem dX0_copy_32 : decode cX0_copy 32 = .ok (.if_icmp .ne 7, 3) := dk_160 0 7 (dk_at dksX0_copy_1 8 rfl rfl)
theorem dX0_copy_35 : decode cX0_copy 35 = .ok (.iconst 1, 1) := dk_4 (dk_at dksX0_copy_1 11 rfl rfl)
theorem dX0_copy_36 : decode cX0_copy 36 = .ok (.goto 4, 3) := dk_167 0 4 (dk_at dksX0_copy_1 12 rfl rfl)
theorem dX0_copy_39 : decode cX0_copy 39 = .ok (.iconst 0, 1) := dk_3 (dk_at dksX0_copy_1 15 rfl rfl)
theorem dX0_copy_40 : decode cX0_copy 40 = .ok (.iconst 2, 1) := dk_5 (dk_at dksX0_copy_1 16 rfl rfl)
theorem dX0_copy_41 : decode cX0_copy 41 = .ok (.invokestatic 123, 3) := dk_184 0 123 (dk_at dksX0_copy_1 17 rfl rfl)
theorem dX0_copy_44 : decode cX0_copy 44 = .ok (.iload_n 2, 1) := dk_28 (dk_at dksX0_copy_1 20 rfl rfl)
theorem dX0_copy_45 : decode cX0_copy 45 = .ok (.ifCond .lt 17, 3) := dk_155 0 17 (dk_at dksX0_copy_1 21 rfl rfl)
theorem dX0_copy_48 : decode cX0_copy 48 = .ok (.iload 4, 2) := dk_21 4 (dk_at dksX0_copy_2 0 rfl rfl)
theorem dX0_copy_50 : decode cX0_copy 50 = .ok (.ifCond .lt 12, 3) := dk_155 0 12 (dk_at dksX0_copy_2 2 rfl rfl)
theorem dX0_copy_53 : decode cX0_copy 53 = .ok (.iload 5, 2) := dk_21 5 (dk_at dksX0_copy_2 5 rfl rfl)
theorem dX0_copy_55 : decode cX0_copy 55 = .ok (.ifCond .lt 7, 3) := dk_155 0 7 (dk_at dksX0_copy_2 7 rfl rfl)
theorem dX0_copy_58 : decode cX0_copy 58 = .ok (.iconst 1, 1) := dk_4 (dk_at dksX0_copy_2 10 rfl rfl)
theorem dX0_copy_59 : decode cX0_copy 59 = .ok (.goto 4, 3) := dk_167 0 4 (dk_at dksX0_copy_2 11 rfl rfl)
theorem dX0_copy_62 : decode cX0_copy 62 = .ok (.iconst 0, 1) := dk_3 (dk_at dksX0_copy_2 14 rfl rfl)
theorem dX0_copy_63 : decode cX0_copy 63 = .ok (.iconst 0, 1) := dk_3 (dk_at dksX0_copy_2 15 rfl rfl)
theorem dX0_copy_64 : decode cX0_copy 64 = .ok (.invokestatic 123, 3) := dk_184 0 123 (dk_at dksX0_copy_2 16 rfl rfl)
theorem dX0_copy_67 : decode cX0_copy 67 = .ok (.iload_n 2, 1) := dk_28 (dk_at dksX0_copy_2 19 rfl rfl)
theorem dX0_copy_68 : decode cX0_copy 68 = .ok (.i2l, 1) := dk_133 (dk_at dksX0_copy_2 20 rfl rfl)
theorem dX0_copy_69 : decode cX0_copy 69 = .ok (.iload 5, 2) := dk_21 5 (dk_at dksX0_copy_2 21 rfl rfl)
theorem dX0_copy_71 : decode cX0_copy 71 = .ok (.i2l, 1) := dk_133 (dk_at dksX0_copy_2 23 rfl rfl)
theorem dX0_copy_72 : decode cX0_copy 72 = .ok (.ladd, 1) := dk_97 (dk_at dksX0_copy_3 0 rfl rfl)
theorem dX0_copy_73 : decode cX0_copy 73 = .ok (.aload 6, 2) := dk_25 6 (dk_at dksX0_copy_3 1 rfl rfl)
theorem dX0_copy_75 : decode cX0_copy 75 = .ok (.invokestatic 250, 3) := dk_184 0 250 (dk_at dksX0_copy_3 3 rfl rfl)
theorem dX0_copy_78 : decode cX0_copy 78 = .ok (.i2l, 1) := dk_133 (dk_at dksX0_copy_3 6 rfl rfl)
theorem dX0_copy_79 : decode cX0_copy 79 = .ok (.lcmp, 1) := dk_148 (dk_at dksX0_copy_3 7 rfl rfl)
theorem dX0_copy_80 : decode cX0_copy 80 = .ok (.ifCond .gt 24, 3) := dk_157 0 24 (dk_at dksX0_copy_3 8 rfl rfl)
theorem dX0_copy_83 : decode cX0_copy 83 = .ok (.iload 4, 2) := dk_21 4 (dk_at dksX0_copy_3 11 rfl rfl)
theorem dX0_copy_85 : decode cX0_copy 85 = .ok (.i2l, 1) := dk_133 (dk_at dksX0_copy_3 13 rfl rfl)
theorem dX0_copy_86 : decode cX0_copy 86 = .ok (.iload 5, 2) := dk_21 5 (dk_at dksX0_copy_3 14 rfl rfl)
theorem dX0_copy_88 : decode cX0_copy 88 = .ok (.i2l, 1) := dk_133 (dk_at dksX0_copy_3 16 rfl rfl)
theorem dX0_copy_89 : decode cX0_copy 89 = .ok (.ladd, 1) := dk_97 (dk_at dksX0_copy_3 17 rfl rfl)
theorem dX0_copy_90 : decode cX0_copy 90 = .ok (.aload 7, 2) := dk_25 7 (dk_at dksX0_copy_3 18 rfl rfl)
theorem dX0_copy_92 : decode cX0_copy 92 = .ok (.invokestatic 250, 3) := dk_184 0 250 (dk_at dksX0_copy_3 20 rfl rfl)
theorem dX0_copy_95 : decode cX0_copy 95 = .ok (.i2l, 1) := dk_133 (dk_at dksX0_copy_3 23 rfl rfl)
theorem dX0_copy_96 : decode cX0_copy 96 = .ok (.lcmp, 1) := dk_148 (dk_at dksX0_copy_4 0 rfl rfl)
theorem dX0_copy_97 : decode cX0_copy 97 = .ok (.ifCond .gt 7, 3) := dk_157 0 7 (dk_at dksX0_copy_4 1 rfl rfl)
theorem dX0_copy_100 : decode cX0_copy 100 = .ok (.iconst 1, 1) := dk_4 (dk_at dksX0_copy_4 4 rfl rfl)
theorem dX0_copy_101 : decode cX0_copy 101 = .ok (.goto 4, 3) := dk_167 0 4 (dk_at dksX0_copy_4 5 rfl rfl)
theorem dX0_copy_104 : decode cX0_copy 104 = .ok (.iconst 0, 1) := dk_3 (dk_at dksX0_copy_4 8 rfl rfl)
theorem dX0_copy_105 : decode cX0_copy 105 = .ok (.iconst 0, 1) := dk_3 (dk_at dksX0_copy_4 9 rfl rfl)
theorem dX0_copy_106 : decode cX0_copy 106 = .ok (.invokestatic 123, 3) := dk_184 0 123 (dk_at dksX0_copy_4 10 rfl rfl)
theorem dX0_copy_109 : decode cX0_copy 109 = .ok (.aload 6, 2) := dk_25 6 (dk_at dksX0_copy_4 13 rfl rfl)
theorem dX0_copy_111 : decode cX0_copy 111 = .ok (.iload_n 2, 1) := dk_28 (dk_at dksX0_copy_4 15 rfl rfl)
theorem dX0_copy_112 : decode cX0_copy 112 = .ok (.aload 7, 2) := dk_25 7 (dk_at dksX0_copy_4 16 rfl rfl)
theorem dX0_copy_114 : decode cX0_copy 114 = .ok (.iload 4, 2) := dk_21 4 (dk_at dksX0_copy_4 18 rfl rfl)
theorem dX0_copy_116 : decode cX0_copy 116 = .ok (.iload 5, 2) := dk_21 5 (dk_at dksX0_copy_4 20 rfl rfl)
theorem dX0_copy_118 : decode cX0_copy 118 = .ok (.invokestatic 338, 3) := dk_184 1 82 (dk_at dksX0_copy_5 0 rfl rfl)
theorem dX0_copy_121 : decode cX0_copy 121 = .ok (.iload 5, 2) := dk_21 5 (dk_at dksX0_copy_5 3 rfl rfl)
theorem dX0_copy_123 : decode cX0_copy 123 = .ok (.ireturn, 1) := dk_172 (dk_at dksX0_copy_5 5 rfl rfl)
theorem dX0_copy_124 : decode cX0_copy 124 = .ok (.astore 6, 2) := dk_58 6 (dk_at dksX0_copy_5 6 rfl rfl)
theorem dX0_copy_126 : decode cX0_copy 126 = .ok (.aload_n 0, 1) := dk_42 (dk_at dksX0_copy_5 8 rfl rfl)
theorem dX0_copy_127 : decode cX0_copy 127 = .ok (.aload 6, 2) := dk_25 6 (dk_at dksX0_copy_5 9 rfl rfl)
theorem dX0_copy_129 : decode cX0_copy 129 = .ok (.invokevirtual 136, 3) := dk_182 0 136 (dk_at dksX0_copy_5 11 rfl rfl)
theorem dX0_copy_132 : decode cX0_copy 132 = .ok (.ireturn, 1) := dk_172 (dk_at dksX0_copy_5 14 rfl rfl)
abbrev cX0_wide : ByteArray := prog_1_method_53_code
def yX0_wide : MethodName := ⟨RX0, "wide", "(Ljava/lang/Object;)I"⟩
def dkwX0_wide_1 : List UInt8 := [16, 64, 172]
abbrev dktX0_wide_1 : List UInt8 := dkwX0_wide_1 ++ []
def dkwX0_wide_0 : List UInt8 := [42, 193, 1, 67, 153, 0, 8, 16, 8, 167, 0, 17, 42, 193, 1, 68, 153, 0, 8, 16, 16, 167, 0, 5]
abbrev dktX0_wide_0 : List UInt8 := dkwX0_wide_0 ++ dktX0_wide_1
theorem dksX0_wide_0 : cX0_wide.data.toList.drop 0 = dktX0_wide_0 := by decide +kernel
theorem dksX0_wide_1 : cX0_wide.data.toList.drop 24 = dktX0_wide_1 := dk_seg dksX0_wide_0 24 rfl rfl
theorem dX0_wide_0 : decode cX0_wide 0 = .ok (.aload_n 0, 1) := dk_42 (dk_at dksX0_wide_0 0 rfl rfl)
theorem dX0_wide_1 : decode cX0_wide 1 = .ok (.instanceof 323, 3) := dk_193 1 67 (dk_at dksX0_wide_0 1 rfl rfl)
theorem dX0_wide_4 : decode cX0_wide 4 = .ok (.ifCond .eq 8, 3) := dk_153 0 8 (dk_at dksX0_wide_0 4 rfl rfl)
theorem dX0_wide_7 : decode cX0_wide 7 = .ok (.bipush 8, 2) := dk_16 8 (dk_at dksX0_wide_0 7 rfl rfl)
theorem dX0_wide_9 : decode cX0_wide 9 = .ok (.goto 17, 3) := dk_167 0 17 (dk_at dksX0_wide_0 9 rfl rfl)
theorem dX0_wide_12 : decode cX0_wide 12 = .ok (.aload_n 0, 1) := dk_42 (dk_at dksX0_wide_0 12 rfl rfl)
theorem dX0_wide_13 : decode cX0_wide 13 = .ok (.instanceof 324, 3) := dk_193 1 68 (dk_at dksX0_wide_0 13 rfl rfl)
theorem dX0_wide_16 : decode cX0_wide 16 = .ok (.ifCond .eq 8, 3) := dk_153 0 8 (dk_at dksX0_wide_0 16 rfl rfl)
theorem dX0_wide_19 : decode cX0_wide 19 = .ok (.bipush 16, 2) := dk_16 16 (dk_at dksX0_wide_0 19 rfl rfl)
theorem dX0_wide_21 : decode cX0_wide 21 = .ok (.goto 5, 3) := dk_167 0 5 (dk_at dksX0_wide_0 21 rfl rfl)
theorem dX0_wide_24 : decode cX0_wide 24 = .ok (.bipush 64, 2) := dk_16 64 (dk_at dksX0_wide_1 0 rfl rfl)
theorem dX0_wide_26 : decode cX0_wide 26 = .ok (.ireturn, 1) := dk_172 (dk_at dksX0_wide_1 2 rfl rfl)
abbrev cX0_image : ByteArray := prog_1_method_62_code
def yX0_image : MethodName := ⟨RX0, "image", "()I"⟩
def dkwX0_image_0 : List UInt8 := [42, 180, 0, 89, 42, 180, 0, 85, 182, 0, 195, 42, 4, 181, 1, 88, 4, 172]
abbrev dktX0_image_0 : List UInt8 := dkwX0_image_0 ++ []
theorem dksX0_image_0 : cX0_image.data.toList.drop 0 = dktX0_image_0 := by decide +kernel
theorem dX0_image_0 : decode cX0_image 0 = .ok (.aload_n 0, 1) := dk_42 (dk_at dksX0_image_0 0 rfl rfl)
theorem dX0_image_1 : decode cX0_image 1 = .ok (.getfield 89, 3) := dk_180 0 89 (dk_at dksX0_image_0 1 rfl rfl)
theorem dX0_image_4 : decode cX0_image 4 = .ok (.aload_n 0, 1) := dk_42 (dk_at dksX0_image_0 4 rfl rfl)
theorem dX0_image_5 : decode cX0_image 5 = .ok (.getfield 85, 3) := dk_180 0 85 (dk_at dksX0_image_0 5 rfl rfl)
theorem dX0_image_8 : decode cX0_image 8 = .ok (.invokevirtual 195, 3) := dk_182 0 195 (dk_at dksX0_image_0 8 rfl rfl)
theorem dX0_image_11 : decode cX0_image 11 = .ok (.aload_n 0, 1) := dk_42 (dk_at dksX0_image_0 11 rfl rfl)
theorem dX0_image_12 : decode cX0_image 12 = .ok (.iconst 1, 1) := dk_4 (dk_at dksX0_image_0 12 rfl rfl)
theorem dX0_image_13 : decode cX0_image 13 = .ok (.putfield 344, 3) := dk_181 1 88 (dk_at dksX0_image_0 13 rfl rfl)
theorem dX0_image_16 : decode cX0_image 16 = .ok (.iconst 1, 1) := dk_4 (dk_at dksX0_image_0 16 rfl rfl)
theorem dX0_image_17 : decode cX0_image 17 = .ok (.ireturn, 1) := dk_172 (dk_at dksX0_image_0 17 rfl rfl)
abbrev cX0_undo : ByteArray := prog_1_method_63_code
def yX0_undo : MethodName := ⟨RX0, "undo", "()I"⟩
def dkwX0_undo_1 : List UInt8 := [180, 0, 130, 172, 76, 42, 43, 182, 0, 136, 172]
abbrev dktX0_undo_1 : List UInt8 := dkwX0_undo_1 ++ []
def dkwX0_undo_0 : List UInt8 := [42, 180, 1, 88, 6, 184, 0, 123, 42, 180, 0, 85, 42, 180, 0, 89, 182, 0, 195, 42, 180, 0, 85]
abbrev dktX0_undo_0 : List UInt8 := dkwX0_undo_0 ++ dktX0_undo_1
theorem dksX0_undo_0 : cX0_undo.data.toList.drop 0 = dktX0_undo_0 := by decide +kernel
theorem dksX0_undo_1 : cX0_undo.data.toList.drop 23 = dktX0_undo_1 := dk_seg dksX0_undo_0 23 rfl rfl
theorem dX0_undo_0 : decode cX0_undo 0 = .ok (.aload_n 0, 1) := dk_42 (dk_at dksX0_undo_0 0 rfl rfl)
theorem dX0_undo_1 : decode cX0_undo 1 = .ok (.getfield 344, 3) := dk_180 1 88 (dk_at dksX0_undo_0 1 rfl rfl)
theorem dX0_undo_4 : decode cX0_undo 4 = .ok (.iconst 3, 1) := dk_6 (dk_at dksX0_undo_0 4 rfl rfl)
theorem dX0_undo_5 : decode cX0_undo 5 = .ok (.invokestatic 123, 3) := dk_184 0 123 (dk_at dksX0_undo_0 5 rfl rfl)
theorem dX0_undo_8 : decode cX0_undo 8 = .ok (.aload_n 0, 1) := dk_42 (dk_at dksX0_undo_0 8 rfl rfl)
theorem dX0_undo_9 : decode cX0_undo 9 = .ok (.getfield 85, 3) := dk_180 0 85 (dk_at dksX0_undo_0 9 rfl rfl)
theorem dX0_undo_12 : decode cX0_undo 12 = .ok (.aload_n 0, 1) := dk_42 (dk_at dksX0_undo_0 12 rfl rfl)
theorem dX0_undo_13 : decode cX0_undo 13 = .ok (.getfield 89, 3) := dk_180 0 89 (dk_at dksX0_undo_0 13 rfl rfl)
theorem dX0_undo_16 : decode cX0_undo 16 = .ok (.invokevirtual 195, 3) := dk_182 0 195 (dk_at dksX0_undo_0 16 rfl rfl)
theorem dX0_undo_19 : decode cX0_undo 19 = .ok (.aload_n 0, 1) := dk_42 (dk_at dksX0_undo_0 19 rfl rfl)
theorem dX0_undo_20 : decode cX0_undo 20 = .ok (.getfield 85, 3) := dk_180 0 85 (dk_at dksX0_undo_0 20 rfl rfl)
theorem dX0_undo_23 : decode cX0_undo 23 = .ok (.getfield 130, 3) := dk_180 0 130 (dk_at dksX0_undo_1 0 rfl rfl)
theorem dX0_undo_26 : decode cX0_undo 26 = .ok (.ireturn, 1) := dk_172 (dk_at dksX0_undo_1 3 rfl rfl)
theorem dX0_undo_27 : decode cX0_undo 27 = .ok (.astore_n 1, 1) := dk_76 (dk_at dksX0_undo_1 4 rfl rfl)
theorem dX0_undo_28 : decode cX0_undo 28 = .ok (.aload_n 0, 1) := dk_42 (dk_at dksX0_undo_1 5 rfl rfl)
theorem dX0_undo_29 : decode cX0_undo 29 = .ok (.aload_n 1, 1) := dk_43 (dk_at dksX0_undo_1 6 rfl rfl)
theorem dX0_undo_30 : decode cX0_undo 30 = .ok (.invokevirtual 136, 3) := dk_182 0 136 (dk_at dksX0_undo_1 7 rfl rfl)
theorem dX0_undo_33 : decode cX0_undo 33 = .ok (.ireturn, 1) := dk_172 (dk_at dksX0_undo_1 10 rfl rfl)
abbrev cX0_tear : ByteArray := prog_1_method_64_code
def yX0_tear : MethodName := ⟨RX0, "tear", "()I"⟩
def dkwX0_tear_0 : List UInt8 := [42, 180, 1, 88, 153, 0, 7, 4, 167, 0, 4, 3, 60, 42, 3, 181, 1, 88, 27, 172]
abbrev dktX0_tear_0 : List UInt8 := dkwX0_tear_0 ++ []
theorem dksX0_tear_0 : cX0_tear.data.toList.drop 0 = dktX0_tear_0 := by decide +kernel
theorem dX0_tear_0 : decode cX0_tear 0 = .ok (.aload_n 0, 1) := dk_42 (dk_at dksX0_tear_0 0 rfl rfl)
theorem dX0_tear_1 : decode cX0_tear 1 = .ok (.getfield 344, 3) := dk_180 1 88 (dk_at dksX0_tear_0 1 rfl rfl)
theorem dX0_tear_4 : decode cX0_tear 4 = .ok (.ifCond .eq 7, 3) := dk_153 0 7 (dk_at dksX0_tear_0 4 rfl rfl)
theorem dX0_tear_7 : decode cX0_tear 7 = .ok (.iconst 1, 1) := dk_4 (dk_at dksX0_tear_0 7 rfl rfl)
theorem dX0_tear_8 : decode cX0_tear 8 = .ok (.goto 4, 3) := dk_167 0 4 (dk_at dksX0_tear_0 8 rfl rfl)
theorem dX0_tear_11 : decode cX0_tear 11 = .ok (.iconst 0, 1) := dk_3 (dk_at dksX0_tear_0 11 rfl rfl)
theorem dX0_tear_12 : decode cX0_tear 12 = .ok (.istore_n 1, 1) := dk_60 (dk_at dksX0_tear_0 12 rfl rfl)
theorem dX0_tear_13 : decode cX0_tear 13 = .ok (.aload_n 0, 1) := dk_42 (dk_at dksX0_tear_0 13 rfl rfl)
theorem dX0_tear_14 : decode cX0_tear 14 = .ok (.iconst 0, 1) := dk_3 (dk_at dksX0_tear_0 14 rfl rfl)
theorem dX0_tear_15 : decode cX0_tear 15 = .ok (.putfield 344, 3) := dk_181 1 88 (dk_at dksX0_tear_0 15 rfl rfl)
theorem dX0_tear_18 : decode cX0_tear 18 = .ok (.iload_n 1, 1) := dk_27 (dk_at dksX0_tear_0 18 rfl rfl)
theorem dX0_tear_19 : decode cX0_tear 19 = .ok (.ireturn, 1) := dk_172 (dk_at dksX0_tear_0 19 rfl rfl)
abbrev cX0_count : ByteArray := prog_1_method_66_code
def yX0_count : MethodName := ⟨RX0, "count", "(I)I"⟩
def dkwX0_count_4 : List UInt8 := [44, 182, 0, 136, 172]
abbrev dktX0_count_4 : List UInt8 := dkwX0_count_4 ++ []
def dkwX0_count_3 : List UInt8 := [180, 0, 85, 180, 0, 237, 172, 42, 27, 182, 1, 91, 172, 187, 0, 1, 89, 3, 183, 0, 3, 191, 77, 42]
abbrev dktX0_count_3 : List UInt8 := dkwX0_count_3 ++ dktX0_count_4
def dkwX0_count_2 : List UInt8 := [42, 180, 0, 85, 180, 0, 127, 172, 42, 180, 0, 85, 180, 0, 130, 172, 42, 180, 0, 192, 172, 42]
abbrev dktX0_count_2 : List UInt8 := dkwX0_count_2 ++ dktX0_count_3
def dkwX0_count_1 : List UInt8 := [170, 0, 0, 0, 0, 0, 78, 0, 0, 0, 0, 0, 0, 0, 6, 0, 0, 0, 43, 0, 0, 0, 51, 0, 0, 0, 72, 0, 0, 0, 59, 0, 0, 0, 64, 0, 0, 0, 72, 0, 0, 0, 72]
abbrev dktX0_count_1 : List UInt8 := dkwX0_count_1 ++ dktX0_count_2
def dkwX0_count_0 : List UInt8 := [27]
abbrev dktX0_count_0 : List UInt8 := dkwX0_count_0 ++ dktX0_count_1
theorem dksX0_count_0 : cX0_count.data.toList.drop 0 = dktX0_count_0 := by decide +kernel
theorem dksX0_count_1 : cX0_count.data.toList.drop 1 = dktX0_count_1 := dk_seg dksX0_count_0 1 rfl rfl
theorem dksX0_count_2 : cX0_count.data.toList.drop 44 = dktX0_count_2 := dk_seg dksX0_count_1 43 rfl rfl
theorem dksX0_count_3 : cX0_count.data.toList.drop 66 = dktX0_count_3 := dk_seg dksX0_count_2 22 rfl rfl
theorem dksX0_count_4 : cX0_count.data.toList.drop 90 = dktX0_count_4 := dk_seg dksX0_count_3 24 rfl rfl
theorem dX0_count_0 : decode cX0_count 0 = .ok (.iload_n 1, 1) := dk_27 (dk_at dksX0_count_0 0 rfl rfl)
theorem dX0_count_1 : decode cX0_count 1 = .ok (.tableswitch 78 0 6 #[43, 51, 72, 59, 64, 72, 72], 43) := by decide +kernel
theorem dX0_count_44 : decode cX0_count 44 = .ok (.aload_n 0, 1) := dk_42 (dk_at dksX0_count_2 0 rfl rfl)
theorem dX0_count_45 : decode cX0_count 45 = .ok (.getfield 85, 3) := dk_180 0 85 (dk_at dksX0_count_2 1 rfl rfl)
theorem dX0_count_48 : decode cX0_count 48 = .ok (.getfield 127, 3) := dk_180 0 127 (dk_at dksX0_count_2 4 rfl rfl)
theorem dX0_count_51 : decode cX0_count 51 = .ok (.ireturn, 1) := dk_172 (dk_at dksX0_count_2 7 rfl rfl)
theorem dX0_count_52 : decode cX0_count 52 = .ok (.aload_n 0, 1) := dk_42 (dk_at dksX0_count_2 8 rfl rfl)
theorem dX0_count_53 : decode cX0_count 53 = .ok (.getfield 85, 3) := dk_180 0 85 (dk_at dksX0_count_2 9 rfl rfl)
theorem dX0_count_56 : decode cX0_count 56 = .ok (.getfield 130, 3) := dk_180 0 130 (dk_at dksX0_count_2 12 rfl rfl)
theorem dX0_count_59 : decode cX0_count 59 = .ok (.ireturn, 1) := dk_172 (dk_at dksX0_count_2 15 rfl rfl)
theorem dX0_count_60 : decode cX0_count 60 = .ok (.aload_n 0, 1) := dk_42 (dk_at dksX0_count_2 16 rfl rfl)
theorem dX0_count_61 : decode cX0_count 61 = .ok (.getfield 192, 3) := dk_180 0 192 (dk_at dksX0_count_2 17 rfl rfl)
theorem dX0_count_64 : decode cX0_count 64 = .ok (.ireturn, 1) := dk_172 (dk_at dksX0_count_2 20 rfl rfl)
theorem dX0_count_65 : decode cX0_count 65 = .ok (.aload_n 0, 1) := dk_42 (dk_at dksX0_count_2 21 rfl rfl)
theorem dX0_count_66 : decode cX0_count 66 = .ok (.getfield 85, 3) := dk_180 0 85 (dk_at dksX0_count_3 0 rfl rfl)
theorem dX0_count_69 : decode cX0_count 69 = .ok (.getfield 237, 3) := dk_180 0 237 (dk_at dksX0_count_3 3 rfl rfl)
theorem dX0_count_72 : decode cX0_count 72 = .ok (.ireturn, 1) := dk_172 (dk_at dksX0_count_3 6 rfl rfl)
theorem dX0_count_73 : decode cX0_count 73 = .ok (.aload_n 0, 1) := dk_42 (dk_at dksX0_count_3 7 rfl rfl)
theorem dX0_count_74 : decode cX0_count 74 = .ok (.iload_n 1, 1) := dk_27 (dk_at dksX0_count_3 8 rfl rfl)
theorem dX0_count_75 : decode cX0_count 75 = .ok (.invokevirtual 347, 3) := dk_182 1 91 (dk_at dksX0_count_3 9 rfl rfl)
theorem dX0_count_78 : decode cX0_count 78 = .ok (.ireturn, 1) := dk_172 (dk_at dksX0_count_3 12 rfl rfl)
theorem dX0_count_79 : decode cX0_count 79 = .ok (.new 1, 3) := dk_187 0 1 (dk_at dksX0_count_3 13 rfl rfl)
theorem dX0_count_82 : decode cX0_count 82 = .ok (.dup, 1) := dk_89 (dk_at dksX0_count_3 16 rfl rfl)
theorem dX0_count_83 : decode cX0_count 83 = .ok (.iconst 0, 1) := dk_3 (dk_at dksX0_count_3 17 rfl rfl)
theorem dX0_count_84 : decode cX0_count 84 = .ok (.invokespecial 3, 3) := dk_183 0 3 (dk_at dksX0_count_3 18 rfl rfl)
theorem dX0_count_87 : decode cX0_count 87 = .ok (.athrow, 1) := dk_191 (dk_at dksX0_count_3 21 rfl rfl)
theorem dX0_count_88 : decode cX0_count 88 = .ok (.astore_n 2, 1) := dk_77 (dk_at dksX0_count_3 22 rfl rfl)
theorem dX0_count_89 : decode cX0_count 89 = .ok (.aload_n 0, 1) := dk_42 (dk_at dksX0_count_3 23 rfl rfl)
theorem dX0_count_90 : decode cX0_count 90 = .ok (.aload_n 2, 1) := dk_44 (dk_at dksX0_count_4 0 rfl rfl)
theorem dX0_count_91 : decode cX0_count 91 = .ok (.invokevirtual 136, 3) := dk_182 0 136 (dk_at dksX0_count_4 1 rfl rfl)
theorem dX0_count_94 : decode cX0_count 94 = .ok (.ireturn, 1) := dk_172 (dk_at dksX0_count_4 4 rfl rfl)
abbrev cX0_sum : ByteArray := prog_1_method_65_code
def yX0_sum : MethodName := ⟨RX0, "sum", "(I)I"⟩
def dkwX0_sum_3 : List UInt8 := [167, 255, 190, 28, 172]
abbrev dktX0_sum_3 : List UInt8 := dkwX0_sum_3 ++ []
def dkwX0_sum_2 : List UInt8 := [3, 167, 0, 17, 27, 5, 160, 0, 7, 4, 167, 0, 8, 25, 4, 180, 0, 68, 96, 61, 132, 3, 1]
abbrev dktX0_sum_2 : List UInt8 := dkwX0_sum_2 ++ dktX0_sum_3
def dkwX0_sum_1 : List UInt8 := [58, 4, 28, 27, 8, 160, 0, 11, 25, 4, 180, 0, 59, 167, 0, 29, 25, 4, 180, 0, 75, 153, 0, 7]
abbrev dktX0_sum_1 : List UInt8 := dkwX0_sum_1 ++ dktX0_sum_2
def dkwX0_sum_0 : List UInt8 := [3, 61, 3, 62, 29, 42, 180, 0, 85, 180, 0, 130, 162, 0, 61, 42, 180, 0, 85, 29, 182, 0, 172]
abbrev dktX0_sum_0 : List UInt8 := dkwX0_sum_0 ++ dktX0_sum_1
theorem dksX0_sum_0 : cX0_sum.data.toList.drop 0 = dktX0_sum_0 := by decide +kernel
theorem dksX0_sum_1 : cX0_sum.data.toList.drop 23 = dktX0_sum_1 := dk_seg dksX0_sum_0 23 rfl rfl
theorem dksX0_sum_2 : cX0_sum.data.toList.drop 47 = dktX0_sum_2 := dk_seg dksX0_sum_1 24 rfl rfl
theorem dksX0_sum_3 : cX0_sum.data.toList.drop 70 = dktX0_sum_3 := dk_seg dksX0_sum_2 23 rfl rfl
theorem dX0_sum_0 : decode cX0_sum 0 = .ok (.iconst 0, 1) := dk_3 (dk_at dksX0_sum_0 0 rfl rfl)
theorem dX0_sum_1 : decode cX0_sum 1 = .ok (.istore_n 2, 1) := dk_61 (dk_at dksX0_sum_0 1 rfl rfl)
theorem dX0_sum_2 : decode cX0_sum 2 = .ok (.iconst 0, 1) := dk_3 (dk_at dksX0_sum_0 2 rfl rfl)
theorem dX0_sum_3 : decode cX0_sum 3 = .ok (.istore_n 3, 1) := dk_62 (dk_at dksX0_sum_0 3 rfl rfl)
theorem dX0_sum_4 : decode cX0_sum 4 = .ok (.iload_n 3, 1) := dk_29 (dk_at dksX0_sum_0 4 rfl rfl)
theorem dX0_sum_5 : decode cX0_sum 5 = .ok (.aload_n 0, 1) := dk_42 (dk_at dksX0_sum_0 5 rfl rfl)
theorem dX0_sum_6 : decode cX0_sum 6 = .ok (.getfield 85, 3) := dk_180 0 85 (dk_at dksX0_sum_0 6 rfl rfl)
theorem dX0_sum_9 : decode cX0_sum 9 = .ok (.getfield 130, 3) := dk_180 0 130 (dk_at dksX0_sum_0 9 rfl rfl)
theorem dX0_sum_12 : decode cX0_sum 12 = .ok (.if_icmp .ge 61, 3) := dk_162 0 61 (dk_at dksX0_sum_0 12 rfl rfl)
theorem dX0_sum_15 : decode cX0_sum 15 = .ok (.aload_n 0, 1) := dk_42 (dk_at dksX0_sum_0 15 rfl rfl)
theorem dX0_sum_16 : decode cX0_sum 16 = .ok (.getfield 85, 3) := dk_180 0 85 (dk_at dksX0_sum_0 16 rfl rfl)
theorem dX0_sum_19 : decode cX0_sum 19 = .ok (.iload_n 3, 1) := dk_29 (dk_at dksX0_sum_0 19 rfl rfl)
theorem dX0_sum_20 : decode cX0_sum 20 = .ok (.invokevirtual 172, 3) := dk_182 0 172 (dk_at dksX0_sum_0 20 rfl rfl)
theorem dX0_sum_23 : decode cX0_sum 23 = .ok (.astore 4, 2) := dk_58 4 (dk_at dksX0_sum_1 0 rfl rfl)
theorem dX0_sum_25 : decode cX0_sum 25 = .ok (.iload_n 2, 1) := dk_28 (dk_at dksX0_sum_1 2 rfl rfl)
theorem dX0_sum_26 : decode cX0_sum 26 = .ok (.iload_n 1, 1) := dk_27 (dk_at dksX0_sum_1 3 rfl rfl)
theorem dX0_sum_27 : decode cX0_sum 27 = .ok (.iconst 5, 1) := dk_8 (dk_at dksX0_sum_1 4 rfl rfl)
theorem dX0_sum_28 : decode cX0_sum 28 = .ok (.if_icmp .ne 11, 3) := dk_160 0 11 (dk_at dksX0_sum_1 5 rfl rfl)
theorem dX0_sum_31 : decode cX0_sum 31 = .ok (.aload 4, 2) := dk_25 4 (dk_at dksX0_sum_1 8 rfl rfl)
theorem dX0_sum_33 : decode cX0_sum 33 = .ok (.getfield 59, 3) := dk_180 0 59 (dk_at dksX0_sum_1 10 rfl rfl)
theorem dX0_sum_36 : decode cX0_sum 36 = .ok (.goto 29, 3) := dk_167 0 29 (dk_at dksX0_sum_1 13 rfl rfl)
theorem dX0_sum_39 : decode cX0_sum 39 = .ok (.aload 4, 2) := dk_25 4 (dk_at dksX0_sum_1 16 rfl rfl)
theorem dX0_sum_41 : decode cX0_sum 41 = .ok (.getfield 75, 3) := dk_180 0 75 (dk_at dksX0_sum_1 18 rfl rfl)
theorem dX0_sum_44 : decode cX0_sum 44 = .ok (.ifCond .eq 7, 3) := dk_153 0 7 (dk_at dksX0_sum_1 21 rfl rfl)
theorem dX0_sum_47 : decode cX0_sum 47 = .ok (.iconst 0, 1) := dk_3 (dk_at dksX0_sum_2 0 rfl rfl)
theorem dX0_sum_48 : decode cX0_sum 48 = .ok (.goto 17, 3) := dk_167 0 17 (dk_at dksX0_sum_2 1 rfl rfl)
theorem dX0_sum_51 : decode cX0_sum 51 = .ok (.iload_n 1, 1) := dk_27 (dk_at dksX0_sum_2 4 rfl rfl)
theorem dX0_sum_52 : decode cX0_sum 52 = .ok (.iconst 2, 1) := dk_5 (dk_at dksX0_sum_2 5 rfl rfl)
theorem dX0_sum_53 : decode cX0_sum 53 = .ok (.if_icmp .ne 7, 3) := dk_160 0 7 (dk_at dksX0_sum_2 6 rfl rfl)
theorem dX0_sum_56 : decode cX0_sum 56 = .ok (.iconst 1, 1) := dk_4 (dk_at dksX0_sum_2 9 rfl rfl)
theorem dX0_sum_57 : decode cX0_sum 57 = .ok (.goto 8, 3) := dk_167 0 8 (dk_at dksX0_sum_2 10 rfl rfl)
theorem dX0_sum_60 : decode cX0_sum 60 = .ok (.aload 4, 2) := dk_25 4 (dk_at dksX0_sum_2 13 rfl rfl)
theorem dX0_sum_62 : decode cX0_sum 62 = .ok (.getfield 68, 3) := dk_180 0 68 (dk_at dksX0_sum_2 15 rfl rfl)
theorem dX0_sum_65 : decode cX0_sum 65 = .ok (.iadd, 1) := dk_96 (dk_at dksX0_sum_2 18 rfl rfl)
theorem dX0_sum_66 : decode cX0_sum 66 = .ok (.istore_n 2, 1) := dk_61 (dk_at dksX0_sum_2 19 rfl rfl)
theorem dX0_sum_67 : decode cX0_sum 67 = .ok (.iinc 3 1, 3) := dk_132 3 1 (dk_at dksX0_sum_2 20 rfl rfl)
theorem dX0_sum_70 : decode cX0_sum 70 = .ok (.goto (-66), 3) := dk_167 255 190 (dk_at dksX0_sum_3 0 rfl rfl)
theorem dX0_sum_73 : decode cX0_sum 73 = .ok (.iload_n 2, 1) := dk_28 (dk_at dksX0_sum_3 3 rfl rfl)
theorem dX0_sum_74 : decode cX0_sum 74 = .ok (.ireturn, 1) := dk_172 (dk_at dksX0_sum_3 4 rfl rfl)
abbrev cX0_status : ByteArray := prog_1_method_67_code
def yX0_status : MethodName := ⟨RX0, "status", "(I)I"⟩
def dkwX0_status_2 : List UInt8 := [167, 255, 238, 28, 172, 77, 42, 44, 182, 0, 136, 172]
abbrev dktX0_status_2 : List UInt8 := dkwX0_status_2 ++ []
def dkwX0_status_1 : List UInt8 := [46, 172, 3, 61, 3, 62, 29, 16, 7, 162, 0, 18, 28, 42, 180, 0, 107, 29, 46, 96, 61, 132, 3, 1]
abbrev dktX0_status_1 : List UInt8 := dkwX0_status_1 ++ dktX0_status_2
def dkwX0_status_0 : List UInt8 := [27, 133, 20, 1, 94, 20, 1, 96, 184, 0, 14, 3, 184, 0, 123, 27, 155, 0, 10, 42, 180, 0, 107, 27]
abbrev dktX0_status_0 : List UInt8 := dkwX0_status_0 ++ dktX0_status_1
theorem dksX0_status_0 : cX0_status.data.toList.drop 0 = dktX0_status_0 := by decide +kernel
theorem dksX0_status_1 : cX0_status.data.toList.drop 24 = dktX0_status_1 := dk_seg dksX0_status_0 24 rfl rfl
theorem dksX0_status_2 : cX0_status.data.toList.drop 48 = dktX0_status_2 := dk_seg dksX0_status_1 24 rfl rfl
theorem dX0_status_0 : decode cX0_status 0 = .ok (.iload_n 1, 1) := dk_27 (dk_at dksX0_status_0 0 rfl rfl)
theorem dX0_status_1 : decode cX0_status 1 = .ok (.i2l, 1) := dk_133 (dk_at dksX0_status_0 1 rfl rfl)
theorem dX0_status_2 : decode cX0_status 2 = .ok (.ldc2_w 350, 3) := dk_20 1 94 (dk_at dksX0_status_0 2 rfl rfl)
theorem dX0_status_5 : decode cX0_status 5 = .ok (.ldc2_w 352, 3) := dk_20 1 96 (dk_at dksX0_status_0 5 rfl rfl)
theorem dX0_status_8 : decode cX0_status 8 = .ok (.invokestatic 14, 3) := dk_184 0 14 (dk_at dksX0_status_0 8 rfl rfl)
theorem dX0_status_11 : decode cX0_status 11 = .ok (.iconst 0, 1) := dk_3 (dk_at dksX0_status_0 11 rfl rfl)
theorem dX0_status_12 : decode cX0_status 12 = .ok (.invokestatic 123, 3) := dk_184 0 123 (dk_at dksX0_status_0 12 rfl rfl)
theorem dX0_status_15 : decode cX0_status 15 = .ok (.iload_n 1, 1) := dk_27 (dk_at dksX0_status_0 15 rfl rfl)
theorem dX0_status_16 : decode cX0_status 16 = .ok (.ifCond .lt 10, 3) := dk_155 0 10 (dk_at dksX0_status_0 16 rfl rfl)
theorem dX0_status_19 : decode cX0_status 19 = .ok (.aload_n 0, 1) := dk_42 (dk_at dksX0_status_0 19 rfl rfl)
theorem dX0_status_20 : decode cX0_status 20 = .ok (.getfield 107, 3) := dk_180 0 107 (dk_at dksX0_status_0 20 rfl rfl)
theorem dX0_status_23 : decode cX0_status 23 = .ok (.iload_n 1, 1) := dk_27 (dk_at dksX0_status_0 23 rfl rfl)
theorem dX0_status_24 : decode cX0_status 24 = .ok (.iaload, 1) := dk_46 (dk_at dksX0_status_1 0 rfl rfl)
theorem dX0_status_25 : decode cX0_status 25 = .ok (.ireturn, 1) := dk_172 (dk_at dksX0_status_1 1 rfl rfl)
theorem dX0_status_26 : decode cX0_status 26 = .ok (.iconst 0, 1) := dk_3 (dk_at dksX0_status_1 2 rfl rfl)
theorem dX0_status_27 : decode cX0_status 27 = .ok (.istore_n 2, 1) := dk_61 (dk_at dksX0_status_1 3 rfl rfl)
theorem dX0_status_28 : decode cX0_status 28 = .ok (.iconst 0, 1) := dk_3 (dk_at dksX0_status_1 4 rfl rfl)
theorem dX0_status_29 : decode cX0_status 29 = .ok (.istore_n 3, 1) := dk_62 (dk_at dksX0_status_1 5 rfl rfl)
theorem dX0_status_30 : decode cX0_status 30 = .ok (.iload_n 3, 1) := dk_29 (dk_at dksX0_status_1 6 rfl rfl)
theorem dX0_status_31 : decode cX0_status 31 = .ok (.bipush 7, 2) := dk_16 7 (dk_at dksX0_status_1 7 rfl rfl)
theorem dX0_status_33 : decode cX0_status 33 = .ok (.if_icmp .ge 18, 3) := dk_162 0 18 (dk_at dksX0_status_1 9 rfl rfl)
theorem dX0_status_36 : decode cX0_status 36 = .ok (.iload_n 2, 1) := dk_28 (dk_at dksX0_status_1 12 rfl rfl)
theorem dX0_status_37 : decode cX0_status 37 = .ok (.aload_n 0, 1) := dk_42 (dk_at dksX0_status_1 13 rfl rfl)
theorem dX0_status_38 : decode cX0_status 38 = .ok (.getfield 107, 3) := dk_180 0 107 (dk_at dksX0_status_1 14 rfl rfl)
theorem dX0_status_41 : decode cX0_status 41 = .ok (.iload_n 3, 1) := dk_29 (dk_at dksX0_status_1 17 rfl rfl)
theorem dX0_status_42 : decode cX0_status 42 = .ok (.iaload, 1) := dk_46 (dk_at dksX0_status_1 18 rfl rfl)
theorem dX0_status_43 : decode cX0_status 43 = .ok (.iadd, 1) := dk_96 (dk_at dksX0_status_1 19 rfl rfl)
theorem dX0_status_44 : decode cX0_status 44 = .ok (.istore_n 2, 1) := dk_61 (dk_at dksX0_status_1 20 rfl rfl)
theorem dX0_status_45 : decode cX0_status 45 = .ok (.iinc 3 1, 3) := dk_132 3 1 (dk_at dksX0_status_1 21 rfl rfl)
theorem dX0_status_48 : decode cX0_status 48 = .ok (.goto (-18), 3) := dk_167 255 238 (dk_at dksX0_status_2 0 rfl rfl)
theorem dX0_status_51 : decode cX0_status 51 = .ok (.iload_n 2, 1) := dk_28 (dk_at dksX0_status_2 3 rfl rfl)
theorem dX0_status_52 : decode cX0_status 52 = .ok (.ireturn, 1) := dk_172 (dk_at dksX0_status_2 4 rfl rfl)
theorem dX0_status_53 : decode cX0_status 53 = .ok (.astore_n 2, 1) := dk_77 (dk_at dksX0_status_2 5 rfl rfl)
theorem dX0_status_54 : decode cX0_status 54 = .ok (.aload_n 0, 1) := dk_42 (dk_at dksX0_status_2 6 rfl rfl)
theorem dX0_status_55 : decode cX0_status 55 = .ok (.aload_n 2, 1) := dk_44 (dk_at dksX0_status_2 7 rfl rfl)
theorem dX0_status_56 : decode cX0_status 56 = .ok (.invokevirtual 136, 3) := dk_182 0 136 (dk_at dksX0_status_2 8 rfl rfl)
theorem dX0_status_59 : decode cX0_status 59 = .ok (.ireturn, 1) := dk_172 (dk_at dksX0_status_2 11 rfl rfl)
theorem q67 : (Jvm.Cond.initialized "SmokeLeans") ∈ lw_all := lw_g (lw_at lw_m1 1 rfl) rfl
theorem q90 : (Jvm.Cond.instantiable "SmokeLeans" (13 : Nat)) ∈ lw_all := lw_g (lw_at lw_m1 24 rfl) rfl
theorem q92 : (Jvm.Cond.instanceMethod ({ cls := "SmokeLeans", name := "<init>", desc := "()V" } : Jvm.MethodName)) ∈ lw_all := lw_g (lw_at lw_m1 26 rfl) rfl
theorem q93 : (Jvm.Cond.code ({ cls := "SmokeLeans", name := "<init>", desc := "()V" } : Jvm.MethodName) prog_1_method_8_code (1 : Nat) (Option.none : Option Jvm.ClassFile.FieldType)) ∈ lw_all := lw_g (lw_at lw_m1 27 rfl) rfl
theorem q94 : (Jvm.Cond.methodLink "SmokeLeans" (79 : Nat) ({ cls := "java/lang/Object", name := "<init>", desc := "()V" } : Jvm.MethodName)) ∈ lw_all := lw_g (lw_at lw_m1 28 rfl) rfl
theorem q97 : (Jvm.Cond.classLink "SmokeLeans" (82 : Nat) "SmokeLeans$House") ∈ lw_all := lw_g (lw_at lw_m1 31 rfl) rfl
theorem q99 : (Jvm.Cond.methodLinkNest "SmokeLeans" (84 : Nat) ({ cls := "SmokeLeans$House", name := "<init>", desc := "()V" } : Jvm.MethodName) "SmokeLeans") ∈ lw_tbl := lw_at lw_m1 33 rfl
theorem q104 : (Jvm.Cond.static ({ cls := "SmokeLeans", name := "slots", desc := "(I)[LSmokeLeans$Slot;" } : Jvm.MethodName)) ∈ lw_all := lw_g (lw_at lw_m1 38 rfl) rfl
theorem q105 : (Jvm.Cond.code ({ cls := "SmokeLeans", name := "slots", desc := "(I)[LSmokeLeans$Slot;" } : Jvm.MethodName) prog_1_method_4_code (3 : Nat) (Option.some (Jvm.ClassFile.FieldType.array (Jvm.ClassFile.FieldType.object "SmokeLeans$Slot")))) ∈ lw_all := lw_g (lw_at lw_m1 39 rfl) rfl
theorem q106 : (Jvm.Cond.classLink "SmokeLeans" (7 : Nat) "SmokeLeans$Slot") ∈ lw_all := lw_g (lw_at lw_m1 40 rfl) rfl
theorem q109 : (Jvm.Cond.methodLinkNest "SmokeLeans" (9 : Nat) ({ cls := "SmokeLeans$Slot", name := "<init>", desc := "()V" } : Jvm.MethodName) "SmokeLeans") ∈ lw_tbl := lw_at lw_m1 43 rfl
theorem q115 : (Jvm.Cond.fieldLink "SmokeLeans" (152 : Nat) "SmokeLeans$Slot" "held" "Ljava/lang/Object;") ∈ lw_all := lw_g (lw_at lw_m1 49 rfl) rfl
theorem q121 : (Jvm.Cond.fieldLink "SmokeLeans" (127 : Nat) "SmokeLeans$House" "rooms" "I") ∈ lw_all := lw_g (lw_at lw_m1 55 rfl) rfl
theorem q124 : (Jvm.Cond.fieldLink "SmokeLeans" (130 : Nat) "SmokeLeans$House" "gaps" "I") ∈ lw_all := lw_g (lw_at lw_m1 58 rfl) rfl
theorem q127 : (Jvm.Cond.fieldLink "SmokeLeans" (149 : Nat) "SmokeLeans$House" "gap" "[LSmokeLeans$Slot;") ∈ lw_all := lw_g (lw_at lw_m1 61 rfl) rfl
theorem q130 : (Jvm.Cond.fieldLink "SmokeLeans" (160 : Nat) "SmokeLeans$House" "night" "[I") ∈ lw_all := lw_g (lw_at lw_m1 64 rfl) rfl
theorem q132 : (Jvm.Cond.fieldLink "SmokeLeans" (237 : Nat) "SmokeLeans$House" "z" "I") ∈ lw_all := lw_g (lw_at lw_m1 66 rfl) rfl
theorem q160 : (Jvm.Cond.methodLink "SmokeLeans" (99 : Nat) ({ cls := "SmokeLeans", name := "slots", desc := "(I)[LSmokeLeans$Slot;" } : Jvm.MethodName)) ∈ lw_all := lw_g (lw_at lw_m1 94 rfl) rfl
theorem q161 : (Jvm.Cond.fieldLink "SmokeLeans" (85 : Nat) "SmokeLeans" "house" "LSmokeLeans$House;") ∈ lw_all := lw_g (lw_at lw_m1 95 rfl) rfl
theorem q162 : (Jvm.Cond.fieldLink "SmokeLeans" (89 : Nat) "SmokeLeans" "kept" "LSmokeLeans$House;") ∈ lw_all := lw_g (lw_at lw_m1 96 rfl) rfl
theorem q163 : (Jvm.Cond.fieldLink "SmokeLeans" (92 : Nat) "SmokeLeans" "trial" "LSmokeLeans$House;") ∈ lw_all := lw_g (lw_at lw_m1 97 rfl) rfl
theorem q164 : (Jvm.Cond.fieldLink "SmokeLeans" (344 : Nat) "SmokeLeans" "isKept" "Z") ∈ lw_all := lw_g (lw_at lw_m1 98 rfl) rfl
theorem q165 : (Jvm.Cond.fieldLink "SmokeLeans" (95 : Nat) "SmokeLeans" "tape" "[B") ∈ lw_all := lw_g (lw_at lw_m1 99 rfl) rfl
theorem q166 : (Jvm.Cond.fieldLink "SmokeLeans" (192 : Nat) "SmokeLeans" "taped" "I") ∈ lw_all := lw_g (lw_at lw_m1 100 rfl) rfl
theorem q167 : (Jvm.Cond.fieldLink "SmokeLeans" (103 : Nat) "SmokeLeans" "sheets" "[LSmokeLeans$Slot;") ∈ lw_all := lw_g (lw_at lw_m1 101 rfl) rfl
theorem q168 : (Jvm.Cond.fieldLink "SmokeLeans" (107 : Nat) "SmokeLeans" "found" "[I") ∈ lw_all := lw_g (lw_at lw_m1 102 rfl) rfl
theorem q169 : (Jvm.Cond.fieldLink "SmokeLeans" (282 : Nat) "SmokeLeans" "bestSet" "I") ∈ lw_all := lw_g (lw_at lw_m1 103 rfl) rfl
theorem q170 : (Jvm.Cond.fieldLink "SmokeLeans" (292 : Nat) "SmokeLeans" "bestLost" "I") ∈ lw_all := lw_g (lw_at lw_m1 104 rfl) rfl
theorem q171 : (Jvm.Cond.fieldLink "SmokeLeans" (111 : Nat) "SmokeLeans" "inOrder" "[I") ∈ lw_all := lw_g (lw_at lw_m1 105 rfl) rfl
theorem q172 : (Jvm.Cond.fieldLink "SmokeLeans" (309 : Nat) "SmokeLeans" "lostThen" "I") ∈ lw_all := lw_g (lw_at lw_m1 106 rfl) rfl
theorem q173 : (Jvm.Cond.fieldLink "SmokeLeans" (114 : Nat) "SmokeLeans" "leans" "[I") ∈ lw_all := lw_g (lw_at lw_m1 107 rfl) rfl
theorem q174 : (Jvm.Cond.laysFinal "SmokeLeans" "SmokeLeans" "house" "LSmokeLeans$House;") ∈ lw_all := lw_g (lw_at lw_m1 108 rfl) rfl
theorem q175 : (Jvm.Cond.soleField "SmokeLeans" "house") ∈ lw_all := lw_g (lw_at lw_m1 109 rfl) rfl
theorem q176 : (Jvm.Cond.laysFinal "SmokeLeans" "SmokeLeans" "kept" "LSmokeLeans$House;") ∈ lw_all := lw_g (lw_at lw_m1 110 rfl) rfl
theorem q177 : (Jvm.Cond.soleField "SmokeLeans" "kept") ∈ lw_all := lw_g (lw_at lw_m1 111 rfl) rfl
theorem q178 : (Jvm.Cond.laysFinal "SmokeLeans" "SmokeLeans" "trial" "LSmokeLeans$House;") ∈ lw_all := lw_g (lw_at lw_m1 112 rfl) rfl
theorem q179 : (Jvm.Cond.soleField "SmokeLeans" "trial") ∈ lw_all := lw_g (lw_at lw_m1 113 rfl) rfl
theorem q180 : (Jvm.Cond.lays "SmokeLeans" "SmokeLeans" "isKept" "Z") ∈ lw_all := lw_g (lw_at lw_m1 114 rfl) rfl
theorem q181 : (Jvm.Cond.soleField "SmokeLeans" "isKept") ∈ lw_all := lw_g (lw_at lw_m1 115 rfl) rfl
theorem q182 : (Jvm.Cond.laysFinal "SmokeLeans" "SmokeLeans" "tape" "[B") ∈ lw_all := lw_g (lw_at lw_m1 116 rfl) rfl
theorem q183 : (Jvm.Cond.soleField "SmokeLeans" "tape") ∈ lw_all := lw_g (lw_at lw_m1 117 rfl) rfl
theorem q184 : (Jvm.Cond.lays "SmokeLeans" "SmokeLeans" "taped" "I") ∈ lw_all := lw_g (lw_at lw_m1 118 rfl) rfl
theorem q185 : (Jvm.Cond.soleField "SmokeLeans" "taped") ∈ lw_all := lw_g (lw_at lw_m1 119 rfl) rfl
theorem q186 : (Jvm.Cond.laysFinal "SmokeLeans" "SmokeLeans" "sheets" "[LSmokeLeans$Slot;") ∈ lw_all := lw_g (lw_at lw_m1 120 rfl) rfl
theorem q187 : (Jvm.Cond.soleField "SmokeLeans" "sheets") ∈ lw_all := lw_g (lw_at lw_m1 121 rfl) rfl
theorem q188 : (Jvm.Cond.laysFinal "SmokeLeans" "SmokeLeans" "found" "[I") ∈ lw_all := lw_g (lw_at lw_m1 122 rfl) rfl
theorem q189 : (Jvm.Cond.soleField "SmokeLeans" "found") ∈ lw_all := lw_g (lw_at lw_m1 123 rfl) rfl
theorem q190 : (Jvm.Cond.lays "SmokeLeans" "SmokeLeans" "bestSet" "I") ∈ lw_all := lw_g (lw_at lw_m1 124 rfl) rfl
theorem q191 : (Jvm.Cond.soleField "SmokeLeans" "bestSet") ∈ lw_all := lw_g (lw_at lw_m1 125 rfl) rfl
theorem q192 : (Jvm.Cond.lays "SmokeLeans" "SmokeLeans" "bestLost" "I") ∈ lw_all := lw_g (lw_at lw_m1 126 rfl) rfl
theorem q193 : (Jvm.Cond.soleField "SmokeLeans" "bestLost") ∈ lw_all := lw_g (lw_at lw_m1 127 rfl) rfl
theorem q194 : (Jvm.Cond.laysFinal "SmokeLeans" "SmokeLeans" "inOrder" "[I") ∈ lw_all := lw_g (lw_at lw_m1 128 rfl) rfl
theorem q195 : (Jvm.Cond.soleField "SmokeLeans" "inOrder") ∈ lw_all := lw_g (lw_at lw_m1 129 rfl) rfl
theorem q196 : (Jvm.Cond.lays "SmokeLeans" "SmokeLeans" "lostThen" "I") ∈ lw_all := lw_g (lw_at lw_m1 130 rfl) rfl
theorem q197 : (Jvm.Cond.soleField "SmokeLeans" "lostThen") ∈ lw_all := lw_g (lw_at lw_m1 131 rfl) rfl
theorem q198 : (Jvm.Cond.laysFinal "SmokeLeans" "SmokeLeans" "leans" "[I") ∈ lw_all := lw_g (lw_at lw_m1 132 rfl) rfl
theorem q199 : (Jvm.Cond.soleField "SmokeLeans" "leans") ∈ lw_all := lw_g (lw_at lw_m1 133 rfl) rfl
theorem q200 : (Jvm.Cond.superclass "SmokeLeans" "java/lang/Object") ∈ lw_all := lw_g (lw_at lw_m1 134 rfl) rfl
theorem q203 : (Jvm.Cond.instanceMethod ({ cls := "SmokeLeans", name := "room", desc := "()I" } : Jvm.MethodName)) ∈ lw_all := lw_g (lw_at lw_m1 137 rfl) rfl
theorem q204 : (Jvm.Cond.selects "SmokeLeans" ({ cls := "SmokeLeans", name := "room", desc := "()I" } : Jvm.MethodName) ({ cls := "SmokeLeans", name := "room", desc := "()I" } : Jvm.MethodName)) ∈ lw_all := lw_g (lw_at lw_m1 138 rfl) rfl
theorem q205 : (Jvm.Cond.codeWith ({ cls := "SmokeLeans", name := "room", desc := "()I" } : Jvm.MethodName) prog_1_method_14_code (2 : Nat) (Option.some Jvm.ClassFile.FieldType.int) [((0 : Nat), (50 : Nat), (51 : Nat), (1 : Nat))]) ∈ lw_all := lw_g (lw_at lw_m1 139 rfl) rfl
theorem q206 : (Jvm.Cond.classLink "SmokeLeans" (1 : Nat) "SmokeLeans$Finding") ∈ lw_all := lw_g (lw_at lw_m1 140 rfl) rfl
theorem q207 : (Jvm.Cond.methodLink "SmokeLeans" (123 : Nat) ({ cls := "SmokeLeans", name := "need", desc := "(ZI)V" } : Jvm.MethodName)) ∈ lw_all := lw_g (lw_at lw_m1 141 rfl) rfl
theorem q208 : (Jvm.Cond.static ({ cls := "SmokeLeans", name := "need", desc := "(ZI)V" } : Jvm.MethodName)) ∈ lw_all := lw_g (lw_at lw_m1 142 rfl) rfl
theorem q209 : (Jvm.Cond.code ({ cls := "SmokeLeans", name := "need", desc := "(ZI)V" } : Jvm.MethodName) prog_1_method_1_code (2 : Nat) (Option.none : Option Jvm.ClassFile.FieldType)) ∈ lw_all := lw_g (lw_at lw_m1 143 rfl) rfl
theorem q247 : (Jvm.Cond.methodLink "SmokeLeans" (3 : Nat) ({ cls := "SmokeLeans$Finding", name := "<init>", desc := "(I)V" } : Jvm.MethodName)) ∈ lw_all := lw_g (lw_at lw_m1 181 rfl) rfl
theorem q257 : (Jvm.Cond.fieldLink "SmokeLeans" (117 : Nat) "SmokeLeans$Finding" "which" "I") ∈ lw_all := lw_g (lw_at lw_m1 191 rfl) rfl
theorem q273 : (Jvm.Cond.methodLink "SmokeLeans" (133 : Nat) ({ cls := "SmokeLeans$House", name := "changes", desc := "()V" } : Jvm.MethodName)) ∈ lw_all := lw_g (lw_at lw_m1 207 rfl) rfl
theorem q277 : (Jvm.Cond.methodLink "SmokeLeans" (136 : Nat) ({ cls := "SmokeLeans", name := "finds", desc := "(LSmokeLeans$Finding;)I" } : Jvm.MethodName)) ∈ lw_all := lw_g (lw_at lw_m1 211 rfl) rfl
theorem q278 : (Jvm.Cond.privateMethod ({ cls := "SmokeLeans", name := "finds", desc := "(LSmokeLeans$Finding;)I" } : Jvm.MethodName)) ∈ lw_tbl := lw_at lw_m1 212 rfl
theorem q279 : (Jvm.Cond.instanceMethod ({ cls := "SmokeLeans", name := "finds", desc := "(LSmokeLeans$Finding;)I" } : Jvm.MethodName)) ∈ lw_all := lw_g (lw_at lw_m1 213 rfl) rfl
theorem q280 : (Jvm.Cond.code ({ cls := "SmokeLeans", name := "finds", desc := "(LSmokeLeans$Finding;)I" } : Jvm.MethodName) prog_1_method_9_code (2 : Nat) (Option.some Jvm.ClassFile.FieldType.int)) ∈ lw_all := lw_g (lw_at lw_m1 214 rfl) rfl
theorem q281 : (Jvm.Cond.methodLink "SmokeLeans" (120 : Nat) ({ cls := "SmokeLeans$Finding", name := "answer", desc := "()I" } : Jvm.MethodName)) ∈ lw_all := lw_g (lw_at lw_m1 215 rfl) rfl
theorem q287 : (Jvm.Cond.instanceMethod ({ cls := "SmokeLeans", name := "gap", desc := "(IIII)I" } : Jvm.MethodName)) ∈ lw_all := lw_g (lw_at lw_m1 221 rfl) rfl
theorem q288 : (Jvm.Cond.selects "SmokeLeans" ({ cls := "SmokeLeans", name := "gap", desc := "(IIII)I" } : Jvm.MethodName) ({ cls := "SmokeLeans", name := "gap", desc := "(IIII)I" } : Jvm.MethodName)) ∈ lw_all := lw_g (lw_at lw_m1 222 rfl) rfl
theorem q289 : (Jvm.Cond.codeWith ({ cls := "SmokeLeans", name := "gap", desc := "(IIII)I" } : Jvm.MethodName) prog_1_method_15_code (9 : Nat) (Option.some Jvm.ClassFile.FieldType.int) [((0 : Nat), (192 : Nat), (193 : Nat), (1 : Nat))]) ∈ lw_all := lw_g (lw_at lw_m1 223 rfl) rfl
theorem q290 : (Jvm.Cond.methodLink "SmokeLeans" (140 : Nat) ({ cls := "SmokeLeans", name := "isWide", desc := "(I)Z" } : Jvm.MethodName)) ∈ lw_all := lw_g (lw_at lw_m1 224 rfl) rfl
theorem q291 : (Jvm.Cond.static ({ cls := "SmokeLeans", name := "isWide", desc := "(I)Z" } : Jvm.MethodName)) ∈ lw_all := lw_g (lw_at lw_m1 225 rfl) rfl
theorem q292 : (Jvm.Cond.code ({ cls := "SmokeLeans", name := "isWide", desc := "(I)Z" } : Jvm.MethodName) prog_1_method_13_code (1 : Nat) (Option.some Jvm.ClassFile.FieldType.boolean)) ∈ lw_all := lw_g (lw_at lw_m1 226 rfl) rfl
theorem q293 : (Jvm.Cond.constantLong "SmokeLeans" (24 : Nat) (99 : Int64)) ∈ lw_all := lw_g (lw_at lw_m1 227 rfl) rfl
theorem q294 : (Jvm.Cond.methodLink "SmokeLeans" (14 : Nat) ({ cls := "SmokeLeans", name := "in", desc := "(JJJ)Z" } : Jvm.MethodName)) ∈ lw_all := lw_g (lw_at lw_m1 228 rfl) rfl
theorem q295 : (Jvm.Cond.static ({ cls := "SmokeLeans", name := "in", desc := "(JJJ)Z" } : Jvm.MethodName)) ∈ lw_all := lw_g (lw_at lw_m1 229 rfl) rfl
theorem q296 : (Jvm.Cond.code ({ cls := "SmokeLeans", name := "in", desc := "(JJJ)Z" } : Jvm.MethodName) prog_1_method_2_code (6 : Nat) (Option.some Jvm.ClassFile.FieldType.boolean)) ∈ lw_all := lw_g (lw_at lw_m1 230 rfl) rfl
theorem q297 : (Jvm.Cond.constantLong "SmokeLeans" (144 : Nat) (5 : Int64)) ∈ lw_all := lw_g (lw_at lw_m1 231 rfl) rfl
theorem q298 : (Jvm.Cond.methodLink "SmokeLeans" (146 : Nat) ({ cls := "SmokeLeans", name := "isRoom", desc := "(I)Z" } : Jvm.MethodName)) ∈ lw_all := lw_g (lw_at lw_m1 232 rfl) rfl
theorem q299 : (Jvm.Cond.privateMethod ({ cls := "SmokeLeans", name := "isRoom", desc := "(I)Z" } : Jvm.MethodName)) ∈ lw_tbl := lw_at lw_m1 233 rfl
theorem q300 : (Jvm.Cond.instanceMethod ({ cls := "SmokeLeans", name := "isRoom", desc := "(I)Z" } : Jvm.MethodName)) ∈ lw_all := lw_g (lw_at lw_m1 234 rfl) rfl
theorem q301 : (Jvm.Cond.code ({ cls := "SmokeLeans", name := "isRoom", desc := "(I)Z" } : Jvm.MethodName) prog_1_method_11_code (2 : Nat) (Option.some Jvm.ClassFile.FieldType.boolean)) ∈ lw_all := lw_g (lw_at lw_m1 235 rfl) rfl
theorem q302 : (Jvm.Cond.methodLink "SmokeLeans" (71 : Nat) ({ cls := "SmokeLeans", name := "gapOf", desc := "(IIIIIII)LSmokeLeans$Gap;" } : Jvm.MethodName)) ∈ lw_all := lw_g (lw_at lw_m1 236 rfl) rfl
theorem q303 : (Jvm.Cond.static ({ cls := "SmokeLeans", name := "gapOf", desc := "(IIIIIII)LSmokeLeans$Gap;" } : Jvm.MethodName)) ∈ lw_all := lw_g (lw_at lw_m1 237 rfl) rfl
theorem q304 : (Jvm.Cond.code ({ cls := "SmokeLeans", name := "gapOf", desc := "(IIIIIII)LSmokeLeans$Gap;" } : Jvm.MethodName) prog_1_method_6_code (7 : Nat) (Option.some (Jvm.ClassFile.FieldType.object "SmokeLeans$Gap"))) ∈ lw_all := lw_g (lw_at lw_m1 238 rfl) rfl
theorem q305 : (Jvm.Cond.classLink "SmokeLeans" (28 : Nat) "SmokeLeans$Gap") ∈ lw_all := lw_g (lw_at lw_m1 239 rfl) rfl
theorem q307 : (Jvm.Cond.methodLink "SmokeLeans" (30 : Nat) ({ cls := "SmokeLeans$Gap", name := "<init>", desc := "(IIIIII)V" } : Jvm.MethodName)) ∈ lw_all := lw_g (lw_at lw_m2 1 rfl) rfl
theorem q313 : (Jvm.Cond.fieldLink "SmokeLeans" (52 : Nat) "SmokeLeans$Gap" "room" "I") ∈ lw_all := lw_g (lw_at lw_m2 7 rfl) rfl
theorem q318 : (Jvm.Cond.fieldLink "SmokeLeans" (56 : Nat) "SmokeLeans$Gap" "to" "I") ∈ lw_all := lw_g (lw_at lw_m2 12 rfl) rfl
theorem q320 : (Jvm.Cond.fieldLink "SmokeLeans" (59 : Nat) "SmokeLeans$Gap" "width" "I") ∈ lw_all := lw_g (lw_at lw_m2 14 rfl) rfl
theorem q322 : (Jvm.Cond.fieldLink "SmokeLeans" (62 : Nat) "SmokeLeans$Gap" "height" "I") ∈ lw_all := lw_g (lw_at lw_m2 16 rfl) rfl
theorem q326 : (Jvm.Cond.fieldLink "SmokeLeans" (65 : Nat) "SmokeLeans$Gap" "side" "I") ∈ lw_all := lw_g (lw_at lw_m2 20 rfl) rfl
theorem q328 : (Jvm.Cond.fieldLink "SmokeLeans" (68 : Nat) "SmokeLeans$Gap" "cost" "I") ∈ lw_all := lw_g (lw_at lw_m2 22 rfl) rfl
theorem q332 : (Jvm.Cond.fieldLink "SmokeLeans" (75 : Nat) "SmokeLeans$Gap" "isShut" "Z") ∈ lw_all := lw_g (lw_at lw_m2 26 rfl) rfl
theorem q349 : (Jvm.Cond.classLink "SmokeLeans" (33 : Nat) "SmokeLeans$Hidden") ∈ lw_all := lw_g (lw_at lw_m2 43 rfl) rfl
theorem q351 : (Jvm.Cond.methodLink "SmokeLeans" (35 : Nat) ({ cls := "SmokeLeans$Hidden", name := "<init>", desc := "(IIIIII)V" } : Jvm.MethodName)) ∈ lw_all := lw_g (lw_at lw_m2 45 rfl) rfl
theorem q363 : (Jvm.Cond.classLink "SmokeLeans" (36 : Nat) "SmokeLeans$Needed") ∈ lw_all := lw_g (lw_at lw_m2 57 rfl) rfl
theorem q365 : (Jvm.Cond.methodLink "SmokeLeans" (38 : Nat) ({ cls := "SmokeLeans$Needed", name := "<init>", desc := "(IIIIII)V" } : Jvm.MethodName)) ∈ lw_all := lw_g (lw_at lw_m2 59 rfl) rfl
theorem q377 : (Jvm.Cond.classLink "SmokeLeans" (39 : Nat) "SmokeLeans$Known") ∈ lw_all := lw_g (lw_at lw_m2 71 rfl) rfl
theorem q379 : (Jvm.Cond.methodLink "SmokeLeans" (41 : Nat) ({ cls := "SmokeLeans$Known", name := "<init>", desc := "(IIIIII)V" } : Jvm.MethodName)) ∈ lw_all := lw_g (lw_at lw_m2 73 rfl) rfl
theorem q391 : (Jvm.Cond.classLink "SmokeLeans" (42 : Nat) "SmokeLeans$Turning") ∈ lw_all := lw_g (lw_at lw_m2 85 rfl) rfl
theorem q393 : (Jvm.Cond.methodLink "SmokeLeans" (44 : Nat) ({ cls := "SmokeLeans$Turning", name := "<init>", desc := "(IIIIII)V" } : Jvm.MethodName)) ∈ lw_all := lw_g (lw_at lw_m2 87 rfl) rfl
theorem q405 : (Jvm.Cond.classLink "SmokeLeans" (45 : Nat) "SmokeLeans$Chimney") ∈ lw_all := lw_g (lw_at lw_m2 99 rfl) rfl
theorem q407 : (Jvm.Cond.methodLink "SmokeLeans" (47 : Nat) ({ cls := "SmokeLeans$Chimney", name := "<init>", desc := "(IIIIII)V" } : Jvm.MethodName)) ∈ lw_all := lw_g (lw_at lw_m2 101 rfl) rfl
theorem q420 : (Jvm.Cond.instanceMethod ({ cls := "SmokeLeans", name := "of", desc := "(II)I" } : Jvm.MethodName)) ∈ lw_all := lw_g (lw_at lw_m2 114 rfl) rfl
theorem q421 : (Jvm.Cond.selects "SmokeLeans" ({ cls := "SmokeLeans", name := "of", desc := "(II)I" } : Jvm.MethodName) ({ cls := "SmokeLeans", name := "of", desc := "(II)I" } : Jvm.MethodName)) ∈ lw_all := lw_g (lw_at lw_m2 115 rfl) rfl
theorem q422 : (Jvm.Cond.codeWith ({ cls := "SmokeLeans", name := "of", desc := "(II)I" } : Jvm.MethodName) prog_1_method_17_code (4 : Nat) (Option.some Jvm.ClassFile.FieldType.int) [((0 : Nat), (76 : Nat), (105 : Nat), (1 : Nat)), ((77 : Nat), (81 : Nat), (105 : Nat), (1 : Nat)), ((82 : Nat), (86 : Nat), (105 : Nat), (1 : Nat)), ((87 : Nat), (91 : Nat), (105 : Nat), (1 : Nat)), ((92 : Nat), (96 : Nat), (105 : Nat), (1 : Nat)), ((97 : Nat), (104 : Nat), (105 : Nat), (1 : Nat))]) ∈ lw_all := lw_g (lw_at lw_m2 116 rfl) rfl
theorem q423 : (Jvm.Cond.methodLink "SmokeLeans" (167 : Nat) ({ cls := "SmokeLeans", name := "isGap", desc := "(I)Z" } : Jvm.MethodName)) ∈ lw_all := lw_g (lw_at lw_m2 117 rfl) rfl
theorem q424 : (Jvm.Cond.privateMethod ({ cls := "SmokeLeans", name := "isGap", desc := "(I)Z" } : Jvm.MethodName)) ∈ lw_tbl := lw_at lw_m2 118 rfl
theorem q425 : (Jvm.Cond.instanceMethod ({ cls := "SmokeLeans", name := "isGap", desc := "(I)Z" } : Jvm.MethodName)) ∈ lw_all := lw_g (lw_at lw_m2 119 rfl) rfl
theorem q426 : (Jvm.Cond.code ({ cls := "SmokeLeans", name := "isGap", desc := "(I)Z" } : Jvm.MethodName) prog_1_method_12_code (2 : Nat) (Option.some Jvm.ClassFile.FieldType.boolean)) ∈ lw_all := lw_g (lw_at lw_m2 120 rfl) rfl
theorem q427 : (Jvm.Cond.constantLong "SmokeLeans" (170 : Nat) (9 : Int64)) ∈ lw_all := lw_g (lw_at lw_m2 121 rfl) rfl
theorem q428 : (Jvm.Cond.methodLink "SmokeLeans" (172 : Nat) ({ cls := "SmokeLeans$House", name := "gap", desc := "(I)LSmokeLeans$Gap;" } : Jvm.MethodName)) ∈ lw_all := lw_g (lw_at lw_m2 122 rfl) rfl
theorem q433 : (Jvm.Cond.methodLink "SmokeLeans" (48 : Nat) ({ cls := "SmokeLeans$Gap", name := "kind", desc := "()I" } : Jvm.MethodName)) ∈ lw_all := lw_g (lw_at lw_m2 127 rfl) rfl
theorem q458 : (Jvm.Cond.methodLink "SmokeLeans" (175 : Nat) ({ cls := "SmokeLeans", name := "more", desc := "(LSmokeLeans$Gap;II)I" } : Jvm.MethodName)) ∈ lw_all := lw_g (lw_at lw_m2 152 rfl) rfl
theorem q459 : (Jvm.Cond.privateMethod ({ cls := "SmokeLeans", name := "more", desc := "(LSmokeLeans$Gap;II)I" } : Jvm.MethodName)) ∈ lw_tbl := lw_at lw_m2 153 rfl
theorem q460 : (Jvm.Cond.instanceMethod ({ cls := "SmokeLeans", name := "more", desc := "(LSmokeLeans$Gap;II)I" } : Jvm.MethodName)) ∈ lw_all := lw_g (lw_at lw_m2 154 rfl) rfl
theorem q461 : (Jvm.Cond.code ({ cls := "SmokeLeans", name := "more", desc := "(LSmokeLeans$Gap;II)I" } : Jvm.MethodName) prog_1_method_16_code (4 : Nat) (Option.some Jvm.ClassFile.FieldType.int)) ∈ lw_all := lw_g (lw_at lw_m2 155 rfl) rfl
theorem q462 : (Jvm.Cond.methodLink "SmokeLeans" (156 : Nat) ({ cls := "SmokeLeans$House", name := "breadth", desc := "(I)I" } : Jvm.MethodName)) ∈ lw_all := lw_g (lw_at lw_m2 156 rfl) rfl
theorem q485 : (Jvm.Cond.methodLink "SmokeLeans" (163 : Nat) ({ cls := "SmokeLeans$Gap", name := "push", desc := "([I)I" } : Jvm.MethodName)) ∈ lw_all := lw_g (lw_at lw_m2 179 rfl) rfl
theorem q511 : (Jvm.Cond.instanceMethod ({ cls := "SmokeLeans", name := "width", desc := "(II)I" } : Jvm.MethodName)) ∈ lw_all := lw_g (lw_at lw_m2 205 rfl) rfl
theorem q512 : (Jvm.Cond.selects "SmokeLeans" ({ cls := "SmokeLeans", name := "width", desc := "(II)I" } : Jvm.MethodName) ({ cls := "SmokeLeans", name := "width", desc := "(II)I" } : Jvm.MethodName)) ∈ lw_all := lw_g (lw_at lw_m2 206 rfl) rfl
theorem q513 : (Jvm.Cond.codeWith ({ cls := "SmokeLeans", name := "width", desc := "(II)I" } : Jvm.MethodName) prog_1_method_18_code (4 : Nat) (Option.some Jvm.ClassFile.FieldType.int) [((0 : Nat), (56 : Nat), (57 : Nat), (1 : Nat))]) ∈ lw_all := lw_g (lw_at lw_m2 207 rfl) rfl
theorem q515 : (Jvm.Cond.instanceMethod ({ cls := "SmokeLeans", name := "shut", desc := "(IZ)I" } : Jvm.MethodName)) ∈ lw_all := lw_g (lw_at lw_m2 209 rfl) rfl
theorem q516 : (Jvm.Cond.selects "SmokeLeans" ({ cls := "SmokeLeans", name := "shut", desc := "(IZ)I" } : Jvm.MethodName) ({ cls := "SmokeLeans", name := "shut", desc := "(IZ)I" } : Jvm.MethodName)) ∈ lw_all := lw_g (lw_at lw_m2 210 rfl) rfl
theorem q517 : (Jvm.Cond.codeWith ({ cls := "SmokeLeans", name := "shut", desc := "(IZ)I" } : Jvm.MethodName) prog_1_method_19_code (4 : Nat) (Option.some Jvm.ClassFile.FieldType.int) [((0 : Nat), (27 : Nat), (28 : Nat), (1 : Nat))]) ∈ lw_all := lw_g (lw_at lw_m2 211 rfl) rfl
theorem q518 : (Jvm.Cond.methodLink "SmokeLeans" (179 : Nat) ({ cls := "SmokeLeans$House", name := "shuts", desc := "(IZ)Z" } : Jvm.MethodName)) ∈ lw_all := lw_g (lw_at lw_m2 212 rfl) rfl
theorem q524 : (Jvm.Cond.instanceMethod ({ cls := "SmokeLeans", name := "as", desc := "(II)I" } : Jvm.MethodName)) ∈ lw_all := lw_g (lw_at lw_m2 218 rfl) rfl
theorem q525 : (Jvm.Cond.selects "SmokeLeans" ({ cls := "SmokeLeans", name := "as", desc := "(II)I" } : Jvm.MethodName) ({ cls := "SmokeLeans", name := "as", desc := "(II)I" } : Jvm.MethodName)) ∈ lw_all := lw_g (lw_at lw_m2 219 rfl) rfl
theorem q526 : (Jvm.Cond.codeWith ({ cls := "SmokeLeans", name := "as", desc := "(II)I" } : Jvm.MethodName) prog_1_method_20_code (4 : Nat) (Option.some Jvm.ClassFile.FieldType.int) [((0 : Nat), (53 : Nat), (54 : Nat), (1 : Nat))]) ∈ lw_all := lw_g (lw_at lw_m2 220 rfl) rfl
theorem q527 : (Jvm.Cond.methodLink "SmokeLeans" (183 : Nat) ({ cls := "SmokeLeans$Gap", name := "is", desc := "(I)Z" } : Jvm.MethodName)) ∈ lw_all := lw_g (lw_at lw_m2 221 rfl) rfl
theorem q542 : (Jvm.Cond.instanceMethod ({ cls := "SmokeLeans", name := "night", desc := "(II)I" } : Jvm.MethodName)) ∈ lw_all := lw_g (lw_at lw_m2 236 rfl) rfl
theorem q543 : (Jvm.Cond.selects "SmokeLeans" ({ cls := "SmokeLeans", name := "night", desc := "(II)I" } : Jvm.MethodName) ({ cls := "SmokeLeans", name := "night", desc := "(II)I" } : Jvm.MethodName)) ∈ lw_all := lw_g (lw_at lw_m2 237 rfl) rfl
theorem q544 : (Jvm.Cond.codeWith ({ cls := "SmokeLeans", name := "night", desc := "(II)I" } : Jvm.MethodName) prog_1_method_21_code (4 : Nat) (Option.some Jvm.ClassFile.FieldType.int) [((0 : Nat), (37 : Nat), (38 : Nat), (1 : Nat))]) ∈ lw_all := lw_g (lw_at lw_m2 238 rfl) rfl
theorem q545 : (Jvm.Cond.methodLink "SmokeLeans" (186 : Nat) ({ cls := "SmokeLeans", name := "isNight", desc := "(II)Z" } : Jvm.MethodName)) ∈ lw_all := lw_g (lw_at lw_m2 239 rfl) rfl
theorem q546 : (Jvm.Cond.static ({ cls := "SmokeLeans", name := "isNight", desc := "(II)Z" } : Jvm.MethodName)) ∈ lw_all := lw_g (lw_at lw_m3 0 rfl) rfl
theorem q547 : (Jvm.Cond.code ({ cls := "SmokeLeans", name := "isNight", desc := "(II)Z" } : Jvm.MethodName) prog_1_method_5_code (2 : Nat) (Option.some Jvm.ClassFile.FieldType.boolean)) ∈ lw_all := lw_g (lw_at lw_m3 1 rfl) rfl
theorem q548 : (Jvm.Cond.constantLong "SmokeLeans" (12 : Nat) (40 : Int64)) ∈ lw_all := lw_g (lw_at lw_m3 2 rfl) rfl
theorem q549 : (Jvm.Cond.constantLong "SmokeLeans" (20 : Nat) (3 : Int64)) ∈ lw_all := lw_g (lw_at lw_m3 3 rfl) rfl
theorem q550 : (Jvm.Cond.constantLong "SmokeLeans" (22 : Nat) (-99 : Int64)) ∈ lw_all := lw_g (lw_at lw_m3 4 rfl) rfl
theorem q551 : (Jvm.Cond.constantLong "SmokeLeans" (26 : Nat) (100 : Int64)) ∈ lw_all := lw_g (lw_at lw_m3 5 rfl) rfl
theorem q553 : (Jvm.Cond.instanceMethod ({ cls := "SmokeLeans", name := "feed", desc := "(II)I" } : Jvm.MethodName)) ∈ lw_all := lw_g (lw_at lw_m3 7 rfl) rfl
theorem q554 : (Jvm.Cond.selects "SmokeLeans" ({ cls := "SmokeLeans", name := "feed", desc := "(II)I" } : Jvm.MethodName) ({ cls := "SmokeLeans", name := "feed", desc := "(II)I" } : Jvm.MethodName)) ∈ lw_all := lw_g (lw_at lw_m3 8 rfl) rfl
theorem q555 : (Jvm.Cond.codeWith ({ cls := "SmokeLeans", name := "feed", desc := "(II)I" } : Jvm.MethodName) prog_1_method_22_code (4 : Nat) (Option.some Jvm.ClassFile.FieldType.int) [((0 : Nat), (77 : Nat), (78 : Nat), (1 : Nat))]) ∈ lw_all := lw_g (lw_at lw_m3 9 rfl) rfl
theorem q556 : (Jvm.Cond.constantLong "SmokeLeans" (190 : Nat) (4 : Int64)) ∈ lw_all := lw_g (lw_at lw_m3 10 rfl) rfl
theorem q558 : (Jvm.Cond.instanceMethod ({ cls := "SmokeLeans", name := "wipe", desc := "()I" } : Jvm.MethodName)) ∈ lw_all := lw_g (lw_at lw_m3 12 rfl) rfl
theorem q559 : (Jvm.Cond.selects "SmokeLeans" ({ cls := "SmokeLeans", name := "wipe", desc := "()I" } : Jvm.MethodName) ({ cls := "SmokeLeans", name := "wipe", desc := "()I" } : Jvm.MethodName)) ∈ lw_all := lw_g (lw_at lw_m3 13 rfl) rfl
theorem q560 : (Jvm.Cond.code ({ cls := "SmokeLeans", name := "wipe", desc := "()I" } : Jvm.MethodName) prog_1_method_23_code (2 : Nat) (Option.some Jvm.ClassFile.FieldType.int)) ∈ lw_all := lw_g (lw_at lw_m3 14 rfl) rfl
theorem q562 : (Jvm.Cond.instanceMethod ({ cls := "SmokeLeans", name := "house", desc := "()I" } : Jvm.MethodName)) ∈ lw_all := lw_g (lw_at lw_m3 16 rfl) rfl
theorem q563 : (Jvm.Cond.selects "SmokeLeans" ({ cls := "SmokeLeans", name := "house", desc := "()I" } : Jvm.MethodName) ({ cls := "SmokeLeans", name := "house", desc := "()I" } : Jvm.MethodName)) ∈ lw_all := lw_g (lw_at lw_m3 17 rfl) rfl
theorem q564 : (Jvm.Cond.codeWith ({ cls := "SmokeLeans", name := "house", desc := "()I" } : Jvm.MethodName) prog_1_method_24_code (4 : Nat) (Option.some Jvm.ClassFile.FieldType.int) [((11 : Nat), (47 : Nat), (54 : Nat), (207 : Nat)), ((11 : Nat), (47 : Nat), (69 : Nat), (0 : Nat)), ((54 : Nat), (62 : Nat), (69 : Nat), (0 : Nat))]) ∈ lw_all := lw_g (lw_at lw_m3 18 rfl) rfl
theorem q565 : (Jvm.Cond.classLink "SmokeLeans" (207 : Nat) "SmokeLeans$Fault") ∈ lw_all := lw_g (lw_at lw_m3 19 rfl) rfl
theorem q566 : (Jvm.Cond.methodLink "SmokeLeans" (195 : Nat) ({ cls := "SmokeLeans$House", name := "become", desc := "(LSmokeLeans$House;)V" } : Jvm.MethodName)) ∈ lw_all := lw_g (lw_at lw_m3 20 rfl) rfl
theorem q571 : (Jvm.Cond.static ({ cls := "SmokeLeans", name := "copyOf", desc := "(LSmokeLeans$Gap;)LSmokeLeans$Gap;" } : Jvm.MethodName)) ∈ lw_all := lw_g (lw_at lw_m3 25 rfl) rfl
theorem q572 : (Jvm.Cond.code ({ cls := "SmokeLeans", name := "copyOf", desc := "(LSmokeLeans$Gap;)LSmokeLeans$Gap;" } : Jvm.MethodName) prog_1_method_7_code (2 : Nat) (Option.some (Jvm.ClassFile.FieldType.object "SmokeLeans$Gap"))) ∈ lw_all := lw_g (lw_at lw_m3 26 rfl) rfl
theorem q576 : (Jvm.Cond.classLink "SmokeLeans" (199 : Nat) "SmokeLeans$Reader") ∈ lw_all := lw_g (lw_at lw_m3 30 rfl) rfl
theorem q578 : (Jvm.Cond.methodLink "SmokeLeans" (201 : Nat) ({ cls := "SmokeLeans$Reader", name := "<init>", desc := "([BILSmokeLeans$House;)V" } : Jvm.MethodName)) ∈ lw_all := lw_g (lw_at lw_m3 32 rfl) rfl
theorem q601 : (Jvm.Cond.methodLink "SmokeLeans" (204 : Nat) ({ cls := "SmokeLeans$Reader", name := "read", desc := "()I" } : Jvm.MethodName)) ∈ lw_all := lw_g (lw_at lw_m3 55 rfl) rfl
theorem q702 : (Jvm.Cond.fieldLink "SmokeLeans" (209 : Nat) "SmokeLeans$Fault" "place" "I") ∈ lw_all := lw_g (lw_at lw_m3 156 rfl) rfl
theorem q729 : (Jvm.Cond.instanceMethod ({ cls := "SmokeLeans", name := "pressure", desc := "(I)I" } : Jvm.MethodName)) ∈ lw_all := lw_g (lw_at lw_m3 183 rfl) rfl
theorem q730 : (Jvm.Cond.selects "SmokeLeans" ({ cls := "SmokeLeans", name := "pressure", desc := "(I)I" } : Jvm.MethodName) ({ cls := "SmokeLeans", name := "pressure", desc := "(I)I" } : Jvm.MethodName)) ∈ lw_all := lw_g (lw_at lw_m3 184 rfl) rfl
theorem q731 : (Jvm.Cond.codeWith ({ cls := "SmokeLeans", name := "pressure", desc := "(I)I" } : Jvm.MethodName) prog_1_method_25_code (3 : Nat) (Option.some Jvm.ClassFile.FieldType.int) [((0 : Nat), (17 : Nat), (18 : Nat), (1 : Nat))]) ∈ lw_all := lw_g (lw_at lw_m3 185 rfl) rfl
theorem q732 : (Jvm.Cond.methodLink "SmokeLeans" (212 : Nat) ({ cls := "SmokeLeans$House", name := "pressure", desc := "(I)I" } : Jvm.MethodName)) ∈ lw_all := lw_g (lw_at lw_m3 186 rfl) rfl
theorem q754 : (Jvm.Cond.instanceMethod ({ cls := "SmokeLeans", name := "flow", desc := "(I)I" } : Jvm.MethodName)) ∈ lw_all := lw_g (lw_at lw_m3 208 rfl) rfl
theorem q755 : (Jvm.Cond.selects "SmokeLeans" ({ cls := "SmokeLeans", name := "flow", desc := "(I)I" } : Jvm.MethodName) ({ cls := "SmokeLeans", name := "flow", desc := "(I)I" } : Jvm.MethodName)) ∈ lw_all := lw_g (lw_at lw_m3 209 rfl) rfl
theorem q756 : (Jvm.Cond.codeWith ({ cls := "SmokeLeans", name := "flow", desc := "(I)I" } : Jvm.MethodName) prog_1_method_26_code (3 : Nat) (Option.some Jvm.ClassFile.FieldType.int) [((0 : Nat), (17 : Nat), (18 : Nat), (1 : Nat))]) ∈ lw_all := lw_g (lw_at lw_m3 210 rfl) rfl
theorem q757 : (Jvm.Cond.methodLink "SmokeLeans" (215 : Nat) ({ cls := "SmokeLeans$House", name := "flow", desc := "(I)I" } : Jvm.MethodName)) ∈ lw_all := lw_g (lw_at lw_m3 211 rfl) rfl
theorem q762 : (Jvm.Cond.instanceMethod ({ cls := "SmokeLeans", name := "lean", desc := "(I)I" } : Jvm.MethodName)) ∈ lw_all := lw_g (lw_at lw_m3 216 rfl) rfl
theorem q763 : (Jvm.Cond.selects "SmokeLeans" ({ cls := "SmokeLeans", name := "lean", desc := "(I)I" } : Jvm.MethodName) ({ cls := "SmokeLeans", name := "lean", desc := "(I)I" } : Jvm.MethodName)) ∈ lw_all := lw_g (lw_at lw_m3 217 rfl) rfl
theorem q764 : (Jvm.Cond.codeWith ({ cls := "SmokeLeans", name := "lean", desc := "(I)I" } : Jvm.MethodName) prog_1_method_27_code (3 : Nat) (Option.some Jvm.ClassFile.FieldType.int) [((0 : Nat), (17 : Nat), (18 : Nat), (1 : Nat))]) ∈ lw_all := lw_g (lw_at lw_m3 218 rfl) rfl
theorem q765 : (Jvm.Cond.methodLink "SmokeLeans" (218 : Nat) ({ cls := "SmokeLeans$House", name := "lean", desc := "(I)I" } : Jvm.MethodName)) ∈ lw_all := lw_g (lw_at lw_m3 219 rfl) rfl
theorem q777 : (Jvm.Cond.instanceMethod ({ cls := "SmokeLeans", name := "rounds", desc := "()I" } : Jvm.MethodName)) ∈ lw_all := lw_g (lw_at lw_m3 231 rfl) rfl
theorem q778 : (Jvm.Cond.selects "SmokeLeans" ({ cls := "SmokeLeans", name := "rounds", desc := "()I" } : Jvm.MethodName) ({ cls := "SmokeLeans", name := "rounds", desc := "()I" } : Jvm.MethodName)) ∈ lw_all := lw_g (lw_at lw_m3 232 rfl) rfl
theorem q779 : (Jvm.Cond.code ({ cls := "SmokeLeans", name := "rounds", desc := "()I" } : Jvm.MethodName) prog_1_method_28_code (1 : Nat) (Option.some Jvm.ClassFile.FieldType.int)) ∈ lw_all := lw_g (lw_at lw_m3 233 rfl) rfl
theorem q780 : (Jvm.Cond.methodLink "SmokeLeans" (221 : Nat) ({ cls := "SmokeLeans$House", name := "rounds", desc := "()I" } : Jvm.MethodName)) ∈ lw_all := lw_g (lw_at lw_m3 234 rfl) rfl
theorem q785 : (Jvm.Cond.instanceMethod ({ cls := "SmokeLeans", name := "rest", desc := "(I)I" } : Jvm.MethodName)) ∈ lw_all := lw_g (lw_at lw_m3 239 rfl) rfl
theorem q786 : (Jvm.Cond.selects "SmokeLeans" ({ cls := "SmokeLeans", name := "rest", desc := "(I)I" } : Jvm.MethodName) ({ cls := "SmokeLeans", name := "rest", desc := "(I)I" } : Jvm.MethodName)) ∈ lw_all := lw_g (lw_at lw_m4 0 rfl) rfl
theorem q787 : (Jvm.Cond.codeWith ({ cls := "SmokeLeans", name := "rest", desc := "(I)I" } : Jvm.MethodName) prog_1_method_29_code (4 : Nat) (Option.some Jvm.ClassFile.FieldType.int) [((0 : Nat), (83 : Nat), (84 : Nat), (1 : Nat))]) ∈ lw_all := lw_g (lw_at lw_m4 1 rfl) rfl
theorem q789 : (Jvm.Cond.instanceMethod ({ cls := "SmokeLeans", name := "air", desc := "(I)I" } : Jvm.MethodName)) ∈ lw_all := lw_g (lw_at lw_m4 3 rfl) rfl
theorem q790 : (Jvm.Cond.selects "SmokeLeans" ({ cls := "SmokeLeans", name := "air", desc := "(I)I" } : Jvm.MethodName) ({ cls := "SmokeLeans", name := "air", desc := "(I)I" } : Jvm.MethodName)) ∈ lw_all := lw_g (lw_at lw_m4 4 rfl) rfl
theorem q791 : (Jvm.Cond.codeWith ({ cls := "SmokeLeans", name := "air", desc := "(I)I" } : Jvm.MethodName) prog_1_method_30_code (3 : Nat) (Option.some Jvm.ClassFile.FieldType.int) [((0 : Nat), (75 : Nat), (76 : Nat), (1 : Nat))]) ∈ lw_all := lw_g (lw_at lw_m4 5 rfl) rfl
theorem q792 : (Jvm.Cond.methodLink "SmokeLeans" (224 : Nat) ({ cls := "SmokeLeans$House", name := "fresh", desc := "()I" } : Jvm.MethodName)) ∈ lw_all := lw_g (lw_at lw_m4 6 rfl) rfl
theorem q799 : (Jvm.Cond.methodLink "SmokeLeans" (227 : Nat) ({ cls := "SmokeLeans$House", name := "lost", desc := "()I" } : Jvm.MethodName)) ∈ lw_all := lw_g (lw_at lw_m4 13 rfl) rfl
theorem q804 : (Jvm.Cond.methodLink "SmokeLeans" (230 : Nat) ({ cls := "SmokeLeans$House", name := "isSmoky", desc := "()Z" } : Jvm.MethodName)) ∈ lw_all := lw_g (lw_at lw_m4 18 rfl) rfl
theorem q809 : (Jvm.Cond.methodLink "SmokeLeans" (234 : Nat) ({ cls := "SmokeLeans$House", name := "isRestless", desc := "()Z" } : Jvm.MethodName)) ∈ lw_all := lw_g (lw_at lw_m4 23 rfl) rfl
theorem q814 : (Jvm.Cond.instanceMethod ({ cls := "SmokeLeans", name := "seed", desc := "(I)I" } : Jvm.MethodName)) ∈ lw_all := lw_g (lw_at lw_m4 28 rfl) rfl
theorem q815 : (Jvm.Cond.selects "SmokeLeans" ({ cls := "SmokeLeans", name := "seed", desc := "(I)I" } : Jvm.MethodName) ({ cls := "SmokeLeans", name := "seed", desc := "(I)I" } : Jvm.MethodName)) ∈ lw_all := lw_g (lw_at lw_m4 29 rfl) rfl
theorem q816 : (Jvm.Cond.code ({ cls := "SmokeLeans", name := "seed", desc := "(I)I" } : Jvm.MethodName) prog_1_method_31_code (3 : Nat) (Option.some Jvm.ClassFile.FieldType.int)) ∈ lw_all := lw_g (lw_at lw_m4 30 rfl) rfl
theorem q818 : (Jvm.Cond.instanceMethod ({ cls := "SmokeLeans", name := "stick", desc := "(I)I" } : Jvm.MethodName)) ∈ lw_all := lw_g (lw_at lw_m4 32 rfl) rfl
theorem q819 : (Jvm.Cond.selects "SmokeLeans" ({ cls := "SmokeLeans", name := "stick", desc := "(I)I" } : Jvm.MethodName) ({ cls := "SmokeLeans", name := "stick", desc := "(I)I" } : Jvm.MethodName)) ∈ lw_all := lw_g (lw_at lw_m4 33 rfl) rfl
theorem q820 : (Jvm.Cond.codeWith ({ cls := "SmokeLeans", name := "stick", desc := "(I)I" } : Jvm.MethodName) prog_1_method_32_code (3 : Nat) (Option.some Jvm.ClassFile.FieldType.int) [((0 : Nat), (17 : Nat), (18 : Nat), (1 : Nat))]) ∈ lw_all := lw_g (lw_at lw_m4 34 rfl) rfl
theorem q821 : (Jvm.Cond.methodLink "SmokeLeans" (240 : Nat) ({ cls := "SmokeLeans$House", name := "seen", desc := "(I)I" } : Jvm.MethodName)) ∈ lw_all := lw_g (lw_at lw_m4 35 rfl) rfl
theorem q833 : (Jvm.Cond.instanceMethod ({ cls := "SmokeLeans", name := "sticks", desc := "(I)I" } : Jvm.MethodName)) ∈ lw_all := lw_g (lw_at lw_m4 47 rfl) rfl
theorem q834 : (Jvm.Cond.selects "SmokeLeans" ({ cls := "SmokeLeans", name := "sticks", desc := "(I)I" } : Jvm.MethodName) ({ cls := "SmokeLeans", name := "sticks", desc := "(I)I" } : Jvm.MethodName)) ∈ lw_all := lw_g (lw_at lw_m4 48 rfl) rfl
theorem q835 : (Jvm.Cond.codeWith ({ cls := "SmokeLeans", name := "sticks", desc := "(I)I" } : Jvm.MethodName) prog_1_method_33_code (5 : Nat) (Option.some Jvm.ClassFile.FieldType.int) [((0 : Nat), (57 : Nat), (58 : Nat), (1 : Nat))]) ∈ lw_all := lw_g (lw_at lw_m4 49 rfl) rfl
theorem q836 : (Jvm.Cond.methodLink "SmokeLeans" (243 : Nat) ({ cls := "SmokeLeans", name := "sheetAt", desc := "(I)V" } : Jvm.MethodName)) ∈ lw_all := lw_g (lw_at lw_m4 50 rfl) rfl
theorem q837 : (Jvm.Cond.static ({ cls := "SmokeLeans", name := "sheetAt", desc := "(I)V" } : Jvm.MethodName)) ∈ lw_all := lw_g (lw_at lw_m4 51 rfl) rfl
theorem q838 : (Jvm.Cond.code ({ cls := "SmokeLeans", name := "sheetAt", desc := "(I)V" } : Jvm.MethodName) prog_1_method_51_code (1 : Nat) (Option.none : Option Jvm.ClassFile.FieldType)) ∈ lw_all := lw_g (lw_at lw_m4 52 rfl) rfl
theorem q839 : (Jvm.Cond.methodLink "SmokeLeans" (246 : Nat) ({ cls := "SmokeLeans", name := "there", desc := "(I)Ljava/lang/Object;" } : Jvm.MethodName)) ∈ lw_all := lw_g (lw_at lw_m4 53 rfl) rfl
theorem q840 : (Jvm.Cond.privateMethod ({ cls := "SmokeLeans", name := "there", desc := "(I)Ljava/lang/Object;" } : Jvm.MethodName)) ∈ lw_tbl := lw_at lw_m4 54 rfl
theorem q841 : (Jvm.Cond.instanceMethod ({ cls := "SmokeLeans", name := "there", desc := "(I)Ljava/lang/Object;" } : Jvm.MethodName)) ∈ lw_all := lw_g (lw_at lw_m4 55 rfl) rfl
theorem q842 : (Jvm.Cond.code ({ cls := "SmokeLeans", name := "there", desc := "(I)Ljava/lang/Object;" } : Jvm.MethodName) prog_1_method_52_code (3 : Nat) (Option.some (Jvm.ClassFile.FieldType.object "java/lang/Object"))) ∈ lw_all := lw_g (lw_at lw_m4 56 rfl) rfl
theorem q843 : (Jvm.Cond.methodLink "SmokeLeans" (250 : Nat) ({ cls := "SmokeLeans", name := "length", desc := "(Ljava/lang/Object;)I" } : Jvm.MethodName)) ∈ lw_all := lw_g (lw_at lw_m4 57 rfl) rfl
theorem q844 : (Jvm.Cond.static ({ cls := "SmokeLeans", name := "length", desc := "(Ljava/lang/Object;)I" } : Jvm.MethodName)) ∈ lw_all := lw_g (lw_at lw_m4 58 rfl) rfl
theorem q845 : (Jvm.Cond.code ({ cls := "SmokeLeans", name := "length", desc := "(Ljava/lang/Object;)I" } : Jvm.MethodName) prog_1_method_54_code (1 : Nat) (Option.some Jvm.ClassFile.FieldType.int)) ∈ lw_all := lw_g (lw_at lw_m4 59 rfl) rfl
theorem q846 : (Jvm.Cond.classLink "SmokeLeans" (323 : Nat) "[B") ∈ lw_all := lw_g (lw_at lw_m4 60 rfl) rfl
theorem q847 : (Jvm.Cond.classLink "SmokeLeans" (324 : Nat) "[S") ∈ lw_all := lw_g (lw_at lw_m4 61 rfl) rfl
theorem q848 : (Jvm.Cond.classLink "SmokeLeans" (326 : Nat) "[J") ∈ lw_all := lw_g (lw_at lw_m4 62 rfl) rfl
theorem q849 : (Jvm.Cond.methodLink "SmokeLeans" (254 : Nat) ({ cls := "java/lang/Math", name := "min", desc := "(II)I" } : Jvm.MethodName)) ∈ lw_all := lw_g (lw_at lw_m4 63 rfl) rfl
theorem q850 : (Jvm.Cond.methodLink "SmokeLeans" (260 : Nat) ({ cls := "SmokeLeans", name := "put", desc := "(Ljava/lang/Object;IJ)V" } : Jvm.MethodName)) ∈ lw_all := lw_g (lw_at lw_m4 64 rfl) rfl
theorem q851 : (Jvm.Cond.static ({ cls := "SmokeLeans", name := "put", desc := "(Ljava/lang/Object;IJ)V" } : Jvm.MethodName)) ∈ lw_all := lw_g (lw_at lw_m4 65 rfl) rfl
theorem q852 : (Jvm.Cond.code ({ cls := "SmokeLeans", name := "put", desc := "(Ljava/lang/Object;IJ)V" } : Jvm.MethodName) prog_1_method_56_code (4 : Nat) (Option.none : Option Jvm.ClassFile.FieldType)) ∈ lw_all := lw_g (lw_at lw_m4 66 rfl) rfl
theorem q854 : (Jvm.Cond.instanceMethod ({ cls := "SmokeLeans", name := "widths", desc := "(III)I" } : Jvm.MethodName)) ∈ lw_all := lw_g (lw_at lw_m4 68 rfl) rfl
theorem q855 : (Jvm.Cond.selects "SmokeLeans" ({ cls := "SmokeLeans", name := "widths", desc := "(III)I" } : Jvm.MethodName) ({ cls := "SmokeLeans", name := "widths", desc := "(III)I" } : Jvm.MethodName)) ∈ lw_all := lw_g (lw_at lw_m4 69 rfl) rfl
theorem q856 : (Jvm.Cond.codeWith ({ cls := "SmokeLeans", name := "widths", desc := "(III)I" } : Jvm.MethodName) prog_1_method_34_code (10 : Nat) (Option.some Jvm.ClassFile.FieldType.int) [((0 : Nat), (173 : Nat), (174 : Nat), (1 : Nat))]) ∈ lw_all := lw_g (lw_at lw_m4 70 rfl) rfl
theorem q857 : (Jvm.Cond.constantLong "SmokeLeans" (264 : Nat) (-9 : Int64)) ∈ lw_all := lw_g (lw_at lw_m4 71 rfl) rfl
theorem q858 : (Jvm.Cond.constantLong "SmokeLeans" (266 : Nat) (2 : Int64)) ∈ lw_all := lw_g (lw_at lw_m4 72 rfl) rfl
theorem q859 : (Jvm.Cond.methodLink "SmokeLeans" (268 : Nat) ({ cls := "SmokeLeans", name := "orNone", desc := "(I)I" } : Jvm.MethodName)) ∈ lw_all := lw_g (lw_at lw_m4 73 rfl) rfl
theorem q860 : (Jvm.Cond.static ({ cls := "SmokeLeans", name := "orNone", desc := "(I)I" } : Jvm.MethodName)) ∈ lw_all := lw_g (lw_at lw_m4 74 rfl) rfl
theorem q861 : (Jvm.Cond.code ({ cls := "SmokeLeans", name := "orNone", desc := "(I)I" } : Jvm.MethodName) prog_1_method_10_code (1 : Nat) (Option.some Jvm.ClassFile.FieldType.int)) ∈ lw_all := lw_g (lw_at lw_m4 75 rfl) rfl
theorem q863 : (Jvm.Cond.instanceMethod ({ cls := "SmokeLeans", name := "most", desc := "()I" } : Jvm.MethodName)) ∈ lw_all := lw_g (lw_at lw_m4 77 rfl) rfl
theorem q864 : (Jvm.Cond.selects "SmokeLeans" ({ cls := "SmokeLeans", name := "most", desc := "()I" } : Jvm.MethodName) ({ cls := "SmokeLeans", name := "most", desc := "()I" } : Jvm.MethodName)) ∈ lw_all := lw_g (lw_at lw_m4 78 rfl) rfl
theorem q865 : (Jvm.Cond.codeWith ({ cls := "SmokeLeans", name := "most", desc := "()I" } : Jvm.MethodName) prog_1_method_35_code (3 : Nat) (Option.some Jvm.ClassFile.FieldType.int) [((0 : Nat), (56 : Nat), (57 : Nat), (1 : Nat))]) ∈ lw_all := lw_g (lw_at lw_m4 79 rfl) rfl
theorem q866 : (Jvm.Cond.methodLink "SmokeLeans" (271 : Nat) ({ cls := "java/lang/Math", name := "abs", desc := "(I)I" } : Jvm.MethodName)) ∈ lw_all := lw_g (lw_at lw_m4 80 rfl) rfl
theorem q868 : (Jvm.Cond.instanceMethod ({ cls := "SmokeLeans", name := "stop", desc := "(IIII)I" } : Jvm.MethodName)) ∈ lw_all := lw_g (lw_at lw_m4 82 rfl) rfl
theorem q869 : (Jvm.Cond.selects "SmokeLeans" ({ cls := "SmokeLeans", name := "stop", desc := "(IIII)I" } : Jvm.MethodName) ({ cls := "SmokeLeans", name := "stop", desc := "(IIII)I" } : Jvm.MethodName)) ∈ lw_all := lw_g (lw_at lw_m4 83 rfl) rfl
theorem q870 : (Jvm.Cond.codeWith ({ cls := "SmokeLeans", name := "stop", desc := "(IIII)I" } : Jvm.MethodName) prog_1_method_40_code (6 : Nat) (Option.some Jvm.ClassFile.FieldType.int) [((0 : Nat), (102 : Nat), (103 : Nat), (1 : Nat))]) ∈ lw_all := lw_g (lw_at lw_m4 84 rfl) rfl
theorem q871 : (Jvm.Cond.methodLink "SmokeLeans" (295 : Nat) ({ cls := "SmokeLeans", name := "isOpenSet", desc := "(I)Z" } : Jvm.MethodName)) ∈ lw_all := lw_g (lw_at lw_m4 85 rfl) rfl
theorem q872 : (Jvm.Cond.privateMethod ({ cls := "SmokeLeans", name := "isOpenSet", desc := "(I)Z" } : Jvm.MethodName)) ∈ lw_tbl := lw_at lw_m4 86 rfl
theorem q873 : (Jvm.Cond.instanceMethod ({ cls := "SmokeLeans", name := "isOpenSet", desc := "(I)Z" } : Jvm.MethodName)) ∈ lw_all := lw_g (lw_at lw_m4 87 rfl) rfl
theorem q874 : (Jvm.Cond.code ({ cls := "SmokeLeans", name := "isOpenSet", desc := "(I)Z" } : Jvm.MethodName) prog_1_method_38_code (4 : Nat) (Option.some Jvm.ClassFile.FieldType.boolean)) ∈ lw_all := lw_g (lw_at lw_m4 88 rfl) rfl
theorem q875 : (Jvm.Cond.methodLink "SmokeLeans" (277 : Nat) ({ cls := "java/lang/Integer", name := "bitCount", desc := "(I)I" } : Jvm.MethodName)) ∈ lw_all := lw_g (lw_at lw_m4 89 rfl) rfl
theorem q881 : (Jvm.Cond.methodLink "SmokeLeans" (274 : Nat) ({ cls := "SmokeLeans", name := "has", desc := "(II)Z" } : Jvm.MethodName)) ∈ lw_all := lw_g (lw_at lw_m4 95 rfl) rfl
theorem q882 : (Jvm.Cond.static ({ cls := "SmokeLeans", name := "has", desc := "(II)Z" } : Jvm.MethodName)) ∈ lw_all := lw_g (lw_at lw_m4 96 rfl) rfl
theorem q883 : (Jvm.Cond.code ({ cls := "SmokeLeans", name := "has", desc := "(II)Z" } : Jvm.MethodName) prog_1_method_3_code (2 : Nat) (Option.some Jvm.ClassFile.FieldType.boolean)) ∈ lw_all := lw_g (lw_at lw_m4 97 rfl) rfl
theorem q884 : (Jvm.Cond.constantLong "SmokeLeans" (298 : Nat) (999 : Int64)) ∈ lw_all := lw_g (lw_at lw_m4 98 rfl) rfl
theorem q885 : (Jvm.Cond.constantLong "SmokeLeans" (300 : Nat) (99999 : Int64)) ∈ lw_all := lw_g (lw_at lw_m4 99 rfl) rfl
theorem q886 : (Jvm.Cond.methodLink "SmokeLeans" (302 : Nat) ({ cls := "SmokeLeans", name := "stops", desc := "(III)V" } : Jvm.MethodName)) ∈ lw_all := lw_g (lw_at lw_m4 100 rfl) rfl
theorem q887 : (Jvm.Cond.privateMethod ({ cls := "SmokeLeans", name := "stops", desc := "(III)V" } : Jvm.MethodName)) ∈ lw_tbl := lw_at lw_m4 101 rfl
theorem q888 : (Jvm.Cond.instanceMethod ({ cls := "SmokeLeans", name := "stops", desc := "(III)V" } : Jvm.MethodName)) ∈ lw_all := lw_g (lw_at lw_m4 102 rfl) rfl
theorem q889 : (Jvm.Cond.code ({ cls := "SmokeLeans", name := "stops", desc := "(III)V" } : Jvm.MethodName) prog_1_method_39_code (8 : Nat) (Option.none : Option Jvm.ClassFile.FieldType)) ∈ lw_all := lw_g (lw_at lw_m4 103 rfl) rfl
theorem q890 : (Jvm.Cond.methodLink "SmokeLeans" (285 : Nat) ({ cls := "SmokeLeans", name := "costs", desc := "(I)I" } : Jvm.MethodName)) ∈ lw_all := lw_g (lw_at lw_m4 104 rfl) rfl
theorem q891 : (Jvm.Cond.privateMethod ({ cls := "SmokeLeans", name := "costs", desc := "(I)I" } : Jvm.MethodName)) ∈ lw_tbl := lw_at lw_m4 105 rfl
theorem q892 : (Jvm.Cond.instanceMethod ({ cls := "SmokeLeans", name := "costs", desc := "(I)I" } : Jvm.MethodName)) ∈ lw_all := lw_g (lw_at lw_m4 106 rfl) rfl
theorem q893 : (Jvm.Cond.code ({ cls := "SmokeLeans", name := "costs", desc := "(I)I" } : Jvm.MethodName) prog_1_method_37_code (4 : Nat) (Option.some Jvm.ClassFile.FieldType.int)) ∈ lw_all := lw_g (lw_at lw_m4 107 rfl) rfl
theorem q894 : (Jvm.Cond.methodLink "SmokeLeans" (288 : Nat) ({ cls := "SmokeLeans", name := "shutAll", desc := "(IZ)V" } : Jvm.MethodName)) ∈ lw_all := lw_g (lw_at lw_m4 108 rfl) rfl
theorem q895 : (Jvm.Cond.privateMethod ({ cls := "SmokeLeans", name := "shutAll", desc := "(IZ)V" } : Jvm.MethodName)) ∈ lw_tbl := lw_at lw_m4 109 rfl
theorem q896 : (Jvm.Cond.instanceMethod ({ cls := "SmokeLeans", name := "shutAll", desc := "(IZ)V" } : Jvm.MethodName)) ∈ lw_all := lw_g (lw_at lw_m4 110 rfl) rfl
theorem q897 : (Jvm.Cond.code ({ cls := "SmokeLeans", name := "shutAll", desc := "(IZ)V" } : Jvm.MethodName) prog_1_method_36_code (4 : Nat) (Option.none : Option Jvm.ClassFile.FieldType)) ∈ lw_all := lw_g (lw_at lw_m4 111 rfl) rfl
theorem q899 : (Jvm.Cond.instanceMethod ({ cls := "SmokeLeans", name := "order", desc := "(I)I" } : Jvm.MethodName)) ∈ lw_all := lw_g (lw_at lw_m4 113 rfl) rfl
theorem q900 : (Jvm.Cond.selects "SmokeLeans" ({ cls := "SmokeLeans", name := "order", desc := "(I)I" } : Jvm.MethodName) ({ cls := "SmokeLeans", name := "order", desc := "(I)I" } : Jvm.MethodName)) ∈ lw_all := lw_g (lw_at lw_m4 114 rfl) rfl
theorem q901 : (Jvm.Cond.codeWith ({ cls := "SmokeLeans", name := "order", desc := "(I)I" } : Jvm.MethodName) prog_1_method_43_code (3 : Nat) (Option.some Jvm.ClassFile.FieldType.int) [((0 : Nat), (39 : Nat), (40 : Nat), (1 : Nat))]) ∈ lw_all := lw_g (lw_at lw_m4 115 rfl) rfl
theorem q902 : (Jvm.Cond.constantLong "SmokeLeans" (312 : Nat) (19 : Int64)) ∈ lw_all := lw_g (lw_at lw_m4 116 rfl) rfl
theorem q903 : (Jvm.Cond.methodLink "SmokeLeans" (314 : Nat) ({ cls := "SmokeLeans", name := "steps", desc := "(I)I" } : Jvm.MethodName)) ∈ lw_all := lw_g (lw_at lw_m4 117 rfl) rfl
theorem q904 : (Jvm.Cond.privateMethod ({ cls := "SmokeLeans", name := "steps", desc := "(I)I" } : Jvm.MethodName)) ∈ lw_tbl := lw_at lw_m4 118 rfl
theorem q905 : (Jvm.Cond.instanceMethod ({ cls := "SmokeLeans", name := "steps", desc := "(I)I" } : Jvm.MethodName)) ∈ lw_all := lw_g (lw_at lw_m4 119 rfl) rfl
theorem q906 : (Jvm.Cond.code ({ cls := "SmokeLeans", name := "steps", desc := "(I)I" } : Jvm.MethodName) prog_1_method_42_code (5 : Nat) (Option.some Jvm.ClassFile.FieldType.int)) ∈ lw_all := lw_g (lw_at lw_m4 120 rfl) rfl
theorem q907 : (Jvm.Cond.methodLink "SmokeLeans" (306 : Nat) ({ cls := "SmokeLeans", name := "pays", desc := "()I" } : Jvm.MethodName)) ∈ lw_all := lw_g (lw_at lw_m4 121 rfl) rfl
theorem q908 : (Jvm.Cond.privateMethod ({ cls := "SmokeLeans", name := "pays", desc := "()I" } : Jvm.MethodName)) ∈ lw_tbl := lw_at lw_m4 122 rfl
theorem q909 : (Jvm.Cond.instanceMethod ({ cls := "SmokeLeans", name := "pays", desc := "()I" } : Jvm.MethodName)) ∈ lw_all := lw_g (lw_at lw_m4 123 rfl) rfl
theorem q910 : (Jvm.Cond.code ({ cls := "SmokeLeans", name := "pays", desc := "()I" } : Jvm.MethodName) prog_1_method_41_code (5 : Nat) (Option.some Jvm.ClassFile.FieldType.int)) ∈ lw_all := lw_g (lw_at lw_m4 124 rfl) rfl
theorem q912 : (Jvm.Cond.instanceMethod ({ cls := "SmokeLeans", name := "saved", desc := "(I)I" } : Jvm.MethodName)) ∈ lw_all := lw_g (lw_at lw_m4 126 rfl) rfl
theorem q913 : (Jvm.Cond.selects "SmokeLeans" ({ cls := "SmokeLeans", name := "saved", desc := "(I)I" } : Jvm.MethodName) ({ cls := "SmokeLeans", name := "saved", desc := "(I)I" } : Jvm.MethodName)) ∈ lw_all := lw_g (lw_at lw_m4 127 rfl) rfl
theorem q914 : (Jvm.Cond.codeWith ({ cls := "SmokeLeans", name := "saved", desc := "(I)I" } : Jvm.MethodName) prog_1_method_44_code (3 : Nat) (Option.some Jvm.ClassFile.FieldType.int) [((0 : Nat), (29 : Nat), (30 : Nat), (1 : Nat))]) ∈ lw_all := lw_g (lw_at lw_m4 128 rfl) rfl
theorem q915 : (Jvm.Cond.constantLong "SmokeLeans" (317 : Nat) (20 : Int64)) ∈ lw_all := lw_g (lw_at lw_m4 129 rfl) rfl
theorem q917 : (Jvm.Cond.instanceMethod ({ cls := "SmokeLeans", name := "line", desc := "()I" } : Jvm.MethodName)) ∈ lw_all := lw_g (lw_at lw_m4 131 rfl) rfl
theorem q918 : (Jvm.Cond.selects "SmokeLeans" ({ cls := "SmokeLeans", name := "line", desc := "()I" } : Jvm.MethodName) ({ cls := "SmokeLeans", name := "line", desc := "()I" } : Jvm.MethodName)) ∈ lw_all := lw_g (lw_at lw_m4 132 rfl) rfl
theorem q919 : (Jvm.Cond.codeWith ({ cls := "SmokeLeans", name := "line", desc := "()I" } : Jvm.MethodName) prog_1_method_45_code (5 : Nat) (Option.some Jvm.ClassFile.FieldType.int) [((10 : Nat), (68 : Nat), (87 : Nat), (1 : Nat)), ((10 : Nat), (68 : Nat), (113 : Nat), (0 : Nat)), ((87 : Nat), (94 : Nat), (113 : Nat), (0 : Nat)), ((113 : Nat), (115 : Nat), (113 : Nat), (0 : Nat))]) ∈ lw_all := lw_g (lw_at lw_m4 133 rfl) rfl
theorem q921 : (Jvm.Cond.instanceMethod ({ cls := "SmokeLeans", name := "alone", desc := "(II)I" } : Jvm.MethodName)) ∈ lw_all := lw_g (lw_at lw_m4 135 rfl) rfl
theorem q922 : (Jvm.Cond.selects "SmokeLeans" ({ cls := "SmokeLeans", name := "alone", desc := "(II)I" } : Jvm.MethodName) ({ cls := "SmokeLeans", name := "alone", desc := "(II)I" } : Jvm.MethodName)) ∈ lw_all := lw_g (lw_at lw_m4 136 rfl) rfl
theorem q923 : (Jvm.Cond.codeWith ({ cls := "SmokeLeans", name := "alone", desc := "(II)I" } : Jvm.MethodName) prog_1_method_46_code (7 : Nat) (Option.some Jvm.ClassFile.FieldType.int) [((0 : Nat), (85 : Nat), (86 : Nat), (1 : Nat))]) ∈ lw_all := lw_g (lw_at lw_m4 137 rfl) rfl
theorem q925 : (Jvm.Cond.instanceMethod ({ cls := "SmokeLeans", name := "turns", desc := "(I)I" } : Jvm.MethodName)) ∈ lw_all := lw_g (lw_at lw_m4 139 rfl) rfl
theorem q926 : (Jvm.Cond.selects "SmokeLeans" ({ cls := "SmokeLeans", name := "turns", desc := "(I)I" } : Jvm.MethodName) ({ cls := "SmokeLeans", name := "turns", desc := "(I)I" } : Jvm.MethodName)) ∈ lw_all := lw_g (lw_at lw_m4 140 rfl) rfl
theorem q927 : (Jvm.Cond.codeWith ({ cls := "SmokeLeans", name := "turns", desc := "(I)I" } : Jvm.MethodName) prog_1_method_47_code (5 : Nat) (Option.some Jvm.ClassFile.FieldType.int) [((0 : Nat), (122 : Nat), (123 : Nat), (1 : Nat))]) ∈ lw_all := lw_g (lw_at lw_m4 141 rfl) rfl
theorem q929 : (Jvm.Cond.instanceMethod ({ cls := "SmokeLeans", name := "worst", desc := "()I" } : Jvm.MethodName)) ∈ lw_all := lw_g (lw_at lw_m4 143 rfl) rfl
theorem q930 : (Jvm.Cond.selects "SmokeLeans" ({ cls := "SmokeLeans", name := "worst", desc := "()I" } : Jvm.MethodName) ({ cls := "SmokeLeans", name := "worst", desc := "()I" } : Jvm.MethodName)) ∈ lw_all := lw_g (lw_at lw_m4 144 rfl) rfl
theorem q931 : (Jvm.Cond.code ({ cls := "SmokeLeans", name := "worst", desc := "()I" } : Jvm.MethodName) prog_1_method_48_code (6 : Nat) (Option.some Jvm.ClassFile.FieldType.int)) ∈ lw_all := lw_g (lw_at lw_m4 145 rfl) rfl
theorem q933 : (Jvm.Cond.instanceMethod ({ cls := "SmokeLeans", name := "lays", desc := "(I)I" } : Jvm.MethodName)) ∈ lw_all := lw_g (lw_at lw_m4 147 rfl) rfl
theorem q934 : (Jvm.Cond.selects "SmokeLeans" ({ cls := "SmokeLeans", name := "lays", desc := "(I)I" } : Jvm.MethodName) ({ cls := "SmokeLeans", name := "lays", desc := "(I)I" } : Jvm.MethodName)) ∈ lw_all := lw_g (lw_at lw_m4 148 rfl) rfl
theorem q935 : (Jvm.Cond.codeWith ({ cls := "SmokeLeans", name := "lays", desc := "(I)I" } : Jvm.MethodName) prog_1_method_49_code (5 : Nat) (Option.some Jvm.ClassFile.FieldType.int) [((0 : Nat), (91 : Nat), (92 : Nat), (1 : Nat))]) ∈ lw_all := lw_g (lw_at lw_m4 149 rfl) rfl
theorem q936 : (Jvm.Cond.methodLink "SmokeLeans" (319 : Nat) ({ cls := "SmokeLeans", name := "get", desc := "(Ljava/lang/Object;I)J" } : Jvm.MethodName)) ∈ lw_all := lw_g (lw_at lw_m4 150 rfl) rfl
theorem q937 : (Jvm.Cond.static ({ cls := "SmokeLeans", name := "get", desc := "(Ljava/lang/Object;I)J" } : Jvm.MethodName)) ∈ lw_all := lw_g (lw_at lw_m4 151 rfl) rfl
theorem q938 : (Jvm.Cond.code ({ cls := "SmokeLeans", name := "get", desc := "(Ljava/lang/Object;I)J" } : Jvm.MethodName) prog_1_method_55_code (2 : Nat) (Option.some Jvm.ClassFile.FieldType.long)) ∈ lw_all := lw_g (lw_at lw_m4 152 rfl) rfl
theorem q940 : (Jvm.Cond.instanceMethod ({ cls := "SmokeLeans", name := "read", desc := "(I)I" } : Jvm.MethodName)) ∈ lw_all := lw_g (lw_at lw_m4 154 rfl) rfl
theorem q941 : (Jvm.Cond.selects "SmokeLeans" ({ cls := "SmokeLeans", name := "read", desc := "(I)I" } : Jvm.MethodName) ({ cls := "SmokeLeans", name := "read", desc := "(I)I" } : Jvm.MethodName)) ∈ lw_all := lw_g (lw_at lw_m4 155 rfl) rfl
theorem q942 : (Jvm.Cond.codeWith ({ cls := "SmokeLeans", name := "read", desc := "(I)I" } : Jvm.MethodName) prog_1_method_50_code (4 : Nat) (Option.some Jvm.ClassFile.FieldType.int) [((0 : Nat), (52 : Nat), (61 : Nat), (1 : Nat)), ((53 : Nat), (60 : Nat), (61 : Nat), (1 : Nat))]) ∈ lw_all := lw_g (lw_at lw_m4 156 rfl) rfl
theorem q944 : (Jvm.Cond.instanceMethod ({ cls := "SmokeLeans", name := "sheet", desc := "(III)I" } : Jvm.MethodName)) ∈ lw_all := lw_g (lw_at lw_m4 158 rfl) rfl
theorem q945 : (Jvm.Cond.selects "SmokeLeans" ({ cls := "SmokeLeans", name := "sheet", desc := "(III)I" } : Jvm.MethodName) ({ cls := "SmokeLeans", name := "sheet", desc := "(III)I" } : Jvm.MethodName)) ∈ lw_all := lw_g (lw_at lw_m4 159 rfl) rfl
theorem q946 : (Jvm.Cond.codeWith ({ cls := "SmokeLeans", name := "sheet", desc := "(III)I" } : Jvm.MethodName) prog_1_method_58_code (5 : Nat) (Option.some Jvm.ClassFile.FieldType.int) [((0 : Nat), (87 : Nat), (88 : Nat), (1 : Nat))]) ∈ lw_all := lw_g (lw_at lw_m4 160 rfl) rfl
theorem q947 : (Jvm.Cond.methodLink "SmokeLeans" (328 : Nat) ({ cls := "SmokeLeans", name := "made", desc := "(II)Ljava/lang/Object;" } : Jvm.MethodName)) ∈ lw_all := lw_g (lw_at lw_m4 161 rfl) rfl
theorem q948 : (Jvm.Cond.static ({ cls := "SmokeLeans", name := "made", desc := "(II)Ljava/lang/Object;" } : Jvm.MethodName)) ∈ lw_all := lw_g (lw_at lw_m4 162 rfl) rfl
theorem q949 : (Jvm.Cond.code ({ cls := "SmokeLeans", name := "made", desc := "(II)Ljava/lang/Object;" } : Jvm.MethodName) prog_1_method_57_code (2 : Nat) (Option.some (Jvm.ClassFile.FieldType.object "java/lang/Object"))) ∈ lw_all := lw_g (lw_at lw_m4 163 rfl) rfl
theorem q953 : (Jvm.Cond.instanceMethod ({ cls := "SmokeLeans", name := "write", desc := "(IIJ)J" } : Jvm.MethodName)) ∈ lw_all := lw_g (lw_at lw_m4 167 rfl) rfl
theorem q954 : (Jvm.Cond.selects "SmokeLeans" ({ cls := "SmokeLeans", name := "write", desc := "(IIJ)J" } : Jvm.MethodName) ({ cls := "SmokeLeans", name := "write", desc := "(IIJ)J" } : Jvm.MethodName)) ∈ lw_all := lw_g (lw_at lw_m4 168 rfl) rfl
theorem q955 : (Jvm.Cond.codeWith ({ cls := "SmokeLeans", name := "write", desc := "(IIJ)J" } : Jvm.MethodName) prog_1_method_60_code (8 : Nat) (Option.some Jvm.ClassFile.FieldType.long) [((0 : Nat), (25 : Nat), (26 : Nat), (1 : Nat))]) ∈ lw_all := lw_g (lw_at lw_m4 169 rfl) rfl
theorem q956 : (Jvm.Cond.methodLink "SmokeLeans" (332 : Nat) ({ cls := "SmokeLeans", name := "numberAt", desc := "(II)Ljava/lang/Object;" } : Jvm.MethodName)) ∈ lw_all := lw_g (lw_at lw_m4 170 rfl) rfl
theorem q957 : (Jvm.Cond.privateMethod ({ cls := "SmokeLeans", name := "numberAt", desc := "(II)Ljava/lang/Object;" } : Jvm.MethodName)) ∈ lw_tbl := lw_at lw_m4 171 rfl
theorem q958 : (Jvm.Cond.instanceMethod ({ cls := "SmokeLeans", name := "numberAt", desc := "(II)Ljava/lang/Object;" } : Jvm.MethodName)) ∈ lw_all := lw_g (lw_at lw_m4 172 rfl) rfl
theorem q959 : (Jvm.Cond.code ({ cls := "SmokeLeans", name := "numberAt", desc := "(II)Ljava/lang/Object;" } : Jvm.MethodName) prog_1_method_59_code (4 : Nat) (Option.some (Jvm.ClassFile.FieldType.object "java/lang/Object"))) ∈ lw_all := lw_g (lw_at lw_m4 173 rfl) rfl
theorem q961 : (Jvm.Cond.instanceMethod ({ cls := "SmokeLeans", name := "copy", desc := "(IIIII)I" } : Jvm.MethodName)) ∈ lw_all := lw_g (lw_at lw_m4 175 rfl) rfl
theorem q962 : (Jvm.Cond.selects "SmokeLeans" ({ cls := "SmokeLeans", name := "copy", desc := "(IIIII)I" } : Jvm.MethodName) ({ cls := "SmokeLeans", name := "copy", desc := "(IIIII)I" } : Jvm.MethodName)) ∈ lw_all := lw_g (lw_at lw_m4 176 rfl) rfl
theorem q963 : (Jvm.Cond.codeWith ({ cls := "SmokeLeans", name := "copy", desc := "(IIIII)I" } : Jvm.MethodName) prog_1_method_61_code (8 : Nat) (Option.some Jvm.ClassFile.FieldType.int) [((0 : Nat), (123 : Nat), (124 : Nat), (1 : Nat))]) ∈ lw_all := lw_g (lw_at lw_m4 177 rfl) rfl
theorem q964 : (Jvm.Cond.methodLink "SmokeLeans" (335 : Nat) ({ cls := "SmokeLeans", name := "wide", desc := "(Ljava/lang/Object;)I" } : Jvm.MethodName)) ∈ lw_all := lw_g (lw_at lw_m4 178 rfl) rfl
theorem q965 : (Jvm.Cond.static ({ cls := "SmokeLeans", name := "wide", desc := "(Ljava/lang/Object;)I" } : Jvm.MethodName)) ∈ lw_all := lw_g (lw_at lw_m4 179 rfl) rfl
theorem q966 : (Jvm.Cond.code ({ cls := "SmokeLeans", name := "wide", desc := "(Ljava/lang/Object;)I" } : Jvm.MethodName) prog_1_method_53_code (1 : Nat) (Option.some Jvm.ClassFile.FieldType.int)) ∈ lw_all := lw_g (lw_at lw_m4 180 rfl) rfl
theorem q967 : (Jvm.Cond.methodLink "SmokeLeans" (338 : Nat) ({ cls := "java/lang/System", name := "arraycopy", desc := "(Ljava/lang/Object;ILjava/lang/Object;II)V" } : Jvm.MethodName)) ∈ lw_all := lw_g (lw_at lw_m4 181 rfl) rfl
theorem q969 : (Jvm.Cond.instanceMethod ({ cls := "SmokeLeans", name := "image", desc := "()I" } : Jvm.MethodName)) ∈ lw_all := lw_g (lw_at lw_m4 183 rfl) rfl
theorem q970 : (Jvm.Cond.selects "SmokeLeans" ({ cls := "SmokeLeans", name := "image", desc := "()I" } : Jvm.MethodName) ({ cls := "SmokeLeans", name := "image", desc := "()I" } : Jvm.MethodName)) ∈ lw_all := lw_g (lw_at lw_m4 184 rfl) rfl
theorem q971 : (Jvm.Cond.code ({ cls := "SmokeLeans", name := "image", desc := "()I" } : Jvm.MethodName) prog_1_method_62_code (1 : Nat) (Option.some Jvm.ClassFile.FieldType.int)) ∈ lw_all := lw_g (lw_at lw_m4 185 rfl) rfl
theorem q973 : (Jvm.Cond.instanceMethod ({ cls := "SmokeLeans", name := "undo", desc := "()I" } : Jvm.MethodName)) ∈ lw_all := lw_g (lw_at lw_m4 187 rfl) rfl
theorem q974 : (Jvm.Cond.selects "SmokeLeans" ({ cls := "SmokeLeans", name := "undo", desc := "()I" } : Jvm.MethodName) ({ cls := "SmokeLeans", name := "undo", desc := "()I" } : Jvm.MethodName)) ∈ lw_all := lw_g (lw_at lw_m4 188 rfl) rfl
theorem q975 : (Jvm.Cond.codeWith ({ cls := "SmokeLeans", name := "undo", desc := "()I" } : Jvm.MethodName) prog_1_method_63_code (2 : Nat) (Option.some Jvm.ClassFile.FieldType.int) [((0 : Nat), (26 : Nat), (27 : Nat), (1 : Nat))]) ∈ lw_all := lw_g (lw_at lw_m4 189 rfl) rfl
theorem q977 : (Jvm.Cond.instanceMethod ({ cls := "SmokeLeans", name := "tear", desc := "()I" } : Jvm.MethodName)) ∈ lw_all := lw_g (lw_at lw_m4 191 rfl) rfl
theorem q978 : (Jvm.Cond.selects "SmokeLeans" ({ cls := "SmokeLeans", name := "tear", desc := "()I" } : Jvm.MethodName) ({ cls := "SmokeLeans", name := "tear", desc := "()I" } : Jvm.MethodName)) ∈ lw_all := lw_g (lw_at lw_m4 192 rfl) rfl
theorem q979 : (Jvm.Cond.code ({ cls := "SmokeLeans", name := "tear", desc := "()I" } : Jvm.MethodName) prog_1_method_64_code (2 : Nat) (Option.some Jvm.ClassFile.FieldType.int)) ∈ lw_all := lw_g (lw_at lw_m4 193 rfl) rfl
theorem q981 : (Jvm.Cond.instanceMethod ({ cls := "SmokeLeans", name := "count", desc := "(I)I" } : Jvm.MethodName)) ∈ lw_all := lw_g (lw_at lw_m4 195 rfl) rfl
theorem q982 : (Jvm.Cond.selects "SmokeLeans" ({ cls := "SmokeLeans", name := "count", desc := "(I)I" } : Jvm.MethodName) ({ cls := "SmokeLeans", name := "count", desc := "(I)I" } : Jvm.MethodName)) ∈ lw_all := lw_g (lw_at lw_m4 196 rfl) rfl
theorem q983 : (Jvm.Cond.codeWith ({ cls := "SmokeLeans", name := "count", desc := "(I)I" } : Jvm.MethodName) prog_1_method_66_code (3 : Nat) (Option.some Jvm.ClassFile.FieldType.int) [((0 : Nat), (51 : Nat), (88 : Nat), (1 : Nat)), ((52 : Nat), (59 : Nat), (88 : Nat), (1 : Nat)), ((60 : Nat), (64 : Nat), (88 : Nat), (1 : Nat)), ((65 : Nat), (72 : Nat), (88 : Nat), (1 : Nat)), ((73 : Nat), (78 : Nat), (88 : Nat), (1 : Nat)), ((79 : Nat), (88 : Nat), (88 : Nat), (1 : Nat))]) ∈ lw_all := lw_g (lw_at lw_m4 197 rfl) rfl
theorem q984 : (Jvm.Cond.methodLink "SmokeLeans" (347 : Nat) ({ cls := "SmokeLeans", name := "sum", desc := "(I)I" } : Jvm.MethodName)) ∈ lw_all := lw_g (lw_at lw_m4 198 rfl) rfl
theorem q985 : (Jvm.Cond.privateMethod ({ cls := "SmokeLeans", name := "sum", desc := "(I)I" } : Jvm.MethodName)) ∈ lw_tbl := lw_at lw_m4 199 rfl
theorem q986 : (Jvm.Cond.instanceMethod ({ cls := "SmokeLeans", name := "sum", desc := "(I)I" } : Jvm.MethodName)) ∈ lw_all := lw_g (lw_at lw_m4 200 rfl) rfl
theorem q987 : (Jvm.Cond.code ({ cls := "SmokeLeans", name := "sum", desc := "(I)I" } : Jvm.MethodName) prog_1_method_65_code (5 : Nat) (Option.some Jvm.ClassFile.FieldType.int)) ∈ lw_all := lw_g (lw_at lw_m4 201 rfl) rfl
theorem q989 : (Jvm.Cond.instanceMethod ({ cls := "SmokeLeans", name := "status", desc := "(I)I" } : Jvm.MethodName)) ∈ lw_all := lw_g (lw_at lw_m4 203 rfl) rfl
theorem q990 : (Jvm.Cond.selects "SmokeLeans" ({ cls := "SmokeLeans", name := "status", desc := "(I)I" } : Jvm.MethodName) ({ cls := "SmokeLeans", name := "status", desc := "(I)I" } : Jvm.MethodName)) ∈ lw_all := lw_g (lw_at lw_m4 204 rfl) rfl
theorem q991 : (Jvm.Cond.codeWith ({ cls := "SmokeLeans", name := "status", desc := "(I)I" } : Jvm.MethodName) prog_1_method_67_code (4 : Nat) (Option.some Jvm.ClassFile.FieldType.int) [((0 : Nat), (25 : Nat), (53 : Nat), (1 : Nat)), ((26 : Nat), (52 : Nat), (53 : Nat), (1 : Nat))]) ∈ lw_all := lw_g (lw_at lw_m4 205 rfl) rfl
theorem q992 : (Jvm.Cond.constantLong "SmokeLeans" (350 : Nat) (-1 : Int64)) ∈ lw_all := lw_g (lw_at lw_m4 206 rfl) rfl
theorem q993 : (Jvm.Cond.constantLong "SmokeLeans" (352 : Nat) (6 : Int64)) ∈ lw_all := lw_g (lw_at lw_m4 207 rfl) rfl
theorem in_X0 : ∀ w ∈ wsX00, w ∈ lw_all := lw_in wsX00 [174, 176, 178, 180, 182, 184, 186, 188, 190, 192, 194, 196, 198] (by decide +kernel) (by decide +kernel)
