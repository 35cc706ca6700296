set_option maxRecDepth 100000
abbrev cX3_needs : ByteArray := prog_16_method_27_code
def yX3_needs : MethodName := ⟨RX3, "needs", "(Z)V"⟩
def dkwX3_needs_1 : List UInt8 := [154, 0, 7, 42, 182, 0, 139, 177]
abbrev dktX3_needs_1 : List UInt8 := dkwX3_needs_1 ++ []
def dkwX3_needs_0 : List UInt8 := [42, 42, 180, 0, 135, 154, 0, 7, 27, 154, 0, 7, 4, 167, 0, 4, 3, 181, 0, 135, 42, 180, 0, 135]
abbrev dktX3_needs_0 : List UInt8 := dkwX3_needs_0 ++ dktX3_needs_1
theorem dksX3_needs_0 : cX3_needs.data.toList.drop 0 = dktX3_needs_0 := by decide +kernel
theorem dksX3_needs_1 : cX3_needs.data.toList.drop 24 = dktX3_needs_1 := dk_seg dksX3_needs_0 24 rfl rfl
theorem dX3_needs_0 : decode cX3_needs 0 = .ok (.aload_n 0, 1) := dk_42 (dk_at dksX3_needs_0 0 rfl rfl)
theorem dX3_needs_1 : decode cX3_needs 1 = .ok (.aload_n 0, 1) := dk_42 (dk_at dksX3_needs_0 1 rfl rfl)
theorem dX3_needs_2 : decode cX3_needs 2 = .ok (.getfield 135, 3) := dk_180 0 135 (dk_at dksX3_needs_0 2 rfl rfl)
theorem dX3_needs_5 : decode cX3_needs 5 = .ok (.ifCond .ne 7, 3) := dk_154 0 7 (dk_at dksX3_needs_0 5 rfl rfl)
theorem dX3_needs_8 : decode cX3_needs 8 = .ok (.iload_n 1, 1) := dk_27 (dk_at dksX3_needs_0 8 rfl rfl)
theorem dX3_needs_9 : decode cX3_needs 9 = .ok (.ifCond .ne 7, 3) := dk_154 0 7 (dk_at dksX3_needs_0 9 rfl rfl)
theorem dX3_needs_12 : decode cX3_needs 12 = .ok (.iconst 1, 1) := dk_4 (dk_at dksX3_needs_0 12 rfl rfl)
theorem dX3_needs_13 : decode cX3_needs 13 = .ok (.goto 4, 3) := dk_167 0 4 (dk_at dksX3_needs_0 13 rfl rfl)
theorem dX3_needs_16 : decode cX3_needs 16 = .ok (.iconst 0, 1) := dk_3 (dk_at dksX3_needs_0 16 rfl rfl)
theorem dX3_needs_17 : decode cX3_needs 17 = .ok (.putfield 135, 3) := dk_181 0 135 (dk_at dksX3_needs_0 17 rfl rfl)
theorem dX3_needs_20 : decode cX3_needs 20 = .ok (.aload_n 0, 1) := dk_42 (dk_at dksX3_needs_0 20 rfl rfl)
theorem dX3_needs_21 : decode cX3_needs 21 = .ok (.getfield 135, 3) := dk_180 0 135 (dk_at dksX3_needs_0 21 rfl rfl)
theorem dX3_needs_24 : decode cX3_needs 24 = .ok (.ifCond .ne 7, 3) := dk_154 0 7 (dk_at dksX3_needs_1 0 rfl rfl)
theorem dX3_needs_27 : decode cX3_needs 27 = .ok (.aload_n 0, 1) := dk_42 (dk_at dksX3_needs_1 3 rfl rfl)
theorem dX3_needs_28 : decode cX3_needs 28 = .ok (.invokevirtual 139, 3) := dk_182 0 139 (dk_at dksX3_needs_1 4 rfl rfl)
theorem dX3_needs_31 : decode cX3_needs 31 = .ok (.return_, 1) := dk_177 (dk_at dksX3_needs_1 7 rfl rfl)
abbrev cX3_number : ByteArray := prog_16_method_30_code
def yX3_number : MethodName := ⟨RX3, "number", "(II)V"⟩
def dkwX3_number_4 : List UInt8 := [28, 133, 184, 0, 54, 153, 0, 7, 4, 167, 0, 4, 3, 182, 0, 149, 177]
abbrev dktX3_number_4 : List UInt8 := dkwX3_number_4 ++ []
def dkwX3_number_3 : List UInt8 := [54, 4, 132, 5, 1, 167, 255, 209, 42, 21, 4, 181, 0, 146, 42, 29, 153, 0, 20, 21, 4, 133, 27, 133]
abbrev dktX3_number_3 : List UInt8 := dkwX3_number_3 ++ dktX3_number_4
def dkwX3_number_2 : List UInt8 := [164, 0, 8, 21, 4, 167, 0, 19, 16, 10, 21, 4, 104, 42, 180, 0, 22, 21, 5, 46, 96, 16, 48, 100]
abbrev dktX3_number_2 : List UInt8 := dkwX3_number_2 ++ dktX3_number_3
def dkwX3_number_1 : List UInt8 := [180, 0, 123, 54, 5, 21, 5, 42, 180, 0, 120, 162, 0, 44, 29, 153, 0, 40, 21, 4, 17, 3, 231]
abbrev dktX3_number_1 : List UInt8 := dkwX3_number_1 ++ dktX3_number_2
def dkwX3_number_0 : List UInt8 := [42, 180, 0, 135, 153, 0, 4, 177, 42, 42, 180, 0, 123, 182, 0, 126, 184, 0, 132, 62, 3, 54, 4, 42]
abbrev dktX3_number_0 : List UInt8 := dkwX3_number_0 ++ dktX3_number_1
theorem dksX3_number_0 : cX3_number.data.toList.drop 0 = dktX3_number_0 := by decide +kernel
theorem dksX3_number_1 : cX3_number.data.toList.drop 24 = dktX3_number_1 := dk_seg dksX3_number_0 24 rfl rfl
theorem dksX3_number_2 : cX3_number.data.toList.drop 47 = dktX3_number_2 := dk_seg dksX3_number_1 23 rfl rfl
theorem dksX3_number_3 : cX3_number.data.toList.drop 71 = dktX3_number_3 := dk_seg dksX3_number_2 24 rfl rfl
theorem dksX3_number_4 : cX3_number.data.toList.drop 95 = dktX3_number_4 := dk_seg dksX3_number_3 24 rfl rfl
theorem dX3_number_0 : decode cX3_number 0 = .ok (.aload_n 0, 1) := dk_42 (dk_at dksX3_number_0 0 rfl rfl)
theorem dX3_number_1 : decode cX3_number 1 = .ok (.getfield 135, 3) := dk_180 0 135 (dk_at dksX3_number_0 1 rfl rfl)
theorem dX3_number_4 : decode cX3_number 4 = .ok (.ifCond .eq 4, 3) := dk_153 0 4 (dk_at dksX3_number_0 4 rfl rfl)
theorem dX3_number_7 : decode cX3_number 7 = .ok (.return_, 1) := dk_177 (dk_at dksX3_number_0 7 rfl rfl)
theorem dX3_number_8 : decode cX3_number 8 = .ok (.aload_n 0, 1) := dk_42 (dk_at dksX3_number_0 8 rfl rfl)
theorem dX3_number_9 : decode cX3_number 9 = .ok (.aload_n 0, 1) := dk_42 (dk_at dksX3_number_0 9 rfl rfl)
theorem dX3_number_10 : decode cX3_number 10 = .ok (.getfield 123, 3) := dk_180 0 123 (dk_at dksX3_number_0 10 rfl rfl)
theorem dX3_number_13 : decode cX3_number 13 = .ok (.invokevirtual 126, 3) := dk_182 0 126 (dk_at dksX3_number_0 13 rfl rfl)
theorem dX3_number_16 : decode cX3_number 16 = .ok (.invokestatic 132, 3) := dk_184 0 132 (dk_at dksX3_number_0 16 rfl rfl)
theorem dX3_number_19 : decode cX3_number 19 = .ok (.istore_n 3, 1) := dk_62 (dk_at dksX3_number_0 19 rfl rfl)
theorem dX3_number_20 : decode cX3_number 20 = .ok (.iconst 0, 1) := dk_3 (dk_at dksX3_number_0 20 rfl rfl)
theorem dX3_number_21 : decode cX3_number 21 = .ok (.istore 4, 2) := dk_54 4 (dk_at dksX3_number_0 21 rfl rfl)
theorem dX3_number_23 : decode cX3_number 23 = .ok (.aload_n 0, 1) := dk_42 (dk_at dksX3_number_0 23 rfl rfl)
theorem dX3_number_24 : decode cX3_number 24 = .ok (.getfield 123, 3) := dk_180 0 123 (dk_at dksX3_number_1 0 rfl rfl)
theorem dX3_number_27 : decode cX3_number 27 = .ok (.istore 5, 2) := dk_54 5 (dk_at dksX3_number_1 3 rfl rfl)
theorem dX3_number_29 : decode cX3_number 29 = .ok (.iload 5, 2) := dk_21 5 (dk_at dksX3_number_1 5 rfl rfl)
theorem dX3_number_31 : decode cX3_number 31 = .ok (.aload_n 0, 1) := dk_42 (dk_at dksX3_number_1 7 rfl rfl)
theorem dX3_number_32 : decode cX3_number 32 = .ok (.getfield 120, 3) := dk_180 0 120 (dk_at dksX3_number_1 8 rfl rfl)
theorem dX3_number_35 : decode cX3_number 35 = .ok (.if_icmp .ge 44, 3) := dk_162 0 44 (dk_at dksX3_number_1 11 rfl rfl)
theorem dX3_number_38 : decode cX3_number 38 = .ok (.iload_n 3, 1) := dk_29 (dk_at dksX3_number_1 14 rfl rfl)
theorem dX3_number_39 : decode cX3_number 39 = .ok (.ifCond .eq 40, 3) := dk_153 0 40 (dk_at dksX3_number_1 15 rfl rfl)
theorem dX3_number_42 : decode cX3_number 42 = .ok (.iload 4, 2) := dk_21 4 (dk_at dksX3_number_1 18 rfl rfl)
theorem dX3_number_44 : decode cX3_number 44 = .ok (.sipush 999, 3) := dk_17 3 231 (dk_at dksX3_number_1 20 rfl rfl)
theorem dX3_number_47 : decode cX3_number 47 = .ok (.if_icmp .le 8, 3) := dk_164 0 8 (dk_at dksX3_number_2 0 rfl rfl)
theorem dX3_number_50 : decode cX3_number 50 = .ok (.iload 4, 2) := dk_21 4 (dk_at dksX3_number_2 3 rfl rfl)
theorem dX3_number_52 : decode cX3_number 52 = .ok (.goto 19, 3) := dk_167 0 19 (dk_at dksX3_number_2 5 rfl rfl)
theorem dX3_number_55 : decode cX3_number 55 = .ok (.bipush 10, 2) := dk_16 10 (dk_at dksX3_number_2 8 rfl rfl)
theorem dX3_number_57 : decode cX3_number 57 = .ok (.iload 4, 2) := dk_21 4 (dk_at dksX3_number_2 10 rfl rfl)
theorem dX3_number_59 : decode cX3_number 59 = .ok (.imul, 1) := dk_104 (dk_at dksX3_number_2 12 rfl rfl)
theorem dX3_number_60 : decode cX3_number 60 = .ok (.aload_n 0, 1) := dk_42 (dk_at dksX3_number_2 13 rfl rfl)
theorem dX3_number_61 : decode cX3_number 61 = .ok (.getfield 22, 3) := dk_180 0 22 (dk_at dksX3_number_2 14 rfl rfl)
theorem dX3_number_64 : decode cX3_number 64 = .ok (.iload 5, 2) := dk_21 5 (dk_at dksX3_number_2 17 rfl rfl)
theorem dX3_number_66 : decode cX3_number 66 = .ok (.iaload, 1) := dk_46 (dk_at dksX3_number_2 19 rfl rfl)
theorem dX3_number_67 : decode cX3_number 67 = .ok (.iadd, 1) := dk_96 (dk_at dksX3_number_2 20 rfl rfl)
theorem dX3_number_68 : decode cX3_number 68 = .ok (.bipush 48, 2) := dk_16 48 (dk_at dksX3_number_2 21 rfl rfl)
theorem dX3_number_70 : decode cX3_number 70 = .ok (.isub, 1) := dk_100 (dk_at dksX3_number_2 23 rfl rfl)
theorem dX3_number_71 : decode cX3_number 71 = .ok (.istore 4, 2) := dk_54 4 (dk_at dksX3_number_3 0 rfl rfl)
theorem dX3_number_73 : decode cX3_number 73 = .ok (.iinc 5 1, 3) := dk_132 5 1 (dk_at dksX3_number_3 2 rfl rfl)
theorem dX3_number_76 : decode cX3_number 76 = .ok (.goto (-47), 3) := dk_167 255 209 (dk_at dksX3_number_3 5 rfl rfl)
theorem dX3_number_79 : decode cX3_number 79 = .ok (.aload_n 0, 1) := dk_42 (dk_at dksX3_number_3 8 rfl rfl)
theorem dX3_number_80 : decode cX3_number 80 = .ok (.iload 4, 2) := dk_21 4 (dk_at dksX3_number_3 9 rfl rfl)
theorem dX3_number_82 : decode cX3_number 82 = .ok (.putfield 146, 3) := dk_181 0 146 (dk_at dksX3_number_3 11 rfl rfl)
theorem dX3_number_85 : decode cX3_number 85 = .ok (.aload_n 0, 1) := dk_42 (dk_at dksX3_number_3 14 rfl rfl)
theorem dX3_number_86 : decode cX3_number 86 = .ok (.iload_n 3, 1) := dk_29 (dk_at dksX3_number_3 15 rfl rfl)
theorem dX3_number_87 : decode cX3_number 87 = .ok (.ifCond .eq 20, 3) := dk_153 0 20 (dk_at dksX3_number_3 16 rfl rfl)
theorem dX3_number_90 : decode cX3_number 90 = .ok (.iload 4, 2) := dk_21 4 (dk_at dksX3_number_3 19 rfl rfl)
theorem dX3_number_92 : decode cX3_number 92 = .ok (.i2l, 1) := dk_133 (dk_at dksX3_number_3 21 rfl rfl)
theorem dX3_number_93 : decode cX3_number 93 = .ok (.iload_n 1, 1) := dk_27 (dk_at dksX3_number_3 22 rfl rfl)
theorem dX3_number_94 : decode cX3_number 94 = .ok (.i2l, 1) := dk_133 (dk_at dksX3_number_3 23 rfl rfl)
theorem dX3_number_95 : decode cX3_number 95 = .ok (.iload_n 2, 1) := dk_28 (dk_at dksX3_number_4 0 rfl rfl)
theorem dX3_number_96 : decode cX3_number 96 = .ok (.i2l, 1) := dk_133 (dk_at dksX3_number_4 1 rfl rfl)
theorem dX3_number_97 : decode cX3_number 97 = .ok (.invokestatic 54, 3) := dk_184 0 54 (dk_at dksX3_number_4 2 rfl rfl)
theorem dX3_number_100 : decode cX3_number 100 = .ok (.ifCond .eq 7, 3) := dk_153 0 7 (dk_at dksX3_number_4 5 rfl rfl)
theorem dX3_number_103 : decode cX3_number 103 = .ok (.iconst 1, 1) := dk_4 (dk_at dksX3_number_4 8 rfl rfl)
theorem dX3_number_104 : decode cX3_number 104 = .ok (.goto 4, 3) := dk_167 0 4 (dk_at dksX3_number_4 9 rfl rfl)
theorem dX3_number_107 : decode cX3_number 107 = .ok (.iconst 0, 1) := dk_3 (dk_at dksX3_number_4 12 rfl rfl)
theorem dX3_number_108 : decode cX3_number 108 = .ok (.invokevirtual 149, 3) := dk_182 0 149 (dk_at dksX3_number_4 13 rfl rfl)
theorem dX3_number_111 : decode cX3_number 111 = .ok (.return_, 1) := dk_177 (dk_at dksX3_number_4 16 rfl rfl)
abbrev cX3_sameNumber : ByteArray := prog_16_method_34_code
def yX3_sameNumber : MethodName := ⟨RX3, "sameNumber", "(I)Z"⟩
def dkwX3_sameNumber_2 : List UInt8 := [28, 27, 160, 0, 7, 4, 167, 0, 4, 3, 172]
abbrev dktX3_sameNumber_2 : List UInt8 := dkwX3_sameNumber_2 ++ []
def dkwX3_sameNumber_1 : List UInt8 := [167, 0, 17, 16, 10, 28, 104, 42, 180, 0, 22, 29, 46, 96, 16, 48, 100, 61, 132, 3, 1, 167, 255, 219]
abbrev dktX3_sameNumber_1 : List UInt8 := dkwX3_sameNumber_1 ++ dktX3_sameNumber_2
def dkwX3_sameNumber_0 : List UInt8 := [3, 61, 42, 180, 0, 123, 62, 29, 42, 180, 0, 120, 162, 0, 35, 28, 17, 3, 231, 164, 0, 7, 28]
abbrev dktX3_sameNumber_0 : List UInt8 := dkwX3_sameNumber_0 ++ dktX3_sameNumber_1
theorem dksX3_sameNumber_0 : cX3_sameNumber.data.toList.drop 0 = dktX3_sameNumber_0 := by decide +kernel
theorem dksX3_sameNumber_1 : cX3_sameNumber.data.toList.drop 23 = dktX3_sameNumber_1 := dk_seg dksX3_sameNumber_0 23 rfl rfl
theorem dksX3_sameNumber_2 : cX3_sameNumber.data.toList.drop 47 = dktX3_sameNumber_2 := dk_seg dksX3_sameNumber_1 24 rfl rfl
theorem dX3_sameNumber_0 : decode cX3_sameNumber 0 = .ok (.iconst 0, 1) := dk_3 (dk_at dksX3_sameNumber_0 0 rfl rfl)
theorem dX3_sameNumber_1 : decode cX3_sameNumber 1 = .ok (.istore_n 2, 1) := dk_61 (dk_at dksX3_sameNumber_0 1 rfl rfl)
theorem dX3_sameNumber_2 : decode cX3_sameNumber 2 = .ok (.aload_n 0, 1) := dk_42 (dk_at dksX3_sameNumber_0 2 rfl rfl)
theorem dX3_sameNumber_3 : decode cX3_sameNumber 3 = .ok (.getfield 123, 3) := dk_180 0 123 (dk_at dksX3_sameNumber_0 3 rfl rfl)
theorem dX3_sameNumber_6 : decode cX3_sameNumber 6 = .ok (.istore_n 3, 1) := dk_62 (dk_at dksX3_sameNumber_0 6 rfl rfl)
theorem dX3_sameNumber_7 : decode cX3_sameNumber 7 = .ok (.iload_n 3, 1) := dk_29 (dk_at dksX3_sameNumber_0 7 rfl rfl)
theorem dX3_sameNumber_8 : decode cX3_sameNumber 8 = .ok (.aload_n 0, 1) := dk_42 (dk_at dksX3_sameNumber_0 8 rfl rfl)
theorem dX3_sameNumber_9 : decode cX3_sameNumber 9 = .ok (.getfield 120, 3) := dk_180 0 120 (dk_at dksX3_sameNumber_0 9 rfl rfl)
theorem dX3_sameNumber_12 : decode cX3_sameNumber 12 = .ok (.if_icmp .ge 35, 3) := dk_162 0 35 (dk_at dksX3_sameNumber_0 12 rfl rfl)
theorem dX3_sameNumber_15 : decode cX3_sameNumber 15 = .ok (.iload_n 2, 1) := dk_28 (dk_at dksX3_sameNumber_0 15 rfl rfl)
theorem dX3_sameNumber_16 : decode cX3_sameNumber 16 = .ok (.sipush 999, 3) := dk_17 3 231 (dk_at dksX3_sameNumber_0 16 rfl rfl)
theorem dX3_sameNumber_19 : decode cX3_sameNumber 19 = .ok (.if_icmp .le 7, 3) := dk_164 0 7 (dk_at dksX3_sameNumber_0 19 rfl rfl)
theorem dX3_sameNumber_22 : decode cX3_sameNumber 22 = .ok (.iload_n 2, 1) := dk_28 (dk_at dksX3_sameNumber_0 22 rfl rfl)
theorem dX3_sameNumber_23 : decode cX3_sameNumber 23 = .ok (.goto 17, 3) := dk_167 0 17 (dk_at dksX3_sameNumber_1 0 rfl rfl)
theorem dX3_sameNumber_26 : decode cX3_sameNumber 26 = .ok (.bipush 10, 2) := dk_16 10 (dk_at dksX3_sameNumber_1 3 rfl rfl)
theorem dX3_sameNumber_28 : decode cX3_sameNumber 28 = .ok (.iload_n 2, 1) := dk_28 (dk_at dksX3_sameNumber_1 5 rfl rfl)
theorem dX3_sameNumber_29 : decode cX3_sameNumber 29 = .ok (.imul, 1) := dk_104 (dk_at dksX3_sameNumber_1 6 rfl rfl)
theorem dX3_sameNumber_30 : decode cX3_sameNumber 30 = .ok (.aload_n 0, 1) := dk_42 (dk_at dksX3_sameNumber_1 7 rfl rfl)
theorem dX3_sameNumber_31 : decode cX3_sameNumber 31 = .ok (.getfield 22, 3) := dk_180 0 22 (dk_at dksX3_sameNumber_1 8 rfl rfl)
theorem dX3_sameNumber_34 : decode cX3_sameNumber 34 = .ok (.iload_n 3, 1) := dk_29 (dk_at dksX3_sameNumber_1 11 rfl rfl)
theorem dX3_sameNumber_35 : decode cX3_sameNumber 35 = .ok (.iaload, 1) := dk_46 (dk_at dksX3_sameNumber_1 12 rfl rfl)
theorem dX3_sameNumber_36 : decode cX3_sameNumber 36 = .ok (.iadd, 1) := dk_96 (dk_at dksX3_sameNumber_1 13 rfl rfl)
theorem dX3_sameNumber_37 : decode cX3_sameNumber 37 = .ok (.bipush 48, 2) := dk_16 48 (dk_at dksX3_sameNumber_1 14 rfl rfl)
theorem dX3_sameNumber_39 : decode cX3_sameNumber 39 = .ok (.isub, 1) := dk_100 (dk_at dksX3_sameNumber_1 16 rfl rfl)
theorem dX3_sameNumber_40 : decode cX3_sameNumber 40 = .ok (.istore_n 2, 1) := dk_61 (dk_at dksX3_sameNumber_1 17 rfl rfl)
theorem dX3_sameNumber_41 : decode cX3_sameNumber 41 = .ok (.iinc 3 1, 3) := dk_132 3 1 (dk_at dksX3_sameNumber_1 18 rfl rfl)
theorem dX3_sameNumber_44 : decode cX3_sameNumber 44 = .ok (.goto (-37), 3) := dk_167 255 219 (dk_at dksX3_sameNumber_1 21 rfl rfl)
theorem dX3_sameNumber_47 : decode cX3_sameNumber 47 = .ok (.iload_n 2, 1) := dk_28 (dk_at dksX3_sameNumber_2 0 rfl rfl)
theorem dX3_sameNumber_48 : decode cX3_sameNumber 48 = .ok (.iload_n 1, 1) := dk_27 (dk_at dksX3_sameNumber_2 1 rfl rfl)
theorem dX3_sameNumber_49 : decode cX3_sameNumber 49 = .ok (.if_icmp .ne 7, 3) := dk_160 0 7 (dk_at dksX3_sameNumber_2 2 rfl rfl)
theorem dX3_sameNumber_52 : decode cX3_sameNumber 52 = .ok (.iconst 1, 1) := dk_4 (dk_at dksX3_sameNumber_2 5 rfl rfl)
theorem dX3_sameNumber_53 : decode cX3_sameNumber 53 = .ok (.goto 4, 3) := dk_167 0 4 (dk_at dksX3_sameNumber_2 6 rfl rfl)
theorem dX3_sameNumber_56 : decode cX3_sameNumber 56 = .ok (.iconst 0, 1) := dk_3 (dk_at dksX3_sameNumber_2 9 rfl rfl)
theorem dX3_sameNumber_57 : decode cX3_sameNumber 57 = .ok (.ireturn, 1) := dk_172 (dk_at dksX3_sameNumber_2 10 rfl rfl)
abbrev cX3_perhaps : ByteArray := prog_16_method_32_code
def yX3_perhaps : MethodName := ⟨RX3, "perhaps", "(ZI)I"⟩
def dkwX3_perhaps_1 : List UInt8 := [42, 180, 0, 146, 172]
abbrev dktX3_perhaps_1 : List UInt8 := dkwX3_perhaps_1 ++ []
def dkwX3_perhaps_0 : List UInt8 := [42, 180, 0, 135, 154, 0, 7, 27, 154, 0, 5, 3, 172, 42, 4, 182, 0, 149, 42, 3, 28, 182, 0, 157]
abbrev dktX3_perhaps_0 : List UInt8 := dkwX3_perhaps_0 ++ dktX3_perhaps_1
theorem dksX3_perhaps_0 : cX3_perhaps.data.toList.drop 0 = dktX3_perhaps_0 := by decide +kernel
theorem dksX3_perhaps_1 : cX3_perhaps.data.toList.drop 24 = dktX3_perhaps_1 := dk_seg dksX3_perhaps_0 24 rfl rfl
theorem dX3_perhaps_0 : decode cX3_perhaps 0 = .ok (.aload_n 0, 1) := dk_42 (dk_at dksX3_perhaps_0 0 rfl rfl)
theorem dX3_perhaps_1 : decode cX3_perhaps 1 = .ok (.getfield 135, 3) := dk_180 0 135 (dk_at dksX3_perhaps_0 1 rfl rfl)
theorem dX3_perhaps_4 : decode cX3_perhaps 4 = .ok (.ifCond .ne 7, 3) := dk_154 0 7 (dk_at dksX3_perhaps_0 4 rfl rfl)
theorem dX3_perhaps_7 : decode cX3_perhaps 7 = .ok (.iload_n 1, 1) := dk_27 (dk_at dksX3_perhaps_0 7 rfl rfl)
theorem dX3_perhaps_8 : decode cX3_perhaps 8 = .ok (.ifCond .ne 5, 3) := dk_154 0 5 (dk_at dksX3_perhaps_0 8 rfl rfl)
theorem dX3_perhaps_11 : decode cX3_perhaps 11 = .ok (.iconst 0, 1) := dk_3 (dk_at dksX3_perhaps_0 11 rfl rfl)
theorem dX3_perhaps_12 : decode cX3_perhaps 12 = .ok (.ireturn, 1) := dk_172 (dk_at dksX3_perhaps_0 12 rfl rfl)
theorem dX3_perhaps_13 : decode cX3_perhaps 13 = .ok (.aload_n 0, 1) := dk_42 (dk_at dksX3_perhaps_0 13 rfl rfl)
theorem dX3_perhaps_14 : decode cX3_perhaps 14 = .ok (.iconst 1, 1) := dk_4 (dk_at dksX3_perhaps_0 14 rfl rfl)
theorem dX3_perhaps_15 : decode cX3_perhaps 15 = .ok (.invokevirtual 149, 3) := dk_182 0 149 (dk_at dksX3_perhaps_0 15 rfl rfl)
theorem dX3_perhaps_18 : decode cX3_perhaps 18 = .ok (.aload_n 0, 1) := dk_42 (dk_at dksX3_perhaps_0 18 rfl rfl)
theorem dX3_perhaps_19 : decode cX3_perhaps 19 = .ok (.iconst 0, 1) := dk_3 (dk_at dksX3_perhaps_0 19 rfl rfl)
theorem dX3_perhaps_20 : decode cX3_perhaps 20 = .ok (.iload_n 2, 1) := dk_28 (dk_at dksX3_perhaps_0 20 rfl rfl)
theorem dX3_perhaps_21 : decode cX3_perhaps 21 = .ok (.invokevirtual 157, 3) := dk_182 0 157 (dk_at dksX3_perhaps_0 21 rfl rfl)
theorem dX3_perhaps_24 : decode cX3_perhaps 24 = .ok (.aload_n 0, 1) := dk_42 (dk_at dksX3_perhaps_1 0 rfl rfl)
theorem dX3_perhaps_25 : decode cX3_perhaps 25 = .ok (.getfield 146, 3) := dk_180 0 146 (dk_at dksX3_perhaps_1 1 rfl rfl)
theorem dX3_perhaps_28 : decode cX3_perhaps 28 = .ok (.ireturn, 1) := dk_172 (dk_at dksX3_perhaps_1 4 rfl rfl)
abbrev cX3_nightItem : ByteArray := prog_16_method_35_code
def yX3_nightItem : MethodName := ⟨RX3, "nightItem", "()V"⟩
def dkwX3_nightItem_4 : List UInt8 := [154, 0, 15, 42, 180, 0, 7, 5, 27, 96, 42, 180, 0, 146, 79, 177]
abbrev dktX3_nightItem_4 : List UInt8 := dkwX3_nightItem_4 ++ []
def dkwX3_nightItem_3 : List UInt8 := [155, 0, 7, 4, 167, 0, 4, 3, 182, 0, 149, 42, 3, 27, 184, 0, 103, 182, 0, 157, 42, 180, 0, 135]
abbrev dktX3_nightItem_3 : List UInt8 := dkwX3_nightItem_3 ++ dktX3_nightItem_4
def dkwX3_nightItem_2 : List UInt8 := [16, 104, 16, 117, 16, 109, 16, 98, 3, 3, 182, 0, 153, 153, 0, 7, 7, 167, 0, 4, 2, 60, 42, 27]
abbrev dktX3_nightItem_2 : List UInt8 := dkwX3_nightItem_2 ++ dktX3_nightItem_3
def dkwX3_nightItem_1 : List UInt8 := [16, 119, 16, 105, 16, 110, 16, 100, 3, 3, 3, 182, 0, 153, 153, 0, 7, 4, 167, 0, 27, 42, 16, 116]
abbrev dktX3_nightItem_1 : List UInt8 := dkwX3_nightItem_1 ++ dktX3_nightItem_2
def dkwX3_nightItem_0 : List UInt8 := [42, 16, 99, 16, 111, 16, 108, 16, 100, 3, 3, 3, 182, 0, 153, 153, 0, 7, 3, 167, 0, 49, 42]
abbrev dktX3_nightItem_0 : List UInt8 := dkwX3_nightItem_0 ++ dktX3_nightItem_1
theorem dksX3_nightItem_0 : cX3_nightItem.data.toList.drop 0 = dktX3_nightItem_0 := by decide +kernel
theorem dksX3_nightItem_1 : cX3_nightItem.data.toList.drop 23 = dktX3_nightItem_1 := dk_seg dksX3_nightItem_0 23 rfl rfl
theorem dksX3_nightItem_2 : cX3_nightItem.data.toList.drop 47 = dktX3_nightItem_2 := dk_seg dksX3_nightItem_1 24 rfl rfl
theorem dksX3_nightItem_3 : cX3_nightItem.data.toList.drop 71 = dktX3_nightItem_3 := dk_seg dksX3_nightItem_2 24 rfl rfl
theorem dksX3_nightItem_4 : cX3_nightItem.data.toList.drop 95 = dktX3_nightItem_4 := dk_seg dksX3_nightItem_3 24 rfl rfl
theorem dX3_nightItem_0 : decode cX3_nightItem 0 = .ok (.aload_n 0, 1) := dk_42 (dk_at dksX3_nightItem_0 0 rfl rfl)
theorem dX3_nightItem_1 : decode cX3_nightItem 1 = .ok (.bipush 99, 2) := dk_16 99 (dk_at dksX3_nightItem_0 1 rfl rfl)
theorem dX3_nightItem_3 : decode cX3_nightItem 3 = .ok (.bipush 111, 2) := dk_16 111 (dk_at dksX3_nightItem_0 3 rfl rfl)
theorem dX3_nightItem_5 : decode cX3_nightItem 5 = .ok (.bipush 108, 2) := dk_16 108 (dk_at dksX3_nightItem_0 5 rfl rfl)
theorem dX3_nightItem_7 : decode cX3_nightItem 7 = .ok (.bipush 100, 2) := dk_16 100 (dk_at dksX3_nightItem_0 7 rfl rfl)
theorem dX3_nightItem_9 : decode cX3_nightItem 9 = .ok (.iconst 0, 1) := dk_3 (dk_at dksX3_nightItem_0 9 rfl rfl)
theorem dX3_nightItem_10 : decode cX3_nightItem 10 = .ok (.iconst 0, 1) := dk_3 (dk_at dksX3_nightItem_0 10 rfl rfl)
theorem dX3_nightItem_11 : decode cX3_nightItem 11 = .ok (.iconst 0, 1) := dk_3 (dk_at dksX3_nightItem_0 11 rfl rfl)
theorem dX3_nightItem_12 : decode cX3_nightItem 12 = .ok (.invokevirtual 153, 3) := dk_182 0 153 (dk_at dksX3_nightItem_0 12 rfl rfl)
theorem dX3_nightItem_15 : decode cX3_nightItem 15 = .ok (.ifCond .eq 7, 3) := dk_153 0 7 (dk_at dksX3_nightItem_0 15 rfl rfl)
theorem dX3_nightItem_18 : decode cX3_nightItem 18 = .ok (.iconst 0, 1) := dk_3 (dk_at dksX3_nightItem_0 18 rfl rfl)
theorem dX3_nightItem_19 : decode cX3_nightItem 19 = .ok (.goto 49, 3) := dk_167 0 49 (dk_at dksX3_nightItem_0 19 rfl rfl)
theorem dX3_nightItem_22 : decode cX3_nightItem 22 = .ok (.aload_n 0, 1) := dk_42 (dk_at dksX3_nightItem_0 22 rfl rfl)
theorem dX3_nightItem_23 : decode cX3_nightItem 23 = .ok (.bipush 119, 2) := dk_16 119 (dk_at dksX3_nightItem_1 0 rfl rfl)
theorem dX3_nightItem_25 : decode cX3_nightItem 25 = .ok (.bipush 105, 2) := dk_16 105 (dk_at dksX3_nightItem_1 2 rfl rfl)
theorem dX3_nightItem_27 : decode cX3_nightItem 27 = .ok (.bipush 110, 2) := dk_16 110 (dk_at dksX3_nightItem_1 4 rfl rfl)
theorem dX3_nightItem_29 : decode cX3_nightItem 29 = .ok (.bipush 100, 2) := dk_16 100 (dk_at dksX3_nightItem_1 6 rfl rfl)
theorem dX3_nightItem_31 : decode cX3_nightItem 31 = .ok (.iconst 0, 1) := dk_3 (dk_at dksX3_nightItem_1 8 rfl rfl)
theorem dX3_nightItem_32 : decode cX3_nightItem 32 = .ok (.iconst 0, 1) := dk_3 (dk_at dksX3_nightItem_1 9 rfl rfl)
theorem dX3_nightItem_33 : decode cX3_nightItem 33 = .ok (.iconst 0, 1) := dk_3 (dk_at dksX3_nightItem_1 10 rfl rfl)
theorem dX3_nightItem_34 : decode cX3_nightItem 34 = .ok (.invokevirtual 153, 3) := dk_182 0 153 (dk_at dksX3_nightItem_1 11 rfl rfl)
theorem dX3_nightItem_37 : decode cX3_nightItem 37 = .ok (.ifCond .eq 7, 3) := dk_153 0 7 (dk_at dksX3_nightItem_1 14 rfl rfl)
theorem dX3_nightItem_40 : decode cX3_nightItem 40 = .ok (.iconst 1, 1) := dk_4 (dk_at dksX3_nightItem_1 17 rfl rfl)
theorem dX3_nightItem_41 : decode cX3_nightItem 41 = .ok (.goto 27, 3) := dk_167 0 27 (dk_at dksX3_nightItem_1 18 rfl rfl)
theorem dX3_nightItem_44 : decode cX3_nightItem 44 = .ok (.aload_n 0, 1) := dk_42 (dk_at dksX3_nightItem_1 21 rfl rfl)
theorem dX3_nightItem_45 : decode cX3_nightItem 45 = .ok (.bipush 116, 2) := dk_16 116 (dk_at dksX3_nightItem_1 22 rfl rfl)
theorem dX3_nightItem_47 : decode cX3_nightItem 47 = .ok (.bipush 104, 2) := dk_16 104 (dk_at dksX3_nightItem_2 0 rfl rfl)
theorem dX3_nightItem_49 : decode cX3_nightItem 49 = .ok (.bipush 117, 2) := dk_16 117 (dk_at dksX3_nightItem_2 2 rfl rfl)
theorem dX3_nightItem_51 : decode cX3_nightItem 51 = .ok (.bipush 109, 2) := dk_16 109 (dk_at dksX3_nightItem_2 4 rfl rfl)
theorem dX3_nightItem_53 : decode cX3_nightItem 53 = .ok (.bipush 98, 2) := dk_16 98 (dk_at dksX3_nightItem_2 6 rfl rfl)
theorem dX3_nightItem_55 : decode cX3_nightItem 55 = .ok (.iconst 0, 1) := dk_3 (dk_at dksX3_nightItem_2 8 rfl rfl)
theorem dX3_nightItem_56 : decode cX3_nightItem 56 = .ok (.iconst 0, 1) := dk_3 (dk_at dksX3_nightItem_2 9 rfl rfl)
theorem dX3_nightItem_57 : decode cX3_nightItem 57 = .ok (.invokevirtual 153, 3) := dk_182 0 153 (dk_at dksX3_nightItem_2 10 rfl rfl)
theorem dX3_nightItem_60 : decode cX3_nightItem 60 = .ok (.ifCond .eq 7, 3) := dk_153 0 7 (dk_at dksX3_nightItem_2 13 rfl rfl)
theorem dX3_nightItem_63 : decode cX3_nightItem 63 = .ok (.iconst 4, 1) := dk_7 (dk_at dksX3_nightItem_2 16 rfl rfl)
theorem dX3_nightItem_64 : decode cX3_nightItem 64 = .ok (.goto 4, 3) := dk_167 0 4 (dk_at dksX3_nightItem_2 17 rfl rfl)
theorem dX3_nightItem_67 : decode cX3_nightItem 67 = .ok (.iconst (-1), 1) := dk_2 (dk_at dksX3_nightItem_2 20 rfl rfl)
theorem dX3_nightItem_68 : decode cX3_nightItem 68 = .ok (.istore_n 1, 1) := dk_60 (dk_at dksX3_nightItem_2 21 rfl rfl)
theorem dX3_nightItem_69 : decode cX3_nightItem 69 = .ok (.aload_n 0, 1) := dk_42 (dk_at dksX3_nightItem_2 22 rfl rfl)
theorem dX3_nightItem_70 : decode cX3_nightItem 70 = .ok (.iload_n 1, 1) := dk_27 (dk_at dksX3_nightItem_2 23 rfl rfl)
theorem dX3_nightItem_71 : decode cX3_nightItem 71 = .ok (.ifCond .lt 7, 3) := dk_155 0 7 (dk_at dksX3_nightItem_3 0 rfl rfl)
theorem dX3_nightItem_74 : decode cX3_nightItem 74 = .ok (.iconst 1, 1) := dk_4 (dk_at dksX3_nightItem_3 3 rfl rfl)
theorem dX3_nightItem_75 : decode cX3_nightItem 75 = .ok (.goto 4, 3) := dk_167 0 4 (dk_at dksX3_nightItem_3 4 rfl rfl)
theorem dX3_nightItem_78 : decode cX3_nightItem 78 = .ok (.iconst 0, 1) := dk_3 (dk_at dksX3_nightItem_3 7 rfl rfl)
theorem dX3_nightItem_79 : decode cX3_nightItem 79 = .ok (.invokevirtual 149, 3) := dk_182 0 149 (dk_at dksX3_nightItem_3 8 rfl rfl)
theorem dX3_nightItem_82 : decode cX3_nightItem 82 = .ok (.aload_n 0, 1) := dk_42 (dk_at dksX3_nightItem_3 11 rfl rfl)
theorem dX3_nightItem_83 : decode cX3_nightItem 83 = .ok (.iconst 0, 1) := dk_3 (dk_at dksX3_nightItem_3 12 rfl rfl)
theorem dX3_nightItem_84 : decode cX3_nightItem 84 = .ok (.iload_n 1, 1) := dk_27 (dk_at dksX3_nightItem_3 13 rfl rfl)
theorem dX3_nightItem_85 : decode cX3_nightItem 85 = .ok (.invokestatic 103, 3) := dk_184 0 103 (dk_at dksX3_nightItem_3 14 rfl rfl)
theorem dX3_nightItem_88 : decode cX3_nightItem 88 = .ok (.invokevirtual 157, 3) := dk_182 0 157 (dk_at dksX3_nightItem_3 17 rfl rfl)
theorem dX3_nightItem_91 : decode cX3_nightItem 91 = .ok (.aload_n 0, 1) := dk_42 (dk_at dksX3_nightItem_3 20 rfl rfl)
theorem dX3_nightItem_92 : decode cX3_nightItem 92 = .ok (.getfield 135, 3) := dk_180 0 135 (dk_at dksX3_nightItem_3 21 rfl rfl)
theorem dX3_nightItem_95 : decode cX3_nightItem 95 = .ok (.ifCond .ne 15, 3) := dk_154 0 15 (dk_at dksX3_nightItem_4 0 rfl rfl)
theorem dX3_nightItem_98 : decode cX3_nightItem 98 = .ok (.aload_n 0, 1) := dk_42 (dk_at dksX3_nightItem_4 3 rfl rfl)
theorem dX3_nightItem_99 : decode cX3_nightItem 99 = .ok (.getfield 7, 3) := dk_180 0 7 (dk_at dksX3_nightItem_4 4 rfl rfl)
theorem dX3_nightItem_102 : decode cX3_nightItem 102 = .ok (.iconst 2, 1) := dk_5 (dk_at dksX3_nightItem_4 7 rfl rfl)
theorem dX3_nightItem_103 : decode cX3_nightItem 103 = .ok (.iload_n 1, 1) := dk_27 (dk_at dksX3_nightItem_4 8 rfl rfl)
theorem dX3_nightItem_104 : decode cX3_nightItem 104 = .ok (.iadd, 1) := dk_96 (dk_at dksX3_nightItem_4 9 rfl rfl)
theorem dX3_nightItem_105 : decode cX3_nightItem 105 = .ok (.aload_n 0, 1) := dk_42 (dk_at dksX3_nightItem_4 10 rfl rfl)
theorem dX3_nightItem_106 : decode cX3_nightItem 106 = .ok (.getfield 146, 3) := dk_180 0 146 (dk_at dksX3_nightItem_4 11 rfl rfl)
theorem dX3_nightItem_109 : decode cX3_nightItem 109 = .ok (.iastore, 1) := dk_79 (dk_at dksX3_nightItem_4 14 rfl rfl)
theorem dX3_nightItem_110 : decode cX3_nightItem 110 = .ok (.return_, 1) := dk_177 (dk_at dksX3_nightItem_4 15 rfl rfl)
abbrev cX3_putsBack : ByteArray := prog_16_method_38_code
def yX3_putsBack : MethodName := ⟨RX3, "putsBack", "()V"⟩
def dkwX3_putsBack_1 : List UInt8 := [167, 255, 234, 177]
abbrev dktX3_putsBack_1 : List UInt8 := dkwX3_putsBack_1 ++ []
def dkwX3_putsBack_0 : List UInt8 := [3, 60, 27, 17, 0, 169, 162, 0, 21, 42, 180, 0, 7, 27, 42, 180, 0, 16, 27, 46, 79, 132, 1, 1]
abbrev dktX3_putsBack_0 : List UInt8 := dkwX3_putsBack_0 ++ dktX3_putsBack_1
theorem dksX3_putsBack_0 : cX3_putsBack.data.toList.drop 0 = dktX3_putsBack_0 := by decide +kernel
theorem dksX3_putsBack_1 : cX3_putsBack.data.toList.drop 24 = dktX3_putsBack_1 := dk_seg dksX3_putsBack_0 24 rfl rfl
theorem dX3_putsBack_0 : decode cX3_putsBack 0 = .ok (.iconst 0, 1) := dk_3 (dk_at dksX3_putsBack_0 0 rfl rfl)
theorem dX3_putsBack_1 : decode cX3_putsBack 1 = .ok (.istore_n 1, 1) := dk_60 (dk_at dksX3_putsBack_0 1 rfl rfl)
theorem dX3_putsBack_2 : decode cX3_putsBack 2 = .ok (.iload_n 1, 1) := dk_27 (dk_at dksX3_putsBack_0 2 rfl rfl)
theorem dX3_putsBack_3 : decode cX3_putsBack 3 = .ok (.sipush 169, 3) := dk_17 0 169 (dk_at dksX3_putsBack_0 3 rfl rfl)
theorem dX3_putsBack_6 : decode cX3_putsBack 6 = .ok (.if_icmp .ge 21, 3) := dk_162 0 21 (dk_at dksX3_putsBack_0 6 rfl rfl)
theorem dX3_putsBack_9 : decode cX3_putsBack 9 = .ok (.aload_n 0, 1) := dk_42 (dk_at dksX3_putsBack_0 9 rfl rfl)
theorem dX3_putsBack_10 : decode cX3_putsBack 10 = .ok (.getfield 7, 3) := dk_180 0 7 (dk_at dksX3_putsBack_0 10 rfl rfl)
theorem dX3_putsBack_13 : decode cX3_putsBack 13 = .ok (.iload_n 1, 1) := dk_27 (dk_at dksX3_putsBack_0 13 rfl rfl)
theorem dX3_putsBack_14 : decode cX3_putsBack 14 = .ok (.aload_n 0, 1) := dk_42 (dk_at dksX3_putsBack_0 14 rfl rfl)
theorem dX3_putsBack_15 : decode cX3_putsBack 15 = .ok (.getfield 16, 3) := dk_180 0 16 (dk_at dksX3_putsBack_0 15 rfl rfl)
theorem dX3_putsBack_18 : decode cX3_putsBack 18 = .ok (.iload_n 1, 1) := dk_27 (dk_at dksX3_putsBack_0 18 rfl rfl)
theorem dX3_putsBack_19 : decode cX3_putsBack 19 = .ok (.iaload, 1) := dk_46 (dk_at dksX3_putsBack_0 19 rfl rfl)
theorem dX3_putsBack_20 : decode cX3_putsBack 20 = .ok (.iastore, 1) := dk_79 (dk_at dksX3_putsBack_0 20 rfl rfl)
theorem dX3_putsBack_21 : decode cX3_putsBack 21 = .ok (.iinc 1 1, 3) := dk_132 1 1 (dk_at dksX3_putsBack_0 21 rfl rfl)
theorem dX3_putsBack_24 : decode cX3_putsBack 24 = .ok (.goto (-22), 3) := dk_167 255 234 (dk_at dksX3_putsBack_1 0 rfl rfl)
theorem dX3_putsBack_27 : decode cX3_putsBack 27 = .ok (.return_, 1) := dk_177 (dk_at dksX3_putsBack_1 3 rfl rfl)
abbrev cX3_pressure : ByteArray := prog_16_method_49_code
def yX3_pressure : MethodName := ⟨RX3, "pressure", "(I)I"⟩
def dkwX3_pressure_1 : List UInt8 := [46, 172]
abbrev dktX3_pressure_1 : List UInt8 := dkwX3_pressure_1 ++ []
def dkwX3_pressure_0 : List UInt8 := [42, 27, 182, 0, 69, 154, 0, 10, 42, 18, 53, 182, 0, 59, 172, 42, 182, 0, 208, 42, 180, 0, 25, 27]
abbrev dktX3_pressure_0 : List UInt8 := dkwX3_pressure_0 ++ dktX3_pressure_1
theorem dksX3_pressure_0 : cX3_pressure.data.toList.drop 0 = dktX3_pressure_0 := by decide +kernel
theorem dksX3_pressure_1 : cX3_pressure.data.toList.drop 24 = dktX3_pressure_1 := dk_seg dksX3_pressure_0 24 rfl rfl
theorem dX3_pressure_0 : decode cX3_pressure 0 = .ok (.aload_n 0, 1) := dk_42 (dk_at dksX3_pressure_0 0 rfl rfl)
theorem dX3_pressure_1 : decode cX3_pressure 1 = .ok (.iload_n 1, 1) := dk_27 (dk_at dksX3_pressure_0 1 rfl rfl)
theorem dX3_pressure_2 : decode cX3_pressure 2 = .ok (.invokevirtual 69, 3) := dk_182 0 69 (dk_at dksX3_pressure_0 2 rfl rfl)
theorem dX3_pressure_5 : decode cX3_pressure 5 = .ok (.ifCond .ne 10, 3) := dk_154 0 10 (dk_at dksX3_pressure_0 5 rfl rfl)
theorem dX3_pressure_8 : decode cX3_pressure 8 = .ok (.aload_n 0, 1) := dk_42 (dk_at dksX3_pressure_0 8 rfl rfl)
theorem dX3_pressure_9 : decode cX3_pressure 9 = .ok (.ldc 53, 2) := dk_18 53 (dk_at dksX3_pressure_0 9 rfl rfl)
theorem dX3_pressure_11 : decode cX3_pressure 11 = .ok (.invokevirtual 59, 3) := dk_182 0 59 (dk_at dksX3_pressure_0 11 rfl rfl)
theorem dX3_pressure_14 : decode cX3_pressure 14 = .ok (.ireturn, 1) := dk_172 (dk_at dksX3_pressure_0 14 rfl rfl)
theorem dX3_pressure_15 : decode cX3_pressure 15 = .ok (.aload_n 0, 1) := dk_42 (dk_at dksX3_pressure_0 15 rfl rfl)
theorem dX3_pressure_16 : decode cX3_pressure 16 = .ok (.invokevirtual 208, 3) := dk_182 0 208 (dk_at dksX3_pressure_0 16 rfl rfl)
theorem dX3_pressure_19 : decode cX3_pressure 19 = .ok (.aload_n 0, 1) := dk_42 (dk_at dksX3_pressure_0 19 rfl rfl)
theorem dX3_pressure_20 : decode cX3_pressure 20 = .ok (.getfield 25, 3) := dk_180 0 25 (dk_at dksX3_pressure_0 20 rfl rfl)
theorem dX3_pressure_23 : decode cX3_pressure 23 = .ok (.iload_n 1, 1) := dk_27 (dk_at dksX3_pressure_0 23 rfl rfl)
theorem dX3_pressure_24 : decode cX3_pressure 24 = .ok (.iaload, 1) := dk_46 (dk_at dksX3_pressure_1 0 rfl rfl)
theorem dX3_pressure_25 : decode cX3_pressure 25 = .ok (.ireturn, 1) := dk_172 (dk_at dksX3_pressure_1 1 rfl rfl)
abbrev cX3_rests : ByteArray := prog_16_method_42_code
def yX3_rests : MethodName := ⟨RX3, "rests", "()V"⟩
def dkwX3_rests_3 : List UInt8 := [181, 0, 196, 177]
abbrev dktX3_rests_3 : List UInt8 := dkwX3_rests_3 ++ []
def dkwX3_rests_2 : List UInt8 := [4, 96, 181, 0, 189, 167, 255, 230, 42, 42, 180, 0, 189, 16, 60, 160, 0, 7, 4, 167, 0, 4, 3]
abbrev dktX3_rests_2 : List UInt8 := dkwX3_rests_2 ++ dktX3_rests_3
def dkwX3_rests_1 : List UInt8 := [181, 0, 189, 42, 180, 0, 189, 16, 60, 162, 0, 23, 42, 182, 0, 192, 153, 0, 16, 42, 89, 180, 0, 189]
abbrev dktX3_rests_1 : List UInt8 := dkwX3_rests_1 ++ dktX3_rests_2
def dkwX3_rests_0 : List UInt8 := [3, 60, 27, 16, 6, 162, 0, 16, 42, 180, 0, 25, 27, 3, 79, 132, 1, 1, 167, 255, 240, 42, 3]
abbrev dktX3_rests_0 : List UInt8 := dkwX3_rests_0 ++ dktX3_rests_1
theorem dksX3_rests_0 : cX3_rests.data.toList.drop 0 = dktX3_rests_0 := by decide +kernel
theorem dksX3_rests_1 : cX3_rests.data.toList.drop 23 = dktX3_rests_1 := dk_seg dksX3_rests_0 23 rfl rfl
theorem dksX3_rests_2 : cX3_rests.data.toList.drop 47 = dktX3_rests_2 := dk_seg dksX3_rests_1 24 rfl rfl
theorem dksX3_rests_3 : cX3_rests.data.toList.drop 70 = dktX3_rests_3 := dk_seg dksX3_rests_2 23 rfl rfl
theorem dX3_rests_0 : decode cX3_rests 0 = .ok (.iconst 0, 1) := dk_3 (dk_at dksX3_rests_0 0 rfl rfl)
theorem dX3_rests_1 : decode cX3_rests 1 = .ok (.istore_n 1, 1) := dk_60 (dk_at dksX3_rests_0 1 rfl rfl)
theorem dX3_rests_2 : decode cX3_rests 2 = .ok (.iload_n 1, 1) := dk_27 (dk_at dksX3_rests_0 2 rfl rfl)
theorem dX3_rests_3 : decode cX3_rests 3 = .ok (.bipush 6, 2) := dk_16 6 (dk_at dksX3_rests_0 3 rfl rfl)
theorem dX3_rests_5 : decode cX3_rests 5 = .ok (.if_icmp .ge 16, 3) := dk_162 0 16 (dk_at dksX3_rests_0 5 rfl rfl)
theorem dX3_rests_8 : decode cX3_rests 8 = .ok (.aload_n 0, 1) := dk_42 (dk_at dksX3_rests_0 8 rfl rfl)
theorem dX3_rests_9 : decode cX3_rests 9 = .ok (.getfield 25, 3) := dk_180 0 25 (dk_at dksX3_rests_0 9 rfl rfl)
theorem dX3_rests_12 : decode cX3_rests 12 = .ok (.iload_n 1, 1) := dk_27 (dk_at dksX3_rests_0 12 rfl rfl)
theorem dX3_rests_13 : decode cX3_rests 13 = .ok (.iconst 0, 1) := dk_3 (dk_at dksX3_rests_0 13 rfl rfl)
theorem dX3_rests_14 : decode cX3_rests 14 = .ok (.iastore, 1) := dk_79 (dk_at dksX3_rests_0 14 rfl rfl)
theorem dX3_rests_15 : decode cX3_rests 15 = .ok (.iinc 1 1, 3) := dk_132 1 1 (dk_at dksX3_rests_0 15 rfl rfl)
theorem dX3_rests_18 : decode cX3_rests 18 = .ok (.goto (-16), 3) := dk_167 255 240 (dk_at dksX3_rests_0 18 rfl rfl)
theorem dX3_rests_21 : decode cX3_rests 21 = .ok (.aload_n 0, 1) := dk_42 (dk_at dksX3_rests_0 21 rfl rfl)
theorem dX3_rests_22 : decode cX3_rests 22 = .ok (.iconst 0, 1) := dk_3 (dk_at dksX3_rests_0 22 rfl rfl)
theorem dX3_rests_23 : decode cX3_rests 23 = .ok (.putfield 189, 3) := dk_181 0 189 (dk_at dksX3_rests_1 0 rfl rfl)
theorem dX3_rests_26 : decode cX3_rests 26 = .ok (.aload_n 0, 1) := dk_42 (dk_at dksX3_rests_1 3 rfl rfl)
theorem dX3_rests_27 : decode cX3_rests 27 = .ok (.getfield 189, 3) := dk_180 0 189 (dk_at dksX3_rests_1 4 rfl rfl)
theorem dX3_rests_30 : decode cX3_rests 30 = .ok (.bipush 60, 2) := dk_16 60 (dk_at dksX3_rests_1 7 rfl rfl)
theorem dX3_rests_32 : decode cX3_rests 32 = .ok (.if_icmp .ge 23, 3) := dk_162 0 23 (dk_at dksX3_rests_1 9 rfl rfl)
theorem dX3_rests_35 : decode cX3_rests 35 = .ok (.aload_n 0, 1) := dk_42 (dk_at dksX3_rests_1 12 rfl rfl)
theorem dX3_rests_36 : decode cX3_rests 36 = .ok (.invokevirtual 192, 3) := dk_182 0 192 (dk_at dksX3_rests_1 13 rfl rfl)
theorem dX3_rests_39 : decode cX3_rests 39 = .ok (.ifCond .eq 16, 3) := dk_153 0 16 (dk_at dksX3_rests_1 16 rfl rfl)
theorem dX3_rests_42 : decode cX3_rests 42 = .ok (.aload_n 0, 1) := dk_42 (dk_at dksX3_rests_1 19 rfl rfl)
theorem dX3_rests_43 : decode cX3_rests 43 = .ok (.dup, 1) := dk_89 (dk_at dksX3_rests_1 20 rfl rfl)
theorem dX3_rests_44 : decode cX3_rests 44 = .ok (.getfield 189, 3) := dk_180 0 189 (dk_at dksX3_rests_1 21 rfl rfl)
theorem dX3_rests_47 : decode cX3_rests 47 = .ok (.iconst 1, 1) := dk_4 (dk_at dksX3_rests_2 0 rfl rfl)
theorem dX3_rests_48 : decode cX3_rests 48 = .ok (.iadd, 1) := dk_96 (dk_at dksX3_rests_2 1 rfl rfl)
theorem dX3_rests_49 : decode cX3_rests 49 = .ok (.putfield 189, 3) := dk_181 0 189 (dk_at dksX3_rests_2 2 rfl rfl)
theorem dX3_rests_52 : decode cX3_rests 52 = .ok (.goto (-26), 3) := dk_167 255 230 (dk_at dksX3_rests_2 5 rfl rfl)
theorem dX3_rests_55 : decode cX3_rests 55 = .ok (.aload_n 0, 1) := dk_42 (dk_at dksX3_rests_2 8 rfl rfl)
theorem dX3_rests_56 : decode cX3_rests 56 = .ok (.aload_n 0, 1) := dk_42 (dk_at dksX3_rests_2 9 rfl rfl)
theorem dX3_rests_57 : decode cX3_rests 57 = .ok (.getfield 189, 3) := dk_180 0 189 (dk_at dksX3_rests_2 10 rfl rfl)
theorem dX3_rests_60 : decode cX3_rests 60 = .ok (.bipush 60, 2) := dk_16 60 (dk_at dksX3_rests_2 13 rfl rfl)
theorem dX3_rests_62 : decode cX3_rests 62 = .ok (.if_icmp .ne 7, 3) := dk_160 0 7 (dk_at dksX3_rests_2 15 rfl rfl)
theorem dX3_rests_65 : decode cX3_rests 65 = .ok (.iconst 1, 1) := dk_4 (dk_at dksX3_rests_2 18 rfl rfl)
theorem dX3_rests_66 : decode cX3_rests 66 = .ok (.goto 4, 3) := dk_167 0 4 (dk_at dksX3_rests_2 19 rfl rfl)
theorem dX3_rests_69 : decode cX3_rests 69 = .ok (.iconst 0, 1) := dk_3 (dk_at dksX3_rests_2 22 rfl rfl)
theorem dX3_rests_70 : decode cX3_rests 70 = .ok (.putfield 196, 3) := dk_181 0 196 (dk_at dksX3_rests_3 0 rfl rfl)
theorem dX3_rests_73 : decode cX3_rests 73 = .ok (.return_, 1) := dk_177 (dk_at dksX3_rests_3 3 rfl rfl)
abbrev cX3_round : ByteArray := prog_16_method_41_code
def yX3_round : MethodName := ⟨RX3, "round", "()Z"⟩
def dkwX3_round_3 : List UInt8 := [28, 42, 180, 0, 28, 28, 46, 79, 132, 2, 1, 167, 255, 231, 27, 172]
abbrev dktX3_round_3 : List UInt8 := dkwX3_round_3 ++ []
def dkwX3_round_2 : List UInt8 := [3, 60, 132, 2, 1, 167, 255, 207, 3, 61, 28, 42, 180, 0, 7, 3, 46, 162, 0, 21, 42, 180, 0, 25]
abbrev dktX3_round_2 : List UInt8 := dkwX3_round_2 ++ dktX3_round_3
def dkwX3_round_1 : List UInt8 := [79, 27, 154, 0, 18, 42, 180, 0, 28, 28, 46, 42, 180, 0, 25, 28, 46, 159, 0, 7, 4, 167, 0, 4]
abbrev dktX3_round_1 : List UInt8 := dkwX3_round_1 ++ dktX3_round_2
def dkwX3_round_0 : List UInt8 := [3, 60, 3, 61, 28, 42, 180, 0, 7, 3, 46, 162, 0, 45, 42, 180, 0, 28, 28, 42, 28, 182, 0, 186]
abbrev dktX3_round_0 : List UInt8 := dkwX3_round_0 ++ dktX3_round_1
theorem dksX3_round_0 : cX3_round.data.toList.drop 0 = dktX3_round_0 := by decide +kernel
theorem dksX3_round_1 : cX3_round.data.toList.drop 24 = dktX3_round_1 := dk_seg dksX3_round_0 24 rfl rfl
theorem dksX3_round_2 : cX3_round.data.toList.drop 48 = dktX3_round_2 := dk_seg dksX3_round_1 24 rfl rfl
theorem dksX3_round_3 : cX3_round.data.toList.drop 72 = dktX3_round_3 := dk_seg dksX3_round_2 24 rfl rfl
theorem dX3_round_0 : decode cX3_round 0 = .ok (.iconst 0, 1) := dk_3 (dk_at dksX3_round_0 0 rfl rfl)
theorem dX3_round_1 : decode cX3_round 1 = .ok (.istore_n 1, 1) := dk_60 (dk_at dksX3_round_0 1 rfl rfl)
theorem dX3_round_2 : decode cX3_round 2 = .ok (.iconst 0, 1) := dk_3 (dk_at dksX3_round_0 2 rfl rfl)
theorem dX3_round_3 : decode cX3_round 3 = .ok (.istore_n 2, 1) := dk_61 (dk_at dksX3_round_0 3 rfl rfl)
theorem dX3_round_4 : decode cX3_round 4 = .ok (.iload_n 2, 1) := dk_28 (dk_at dksX3_round_0 4 rfl rfl)
theorem dX3_round_5 : decode cX3_round 5 = .ok (.aload_n 0, 1) := dk_42 (dk_at dksX3_round_0 5 rfl rfl)
theorem dX3_round_6 : decode cX3_round 6 = .ok (.getfield 7, 3) := dk_180 0 7 (dk_at dksX3_round_0 6 rfl rfl)
theorem dX3_round_9 : decode cX3_round 9 = .ok (.iconst 0, 1) := dk_3 (dk_at dksX3_round_0 9 rfl rfl)
theorem dX3_round_10 : decode cX3_round 10 = .ok (.iaload, 1) := dk_46 (dk_at dksX3_round_0 10 rfl rfl)
theorem dX3_round_11 : decode cX3_round 11 = .ok (.if_icmp .ge 45, 3) := dk_162 0 45 (dk_at dksX3_round_0 11 rfl rfl)
theorem dX3_round_14 : decode cX3_round 14 = .ok (.aload_n 0, 1) := dk_42 (dk_at dksX3_round_0 14 rfl rfl)
theorem dX3_round_15 : decode cX3_round 15 = .ok (.getfield 28, 3) := dk_180 0 28 (dk_at dksX3_round_0 15 rfl rfl)
theorem dX3_round_18 : decode cX3_round 18 = .ok (.iload_n 2, 1) := dk_28 (dk_at dksX3_round_0 18 rfl rfl)
theorem dX3_round_19 : decode cX3_round 19 = .ok (.aload_n 0, 1) := dk_42 (dk_at dksX3_round_0 19 rfl rfl)
theorem dX3_round_20 : decode cX3_round 20 = .ok (.iload_n 2, 1) := dk_28 (dk_at dksX3_round_0 20 rfl rfl)
theorem dX3_round_21 : decode cX3_round 21 = .ok (.invokevirtual 186, 3) := dk_182 0 186 (dk_at dksX3_round_0 21 rfl rfl)
theorem dX3_round_24 : decode cX3_round 24 = .ok (.iastore, 1) := dk_79 (dk_at dksX3_round_1 0 rfl rfl)
theorem dX3_round_25 : decode cX3_round 25 = .ok (.iload_n 1, 1) := dk_27 (dk_at dksX3_round_1 1 rfl rfl)
theorem dX3_round_26 : decode cX3_round 26 = .ok (.ifCond .ne 18, 3) := dk_154 0 18 (dk_at dksX3_round_1 2 rfl rfl)
theorem dX3_round_29 : decode cX3_round 29 = .ok (.aload_n 0, 1) := dk_42 (dk_at dksX3_round_1 5 rfl rfl)
theorem dX3_round_30 : decode cX3_round 30 = .ok (.getfield 28, 3) := dk_180 0 28 (dk_at dksX3_round_1 6 rfl rfl)
theorem dX3_round_33 : decode cX3_round 33 = .ok (.iload_n 2, 1) := dk_28 (dk_at dksX3_round_1 9 rfl rfl)
theorem dX3_round_34 : decode cX3_round 34 = .ok (.iaload, 1) := dk_46 (dk_at dksX3_round_1 10 rfl rfl)
theorem dX3_round_35 : decode cX3_round 35 = .ok (.aload_n 0, 1) := dk_42 (dk_at dksX3_round_1 11 rfl rfl)
theorem dX3_round_36 : decode cX3_round 36 = .ok (.getfield 25, 3) := dk_180 0 25 (dk_at dksX3_round_1 12 rfl rfl)
theorem dX3_round_39 : decode cX3_round 39 = .ok (.iload_n 2, 1) := dk_28 (dk_at dksX3_round_1 15 rfl rfl)
theorem dX3_round_40 : decode cX3_round 40 = .ok (.iaload, 1) := dk_46 (dk_at dksX3_round_1 16 rfl rfl)
theorem dX3_round_41 : decode cX3_round 41 = .ok (.if_icmp .eq 7, 3) := dk_159 0 7 (dk_at dksX3_round_1 17 rfl rfl)
theorem dX3_round_44 : decode cX3_round 44 = .ok (.iconst 1, 1) := dk_4 (dk_at dksX3_round_1 20 rfl rfl)
theorem dX3_round_45 : decode cX3_round 45 = .ok (.goto 4, 3) := dk_167 0 4 (dk_at dksX3_round_1 21 rfl rfl)
theorem dX3_round_48 : decode cX3_round 48 = .ok (.iconst 0, 1) := dk_3 (dk_at dksX3_round_2 0 rfl rfl)
theorem dX3_round_49 : decode cX3_round 49 = .ok (.istore_n 1, 1) := dk_60 (dk_at dksX3_round_2 1 rfl rfl)
theorem dX3_round_50 : decode cX3_round 50 = .ok (.iinc 2 1, 3) := dk_132 2 1 (dk_at dksX3_round_2 2 rfl rfl)
theorem dX3_round_53 : decode cX3_round 53 = .ok (.goto (-49), 3) := dk_167 255 207 (dk_at dksX3_round_2 5 rfl rfl)
theorem dX3_round_56 : decode cX3_round 56 = .ok (.iconst 0, 1) := dk_3 (dk_at dksX3_round_2 8 rfl rfl)
theorem dX3_round_57 : decode cX3_round 57 = .ok (.istore_n 2, 1) := dk_61 (dk_at dksX3_round_2 9 rfl rfl)
theorem dX3_round_58 : decode cX3_round 58 = .ok (.iload_n 2, 1) := dk_28 (dk_at dksX3_round_2 10 rfl rfl)
theorem dX3_round_59 : decode cX3_round 59 = .ok (.aload_n 0, 1) := dk_42 (dk_at dksX3_round_2 11 rfl rfl)
theorem dX3_round_60 : decode cX3_round 60 = .ok (.getfield 7, 3) := dk_180 0 7 (dk_at dksX3_round_2 12 rfl rfl)
theorem dX3_round_63 : decode cX3_round 63 = .ok (.iconst 0, 1) := dk_3 (dk_at dksX3_round_2 15 rfl rfl)
theorem dX3_round_64 : decode cX3_round 64 = .ok (.iaload, 1) := dk_46 (dk_at dksX3_round_2 16 rfl rfl)
theorem dX3_round_65 : decode cX3_round 65 = .ok (.if_icmp .ge 21, 3) := dk_162 0 21 (dk_at dksX3_round_2 17 rfl rfl)
theorem dX3_round_68 : decode cX3_round 68 = .ok (.aload_n 0, 1) := dk_42 (dk_at dksX3_round_2 20 rfl rfl)
theorem dX3_round_69 : decode cX3_round 69 = .ok (.getfield 25, 3) := dk_180 0 25 (dk_at dksX3_round_2 21 rfl rfl)
theorem dX3_round_72 : decode cX3_round 72 = .ok (.iload_n 2, 1) := dk_28 (dk_at dksX3_round_3 0 rfl rfl)
theorem dX3_round_73 : decode cX3_round 73 = .ok (.aload_n 0, 1) := dk_42 (dk_at dksX3_round_3 1 rfl rfl)
theorem dX3_round_74 : decode cX3_round 74 = .ok (.getfield 28, 3) := dk_180 0 28 (dk_at dksX3_round_3 2 rfl rfl)
theorem dX3_round_77 : decode cX3_round 77 = .ok (.iload_n 2, 1) := dk_28 (dk_at dksX3_round_3 5 rfl rfl)
theorem dX3_round_78 : decode cX3_round 78 = .ok (.iaload, 1) := dk_46 (dk_at dksX3_round_3 6 rfl rfl)
theorem dX3_round_79 : decode cX3_round 79 = .ok (.iastore, 1) := dk_79 (dk_at dksX3_round_3 7 rfl rfl)
theorem dX3_round_80 : decode cX3_round 80 = .ok (.iinc 2 1, 3) := dk_132 2 1 (dk_at dksX3_round_3 8 rfl rfl)
theorem dX3_round_83 : decode cX3_round 83 = .ok (.goto (-25), 3) := dk_167 255 231 (dk_at dksX3_round_3 11 rfl rfl)
theorem dX3_round_86 : decode cX3_round 86 = .ok (.iload_n 1, 1) := dk_27 (dk_at dksX3_round_3 14 rfl rfl)
theorem dX3_round_87 : decode cX3_round 87 = .ok (.ireturn, 1) := dk_172 (dk_at dksX3_round_3 15 rfl rfl)
abbrev cX3_asked : ByteArray := prog_16_method_40_code
def yX3_asked : MethodName := ⟨RX3, "asked", "(I)I"⟩
def dkwX3_asked_6 : List UInt8 := [167, 255, 140, 29, 154, 0, 7, 3, 167, 0, 6, 28, 29, 108, 172]
abbrev dktX3_asked_6 : List UInt8 := dkwX3_asked_6 ++ []
def dkwX3_asked_5 : List UInt8 := [180, 0, 25, 42, 21, 4, 4, 182, 0, 79, 46, 104, 96, 61, 29, 21, 5, 96, 62, 132, 4, 1]
abbrev dktX3_asked_5 : List UInt8 := dkwX3_asked_5 ++ dktX3_asked_6
def dkwX3_asked_4 : List UInt8 := [29, 21, 5, 96, 62, 167, 0, 37, 42, 21, 4, 5, 182, 0, 79, 27, 160, 0, 26, 28, 21, 5, 42]
abbrev dktX3_asked_4 : List UInt8 := dkwX3_asked_4 ++ dktX3_asked_5
def dkwX3_asked_3 : List UInt8 := [21, 4, 182, 0, 91, 104, 167, 0, 15, 42, 180, 0, 25, 42, 21, 4, 5, 182, 0, 79, 46, 104, 96, 61]
abbrev dktX3_asked_3 : List UInt8 := dkwX3_asked_3 ++ dktX3_asked_4
def dkwX3_asked_2 : List UInt8 := [182, 0, 79, 27, 160, 0, 52, 28, 21, 5, 42, 21, 4, 5, 182, 0, 79, 2, 160, 0, 15, 16, 8, 42]
abbrev dktX3_asked_2 : List UInt8 := dkwX3_asked_2 ++ dktX3_asked_3
def dkwX3_asked_1 : List UInt8 := [21, 4, 42, 180, 0, 7, 4, 46, 162, 0, 111, 42, 21, 4, 182, 0, 88, 54, 5, 42, 21, 4, 4]
abbrev dktX3_asked_1 : List UInt8 := dkwX3_asked_1 ++ dktX3_asked_2
def dkwX3_asked_0 : List UInt8 := [27, 154, 0, 15, 16, 80, 42, 180, 0, 7, 8, 46, 104, 167, 0, 4, 3, 61, 3, 62, 3, 54, 4]
abbrev dktX3_asked_0 : List UInt8 := dkwX3_asked_0 ++ dktX3_asked_1
theorem dksX3_asked_0 : cX3_asked.data.toList.drop 0 = dktX3_asked_0 := by decide +kernel
theorem dksX3_asked_1 : cX3_asked.data.toList.drop 23 = dktX3_asked_1 := dk_seg dksX3_asked_0 23 rfl rfl
theorem dksX3_asked_2 : cX3_asked.data.toList.drop 46 = dktX3_asked_2 := dk_seg dksX3_asked_1 23 rfl rfl
theorem dksX3_asked_3 : cX3_asked.data.toList.drop 70 = dktX3_asked_3 := dk_seg dksX3_asked_2 24 rfl rfl
theorem dksX3_asked_4 : cX3_asked.data.toList.drop 94 = dktX3_asked_4 := dk_seg dksX3_asked_3 24 rfl rfl
theorem dksX3_asked_5 : cX3_asked.data.toList.drop 117 = dktX3_asked_5 := dk_seg dksX3_asked_4 23 rfl rfl
theorem dksX3_asked_6 : cX3_asked.data.toList.drop 139 = dktX3_asked_6 := dk_seg dksX3_asked_5 22 rfl rfl
theorem dX3_asked_0 : decode cX3_asked 0 = .ok (.iload_n 1, 1) := dk_27 (dk_at dksX3_asked_0 0 rfl rfl)
theorem dX3_asked_1 : decode cX3_asked 1 = .ok (.ifCond .ne 15, 3) := dk_154 0 15 (dk_at dksX3_asked_0 1 rfl rfl)
theorem dX3_asked_4 : decode cX3_asked 4 = .ok (.bipush 80, 2) := dk_16 80 (dk_at dksX3_asked_0 4 rfl rfl)
theorem dX3_asked_6 : decode cX3_asked 6 = .ok (.aload_n 0, 1) := dk_42 (dk_at dksX3_asked_0 6 rfl rfl)
theorem dX3_asked_7 : decode cX3_asked 7 = .ok (.getfield 7, 3) := dk_180 0 7 (dk_at dksX3_asked_0 7 rfl rfl)
theorem dX3_asked_10 : decode cX3_asked 10 = .ok (.iconst 5, 1) := dk_8 (dk_at dksX3_asked_0 10 rfl rfl)
theorem dX3_asked_11 : decode cX3_asked 11 = .ok (.iaload, 1) := dk_46 (dk_at dksX3_asked_0 11 rfl rfl)
theorem dX3_asked_12 : decode cX3_asked 12 = .ok (.imul, 1) := dk_104 (dk_at dksX3_asked_0 12 rfl rfl)
theorem dX3_asked_13 : decode cX3_asked 13 = .ok (.goto 4, 3) := dk_167 0 4 (dk_at dksX3_asked_0 13 rfl rfl)
theorem dX3_asked_16 : decode cX3_asked 16 = .ok (.iconst 0, 1) := dk_3 (dk_at dksX3_asked_0 16 rfl rfl)
theorem dX3_asked_17 : decode cX3_asked 17 = .ok (.istore_n 2, 1) := dk_61 (dk_at dksX3_asked_0 17 rfl rfl)
theorem dX3_asked_18 : decode cX3_asked 18 = .ok (.iconst 0, 1) := dk_3 (dk_at dksX3_asked_0 18 rfl rfl)
theorem dX3_asked_19 : decode cX3_asked 19 = .ok (.istore_n 3, 1) := dk_62 (dk_at dksX3_asked_0 19 rfl rfl)
theorem dX3_asked_20 : decode cX3_asked 20 = .ok (.iconst 0, 1) := dk_3 (dk_at dksX3_asked_0 20 rfl rfl)
theorem dX3_asked_21 : decode cX3_asked 21 = .ok (.istore 4, 2) := dk_54 4 (dk_at dksX3_asked_0 21 rfl rfl)
theorem dX3_asked_23 : decode cX3_asked 23 = .ok (.iload 4, 2) := dk_21 4 (dk_at dksX3_asked_1 0 rfl rfl)
theorem dX3_asked_25 : decode cX3_asked 25 = .ok (.aload_n 0, 1) := dk_42 (dk_at dksX3_asked_1 2 rfl rfl)
theorem dX3_asked_26 : decode cX3_asked 26 = .ok (.getfield 7, 3) := dk_180 0 7 (dk_at dksX3_asked_1 3 rfl rfl)
theorem dX3_asked_29 : decode cX3_asked 29 = .ok (.iconst 1, 1) := dk_4 (dk_at dksX3_asked_1 6 rfl rfl)
theorem dX3_asked_30 : decode cX3_asked 30 = .ok (.iaload, 1) := dk_46 (dk_at dksX3_asked_1 7 rfl rfl)
theorem dX3_asked_31 : decode cX3_asked 31 = .ok (.if_icmp .ge 111, 3) := dk_162 0 111 (dk_at dksX3_asked_1 8 rfl rfl)
theorem dX3_asked_34 : decode cX3_asked 34 = .ok (.aload_n 0, 1) := dk_42 (dk_at dksX3_asked_1 11 rfl rfl)
theorem dX3_asked_35 : decode cX3_asked 35 = .ok (.iload 4, 2) := dk_21 4 (dk_at dksX3_asked_1 12 rfl rfl)
theorem dX3_asked_37 : decode cX3_asked 37 = .ok (.invokevirtual 88, 3) := dk_182 0 88 (dk_at dksX3_asked_1 14 rfl rfl)
theorem dX3_asked_40 : decode cX3_asked 40 = .ok (.istore 5, 2) := dk_54 5 (dk_at dksX3_asked_1 17 rfl rfl)
theorem dX3_asked_42 : decode cX3_asked 42 = .ok (.aload_n 0, 1) := dk_42 (dk_at dksX3_asked_1 19 rfl rfl)
theorem dX3_asked_43 : decode cX3_asked 43 = .ok (.iload 4, 2) := dk_21 4 (dk_at dksX3_asked_1 20 rfl rfl)
theorem dX3_asked_45 : decode cX3_asked 45 = .ok (.iconst 1, 1) := dk_4 (dk_at dksX3_asked_1 22 rfl rfl)
theorem dX3_asked_46 : decode cX3_asked 46 = .ok (.invokevirtual 79, 3) := dk_182 0 79 (dk_at dksX3_asked_2 0 rfl rfl)
theorem dX3_asked_49 : decode cX3_asked 49 = .ok (.iload_n 1, 1) := dk_27 (dk_at dksX3_asked_2 3 rfl rfl)
theorem dX3_asked_50 : decode cX3_asked 50 = .ok (.if_icmp .ne 52, 3) := dk_160 0 52 (dk_at dksX3_asked_2 4 rfl rfl)
theorem dX3_asked_53 : decode cX3_asked 53 = .ok (.iload_n 2, 1) := dk_28 (dk_at dksX3_asked_2 7 rfl rfl)
theorem dX3_asked_54 : decode cX3_asked 54 = .ok (.iload 5, 2) := dk_21 5 (dk_at dksX3_asked_2 8 rfl rfl)
theorem dX3_asked_56 : decode cX3_asked 56 = .ok (.aload_n 0, 1) := dk_42 (dk_at dksX3_asked_2 10 rfl rfl)
theorem dX3_asked_57 : decode cX3_asked 57 = .ok (.iload 4, 2) := dk_21 4 (dk_at dksX3_asked_2 11 rfl rfl)
theorem dX3_asked_59 : decode cX3_asked 59 = .ok (.iconst 2, 1) := dk_5 (dk_at dksX3_asked_2 13 rfl rfl)
theorem dX3_asked_60 : decode cX3_asked 60 = .ok (.invokevirtual 79, 3) := dk_182 0 79 (dk_at dksX3_asked_2 14 rfl rfl)
theorem dX3_asked_63 : decode cX3_asked 63 = .ok (.iconst (-1), 1) := dk_2 (dk_at dksX3_asked_2 17 rfl rfl)
theorem dX3_asked_64 : decode cX3_asked 64 = .ok (.if_icmp .ne 15, 3) := dk_160 0 15 (dk_at dksX3_asked_2 18 rfl rfl)
theorem dX3_asked_67 : decode cX3_asked 67 = .ok (.bipush 8, 2) := dk_16 8 (dk_at dksX3_asked_2 21 rfl rfl)
theorem dX3_asked_69 : decode cX3_asked 69 = .ok (.aload_n 0, 1) := dk_42 (dk_at dksX3_asked_2 23 rfl rfl)
theorem dX3_asked_70 : decode cX3_asked 70 = .ok (.iload 4, 2) := dk_21 4 (dk_at dksX3_asked_3 0 rfl rfl)
theorem dX3_asked_72 : decode cX3_asked 72 = .ok (.invokevirtual 91, 3) := dk_182 0 91 (dk_at dksX3_asked_3 2 rfl rfl)
theorem dX3_asked_75 : decode cX3_asked 75 = .ok (.imul, 1) := dk_104 (dk_at dksX3_asked_3 5 rfl rfl)
theorem dX3_asked_76 : decode cX3_asked 76 = .ok (.goto 15, 3) := dk_167 0 15 (dk_at dksX3_asked_3 6 rfl rfl)
theorem dX3_asked_79 : decode cX3_asked 79 = .ok (.aload_n 0, 1) := dk_42 (dk_at dksX3_asked_3 9 rfl rfl)
theorem dX3_asked_80 : decode cX3_asked 80 = .ok (.getfield 25, 3) := dk_180 0 25 (dk_at dksX3_asked_3 10 rfl rfl)
theorem dX3_asked_83 : decode cX3_asked 83 = .ok (.aload_n 0, 1) := dk_42 (dk_at dksX3_asked_3 13 rfl rfl)
theorem dX3_asked_84 : decode cX3_asked 84 = .ok (.iload 4, 2) := dk_21 4 (dk_at dksX3_asked_3 14 rfl rfl)
theorem dX3_asked_86 : decode cX3_asked 86 = .ok (.iconst 2, 1) := dk_5 (dk_at dksX3_asked_3 16 rfl rfl)
theorem dX3_asked_87 : decode cX3_asked 87 = .ok (.invokevirtual 79, 3) := dk_182 0 79 (dk_at dksX3_asked_3 17 rfl rfl)
theorem dX3_asked_90 : decode cX3_asked 90 = .ok (.iaload, 1) := dk_46 (dk_at dksX3_asked_3 20 rfl rfl)
theorem dX3_asked_91 : decode cX3_asked 91 = .ok (.imul, 1) := dk_104 (dk_at dksX3_asked_3 21 rfl rfl)
theorem dX3_asked_92 : decode cX3_asked 92 = .ok (.iadd, 1) := dk_96 (dk_at dksX3_asked_3 22 rfl rfl)
theorem dX3_asked_93 : decode cX3_asked 93 = .ok (.istore_n 2, 1) := dk_61 (dk_at dksX3_asked_3 23 rfl rfl)
theorem dX3_asked_94 : decode cX3_asked 94 = .ok (.iload_n 3, 1) := dk_29 (dk_at dksX3_asked_4 0 rfl rfl)
theorem dX3_asked_95 : decode cX3_asked 95 = .ok (.iload 5, 2) := dk_21 5 (dk_at dksX3_asked_4 1 rfl rfl)
theorem dX3_asked_97 : decode cX3_asked 97 = .ok (.iadd, 1) := dk_96 (dk_at dksX3_asked_4 3 rfl rfl)
theorem dX3_asked_98 : decode cX3_asked 98 = .ok (.istore_n 3, 1) := dk_62 (dk_at dksX3_asked_4 4 rfl rfl)
theorem dX3_asked_99 : decode cX3_asked 99 = .ok (.goto 37, 3) := dk_167 0 37 (dk_at dksX3_asked_4 5 rfl rfl)
theorem dX3_asked_102 : decode cX3_asked 102 = .ok (.aload_n 0, 1) := dk_42 (dk_at dksX3_asked_4 8 rfl rfl)
theorem dX3_asked_103 : decode cX3_asked 103 = .ok (.iload 4, 2) := dk_21 4 (dk_at dksX3_asked_4 9 rfl rfl)
theorem dX3_asked_105 : decode cX3_asked 105 = .ok (.iconst 2, 1) := dk_5 (dk_at dksX3_asked_4 11 rfl rfl)
theorem dX3_asked_106 : decode cX3_asked 106 = .ok (.invokevirtual 79, 3) := dk_182 0 79 (dk_at dksX3_asked_4 12 rfl rfl)
theorem dX3_asked_109 : decode cX3_asked 109 = .ok (.iload_n 1, 1) := dk_27 (dk_at dksX3_asked_4 15 rfl rfl)
theorem dX3_asked_110 : decode cX3_asked 110 = .ok (.if_icmp .ne 26, 3) := dk_160 0 26 (dk_at dksX3_asked_4 16 rfl rfl)
theorem dX3_asked_113 : decode cX3_asked 113 = .ok (.iload_n 2, 1) := dk_28 (dk_at dksX3_asked_4 19 rfl rfl)
theorem dX3_asked_114 : decode cX3_asked 114 = .ok (.iload 5, 2) := dk_21 5 (dk_at dksX3_asked_4 20 rfl rfl)
theorem dX3_asked_116 : decode cX3_asked 116 = .ok (.aload_n 0, 1) := dk_42 (dk_at dksX3_asked_4 22 rfl rfl)
theorem dX3_asked_117 : decode cX3_asked 117 = .ok (.getfield 25, 3) := dk_180 0 25 (dk_at dksX3_asked_5 0 rfl rfl)
theorem dX3_asked_120 : decode cX3_asked 120 = .ok (.aload_n 0, 1) := dk_42 (dk_at dksX3_asked_5 3 rfl rfl)
theorem dX3_asked_121 : decode cX3_asked 121 = .ok (.iload 4, 2) := dk_21 4 (dk_at dksX3_asked_5 4 rfl rfl)
theorem dX3_asked_123 : decode cX3_asked 123 = .ok (.iconst 1, 1) := dk_4 (dk_at dksX3_asked_5 6 rfl rfl)
theorem dX3_asked_124 : decode cX3_asked 124 = .ok (.invokevirtual 79, 3) := dk_182 0 79 (dk_at dksX3_asked_5 7 rfl rfl)
theorem dX3_asked_127 : decode cX3_asked 127 = .ok (.iaload, 1) := dk_46 (dk_at dksX3_asked_5 10 rfl rfl)
theorem dX3_asked_128 : decode cX3_asked 128 = .ok (.imul, 1) := dk_104 (dk_at dksX3_asked_5 11 rfl rfl)
theorem dX3_asked_129 : decode cX3_asked 129 = .ok (.iadd, 1) := dk_96 (dk_at dksX3_asked_5 12 rfl rfl)
theorem dX3_asked_130 : decode cX3_asked 130 = .ok (.istore_n 2, 1) := dk_61 (dk_at dksX3_asked_5 13 rfl rfl)
theorem dX3_asked_131 : decode cX3_asked 131 = .ok (.iload_n 3, 1) := dk_29 (dk_at dksX3_asked_5 14 rfl rfl)
theorem dX3_asked_132 : decode cX3_asked 132 = .ok (.iload 5, 2) := dk_21 5 (dk_at dksX3_asked_5 15 rfl rfl)
theorem dX3_asked_134 : decode cX3_asked 134 = .ok (.iadd, 1) := dk_96 (dk_at dksX3_asked_5 17 rfl rfl)
theorem dX3_asked_135 : decode cX3_asked 135 = .ok (.istore_n 3, 1) := dk_62 (dk_at dksX3_asked_5 18 rfl rfl)
theorem dX3_asked_136 : decode cX3_asked 136 = .ok (.iinc 4 1, 3) := dk_132 4 1 (dk_at dksX3_asked_5 19 rfl rfl)
theorem dX3_asked_139 : decode cX3_asked 139 = .ok (.goto (-116), 3) := dk_167 255 140 (dk_at dksX3_asked_6 0 rfl rfl)
theorem dX3_asked_142 : decode cX3_asked 142 = .ok (.iload_n 3, 1) := dk_29 (dk_at dksX3_asked_6 3 rfl rfl)
theorem dX3_asked_143 : decode cX3_asked 143 = .ok (.ifCond .ne 7, 3) := dk_154 0 7 (dk_at dksX3_asked_6 4 rfl rfl)
theorem dX3_asked_146 : decode cX3_asked 146 = .ok (.iconst 0, 1) := dk_3 (dk_at dksX3_asked_6 7 rfl rfl)
theorem dX3_asked_147 : decode cX3_asked 147 = .ok (.goto 6, 3) := dk_167 0 6 (dk_at dksX3_asked_6 8 rfl rfl)
theorem dX3_asked_150 : decode cX3_asked 150 = .ok (.iload_n 2, 1) := dk_28 (dk_at dksX3_asked_6 11 rfl rfl)
theorem dX3_asked_151 : decode cX3_asked 151 = .ok (.iload_n 3, 1) := dk_29 (dk_at dksX3_asked_6 12 rfl rfl)
theorem dX3_asked_152 : decode cX3_asked 152 = .ok (.idiv, 1) := dk_108 (dk_at dksX3_asked_6 13 rfl rfl)
theorem dX3_asked_153 : decode cX3_asked 153 = .ok (.ireturn, 1) := dk_172 (dk_at dksX3_asked_6 14 rfl rfl)
abbrev cX3_flow : ByteArray := prog_16_method_50_code
def yX3_flow : MethodName := ⟨RX3, "flow", "(I)I"⟩
def dkwX3_flow_1 : List UInt8 := [172]
abbrev dktX3_flow_1 : List UInt8 := dkwX3_flow_1 ++ []
def dkwX3_flow_0 : List UInt8 := [42, 27, 182, 0, 83, 154, 0, 10, 42, 18, 53, 182, 0, 59, 172, 42, 182, 0, 208, 42, 27, 182, 0, 199]
abbrev dktX3_flow_0 : List UInt8 := dkwX3_flow_0 ++ dktX3_flow_1
theorem dksX3_flow_0 : cX3_flow.data.toList.drop 0 = dktX3_flow_0 := by decide +kernel
theorem dksX3_flow_1 : cX3_flow.data.toList.drop 24 = dktX3_flow_1 := dk_seg dksX3_flow_0 24 rfl rfl
theorem dX3_flow_0 : decode cX3_flow 0 = .ok (.aload_n 0, 1) := dk_42 (dk_at dksX3_flow_0 0 rfl rfl)
theorem dX3_flow_1 : decode cX3_flow 1 = .ok (.iload_n 1, 1) := dk_27 (dk_at dksX3_flow_0 1 rfl rfl)
theorem dX3_flow_2 : decode cX3_flow 2 = .ok (.invokevirtual 83, 3) := dk_182 0 83 (dk_at dksX3_flow_0 2 rfl rfl)
theorem dX3_flow_5 : decode cX3_flow 5 = .ok (.ifCond .ne 10, 3) := dk_154 0 10 (dk_at dksX3_flow_0 5 rfl rfl)
theorem dX3_flow_8 : decode cX3_flow 8 = .ok (.aload_n 0, 1) := dk_42 (dk_at dksX3_flow_0 8 rfl rfl)
theorem dX3_flow_9 : decode cX3_flow 9 = .ok (.ldc 53, 2) := dk_18 53 (dk_at dksX3_flow_0 9 rfl rfl)
theorem dX3_flow_11 : decode cX3_flow 11 = .ok (.invokevirtual 59, 3) := dk_182 0 59 (dk_at dksX3_flow_0 11 rfl rfl)
theorem dX3_flow_14 : decode cX3_flow 14 = .ok (.ireturn, 1) := dk_172 (dk_at dksX3_flow_0 14 rfl rfl)
theorem dX3_flow_15 : decode cX3_flow 15 = .ok (.aload_n 0, 1) := dk_42 (dk_at dksX3_flow_0 15 rfl rfl)
theorem dX3_flow_16 : decode cX3_flow 16 = .ok (.invokevirtual 208, 3) := dk_182 0 208 (dk_at dksX3_flow_0 16 rfl rfl)
theorem dX3_flow_19 : decode cX3_flow 19 = .ok (.aload_n 0, 1) := dk_42 (dk_at dksX3_flow_0 19 rfl rfl)
theorem dX3_flow_20 : decode cX3_flow 20 = .ok (.iload_n 1, 1) := dk_27 (dk_at dksX3_flow_0 20 rfl rfl)
theorem dX3_flow_21 : decode cX3_flow 21 = .ok (.invokevirtual 199, 3) := dk_182 0 199 (dk_at dksX3_flow_0 21 rfl rfl)
theorem dX3_flow_24 : decode cX3_flow 24 = .ok (.ireturn, 1) := dk_172 (dk_at dksX3_flow_1 0 rfl rfl)
abbrev cX3_flowOf : ByteArray := prog_16_method_43_code
def yX3_flowOf : MethodName := ⟨RX3, "flowOf", "(I)I"⟩
def dkwX3_flowOf_2 : List UInt8 := [182, 0, 79, 46, 100, 104, 16, 80, 108, 172]
abbrev dktX3_flowOf_2 : List UInt8 := dkwX3_flowOf_2 ++ []
def dkwX3_flowOf_1 : List UInt8 := [180, 0, 25, 42, 27, 5, 182, 0, 79, 46, 61, 42, 27, 182, 0, 88, 28, 42, 180, 0, 25, 42, 27, 4]
abbrev dktX3_flowOf_1 : List UInt8 := dkwX3_flowOf_1 ++ dktX3_flowOf_2
def dkwX3_flowOf_0 : List UInt8 := [42, 27, 5, 182, 0, 79, 2, 160, 0, 14, 16, 8, 42, 27, 182, 0, 91, 104, 167, 0, 14, 42]
abbrev dktX3_flowOf_0 : List UInt8 := dkwX3_flowOf_0 ++ dktX3_flowOf_1
theorem dksX3_flowOf_0 : cX3_flowOf.data.toList.drop 0 = dktX3_flowOf_0 := by decide +kernel
theorem dksX3_flowOf_1 : cX3_flowOf.data.toList.drop 22 = dktX3_flowOf_1 := dk_seg dksX3_flowOf_0 22 rfl rfl
theorem dksX3_flowOf_2 : cX3_flowOf.data.toList.drop 46 = dktX3_flowOf_2 := dk_seg dksX3_flowOf_1 24 rfl rfl
theorem dX3_flowOf_0 : decode cX3_flowOf 0 = .ok (.aload_n 0, 1) := dk_42 (dk_at dksX3_flowOf_0 0 rfl rfl)
theorem dX3_flowOf_1 : decode cX3_flowOf 1 = .ok (.iload_n 1, 1) := dk_27 (dk_at dksX3_flowOf_0 1 rfl rfl)
theorem dX3_flowOf_2 : decode cX3_flowOf 2 = .ok (.iconst 2, 1) := dk_5 (dk_at dksX3_flowOf_0 2 rfl rfl)
theorem dX3_flowOf_3 : decode cX3_flowOf 3 = .ok (.invokevirtual 79, 3) := dk_182 0 79 (dk_at dksX3_flowOf_0 3 rfl rfl)
theorem dX3_flowOf_6 : decode cX3_flowOf 6 = .ok (.iconst (-1), 1) := dk_2 (dk_at dksX3_flowOf_0 6 rfl rfl)
theorem dX3_flowOf_7 : decode cX3_flowOf 7 = .ok (.if_icmp .ne 14, 3) := dk_160 0 14 (dk_at dksX3_flowOf_0 7 rfl rfl)
theorem dX3_flowOf_10 : decode cX3_flowOf 10 = .ok (.bipush 8, 2) := dk_16 8 (dk_at dksX3_flowOf_0 10 rfl rfl)
theorem dX3_flowOf_12 : decode cX3_flowOf 12 = .ok (.aload_n 0, 1) := dk_42 (dk_at dksX3_flowOf_0 12 rfl rfl)
theorem dX3_flowOf_13 : decode cX3_flowOf 13 = .ok (.iload_n 1, 1) := dk_27 (dk_at dksX3_flowOf_0 13 rfl rfl)
theorem dX3_flowOf_14 : decode cX3_flowOf 14 = .ok (.invokevirtual 91, 3) := dk_182 0 91 (dk_at dksX3_flowOf_0 14 rfl rfl)
theorem dX3_flowOf_17 : decode cX3_flowOf 17 = .ok (.imul, 1) := dk_104 (dk_at dksX3_flowOf_0 17 rfl rfl)
theorem dX3_flowOf_18 : decode cX3_flowOf 18 = .ok (.goto 14, 3) := dk_167 0 14 (dk_at dksX3_flowOf_0 18 rfl rfl)
theorem dX3_flowOf_21 : decode cX3_flowOf 21 = .ok (.aload_n 0, 1) := dk_42 (dk_at dksX3_flowOf_0 21 rfl rfl)
theorem dX3_flowOf_22 : decode cX3_flowOf 22 = .ok (.getfield 25, 3) := dk_180 0 25 (dk_at dksX3_flowOf_1 0 rfl rfl)
theorem dX3_flowOf_25 : decode cX3_flowOf 25 = .ok (.aload_n 0, 1) := dk_42 (dk_at dksX3_flowOf_1 3 rfl rfl)
theorem dX3_flowOf_26 : decode cX3_flowOf 26 = .ok (.iload_n 1, 1) := dk_27 (dk_at dksX3_flowOf_1 4 rfl rfl)
theorem dX3_flowOf_27 : decode cX3_flowOf 27 = .ok (.iconst 2, 1) := dk_5 (dk_at dksX3_flowOf_1 5 rfl rfl)
theorem dX3_flowOf_28 : decode cX3_flowOf 28 = .ok (.invokevirtual 79, 3) := dk_182 0 79 (dk_at dksX3_flowOf_1 6 rfl rfl)
theorem dX3_flowOf_31 : decode cX3_flowOf 31 = .ok (.iaload, 1) := dk_46 (dk_at dksX3_flowOf_1 9 rfl rfl)
theorem dX3_flowOf_32 : decode cX3_flowOf 32 = .ok (.istore_n 2, 1) := dk_61 (dk_at dksX3_flowOf_1 10 rfl rfl)
theorem dX3_flowOf_33 : decode cX3_flowOf 33 = .ok (.aload_n 0, 1) := dk_42 (dk_at dksX3_flowOf_1 11 rfl rfl)
theorem dX3_flowOf_34 : decode cX3_flowOf 34 = .ok (.iload_n 1, 1) := dk_27 (dk_at dksX3_flowOf_1 12 rfl rfl)
theorem dX3_flowOf_35 : decode cX3_flowOf 35 = .ok (.invokevirtual 88, 3) := dk_182 0 88 (dk_at dksX3_flowOf_1 13 rfl rfl)
theorem dX3_flowOf_38 : decode cX3_flowOf 38 = .ok (.iload_n 2, 1) := dk_28 (dk_at dksX3_flowOf_1 16 rfl rfl)
theorem dX3_flowOf_39 : decode cX3_flowOf 39 = .ok (.aload_n 0, 1) := dk_42 (dk_at dksX3_flowOf_1 17 rfl rfl)
theorem dX3_flowOf_40 : decode cX3_flowOf 40 = .ok (.getfield 25, 3) := dk_180 0 25 (dk_at dksX3_flowOf_1 18 rfl rfl)
theorem dX3_flowOf_43 : decode cX3_flowOf 43 = .ok (.aload_n 0, 1) := dk_42 (dk_at dksX3_flowOf_1 21 rfl rfl)
theorem dX3_flowOf_44 : decode cX3_flowOf 44 = .ok (.iload_n 1, 1) := dk_27 (dk_at dksX3_flowOf_1 22 rfl rfl)
theorem dX3_flowOf_45 : decode cX3_flowOf 45 = .ok (.iconst 1, 1) := dk_4 (dk_at dksX3_flowOf_1 23 rfl rfl)
theorem dX3_flowOf_46 : decode cX3_flowOf 46 = .ok (.invokevirtual 79, 3) := dk_182 0 79 (dk_at dksX3_flowOf_2 0 rfl rfl)
theorem dX3_flowOf_49 : decode cX3_flowOf 49 = .ok (.iaload, 1) := dk_46 (dk_at dksX3_flowOf_2 3 rfl rfl)
theorem dX3_flowOf_50 : decode cX3_flowOf 50 = .ok (.isub, 1) := dk_100 (dk_at dksX3_flowOf_2 4 rfl rfl)
theorem dX3_flowOf_51 : decode cX3_flowOf 51 = .ok (.imul, 1) := dk_104 (dk_at dksX3_flowOf_2 5 rfl rfl)
theorem dX3_flowOf_52 : decode cX3_flowOf 52 = .ok (.bipush 80, 2) := dk_16 80 (dk_at dksX3_flowOf_2 6 rfl rfl)
theorem dX3_flowOf_54 : decode cX3_flowOf 54 = .ok (.idiv, 1) := dk_108 (dk_at dksX3_flowOf_2 8 rfl rfl)
theorem dX3_flowOf_55 : decode cX3_flowOf 55 = .ok (.ireturn, 1) := dk_172 (dk_at dksX3_flowOf_2 9 rfl rfl)
abbrev cX3_lean : ByteArray := prog_16_method_51_code
def yX3_lean : MethodName := ⟨RX3, "lean", "(I)I"⟩
def dkwX3_lean_1 : List UInt8 := [172]
abbrev dktX3_lean_1 : List UInt8 := dkwX3_lean_1 ++ []
def dkwX3_lean_0 : List UInt8 := [42, 27, 182, 0, 83, 154, 0, 10, 42, 18, 53, 182, 0, 59, 172, 42, 182, 0, 208, 42, 27, 182, 0, 211]
abbrev dktX3_lean_0 : List UInt8 := dkwX3_lean_0 ++ dktX3_lean_1
theorem dksX3_lean_0 : cX3_lean.data.toList.drop 0 = dktX3_lean_0 := by decide +kernel
theorem dksX3_lean_1 : cX3_lean.data.toList.drop 24 = dktX3_lean_1 := dk_seg dksX3_lean_0 24 rfl rfl
theorem dX3_lean_0 : decode cX3_lean 0 = .ok (.aload_n 0, 1) := dk_42 (dk_at dksX3_lean_0 0 rfl rfl)
theorem dX3_lean_1 : decode cX3_lean 1 = .ok (.iload_n 1, 1) := dk_27 (dk_at dksX3_lean_0 1 rfl rfl)
theorem dX3_lean_2 : decode cX3_lean 2 = .ok (.invokevirtual 83, 3) := dk_182 0 83 (dk_at dksX3_lean_0 2 rfl rfl)
theorem dX3_lean_5 : decode cX3_lean 5 = .ok (.ifCond .ne 10, 3) := dk_154 0 10 (dk_at dksX3_lean_0 5 rfl rfl)
theorem dX3_lean_8 : decode cX3_lean 8 = .ok (.aload_n 0, 1) := dk_42 (dk_at dksX3_lean_0 8 rfl rfl)
theorem dX3_lean_9 : decode cX3_lean 9 = .ok (.ldc 53, 2) := dk_18 53 (dk_at dksX3_lean_0 9 rfl rfl)
theorem dX3_lean_11 : decode cX3_lean 11 = .ok (.invokevirtual 59, 3) := dk_182 0 59 (dk_at dksX3_lean_0 11 rfl rfl)
theorem dX3_lean_14 : decode cX3_lean 14 = .ok (.ireturn, 1) := dk_172 (dk_at dksX3_lean_0 14 rfl rfl)
theorem dX3_lean_15 : decode cX3_lean 15 = .ok (.aload_n 0, 1) := dk_42 (dk_at dksX3_lean_0 15 rfl rfl)
theorem dX3_lean_16 : decode cX3_lean 16 = .ok (.invokevirtual 208, 3) := dk_182 0 208 (dk_at dksX3_lean_0 16 rfl rfl)
theorem dX3_lean_19 : decode cX3_lean 19 = .ok (.aload_n 0, 1) := dk_42 (dk_at dksX3_lean_0 19 rfl rfl)
theorem dX3_lean_20 : decode cX3_lean 20 = .ok (.iload_n 1, 1) := dk_27 (dk_at dksX3_lean_0 20 rfl rfl)
theorem dX3_lean_21 : decode cX3_lean 21 = .ok (.invokevirtual 211, 3) := dk_182 0 211 (dk_at dksX3_lean_0 21 rfl rfl)
theorem dX3_lean_24 : decode cX3_lean 24 = .ok (.ireturn, 1) := dk_172 (dk_at dksX3_lean_1 0 rfl rfl)
abbrev cX3_leanOf : ByteArray := prog_16_method_45_code
def yX3_leanOf : MethodName := ⟨RX3, "leanOf", "(I)I"⟩
def dkwX3_leanOf_2 : List UInt8 := [167, 0, 4, 29, 172]
abbrev dktX3_leanOf_2 : List UInt8 := dkwX3_leanOf_2 ++ []
def dkwX3_leanOf_1 : List UInt8 := [96, 62, 29, 16, 9, 164, 0, 8, 16, 9, 167, 0, 4, 29, 62, 28, 156, 0, 9, 3, 29, 100]
abbrev dktX3_leanOf_1 : List UInt8 := dkwX3_leanOf_1 ++ dktX3_leanOf_2
def dkwX3_leanOf_0 : List UInt8 := [42, 27, 182, 0, 199, 61, 28, 184, 0, 202, 8, 162, 0, 5, 3, 172, 28, 184, 0, 202, 16, 20, 108, 4]
abbrev dktX3_leanOf_0 : List UInt8 := dkwX3_leanOf_0 ++ dktX3_leanOf_1
theorem dksX3_leanOf_0 : cX3_leanOf.data.toList.drop 0 = dktX3_leanOf_0 := by decide +kernel
theorem dksX3_leanOf_1 : cX3_leanOf.data.toList.drop 24 = dktX3_leanOf_1 := dk_seg dksX3_leanOf_0 24 rfl rfl
theorem dksX3_leanOf_2 : cX3_leanOf.data.toList.drop 46 = dktX3_leanOf_2 := dk_seg dksX3_leanOf_1 22 rfl rfl
theorem dX3_leanOf_0 : decode cX3_leanOf 0 = .ok (.aload_n 0, 1) := dk_42 (dk_at dksX3_leanOf_0 0 rfl rfl)
theorem dX3_leanOf_1 : decode cX3_leanOf 1 = .ok (.iload_n 1, 1) := dk_27 (dk_at dksX3_leanOf_0 1 rfl rfl)
theorem dX3_leanOf_2 : decode cX3_leanOf 2 = .ok (.invokevirtual 199, 3) := dk_182 0 199 (dk_at dksX3_leanOf_0 2 rfl rfl)
theorem dX3_leanOf_5 : decode cX3_leanOf 5 = .ok (.istore_n 2, 1) := dk_61 (dk_at dksX3_leanOf_0 5 rfl rfl)
theorem dX3_leanOf_6 : decode cX3_leanOf 6 = .ok (.iload_n 2, 1) := dk_28 (dk_at dksX3_leanOf_0 6 rfl rfl)
theorem dX3_leanOf_7 : decode cX3_leanOf 7 = .ok (.invokestatic 202, 3) := dk_184 0 202 (dk_at dksX3_leanOf_0 7 rfl rfl)
theorem dX3_leanOf_10 : decode cX3_leanOf 10 = .ok (.iconst 5, 1) := dk_8 (dk_at dksX3_leanOf_0 10 rfl rfl)
theorem dX3_leanOf_11 : decode cX3_leanOf 11 = .ok (.if_icmp .ge 5, 3) := dk_162 0 5 (dk_at dksX3_leanOf_0 11 rfl rfl)
theorem dX3_leanOf_14 : decode cX3_leanOf 14 = .ok (.iconst 0, 1) := dk_3 (dk_at dksX3_leanOf_0 14 rfl rfl)
theorem dX3_leanOf_15 : decode cX3_leanOf 15 = .ok (.ireturn, 1) := dk_172 (dk_at dksX3_leanOf_0 15 rfl rfl)
theorem dX3_leanOf_16 : decode cX3_leanOf 16 = .ok (.iload_n 2, 1) := dk_28 (dk_at dksX3_leanOf_0 16 rfl rfl)
theorem dX3_leanOf_17 : decode cX3_leanOf 17 = .ok (.invokestatic 202, 3) := dk_184 0 202 (dk_at dksX3_leanOf_0 17 rfl rfl)
theorem dX3_leanOf_20 : decode cX3_leanOf 20 = .ok (.bipush 20, 2) := dk_16 20 (dk_at dksX3_leanOf_0 20 rfl rfl)
theorem dX3_leanOf_22 : decode cX3_leanOf 22 = .ok (.idiv, 1) := dk_108 (dk_at dksX3_leanOf_0 22 rfl rfl)
theorem dX3_leanOf_23 : decode cX3_leanOf 23 = .ok (.iconst 1, 1) := dk_4 (dk_at dksX3_leanOf_0 23 rfl rfl)
theorem dX3_leanOf_24 : decode cX3_leanOf 24 = .ok (.iadd, 1) := dk_96 (dk_at dksX3_leanOf_1 0 rfl rfl)
theorem dX3_leanOf_25 : decode cX3_leanOf 25 = .ok (.istore_n 3, 1) := dk_62 (dk_at dksX3_leanOf_1 1 rfl rfl)
theorem dX3_leanOf_26 : decode cX3_leanOf 26 = .ok (.iload_n 3, 1) := dk_29 (dk_at dksX3_leanOf_1 2 rfl rfl)
theorem dX3_leanOf_27 : decode cX3_leanOf 27 = .ok (.bipush 9, 2) := dk_16 9 (dk_at dksX3_leanOf_1 3 rfl rfl)
theorem dX3_leanOf_29 : decode cX3_leanOf 29 = .ok (.if_icmp .le 8, 3) := dk_164 0 8 (dk_at dksX3_leanOf_1 5 rfl rfl)
theorem dX3_leanOf_32 : decode cX3_leanOf 32 = .ok (.bipush 9, 2) := dk_16 9 (dk_at dksX3_leanOf_1 8 rfl rfl)
theorem dX3_leanOf_34 : decode cX3_leanOf 34 = .ok (.goto 4, 3) := dk_167 0 4 (dk_at dksX3_leanOf_1 10 rfl rfl)
theorem dX3_leanOf_37 : decode cX3_leanOf 37 = .ok (.iload_n 3, 1) := dk_29 (dk_at dksX3_leanOf_1 13 rfl rfl)
theorem dX3_leanOf_38 : decode cX3_leanOf 38 = .ok (.istore_n 3, 1) := dk_62 (dk_at dksX3_leanOf_1 14 rfl rfl)
theorem dX3_leanOf_39 : decode cX3_leanOf 39 = .ok (.iload_n 2, 1) := dk_28 (dk_at dksX3_leanOf_1 15 rfl rfl)
theorem dX3_leanOf_40 : decode cX3_leanOf 40 = .ok (.ifCond .ge 9, 3) := dk_156 0 9 (dk_at dksX3_leanOf_1 16 rfl rfl)
theorem dX3_leanOf_43 : decode cX3_leanOf 43 = .ok (.iconst 0, 1) := dk_3 (dk_at dksX3_leanOf_1 19 rfl rfl)
theorem dX3_leanOf_44 : decode cX3_leanOf 44 = .ok (.iload_n 3, 1) := dk_29 (dk_at dksX3_leanOf_1 20 rfl rfl)
theorem dX3_leanOf_45 : decode cX3_leanOf 45 = .ok (.isub, 1) := dk_100 (dk_at dksX3_leanOf_1 21 rfl rfl)
theorem dX3_leanOf_46 : decode cX3_leanOf 46 = .ok (.goto 4, 3) := dk_167 0 4 (dk_at dksX3_leanOf_2 0 rfl rfl)
theorem dX3_leanOf_49 : decode cX3_leanOf 49 = .ok (.iload_n 3, 1) := dk_29 (dk_at dksX3_leanOf_2 3 rfl rfl)
theorem dX3_leanOf_50 : decode cX3_leanOf 50 = .ok (.ireturn, 1) := dk_172 (dk_at dksX3_leanOf_2 4 rfl rfl)
abbrev cX3_size : ByteArray := prog_16_method_44_code
def yX3_size : MethodName := ⟨RX3, "size", "(I)I"⟩
def dkwX3_size_0 : List UInt8 := [26, 156, 0, 9, 3, 26, 100, 167, 0, 4, 26, 172]
abbrev dktX3_size_0 : List UInt8 := dkwX3_size_0 ++ []
theorem dksX3_size_0 : cX3_size.data.toList.drop 0 = dktX3_size_0 := by decide +kernel
theorem dX3_size_0 : decode cX3_size 0 = .ok (.iload_n 0, 1) := dk_26 (dk_at dksX3_size_0 0 rfl rfl)
theorem dX3_size_1 : decode cX3_size 1 = .ok (.ifCond .ge 9, 3) := dk_156 0 9 (dk_at dksX3_size_0 1 rfl rfl)
theorem dX3_size_4 : decode cX3_size 4 = .ok (.iconst 0, 1) := dk_3 (dk_at dksX3_size_0 4 rfl rfl)
theorem dX3_size_5 : decode cX3_size 5 = .ok (.iload_n 0, 1) := dk_26 (dk_at dksX3_size_0 5 rfl rfl)
theorem dX3_size_6 : decode cX3_size 6 = .ok (.isub, 1) := dk_100 (dk_at dksX3_size_0 6 rfl rfl)
theorem dX3_size_7 : decode cX3_size 7 = .ok (.goto 4, 3) := dk_167 0 4 (dk_at dksX3_size_0 7 rfl rfl)
theorem dX3_size_10 : decode cX3_size 10 = .ok (.iload_n 0, 1) := dk_26 (dk_at dksX3_size_0 10 rfl rfl)
theorem dX3_size_11 : decode cX3_size 11 = .ok (.ireturn, 1) := dk_172 (dk_at dksX3_size_0 11 rfl rfl)
abbrev cX3_rounds : ByteArray := prog_16_method_52_code
def yX3_rounds : MethodName := ⟨RX3, "rounds", "()I"⟩
def dkwX3_rounds_0 : List UInt8 := [42, 182, 0, 208, 42, 180, 0, 189, 172]
abbrev dktX3_rounds_0 : List UInt8 := dkwX3_rounds_0 ++ []
theorem dksX3_rounds_0 : cX3_rounds.data.toList.drop 0 = dktX3_rounds_0 := by decide +kernel
theorem dX3_rounds_0 : decode cX3_rounds 0 = .ok (.aload_n 0, 1) := dk_42 (dk_at dksX3_rounds_0 0 rfl rfl)
theorem dX3_rounds_1 : decode cX3_rounds 1 = .ok (.invokevirtual 208, 3) := dk_182 0 208 (dk_at dksX3_rounds_0 1 rfl rfl)
theorem dX3_rounds_4 : decode cX3_rounds 4 = .ok (.aload_n 0, 1) := dk_42 (dk_at dksX3_rounds_0 4 rfl rfl)
theorem dX3_rounds_5 : decode cX3_rounds 5 = .ok (.getfield 189, 3) := dk_180 0 189 (dk_at dksX3_rounds_0 5 rfl rfl)
theorem dX3_rounds_8 : decode cX3_rounds 8 = .ok (.ireturn, 1) := dk_172 (dk_at dksX3_rounds_0 8 rfl rfl)
abbrev cX3_rest : ByteArray := prog_16_method_53_code
def yX3_rest : MethodName := ⟨RX3, "rest", "(I)I"⟩
def dkwX3_rest_3 : List UInt8 := [167, 0, 4, 3, 96, 61, 132, 3, 1, 167, 255, 201, 28, 172]
abbrev dktX3_rest_3 : List UInt8 := dkwX3_rest_3 ++ []
def dkwX3_rest_2 : List UInt8 := [182, 0, 199, 167, 0, 24, 42, 29, 5, 182, 0, 79, 27, 160, 0, 13, 3, 42, 29, 182, 0, 199, 100]
abbrev dktX3_rest_2 : List UInt8 := dkwX3_rest_2 ++ dktX3_rest_3
def dkwX3_rest_1 : List UInt8 := [42, 180, 0, 7, 4, 46, 162, 0, 51, 28, 42, 29, 4, 182, 0, 79, 27, 160, 0, 11, 42, 29]
abbrev dktX3_rest_1 : List UInt8 := dkwX3_rest_1 ++ dktX3_rest_2
def dkwX3_rest_0 : List UInt8 := [42, 27, 182, 0, 69, 154, 0, 10, 42, 18, 53, 182, 0, 59, 172, 42, 182, 0, 208, 3, 61, 3, 62, 29]
abbrev dktX3_rest_0 : List UInt8 := dkwX3_rest_0 ++ dktX3_rest_1
theorem dksX3_rest_0 : cX3_rest.data.toList.drop 0 = dktX3_rest_0 := by decide +kernel
theorem dksX3_rest_1 : cX3_rest.data.toList.drop 24 = dktX3_rest_1 := dk_seg dksX3_rest_0 24 rfl rfl
theorem dksX3_rest_2 : cX3_rest.data.toList.drop 46 = dktX3_rest_2 := dk_seg dksX3_rest_1 22 rfl rfl
theorem dksX3_rest_3 : cX3_rest.data.toList.drop 69 = dktX3_rest_3 := dk_seg dksX3_rest_2 23 rfl rfl
theorem dX3_rest_0 : decode cX3_rest 0 = .ok (.aload_n 0, 1) := dk_42 (dk_at dksX3_rest_0 0 rfl rfl)
theorem dX3_rest_1 : decode cX3_rest 1 = .ok (.iload_n 1, 1) := dk_27 (dk_at dksX3_rest_0 1 rfl rfl)
theorem dX3_rest_2 : decode cX3_rest 2 = .ok (.invokevirtual 69, 3) := dk_182 0 69 (dk_at dksX3_rest_0 2 rfl rfl)
theorem dX3_rest_5 : decode cX3_rest 5 = .ok (.ifCond .ne 10, 3) := dk_154 0 10 (dk_at dksX3_rest_0 5 rfl rfl)
theorem dX3_rest_8 : decode cX3_rest 8 = .ok (.aload_n 0, 1) := dk_42 (dk_at dksX3_rest_0 8 rfl rfl)
theorem dX3_rest_9 : decode cX3_rest 9 = .ok (.ldc 53, 2) := dk_18 53 (dk_at dksX3_rest_0 9 rfl rfl)
theorem dX3_rest_11 : decode cX3_rest 11 = .ok (.invokevirtual 59, 3) := dk_182 0 59 (dk_at dksX3_rest_0 11 rfl rfl)
theorem dX3_rest_14 : decode cX3_rest 14 = .ok (.ireturn, 1) := dk_172 (dk_at dksX3_rest_0 14 rfl rfl)
theorem dX3_rest_15 : decode cX3_rest 15 = .ok (.aload_n 0, 1) := dk_42 (dk_at dksX3_rest_0 15 rfl rfl)
theorem dX3_rest_16 : decode cX3_rest 16 = .ok (.invokevirtual 208, 3) := dk_182 0 208 (dk_at dksX3_rest_0 16 rfl rfl)
theorem dX3_rest_19 : decode cX3_rest 19 = .ok (.iconst 0, 1) := dk_3 (dk_at dksX3_rest_0 19 rfl rfl)
theorem dX3_rest_20 : decode cX3_rest 20 = .ok (.istore_n 2, 1) := dk_61 (dk_at dksX3_rest_0 20 rfl rfl)
theorem dX3_rest_21 : decode cX3_rest 21 = .ok (.iconst 0, 1) := dk_3 (dk_at dksX3_rest_0 21 rfl rfl)
theorem dX3_rest_22 : decode cX3_rest 22 = .ok (.istore_n 3, 1) := dk_62 (dk_at dksX3_rest_0 22 rfl rfl)
theorem dX3_rest_23 : decode cX3_rest 23 = .ok (.iload_n 3, 1) := dk_29 (dk_at dksX3_rest_0 23 rfl rfl)
theorem dX3_rest_24 : decode cX3_rest 24 = .ok (.aload_n 0, 1) := dk_42 (dk_at dksX3_rest_1 0 rfl rfl)
theorem dX3_rest_25 : decode cX3_rest 25 = .ok (.getfield 7, 3) := dk_180 0 7 (dk_at dksX3_rest_1 1 rfl rfl)
theorem dX3_rest_28 : decode cX3_rest 28 = .ok (.iconst 1, 1) := dk_4 (dk_at dksX3_rest_1 4 rfl rfl)
theorem dX3_rest_29 : decode cX3_rest 29 = .ok (.iaload, 1) := dk_46 (dk_at dksX3_rest_1 5 rfl rfl)
theorem dX3_rest_30 : decode cX3_rest 30 = .ok (.if_icmp .ge 51, 3) := dk_162 0 51 (dk_at dksX3_rest_1 6 rfl rfl)
theorem dX3_rest_33 : decode cX3_rest 33 = .ok (.iload_n 2, 1) := dk_28 (dk_at dksX3_rest_1 9 rfl rfl)
theorem dX3_rest_34 : decode cX3_rest 34 = .ok (.aload_n 0, 1) := dk_42 (dk_at dksX3_rest_1 10 rfl rfl)
theorem dX3_rest_35 : decode cX3_rest 35 = .ok (.iload_n 3, 1) := dk_29 (dk_at dksX3_rest_1 11 rfl rfl)
theorem dX3_rest_36 : decode cX3_rest 36 = .ok (.iconst 1, 1) := dk_4 (dk_at dksX3_rest_1 12 rfl rfl)
theorem dX3_rest_37 : decode cX3_rest 37 = .ok (.invokevirtual 79, 3) := dk_182 0 79 (dk_at dksX3_rest_1 13 rfl rfl)
theorem dX3_rest_40 : decode cX3_rest 40 = .ok (.iload_n 1, 1) := dk_27 (dk_at dksX3_rest_1 16 rfl rfl)
theorem dX3_rest_41 : decode cX3_rest 41 = .ok (.if_icmp .ne 11, 3) := dk_160 0 11 (dk_at dksX3_rest_1 17 rfl rfl)
theorem dX3_rest_44 : decode cX3_rest 44 = .ok (.aload_n 0, 1) := dk_42 (dk_at dksX3_rest_1 20 rfl rfl)
theorem dX3_rest_45 : decode cX3_rest 45 = .ok (.iload_n 3, 1) := dk_29 (dk_at dksX3_rest_1 21 rfl rfl)
theorem dX3_rest_46 : decode cX3_rest 46 = .ok (.invokevirtual 199, 3) := dk_182 0 199 (dk_at dksX3_rest_2 0 rfl rfl)
theorem dX3_rest_49 : decode cX3_rest 49 = .ok (.goto 24, 3) := dk_167 0 24 (dk_at dksX3_rest_2 3 rfl rfl)
theorem dX3_rest_52 : decode cX3_rest 52 = .ok (.aload_n 0, 1) := dk_42 (dk_at dksX3_rest_2 6 rfl rfl)
theorem dX3_rest_53 : decode cX3_rest 53 = .ok (.iload_n 3, 1) := dk_29 (dk_at dksX3_rest_2 7 rfl rfl)
theorem dX3_rest_54 : decode cX3_rest 54 = .ok (.iconst 2, 1) := dk_5 (dk_at dksX3_rest_2 8 rfl rfl)
theorem dX3_rest_55 : decode cX3_rest 55 = .ok (.invokevirtual 79, 3) := dk_182 0 79 (dk_at dksX3_rest_2 9 rfl rfl)
theorem dX3_rest_58 : decode cX3_rest 58 = .ok (.iload_n 1, 1) := dk_27 (dk_at dksX3_rest_2 12 rfl rfl)
theorem dX3_rest_59 : decode cX3_rest 59 = .ok (.if_icmp .ne 13, 3) := dk_160 0 13 (dk_at dksX3_rest_2 13 rfl rfl)
theorem dX3_rest_62 : decode cX3_rest 62 = .ok (.iconst 0, 1) := dk_3 (dk_at dksX3_rest_2 16 rfl rfl)
theorem dX3_rest_63 : decode cX3_rest 63 = .ok (.aload_n 0, 1) := dk_42 (dk_at dksX3_rest_2 17 rfl rfl)
theorem dX3_rest_64 : decode cX3_rest 64 = .ok (.iload_n 3, 1) := dk_29 (dk_at dksX3_rest_2 18 rfl rfl)
theorem dX3_rest_65 : decode cX3_rest 65 = .ok (.invokevirtual 199, 3) := dk_182 0 199 (dk_at dksX3_rest_2 19 rfl rfl)
theorem dX3_rest_68 : decode cX3_rest 68 = .ok (.isub, 1) := dk_100 (dk_at dksX3_rest_2 22 rfl rfl)
theorem dX3_rest_69 : decode cX3_rest 69 = .ok (.goto 4, 3) := dk_167 0 4 (dk_at dksX3_rest_3 0 rfl rfl)
theorem dX3_rest_72 : decode cX3_rest 72 = .ok (.iconst 0, 1) := dk_3 (dk_at dksX3_rest_3 3 rfl rfl)
theorem dX3_rest_73 : decode cX3_rest 73 = .ok (.iadd, 1) := dk_96 (dk_at dksX3_rest_3 4 rfl rfl)
theorem dX3_rest_74 : decode cX3_rest 74 = .ok (.istore_n 2, 1) := dk_61 (dk_at dksX3_rest_3 5 rfl rfl)
theorem dX3_rest_75 : decode cX3_rest 75 = .ok (.iinc 3 1, 3) := dk_132 3 1 (dk_at dksX3_rest_3 6 rfl rfl)
theorem dX3_rest_78 : decode cX3_rest 78 = .ok (.goto (-55), 3) := dk_167 255 201 (dk_at dksX3_rest_3 9 rfl rfl)
theorem dX3_rest_81 : decode cX3_rest 81 = .ok (.iload_n 2, 1) := dk_28 (dk_at dksX3_rest_3 12 rfl rfl)
theorem dX3_rest_82 : decode cX3_rest 82 = .ok (.ireturn, 1) := dk_172 (dk_at dksX3_rest_3 13 rfl rfl)
abbrev cX3_air : ByteArray := prog_16_method_54_code
def yX3_air : MethodName := ⟨RX3, "air", "(I)I"⟩
def dkwX3_air_3 : List UInt8 := [153, 0, 7, 4, 167, 0, 4, 3, 172]
abbrev dktX3_air_3 : List UInt8 := dkwX3_air_3 ++ []
def dkwX3_air_2 : List UInt8 := [160, 0, 18, 42, 182, 0, 219, 153, 0, 7, 4, 167, 0, 19, 3, 167, 0, 15, 42, 180, 0, 196]
abbrev dktX3_air_2 : List UInt8 := dkwX3_air_2 ++ dktX3_air_3
def dkwX3_air_1 : List UInt8 := [154, 0, 10, 42, 182, 0, 205, 167, 0, 47, 27, 4, 160, 0, 10, 42, 182, 0, 216, 167, 0, 35, 27, 5]
abbrev dktX3_air_1 : List UInt8 := dkwX3_air_1 ++ dktX3_air_2
def dkwX3_air_0 : List UInt8 := [27, 133, 9, 20, 0, 214, 184, 0, 54, 154, 0, 10, 42, 18, 53, 182, 0, 59, 172, 42, 182, 0, 208, 27]
abbrev dktX3_air_0 : List UInt8 := dkwX3_air_0 ++ dktX3_air_1
theorem dksX3_air_0 : cX3_air.data.toList.drop 0 = dktX3_air_0 := by decide +kernel
theorem dksX3_air_1 : cX3_air.data.toList.drop 24 = dktX3_air_1 := dk_seg dksX3_air_0 24 rfl rfl
theorem dksX3_air_2 : cX3_air.data.toList.drop 48 = dktX3_air_2 := dk_seg dksX3_air_1 24 rfl rfl
theorem dksX3_air_3 : cX3_air.data.toList.drop 70 = dktX3_air_3 := dk_seg dksX3_air_2 22 rfl rfl
theorem dX3_air_0 : decode cX3_air 0 = .ok (.iload_n 1, 1) := dk_27 (dk_at dksX3_air_0 0 rfl rfl)
theorem dX3_air_1 : decode cX3_air 1 = .ok (.i2l, 1) := dk_133 (dk_at dksX3_air_0 1 rfl rfl)
theorem dX3_air_2 : decode cX3_air 2 = .ok (.lconst 0, 1) := dk_9 (dk_at dksX3_air_0 2 rfl rfl)
theorem dX3_air_3 : decode cX3_air 3 = .ok (.ldc2_w 214, 3) := dk_20 0 214 (dk_at dksX3_air_0 3 rfl rfl)
theorem dX3_air_6 : decode cX3_air 6 = .ok (.invokestatic 54, 3) := dk_184 0 54 (dk_at dksX3_air_0 6 rfl rfl)
theorem dX3_air_9 : decode cX3_air 9 = .ok (.ifCond .ne 10, 3) := dk_154 0 10 (dk_at dksX3_air_0 9 rfl rfl)
theorem dX3_air_12 : decode cX3_air 12 = .ok (.aload_n 0, 1) := dk_42 (dk_at dksX3_air_0 12 rfl rfl)
theorem dX3_air_13 : decode cX3_air 13 = .ok (.ldc 53, 2) := dk_18 53 (dk_at dksX3_air_0 13 rfl rfl)
theorem dX3_air_15 : decode cX3_air 15 = .ok (.invokevirtual 59, 3) := dk_182 0 59 (dk_at dksX3_air_0 15 rfl rfl)
theorem dX3_air_18 : decode cX3_air 18 = .ok (.ireturn, 1) := dk_172 (dk_at dksX3_air_0 18 rfl rfl)
theorem dX3_air_19 : decode cX3_air 19 = .ok (.aload_n 0, 1) := dk_42 (dk_at dksX3_air_0 19 rfl rfl)
theorem dX3_air_20 : decode cX3_air 20 = .ok (.invokevirtual 208, 3) := dk_182 0 208 (dk_at dksX3_air_0 20 rfl rfl)
theorem dX3_air_23 : decode cX3_air 23 = .ok (.iload_n 1, 1) := dk_27 (dk_at dksX3_air_0 23 rfl rfl)
theorem dX3_air_24 : decode cX3_air 24 = .ok (.ifCond .ne 10, 3) := dk_154 0 10 (dk_at dksX3_air_1 0 rfl rfl)
theorem dX3_air_27 : decode cX3_air 27 = .ok (.aload_n 0, 1) := dk_42 (dk_at dksX3_air_1 3 rfl rfl)
theorem dX3_air_28 : decode cX3_air 28 = .ok (.invokevirtual 205, 3) := dk_182 0 205 (dk_at dksX3_air_1 4 rfl rfl)
theorem dX3_air_31 : decode cX3_air 31 = .ok (.goto 47, 3) := dk_167 0 47 (dk_at dksX3_air_1 7 rfl rfl)
theorem dX3_air_34 : decode cX3_air 34 = .ok (.iload_n 1, 1) := dk_27 (dk_at dksX3_air_1 10 rfl rfl)
theorem dX3_air_35 : decode cX3_air 35 = .ok (.iconst 1, 1) := dk_4 (dk_at dksX3_air_1 11 rfl rfl)
theorem dX3_air_36 : decode cX3_air 36 = .ok (.if_icmp .ne 10, 3) := dk_160 0 10 (dk_at dksX3_air_1 12 rfl rfl)
theorem dX3_air_39 : decode cX3_air 39 = .ok (.aload_n 0, 1) := dk_42 (dk_at dksX3_air_1 15 rfl rfl)
theorem dX3_air_40 : decode cX3_air 40 = .ok (.invokevirtual 216, 3) := dk_182 0 216 (dk_at dksX3_air_1 16 rfl rfl)
theorem dX3_air_43 : decode cX3_air 43 = .ok (.goto 35, 3) := dk_167 0 35 (dk_at dksX3_air_1 19 rfl rfl)
theorem dX3_air_46 : decode cX3_air 46 = .ok (.iload_n 1, 1) := dk_27 (dk_at dksX3_air_1 22 rfl rfl)
theorem dX3_air_47 : decode cX3_air 47 = .ok (.iconst 2, 1) := dk_5 (dk_at dksX3_air_1 23 rfl rfl)
theorem dX3_air_48 : decode cX3_air 48 = .ok (.if_icmp .ne 18, 3) := dk_160 0 18 (dk_at dksX3_air_2 0 rfl rfl)
theorem dX3_air_51 : decode cX3_air 51 = .ok (.aload_n 0, 1) := dk_42 (dk_at dksX3_air_2 3 rfl rfl)
theorem dX3_air_52 : decode cX3_air 52 = .ok (.invokevirtual 219, 3) := dk_182 0 219 (dk_at dksX3_air_2 4 rfl rfl)
theorem dX3_air_55 : decode cX3_air 55 = .ok (.ifCond .eq 7, 3) := dk_153 0 7 (dk_at dksX3_air_2 7 rfl rfl)
theorem dX3_air_58 : decode cX3_air 58 = .ok (.iconst 1, 1) := dk_4 (dk_at dksX3_air_2 10 rfl rfl)
theorem dX3_air_59 : decode cX3_air 59 = .ok (.goto 19, 3) := dk_167 0 19 (dk_at dksX3_air_2 11 rfl rfl)
theorem dX3_air_62 : decode cX3_air 62 = .ok (.iconst 0, 1) := dk_3 (dk_at dksX3_air_2 14 rfl rfl)
theorem dX3_air_63 : decode cX3_air 63 = .ok (.goto 15, 3) := dk_167 0 15 (dk_at dksX3_air_2 15 rfl rfl)
theorem dX3_air_66 : decode cX3_air 66 = .ok (.aload_n 0, 1) := dk_42 (dk_at dksX3_air_2 18 rfl rfl)
theorem dX3_air_67 : decode cX3_air 67 = .ok (.getfield 196, 3) := dk_180 0 196 (dk_at dksX3_air_2 19 rfl rfl)
theorem dX3_air_70 : decode cX3_air 70 = .ok (.ifCond .eq 7, 3) := dk_153 0 7 (dk_at dksX3_air_3 0 rfl rfl)
theorem dX3_air_73 : decode cX3_air 73 = .ok (.iconst 1, 1) := dk_4 (dk_at dksX3_air_3 3 rfl rfl)
theorem dX3_air_74 : decode cX3_air 74 = .ok (.goto 4, 3) := dk_167 0 4 (dk_at dksX3_air_3 4 rfl rfl)
theorem dX3_air_77 : decode cX3_air 77 = .ok (.iconst 0, 1) := dk_3 (dk_at dksX3_air_3 7 rfl rfl)
theorem dX3_air_78 : decode cX3_air 78 = .ok (.ireturn, 1) := dk_172 (dk_at dksX3_air_3 8 rfl rfl)
abbrev cX3_fresh : ByteArray := prog_16_method_46_code
def yX3_fresh : MethodName := ⟨RX3, "fresh", "()I"⟩
def dkwX3_fresh_2 : List UInt8 := [132, 2, 1, 167, 255, 211, 27, 172]
abbrev dktX3_fresh_2 : List UInt8 := dkwX3_fresh_2 ++ []
def dkwX3_fresh_1 : List UInt8 := [42, 28, 182, 0, 199, 167, 0, 4, 3, 62, 27, 29, 158, 0, 7, 29, 167, 0, 4, 3, 96, 60]
abbrev dktX3_fresh_1 : List UInt8 := dkwX3_fresh_1 ++ dktX3_fresh_2
def dkwX3_fresh_0 : List UInt8 := [3, 60, 3, 61, 28, 42, 180, 0, 7, 4, 46, 162, 0, 41, 42, 28, 5, 182, 0, 79, 2, 160, 0, 11]
abbrev dktX3_fresh_0 : List UInt8 := dkwX3_fresh_0 ++ dktX3_fresh_1
theorem dksX3_fresh_0 : cX3_fresh.data.toList.drop 0 = dktX3_fresh_0 := by decide +kernel
theorem dksX3_fresh_1 : cX3_fresh.data.toList.drop 24 = dktX3_fresh_1 := dk_seg dksX3_fresh_0 24 rfl rfl
theorem dksX3_fresh_2 : cX3_fresh.data.toList.drop 46 = dktX3_fresh_2 := dk_seg dksX3_fresh_1 22 rfl rfl
theorem dX3_fresh_0 : decode cX3_fresh 0 = .ok (.iconst 0, 1) := dk_3 (dk_at dksX3_fresh_0 0 rfl rfl)
theorem dX3_fresh_1 : decode cX3_fresh 1 = .ok (.istore_n 1, 1) := dk_60 (dk_at dksX3_fresh_0 1 rfl rfl)
theorem dX3_fresh_2 : decode cX3_fresh 2 = .ok (.iconst 0, 1) := dk_3 (dk_at dksX3_fresh_0 2 rfl rfl)
theorem dX3_fresh_3 : decode cX3_fresh 3 = .ok (.istore_n 2, 1) := dk_61 (dk_at dksX3_fresh_0 3 rfl rfl)
theorem dX3_fresh_4 : decode cX3_fresh 4 = .ok (.iload_n 2, 1) := dk_28 (dk_at dksX3_fresh_0 4 rfl rfl)
theorem dX3_fresh_5 : decode cX3_fresh 5 = .ok (.aload_n 0, 1) := dk_42 (dk_at dksX3_fresh_0 5 rfl rfl)
theorem dX3_fresh_6 : decode cX3_fresh 6 = .ok (.getfield 7, 3) := dk_180 0 7 (dk_at dksX3_fresh_0 6 rfl rfl)
theorem dX3_fresh_9 : decode cX3_fresh 9 = .ok (.iconst 1, 1) := dk_4 (dk_at dksX3_fresh_0 9 rfl rfl)
theorem dX3_fresh_10 : decode cX3_fresh 10 = .ok (.iaload, 1) := dk_46 (dk_at dksX3_fresh_0 10 rfl rfl)
theorem dX3_fresh_11 : decode cX3_fresh 11 = .ok (.if_icmp .ge 41, 3) := dk_162 0 41 (dk_at dksX3_fresh_0 11 rfl rfl)
theorem dX3_fresh_14 : decode cX3_fresh 14 = .ok (.aload_n 0, 1) := dk_42 (dk_at dksX3_fresh_0 14 rfl rfl)
theorem dX3_fresh_15 : decode cX3_fresh 15 = .ok (.iload_n 2, 1) := dk_28 (dk_at dksX3_fresh_0 15 rfl rfl)
theorem dX3_fresh_16 : decode cX3_fresh 16 = .ok (.iconst 2, 1) := dk_5 (dk_at dksX3_fresh_0 16 rfl rfl)
theorem dX3_fresh_17 : decode cX3_fresh 17 = .ok (.invokevirtual 79, 3) := dk_182 0 79 (dk_at dksX3_fresh_0 17 rfl rfl)
theorem dX3_fresh_20 : decode cX3_fresh 20 = .ok (.iconst (-1), 1) := dk_2 (dk_at dksX3_fresh_0 20 rfl rfl)
theorem dX3_fresh_21 : decode cX3_fresh 21 = .ok (.if_icmp .ne 11, 3) := dk_160 0 11 (dk_at dksX3_fresh_0 21 rfl rfl)
theorem dX3_fresh_24 : decode cX3_fresh 24 = .ok (.aload_n 0, 1) := dk_42 (dk_at dksX3_fresh_1 0 rfl rfl)
theorem dX3_fresh_25 : decode cX3_fresh 25 = .ok (.iload_n 2, 1) := dk_28 (dk_at dksX3_fresh_1 1 rfl rfl)
theorem dX3_fresh_26 : decode cX3_fresh 26 = .ok (.invokevirtual 199, 3) := dk_182 0 199 (dk_at dksX3_fresh_1 2 rfl rfl)
theorem dX3_fresh_29 : decode cX3_fresh 29 = .ok (.goto 4, 3) := dk_167 0 4 (dk_at dksX3_fresh_1 5 rfl rfl)
theorem dX3_fresh_32 : decode cX3_fresh 32 = .ok (.iconst 0, 1) := dk_3 (dk_at dksX3_fresh_1 8 rfl rfl)
theorem dX3_fresh_33 : decode cX3_fresh 33 = .ok (.istore_n 3, 1) := dk_62 (dk_at dksX3_fresh_1 9 rfl rfl)
theorem dX3_fresh_34 : decode cX3_fresh 34 = .ok (.iload_n 1, 1) := dk_27 (dk_at dksX3_fresh_1 10 rfl rfl)
theorem dX3_fresh_35 : decode cX3_fresh 35 = .ok (.iload_n 3, 1) := dk_29 (dk_at dksX3_fresh_1 11 rfl rfl)
theorem dX3_fresh_36 : decode cX3_fresh 36 = .ok (.ifCond .le 7, 3) := dk_158 0 7 (dk_at dksX3_fresh_1 12 rfl rfl)
theorem dX3_fresh_39 : decode cX3_fresh 39 = .ok (.iload_n 3, 1) := dk_29 (dk_at dksX3_fresh_1 15 rfl rfl)
theorem dX3_fresh_40 : decode cX3_fresh 40 = .ok (.goto 4, 3) := dk_167 0 4 (dk_at dksX3_fresh_1 16 rfl rfl)
theorem dX3_fresh_43 : decode cX3_fresh 43 = .ok (.iconst 0, 1) := dk_3 (dk_at dksX3_fresh_1 19 rfl rfl)
theorem dX3_fresh_44 : decode cX3_fresh 44 = .ok (.iadd, 1) := dk_96 (dk_at dksX3_fresh_1 20 rfl rfl)
theorem dX3_fresh_45 : decode cX3_fresh 45 = .ok (.istore_n 1, 1) := dk_60 (dk_at dksX3_fresh_1 21 rfl rfl)
theorem dX3_fresh_46 : decode cX3_fresh 46 = .ok (.iinc 2 1, 3) := dk_132 2 1 (dk_at dksX3_fresh_2 0 rfl rfl)
theorem dX3_fresh_49 : decode cX3_fresh 49 = .ok (.goto (-45), 3) := dk_167 255 211 (dk_at dksX3_fresh_2 3 rfl rfl)
theorem dX3_fresh_52 : decode cX3_fresh 52 = .ok (.iload_n 1, 1) := dk_27 (dk_at dksX3_fresh_2 6 rfl rfl)
theorem dX3_fresh_53 : decode cX3_fresh 53 = .ok (.ireturn, 1) := dk_172 (dk_at dksX3_fresh_2 7 rfl rfl)
abbrev cX3_lost : ByteArray := prog_16_method_47_code
def yX3_lost : MethodName := ⟨RX3, "lost", "()I"⟩
def dkwX3_lost_0 : List UInt8 := [42, 182, 0, 205, 42, 180, 0, 7, 5, 46, 104, 172]
abbrev dktX3_lost_0 : List UInt8 := dkwX3_lost_0 ++ []
theorem dksX3_lost_0 : cX3_lost.data.toList.drop 0 = dktX3_lost_0 := by decide +kernel
theorem dX3_lost_0 : decode cX3_lost 0 = .ok (.aload_n 0, 1) := dk_42 (dk_at dksX3_lost_0 0 rfl rfl)
theorem dX3_lost_1 : decode cX3_lost 1 = .ok (.invokevirtual 205, 3) := dk_182 0 205 (dk_at dksX3_lost_0 1 rfl rfl)
theorem dX3_lost_4 : decode cX3_lost 4 = .ok (.aload_n 0, 1) := dk_42 (dk_at dksX3_lost_0 4 rfl rfl)
theorem dX3_lost_5 : decode cX3_lost 5 = .ok (.getfield 7, 3) := dk_180 0 7 (dk_at dksX3_lost_0 5 rfl rfl)
theorem dX3_lost_8 : decode cX3_lost 8 = .ok (.iconst 2, 1) := dk_5 (dk_at dksX3_lost_0 8 rfl rfl)
theorem dX3_lost_9 : decode cX3_lost 9 = .ok (.iaload, 1) := dk_46 (dk_at dksX3_lost_0 9 rfl rfl)
theorem dX3_lost_10 : decode cX3_lost 10 = .ok (.imul, 1) := dk_104 (dk_at dksX3_lost_0 10 rfl rfl)
theorem dX3_lost_11 : decode cX3_lost 11 = .ok (.ireturn, 1) := dk_172 (dk_at dksX3_lost_0 11 rfl rfl)
abbrev cX3_smokes : ByteArray := prog_16_method_48_code
def yX3_smokes : MethodName := ⟨RX3, "smokes", "()Z"⟩
def dkwX3_smokes_2 : List UInt8 := [28, 182, 0, 199, 155, 0, 7, 4, 167, 0, 4, 3, 60, 132, 2, 1, 167, 255, 197, 27, 172]
abbrev dktX3_smokes_2 : List UInt8 := dkwX3_smokes_2 ++ []
def dkwX3_smokes_1 : List UInt8 := [153, 0, 35, 42, 28, 5, 182, 0, 79, 2, 160, 0, 25, 42, 28, 16, 7, 182, 0, 79, 154, 0, 15, 42]
abbrev dktX3_smokes_1 : List UInt8 := dkwX3_smokes_1 ++ dktX3_smokes_2
def dkwX3_smokes_0 : List UInt8 := [3, 60, 3, 61, 28, 42, 180, 0, 7, 4, 46, 162, 0, 55, 27, 154, 0, 39, 42, 28, 182, 0, 96]
abbrev dktX3_smokes_0 : List UInt8 := dkwX3_smokes_0 ++ dktX3_smokes_1
theorem dksX3_smokes_0 : cX3_smokes.data.toList.drop 0 = dktX3_smokes_0 := by decide +kernel
theorem dksX3_smokes_1 : cX3_smokes.data.toList.drop 23 = dktX3_smokes_1 := dk_seg dksX3_smokes_0 23 rfl rfl
theorem dksX3_smokes_2 : cX3_smokes.data.toList.drop 47 = dktX3_smokes_2 := dk_seg dksX3_smokes_1 24 rfl rfl
theorem dX3_smokes_0 : decode cX3_smokes 0 = .ok (.iconst 0, 1) := dk_3 (dk_at dksX3_smokes_0 0 rfl rfl)
theorem dX3_smokes_1 : decode cX3_smokes 1 = .ok (.istore_n 1, 1) := dk_60 (dk_at dksX3_smokes_0 1 rfl rfl)
theorem dX3_smokes_2 : decode cX3_smokes 2 = .ok (.iconst 0, 1) := dk_3 (dk_at dksX3_smokes_0 2 rfl rfl)
theorem dX3_smokes_3 : decode cX3_smokes 3 = .ok (.istore_n 2, 1) := dk_61 (dk_at dksX3_smokes_0 3 rfl rfl)
theorem dX3_smokes_4 : decode cX3_smokes 4 = .ok (.iload_n 2, 1) := dk_28 (dk_at dksX3_smokes_0 4 rfl rfl)
theorem dX3_smokes_5 : decode cX3_smokes 5 = .ok (.aload_n 0, 1) := dk_42 (dk_at dksX3_smokes_0 5 rfl rfl)
theorem dX3_smokes_6 : decode cX3_smokes 6 = .ok (.getfield 7, 3) := dk_180 0 7 (dk_at dksX3_smokes_0 6 rfl rfl)
theorem dX3_smokes_9 : decode cX3_smokes 9 = .ok (.iconst 1, 1) := dk_4 (dk_at dksX3_smokes_0 9 rfl rfl)
theorem dX3_smokes_10 : decode cX3_smokes 10 = .ok (.iaload, 1) := dk_46 (dk_at dksX3_smokes_0 10 rfl rfl)
theorem dX3_smokes_11 : decode cX3_smokes 11 = .ok (.if_icmp .ge 55, 3) := dk_162 0 55 (dk_at dksX3_smokes_0 11 rfl rfl)
theorem dX3_smokes_14 : decode cX3_smokes 14 = .ok (.iload_n 1, 1) := dk_27 (dk_at dksX3_smokes_0 14 rfl rfl)
theorem dX3_smokes_15 : decode cX3_smokes 15 = .ok (.ifCond .ne 39, 3) := dk_154 0 39 (dk_at dksX3_smokes_0 15 rfl rfl)
theorem dX3_smokes_18 : decode cX3_smokes 18 = .ok (.aload_n 0, 1) := dk_42 (dk_at dksX3_smokes_0 18 rfl rfl)
theorem dX3_smokes_19 : decode cX3_smokes 19 = .ok (.iload_n 2, 1) := dk_28 (dk_at dksX3_smokes_0 19 rfl rfl)
theorem dX3_smokes_20 : decode cX3_smokes 20 = .ok (.invokevirtual 96, 3) := dk_182 0 96 (dk_at dksX3_smokes_0 20 rfl rfl)
theorem dX3_smokes_23 : decode cX3_smokes 23 = .ok (.ifCond .eq 35, 3) := dk_153 0 35 (dk_at dksX3_smokes_1 0 rfl rfl)
theorem dX3_smokes_26 : decode cX3_smokes 26 = .ok (.aload_n 0, 1) := dk_42 (dk_at dksX3_smokes_1 3 rfl rfl)
theorem dX3_smokes_27 : decode cX3_smokes 27 = .ok (.iload_n 2, 1) := dk_28 (dk_at dksX3_smokes_1 4 rfl rfl)
theorem dX3_smokes_28 : decode cX3_smokes 28 = .ok (.iconst 2, 1) := dk_5 (dk_at dksX3_smokes_1 5 rfl rfl)
theorem dX3_smokes_29 : decode cX3_smokes 29 = .ok (.invokevirtual 79, 3) := dk_182 0 79 (dk_at dksX3_smokes_1 6 rfl rfl)
theorem dX3_smokes_32 : decode cX3_smokes 32 = .ok (.iconst (-1), 1) := dk_2 (dk_at dksX3_smokes_1 9 rfl rfl)
theorem dX3_smokes_33 : decode cX3_smokes 33 = .ok (.if_icmp .ne 25, 3) := dk_160 0 25 (dk_at dksX3_smokes_1 10 rfl rfl)
theorem dX3_smokes_36 : decode cX3_smokes 36 = .ok (.aload_n 0, 1) := dk_42 (dk_at dksX3_smokes_1 13 rfl rfl)
theorem dX3_smokes_37 : decode cX3_smokes 37 = .ok (.iload_n 2, 1) := dk_28 (dk_at dksX3_smokes_1 14 rfl rfl)
theorem dX3_smokes_38 : decode cX3_smokes 38 = .ok (.bipush 7, 2) := dk_16 7 (dk_at dksX3_smokes_1 15 rfl rfl)
theorem dX3_smokes_40 : decode cX3_smokes 40 = .ok (.invokevirtual 79, 3) := dk_182 0 79 (dk_at dksX3_smokes_1 17 rfl rfl)
theorem dX3_smokes_43 : decode cX3_smokes 43 = .ok (.ifCond .ne 15, 3) := dk_154 0 15 (dk_at dksX3_smokes_1 20 rfl rfl)
theorem dX3_smokes_46 : decode cX3_smokes 46 = .ok (.aload_n 0, 1) := dk_42 (dk_at dksX3_smokes_1 23 rfl rfl)
theorem dX3_smokes_47 : decode cX3_smokes 47 = .ok (.iload_n 2, 1) := dk_28 (dk_at dksX3_smokes_2 0 rfl rfl)
theorem dX3_smokes_48 : decode cX3_smokes 48 = .ok (.invokevirtual 199, 3) := dk_182 0 199 (dk_at dksX3_smokes_2 1 rfl rfl)
theorem dX3_smokes_51 : decode cX3_smokes 51 = .ok (.ifCond .lt 7, 3) := dk_155 0 7 (dk_at dksX3_smokes_2 4 rfl rfl)
theorem dX3_smokes_54 : decode cX3_smokes 54 = .ok (.iconst 1, 1) := dk_4 (dk_at dksX3_smokes_2 7 rfl rfl)
theorem dX3_smokes_55 : decode cX3_smokes 55 = .ok (.goto 4, 3) := dk_167 0 4 (dk_at dksX3_smokes_2 8 rfl rfl)
theorem dX3_smokes_58 : decode cX3_smokes 58 = .ok (.iconst 0, 1) := dk_3 (dk_at dksX3_smokes_2 11 rfl rfl)
theorem dX3_smokes_59 : decode cX3_smokes 59 = .ok (.istore_n 1, 1) := dk_60 (dk_at dksX3_smokes_2 12 rfl rfl)
theorem dX3_smokes_60 : decode cX3_smokes 60 = .ok (.iinc 2 1, 3) := dk_132 2 1 (dk_at dksX3_smokes_2 13 rfl rfl)
theorem dX3_smokes_63 : decode cX3_smokes 63 = .ok (.goto (-59), 3) := dk_167 255 197 (dk_at dksX3_smokes_2 16 rfl rfl)
theorem dX3_smokes_66 : decode cX3_smokes 66 = .ok (.iload_n 1, 1) := dk_27 (dk_at dksX3_smokes_2 19 rfl rfl)
theorem dX3_smokes_67 : decode cX3_smokes 67 = .ok (.ireturn, 1) := dk_172 (dk_at dksX3_smokes_2 20 rfl rfl)
abbrev cX3_seed : ByteArray := prog_16_method_55_code
def yX3_seed : MethodName := ⟨RX3, "seed", "(I)I"⟩
def dkwX3_seed_0 : List UInt8 := [42, 180, 0, 7, 16, 8, 46, 61, 42, 180, 0, 7, 16, 8, 27, 79, 28, 172]
abbrev dktX3_seed_0 : List UInt8 := dkwX3_seed_0 ++ []
theorem dksX3_seed_0 : cX3_seed.data.toList.drop 0 = dktX3_seed_0 := by decide +kernel
theorem dX3_seed_0 : decode cX3_seed 0 = .ok (.aload_n 0, 1) := dk_42 (dk_at dksX3_seed_0 0 rfl rfl)
theorem dX3_seed_1 : decode cX3_seed 1 = .ok (.getfield 7, 3) := dk_180 0 7 (dk_at dksX3_seed_0 1 rfl rfl)
theorem dX3_seed_4 : decode cX3_seed 4 = .ok (.bipush 8, 2) := dk_16 8 (dk_at dksX3_seed_0 4 rfl rfl)
theorem dX3_seed_6 : decode cX3_seed 6 = .ok (.iaload, 1) := dk_46 (dk_at dksX3_seed_0 6 rfl rfl)
theorem dX3_seed_7 : decode cX3_seed 7 = .ok (.istore_n 2, 1) := dk_61 (dk_at dksX3_seed_0 7 rfl rfl)
theorem dX3_seed_8 : decode cX3_seed 8 = .ok (.aload_n 0, 1) := dk_42 (dk_at dksX3_seed_0 8 rfl rfl)
theorem dX3_seed_9 : decode cX3_seed 9 = .ok (.getfield 7, 3) := dk_180 0 7 (dk_at dksX3_seed_0 9 rfl rfl)
theorem dX3_seed_12 : decode cX3_seed 12 = .ok (.bipush 8, 2) := dk_16 8 (dk_at dksX3_seed_0 12 rfl rfl)
theorem dX3_seed_14 : decode cX3_seed 14 = .ok (.iload_n 1, 1) := dk_27 (dk_at dksX3_seed_0 14 rfl rfl)
theorem dX3_seed_15 : decode cX3_seed 15 = .ok (.iastore, 1) := dk_79 (dk_at dksX3_seed_0 15 rfl rfl)
theorem dX3_seed_16 : decode cX3_seed 16 = .ok (.iload_n 2, 1) := dk_28 (dk_at dksX3_seed_0 16 rfl rfl)
theorem dX3_seed_17 : decode cX3_seed 17 = .ok (.ireturn, 1) := dk_172 (dk_at dksX3_seed_0 17 rfl rfl)
abbrev cX3_stick : ByteArray := prog_16_method_57_code
def yX3_stick : MethodName := ⟨RX3, "stick", "(I)I"⟩
def dkwX3_stick_1 : List UInt8 := [172]
abbrev dktX3_stick_1 : List UInt8 := dkwX3_stick_1 ++ []
def dkwX3_stick_0 : List UInt8 := [42, 27, 182, 0, 83, 154, 0, 10, 42, 18, 53, 182, 0, 59, 172, 42, 182, 0, 208, 42, 27, 182, 0, 223]
abbrev dktX3_stick_0 : List UInt8 := dkwX3_stick_0 ++ dktX3_stick_1
theorem dksX3_stick_0 : cX3_stick.data.toList.drop 0 = dktX3_stick_0 := by decide +kernel
theorem dksX3_stick_1 : cX3_stick.data.toList.drop 24 = dktX3_stick_1 := dk_seg dksX3_stick_0 24 rfl rfl
theorem dX3_stick_0 : decode cX3_stick 0 = .ok (.aload_n 0, 1) := dk_42 (dk_at dksX3_stick_0 0 rfl rfl)
theorem dX3_stick_1 : decode cX3_stick 1 = .ok (.iload_n 1, 1) := dk_27 (dk_at dksX3_stick_0 1 rfl rfl)
theorem dX3_stick_2 : decode cX3_stick 2 = .ok (.invokevirtual 83, 3) := dk_182 0 83 (dk_at dksX3_stick_0 2 rfl rfl)
theorem dX3_stick_5 : decode cX3_stick 5 = .ok (.ifCond .ne 10, 3) := dk_154 0 10 (dk_at dksX3_stick_0 5 rfl rfl)
theorem dX3_stick_8 : decode cX3_stick 8 = .ok (.aload_n 0, 1) := dk_42 (dk_at dksX3_stick_0 8 rfl rfl)
theorem dX3_stick_9 : decode cX3_stick 9 = .ok (.ldc 53, 2) := dk_18 53 (dk_at dksX3_stick_0 9 rfl rfl)
theorem dX3_stick_11 : decode cX3_stick 11 = .ok (.invokevirtual 59, 3) := dk_182 0 59 (dk_at dksX3_stick_0 11 rfl rfl)
theorem dX3_stick_14 : decode cX3_stick 14 = .ok (.ireturn, 1) := dk_172 (dk_at dksX3_stick_0 14 rfl rfl)
theorem dX3_stick_15 : decode cX3_stick 15 = .ok (.aload_n 0, 1) := dk_42 (dk_at dksX3_stick_0 15 rfl rfl)
theorem dX3_stick_16 : decode cX3_stick 16 = .ok (.invokevirtual 208, 3) := dk_182 0 208 (dk_at dksX3_stick_0 16 rfl rfl)
theorem dX3_stick_19 : decode cX3_stick 19 = .ok (.aload_n 0, 1) := dk_42 (dk_at dksX3_stick_0 19 rfl rfl)
theorem dX3_stick_20 : decode cX3_stick 20 = .ok (.iload_n 1, 1) := dk_27 (dk_at dksX3_stick_0 20 rfl rfl)
theorem dX3_stick_21 : decode cX3_stick 21 = .ok (.invokevirtual 223, 3) := dk_182 0 223 (dk_at dksX3_stick_0 21 rfl rfl)
theorem dX3_stick_24 : decode cX3_stick 24 = .ok (.ireturn, 1) := dk_172 (dk_at dksX3_stick_1 0 rfl rfl)
abbrev cX3_seen : ByteArray := prog_16_method_56_code
def yX3_seen : MethodName := ⟨RX3, "seen", "(I)I"⟩
def dkwX3_seen_3 : List UInt8 := [27, 182, 0, 211, 172]
abbrev dktX3_seen_3 : List UInt8 := dkwX3_seen_3 ++ []
def dkwX3_seen_2 : List UInt8 := [167, 0, 4, 3, 61, 28, 154, 0, 13, 42, 27, 3, 182, 0, 79, 4, 160, 0, 7, 3, 167, 0, 8, 42]
abbrev dktX3_seen_2 : List UInt8 := dkwX3_seen_2 ++ dktX3_seen_3
def dkwX3_seen_1 : List UInt8 := [180, 0, 7, 16, 8, 46, 16, 8, 124, 16, 100, 112, 42, 180, 0, 7, 16, 7, 46, 162, 0, 7, 4]
abbrev dktX3_seen_1 : List UInt8 := dkwX3_seen_1 ++ dktX3_seen_2
def dkwX3_seen_0 : List UInt8 := [42, 180, 0, 7, 16, 8, 42, 180, 0, 7, 16, 8, 46, 18, 222, 104, 17, 48, 57, 96, 79, 42]
abbrev dktX3_seen_0 : List UInt8 := dkwX3_seen_0 ++ dktX3_seen_1
theorem dksX3_seen_0 : cX3_seen.data.toList.drop 0 = dktX3_seen_0 := by decide +kernel
theorem dksX3_seen_1 : cX3_seen.data.toList.drop 22 = dktX3_seen_1 := dk_seg dksX3_seen_0 22 rfl rfl
theorem dksX3_seen_2 : cX3_seen.data.toList.drop 45 = dktX3_seen_2 := dk_seg dksX3_seen_1 23 rfl rfl
theorem dksX3_seen_3 : cX3_seen.data.toList.drop 69 = dktX3_seen_3 := dk_seg dksX3_seen_2 24 rfl rfl
theorem dX3_seen_0 : decode cX3_seen 0 = .ok (.aload_n 0, 1) := dk_42 (dk_at dksX3_seen_0 0 rfl rfl)
theorem dX3_seen_1 : decode cX3_seen 1 = .ok (.getfield 7, 3) := dk_180 0 7 (dk_at dksX3_seen_0 1 rfl rfl)
theorem dX3_seen_4 : decode cX3_seen 4 = .ok (.bipush 8, 2) := dk_16 8 (dk_at dksX3_seen_0 4 rfl rfl)
theorem dX3_seen_6 : decode cX3_seen 6 = .ok (.aload_n 0, 1) := dk_42 (dk_at dksX3_seen_0 6 rfl rfl)
theorem dX3_seen_7 : decode cX3_seen 7 = .ok (.getfield 7, 3) := dk_180 0 7 (dk_at dksX3_seen_0 7 rfl rfl)
theorem dX3_seen_10 : decode cX3_seen 10 = .ok (.bipush 8, 2) := dk_16 8 (dk_at dksX3_seen_0 10 rfl rfl)
theorem dX3_seen_12 : decode cX3_seen 12 = .ok (.iaload, 1) := dk_46 (dk_at dksX3_seen_0 12 rfl rfl)
theorem dX3_seen_13 : decode cX3_seen 13 = .ok (.ldc 222, 2) := dk_18 222 (dk_at dksX3_seen_0 13 rfl rfl)
theorem dX3_seen_15 : decode cX3_seen 15 = .ok (.imul, 1) := dk_104 (dk_at dksX3_seen_0 15 rfl rfl)
theorem dX3_seen_16 : decode cX3_seen 16 = .ok (.sipush 12345, 3) := dk_17 48 57 (dk_at dksX3_seen_0 16 rfl rfl)
theorem dX3_seen_19 : decode cX3_seen 19 = .ok (.iadd, 1) := dk_96 (dk_at dksX3_seen_0 19 rfl rfl)
theorem dX3_seen_20 : decode cX3_seen 20 = .ok (.iastore, 1) := dk_79 (dk_at dksX3_seen_0 20 rfl rfl)
theorem dX3_seen_21 : decode cX3_seen 21 = .ok (.aload_n 0, 1) := dk_42 (dk_at dksX3_seen_0 21 rfl rfl)
theorem dX3_seen_22 : decode cX3_seen 22 = .ok (.getfield 7, 3) := dk_180 0 7 (dk_at dksX3_seen_1 0 rfl rfl)
theorem dX3_seen_25 : decode cX3_seen 25 = .ok (.bipush 8, 2) := dk_16 8 (dk_at dksX3_seen_1 3 rfl rfl)
theorem dX3_seen_27 : decode cX3_seen 27 = .ok (.iaload, 1) := dk_46 (dk_at dksX3_seen_1 5 rfl rfl)
theorem dX3_seen_28 : decode cX3_seen 28 = .ok (.bipush 8, 2) := dk_16 8 (dk_at dksX3_seen_1 6 rfl rfl)
theorem dX3_seen_30 : decode cX3_seen 30 = .ok (.iushr, 1) := dk_124 (dk_at dksX3_seen_1 8 rfl rfl)
theorem dX3_seen_31 : decode cX3_seen 31 = .ok (.bipush 100, 2) := dk_16 100 (dk_at dksX3_seen_1 9 rfl rfl)
theorem dX3_seen_33 : decode cX3_seen 33 = .ok (.irem, 1) := dk_112 (dk_at dksX3_seen_1 11 rfl rfl)
theorem dX3_seen_34 : decode cX3_seen 34 = .ok (.aload_n 0, 1) := dk_42 (dk_at dksX3_seen_1 12 rfl rfl)
theorem dX3_seen_35 : decode cX3_seen 35 = .ok (.getfield 7, 3) := dk_180 0 7 (dk_at dksX3_seen_1 13 rfl rfl)
theorem dX3_seen_38 : decode cX3_seen 38 = .ok (.bipush 7, 2) := dk_16 7 (dk_at dksX3_seen_1 16 rfl rfl)
theorem dX3_seen_40 : decode cX3_seen 40 = .ok (.iaload, 1) := dk_46 (dk_at dksX3_seen_1 18 rfl rfl)
theorem dX3_seen_41 : decode cX3_seen 41 = .ok (.if_icmp .ge 7, 3) := dk_162 0 7 (dk_at dksX3_seen_1 19 rfl rfl)
theorem dX3_seen_44 : decode cX3_seen 44 = .ok (.iconst 1, 1) := dk_4 (dk_at dksX3_seen_1 22 rfl rfl)
theorem dX3_seen_45 : decode cX3_seen 45 = .ok (.goto 4, 3) := dk_167 0 4 (dk_at dksX3_seen_2 0 rfl rfl)
theorem dX3_seen_48 : decode cX3_seen 48 = .ok (.iconst 0, 1) := dk_3 (dk_at dksX3_seen_2 3 rfl rfl)
theorem dX3_seen_49 : decode cX3_seen 49 = .ok (.istore_n 2, 1) := dk_61 (dk_at dksX3_seen_2 4 rfl rfl)
theorem dX3_seen_50 : decode cX3_seen 50 = .ok (.iload_n 2, 1) := dk_28 (dk_at dksX3_seen_2 5 rfl rfl)
theorem dX3_seen_51 : decode cX3_seen 51 = .ok (.ifCond .ne 13, 3) := dk_154 0 13 (dk_at dksX3_seen_2 6 rfl rfl)
theorem dX3_seen_54 : decode cX3_seen 54 = .ok (.aload_n 0, 1) := dk_42 (dk_at dksX3_seen_2 9 rfl rfl)
theorem dX3_seen_55 : decode cX3_seen 55 = .ok (.iload_n 1, 1) := dk_27 (dk_at dksX3_seen_2 10 rfl rfl)
theorem dX3_seen_56 : decode cX3_seen 56 = .ok (.iconst 0, 1) := dk_3 (dk_at dksX3_seen_2 11 rfl rfl)
theorem dX3_seen_57 : decode cX3_seen 57 = .ok (.invokevirtual 79, 3) := dk_182 0 79 (dk_at dksX3_seen_2 12 rfl rfl)
theorem dX3_seen_60 : decode cX3_seen 60 = .ok (.iconst 1, 1) := dk_4 (dk_at dksX3_seen_2 15 rfl rfl)
theorem dX3_seen_61 : decode cX3_seen 61 = .ok (.if_icmp .ne 7, 3) := dk_160 0 7 (dk_at dksX3_seen_2 16 rfl rfl)
theorem dX3_seen_64 : decode cX3_seen 64 = .ok (.iconst 0, 1) := dk_3 (dk_at dksX3_seen_2 19 rfl rfl)
theorem dX3_seen_65 : decode cX3_seen 65 = .ok (.goto 8, 3) := dk_167 0 8 (dk_at dksX3_seen_2 20 rfl rfl)
theorem dX3_seen_68 : decode cX3_seen 68 = .ok (.aload_n 0, 1) := dk_42 (dk_at dksX3_seen_2 23 rfl rfl)
theorem dX3_seen_69 : decode cX3_seen 69 = .ok (.iload_n 1, 1) := dk_27 (dk_at dksX3_seen_3 0 rfl rfl)
theorem dX3_seen_70 : decode cX3_seen 70 = .ok (.invokevirtual 211, 3) := dk_182 0 211 (dk_at dksX3_seen_3 1 rfl rfl)
theorem dX3_seen_73 : decode cX3_seen 73 = .ok (.ireturn, 1) := dk_172 (dk_at dksX3_seen_3 4 rfl rfl)
abbrev cX3_widths : ByteArray := prog_16_method_58_code
def yX3_widths : MethodName := ⟨RX3, "widths", "(III)I"⟩
def dkwX3_widths_7 : List UInt8 := [4, 160, 0, 8, 21, 6, 167, 0, 5, 21, 7, 172]
abbrev dktX3_widths_7 : List UInt8 := dkwX3_widths_7 ++ []
def dkwX3_widths_6 : List UInt8 := [29, 154, 0, 8, 21, 5, 167, 0, 29, 21, 5, 154, 0, 12, 42, 18, 230, 182, 0, 59, 167, 0, 15, 29]
abbrev dktX3_widths_6 : List UInt8 := dkwX3_widths_6 ++ dktX3_widths_7
def dkwX3_widths_5 : List UInt8 := [54, 7, 132, 8, 1, 167, 255, 196, 42, 180, 0, 7, 16, 9, 16, 8, 27, 104, 96, 6, 96, 21, 4, 79]
abbrev dktX3_widths_5 : List UInt8 := dkwX3_widths_5 ++ dktX3_widths_6
def dkwX3_widths_4 : List UInt8 := [28, 160, 0, 24, 132, 5, 1, 21, 6, 156, 0, 8, 21, 8, 167, 0, 5, 21, 6, 54, 6, 21, 8]
abbrev dktX3_widths_4 : List UInt8 := dkwX3_widths_4 ++ dktX3_widths_5
def dkwX3_widths_3 : List UInt8 := [180, 0, 7, 16, 9, 16, 8, 27, 104, 96, 6, 96, 21, 8, 79, 42, 182, 0, 208, 42, 27, 182, 0, 211]
abbrev dktX3_widths_3 : List UInt8 := dkwX3_widths_3 ++ dktX3_widths_4
def dkwX3_widths_2 : List UInt8 := [54, 4, 3, 54, 5, 2, 54, 6, 2, 54, 7, 3, 54, 8, 21, 8, 16, 100, 162, 0, 59, 42]
abbrev dktX3_widths_2 : List UInt8 := dkwX3_widths_2 ++ dktX3_widths_3
def dkwX3_widths_1 : List UInt8 := [9, 20, 0, 228, 184, 0, 54, 154, 0, 10, 42, 18, 53, 182, 0, 59, 172, 42, 27, 6, 182, 0, 79]
abbrev dktX3_widths_1 : List UInt8 := dkwX3_widths_1 ++ dktX3_widths_2
def dkwX3_widths_0 : List UInt8 := [42, 27, 182, 0, 83, 153, 0, 29, 28, 133, 20, 0, 226, 20, 0, 86, 184, 0, 54, 153, 0, 15, 29, 133]
abbrev dktX3_widths_0 : List UInt8 := dkwX3_widths_0 ++ dktX3_widths_1
theorem dksX3_widths_0 : cX3_widths.data.toList.drop 0 = dktX3_widths_0 := by decide +kernel
theorem dksX3_widths_1 : cX3_widths.data.toList.drop 24 = dktX3_widths_1 := dk_seg dksX3_widths_0 24 rfl rfl
theorem dksX3_widths_2 : cX3_widths.data.toList.drop 47 = dktX3_widths_2 := dk_seg dksX3_widths_1 23 rfl rfl
theorem dksX3_widths_3 : cX3_widths.data.toList.drop 69 = dktX3_widths_3 := dk_seg dksX3_widths_2 22 rfl rfl
theorem dksX3_widths_4 : cX3_widths.data.toList.drop 93 = dktX3_widths_4 := dk_seg dksX3_widths_3 24 rfl rfl
theorem dksX3_widths_5 : cX3_widths.data.toList.drop 116 = dktX3_widths_5 := dk_seg dksX3_widths_4 23 rfl rfl
theorem dksX3_widths_6 : cX3_widths.data.toList.drop 140 = dktX3_widths_6 := dk_seg dksX3_widths_5 24 rfl rfl
theorem dksX3_widths_7 : cX3_widths.data.toList.drop 164 = dktX3_widths_7 := dk_seg dksX3_widths_6 24 rfl rfl
theorem dX3_widths_0 : decode cX3_widths 0 = .ok (.aload_n 0, 1) := dk_42 (dk_at dksX3_widths_0 0 rfl rfl)
theorem dX3_widths_1 : decode cX3_widths 1 = .ok (.iload_n 1, 1) := dk_27 (dk_at dksX3_widths_0 1 rfl rfl)
theorem dX3_widths_2 : decode cX3_widths 2 = .ok (.invokevirtual 83, 3) := dk_182 0 83 (dk_at dksX3_widths_0 2 rfl rfl)
theorem dX3_widths_5 : decode cX3_widths 5 = .ok (.ifCond .eq 29, 3) := dk_153 0 29 (dk_at dksX3_widths_0 5 rfl rfl)
theorem dX3_widths_8 : decode cX3_widths 8 = .ok (.iload_n 2, 1) := dk_28 (dk_at dksX3_widths_0 8 rfl rfl)
theorem dX3_widths_9 : decode cX3_widths 9 = .ok (.i2l, 1) := dk_133 (dk_at dksX3_widths_0 9 rfl rfl)
theorem dX3_widths_10 : decode cX3_widths 10 = .ok (.ldc2_w 226, 3) := dk_20 0 226 (dk_at dksX3_widths_0 10 rfl rfl)
theorem dX3_widths_13 : decode cX3_widths 13 = .ok (.ldc2_w 86, 3) := dk_20 0 86 (dk_at dksX3_widths_0 13 rfl rfl)
theorem dX3_widths_16 : decode cX3_widths 16 = .ok (.invokestatic 54, 3) := dk_184 0 54 (dk_at dksX3_widths_0 16 rfl rfl)
theorem dX3_widths_19 : decode cX3_widths 19 = .ok (.ifCond .eq 15, 3) := dk_153 0 15 (dk_at dksX3_widths_0 19 rfl rfl)
theorem dX3_widths_22 : decode cX3_widths 22 = .ok (.iload_n 3, 1) := dk_29 (dk_at dksX3_widths_0 22 rfl rfl)
theorem dX3_widths_23 : decode cX3_widths 23 = .ok (.i2l, 1) := dk_133 (dk_at dksX3_widths_0 23 rfl rfl)
theorem dX3_widths_24 : decode cX3_widths 24 = .ok (.lconst 0, 1) := dk_9 (dk_at dksX3_widths_1 0 rfl rfl)
theorem dX3_widths_25 : decode cX3_widths 25 = .ok (.ldc2_w 228, 3) := dk_20 0 228 (dk_at dksX3_widths_1 1 rfl rfl)
theorem dX3_widths_28 : decode cX3_widths 28 = .ok (.invokestatic 54, 3) := dk_184 0 54 (dk_at dksX3_widths_1 4 rfl rfl)
theorem dX3_widths_31 : decode cX3_widths 31 = .ok (.ifCond .ne 10, 3) := dk_154 0 10 (dk_at dksX3_widths_1 7 rfl rfl)
theorem dX3_widths_34 : decode cX3_widths 34 = .ok (.aload_n 0, 1) := dk_42 (dk_at dksX3_widths_1 10 rfl rfl)
theorem dX3_widths_35 : decode cX3_widths 35 = .ok (.ldc 53, 2) := dk_18 53 (dk_at dksX3_widths_1 11 rfl rfl)
theorem dX3_widths_37 : decode cX3_widths 37 = .ok (.invokevirtual 59, 3) := dk_182 0 59 (dk_at dksX3_widths_1 13 rfl rfl)
theorem dX3_widths_40 : decode cX3_widths 40 = .ok (.ireturn, 1) := dk_172 (dk_at dksX3_widths_1 16 rfl rfl)
theorem dX3_widths_41 : decode cX3_widths 41 = .ok (.aload_n 0, 1) := dk_42 (dk_at dksX3_widths_1 17 rfl rfl)
theorem dX3_widths_42 : decode cX3_widths 42 = .ok (.iload_n 1, 1) := dk_27 (dk_at dksX3_widths_1 18 rfl rfl)
theorem dX3_widths_43 : decode cX3_widths 43 = .ok (.iconst 3, 1) := dk_6 (dk_at dksX3_widths_1 19 rfl rfl)
theorem dX3_widths_44 : decode cX3_widths 44 = .ok (.invokevirtual 79, 3) := dk_182 0 79 (dk_at dksX3_widths_1 20 rfl rfl)
theorem dX3_widths_47 : decode cX3_widths 47 = .ok (.istore 4, 2) := dk_54 4 (dk_at dksX3_widths_2 0 rfl rfl)
theorem dX3_widths_49 : decode cX3_widths 49 = .ok (.iconst 0, 1) := dk_3 (dk_at dksX3_widths_2 2 rfl rfl)
theorem dX3_widths_50 : decode cX3_widths 50 = .ok (.istore 5, 2) := dk_54 5 (dk_at dksX3_widths_2 3 rfl rfl)
theorem dX3_widths_52 : decode cX3_widths 52 = .ok (.iconst (-1), 1) := dk_2 (dk_at dksX3_widths_2 5 rfl rfl)
theorem dX3_widths_53 : decode cX3_widths 53 = .ok (.istore 6, 2) := dk_54 6 (dk_at dksX3_widths_2 6 rfl rfl)
theorem dX3_widths_55 : decode cX3_widths 55 = .ok (.iconst (-1), 1) := dk_2 (dk_at dksX3_widths_2 8 rfl rfl)
theorem dX3_widths_56 : decode cX3_widths 56 = .ok (.istore 7, 2) := dk_54 7 (dk_at dksX3_widths_2 9 rfl rfl)
theorem dX3_widths_58 : decode cX3_widths 58 = .ok (.iconst 0, 1) := dk_3 (dk_at dksX3_widths_2 11 rfl rfl)
theorem dX3_widths_59 : decode cX3_widths 59 = .ok (.istore 8, 2) := dk_54 8 (dk_at dksX3_widths_2 12 rfl rfl)
theorem dX3_widths_61 : decode cX3_widths 61 = .ok (.iload 8, 2) := dk_21 8 (dk_at dksX3_widths_2 14 rfl rfl)
theorem dX3_widths_63 : decode cX3_widths 63 = .ok (.bipush 100, 2) := dk_16 100 (dk_at dksX3_widths_2 16 rfl rfl)
theorem dX3_widths_65 : decode cX3_widths 65 = .ok (.if_icmp .ge 59, 3) := dk_162 0 59 (dk_at dksX3_widths_2 18 rfl rfl)
theorem dX3_widths_68 : decode cX3_widths 68 = .ok (.aload_n 0, 1) := dk_42 (dk_at dksX3_widths_2 21 rfl rfl)
theorem dX3_widths_69 : decode cX3_widths 69 = .ok (.getfield 7, 3) := dk_180 0 7 (dk_at dksX3_widths_3 0 rfl rfl)
theorem dX3_widths_72 : decode cX3_widths 72 = .ok (.bipush 9, 2) := dk_16 9 (dk_at dksX3_widths_3 3 rfl rfl)
theorem dX3_widths_74 : decode cX3_widths 74 = .ok (.bipush 8, 2) := dk_16 8 (dk_at dksX3_widths_3 5 rfl rfl)
theorem dX3_widths_76 : decode cX3_widths 76 = .ok (.iload_n 1, 1) := dk_27 (dk_at dksX3_widths_3 7 rfl rfl)
theorem dX3_widths_77 : decode cX3_widths 77 = .ok (.imul, 1) := dk_104 (dk_at dksX3_widths_3 8 rfl rfl)
theorem dX3_widths_78 : decode cX3_widths 78 = .ok (.iadd, 1) := dk_96 (dk_at dksX3_widths_3 9 rfl rfl)
theorem dX3_widths_79 : decode cX3_widths 79 = .ok (.iconst 3, 1) := dk_6 (dk_at dksX3_widths_3 10 rfl rfl)
theorem dX3_widths_80 : decode cX3_widths 80 = .ok (.iadd, 1) := dk_96 (dk_at dksX3_widths_3 11 rfl rfl)
theorem dX3_widths_81 : decode cX3_widths 81 = .ok (.iload 8, 2) := dk_21 8 (dk_at dksX3_widths_3 12 rfl rfl)
theorem dX3_widths_83 : decode cX3_widths 83 = .ok (.iastore, 1) := dk_79 (dk_at dksX3_widths_3 14 rfl rfl)
theorem dX3_widths_84 : decode cX3_widths 84 = .ok (.aload_n 0, 1) := dk_42 (dk_at dksX3_widths_3 15 rfl rfl)
theorem dX3_widths_85 : decode cX3_widths 85 = .ok (.invokevirtual 208, 3) := dk_182 0 208 (dk_at dksX3_widths_3 16 rfl rfl)
theorem dX3_widths_88 : decode cX3_widths 88 = .ok (.aload_n 0, 1) := dk_42 (dk_at dksX3_widths_3 19 rfl rfl)
theorem dX3_widths_89 : decode cX3_widths 89 = .ok (.iload_n 1, 1) := dk_27 (dk_at dksX3_widths_3 20 rfl rfl)
theorem dX3_widths_90 : decode cX3_widths 90 = .ok (.invokevirtual 211, 3) := dk_182 0 211 (dk_at dksX3_widths_3 21 rfl rfl)
theorem dX3_widths_93 : decode cX3_widths 93 = .ok (.iload_n 2, 1) := dk_28 (dk_at dksX3_widths_4 0 rfl rfl)
theorem dX3_widths_94 : decode cX3_widths 94 = .ok (.if_icmp .ne 24, 3) := dk_160 0 24 (dk_at dksX3_widths_4 1 rfl rfl)
theorem dX3_widths_97 : decode cX3_widths 97 = .ok (.iinc 5 1, 3) := dk_132 5 1 (dk_at dksX3_widths_4 4 rfl rfl)
theorem dX3_widths_100 : decode cX3_widths 100 = .ok (.iload 6, 2) := dk_21 6 (dk_at dksX3_widths_4 7 rfl rfl)
theorem dX3_widths_102 : decode cX3_widths 102 = .ok (.ifCond .ge 8, 3) := dk_156 0 8 (dk_at dksX3_widths_4 9 rfl rfl)
theorem dX3_widths_105 : decode cX3_widths 105 = .ok (.iload 8, 2) := dk_21 8 (dk_at dksX3_widths_4 12 rfl rfl)
theorem dX3_widths_107 : decode cX3_widths 107 = .ok (.goto 5, 3) := dk_167 0 5 (dk_at dksX3_widths_4 14 rfl rfl)
theorem dX3_widths_110 : decode cX3_widths 110 = .ok (.iload 6, 2) := dk_21 6 (dk_at dksX3_widths_4 17 rfl rfl)
theorem dX3_widths_112 : decode cX3_widths 112 = .ok (.istore 6, 2) := dk_54 6 (dk_at dksX3_widths_4 19 rfl rfl)
theorem dX3_widths_114 : decode cX3_widths 114 = .ok (.iload 8, 2) := dk_21 8 (dk_at dksX3_widths_4 21 rfl rfl)
theorem dX3_widths_116 : decode cX3_widths 116 = .ok (.istore 7, 2) := dk_54 7 (dk_at dksX3_widths_5 0 rfl rfl)
theorem dX3_widths_118 : decode cX3_widths 118 = .ok (.iinc 8 1, 3) := dk_132 8 1 (dk_at dksX3_widths_5 2 rfl rfl)
theorem dX3_widths_121 : decode cX3_widths 121 = .ok (.goto (-60), 3) := dk_167 255 196 (dk_at dksX3_widths_5 5 rfl rfl)
theorem dX3_widths_124 : decode cX3_widths 124 = .ok (.aload_n 0, 1) := dk_42 (dk_at dksX3_widths_5 8 rfl rfl)
theorem dX3_widths_125 : decode cX3_widths 125 = .ok (.getfield 7, 3) := dk_180 0 7 (dk_at dksX3_widths_5 9 rfl rfl)
theorem dX3_widths_128 : decode cX3_widths 128 = .ok (.bipush 9, 2) := dk_16 9 (dk_at dksX3_widths_5 12 rfl rfl)
theorem dX3_widths_130 : decode cX3_widths 130 = .ok (.bipush 8, 2) := dk_16 8 (dk_at dksX3_widths_5 14 rfl rfl)
theorem dX3_widths_132 : decode cX3_widths 132 = .ok (.iload_n 1, 1) := dk_27 (dk_at dksX3_widths_5 16 rfl rfl)
theorem dX3_widths_133 : decode cX3_widths 133 = .ok (.imul, 1) := dk_104 (dk_at dksX3_widths_5 17 rfl rfl)
theorem dX3_widths_134 : decode cX3_widths 134 = .ok (.iadd, 1) := dk_96 (dk_at dksX3_widths_5 18 rfl rfl)
theorem dX3_widths_135 : decode cX3_widths 135 = .ok (.iconst 3, 1) := dk_6 (dk_at dksX3_widths_5 19 rfl rfl)
theorem dX3_widths_136 : decode cX3_widths 136 = .ok (.iadd, 1) := dk_96 (dk_at dksX3_widths_5 20 rfl rfl)
theorem dX3_widths_137 : decode cX3_widths 137 = .ok (.iload 4, 2) := dk_21 4 (dk_at dksX3_widths_5 21 rfl rfl)
theorem dX3_widths_139 : decode cX3_widths 139 = .ok (.iastore, 1) := dk_79 (dk_at dksX3_widths_5 23 rfl rfl)
theorem dX3_widths_140 : decode cX3_widths 140 = .ok (.iload_n 3, 1) := dk_29 (dk_at dksX3_widths_6 0 rfl rfl)
theorem dX3_widths_141 : decode cX3_widths 141 = .ok (.ifCond .ne 8, 3) := dk_154 0 8 (dk_at dksX3_widths_6 1 rfl rfl)
theorem dX3_widths_144 : decode cX3_widths 144 = .ok (.iload 5, 2) := dk_21 5 (dk_at dksX3_widths_6 4 rfl rfl)
theorem dX3_widths_146 : decode cX3_widths 146 = .ok (.goto 29, 3) := dk_167 0 29 (dk_at dksX3_widths_6 6 rfl rfl)
theorem dX3_widths_149 : decode cX3_widths 149 = .ok (.iload 5, 2) := dk_21 5 (dk_at dksX3_widths_6 9 rfl rfl)
theorem dX3_widths_151 : decode cX3_widths 151 = .ok (.ifCond .ne 12, 3) := dk_154 0 12 (dk_at dksX3_widths_6 11 rfl rfl)
theorem dX3_widths_154 : decode cX3_widths 154 = .ok (.aload_n 0, 1) := dk_42 (dk_at dksX3_widths_6 14 rfl rfl)
theorem dX3_widths_155 : decode cX3_widths 155 = .ok (.ldc 230, 2) := dk_18 230 (dk_at dksX3_widths_6 15 rfl rfl)
theorem dX3_widths_157 : decode cX3_widths 157 = .ok (.invokevirtual 59, 3) := dk_182 0 59 (dk_at dksX3_widths_6 17 rfl rfl)
theorem dX3_widths_160 : decode cX3_widths 160 = .ok (.goto 15, 3) := dk_167 0 15 (dk_at dksX3_widths_6 20 rfl rfl)
theorem dX3_widths_163 : decode cX3_widths 163 = .ok (.iload_n 3, 1) := dk_29 (dk_at dksX3_widths_6 23 rfl rfl)
theorem dX3_widths_164 : decode cX3_widths 164 = .ok (.iconst 1, 1) := dk_4 (dk_at dksX3_widths_7 0 rfl rfl)
theorem dX3_widths_165 : decode cX3_widths 165 = .ok (.if_icmp .ne 8, 3) := dk_160 0 8 (dk_at dksX3_widths_7 1 rfl rfl)
theorem dX3_widths_168 : decode cX3_widths 168 = .ok (.iload 6, 2) := dk_21 6 (dk_at dksX3_widths_7 4 rfl rfl)
theorem dX3_widths_170 : decode cX3_widths 170 = .ok (.goto 5, 3) := dk_167 0 5 (dk_at dksX3_widths_7 6 rfl rfl)
theorem dX3_widths_173 : decode cX3_widths 173 = .ok (.iload 7, 2) := dk_21 7 (dk_at dksX3_widths_7 9 rfl rfl)
theorem dX3_widths_175 : decode cX3_widths 175 = .ok (.ireturn, 1) := dk_172 (dk_at dksX3_widths_7 11 rfl rfl)
abbrev cX3_most : ByteArray := prog_16_method_59_code
def yX3_most : MethodName := ⟨RX3, "most", "()I"⟩
def dkwX3_most_2 : List UInt8 := [184, 0, 202, 164, 0, 7, 28, 167, 0, 4, 27, 60, 132, 2, 1, 167, 255, 218, 27, 172]
abbrev dktX3_most_2 : List UInt8 := dkwX3_most_2 ++ []
def dkwX3_most_1 : List UInt8 := [28, 42, 180, 0, 7, 4, 46, 162, 0, 34, 42, 28, 182, 0, 199, 184, 0, 202, 42, 27, 182, 0, 199]
abbrev dktX3_most_1 : List UInt8 := dkwX3_most_1 ++ dktX3_most_2
def dkwX3_most_0 : List UInt8 := [42, 180, 0, 7, 4, 46, 154, 0, 10, 42, 18, 230, 182, 0, 59, 172, 42, 182, 0, 208, 3, 60, 4, 61]
abbrev dktX3_most_0 : List UInt8 := dkwX3_most_0 ++ dktX3_most_1
theorem dksX3_most_0 : cX3_most.data.toList.drop 0 = dktX3_most_0 := by decide +kernel
theorem dksX3_most_1 : cX3_most.data.toList.drop 24 = dktX3_most_1 := dk_seg dksX3_most_0 24 rfl rfl
theorem dksX3_most_2 : cX3_most.data.toList.drop 47 = dktX3_most_2 := dk_seg dksX3_most_1 23 rfl rfl
theorem dX3_most_0 : decode cX3_most 0 = .ok (.aload_n 0, 1) := dk_42 (dk_at dksX3_most_0 0 rfl rfl)
theorem dX3_most_1 : decode cX3_most 1 = .ok (.getfield 7, 3) := dk_180 0 7 (dk_at dksX3_most_0 1 rfl rfl)
theorem dX3_most_4 : decode cX3_most 4 = .ok (.iconst 1, 1) := dk_4 (dk_at dksX3_most_0 4 rfl rfl)
theorem dX3_most_5 : decode cX3_most 5 = .ok (.iaload, 1) := dk_46 (dk_at dksX3_most_0 5 rfl rfl)
theorem dX3_most_6 : decode cX3_most 6 = .ok (.ifCond .ne 10, 3) := dk_154 0 10 (dk_at dksX3_most_0 6 rfl rfl)
theorem dX3_most_9 : decode cX3_most 9 = .ok (.aload_n 0, 1) := dk_42 (dk_at dksX3_most_0 9 rfl rfl)
theorem dX3_most_10 : decode cX3_most 10 = .ok (.ldc 230, 2) := dk_18 230 (dk_at dksX3_most_0 10 rfl rfl)
theorem dX3_most_12 : decode cX3_most 12 = .ok (.invokevirtual 59, 3) := dk_182 0 59 (dk_at dksX3_most_0 12 rfl rfl)
theorem dX3_most_15 : decode cX3_most 15 = .ok (.ireturn, 1) := dk_172 (dk_at dksX3_most_0 15 rfl rfl)
theorem dX3_most_16 : decode cX3_most 16 = .ok (.aload_n 0, 1) := dk_42 (dk_at dksX3_most_0 16 rfl rfl)
theorem dX3_most_17 : decode cX3_most 17 = .ok (.invokevirtual 208, 3) := dk_182 0 208 (dk_at dksX3_most_0 17 rfl rfl)
theorem dX3_most_20 : decode cX3_most 20 = .ok (.iconst 0, 1) := dk_3 (dk_at dksX3_most_0 20 rfl rfl)
theorem dX3_most_21 : decode cX3_most 21 = .ok (.istore_n 1, 1) := dk_60 (dk_at dksX3_most_0 21 rfl rfl)
theorem dX3_most_22 : decode cX3_most 22 = .ok (.iconst 1, 1) := dk_4 (dk_at dksX3_most_0 22 rfl rfl)
theorem dX3_most_23 : decode cX3_most 23 = .ok (.istore_n 2, 1) := dk_61 (dk_at dksX3_most_0 23 rfl rfl)
theorem dX3_most_24 : decode cX3_most 24 = .ok (.iload_n 2, 1) := dk_28 (dk_at dksX3_most_1 0 rfl rfl)
theorem dX3_most_25 : decode cX3_most 25 = .ok (.aload_n 0, 1) := dk_42 (dk_at dksX3_most_1 1 rfl rfl)
theorem dX3_most_26 : decode cX3_most 26 = .ok (.getfield 7, 3) := dk_180 0 7 (dk_at dksX3_most_1 2 rfl rfl)
theorem dX3_most_29 : decode cX3_most 29 = .ok (.iconst 1, 1) := dk_4 (dk_at dksX3_most_1 5 rfl rfl)
theorem dX3_most_30 : decode cX3_most 30 = .ok (.iaload, 1) := dk_46 (dk_at dksX3_most_1 6 rfl rfl)
theorem dX3_most_31 : decode cX3_most 31 = .ok (.if_icmp .ge 34, 3) := dk_162 0 34 (dk_at dksX3_most_1 7 rfl rfl)
theorem dX3_most_34 : decode cX3_most 34 = .ok (.aload_n 0, 1) := dk_42 (dk_at dksX3_most_1 10 rfl rfl)
theorem dX3_most_35 : decode cX3_most 35 = .ok (.iload_n 2, 1) := dk_28 (dk_at dksX3_most_1 11 rfl rfl)
theorem dX3_most_36 : decode cX3_most 36 = .ok (.invokevirtual 199, 3) := dk_182 0 199 (dk_at dksX3_most_1 12 rfl rfl)
theorem dX3_most_39 : decode cX3_most 39 = .ok (.invokestatic 202, 3) := dk_184 0 202 (dk_at dksX3_most_1 15 rfl rfl)
theorem dX3_most_42 : decode cX3_most 42 = .ok (.aload_n 0, 1) := dk_42 (dk_at dksX3_most_1 18 rfl rfl)
theorem dX3_most_43 : decode cX3_most 43 = .ok (.iload_n 1, 1) := dk_27 (dk_at dksX3_most_1 19 rfl rfl)
theorem dX3_most_44 : decode cX3_most 44 = .ok (.invokevirtual 199, 3) := dk_182 0 199 (dk_at dksX3_most_1 20 rfl rfl)
theorem dX3_most_47 : decode cX3_most 47 = .ok (.invokestatic 202, 3) := dk_184 0 202 (dk_at dksX3_most_2 0 rfl rfl)
theorem dX3_most_50 : decode cX3_most 50 = .ok (.if_icmp .le 7, 3) := dk_164 0 7 (dk_at dksX3_most_2 3 rfl rfl)
theorem dX3_most_53 : decode cX3_most 53 = .ok (.iload_n 2, 1) := dk_28 (dk_at dksX3_most_2 6 rfl rfl)
theorem dX3_most_54 : decode cX3_most 54 = .ok (.goto 4, 3) := dk_167 0 4 (dk_at dksX3_most_2 7 rfl rfl)
theorem dX3_most_57 : decode cX3_most 57 = .ok (.iload_n 1, 1) := dk_27 (dk_at dksX3_most_2 10 rfl rfl)
theorem dX3_most_58 : decode cX3_most 58 = .ok (.istore_n 1, 1) := dk_60 (dk_at dksX3_most_2 11 rfl rfl)
theorem dX3_most_59 : decode cX3_most 59 = .ok (.iinc 2 1, 3) := dk_132 2 1 (dk_at dksX3_most_2 12 rfl rfl)
theorem dX3_most_62 : decode cX3_most 62 = .ok (.goto (-38), 3) := dk_167 255 218 (dk_at dksX3_most_2 15 rfl rfl)
theorem dX3_most_65 : decode cX3_most 65 = .ok (.iload_n 1, 1) := dk_27 (dk_at dksX3_most_2 18 rfl rfl)
theorem dX3_most_66 : decode cX3_most 66 = .ok (.ireturn, 1) := dk_172 (dk_at dksX3_most_2 19 rfl rfl)
abbrev cX3_stop : ByteArray := prog_16_method_64_code
def yX3_stop : MethodName := ⟨RX3, "stop", "(IIII)I"⟩
def dkwX3_stop_9 : List UInt8 := [21, 5, 167, 0, 20, 21, 4, 4, 160, 0, 8, 21, 6, 167, 0, 9, 42, 21, 5, 182, 0, 241, 172]
abbrev dktX3_stop_9 : List UInt8 := dkwX3_stop_9 ++ []
def dkwX3_stop_8 : List UInt8 := [54, 7, 167, 255, 129, 21, 5, 156, 0, 12, 42, 18, 230, 182, 0, 59, 167, 0, 30, 21, 4, 154, 0, 8]
abbrev dktX3_stop_8 : List UInt8 := dkwX3_stop_8 ++ dktX3_stop_9
def dkwX3_stop_7 : List UInt8 := [21, 10, 54, 6, 21, 7, 27, 159, 0, 7, 4, 167, 0, 4, 3, 54, 8, 21, 7, 27, 100, 27, 126]
abbrev dktX3_stop_7 : List UInt8 := dkwX3_stop_7 ++ dktX3_stop_8
def dkwX3_stop_6 : List UInt8 := [21, 10, 21, 6, 160, 0, 24, 21, 7, 184, 0, 231, 21, 5, 184, 0, 231, 162, 0, 11, 21, 7, 54, 5]
abbrev dktX3_stop_6 : List UInt8 := dkwX3_stop_6 ++ dktX3_stop_7
def dkwX3_stop_5 : List UInt8 := [42, 21, 7, 3, 182, 0, 244, 21, 9, 153, 0, 43, 21, 5, 155, 0, 30, 21, 10, 21, 6, 161, 0, 23]
abbrev dktX3_stop_5 : List UInt8 := dkwX3_stop_5 ++ dktX3_stop_6
def dkwX3_stop_4 : List UInt8 := [29, 161, 0, 14, 42, 182, 0, 219, 154, 0, 7, 4, 167, 0, 4, 3, 54, 9, 42, 182, 0, 216, 54, 10]
abbrev dktX3_stop_4 : List UInt8 := dkwX3_stop_4 ++ dktX3_stop_5
def dkwX3_stop_3 : List UInt8 := [21, 7, 182, 0, 241, 28, 163, 0, 94, 42, 21, 7, 4, 182, 0, 244, 42, 182, 0, 208, 42, 182, 0, 205]
abbrev dktX3_stop_3 : List UInt8 := dkwX3_stop_3 ++ dktX3_stop_4
def dkwX3_stop_2 : List UInt8 := [18, 53, 182, 0, 59, 172, 2, 54, 5, 3, 54, 6, 3, 54, 7, 4, 54, 8, 21, 8, 153, 0, 128, 42]
abbrev dktX3_stop_2 : List UInt8 := dkwX3_stop_2 ++ dktX3_stop_3
def dkwX3_stop_1 : List UInt8 := [20, 0, 239, 184, 0, 54, 153, 0, 16, 21, 4, 133, 9, 20, 0, 228, 184, 0, 54, 154, 0, 10, 42]
abbrev dktX3_stop_1 : List UInt8 := dkwX3_stop_1 ++ dktX3_stop_2
def dkwX3_stop_0 : List UInt8 := [42, 27, 182, 0, 234, 153, 0, 40, 28, 133, 9, 20, 0, 237, 184, 0, 54, 153, 0, 28, 29, 133, 9]
abbrev dktX3_stop_0 : List UInt8 := dkwX3_stop_0 ++ dktX3_stop_1
theorem dksX3_stop_0 : cX3_stop.data.toList.drop 0 = dktX3_stop_0 := by decide +kernel
theorem dksX3_stop_1 : cX3_stop.data.toList.drop 23 = dktX3_stop_1 := dk_seg dksX3_stop_0 23 rfl rfl
theorem dksX3_stop_2 : cX3_stop.data.toList.drop 46 = dktX3_stop_2 := dk_seg dksX3_stop_1 23 rfl rfl
theorem dksX3_stop_3 : cX3_stop.data.toList.drop 70 = dktX3_stop_3 := dk_seg dksX3_stop_2 24 rfl rfl
theorem dksX3_stop_4 : cX3_stop.data.toList.drop 94 = dktX3_stop_4 := dk_seg dksX3_stop_3 24 rfl rfl
theorem dksX3_stop_5 : cX3_stop.data.toList.drop 118 = dktX3_stop_5 := dk_seg dksX3_stop_4 24 rfl rfl
theorem dksX3_stop_6 : cX3_stop.data.toList.drop 142 = dktX3_stop_6 := dk_seg dksX3_stop_5 24 rfl rfl
theorem dksX3_stop_7 : cX3_stop.data.toList.drop 166 = dktX3_stop_7 := dk_seg dksX3_stop_6 24 rfl rfl
theorem dksX3_stop_8 : cX3_stop.data.toList.drop 189 = dktX3_stop_8 := dk_seg dksX3_stop_7 23 rfl rfl
theorem dksX3_stop_9 : cX3_stop.data.toList.drop 213 = dktX3_stop_9 := dk_seg dksX3_stop_8 24 rfl rfl
theorem dX3_stop_0 : decode cX3_stop 0 = .ok (.aload_n 0, 1) := dk_42 (dk_at dksX3_stop_0 0 rfl rfl)
theorem dX3_stop_1 : decode cX3_stop 1 = .ok (.iload_n 1, 1) := dk_27 (dk_at dksX3_stop_0 1 rfl rfl)
theorem dX3_stop_2 : decode cX3_stop 2 = .ok (.invokevirtual 234, 3) := dk_182 0 234 (dk_at dksX3_stop_0 2 rfl rfl)
theorem dX3_stop_5 : decode cX3_stop 5 = .ok (.ifCond .eq 40, 3) := dk_153 0 40 (dk_at dksX3_stop_0 5 rfl rfl)
theorem dX3_stop_8 : decode cX3_stop 8 = .ok (.iload_n 2, 1) := dk_28 (dk_at dksX3_stop_0 8 rfl rfl)
theorem dX3_stop_9 : decode cX3_stop 9 = .ok (.i2l, 1) := dk_133 (dk_at dksX3_stop_0 9 rfl rfl)
theorem dX3_stop_10 : decode cX3_stop 10 = .ok (.lconst 0, 1) := dk_9 (dk_at dksX3_stop_0 10 rfl rfl)
theorem dX3_stop_11 : decode cX3_stop 11 = .ok (.ldc2_w 237, 3) := dk_20 0 237 (dk_at dksX3_stop_0 11 rfl rfl)
theorem dX3_stop_14 : decode cX3_stop 14 = .ok (.invokestatic 54, 3) := dk_184 0 54 (dk_at dksX3_stop_0 14 rfl rfl)
theorem dX3_stop_17 : decode cX3_stop 17 = .ok (.ifCond .eq 28, 3) := dk_153 0 28 (dk_at dksX3_stop_0 17 rfl rfl)
theorem dX3_stop_20 : decode cX3_stop 20 = .ok (.iload_n 3, 1) := dk_29 (dk_at dksX3_stop_0 20 rfl rfl)
theorem dX3_stop_21 : decode cX3_stop 21 = .ok (.i2l, 1) := dk_133 (dk_at dksX3_stop_0 21 rfl rfl)
theorem dX3_stop_22 : decode cX3_stop 22 = .ok (.lconst 0, 1) := dk_9 (dk_at dksX3_stop_0 22 rfl rfl)
theorem dX3_stop_23 : decode cX3_stop 23 = .ok (.ldc2_w 239, 3) := dk_20 0 239 (dk_at dksX3_stop_1 0 rfl rfl)
theorem dX3_stop_26 : decode cX3_stop 26 = .ok (.invokestatic 54, 3) := dk_184 0 54 (dk_at dksX3_stop_1 3 rfl rfl)
theorem dX3_stop_29 : decode cX3_stop 29 = .ok (.ifCond .eq 16, 3) := dk_153 0 16 (dk_at dksX3_stop_1 6 rfl rfl)
theorem dX3_stop_32 : decode cX3_stop 32 = .ok (.iload 4, 2) := dk_21 4 (dk_at dksX3_stop_1 9 rfl rfl)
theorem dX3_stop_34 : decode cX3_stop 34 = .ok (.i2l, 1) := dk_133 (dk_at dksX3_stop_1 11 rfl rfl)
theorem dX3_stop_35 : decode cX3_stop 35 = .ok (.lconst 0, 1) := dk_9 (dk_at dksX3_stop_1 12 rfl rfl)
theorem dX3_stop_36 : decode cX3_stop 36 = .ok (.ldc2_w 228, 3) := dk_20 0 228 (dk_at dksX3_stop_1 13 rfl rfl)
theorem dX3_stop_39 : decode cX3_stop 39 = .ok (.invokestatic 54, 3) := dk_184 0 54 (dk_at dksX3_stop_1 16 rfl rfl)
theorem dX3_stop_42 : decode cX3_stop 42 = .ok (.ifCond .ne 10, 3) := dk_154 0 10 (dk_at dksX3_stop_1 19 rfl rfl)
theorem dX3_stop_45 : decode cX3_stop 45 = .ok (.aload_n 0, 1) := dk_42 (dk_at dksX3_stop_1 22 rfl rfl)
theorem dX3_stop_46 : decode cX3_stop 46 = .ok (.ldc 53, 2) := dk_18 53 (dk_at dksX3_stop_2 0 rfl rfl)
theorem dX3_stop_48 : decode cX3_stop 48 = .ok (.invokevirtual 59, 3) := dk_182 0 59 (dk_at dksX3_stop_2 2 rfl rfl)
theorem dX3_stop_51 : decode cX3_stop 51 = .ok (.ireturn, 1) := dk_172 (dk_at dksX3_stop_2 5 rfl rfl)
theorem dX3_stop_52 : decode cX3_stop 52 = .ok (.iconst (-1), 1) := dk_2 (dk_at dksX3_stop_2 6 rfl rfl)
theorem dX3_stop_53 : decode cX3_stop 53 = .ok (.istore 5, 2) := dk_54 5 (dk_at dksX3_stop_2 7 rfl rfl)
theorem dX3_stop_55 : decode cX3_stop 55 = .ok (.iconst 0, 1) := dk_3 (dk_at dksX3_stop_2 9 rfl rfl)
theorem dX3_stop_56 : decode cX3_stop 56 = .ok (.istore 6, 2) := dk_54 6 (dk_at dksX3_stop_2 10 rfl rfl)
theorem dX3_stop_58 : decode cX3_stop 58 = .ok (.iconst 0, 1) := dk_3 (dk_at dksX3_stop_2 12 rfl rfl)
theorem dX3_stop_59 : decode cX3_stop 59 = .ok (.istore 7, 2) := dk_54 7 (dk_at dksX3_stop_2 13 rfl rfl)
theorem dX3_stop_61 : decode cX3_stop 61 = .ok (.iconst 1, 1) := dk_4 (dk_at dksX3_stop_2 15 rfl rfl)
theorem dX3_stop_62 : decode cX3_stop 62 = .ok (.istore 8, 2) := dk_54 8 (dk_at dksX3_stop_2 16 rfl rfl)
theorem dX3_stop_64 : decode cX3_stop 64 = .ok (.iload 8, 2) := dk_21 8 (dk_at dksX3_stop_2 18 rfl rfl)
theorem dX3_stop_66 : decode cX3_stop 66 = .ok (.ifCond .eq 128, 3) := dk_153 0 128 (dk_at dksX3_stop_2 20 rfl rfl)
theorem dX3_stop_69 : decode cX3_stop 69 = .ok (.aload_n 0, 1) := dk_42 (dk_at dksX3_stop_2 23 rfl rfl)
theorem dX3_stop_70 : decode cX3_stop 70 = .ok (.iload 7, 2) := dk_21 7 (dk_at dksX3_stop_3 0 rfl rfl)
theorem dX3_stop_72 : decode cX3_stop 72 = .ok (.invokevirtual 241, 3) := dk_182 0 241 (dk_at dksX3_stop_3 2 rfl rfl)
theorem dX3_stop_75 : decode cX3_stop 75 = .ok (.iload_n 2, 1) := dk_28 (dk_at dksX3_stop_3 5 rfl rfl)
theorem dX3_stop_76 : decode cX3_stop 76 = .ok (.if_icmp .gt 94, 3) := dk_163 0 94 (dk_at dksX3_stop_3 6 rfl rfl)
theorem dX3_stop_79 : decode cX3_stop 79 = .ok (.aload_n 0, 1) := dk_42 (dk_at dksX3_stop_3 9 rfl rfl)
theorem dX3_stop_80 : decode cX3_stop 80 = .ok (.iload 7, 2) := dk_21 7 (dk_at dksX3_stop_3 10 rfl rfl)
theorem dX3_stop_82 : decode cX3_stop 82 = .ok (.iconst 1, 1) := dk_4 (dk_at dksX3_stop_3 12 rfl rfl)
theorem dX3_stop_83 : decode cX3_stop 83 = .ok (.invokevirtual 244, 3) := dk_182 0 244 (dk_at dksX3_stop_3 13 rfl rfl)
theorem dX3_stop_86 : decode cX3_stop 86 = .ok (.aload_n 0, 1) := dk_42 (dk_at dksX3_stop_3 16 rfl rfl)
theorem dX3_stop_87 : decode cX3_stop 87 = .ok (.invokevirtual 208, 3) := dk_182 0 208 (dk_at dksX3_stop_3 17 rfl rfl)
theorem dX3_stop_90 : decode cX3_stop 90 = .ok (.aload_n 0, 1) := dk_42 (dk_at dksX3_stop_3 20 rfl rfl)
theorem dX3_stop_91 : decode cX3_stop 91 = .ok (.invokevirtual 205, 3) := dk_182 0 205 (dk_at dksX3_stop_3 21 rfl rfl)
theorem dX3_stop_94 : decode cX3_stop 94 = .ok (.iload_n 3, 1) := dk_29 (dk_at dksX3_stop_4 0 rfl rfl)
theorem dX3_stop_95 : decode cX3_stop 95 = .ok (.if_icmp .lt 14, 3) := dk_161 0 14 (dk_at dksX3_stop_4 1 rfl rfl)
theorem dX3_stop_98 : decode cX3_stop 98 = .ok (.aload_n 0, 1) := dk_42 (dk_at dksX3_stop_4 4 rfl rfl)
theorem dX3_stop_99 : decode cX3_stop 99 = .ok (.invokevirtual 219, 3) := dk_182 0 219 (dk_at dksX3_stop_4 5 rfl rfl)
theorem dX3_stop_102 : decode cX3_stop 102 = .ok (.ifCond .ne 7, 3) := dk_154 0 7 (dk_at dksX3_stop_4 8 rfl rfl)
theorem dX3_stop_105 : decode cX3_stop 105 = .ok (.iconst 1, 1) := dk_4 (dk_at dksX3_stop_4 11 rfl rfl)
theorem dX3_stop_106 : decode cX3_stop 106 = .ok (.goto 4, 3) := dk_167 0 4 (dk_at dksX3_stop_4 12 rfl rfl)
theorem dX3_stop_109 : decode cX3_stop 109 = .ok (.iconst 0, 1) := dk_3 (dk_at dksX3_stop_4 15 rfl rfl)
theorem dX3_stop_110 : decode cX3_stop 110 = .ok (.istore 9, 2) := dk_54 9 (dk_at dksX3_stop_4 16 rfl rfl)
theorem dX3_stop_112 : decode cX3_stop 112 = .ok (.aload_n 0, 1) := dk_42 (dk_at dksX3_stop_4 18 rfl rfl)
theorem dX3_stop_113 : decode cX3_stop 113 = .ok (.invokevirtual 216, 3) := dk_182 0 216 (dk_at dksX3_stop_4 19 rfl rfl)
theorem dX3_stop_116 : decode cX3_stop 116 = .ok (.istore 10, 2) := dk_54 10 (dk_at dksX3_stop_4 22 rfl rfl)
theorem dX3_stop_118 : decode cX3_stop 118 = .ok (.aload_n 0, 1) := dk_42 (dk_at dksX3_stop_5 0 rfl rfl)
theorem dX3_stop_119 : decode cX3_stop 119 = .ok (.iload 7, 2) := dk_21 7 (dk_at dksX3_stop_5 1 rfl rfl)
theorem dX3_stop_121 : decode cX3_stop 121 = .ok (.iconst 0, 1) := dk_3 (dk_at dksX3_stop_5 3 rfl rfl)
theorem dX3_stop_122 : decode cX3_stop 122 = .ok (.invokevirtual 244, 3) := dk_182 0 244 (dk_at dksX3_stop_5 4 rfl rfl)
theorem dX3_stop_125 : decode cX3_stop 125 = .ok (.iload 9, 2) := dk_21 9 (dk_at dksX3_stop_5 7 rfl rfl)
theorem dX3_stop_127 : decode cX3_stop 127 = .ok (.ifCond .eq 43, 3) := dk_153 0 43 (dk_at dksX3_stop_5 9 rfl rfl)
theorem dX3_stop_130 : decode cX3_stop 130 = .ok (.iload 5, 2) := dk_21 5 (dk_at dksX3_stop_5 12 rfl rfl)
theorem dX3_stop_132 : decode cX3_stop 132 = .ok (.ifCond .lt 30, 3) := dk_155 0 30 (dk_at dksX3_stop_5 14 rfl rfl)
theorem dX3_stop_135 : decode cX3_stop 135 = .ok (.iload 10, 2) := dk_21 10 (dk_at dksX3_stop_5 17 rfl rfl)
theorem dX3_stop_137 : decode cX3_stop 137 = .ok (.iload 6, 2) := dk_21 6 (dk_at dksX3_stop_5 19 rfl rfl)
theorem dX3_stop_139 : decode cX3_stop 139 = .ok (.if_icmp .lt 23, 3) := dk_161 0 23 (dk_at dksX3_stop_5 21 rfl rfl)
theorem dX3_stop_142 : decode cX3_stop 142 = .ok (.iload 10, 2) := dk_21 10 (dk_at dksX3_stop_6 0 rfl rfl)
theorem dX3_stop_144 : decode cX3_stop 144 = .ok (.iload 6, 2) := dk_21 6 (dk_at dksX3_stop_6 2 rfl rfl)
theorem dX3_stop_146 : decode cX3_stop 146 = .ok (.if_icmp .ne 24, 3) := dk_160 0 24 (dk_at dksX3_stop_6 4 rfl rfl)
theorem dX3_stop_149 : decode cX3_stop 149 = .ok (.iload 7, 2) := dk_21 7 (dk_at dksX3_stop_6 7 rfl rfl)
theorem dX3_stop_151 : decode cX3_stop 151 = .ok (.invokestatic 231, 3) := dk_184 0 231 (dk_at dksX3_stop_6 9 rfl rfl)
theorem dX3_stop_154 : decode cX3_stop 154 = .ok (.iload 5, 2) := dk_21 5 (dk_at dksX3_stop_6 12 rfl rfl)
theorem dX3_stop_156 : decode cX3_stop 156 = .ok (.invokestatic 231, 3) := dk_184 0 231 (dk_at dksX3_stop_6 14 rfl rfl)
theorem dX3_stop_159 : decode cX3_stop 159 = .ok (.if_icmp .ge 11, 3) := dk_162 0 11 (dk_at dksX3_stop_6 17 rfl rfl)
theorem dX3_stop_162 : decode cX3_stop 162 = .ok (.iload 7, 2) := dk_21 7 (dk_at dksX3_stop_6 20 rfl rfl)
theorem dX3_stop_164 : decode cX3_stop 164 = .ok (.istore 5, 2) := dk_54 5 (dk_at dksX3_stop_6 22 rfl rfl)
theorem dX3_stop_166 : decode cX3_stop 166 = .ok (.iload 10, 2) := dk_21 10 (dk_at dksX3_stop_7 0 rfl rfl)
theorem dX3_stop_168 : decode cX3_stop 168 = .ok (.istore 6, 2) := dk_54 6 (dk_at dksX3_stop_7 2 rfl rfl)
theorem dX3_stop_170 : decode cX3_stop 170 = .ok (.iload 7, 2) := dk_21 7 (dk_at dksX3_stop_7 4 rfl rfl)
theorem dX3_stop_172 : decode cX3_stop 172 = .ok (.iload_n 1, 1) := dk_27 (dk_at dksX3_stop_7 6 rfl rfl)
theorem dX3_stop_173 : decode cX3_stop 173 = .ok (.if_icmp .eq 7, 3) := dk_159 0 7 (dk_at dksX3_stop_7 7 rfl rfl)
theorem dX3_stop_176 : decode cX3_stop 176 = .ok (.iconst 1, 1) := dk_4 (dk_at dksX3_stop_7 10 rfl rfl)
theorem dX3_stop_177 : decode cX3_stop 177 = .ok (.goto 4, 3) := dk_167 0 4 (dk_at dksX3_stop_7 11 rfl rfl)
theorem dX3_stop_180 : decode cX3_stop 180 = .ok (.iconst 0, 1) := dk_3 (dk_at dksX3_stop_7 14 rfl rfl)
theorem dX3_stop_181 : decode cX3_stop 181 = .ok (.istore 8, 2) := dk_54 8 (dk_at dksX3_stop_7 15 rfl rfl)
theorem dX3_stop_183 : decode cX3_stop 183 = .ok (.iload 7, 2) := dk_21 7 (dk_at dksX3_stop_7 17 rfl rfl)
theorem dX3_stop_185 : decode cX3_stop 185 = .ok (.iload_n 1, 1) := dk_27 (dk_at dksX3_stop_7 19 rfl rfl)
theorem dX3_stop_186 : decode cX3_stop 186 = .ok (.isub, 1) := dk_100 (dk_at dksX3_stop_7 20 rfl rfl)
theorem dX3_stop_187 : decode cX3_stop 187 = .ok (.iload_n 1, 1) := dk_27 (dk_at dksX3_stop_7 21 rfl rfl)
theorem dX3_stop_188 : decode cX3_stop 188 = .ok (.iand, 1) := dk_126 (dk_at dksX3_stop_7 22 rfl rfl)
theorem dX3_stop_189 : decode cX3_stop 189 = .ok (.istore 7, 2) := dk_54 7 (dk_at dksX3_stop_8 0 rfl rfl)
theorem dX3_stop_191 : decode cX3_stop 191 = .ok (.goto (-127), 3) := dk_167 255 129 (dk_at dksX3_stop_8 2 rfl rfl)
theorem dX3_stop_194 : decode cX3_stop 194 = .ok (.iload 5, 2) := dk_21 5 (dk_at dksX3_stop_8 5 rfl rfl)
theorem dX3_stop_196 : decode cX3_stop 196 = .ok (.ifCond .ge 12, 3) := dk_156 0 12 (dk_at dksX3_stop_8 7 rfl rfl)
theorem dX3_stop_199 : decode cX3_stop 199 = .ok (.aload_n 0, 1) := dk_42 (dk_at dksX3_stop_8 10 rfl rfl)
theorem dX3_stop_200 : decode cX3_stop 200 = .ok (.ldc 230, 2) := dk_18 230 (dk_at dksX3_stop_8 11 rfl rfl)
theorem dX3_stop_202 : decode cX3_stop 202 = .ok (.invokevirtual 59, 3) := dk_182 0 59 (dk_at dksX3_stop_8 13 rfl rfl)
theorem dX3_stop_205 : decode cX3_stop 205 = .ok (.goto 30, 3) := dk_167 0 30 (dk_at dksX3_stop_8 16 rfl rfl)
theorem dX3_stop_208 : decode cX3_stop 208 = .ok (.iload 4, 2) := dk_21 4 (dk_at dksX3_stop_8 19 rfl rfl)
theorem dX3_stop_210 : decode cX3_stop 210 = .ok (.ifCond .ne 8, 3) := dk_154 0 8 (dk_at dksX3_stop_8 21 rfl rfl)
theorem dX3_stop_213 : decode cX3_stop 213 = .ok (.iload 5, 2) := dk_21 5 (dk_at dksX3_stop_9 0 rfl rfl)
theorem dX3_stop_215 : decode cX3_stop 215 = .ok (.goto 20, 3) := dk_167 0 20 (dk_at dksX3_stop_9 2 rfl rfl)
theorem dX3_stop_218 : decode cX3_stop 218 = .ok (.iload 4, 2) := dk_21 4 (dk_at dksX3_stop_9 5 rfl rfl)
theorem dX3_stop_220 : decode cX3_stop 220 = .ok (.iconst 1, 1) := dk_4 (dk_at dksX3_stop_9 7 rfl rfl)
theorem dX3_stop_221 : decode cX3_stop 221 = .ok (.if_icmp .ne 8, 3) := dk_160 0 8 (dk_at dksX3_stop_9 8 rfl rfl)
theorem dX3_stop_224 : decode cX3_stop 224 = .ok (.iload 6, 2) := dk_21 6 (dk_at dksX3_stop_9 11 rfl rfl)
theorem dX3_stop_226 : decode cX3_stop 226 = .ok (.goto 9, 3) := dk_167 0 9 (dk_at dksX3_stop_9 13 rfl rfl)
theorem dX3_stop_229 : decode cX3_stop 229 = .ok (.aload_n 0, 1) := dk_42 (dk_at dksX3_stop_9 16 rfl rfl)
theorem dX3_stop_230 : decode cX3_stop 230 = .ok (.iload 5, 2) := dk_21 5 (dk_at dksX3_stop_9 17 rfl rfl)
theorem dX3_stop_232 : decode cX3_stop 232 = .ok (.invokevirtual 241, 3) := dk_182 0 241 (dk_at dksX3_stop_9 19 rfl rfl)
theorem dX3_stop_235 : decode cX3_stop 235 = .ok (.ireturn, 1) := dk_172 (dk_at dksX3_stop_9 22 rfl rfl)
abbrev cX3_isStopping : ByteArray := prog_16_method_63_code
def yX3_isStopping : MethodName := ⟨RX3, "isStopping", "(I)Z"⟩
def dkwX3_isStopping_3 : List UInt8 := [167, 0, 4, 3, 61, 132, 3, 1, 167, 255, 215, 28, 172]
abbrev dktX3_isStopping_3 : List UInt8 := dkwX3_isStopping_3 ++ []
def dkwX3_isStopping_2 : List UInt8 := [153, 0, 33, 27, 29, 122, 4, 126, 153, 0, 13, 42, 29, 16, 7, 182, 0, 79, 154, 0, 7, 4]
abbrev dktX3_isStopping_2 : List UInt8 := dkwX3_isStopping_2 ++ dktX3_isStopping_3
def dkwX3_isStopping_1 : List UInt8 := [16, 10, 163, 0, 7, 4, 167, 0, 4, 3, 61, 3, 62, 29, 42, 180, 0, 7, 4, 46, 162, 0, 37, 28]
abbrev dktX3_isStopping_1 : List UInt8 := dkwX3_isStopping_1 ++ dktX3_isStopping_2
def dkwX3_isStopping_0 : List UInt8 := [27, 133, 9, 4, 42, 180, 0, 7, 4, 46, 120, 4, 100, 133, 184, 0, 54, 153, 0, 16, 27, 184, 0, 231]
abbrev dktX3_isStopping_0 : List UInt8 := dkwX3_isStopping_0 ++ dktX3_isStopping_1
theorem dksX3_isStopping_0 : cX3_isStopping.data.toList.drop 0 = dktX3_isStopping_0 := by decide +kernel
theorem dksX3_isStopping_1 : cX3_isStopping.data.toList.drop 24 = dktX3_isStopping_1 := dk_seg dksX3_isStopping_0 24 rfl rfl
theorem dksX3_isStopping_2 : cX3_isStopping.data.toList.drop 48 = dktX3_isStopping_2 := dk_seg dksX3_isStopping_1 24 rfl rfl
theorem dksX3_isStopping_3 : cX3_isStopping.data.toList.drop 70 = dktX3_isStopping_3 := dk_seg dksX3_isStopping_2 22 rfl rfl
theorem dX3_isStopping_0 : decode cX3_isStopping 0 = .ok (.iload_n 1, 1) := dk_27 (dk_at dksX3_isStopping_0 0 rfl rfl)
theorem dX3_isStopping_1 : decode cX3_isStopping 1 = .ok (.i2l, 1) := dk_133 (dk_at dksX3_isStopping_0 1 rfl rfl)
theorem dX3_isStopping_2 : decode cX3_isStopping 2 = .ok (.lconst 0, 1) := dk_9 (dk_at dksX3_isStopping_0 2 rfl rfl)
theorem dX3_isStopping_3 : decode cX3_isStopping 3 = .ok (.iconst 1, 1) := dk_4 (dk_at dksX3_isStopping_0 3 rfl rfl)
theorem dX3_isStopping_4 : decode cX3_isStopping 4 = .ok (.aload_n 0, 1) := dk_42 (dk_at dksX3_isStopping_0 4 rfl rfl)
theorem dX3_isStopping_5 : decode cX3_isStopping 5 = .ok (.getfield 7, 3) := dk_180 0 7 (dk_at dksX3_isStopping_0 5 rfl rfl)
theorem dX3_isStopping_8 : decode cX3_isStopping 8 = .ok (.iconst 1, 1) := dk_4 (dk_at dksX3_isStopping_0 8 rfl rfl)
theorem dX3_isStopping_9 : decode cX3_isStopping 9 = .ok (.iaload, 1) := dk_46 (dk_at dksX3_isStopping_0 9 rfl rfl)
theorem dX3_isStopping_10 : decode cX3_isStopping 10 = .ok (.ishl, 1) := dk_120 (dk_at dksX3_isStopping_0 10 rfl rfl)
theorem dX3_isStopping_11 : decode cX3_isStopping 11 = .ok (.iconst 1, 1) := dk_4 (dk_at dksX3_isStopping_0 11 rfl rfl)
theorem dX3_isStopping_12 : decode cX3_isStopping 12 = .ok (.isub, 1) := dk_100 (dk_at dksX3_isStopping_0 12 rfl rfl)
theorem dX3_isStopping_13 : decode cX3_isStopping 13 = .ok (.i2l, 1) := dk_133 (dk_at dksX3_isStopping_0 13 rfl rfl)
theorem dX3_isStopping_14 : decode cX3_isStopping 14 = .ok (.invokestatic 54, 3) := dk_184 0 54 (dk_at dksX3_isStopping_0 14 rfl rfl)
theorem dX3_isStopping_17 : decode cX3_isStopping 17 = .ok (.ifCond .eq 16, 3) := dk_153 0 16 (dk_at dksX3_isStopping_0 17 rfl rfl)
theorem dX3_isStopping_20 : decode cX3_isStopping 20 = .ok (.iload_n 1, 1) := dk_27 (dk_at dksX3_isStopping_0 20 rfl rfl)
theorem dX3_isStopping_21 : decode cX3_isStopping 21 = .ok (.invokestatic 231, 3) := dk_184 0 231 (dk_at dksX3_isStopping_0 21 rfl rfl)
theorem dX3_isStopping_24 : decode cX3_isStopping 24 = .ok (.bipush 10, 2) := dk_16 10 (dk_at dksX3_isStopping_1 0 rfl rfl)
theorem dX3_isStopping_26 : decode cX3_isStopping 26 = .ok (.if_icmp .gt 7, 3) := dk_163 0 7 (dk_at dksX3_isStopping_1 2 rfl rfl)
theorem dX3_isStopping_29 : decode cX3_isStopping 29 = .ok (.iconst 1, 1) := dk_4 (dk_at dksX3_isStopping_1 5 rfl rfl)
theorem dX3_isStopping_30 : decode cX3_isStopping 30 = .ok (.goto 4, 3) := dk_167 0 4 (dk_at dksX3_isStopping_1 6 rfl rfl)
theorem dX3_isStopping_33 : decode cX3_isStopping 33 = .ok (.iconst 0, 1) := dk_3 (dk_at dksX3_isStopping_1 9 rfl rfl)
theorem dX3_isStopping_34 : decode cX3_isStopping 34 = .ok (.istore_n 2, 1) := dk_61 (dk_at dksX3_isStopping_1 10 rfl rfl)
theorem dX3_isStopping_35 : decode cX3_isStopping 35 = .ok (.iconst 0, 1) := dk_3 (dk_at dksX3_isStopping_1 11 rfl rfl)
theorem dX3_isStopping_36 : decode cX3_isStopping 36 = .ok (.istore_n 3, 1) := dk_62 (dk_at dksX3_isStopping_1 12 rfl rfl)
theorem dX3_isStopping_37 : decode cX3_isStopping 37 = .ok (.iload_n 3, 1) := dk_29 (dk_at dksX3_isStopping_1 13 rfl rfl)
theorem dX3_isStopping_38 : decode cX3_isStopping 38 = .ok (.aload_n 0, 1) := dk_42 (dk_at dksX3_isStopping_1 14 rfl rfl)
theorem dX3_isStopping_39 : decode cX3_isStopping 39 = .ok (.getfield 7, 3) := dk_180 0 7 (dk_at dksX3_isStopping_1 15 rfl rfl)
theorem dX3_isStopping_42 : decode cX3_isStopping 42 = .ok (.iconst 1, 1) := dk_4 (dk_at dksX3_isStopping_1 18 rfl rfl)
theorem dX3_isStopping_43 : decode cX3_isStopping 43 = .ok (.iaload, 1) := dk_46 (dk_at dksX3_isStopping_1 19 rfl rfl)
theorem dX3_isStopping_44 : decode cX3_isStopping 44 = .ok (.if_icmp .ge 37, 3) := dk_162 0 37 (dk_at dksX3_isStopping_1 20 rfl rfl)
theorem dX3_isStopping_47 : decode cX3_isStopping 47 = .ok (.iload_n 2, 1) := dk_28 (dk_at dksX3_isStopping_1 23 rfl rfl)
theorem dX3_isStopping_48 : decode cX3_isStopping 48 = .ok (.ifCond .eq 33, 3) := dk_153 0 33 (dk_at dksX3_isStopping_2 0 rfl rfl)
theorem dX3_isStopping_51 : decode cX3_isStopping 51 = .ok (.iload_n 1, 1) := dk_27 (dk_at dksX3_isStopping_2 3 rfl rfl)
theorem dX3_isStopping_52 : decode cX3_isStopping 52 = .ok (.iload_n 3, 1) := dk_29 (dk_at dksX3_isStopping_2 4 rfl rfl)
theorem dX3_isStopping_53 : decode cX3_isStopping 53 = .ok (.ishr, 1) := dk_122 (dk_at dksX3_isStopping_2 5 rfl rfl)
theorem dX3_isStopping_54 : decode cX3_isStopping 54 = .ok (.iconst 1, 1) := dk_4 (dk_at dksX3_isStopping_2 6 rfl rfl)
theorem dX3_isStopping_55 : decode cX3_isStopping 55 = .ok (.iand, 1) := dk_126 (dk_at dksX3_isStopping_2 7 rfl rfl)
theorem dX3_isStopping_56 : decode cX3_isStopping 56 = .ok (.ifCond .eq 13, 3) := dk_153 0 13 (dk_at dksX3_isStopping_2 8 rfl rfl)
theorem dX3_isStopping_59 : decode cX3_isStopping 59 = .ok (.aload_n 0, 1) := dk_42 (dk_at dksX3_isStopping_2 11 rfl rfl)
theorem dX3_isStopping_60 : decode cX3_isStopping 60 = .ok (.iload_n 3, 1) := dk_29 (dk_at dksX3_isStopping_2 12 rfl rfl)
theorem dX3_isStopping_61 : decode cX3_isStopping 61 = .ok (.bipush 7, 2) := dk_16 7 (dk_at dksX3_isStopping_2 13 rfl rfl)
theorem dX3_isStopping_63 : decode cX3_isStopping 63 = .ok (.invokevirtual 79, 3) := dk_182 0 79 (dk_at dksX3_isStopping_2 15 rfl rfl)
theorem dX3_isStopping_66 : decode cX3_isStopping 66 = .ok (.ifCond .ne 7, 3) := dk_154 0 7 (dk_at dksX3_isStopping_2 18 rfl rfl)
theorem dX3_isStopping_69 : decode cX3_isStopping 69 = .ok (.iconst 1, 1) := dk_4 (dk_at dksX3_isStopping_2 21 rfl rfl)
theorem dX3_isStopping_70 : decode cX3_isStopping 70 = .ok (.goto 4, 3) := dk_167 0 4 (dk_at dksX3_isStopping_3 0 rfl rfl)
theorem dX3_isStopping_73 : decode cX3_isStopping 73 = .ok (.iconst 0, 1) := dk_3 (dk_at dksX3_isStopping_3 3 rfl rfl)
theorem dX3_isStopping_74 : decode cX3_isStopping 74 = .ok (.istore_n 2, 1) := dk_61 (dk_at dksX3_isStopping_3 4 rfl rfl)
theorem dX3_isStopping_75 : decode cX3_isStopping 75 = .ok (.iinc 3 1, 3) := dk_132 3 1 (dk_at dksX3_isStopping_3 5 rfl rfl)
theorem dX3_isStopping_78 : decode cX3_isStopping 78 = .ok (.goto (-41), 3) := dk_167 255 215 (dk_at dksX3_isStopping_3 8 rfl rfl)
theorem dX3_isStopping_81 : decode cX3_isStopping 81 = .ok (.iload_n 2, 1) := dk_28 (dk_at dksX3_isStopping_3 11 rfl rfl)
theorem dX3_isStopping_82 : decode cX3_isStopping 82 = .ok (.ireturn, 1) := dk_172 (dk_at dksX3_isStopping_3 12 rfl rfl)
abbrev cX3_ones : ByteArray := prog_16_method_61_code
def yX3_ones : MethodName := ⟨RX3, "ones", "(I)I"⟩
def dkwX3_ones_0 : List UInt8 := [3, 60, 26, 61, 28, 153, 0, 15, 132, 1, 1, 28, 28, 4, 100, 126, 61, 167, 255, 243, 27, 172]
abbrev dktX3_ones_0 : List UInt8 := dkwX3_ones_0 ++ []
theorem dksX3_ones_0 : cX3_ones.data.toList.drop 0 = dktX3_ones_0 := by decide +kernel
theorem dX3_ones_0 : decode cX3_ones 0 = .ok (.iconst 0, 1) := dk_3 (dk_at dksX3_ones_0 0 rfl rfl)
theorem dX3_ones_1 : decode cX3_ones 1 = .ok (.istore_n 1, 1) := dk_60 (dk_at dksX3_ones_0 1 rfl rfl)
theorem dX3_ones_2 : decode cX3_ones 2 = .ok (.iload_n 0, 1) := dk_26 (dk_at dksX3_ones_0 2 rfl rfl)
theorem dX3_ones_3 : decode cX3_ones 3 = .ok (.istore_n 2, 1) := dk_61 (dk_at dksX3_ones_0 3 rfl rfl)
theorem dX3_ones_4 : decode cX3_ones 4 = .ok (.iload_n 2, 1) := dk_28 (dk_at dksX3_ones_0 4 rfl rfl)
theorem dX3_ones_5 : decode cX3_ones 5 = .ok (.ifCond .eq 15, 3) := dk_153 0 15 (dk_at dksX3_ones_0 5 rfl rfl)
theorem dX3_ones_8 : decode cX3_ones 8 = .ok (.iinc 1 1, 3) := dk_132 1 1 (dk_at dksX3_ones_0 8 rfl rfl)
theorem dX3_ones_11 : decode cX3_ones 11 = .ok (.iload_n 2, 1) := dk_28 (dk_at dksX3_ones_0 11 rfl rfl)
theorem dX3_ones_12 : decode cX3_ones 12 = .ok (.iload_n 2, 1) := dk_28 (dk_at dksX3_ones_0 12 rfl rfl)
theorem dX3_ones_13 : decode cX3_ones 13 = .ok (.iconst 1, 1) := dk_4 (dk_at dksX3_ones_0 13 rfl rfl)
theorem dX3_ones_14 : decode cX3_ones 14 = .ok (.isub, 1) := dk_100 (dk_at dksX3_ones_0 14 rfl rfl)
theorem dX3_ones_15 : decode cX3_ones 15 = .ok (.iand, 1) := dk_126 (dk_at dksX3_ones_0 15 rfl rfl)
theorem dX3_ones_16 : decode cX3_ones 16 = .ok (.istore_n 2, 1) := dk_61 (dk_at dksX3_ones_0 16 rfl rfl)
theorem dX3_ones_17 : decode cX3_ones 17 = .ok (.goto (-13), 3) := dk_167 255 243 (dk_at dksX3_ones_0 17 rfl rfl)
theorem dX3_ones_20 : decode cX3_ones 20 = .ok (.iload_n 1, 1) := dk_27 (dk_at dksX3_ones_0 20 rfl rfl)
theorem dX3_ones_21 : decode cX3_ones 21 = .ok (.ireturn, 1) := dk_172 (dk_at dksX3_ones_0 21 rfl rfl)
abbrev cX3_costs : ByteArray := prog_16_method_62_code
def yX3_costs : MethodName := ⟨RX3, "costs", "(I)I"⟩
def dkwX3_costs_1 : List UInt8 := [182, 0, 79, 104, 96, 61, 132, 3, 1, 167, 255, 227, 28, 172]
abbrev dktX3_costs_1 : List UInt8 := dkwX3_costs_1 ++ []
def dkwX3_costs_0 : List UInt8 := [3, 61, 3, 62, 29, 42, 180, 0, 7, 4, 46, 162, 0, 25, 28, 27, 29, 122, 4, 126, 42, 29, 16, 6]
abbrev dktX3_costs_0 : List UInt8 := dkwX3_costs_0 ++ dktX3_costs_1
theorem dksX3_costs_0 : cX3_costs.data.toList.drop 0 = dktX3_costs_0 := by decide +kernel
theorem dksX3_costs_1 : cX3_costs.data.toList.drop 24 = dktX3_costs_1 := dk_seg dksX3_costs_0 24 rfl rfl
theorem dX3_costs_0 : decode cX3_costs 0 = .ok (.iconst 0, 1) := dk_3 (dk_at dksX3_costs_0 0 rfl rfl)
theorem dX3_costs_1 : decode cX3_costs 1 = .ok (.istore_n 2, 1) := dk_61 (dk_at dksX3_costs_0 1 rfl rfl)
theorem dX3_costs_2 : decode cX3_costs 2 = .ok (.iconst 0, 1) := dk_3 (dk_at dksX3_costs_0 2 rfl rfl)
theorem dX3_costs_3 : decode cX3_costs 3 = .ok (.istore_n 3, 1) := dk_62 (dk_at dksX3_costs_0 3 rfl rfl)
theorem dX3_costs_4 : decode cX3_costs 4 = .ok (.iload_n 3, 1) := dk_29 (dk_at dksX3_costs_0 4 rfl rfl)
theorem dX3_costs_5 : decode cX3_costs 5 = .ok (.aload_n 0, 1) := dk_42 (dk_at dksX3_costs_0 5 rfl rfl)
theorem dX3_costs_6 : decode cX3_costs 6 = .ok (.getfield 7, 3) := dk_180 0 7 (dk_at dksX3_costs_0 6 rfl rfl)
theorem dX3_costs_9 : decode cX3_costs 9 = .ok (.iconst 1, 1) := dk_4 (dk_at dksX3_costs_0 9 rfl rfl)
theorem dX3_costs_10 : decode cX3_costs 10 = .ok (.iaload, 1) := dk_46 (dk_at dksX3_costs_0 10 rfl rfl)
theorem dX3_costs_11 : decode cX3_costs 11 = .ok (.if_icmp .ge 25, 3) := dk_162 0 25 (dk_at dksX3_costs_0 11 rfl rfl)
theorem dX3_costs_14 : decode cX3_costs 14 = .ok (.iload_n 2, 1) := dk_28 (dk_at dksX3_costs_0 14 rfl rfl)
theorem dX3_costs_15 : decode cX3_costs 15 = .ok (.iload_n 1, 1) := dk_27 (dk_at dksX3_costs_0 15 rfl rfl)
theorem dX3_costs_16 : decode cX3_costs 16 = .ok (.iload_n 3, 1) := dk_29 (dk_at dksX3_costs_0 16 rfl rfl)
theorem dX3_costs_17 : decode cX3_costs 17 = .ok (.ishr, 1) := dk_122 (dk_at dksX3_costs_0 17 rfl rfl)
theorem dX3_costs_18 : decode cX3_costs 18 = .ok (.iconst 1, 1) := dk_4 (dk_at dksX3_costs_0 18 rfl rfl)
theorem dX3_costs_19 : decode cX3_costs 19 = .ok (.iand, 1) := dk_126 (dk_at dksX3_costs_0 19 rfl rfl)
theorem dX3_costs_20 : decode cX3_costs 20 = .ok (.aload_n 0, 1) := dk_42 (dk_at dksX3_costs_0 20 rfl rfl)
theorem dX3_costs_21 : decode cX3_costs 21 = .ok (.iload_n 3, 1) := dk_29 (dk_at dksX3_costs_0 21 rfl rfl)
theorem dX3_costs_22 : decode cX3_costs 22 = .ok (.bipush 6, 2) := dk_16 6 (dk_at dksX3_costs_0 22 rfl rfl)
theorem dX3_costs_24 : decode cX3_costs 24 = .ok (.invokevirtual 79, 3) := dk_182 0 79 (dk_at dksX3_costs_1 0 rfl rfl)
theorem dX3_costs_27 : decode cX3_costs 27 = .ok (.imul, 1) := dk_104 (dk_at dksX3_costs_1 3 rfl rfl)
theorem dX3_costs_28 : decode cX3_costs 28 = .ok (.iadd, 1) := dk_96 (dk_at dksX3_costs_1 4 rfl rfl)
theorem dX3_costs_29 : decode cX3_costs 29 = .ok (.istore_n 2, 1) := dk_61 (dk_at dksX3_costs_1 5 rfl rfl)
theorem dX3_costs_30 : decode cX3_costs 30 = .ok (.iinc 3 1, 3) := dk_132 3 1 (dk_at dksX3_costs_1 6 rfl rfl)
theorem dX3_costs_33 : decode cX3_costs 33 = .ok (.goto (-29), 3) := dk_167 255 227 (dk_at dksX3_costs_1 9 rfl rfl)
theorem dX3_costs_36 : decode cX3_costs 36 = .ok (.iload_n 2, 1) := dk_28 (dk_at dksX3_costs_1 12 rfl rfl)
theorem dX3_costs_37 : decode cX3_costs 37 = .ok (.ireturn, 1) := dk_172 (dk_at dksX3_costs_1 13 rfl rfl)
abbrev cX3_shuts : ByteArray := prog_16_method_60_code
def yX3_shuts : MethodName := ⟨RX3, "shuts", "(II)V"⟩
def dkwX3_shuts_1 : List UInt8 := [180, 0, 7, 16, 9, 16, 8, 29, 104, 96, 16, 7, 96, 28, 79, 132, 3, 1, 167, 255, 218, 177]
abbrev dktX3_shuts_1 : List UInt8 := dkwX3_shuts_1 ++ []
def dkwX3_shuts_0 : List UInt8 := [3, 62, 29, 42, 180, 0, 7, 4, 46, 162, 0, 34, 27, 29, 122, 4, 126, 4, 160, 0, 19, 42]
abbrev dktX3_shuts_0 : List UInt8 := dkwX3_shuts_0 ++ dktX3_shuts_1
theorem dksX3_shuts_0 : cX3_shuts.data.toList.drop 0 = dktX3_shuts_0 := by decide +kernel
theorem dksX3_shuts_1 : cX3_shuts.data.toList.drop 22 = dktX3_shuts_1 := dk_seg dksX3_shuts_0 22 rfl rfl
theorem dX3_shuts_0 : decode cX3_shuts 0 = .ok (.iconst 0, 1) := dk_3 (dk_at dksX3_shuts_0 0 rfl rfl)
theorem dX3_shuts_1 : decode cX3_shuts 1 = .ok (.istore_n 3, 1) := dk_62 (dk_at dksX3_shuts_0 1 rfl rfl)
theorem dX3_shuts_2 : decode cX3_shuts 2 = .ok (.iload_n 3, 1) := dk_29 (dk_at dksX3_shuts_0 2 rfl rfl)
theorem dX3_shuts_3 : decode cX3_shuts 3 = .ok (.aload_n 0, 1) := dk_42 (dk_at dksX3_shuts_0 3 rfl rfl)
theorem dX3_shuts_4 : decode cX3_shuts 4 = .ok (.getfield 7, 3) := dk_180 0 7 (dk_at dksX3_shuts_0 4 rfl rfl)
theorem dX3_shuts_7 : decode cX3_shuts 7 = .ok (.iconst 1, 1) := dk_4 (dk_at dksX3_shuts_0 7 rfl rfl)
theorem dX3_shuts_8 : decode cX3_shuts 8 = .ok (.iaload, 1) := dk_46 (dk_at dksX3_shuts_0 8 rfl rfl)
theorem dX3_shuts_9 : decode cX3_shuts 9 = .ok (.if_icmp .ge 34, 3) := dk_162 0 34 (dk_at dksX3_shuts_0 9 rfl rfl)
theorem dX3_shuts_12 : decode cX3_shuts 12 = .ok (.iload_n 1, 1) := dk_27 (dk_at dksX3_shuts_0 12 rfl rfl)
theorem dX3_shuts_13 : decode cX3_shuts 13 = .ok (.iload_n 3, 1) := dk_29 (dk_at dksX3_shuts_0 13 rfl rfl)
theorem dX3_shuts_14 : decode cX3_shuts 14 = .ok (.ishr, 1) := dk_122 (dk_at dksX3_shuts_0 14 rfl rfl)
theorem dX3_shuts_15 : decode cX3_shuts 15 = .ok (.iconst 1, 1) := dk_4 (dk_at dksX3_shuts_0 15 rfl rfl)
theorem dX3_shuts_16 : decode cX3_shuts 16 = .ok (.iand, 1) := dk_126 (dk_at dksX3_shuts_0 16 rfl rfl)
theorem dX3_shuts_17 : decode cX3_shuts 17 = .ok (.iconst 1, 1) := dk_4 (dk_at dksX3_shuts_0 17 rfl rfl)
theorem dX3_shuts_18 : decode cX3_shuts 18 = .ok (.if_icmp .ne 19, 3) := dk_160 0 19 (dk_at dksX3_shuts_0 18 rfl rfl)
theorem dX3_shuts_21 : decode cX3_shuts 21 = .ok (.aload_n 0, 1) := dk_42 (dk_at dksX3_shuts_0 21 rfl rfl)
theorem dX3_shuts_22 : decode cX3_shuts 22 = .ok (.getfield 7, 3) := dk_180 0 7 (dk_at dksX3_shuts_1 0 rfl rfl)
theorem dX3_shuts_25 : decode cX3_shuts 25 = .ok (.bipush 9, 2) := dk_16 9 (dk_at dksX3_shuts_1 3 rfl rfl)
theorem dX3_shuts_27 : decode cX3_shuts 27 = .ok (.bipush 8, 2) := dk_16 8 (dk_at dksX3_shuts_1 5 rfl rfl)
theorem dX3_shuts_29 : decode cX3_shuts 29 = .ok (.iload_n 3, 1) := dk_29 (dk_at dksX3_shuts_1 7 rfl rfl)
theorem dX3_shuts_30 : decode cX3_shuts 30 = .ok (.imul, 1) := dk_104 (dk_at dksX3_shuts_1 8 rfl rfl)
theorem dX3_shuts_31 : decode cX3_shuts 31 = .ok (.iadd, 1) := dk_96 (dk_at dksX3_shuts_1 9 rfl rfl)
theorem dX3_shuts_32 : decode cX3_shuts 32 = .ok (.bipush 7, 2) := dk_16 7 (dk_at dksX3_shuts_1 10 rfl rfl)
theorem dX3_shuts_34 : decode cX3_shuts 34 = .ok (.iadd, 1) := dk_96 (dk_at dksX3_shuts_1 12 rfl rfl)
theorem dX3_shuts_35 : decode cX3_shuts 35 = .ok (.iload_n 2, 1) := dk_28 (dk_at dksX3_shuts_1 13 rfl rfl)
theorem dX3_shuts_36 : decode cX3_shuts 36 = .ok (.iastore, 1) := dk_79 (dk_at dksX3_shuts_1 14 rfl rfl)
theorem dX3_shuts_37 : decode cX3_shuts 37 = .ok (.iinc 3 1, 3) := dk_132 3 1 (dk_at dksX3_shuts_1 15 rfl rfl)
theorem dX3_shuts_40 : decode cX3_shuts 40 = .ok (.goto (-38), 3) := dk_167 255 218 (dk_at dksX3_shuts_1 18 rfl rfl)
theorem dX3_shuts_43 : decode cX3_shuts 43 = .ok (.return_, 1) := dk_177 (dk_at dksX3_shuts_1 21 rfl rfl)
abbrev cX3_order : ByteArray := prog_16_method_67_code
def yX3_order : MethodName := ⟨RX3, "order", "(I)I"⟩
def dkwX3_order_1 : List UInt8 := [42, 180, 0, 247, 162, 0, 12, 42, 180, 0, 31, 27, 46, 167, 0, 9, 42, 18, 230, 182, 0, 59, 172]
abbrev dktX3_order_1 : List UInt8 := dkwX3_order_1 ++ []
def dkwX3_order_0 : List UInt8 := [27, 133, 9, 20, 0, 253, 184, 0, 54, 154, 0, 10, 42, 18, 53, 182, 0, 59, 172, 42, 182, 0, 255, 27]
abbrev dktX3_order_0 : List UInt8 := dkwX3_order_0 ++ dktX3_order_1
theorem dksX3_order_0 : cX3_order.data.toList.drop 0 = dktX3_order_0 := by decide +kernel
theorem dksX3_order_1 : cX3_order.data.toList.drop 24 = dktX3_order_1 := dk_seg dksX3_order_0 24 rfl rfl
theorem dX3_order_0 : decode cX3_order 0 = .ok (.iload_n 1, 1) := dk_27 (dk_at dksX3_order_0 0 rfl rfl)
theorem dX3_order_1 : decode cX3_order 1 = .ok (.i2l, 1) := dk_133 (dk_at dksX3_order_0 1 rfl rfl)
theorem dX3_order_2 : decode cX3_order 2 = .ok (.lconst 0, 1) := dk_9 (dk_at dksX3_order_0 2 rfl rfl)
theorem dX3_order_3 : decode cX3_order 3 = .ok (.ldc2_w 253, 3) := dk_20 0 253 (dk_at dksX3_order_0 3 rfl rfl)
theorem dX3_order_6 : decode cX3_order 6 = .ok (.invokestatic 54, 3) := dk_184 0 54 (dk_at dksX3_order_0 6 rfl rfl)
theorem dX3_order_9 : decode cX3_order 9 = .ok (.ifCond .ne 10, 3) := dk_154 0 10 (dk_at dksX3_order_0 9 rfl rfl)
theorem dX3_order_12 : decode cX3_order 12 = .ok (.aload_n 0, 1) := dk_42 (dk_at dksX3_order_0 12 rfl rfl)
theorem dX3_order_13 : decode cX3_order 13 = .ok (.ldc 53, 2) := dk_18 53 (dk_at dksX3_order_0 13 rfl rfl)
theorem dX3_order_15 : decode cX3_order 15 = .ok (.invokevirtual 59, 3) := dk_182 0 59 (dk_at dksX3_order_0 15 rfl rfl)
theorem dX3_order_18 : decode cX3_order 18 = .ok (.ireturn, 1) := dk_172 (dk_at dksX3_order_0 18 rfl rfl)
theorem dX3_order_19 : decode cX3_order 19 = .ok (.aload_n 0, 1) := dk_42 (dk_at dksX3_order_0 19 rfl rfl)
theorem dX3_order_20 : decode cX3_order 20 = .ok (.invokevirtual 255, 3) := dk_182 0 255 (dk_at dksX3_order_0 20 rfl rfl)
theorem dX3_order_23 : decode cX3_order 23 = .ok (.iload_n 1, 1) := dk_27 (dk_at dksX3_order_0 23 rfl rfl)
theorem dX3_order_24 : decode cX3_order 24 = .ok (.aload_n 0, 1) := dk_42 (dk_at dksX3_order_1 0 rfl rfl)
theorem dX3_order_25 : decode cX3_order 25 = .ok (.getfield 247, 3) := dk_180 0 247 (dk_at dksX3_order_1 1 rfl rfl)
theorem dX3_order_28 : decode cX3_order 28 = .ok (.if_icmp .ge 12, 3) := dk_162 0 12 (dk_at dksX3_order_1 4 rfl rfl)
theorem dX3_order_31 : decode cX3_order 31 = .ok (.aload_n 0, 1) := dk_42 (dk_at dksX3_order_1 7 rfl rfl)
theorem dX3_order_32 : decode cX3_order 32 = .ok (.getfield 31, 3) := dk_180 0 31 (dk_at dksX3_order_1 8 rfl rfl)
theorem dX3_order_35 : decode cX3_order 35 = .ok (.iload_n 1, 1) := dk_27 (dk_at dksX3_order_1 11 rfl rfl)
theorem dX3_order_36 : decode cX3_order 36 = .ok (.iaload, 1) := dk_46 (dk_at dksX3_order_1 12 rfl rfl)
theorem dX3_order_37 : decode cX3_order 37 = .ok (.goto 9, 3) := dk_167 0 9 (dk_at dksX3_order_1 13 rfl rfl)
theorem dX3_order_40 : decode cX3_order 40 = .ok (.aload_n 0, 1) := dk_42 (dk_at dksX3_order_1 16 rfl rfl)
theorem dX3_order_41 : decode cX3_order 41 = .ok (.ldc 230, 2) := dk_18 230 (dk_at dksX3_order_1 17 rfl rfl)
theorem dX3_order_43 : decode cX3_order 43 = .ok (.invokevirtual 59, 3) := dk_182 0 59 (dk_at dksX3_order_1 19 rfl rfl)
theorem dX3_order_46 : decode cX3_order 46 = .ok (.ireturn, 1) := dk_172 (dk_at dksX3_order_1 22 rfl rfl)
abbrev cX3_findOrder : ByteArray := prog_16_method_66_code
def yX3_findOrder : MethodName := ⟨RX3, "findOrder", "()V"⟩
def dkwX3_findOrder_4 : List UInt8 := [42, 182, 0, 183, 177]
abbrev dktX3_findOrder_4 : List UInt8 := dkwX3_findOrder_4 ++ []
def dkwX3_findOrder_3 : List UInt8 := [162, 0, 19, 42, 42, 180, 0, 34, 42, 180, 0, 247, 46, 182, 0, 250, 167, 0, 4, 2, 60, 167, 255, 197]
abbrev dktX3_findOrder_3 : List UInt8 := dkwX3_findOrder_3 ++ dktX3_findOrder_4
def dkwX3_findOrder_2 : List UInt8 := [42, 89, 180, 0, 247, 4, 96, 181, 0, 247, 42, 4, 27, 120, 4, 182, 0, 244, 42, 180, 0, 247, 16, 20]
abbrev dktX3_findOrder_2 : List UInt8 := dkwX3_findOrder_2 ++ dktX3_findOrder_3
def dkwX3_findOrder_1 : List UInt8 := [42, 180, 0, 34, 3, 46, 182, 0, 250, 60, 27, 155, 0, 61, 42, 180, 0, 31, 42, 180, 0, 247, 27, 79]
abbrev dktX3_findOrder_1 : List UInt8 := dkwX3_findOrder_1 ++ dktX3_findOrder_2
def dkwX3_findOrder_0 : List UInt8 := [42, 182, 0, 177, 42, 3, 181, 0, 247, 42, 182, 0, 208, 42, 180, 0, 34, 3, 42, 182, 0, 216, 79, 42]
abbrev dktX3_findOrder_0 : List UInt8 := dkwX3_findOrder_0 ++ dktX3_findOrder_1
theorem dksX3_findOrder_0 : cX3_findOrder.data.toList.drop 0 = dktX3_findOrder_0 := by decide +kernel
theorem dksX3_findOrder_1 : cX3_findOrder.data.toList.drop 24 = dktX3_findOrder_1 := dk_seg dksX3_findOrder_0 24 rfl rfl
theorem dksX3_findOrder_2 : cX3_findOrder.data.toList.drop 48 = dktX3_findOrder_2 := dk_seg dksX3_findOrder_1 24 rfl rfl
theorem dksX3_findOrder_3 : cX3_findOrder.data.toList.drop 72 = dktX3_findOrder_3 := dk_seg dksX3_findOrder_2 24 rfl rfl
theorem dksX3_findOrder_4 : cX3_findOrder.data.toList.drop 96 = dktX3_findOrder_4 := dk_seg dksX3_findOrder_3 24 rfl rfl
theorem dX3_findOrder_0 : decode cX3_findOrder 0 = .ok (.aload_n 0, 1) := dk_42 (dk_at dksX3_findOrder_0 0 rfl rfl)
theorem dX3_findOrder_1 : decode cX3_findOrder 1 = .ok (.invokevirtual 177, 3) := dk_182 0 177 (dk_at dksX3_findOrder_0 1 rfl rfl)
theorem dX3_findOrder_4 : decode cX3_findOrder 4 = .ok (.aload_n 0, 1) := dk_42 (dk_at dksX3_findOrder_0 4 rfl rfl)
theorem dX3_findOrder_5 : decode cX3_findOrder 5 = .ok (.iconst 0, 1) := dk_3 (dk_at dksX3_findOrder_0 5 rfl rfl)
theorem dX3_findOrder_6 : decode cX3_findOrder 6 = .ok (.putfield 247, 3) := dk_181 0 247 (dk_at dksX3_findOrder_0 6 rfl rfl)
theorem dX3_findOrder_9 : decode cX3_findOrder 9 = .ok (.aload_n 0, 1) := dk_42 (dk_at dksX3_findOrder_0 9 rfl rfl)
theorem dX3_findOrder_10 : decode cX3_findOrder 10 = .ok (.invokevirtual 208, 3) := dk_182 0 208 (dk_at dksX3_findOrder_0 10 rfl rfl)
theorem dX3_findOrder_13 : decode cX3_findOrder 13 = .ok (.aload_n 0, 1) := dk_42 (dk_at dksX3_findOrder_0 13 rfl rfl)
theorem dX3_findOrder_14 : decode cX3_findOrder 14 = .ok (.getfield 34, 3) := dk_180 0 34 (dk_at dksX3_findOrder_0 14 rfl rfl)
theorem dX3_findOrder_17 : decode cX3_findOrder 17 = .ok (.iconst 0, 1) := dk_3 (dk_at dksX3_findOrder_0 17 rfl rfl)
theorem dX3_findOrder_18 : decode cX3_findOrder 18 = .ok (.aload_n 0, 1) := dk_42 (dk_at dksX3_findOrder_0 18 rfl rfl)
theorem dX3_findOrder_19 : decode cX3_findOrder 19 = .ok (.invokevirtual 216, 3) := dk_182 0 216 (dk_at dksX3_findOrder_0 19 rfl rfl)
theorem dX3_findOrder_22 : decode cX3_findOrder 22 = .ok (.iastore, 1) := dk_79 (dk_at dksX3_findOrder_0 22 rfl rfl)
theorem dX3_findOrder_23 : decode cX3_findOrder 23 = .ok (.aload_n 0, 1) := dk_42 (dk_at dksX3_findOrder_0 23 rfl rfl)
theorem dX3_findOrder_24 : decode cX3_findOrder 24 = .ok (.aload_n 0, 1) := dk_42 (dk_at dksX3_findOrder_1 0 rfl rfl)
theorem dX3_findOrder_25 : decode cX3_findOrder 25 = .ok (.getfield 34, 3) := dk_180 0 34 (dk_at dksX3_findOrder_1 1 rfl rfl)
theorem dX3_findOrder_28 : decode cX3_findOrder 28 = .ok (.iconst 0, 1) := dk_3 (dk_at dksX3_findOrder_1 4 rfl rfl)
theorem dX3_findOrder_29 : decode cX3_findOrder 29 = .ok (.iaload, 1) := dk_46 (dk_at dksX3_findOrder_1 5 rfl rfl)
theorem dX3_findOrder_30 : decode cX3_findOrder 30 = .ok (.invokevirtual 250, 3) := dk_182 0 250 (dk_at dksX3_findOrder_1 6 rfl rfl)
theorem dX3_findOrder_33 : decode cX3_findOrder 33 = .ok (.istore_n 1, 1) := dk_60 (dk_at dksX3_findOrder_1 9 rfl rfl)
theorem dX3_findOrder_34 : decode cX3_findOrder 34 = .ok (.iload_n 1, 1) := dk_27 (dk_at dksX3_findOrder_1 10 rfl rfl)
theorem dX3_findOrder_35 : decode cX3_findOrder 35 = .ok (.ifCond .lt 61, 3) := dk_155 0 61 (dk_at dksX3_findOrder_1 11 rfl rfl)
theorem dX3_findOrder_38 : decode cX3_findOrder 38 = .ok (.aload_n 0, 1) := dk_42 (dk_at dksX3_findOrder_1 14 rfl rfl)
theorem dX3_findOrder_39 : decode cX3_findOrder 39 = .ok (.getfield 31, 3) := dk_180 0 31 (dk_at dksX3_findOrder_1 15 rfl rfl)
theorem dX3_findOrder_42 : decode cX3_findOrder 42 = .ok (.aload_n 0, 1) := dk_42 (dk_at dksX3_findOrder_1 18 rfl rfl)
theorem dX3_findOrder_43 : decode cX3_findOrder 43 = .ok (.getfield 247, 3) := dk_180 0 247 (dk_at dksX3_findOrder_1 19 rfl rfl)
theorem dX3_findOrder_46 : decode cX3_findOrder 46 = .ok (.iload_n 1, 1) := dk_27 (dk_at dksX3_findOrder_1 22 rfl rfl)
theorem dX3_findOrder_47 : decode cX3_findOrder 47 = .ok (.iastore, 1) := dk_79 (dk_at dksX3_findOrder_1 23 rfl rfl)
theorem dX3_findOrder_48 : decode cX3_findOrder 48 = .ok (.aload_n 0, 1) := dk_42 (dk_at dksX3_findOrder_2 0 rfl rfl)
theorem dX3_findOrder_49 : decode cX3_findOrder 49 = .ok (.dup, 1) := dk_89 (dk_at dksX3_findOrder_2 1 rfl rfl)
theorem dX3_findOrder_50 : decode cX3_findOrder 50 = .ok (.getfield 247, 3) := dk_180 0 247 (dk_at dksX3_findOrder_2 2 rfl rfl)
theorem dX3_findOrder_53 : decode cX3_findOrder 53 = .ok (.iconst 1, 1) := dk_4 (dk_at dksX3_findOrder_2 5 rfl rfl)
theorem dX3_findOrder_54 : decode cX3_findOrder 54 = .ok (.iadd, 1) := dk_96 (dk_at dksX3_findOrder_2 6 rfl rfl)
theorem dX3_findOrder_55 : decode cX3_findOrder 55 = .ok (.putfield 247, 3) := dk_181 0 247 (dk_at dksX3_findOrder_2 7 rfl rfl)
theorem dX3_findOrder_58 : decode cX3_findOrder 58 = .ok (.aload_n 0, 1) := dk_42 (dk_at dksX3_findOrder_2 10 rfl rfl)
theorem dX3_findOrder_59 : decode cX3_findOrder 59 = .ok (.iconst 1, 1) := dk_4 (dk_at dksX3_findOrder_2 11 rfl rfl)
theorem dX3_findOrder_60 : decode cX3_findOrder 60 = .ok (.iload_n 1, 1) := dk_27 (dk_at dksX3_findOrder_2 12 rfl rfl)
theorem dX3_findOrder_61 : decode cX3_findOrder 61 = .ok (.ishl, 1) := dk_120 (dk_at dksX3_findOrder_2 13 rfl rfl)
theorem dX3_findOrder_62 : decode cX3_findOrder 62 = .ok (.iconst 1, 1) := dk_4 (dk_at dksX3_findOrder_2 14 rfl rfl)
theorem dX3_findOrder_63 : decode cX3_findOrder 63 = .ok (.invokevirtual 244, 3) := dk_182 0 244 (dk_at dksX3_findOrder_2 15 rfl rfl)
theorem dX3_findOrder_66 : decode cX3_findOrder 66 = .ok (.aload_n 0, 1) := dk_42 (dk_at dksX3_findOrder_2 18 rfl rfl)
theorem dX3_findOrder_67 : decode cX3_findOrder 67 = .ok (.getfield 247, 3) := dk_180 0 247 (dk_at dksX3_findOrder_2 19 rfl rfl)
theorem dX3_findOrder_70 : decode cX3_findOrder 70 = .ok (.bipush 20, 2) := dk_16 20 (dk_at dksX3_findOrder_2 22 rfl rfl)
theorem dX3_findOrder_72 : decode cX3_findOrder 72 = .ok (.if_icmp .ge 19, 3) := dk_162 0 19 (dk_at dksX3_findOrder_3 0 rfl rfl)
theorem dX3_findOrder_75 : decode cX3_findOrder 75 = .ok (.aload_n 0, 1) := dk_42 (dk_at dksX3_findOrder_3 3 rfl rfl)
theorem dX3_findOrder_76 : decode cX3_findOrder 76 = .ok (.aload_n 0, 1) := dk_42 (dk_at dksX3_findOrder_3 4 rfl rfl)
theorem dX3_findOrder_77 : decode cX3_findOrder 77 = .ok (.getfield 34, 3) := dk_180 0 34 (dk_at dksX3_findOrder_3 5 rfl rfl)
theorem dX3_findOrder_80 : decode cX3_findOrder 80 = .ok (.aload_n 0, 1) := dk_42 (dk_at dksX3_findOrder_3 8 rfl rfl)
theorem dX3_findOrder_81 : decode cX3_findOrder 81 = .ok (.getfield 247, 3) := dk_180 0 247 (dk_at dksX3_findOrder_3 9 rfl rfl)
theorem dX3_findOrder_84 : decode cX3_findOrder 84 = .ok (.iaload, 1) := dk_46 (dk_at dksX3_findOrder_3 12 rfl rfl)
theorem dX3_findOrder_85 : decode cX3_findOrder 85 = .ok (.invokevirtual 250, 3) := dk_182 0 250 (dk_at dksX3_findOrder_3 13 rfl rfl)
theorem dX3_findOrder_88 : decode cX3_findOrder 88 = .ok (.goto 4, 3) := dk_167 0 4 (dk_at dksX3_findOrder_3 16 rfl rfl)
theorem dX3_findOrder_91 : decode cX3_findOrder 91 = .ok (.iconst (-1), 1) := dk_2 (dk_at dksX3_findOrder_3 19 rfl rfl)
theorem dX3_findOrder_92 : decode cX3_findOrder 92 = .ok (.istore_n 1, 1) := dk_60 (dk_at dksX3_findOrder_3 20 rfl rfl)
theorem dX3_findOrder_93 : decode cX3_findOrder 93 = .ok (.goto (-59), 3) := dk_167 255 197 (dk_at dksX3_findOrder_3 21 rfl rfl)
theorem dX3_findOrder_96 : decode cX3_findOrder 96 = .ok (.aload_n 0, 1) := dk_42 (dk_at dksX3_findOrder_4 0 rfl rfl)
theorem dX3_findOrder_97 : decode cX3_findOrder 97 = .ok (.invokevirtual 183, 3) := dk_182 0 183 (dk_at dksX3_findOrder_4 1 rfl rfl)
theorem dX3_findOrder_100 : decode cX3_findOrder 100 = .ok (.return_, 1) := dk_177 (dk_at dksX3_findOrder_4 4 rfl rfl)
