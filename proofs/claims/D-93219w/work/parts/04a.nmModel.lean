/-! SmokeLeansModel -/
set_option maxRecDepth 100000
def RX3 : String := "SmokeLeansModel"
def TX3 : u_T := fun k => match k with
  | 0 => ("SmokeLeansModel", "s", "[I", true)
  | 1 => ("SmokeLeansModel", "keptS", "[I", true)
  | 2 => ("SmokeLeansModel", "other", "[I", true)
  | 3 => ("SmokeLeansModel", "statuses", "[I", true)
  | 4 => ("SmokeLeansModel", "isKept", "Z", false)
  | 5 => ("SmokeLeansModel", "tape", "[I", true)
  | 6 => ("SmokeLeansModel", "taped", "I", false)
  | 7 => ("SmokeLeansModel", "from", "I", false)
  | 8 => ("SmokeLeansModel", "to", "I", false)
  | 9 => ("SmokeLeansModel", "value", "I", false)
  | 10 => ("SmokeLeansModel", "isWrong", "Z", false)
  | 11 => ("SmokeLeansModel", "pressures", "[I", true)
  | 12 => ("SmokeLeansModel", "now", "[I", true)
  | 13 => ("SmokeLeansModel", "roundMany", "I", false)
  | 14 => ("SmokeLeansModel", "isRestless", "Z", false)
  | 15 => ("SmokeLeansModel", "ordered", "[I", true)
  | 16 => ("SmokeLeansModel", "savings", "[I", true)
  | 17 => ("SmokeLeansModel", "orderMany", "I", false)
  | 18 => ("SmokeLeansModel", "leans", "[I", true)
  | 19 => ("SmokeLeansModel", "bitsOf", "[I", true)
  | 20 => ("SmokeLeansModel", "sizeOf", "[I", true)
  | 21 => ("SmokeLeansModel", "number", "[J", true)
  | _ => ("SmokeLeansModel", "moved", "[J", true)
def tyX3 : Nat → FieldType := fun k => match k with
  | 0 => .array .int
  | 1 => .array .int
  | 2 => .array .int
  | 3 => .array .int
  | 4 => .boolean
  | 5 => .array .int
  | 6 => .int
  | 7 => .int
  | 8 => .int
  | 9 => .int
  | 10 => .boolean
  | 11 => .array .int
  | 12 => .array .int
  | 13 => .int
  | 14 => .boolean
  | 15 => .array .int
  | 16 => .array .int
  | 17 => .int
  | 18 => .array .int
  | 19 => .array .int
  | 20 => .array .int
  | 21 => .array .long
  | _ => .array .long
abbrev wsX30 : List Cond := u_ws RX3 TX3 23
set_option maxRecDepth 100000 in
theorem nmX3 : ∀ a, a < 23 → ∀ b, b < 23 → a ≠ b → (TX3 a).2.1 ≠ (TX3 b).2.1 := by decide +kernel
set_option maxRecDepth 100000 in
theorem tyX3_ok : ∀ k, k < 23 → parseFieldDescriptor (TX3 k).2.2.1 = some (tyX3 k) := by decide +kernel
abbrev cX3_init : ByteArray := prog_16_method_1_code
def yX3_init : MethodName := ⟨RX3, "<init>", "()V"⟩
def dkwX3_init_5 : List UInt8 := [180, 0, 7, 5, 16, 10, 79, 42, 180, 0, 7, 16, 6, 8, 79, 42, 180, 0, 7, 16, 8, 4, 79, 177]
abbrev dktX3_init_5 : List UInt8 := dkwX3_init_5 ++ []
def dkwX3_init_4 : List UInt8 := [7, 188, 10, 181, 0, 43, 42, 17, 0, 160, 188, 11, 181, 0, 46, 42, 16, 40, 188, 11, 181, 0, 50, 42]
abbrev dktX3_init_4 : List UInt8 := dkwX3_init_4 ++ dktX3_init_5
def dkwX3_init_3 : List UInt8 := [42, 16, 21, 188, 10, 181, 0, 34, 42, 16, 20, 188, 10, 181, 0, 37, 42, 7, 188, 10, 181, 0, 40, 42]
abbrev dktX3_init_3 : List UInt8 := dkwX3_init_3 ++ dktX3_init_4
def dkwX3_init_2 : List UInt8 := [42, 16, 6, 188, 10, 181, 0, 25, 42, 16, 6, 188, 10, 181, 0, 28, 42, 16, 20, 188, 10, 181, 0, 31]
abbrev dktX3_init_2 : List UInt8 := dkwX3_init_2 ++ dktX3_init_3
def dkwX3_init_1 : List UInt8 := [17, 0, 169, 188, 10, 181, 0, 16, 42, 16, 7, 188, 10, 181, 0, 19, 42, 16, 120, 188, 10, 181, 0, 22]
abbrev dktX3_init_1 : List UInt8 := dkwX3_init_1 ++ dktX3_init_2
def dkwX3_init_0 : List UInt8 := [42, 183, 0, 1, 42, 17, 0, 169, 188, 10, 181, 0, 7, 42, 17, 0, 169, 188, 10, 181, 0, 13, 42]
abbrev dktX3_init_0 : List UInt8 := dkwX3_init_0 ++ dktX3_init_1
theorem dksX3_init_0 : cX3_init.data.toList.drop 0 = dktX3_init_0 := by decide +kernel
theorem dksX3_init_1 : cX3_init.data.toList.drop 23 = dktX3_init_1 := dk_seg dksX3_init_0 23 rfl rfl
theorem dksX3_init_2 : cX3_init.data.toList.drop 47 = dktX3_init_2 := dk_seg dksX3_init_1 24 rfl rfl
theorem dksX3_init_3 : cX3_init.data.toList.drop 71 = dktX3_init_3 := dk_seg dksX3_init_2 24 rfl rfl
theorem dksX3_init_4 : cX3_init.data.toList.drop 95 = dktX3_init_4 := dk_seg dksX3_init_3 24 rfl rfl
theorem dksX3_init_5 : cX3_init.data.toList.drop 119 = dktX3_init_5 := dk_seg dksX3_init_4 24 rfl rfl
theorem dX3_init_0 : decode cX3_init 0 = .ok (.aload_n 0, 1) := dk_42 (dk_at dksX3_init_0 0 rfl rfl)
theorem dX3_init_1 : decode cX3_init 1 = .ok (.invokespecial 1, 3) := dk_183 0 1 (dk_at dksX3_init_0 1 rfl rfl)
theorem dX3_init_4 : decode cX3_init 4 = .ok (.aload_n 0, 1) := dk_42 (dk_at dksX3_init_0 4 rfl rfl)
theorem dX3_init_5 : decode cX3_init 5 = .ok (.sipush 169, 3) := dk_17 0 169 (dk_at dksX3_init_0 5 rfl rfl)
theorem dX3_init_8 : decode cX3_init 8 = .ok (.newarray .int, 2) := dk_188_10 (dk_at dksX3_init_0 8 rfl rfl)
theorem dX3_init_10 : decode cX3_init 10 = .ok (.putfield 7, 3) := dk_181 0 7 (dk_at dksX3_init_0 10 rfl rfl)
theorem dX3_init_13 : decode cX3_init 13 = .ok (.aload_n 0, 1) := dk_42 (dk_at dksX3_init_0 13 rfl rfl)
theorem dX3_init_14 : decode cX3_init 14 = .ok (.sipush 169, 3) := dk_17 0 169 (dk_at dksX3_init_0 14 rfl rfl)
theorem dX3_init_17 : decode cX3_init 17 = .ok (.newarray .int, 2) := dk_188_10 (dk_at dksX3_init_0 17 rfl rfl)
theorem dX3_init_19 : decode cX3_init 19 = .ok (.putfield 13, 3) := dk_181 0 13 (dk_at dksX3_init_0 19 rfl rfl)
theorem dX3_init_22 : decode cX3_init 22 = .ok (.aload_n 0, 1) := dk_42 (dk_at dksX3_init_0 22 rfl rfl)
theorem dX3_init_23 : decode cX3_init 23 = .ok (.sipush 169, 3) := dk_17 0 169 (dk_at dksX3_init_1 0 rfl rfl)
theorem dX3_init_26 : decode cX3_init 26 = .ok (.newarray .int, 2) := dk_188_10 (dk_at dksX3_init_1 3 rfl rfl)
theorem dX3_init_28 : decode cX3_init 28 = .ok (.putfield 16, 3) := dk_181 0 16 (dk_at dksX3_init_1 5 rfl rfl)
theorem dX3_init_31 : decode cX3_init 31 = .ok (.aload_n 0, 1) := dk_42 (dk_at dksX3_init_1 8 rfl rfl)
theorem dX3_init_32 : decode cX3_init 32 = .ok (.bipush 7, 2) := dk_16 7 (dk_at dksX3_init_1 9 rfl rfl)
theorem dX3_init_34 : decode cX3_init 34 = .ok (.newarray .int, 2) := dk_188_10 (dk_at dksX3_init_1 11 rfl rfl)
theorem dX3_init_36 : decode cX3_init 36 = .ok (.putfield 19, 3) := dk_181 0 19 (dk_at dksX3_init_1 13 rfl rfl)
theorem dX3_init_39 : decode cX3_init 39 = .ok (.aload_n 0, 1) := dk_42 (dk_at dksX3_init_1 16 rfl rfl)
theorem dX3_init_40 : decode cX3_init 40 = .ok (.bipush 120, 2) := dk_16 120 (dk_at dksX3_init_1 17 rfl rfl)
theorem dX3_init_42 : decode cX3_init 42 = .ok (.newarray .int, 2) := dk_188_10 (dk_at dksX3_init_1 19 rfl rfl)
theorem dX3_init_44 : decode cX3_init 44 = .ok (.putfield 22, 3) := dk_181 0 22 (dk_at dksX3_init_1 21 rfl rfl)
theorem dX3_init_47 : decode cX3_init 47 = .ok (.aload_n 0, 1) := dk_42 (dk_at dksX3_init_2 0 rfl rfl)
theorem dX3_init_48 : decode cX3_init 48 = .ok (.bipush 6, 2) := dk_16 6 (dk_at dksX3_init_2 1 rfl rfl)
theorem dX3_init_50 : decode cX3_init 50 = .ok (.newarray .int, 2) := dk_188_10 (dk_at dksX3_init_2 3 rfl rfl)
theorem dX3_init_52 : decode cX3_init 52 = .ok (.putfield 25, 3) := dk_181 0 25 (dk_at dksX3_init_2 5 rfl rfl)
theorem dX3_init_55 : decode cX3_init 55 = .ok (.aload_n 0, 1) := dk_42 (dk_at dksX3_init_2 8 rfl rfl)
theorem dX3_init_56 : decode cX3_init 56 = .ok (.bipush 6, 2) := dk_16 6 (dk_at dksX3_init_2 9 rfl rfl)
theorem dX3_init_58 : decode cX3_init 58 = .ok (.newarray .int, 2) := dk_188_10 (dk_at dksX3_init_2 11 rfl rfl)
theorem dX3_init_60 : decode cX3_init 60 = .ok (.putfield 28, 3) := dk_181 0 28 (dk_at dksX3_init_2 13 rfl rfl)
theorem dX3_init_63 : decode cX3_init 63 = .ok (.aload_n 0, 1) := dk_42 (dk_at dksX3_init_2 16 rfl rfl)
theorem dX3_init_64 : decode cX3_init 64 = .ok (.bipush 20, 2) := dk_16 20 (dk_at dksX3_init_2 17 rfl rfl)
theorem dX3_init_66 : decode cX3_init 66 = .ok (.newarray .int, 2) := dk_188_10 (dk_at dksX3_init_2 19 rfl rfl)
theorem dX3_init_68 : decode cX3_init 68 = .ok (.putfield 31, 3) := dk_181 0 31 (dk_at dksX3_init_2 21 rfl rfl)
theorem dX3_init_71 : decode cX3_init 71 = .ok (.aload_n 0, 1) := dk_42 (dk_at dksX3_init_3 0 rfl rfl)
theorem dX3_init_72 : decode cX3_init 72 = .ok (.bipush 21, 2) := dk_16 21 (dk_at dksX3_init_3 1 rfl rfl)
theorem dX3_init_74 : decode cX3_init 74 = .ok (.newarray .int, 2) := dk_188_10 (dk_at dksX3_init_3 3 rfl rfl)
theorem dX3_init_76 : decode cX3_init 76 = .ok (.putfield 34, 3) := dk_181 0 34 (dk_at dksX3_init_3 5 rfl rfl)
theorem dX3_init_79 : decode cX3_init 79 = .ok (.aload_n 0, 1) := dk_42 (dk_at dksX3_init_3 8 rfl rfl)
theorem dX3_init_80 : decode cX3_init 80 = .ok (.bipush 20, 2) := dk_16 20 (dk_at dksX3_init_3 9 rfl rfl)
theorem dX3_init_82 : decode cX3_init 82 = .ok (.newarray .int, 2) := dk_188_10 (dk_at dksX3_init_3 11 rfl rfl)
theorem dX3_init_84 : decode cX3_init 84 = .ok (.putfield 37, 3) := dk_181 0 37 (dk_at dksX3_init_3 13 rfl rfl)
theorem dX3_init_87 : decode cX3_init 87 = .ok (.aload_n 0, 1) := dk_42 (dk_at dksX3_init_3 16 rfl rfl)
theorem dX3_init_88 : decode cX3_init 88 = .ok (.iconst 4, 1) := dk_7 (dk_at dksX3_init_3 17 rfl rfl)
theorem dX3_init_89 : decode cX3_init 89 = .ok (.newarray .int, 2) := dk_188_10 (dk_at dksX3_init_3 18 rfl rfl)
theorem dX3_init_91 : decode cX3_init 91 = .ok (.putfield 40, 3) := dk_181 0 40 (dk_at dksX3_init_3 20 rfl rfl)
theorem dX3_init_94 : decode cX3_init 94 = .ok (.aload_n 0, 1) := dk_42 (dk_at dksX3_init_3 23 rfl rfl)
theorem dX3_init_95 : decode cX3_init 95 = .ok (.iconst 4, 1) := dk_7 (dk_at dksX3_init_4 0 rfl rfl)
theorem dX3_init_96 : decode cX3_init 96 = .ok (.newarray .int, 2) := dk_188_10 (dk_at dksX3_init_4 1 rfl rfl)
theorem dX3_init_98 : decode cX3_init 98 = .ok (.putfield 43, 3) := dk_181 0 43 (dk_at dksX3_init_4 3 rfl rfl)
theorem dX3_init_101 : decode cX3_init 101 = .ok (.aload_n 0, 1) := dk_42 (dk_at dksX3_init_4 6 rfl rfl)
theorem dX3_init_102 : decode cX3_init 102 = .ok (.sipush 160, 3) := dk_17 0 160 (dk_at dksX3_init_4 7 rfl rfl)
theorem dX3_init_105 : decode cX3_init 105 = .ok (.newarray .long, 2) := dk_188_11 (dk_at dksX3_init_4 10 rfl rfl)
theorem dX3_init_107 : decode cX3_init 107 = .ok (.putfield 46, 3) := dk_181 0 46 (dk_at dksX3_init_4 12 rfl rfl)
theorem dX3_init_110 : decode cX3_init 110 = .ok (.aload_n 0, 1) := dk_42 (dk_at dksX3_init_4 15 rfl rfl)
theorem dX3_init_111 : decode cX3_init 111 = .ok (.bipush 40, 2) := dk_16 40 (dk_at dksX3_init_4 16 rfl rfl)
theorem dX3_init_113 : decode cX3_init 113 = .ok (.newarray .long, 2) := dk_188_11 (dk_at dksX3_init_4 18 rfl rfl)
theorem dX3_init_115 : decode cX3_init 115 = .ok (.putfield 50, 3) := dk_181 0 50 (dk_at dksX3_init_4 20 rfl rfl)
theorem dX3_init_118 : decode cX3_init 118 = .ok (.aload_n 0, 1) := dk_42 (dk_at dksX3_init_4 23 rfl rfl)
theorem dX3_init_119 : decode cX3_init 119 = .ok (.getfield 7, 3) := dk_180 0 7 (dk_at dksX3_init_5 0 rfl rfl)
theorem dX3_init_122 : decode cX3_init 122 = .ok (.iconst 2, 1) := dk_5 (dk_at dksX3_init_5 3 rfl rfl)
theorem dX3_init_123 : decode cX3_init 123 = .ok (.bipush 10, 2) := dk_16 10 (dk_at dksX3_init_5 4 rfl rfl)
theorem dX3_init_125 : decode cX3_init 125 = .ok (.iastore, 1) := dk_79 (dk_at dksX3_init_5 6 rfl rfl)
theorem dX3_init_126 : decode cX3_init 126 = .ok (.aload_n 0, 1) := dk_42 (dk_at dksX3_init_5 7 rfl rfl)
theorem dX3_init_127 : decode cX3_init 127 = .ok (.getfield 7, 3) := dk_180 0 7 (dk_at dksX3_init_5 8 rfl rfl)
theorem dX3_init_130 : decode cX3_init 130 = .ok (.bipush 6, 2) := dk_16 6 (dk_at dksX3_init_5 11 rfl rfl)
theorem dX3_init_132 : decode cX3_init 132 = .ok (.iconst 5, 1) := dk_8 (dk_at dksX3_init_5 13 rfl rfl)
theorem dX3_init_133 : decode cX3_init 133 = .ok (.iastore, 1) := dk_79 (dk_at dksX3_init_5 14 rfl rfl)
theorem dX3_init_134 : decode cX3_init 134 = .ok (.aload_n 0, 1) := dk_42 (dk_at dksX3_init_5 15 rfl rfl)
theorem dX3_init_135 : decode cX3_init 135 = .ok (.getfield 7, 3) := dk_180 0 7 (dk_at dksX3_init_5 16 rfl rfl)
theorem dX3_init_138 : decode cX3_init 138 = .ok (.bipush 8, 2) := dk_16 8 (dk_at dksX3_init_5 19 rfl rfl)
theorem dX3_init_140 : decode cX3_init 140 = .ok (.iconst 1, 1) := dk_4 (dk_at dksX3_init_5 21 rfl rfl)
theorem dX3_init_141 : decode cX3_init 141 = .ok (.iastore, 1) := dk_79 (dk_at dksX3_init_5 22 rfl rfl)
theorem dX3_init_142 : decode cX3_init 142 = .ok (.return_, 1) := dk_177 (dk_at dksX3_init_5 23 rfl rfl)
abbrev cX3_room : ByteArray := prog_16_method_8_code
def yX3_room : MethodName := ⟨RX3, "room", "()I"⟩
def dkwX3_room_1 : List UInt8 := [172]
abbrev dktX3_room_1 : List UInt8 := dkwX3_room_1 ++ []
def dkwX3_room_0 : List UInt8 := [42, 180, 0, 7, 3, 46, 16, 6, 160, 0, 12, 42, 18, 58, 182, 0, 59, 167, 0, 7, 42, 182, 0, 63]
abbrev dktX3_room_0 : List UInt8 := dkwX3_room_0 ++ dktX3_room_1
theorem dksX3_room_0 : cX3_room.data.toList.drop 0 = dktX3_room_0 := by decide +kernel
theorem dksX3_room_1 : cX3_room.data.toList.drop 24 = dktX3_room_1 := dk_seg dksX3_room_0 24 rfl rfl
theorem dX3_room_0 : decode cX3_room 0 = .ok (.aload_n 0, 1) := dk_42 (dk_at dksX3_room_0 0 rfl rfl)
theorem dX3_room_1 : decode cX3_room 1 = .ok (.getfield 7, 3) := dk_180 0 7 (dk_at dksX3_room_0 1 rfl rfl)
theorem dX3_room_4 : decode cX3_room 4 = .ok (.iconst 0, 1) := dk_3 (dk_at dksX3_room_0 4 rfl rfl)
theorem dX3_room_5 : decode cX3_room 5 = .ok (.iaload, 1) := dk_46 (dk_at dksX3_room_0 5 rfl rfl)
theorem dX3_room_6 : decode cX3_room 6 = .ok (.bipush 6, 2) := dk_16 6 (dk_at dksX3_room_0 6 rfl rfl)
theorem dX3_room_8 : decode cX3_room 8 = .ok (.if_icmp .ne 12, 3) := dk_160 0 12 (dk_at dksX3_room_0 8 rfl rfl)
theorem dX3_room_11 : decode cX3_room 11 = .ok (.aload_n 0, 1) := dk_42 (dk_at dksX3_room_0 11 rfl rfl)
theorem dX3_room_12 : decode cX3_room 12 = .ok (.ldc 58, 2) := dk_18 58 (dk_at dksX3_room_0 12 rfl rfl)
theorem dX3_room_14 : decode cX3_room 14 = .ok (.invokevirtual 59, 3) := dk_182 0 59 (dk_at dksX3_room_0 14 rfl rfl)
theorem dX3_room_17 : decode cX3_room 17 = .ok (.goto 7, 3) := dk_167 0 7 (dk_at dksX3_room_0 17 rfl rfl)
theorem dX3_room_20 : decode cX3_room 20 = .ok (.aload_n 0, 1) := dk_42 (dk_at dksX3_room_0 20 rfl rfl)
theorem dX3_room_21 : decode cX3_room 21 = .ok (.invokevirtual 63, 3) := dk_182 0 63 (dk_at dksX3_room_0 21 rfl rfl)
theorem dX3_room_24 : decode cX3_room 24 = .ok (.ireturn, 1) := dk_172 (dk_at dksX3_room_1 0 rfl rfl)
abbrev cX3_finds : ByteArray := prog_16_method_3_code
def yX3_finds : MethodName := ⟨RX3, "finds", "(I)I"⟩
def dkwX3_finds_0 : List UInt8 := [42, 180, 0, 19, 18, 53, 27, 100, 92, 46, 4, 96, 79, 27, 172]
abbrev dktX3_finds_0 : List UInt8 := dkwX3_finds_0 ++ []
theorem dksX3_finds_0 : cX3_finds.data.toList.drop 0 = dktX3_finds_0 := by decide +kernel
theorem dX3_finds_0 : decode cX3_finds 0 = .ok (.aload_n 0, 1) := dk_42 (dk_at dksX3_finds_0 0 rfl rfl)
theorem dX3_finds_1 : decode cX3_finds 1 = .ok (.getfield 19, 3) := dk_180 0 19 (dk_at dksX3_finds_0 1 rfl rfl)
theorem dX3_finds_4 : decode cX3_finds 4 = .ok (.ldc 53, 2) := dk_18 53 (dk_at dksX3_finds_0 4 rfl rfl)
theorem dX3_finds_6 : decode cX3_finds 6 = .ok (.iload_n 1, 1) := dk_27 (dk_at dksX3_finds_0 6 rfl rfl)
theorem dX3_finds_7 : decode cX3_finds 7 = .ok (.isub, 1) := dk_100 (dk_at dksX3_finds_0 7 rfl rfl)
theorem dX3_finds_8 : decode cX3_finds 8 = .ok (.dup2, 1) := dk_92 (dk_at dksX3_finds_0 8 rfl rfl)
theorem dX3_finds_9 : decode cX3_finds 9 = .ok (.iaload, 1) := dk_46 (dk_at dksX3_finds_0 9 rfl rfl)
theorem dX3_finds_10 : decode cX3_finds 10 = .ok (.iconst 1, 1) := dk_4 (dk_at dksX3_finds_0 10 rfl rfl)
theorem dX3_finds_11 : decode cX3_finds 11 = .ok (.iadd, 1) := dk_96 (dk_at dksX3_finds_0 11 rfl rfl)
theorem dX3_finds_12 : decode cX3_finds 12 = .ok (.iastore, 1) := dk_79 (dk_at dksX3_finds_0 12 rfl rfl)
theorem dX3_finds_13 : decode cX3_finds 13 = .ok (.iload_n 1, 1) := dk_27 (dk_at dksX3_finds_0 13 rfl rfl)
theorem dX3_finds_14 : decode cX3_finds 14 = .ok (.ireturn, 1) := dk_172 (dk_at dksX3_finds_0 14 rfl rfl)
abbrev cX3_newRoom : ByteArray := prog_16_method_7_code
def yX3_newRoom : MethodName := ⟨RX3, "newRoom", "()I"⟩
def dkwX3_newRoom_0 : List UInt8 := [42, 180, 0, 7, 3, 92, 46, 4, 96, 79, 42, 180, 0, 7, 3, 46, 4, 100, 172]
abbrev dktX3_newRoom_0 : List UInt8 := dkwX3_newRoom_0 ++ []
theorem dksX3_newRoom_0 : cX3_newRoom.data.toList.drop 0 = dktX3_newRoom_0 := by decide +kernel
theorem dX3_newRoom_0 : decode cX3_newRoom 0 = .ok (.aload_n 0, 1) := dk_42 (dk_at dksX3_newRoom_0 0 rfl rfl)
theorem dX3_newRoom_1 : decode cX3_newRoom 1 = .ok (.getfield 7, 3) := dk_180 0 7 (dk_at dksX3_newRoom_0 1 rfl rfl)
theorem dX3_newRoom_4 : decode cX3_newRoom 4 = .ok (.iconst 0, 1) := dk_3 (dk_at dksX3_newRoom_0 4 rfl rfl)
theorem dX3_newRoom_5 : decode cX3_newRoom 5 = .ok (.dup2, 1) := dk_92 (dk_at dksX3_newRoom_0 5 rfl rfl)
theorem dX3_newRoom_6 : decode cX3_newRoom 6 = .ok (.iaload, 1) := dk_46 (dk_at dksX3_newRoom_0 6 rfl rfl)
theorem dX3_newRoom_7 : decode cX3_newRoom 7 = .ok (.iconst 1, 1) := dk_4 (dk_at dksX3_newRoom_0 7 rfl rfl)
theorem dX3_newRoom_8 : decode cX3_newRoom 8 = .ok (.iadd, 1) := dk_96 (dk_at dksX3_newRoom_0 8 rfl rfl)
theorem dX3_newRoom_9 : decode cX3_newRoom 9 = .ok (.iastore, 1) := dk_79 (dk_at dksX3_newRoom_0 9 rfl rfl)
theorem dX3_newRoom_10 : decode cX3_newRoom 10 = .ok (.aload_n 0, 1) := dk_42 (dk_at dksX3_newRoom_0 10 rfl rfl)
theorem dX3_newRoom_11 : decode cX3_newRoom 11 = .ok (.getfield 7, 3) := dk_180 0 7 (dk_at dksX3_newRoom_0 11 rfl rfl)
theorem dX3_newRoom_14 : decode cX3_newRoom 14 = .ok (.iconst 0, 1) := dk_3 (dk_at dksX3_newRoom_0 14 rfl rfl)
theorem dX3_newRoom_15 : decode cX3_newRoom 15 = .ok (.iaload, 1) := dk_46 (dk_at dksX3_newRoom_0 15 rfl rfl)
theorem dX3_newRoom_16 : decode cX3_newRoom 16 = .ok (.iconst 1, 1) := dk_4 (dk_at dksX3_newRoom_0 16 rfl rfl)
theorem dX3_newRoom_17 : decode cX3_newRoom 17 = .ok (.isub, 1) := dk_100 (dk_at dksX3_newRoom_0 17 rfl rfl)
theorem dX3_newRoom_18 : decode cX3_newRoom 18 = .ok (.ireturn, 1) := dk_172 (dk_at dksX3_newRoom_0 18 rfl rfl)
abbrev cX3_gap : ByteArray := prog_16_method_10_code
def yX3_gap : MethodName := ⟨RX3, "gap", "(IIII)I"⟩
def dkwX3_gap_5 : List UInt8 := [21, 4, 16, 100, 112, 182, 0, 75, 172]
abbrev dktX3_gap_5 : List UInt8 := dkwX3_gap_5 ++ []
def dkwX3_gap_4 : List UInt8 := [21, 4, 17, 39, 16, 108, 21, 4, 17, 3, 232, 108, 16, 10, 112, 21, 4, 16, 100, 108, 16, 10, 112]
abbrev dktX3_gap_4 : List UInt8 := dkwX3_gap_4 ++ dktX3_gap_5
def dkwX3_gap_3 : List UInt8 := [172, 42, 180, 0, 7, 4, 46, 16, 20, 160, 0, 10, 42, 18, 58, 182, 0, 59, 172, 42, 27, 28, 29]
abbrev dktX3_gap_3 : List UInt8 := dkwX3_gap_3 ++ dktX3_gap_4
def dkwX3_gap_2 : List UInt8 := [184, 0, 54, 153, 0, 15, 21, 4, 16, 100, 108, 16, 10, 112, 6, 164, 0, 10, 42, 18, 53, 182, 0, 59]
abbrev dktX3_gap_2 : List UInt8 := dkwX3_gap_2 ++ dktX3_gap_3
def dkwX3_gap_1 : List UInt8 := [159, 0, 11, 42, 29, 182, 0, 69, 153, 0, 33, 29, 28, 159, 0, 28, 21, 4, 133, 9, 20, 0, 73]
abbrev dktX3_gap_1 : List UInt8 := dkwX3_gap_1 ++ dktX3_gap_2
def dkwX3_gap_0 : List UInt8 := [27, 133, 9, 20, 0, 67, 184, 0, 54, 153, 0, 54, 42, 28, 182, 0, 69, 153, 0, 46, 29, 2]
abbrev dktX3_gap_0 : List UInt8 := dkwX3_gap_0 ++ dktX3_gap_1
theorem dksX3_gap_0 : cX3_gap.data.toList.drop 0 = dktX3_gap_0 := by decide +kernel
theorem dksX3_gap_1 : cX3_gap.data.toList.drop 22 = dktX3_gap_1 := dk_seg dksX3_gap_0 22 rfl rfl
theorem dksX3_gap_2 : cX3_gap.data.toList.drop 45 = dktX3_gap_2 := dk_seg dksX3_gap_1 23 rfl rfl
theorem dksX3_gap_3 : cX3_gap.data.toList.drop 69 = dktX3_gap_3 := dk_seg dksX3_gap_2 24 rfl rfl
theorem dksX3_gap_4 : cX3_gap.data.toList.drop 92 = dktX3_gap_4 := dk_seg dksX3_gap_3 23 rfl rfl
theorem dksX3_gap_5 : cX3_gap.data.toList.drop 115 = dktX3_gap_5 := dk_seg dksX3_gap_4 23 rfl rfl
theorem dX3_gap_0 : decode cX3_gap 0 = .ok (.iload_n 1, 1) := dk_27 (dk_at dksX3_gap_0 0 rfl rfl)
theorem dX3_gap_1 : decode cX3_gap 1 = .ok (.i2l, 1) := dk_133 (dk_at dksX3_gap_0 1 rfl rfl)
theorem dX3_gap_2 : decode cX3_gap 2 = .ok (.lconst 0, 1) := dk_9 (dk_at dksX3_gap_0 2 rfl rfl)
theorem dX3_gap_3 : decode cX3_gap 3 = .ok (.ldc2_w 67, 3) := dk_20 0 67 (dk_at dksX3_gap_0 3 rfl rfl)
theorem dX3_gap_6 : decode cX3_gap 6 = .ok (.invokestatic 54, 3) := dk_184 0 54 (dk_at dksX3_gap_0 6 rfl rfl)
theorem dX3_gap_9 : decode cX3_gap 9 = .ok (.ifCond .eq 54, 3) := dk_153 0 54 (dk_at dksX3_gap_0 9 rfl rfl)
theorem dX3_gap_12 : decode cX3_gap 12 = .ok (.aload_n 0, 1) := dk_42 (dk_at dksX3_gap_0 12 rfl rfl)
theorem dX3_gap_13 : decode cX3_gap 13 = .ok (.iload_n 2, 1) := dk_28 (dk_at dksX3_gap_0 13 rfl rfl)
theorem dX3_gap_14 : decode cX3_gap 14 = .ok (.invokevirtual 69, 3) := dk_182 0 69 (dk_at dksX3_gap_0 14 rfl rfl)
theorem dX3_gap_17 : decode cX3_gap 17 = .ok (.ifCond .eq 46, 3) := dk_153 0 46 (dk_at dksX3_gap_0 17 rfl rfl)
theorem dX3_gap_20 : decode cX3_gap 20 = .ok (.iload_n 3, 1) := dk_29 (dk_at dksX3_gap_0 20 rfl rfl)
theorem dX3_gap_21 : decode cX3_gap 21 = .ok (.iconst (-1), 1) := dk_2 (dk_at dksX3_gap_0 21 rfl rfl)
theorem dX3_gap_22 : decode cX3_gap 22 = .ok (.if_icmp .eq 11, 3) := dk_159 0 11 (dk_at dksX3_gap_1 0 rfl rfl)
theorem dX3_gap_25 : decode cX3_gap 25 = .ok (.aload_n 0, 1) := dk_42 (dk_at dksX3_gap_1 3 rfl rfl)
theorem dX3_gap_26 : decode cX3_gap 26 = .ok (.iload_n 3, 1) := dk_29 (dk_at dksX3_gap_1 4 rfl rfl)
theorem dX3_gap_27 : decode cX3_gap 27 = .ok (.invokevirtual 69, 3) := dk_182 0 69 (dk_at dksX3_gap_1 5 rfl rfl)
theorem dX3_gap_30 : decode cX3_gap 30 = .ok (.ifCond .eq 33, 3) := dk_153 0 33 (dk_at dksX3_gap_1 8 rfl rfl)
theorem dX3_gap_33 : decode cX3_gap 33 = .ok (.iload_n 3, 1) := dk_29 (dk_at dksX3_gap_1 11 rfl rfl)
theorem dX3_gap_34 : decode cX3_gap 34 = .ok (.iload_n 2, 1) := dk_28 (dk_at dksX3_gap_1 12 rfl rfl)
theorem dX3_gap_35 : decode cX3_gap 35 = .ok (.if_icmp .eq 28, 3) := dk_159 0 28 (dk_at dksX3_gap_1 13 rfl rfl)
theorem dX3_gap_38 : decode cX3_gap 38 = .ok (.iload 4, 2) := dk_21 4 (dk_at dksX3_gap_1 16 rfl rfl)
theorem dX3_gap_40 : decode cX3_gap 40 = .ok (.i2l, 1) := dk_133 (dk_at dksX3_gap_1 18 rfl rfl)
theorem dX3_gap_41 : decode cX3_gap 41 = .ok (.lconst 0, 1) := dk_9 (dk_at dksX3_gap_1 19 rfl rfl)
theorem dX3_gap_42 : decode cX3_gap 42 = .ok (.ldc2_w 73, 3) := dk_20 0 73 (dk_at dksX3_gap_1 20 rfl rfl)
theorem dX3_gap_45 : decode cX3_gap 45 = .ok (.invokestatic 54, 3) := dk_184 0 54 (dk_at dksX3_gap_2 0 rfl rfl)
theorem dX3_gap_48 : decode cX3_gap 48 = .ok (.ifCond .eq 15, 3) := dk_153 0 15 (dk_at dksX3_gap_2 3 rfl rfl)
theorem dX3_gap_51 : decode cX3_gap 51 = .ok (.iload 4, 2) := dk_21 4 (dk_at dksX3_gap_2 6 rfl rfl)
theorem dX3_gap_53 : decode cX3_gap 53 = .ok (.bipush 100, 2) := dk_16 100 (dk_at dksX3_gap_2 8 rfl rfl)
theorem dX3_gap_55 : decode cX3_gap 55 = .ok (.idiv, 1) := dk_108 (dk_at dksX3_gap_2 10 rfl rfl)
theorem dX3_gap_56 : decode cX3_gap 56 = .ok (.bipush 10, 2) := dk_16 10 (dk_at dksX3_gap_2 11 rfl rfl)
theorem dX3_gap_58 : decode cX3_gap 58 = .ok (.irem, 1) := dk_112 (dk_at dksX3_gap_2 13 rfl rfl)
theorem dX3_gap_59 : decode cX3_gap 59 = .ok (.iconst 3, 1) := dk_6 (dk_at dksX3_gap_2 14 rfl rfl)
theorem dX3_gap_60 : decode cX3_gap 60 = .ok (.if_icmp .le 10, 3) := dk_164 0 10 (dk_at dksX3_gap_2 15 rfl rfl)
theorem dX3_gap_63 : decode cX3_gap 63 = .ok (.aload_n 0, 1) := dk_42 (dk_at dksX3_gap_2 18 rfl rfl)
theorem dX3_gap_64 : decode cX3_gap 64 = .ok (.ldc 53, 2) := dk_18 53 (dk_at dksX3_gap_2 19 rfl rfl)
theorem dX3_gap_66 : decode cX3_gap 66 = .ok (.invokevirtual 59, 3) := dk_182 0 59 (dk_at dksX3_gap_2 21 rfl rfl)
theorem dX3_gap_69 : decode cX3_gap 69 = .ok (.ireturn, 1) := dk_172 (dk_at dksX3_gap_3 0 rfl rfl)
theorem dX3_gap_70 : decode cX3_gap 70 = .ok (.aload_n 0, 1) := dk_42 (dk_at dksX3_gap_3 1 rfl rfl)
theorem dX3_gap_71 : decode cX3_gap 71 = .ok (.getfield 7, 3) := dk_180 0 7 (dk_at dksX3_gap_3 2 rfl rfl)
theorem dX3_gap_74 : decode cX3_gap 74 = .ok (.iconst 1, 1) := dk_4 (dk_at dksX3_gap_3 5 rfl rfl)
theorem dX3_gap_75 : decode cX3_gap 75 = .ok (.iaload, 1) := dk_46 (dk_at dksX3_gap_3 6 rfl rfl)
theorem dX3_gap_76 : decode cX3_gap 76 = .ok (.bipush 20, 2) := dk_16 20 (dk_at dksX3_gap_3 7 rfl rfl)
theorem dX3_gap_78 : decode cX3_gap 78 = .ok (.if_icmp .ne 10, 3) := dk_160 0 10 (dk_at dksX3_gap_3 9 rfl rfl)
theorem dX3_gap_81 : decode cX3_gap 81 = .ok (.aload_n 0, 1) := dk_42 (dk_at dksX3_gap_3 12 rfl rfl)
theorem dX3_gap_82 : decode cX3_gap 82 = .ok (.ldc 58, 2) := dk_18 58 (dk_at dksX3_gap_3 13 rfl rfl)
theorem dX3_gap_84 : decode cX3_gap 84 = .ok (.invokevirtual 59, 3) := dk_182 0 59 (dk_at dksX3_gap_3 15 rfl rfl)
theorem dX3_gap_87 : decode cX3_gap 87 = .ok (.ireturn, 1) := dk_172 (dk_at dksX3_gap_3 18 rfl rfl)
theorem dX3_gap_88 : decode cX3_gap 88 = .ok (.aload_n 0, 1) := dk_42 (dk_at dksX3_gap_3 19 rfl rfl)
theorem dX3_gap_89 : decode cX3_gap 89 = .ok (.iload_n 1, 1) := dk_27 (dk_at dksX3_gap_3 20 rfl rfl)
theorem dX3_gap_90 : decode cX3_gap 90 = .ok (.iload_n 2, 1) := dk_28 (dk_at dksX3_gap_3 21 rfl rfl)
theorem dX3_gap_91 : decode cX3_gap 91 = .ok (.iload_n 3, 1) := dk_29 (dk_at dksX3_gap_3 22 rfl rfl)
theorem dX3_gap_92 : decode cX3_gap 92 = .ok (.iload 4, 2) := dk_21 4 (dk_at dksX3_gap_4 0 rfl rfl)
theorem dX3_gap_94 : decode cX3_gap 94 = .ok (.sipush 10000, 3) := dk_17 39 16 (dk_at dksX3_gap_4 2 rfl rfl)
theorem dX3_gap_97 : decode cX3_gap 97 = .ok (.idiv, 1) := dk_108 (dk_at dksX3_gap_4 5 rfl rfl)
theorem dX3_gap_98 : decode cX3_gap 98 = .ok (.iload 4, 2) := dk_21 4 (dk_at dksX3_gap_4 6 rfl rfl)
theorem dX3_gap_100 : decode cX3_gap 100 = .ok (.sipush 1000, 3) := dk_17 3 232 (dk_at dksX3_gap_4 8 rfl rfl)
theorem dX3_gap_103 : decode cX3_gap 103 = .ok (.idiv, 1) := dk_108 (dk_at dksX3_gap_4 11 rfl rfl)
theorem dX3_gap_104 : decode cX3_gap 104 = .ok (.bipush 10, 2) := dk_16 10 (dk_at dksX3_gap_4 12 rfl rfl)
theorem dX3_gap_106 : decode cX3_gap 106 = .ok (.irem, 1) := dk_112 (dk_at dksX3_gap_4 14 rfl rfl)
theorem dX3_gap_107 : decode cX3_gap 107 = .ok (.iload 4, 2) := dk_21 4 (dk_at dksX3_gap_4 15 rfl rfl)
theorem dX3_gap_109 : decode cX3_gap 109 = .ok (.bipush 100, 2) := dk_16 100 (dk_at dksX3_gap_4 17 rfl rfl)
theorem dX3_gap_111 : decode cX3_gap 111 = .ok (.idiv, 1) := dk_108 (dk_at dksX3_gap_4 19 rfl rfl)
theorem dX3_gap_112 : decode cX3_gap 112 = .ok (.bipush 10, 2) := dk_16 10 (dk_at dksX3_gap_4 20 rfl rfl)
theorem dX3_gap_114 : decode cX3_gap 114 = .ok (.irem, 1) := dk_112 (dk_at dksX3_gap_4 22 rfl rfl)
theorem dX3_gap_115 : decode cX3_gap 115 = .ok (.iload 4, 2) := dk_21 4 (dk_at dksX3_gap_5 0 rfl rfl)
theorem dX3_gap_117 : decode cX3_gap 117 = .ok (.bipush 100, 2) := dk_16 100 (dk_at dksX3_gap_5 2 rfl rfl)
theorem dX3_gap_119 : decode cX3_gap 119 = .ok (.irem, 1) := dk_112 (dk_at dksX3_gap_5 4 rfl rfl)
theorem dX3_gap_120 : decode cX3_gap 120 = .ok (.invokevirtual 75, 3) := dk_182 0 75 (dk_at dksX3_gap_5 5 rfl rfl)
theorem dX3_gap_123 : decode cX3_gap 123 = .ok (.ireturn, 1) := dk_172 (dk_at dksX3_gap_5 8 rfl rfl)
abbrev cX3_in : ByteArray := prog_16_method_2_code
def yX3_in : MethodName := ⟨RX3, "in", "(JJJ)Z"⟩
def dkwX3_in_0 : List UInt8 := [30, 32, 148, 155, 0, 14, 30, 22, 4, 148, 157, 0, 7, 4, 167, 0, 4, 3, 172]
abbrev dktX3_in_0 : List UInt8 := dkwX3_in_0 ++ []
theorem dksX3_in_0 : cX3_in.data.toList.drop 0 = dktX3_in_0 := by decide +kernel
theorem dX3_in_0 : decode cX3_in 0 = .ok (.lload_n 0, 1) := dk_30 (dk_at dksX3_in_0 0 rfl rfl)
theorem dX3_in_1 : decode cX3_in 1 = .ok (.lload_n 2, 1) := dk_32 (dk_at dksX3_in_0 1 rfl rfl)
theorem dX3_in_2 : decode cX3_in 2 = .ok (.lcmp, 1) := dk_148 (dk_at dksX3_in_0 2 rfl rfl)
theorem dX3_in_3 : decode cX3_in 3 = .ok (.ifCond .lt 14, 3) := dk_155 0 14 (dk_at dksX3_in_0 3 rfl rfl)
theorem dX3_in_6 : decode cX3_in 6 = .ok (.lload_n 0, 1) := dk_30 (dk_at dksX3_in_0 6 rfl rfl)
theorem dX3_in_7 : decode cX3_in 7 = .ok (.lload 4, 2) := dk_22 4 (dk_at dksX3_in_0 7 rfl rfl)
theorem dX3_in_9 : decode cX3_in 9 = .ok (.lcmp, 1) := dk_148 (dk_at dksX3_in_0 9 rfl rfl)
theorem dX3_in_10 : decode cX3_in 10 = .ok (.ifCond .gt 7, 3) := dk_157 0 7 (dk_at dksX3_in_0 10 rfl rfl)
theorem dX3_in_13 : decode cX3_in 13 = .ok (.iconst 1, 1) := dk_4 (dk_at dksX3_in_0 13 rfl rfl)
theorem dX3_in_14 : decode cX3_in 14 = .ok (.goto 4, 3) := dk_167 0 4 (dk_at dksX3_in_0 14 rfl rfl)
theorem dX3_in_17 : decode cX3_in 17 = .ok (.iconst 0, 1) := dk_3 (dk_at dksX3_in_0 17 rfl rfl)
theorem dX3_in_18 : decode cX3_in 18 = .ok (.ireturn, 1) := dk_172 (dk_at dksX3_in_0 18 rfl rfl)
abbrev cX3_isRoom : ByteArray := prog_16_method_6_code
def yX3_isRoom : MethodName := ⟨RX3, "isRoom", "(I)Z"⟩
def dkwX3_isRoom_0 : List UInt8 := [27, 133, 9, 42, 180, 0, 7, 3, 46, 4, 100, 133, 184, 0, 54, 172]
abbrev dktX3_isRoom_0 : List UInt8 := dkwX3_isRoom_0 ++ []
theorem dksX3_isRoom_0 : cX3_isRoom.data.toList.drop 0 = dktX3_isRoom_0 := by decide +kernel
theorem dX3_isRoom_0 : decode cX3_isRoom 0 = .ok (.iload_n 1, 1) := dk_27 (dk_at dksX3_isRoom_0 0 rfl rfl)
theorem dX3_isRoom_1 : decode cX3_isRoom 1 = .ok (.i2l, 1) := dk_133 (dk_at dksX3_isRoom_0 1 rfl rfl)
theorem dX3_isRoom_2 : decode cX3_isRoom 2 = .ok (.lconst 0, 1) := dk_9 (dk_at dksX3_isRoom_0 2 rfl rfl)
theorem dX3_isRoom_3 : decode cX3_isRoom 3 = .ok (.aload_n 0, 1) := dk_42 (dk_at dksX3_isRoom_0 3 rfl rfl)
theorem dX3_isRoom_4 : decode cX3_isRoom 4 = .ok (.getfield 7, 3) := dk_180 0 7 (dk_at dksX3_isRoom_0 4 rfl rfl)
theorem dX3_isRoom_7 : decode cX3_isRoom 7 = .ok (.iconst 0, 1) := dk_3 (dk_at dksX3_isRoom_0 7 rfl rfl)
theorem dX3_isRoom_8 : decode cX3_isRoom 8 = .ok (.iaload, 1) := dk_46 (dk_at dksX3_isRoom_0 8 rfl rfl)
theorem dX3_isRoom_9 : decode cX3_isRoom 9 = .ok (.iconst 1, 1) := dk_4 (dk_at dksX3_isRoom_0 9 rfl rfl)
theorem dX3_isRoom_10 : decode cX3_isRoom 10 = .ok (.isub, 1) := dk_100 (dk_at dksX3_isRoom_0 10 rfl rfl)
theorem dX3_isRoom_11 : decode cX3_isRoom 11 = .ok (.i2l, 1) := dk_133 (dk_at dksX3_isRoom_0 11 rfl rfl)
theorem dX3_isRoom_12 : decode cX3_isRoom 12 = .ok (.invokestatic 54, 3) := dk_184 0 54 (dk_at dksX3_isRoom_0 12 rfl rfl)
theorem dX3_isRoom_15 : decode cX3_isRoom 15 = .ok (.ireturn, 1) := dk_172 (dk_at dksX3_isRoom_0 15 rfl rfl)
abbrev cX3_newGap : ByteArray := prog_16_method_9_code
def yX3_newGap : MethodName := ⟨RX3, "newGap", "(IIIIIII)I"⟩
def dkwX3_newGap_4 : List UInt8 := [16, 7, 96, 3, 79, 42, 180, 0, 7, 4, 92, 46, 4, 96, 79, 42, 180, 0, 7, 4, 46, 4, 100, 172]
abbrev dktX3_newGap_4 : List UInt8 := dkwX3_newGap_4 ++ []
def dkwX3_newGap_3 : List UInt8 := [8, 96, 21, 6, 79, 42, 180, 0, 7, 21, 8, 16, 6, 96, 21, 7, 79, 42, 180, 0, 7, 21, 8]
abbrev dktX3_newGap_3 : List UInt8 := dkwX3_newGap_3 ++ dktX3_newGap_4
def dkwX3_newGap_2 : List UInt8 := [21, 8, 6, 96, 21, 4, 79, 42, 180, 0, 7, 21, 8, 7, 96, 21, 5, 79, 42, 180, 0, 7, 21, 8]
abbrev dktX3_newGap_2 : List UInt8 := dkwX3_newGap_2 ++ dktX3_newGap_3
def dkwX3_newGap_1 : List UInt8 := [42, 180, 0, 7, 21, 8, 4, 96, 28, 79, 42, 180, 0, 7, 21, 8, 5, 96, 29, 79, 42, 180, 0, 7]
abbrev dktX3_newGap_1 : List UInt8 := dkwX3_newGap_1 ++ dktX3_newGap_2
def dkwX3_newGap_0 : List UInt8 := [16, 9, 16, 8, 42, 180, 0, 7, 4, 46, 104, 96, 54, 8, 42, 180, 0, 7, 21, 8, 3, 96, 27, 79]
abbrev dktX3_newGap_0 : List UInt8 := dkwX3_newGap_0 ++ dktX3_newGap_1
theorem dksX3_newGap_0 : cX3_newGap.data.toList.drop 0 = dktX3_newGap_0 := by decide +kernel
theorem dksX3_newGap_1 : cX3_newGap.data.toList.drop 24 = dktX3_newGap_1 := dk_seg dksX3_newGap_0 24 rfl rfl
theorem dksX3_newGap_2 : cX3_newGap.data.toList.drop 48 = dktX3_newGap_2 := dk_seg dksX3_newGap_1 24 rfl rfl
theorem dksX3_newGap_3 : cX3_newGap.data.toList.drop 72 = dktX3_newGap_3 := dk_seg dksX3_newGap_2 24 rfl rfl
theorem dksX3_newGap_4 : cX3_newGap.data.toList.drop 95 = dktX3_newGap_4 := dk_seg dksX3_newGap_3 23 rfl rfl
theorem dX3_newGap_0 : decode cX3_newGap 0 = .ok (.bipush 9, 2) := dk_16 9 (dk_at dksX3_newGap_0 0 rfl rfl)
theorem dX3_newGap_2 : decode cX3_newGap 2 = .ok (.bipush 8, 2) := dk_16 8 (dk_at dksX3_newGap_0 2 rfl rfl)
theorem dX3_newGap_4 : decode cX3_newGap 4 = .ok (.aload_n 0, 1) := dk_42 (dk_at dksX3_newGap_0 4 rfl rfl)
theorem dX3_newGap_5 : decode cX3_newGap 5 = .ok (.getfield 7, 3) := dk_180 0 7 (dk_at dksX3_newGap_0 5 rfl rfl)
theorem dX3_newGap_8 : decode cX3_newGap 8 = .ok (.iconst 1, 1) := dk_4 (dk_at dksX3_newGap_0 8 rfl rfl)
theorem dX3_newGap_9 : decode cX3_newGap 9 = .ok (.iaload, 1) := dk_46 (dk_at dksX3_newGap_0 9 rfl rfl)
theorem dX3_newGap_10 : decode cX3_newGap 10 = .ok (.imul, 1) := dk_104 (dk_at dksX3_newGap_0 10 rfl rfl)
theorem dX3_newGap_11 : decode cX3_newGap 11 = .ok (.iadd, 1) := dk_96 (dk_at dksX3_newGap_0 11 rfl rfl)
theorem dX3_newGap_12 : decode cX3_newGap 12 = .ok (.istore 8, 2) := dk_54 8 (dk_at dksX3_newGap_0 12 rfl rfl)
theorem dX3_newGap_14 : decode cX3_newGap 14 = .ok (.aload_n 0, 1) := dk_42 (dk_at dksX3_newGap_0 14 rfl rfl)
theorem dX3_newGap_15 : decode cX3_newGap 15 = .ok (.getfield 7, 3) := dk_180 0 7 (dk_at dksX3_newGap_0 15 rfl rfl)
theorem dX3_newGap_18 : decode cX3_newGap 18 = .ok (.iload 8, 2) := dk_21 8 (dk_at dksX3_newGap_0 18 rfl rfl)
theorem dX3_newGap_20 : decode cX3_newGap 20 = .ok (.iconst 0, 1) := dk_3 (dk_at dksX3_newGap_0 20 rfl rfl)
theorem dX3_newGap_21 : decode cX3_newGap 21 = .ok (.iadd, 1) := dk_96 (dk_at dksX3_newGap_0 21 rfl rfl)
theorem dX3_newGap_22 : decode cX3_newGap 22 = .ok (.iload_n 1, 1) := dk_27 (dk_at dksX3_newGap_0 22 rfl rfl)
theorem dX3_newGap_23 : decode cX3_newGap 23 = .ok (.iastore, 1) := dk_79 (dk_at dksX3_newGap_0 23 rfl rfl)
theorem dX3_newGap_24 : decode cX3_newGap 24 = .ok (.aload_n 0, 1) := dk_42 (dk_at dksX3_newGap_1 0 rfl rfl)
theorem dX3_newGap_25 : decode cX3_newGap 25 = .ok (.getfield 7, 3) := dk_180 0 7 (dk_at dksX3_newGap_1 1 rfl rfl)
theorem dX3_newGap_28 : decode cX3_newGap 28 = .ok (.iload 8, 2) := dk_21 8 (dk_at dksX3_newGap_1 4 rfl rfl)
theorem dX3_newGap_30 : decode cX3_newGap 30 = .ok (.iconst 1, 1) := dk_4 (dk_at dksX3_newGap_1 6 rfl rfl)
theorem dX3_newGap_31 : decode cX3_newGap 31 = .ok (.iadd, 1) := dk_96 (dk_at dksX3_newGap_1 7 rfl rfl)
theorem dX3_newGap_32 : decode cX3_newGap 32 = .ok (.iload_n 2, 1) := dk_28 (dk_at dksX3_newGap_1 8 rfl rfl)
theorem dX3_newGap_33 : decode cX3_newGap 33 = .ok (.iastore, 1) := dk_79 (dk_at dksX3_newGap_1 9 rfl rfl)
theorem dX3_newGap_34 : decode cX3_newGap 34 = .ok (.aload_n 0, 1) := dk_42 (dk_at dksX3_newGap_1 10 rfl rfl)
theorem dX3_newGap_35 : decode cX3_newGap 35 = .ok (.getfield 7, 3) := dk_180 0 7 (dk_at dksX3_newGap_1 11 rfl rfl)
theorem dX3_newGap_38 : decode cX3_newGap 38 = .ok (.iload 8, 2) := dk_21 8 (dk_at dksX3_newGap_1 14 rfl rfl)
theorem dX3_newGap_40 : decode cX3_newGap 40 = .ok (.iconst 2, 1) := dk_5 (dk_at dksX3_newGap_1 16 rfl rfl)
theorem dX3_newGap_41 : decode cX3_newGap 41 = .ok (.iadd, 1) := dk_96 (dk_at dksX3_newGap_1 17 rfl rfl)
theorem dX3_newGap_42 : decode cX3_newGap 42 = .ok (.iload_n 3, 1) := dk_29 (dk_at dksX3_newGap_1 18 rfl rfl)
theorem dX3_newGap_43 : decode cX3_newGap 43 = .ok (.iastore, 1) := dk_79 (dk_at dksX3_newGap_1 19 rfl rfl)
theorem dX3_newGap_44 : decode cX3_newGap 44 = .ok (.aload_n 0, 1) := dk_42 (dk_at dksX3_newGap_1 20 rfl rfl)
theorem dX3_newGap_45 : decode cX3_newGap 45 = .ok (.getfield 7, 3) := dk_180 0 7 (dk_at dksX3_newGap_1 21 rfl rfl)
theorem dX3_newGap_48 : decode cX3_newGap 48 = .ok (.iload 8, 2) := dk_21 8 (dk_at dksX3_newGap_2 0 rfl rfl)
theorem dX3_newGap_50 : decode cX3_newGap 50 = .ok (.iconst 3, 1) := dk_6 (dk_at dksX3_newGap_2 2 rfl rfl)
theorem dX3_newGap_51 : decode cX3_newGap 51 = .ok (.iadd, 1) := dk_96 (dk_at dksX3_newGap_2 3 rfl rfl)
theorem dX3_newGap_52 : decode cX3_newGap 52 = .ok (.iload 4, 2) := dk_21 4 (dk_at dksX3_newGap_2 4 rfl rfl)
theorem dX3_newGap_54 : decode cX3_newGap 54 = .ok (.iastore, 1) := dk_79 (dk_at dksX3_newGap_2 6 rfl rfl)
theorem dX3_newGap_55 : decode cX3_newGap 55 = .ok (.aload_n 0, 1) := dk_42 (dk_at dksX3_newGap_2 7 rfl rfl)
theorem dX3_newGap_56 : decode cX3_newGap 56 = .ok (.getfield 7, 3) := dk_180 0 7 (dk_at dksX3_newGap_2 8 rfl rfl)
theorem dX3_newGap_59 : decode cX3_newGap 59 = .ok (.iload 8, 2) := dk_21 8 (dk_at dksX3_newGap_2 11 rfl rfl)
theorem dX3_newGap_61 : decode cX3_newGap 61 = .ok (.iconst 4, 1) := dk_7 (dk_at dksX3_newGap_2 13 rfl rfl)
theorem dX3_newGap_62 : decode cX3_newGap 62 = .ok (.iadd, 1) := dk_96 (dk_at dksX3_newGap_2 14 rfl rfl)
theorem dX3_newGap_63 : decode cX3_newGap 63 = .ok (.iload 5, 2) := dk_21 5 (dk_at dksX3_newGap_2 15 rfl rfl)
theorem dX3_newGap_65 : decode cX3_newGap 65 = .ok (.iastore, 1) := dk_79 (dk_at dksX3_newGap_2 17 rfl rfl)
theorem dX3_newGap_66 : decode cX3_newGap 66 = .ok (.aload_n 0, 1) := dk_42 (dk_at dksX3_newGap_2 18 rfl rfl)
theorem dX3_newGap_67 : decode cX3_newGap 67 = .ok (.getfield 7, 3) := dk_180 0 7 (dk_at dksX3_newGap_2 19 rfl rfl)
theorem dX3_newGap_70 : decode cX3_newGap 70 = .ok (.iload 8, 2) := dk_21 8 (dk_at dksX3_newGap_2 22 rfl rfl)
theorem dX3_newGap_72 : decode cX3_newGap 72 = .ok (.iconst 5, 1) := dk_8 (dk_at dksX3_newGap_3 0 rfl rfl)
theorem dX3_newGap_73 : decode cX3_newGap 73 = .ok (.iadd, 1) := dk_96 (dk_at dksX3_newGap_3 1 rfl rfl)
theorem dX3_newGap_74 : decode cX3_newGap 74 = .ok (.iload 6, 2) := dk_21 6 (dk_at dksX3_newGap_3 2 rfl rfl)
theorem dX3_newGap_76 : decode cX3_newGap 76 = .ok (.iastore, 1) := dk_79 (dk_at dksX3_newGap_3 4 rfl rfl)
theorem dX3_newGap_77 : decode cX3_newGap 77 = .ok (.aload_n 0, 1) := dk_42 (dk_at dksX3_newGap_3 5 rfl rfl)
theorem dX3_newGap_78 : decode cX3_newGap 78 = .ok (.getfield 7, 3) := dk_180 0 7 (dk_at dksX3_newGap_3 6 rfl rfl)
theorem dX3_newGap_81 : decode cX3_newGap 81 = .ok (.iload 8, 2) := dk_21 8 (dk_at dksX3_newGap_3 9 rfl rfl)
theorem dX3_newGap_83 : decode cX3_newGap 83 = .ok (.bipush 6, 2) := dk_16 6 (dk_at dksX3_newGap_3 11 rfl rfl)
theorem dX3_newGap_85 : decode cX3_newGap 85 = .ok (.iadd, 1) := dk_96 (dk_at dksX3_newGap_3 13 rfl rfl)
theorem dX3_newGap_86 : decode cX3_newGap 86 = .ok (.iload 7, 2) := dk_21 7 (dk_at dksX3_newGap_3 14 rfl rfl)
theorem dX3_newGap_88 : decode cX3_newGap 88 = .ok (.iastore, 1) := dk_79 (dk_at dksX3_newGap_3 16 rfl rfl)
theorem dX3_newGap_89 : decode cX3_newGap 89 = .ok (.aload_n 0, 1) := dk_42 (dk_at dksX3_newGap_3 17 rfl rfl)
theorem dX3_newGap_90 : decode cX3_newGap 90 = .ok (.getfield 7, 3) := dk_180 0 7 (dk_at dksX3_newGap_3 18 rfl rfl)
theorem dX3_newGap_93 : decode cX3_newGap 93 = .ok (.iload 8, 2) := dk_21 8 (dk_at dksX3_newGap_3 21 rfl rfl)
theorem dX3_newGap_95 : decode cX3_newGap 95 = .ok (.bipush 7, 2) := dk_16 7 (dk_at dksX3_newGap_4 0 rfl rfl)
theorem dX3_newGap_97 : decode cX3_newGap 97 = .ok (.iadd, 1) := dk_96 (dk_at dksX3_newGap_4 2 rfl rfl)
theorem dX3_newGap_98 : decode cX3_newGap 98 = .ok (.iconst 0, 1) := dk_3 (dk_at dksX3_newGap_4 3 rfl rfl)
theorem dX3_newGap_99 : decode cX3_newGap 99 = .ok (.iastore, 1) := dk_79 (dk_at dksX3_newGap_4 4 rfl rfl)
theorem dX3_newGap_100 : decode cX3_newGap 100 = .ok (.aload_n 0, 1) := dk_42 (dk_at dksX3_newGap_4 5 rfl rfl)
theorem dX3_newGap_101 : decode cX3_newGap 101 = .ok (.getfield 7, 3) := dk_180 0 7 (dk_at dksX3_newGap_4 6 rfl rfl)
theorem dX3_newGap_104 : decode cX3_newGap 104 = .ok (.iconst 1, 1) := dk_4 (dk_at dksX3_newGap_4 9 rfl rfl)
theorem dX3_newGap_105 : decode cX3_newGap 105 = .ok (.dup2, 1) := dk_92 (dk_at dksX3_newGap_4 10 rfl rfl)
theorem dX3_newGap_106 : decode cX3_newGap 106 = .ok (.iaload, 1) := dk_46 (dk_at dksX3_newGap_4 11 rfl rfl)
theorem dX3_newGap_107 : decode cX3_newGap 107 = .ok (.iconst 1, 1) := dk_4 (dk_at dksX3_newGap_4 12 rfl rfl)
theorem dX3_newGap_108 : decode cX3_newGap 108 = .ok (.iadd, 1) := dk_96 (dk_at dksX3_newGap_4 13 rfl rfl)
theorem dX3_newGap_109 : decode cX3_newGap 109 = .ok (.iastore, 1) := dk_79 (dk_at dksX3_newGap_4 14 rfl rfl)
theorem dX3_newGap_110 : decode cX3_newGap 110 = .ok (.aload_n 0, 1) := dk_42 (dk_at dksX3_newGap_4 15 rfl rfl)
theorem dX3_newGap_111 : decode cX3_newGap 111 = .ok (.getfield 7, 3) := dk_180 0 7 (dk_at dksX3_newGap_4 16 rfl rfl)
theorem dX3_newGap_114 : decode cX3_newGap 114 = .ok (.iconst 1, 1) := dk_4 (dk_at dksX3_newGap_4 19 rfl rfl)
theorem dX3_newGap_115 : decode cX3_newGap 115 = .ok (.iaload, 1) := dk_46 (dk_at dksX3_newGap_4 20 rfl rfl)
theorem dX3_newGap_116 : decode cX3_newGap 116 = .ok (.iconst 1, 1) := dk_4 (dk_at dksX3_newGap_4 21 rfl rfl)
theorem dX3_newGap_117 : decode cX3_newGap 117 = .ok (.isub, 1) := dk_100 (dk_at dksX3_newGap_4 22 rfl rfl)
theorem dX3_newGap_118 : decode cX3_newGap 118 = .ok (.ireturn, 1) := dk_172 (dk_at dksX3_newGap_4 23 rfl rfl)
abbrev cX3_of : ByteArray := prog_16_method_13_code
def yX3_of : MethodName := ⟨RX3, "of", "(II)I"⟩
def dkwX3_of_2 : List UInt8 := [160, 0, 11, 42, 27, 182, 0, 88, 167, 0, 8, 42, 27, 182, 0, 91, 172]
abbrev dktX3_of_2 : List UInt8 := dkwX3_of_2 ++ []
def dkwX3_of_1 : List UInt8 := [182, 0, 59, 172, 28, 16, 8, 162, 0, 12, 42, 27, 28, 182, 0, 79, 167, 0, 22, 28, 16, 8]
abbrev dktX3_of_1 : List UInt8 := dkwX3_of_1 ++ dktX3_of_2
def dkwX3_of_0 : List UInt8 := [42, 27, 182, 0, 83, 153, 0, 15, 28, 133, 9, 20, 0, 86, 184, 0, 54, 154, 0, 10, 42, 18, 53]
abbrev dktX3_of_0 : List UInt8 := dkwX3_of_0 ++ dktX3_of_1
theorem dksX3_of_0 : cX3_of.data.toList.drop 0 = dktX3_of_0 := by decide +kernel
theorem dksX3_of_1 : cX3_of.data.toList.drop 23 = dktX3_of_1 := dk_seg dksX3_of_0 23 rfl rfl
theorem dksX3_of_2 : cX3_of.data.toList.drop 45 = dktX3_of_2 := dk_seg dksX3_of_1 22 rfl rfl
theorem dX3_of_0 : decode cX3_of 0 = .ok (.aload_n 0, 1) := dk_42 (dk_at dksX3_of_0 0 rfl rfl)
theorem dX3_of_1 : decode cX3_of 1 = .ok (.iload_n 1, 1) := dk_27 (dk_at dksX3_of_0 1 rfl rfl)
theorem dX3_of_2 : decode cX3_of 2 = .ok (.invokevirtual 83, 3) := dk_182 0 83 (dk_at dksX3_of_0 2 rfl rfl)
theorem dX3_of_5 : decode cX3_of 5 = .ok (.ifCond .eq 15, 3) := dk_153 0 15 (dk_at dksX3_of_0 5 rfl rfl)
theorem dX3_of_8 : decode cX3_of 8 = .ok (.iload_n 2, 1) := dk_28 (dk_at dksX3_of_0 8 rfl rfl)
theorem dX3_of_9 : decode cX3_of 9 = .ok (.i2l, 1) := dk_133 (dk_at dksX3_of_0 9 rfl rfl)
theorem dX3_of_10 : decode cX3_of 10 = .ok (.lconst 0, 1) := dk_9 (dk_at dksX3_of_0 10 rfl rfl)
theorem dX3_of_11 : decode cX3_of 11 = .ok (.ldc2_w 86, 3) := dk_20 0 86 (dk_at dksX3_of_0 11 rfl rfl)
theorem dX3_of_14 : decode cX3_of 14 = .ok (.invokestatic 54, 3) := dk_184 0 54 (dk_at dksX3_of_0 14 rfl rfl)
theorem dX3_of_17 : decode cX3_of 17 = .ok (.ifCond .ne 10, 3) := dk_154 0 10 (dk_at dksX3_of_0 17 rfl rfl)
theorem dX3_of_20 : decode cX3_of 20 = .ok (.aload_n 0, 1) := dk_42 (dk_at dksX3_of_0 20 rfl rfl)
theorem dX3_of_21 : decode cX3_of 21 = .ok (.ldc 53, 2) := dk_18 53 (dk_at dksX3_of_0 21 rfl rfl)
theorem dX3_of_23 : decode cX3_of 23 = .ok (.invokevirtual 59, 3) := dk_182 0 59 (dk_at dksX3_of_1 0 rfl rfl)
theorem dX3_of_26 : decode cX3_of 26 = .ok (.ireturn, 1) := dk_172 (dk_at dksX3_of_1 3 rfl rfl)
theorem dX3_of_27 : decode cX3_of 27 = .ok (.iload_n 2, 1) := dk_28 (dk_at dksX3_of_1 4 rfl rfl)
theorem dX3_of_28 : decode cX3_of 28 = .ok (.bipush 8, 2) := dk_16 8 (dk_at dksX3_of_1 5 rfl rfl)
theorem dX3_of_30 : decode cX3_of 30 = .ok (.if_icmp .ge 12, 3) := dk_162 0 12 (dk_at dksX3_of_1 7 rfl rfl)
theorem dX3_of_33 : decode cX3_of 33 = .ok (.aload_n 0, 1) := dk_42 (dk_at dksX3_of_1 10 rfl rfl)
theorem dX3_of_34 : decode cX3_of 34 = .ok (.iload_n 1, 1) := dk_27 (dk_at dksX3_of_1 11 rfl rfl)
theorem dX3_of_35 : decode cX3_of 35 = .ok (.iload_n 2, 1) := dk_28 (dk_at dksX3_of_1 12 rfl rfl)
theorem dX3_of_36 : decode cX3_of 36 = .ok (.invokevirtual 79, 3) := dk_182 0 79 (dk_at dksX3_of_1 13 rfl rfl)
theorem dX3_of_39 : decode cX3_of 39 = .ok (.goto 22, 3) := dk_167 0 22 (dk_at dksX3_of_1 16 rfl rfl)
theorem dX3_of_42 : decode cX3_of 42 = .ok (.iload_n 2, 1) := dk_28 (dk_at dksX3_of_1 19 rfl rfl)
theorem dX3_of_43 : decode cX3_of 43 = .ok (.bipush 8, 2) := dk_16 8 (dk_at dksX3_of_1 20 rfl rfl)
theorem dX3_of_45 : decode cX3_of 45 = .ok (.if_icmp .ne 11, 3) := dk_160 0 11 (dk_at dksX3_of_2 0 rfl rfl)
theorem dX3_of_48 : decode cX3_of 48 = .ok (.aload_n 0, 1) := dk_42 (dk_at dksX3_of_2 3 rfl rfl)
theorem dX3_of_49 : decode cX3_of 49 = .ok (.iload_n 1, 1) := dk_27 (dk_at dksX3_of_2 4 rfl rfl)
theorem dX3_of_50 : decode cX3_of 50 = .ok (.invokevirtual 88, 3) := dk_182 0 88 (dk_at dksX3_of_2 5 rfl rfl)
theorem dX3_of_53 : decode cX3_of 53 = .ok (.goto 8, 3) := dk_167 0 8 (dk_at dksX3_of_2 8 rfl rfl)
theorem dX3_of_56 : decode cX3_of 56 = .ok (.aload_n 0, 1) := dk_42 (dk_at dksX3_of_2 11 rfl rfl)
theorem dX3_of_57 : decode cX3_of 57 = .ok (.iload_n 1, 1) := dk_27 (dk_at dksX3_of_2 12 rfl rfl)
theorem dX3_of_58 : decode cX3_of 58 = .ok (.invokevirtual 91, 3) := dk_182 0 91 (dk_at dksX3_of_2 13 rfl rfl)
theorem dX3_of_61 : decode cX3_of 61 = .ok (.ireturn, 1) := dk_172 (dk_at dksX3_of_2 16 rfl rfl)
abbrev cX3_isGap : ByteArray := prog_16_method_5_code
def yX3_isGap : MethodName := ⟨RX3, "isGap", "(I)Z"⟩
def dkwX3_isGap_0 : List UInt8 := [27, 133, 9, 42, 180, 0, 7, 4, 46, 4, 100, 133, 184, 0, 54, 172]
abbrev dktX3_isGap_0 : List UInt8 := dkwX3_isGap_0 ++ []
theorem dksX3_isGap_0 : cX3_isGap.data.toList.drop 0 = dktX3_isGap_0 := by decide +kernel
theorem dX3_isGap_0 : decode cX3_isGap 0 = .ok (.iload_n 1, 1) := dk_27 (dk_at dksX3_isGap_0 0 rfl rfl)
theorem dX3_isGap_1 : decode cX3_isGap 1 = .ok (.i2l, 1) := dk_133 (dk_at dksX3_isGap_0 1 rfl rfl)
theorem dX3_isGap_2 : decode cX3_isGap 2 = .ok (.lconst 0, 1) := dk_9 (dk_at dksX3_isGap_0 2 rfl rfl)
theorem dX3_isGap_3 : decode cX3_isGap 3 = .ok (.aload_n 0, 1) := dk_42 (dk_at dksX3_isGap_0 3 rfl rfl)
theorem dX3_isGap_4 : decode cX3_isGap 4 = .ok (.getfield 7, 3) := dk_180 0 7 (dk_at dksX3_isGap_0 4 rfl rfl)
theorem dX3_isGap_7 : decode cX3_isGap 7 = .ok (.iconst 1, 1) := dk_4 (dk_at dksX3_isGap_0 7 rfl rfl)
theorem dX3_isGap_8 : decode cX3_isGap 8 = .ok (.iaload, 1) := dk_46 (dk_at dksX3_isGap_0 8 rfl rfl)
theorem dX3_isGap_9 : decode cX3_isGap 9 = .ok (.iconst 1, 1) := dk_4 (dk_at dksX3_isGap_0 9 rfl rfl)
theorem dX3_isGap_10 : decode cX3_isGap 10 = .ok (.isub, 1) := dk_100 (dk_at dksX3_isGap_0 10 rfl rfl)
theorem dX3_isGap_11 : decode cX3_isGap 11 = .ok (.i2l, 1) := dk_133 (dk_at dksX3_isGap_0 11 rfl rfl)
theorem dX3_isGap_12 : decode cX3_isGap 12 = .ok (.invokestatic 54, 3) := dk_184 0 54 (dk_at dksX3_isGap_0 12 rfl rfl)
theorem dX3_isGap_15 : decode cX3_isGap 15 = .ok (.ireturn, 1) := dk_172 (dk_at dksX3_isGap_0 15 rfl rfl)
abbrev cX3_has : ByteArray := prog_16_method_4_code
def yX3_has : MethodName := ⟨RX3, "has", "(II)I"⟩
def dkwX3_has_0 : List UInt8 := [42, 180, 0, 7, 16, 9, 16, 8, 27, 104, 96, 28, 96, 46, 172]
abbrev dktX3_has_0 : List UInt8 := dkwX3_has_0 ++ []
theorem dksX3_has_0 : cX3_has.data.toList.drop 0 = dktX3_has_0 := by decide +kernel
theorem dX3_has_0 : decode cX3_has 0 = .ok (.aload_n 0, 1) := dk_42 (dk_at dksX3_has_0 0 rfl rfl)
theorem dX3_has_1 : decode cX3_has 1 = .ok (.getfield 7, 3) := dk_180 0 7 (dk_at dksX3_has_0 1 rfl rfl)
theorem dX3_has_4 : decode cX3_has 4 = .ok (.bipush 9, 2) := dk_16 9 (dk_at dksX3_has_0 4 rfl rfl)
theorem dX3_has_6 : decode cX3_has 6 = .ok (.bipush 8, 2) := dk_16 8 (dk_at dksX3_has_0 6 rfl rfl)
theorem dX3_has_8 : decode cX3_has 8 = .ok (.iload_n 1, 1) := dk_27 (dk_at dksX3_has_0 8 rfl rfl)
theorem dX3_has_9 : decode cX3_has 9 = .ok (.imul, 1) := dk_104 (dk_at dksX3_has_0 9 rfl rfl)
theorem dX3_has_10 : decode cX3_has 10 = .ok (.iadd, 1) := dk_96 (dk_at dksX3_has_0 10 rfl rfl)
theorem dX3_has_11 : decode cX3_has 11 = .ok (.iload_n 2, 1) := dk_28 (dk_at dksX3_has_0 11 rfl rfl)
theorem dX3_has_12 : decode cX3_has 12 = .ok (.iadd, 1) := dk_96 (dk_at dksX3_has_0 12 rfl rfl)
theorem dX3_has_13 : decode cX3_has 13 = .ok (.iaload, 1) := dk_46 (dk_at dksX3_has_0 13 rfl rfl)
theorem dX3_has_14 : decode cX3_has 14 = .ok (.ireturn, 1) := dk_172 (dk_at dksX3_has_0 14 rfl rfl)
abbrev cX3_breadth : ByteArray := prog_16_method_11_code
def yX3_breadth : MethodName := ⟨RX3, "breadth", "(I)I"⟩
def dkwX3_breadth_5 : List UInt8 := [28, 104, 167, 0, 4, 28, 172, 28, 172]
abbrev dktX3_breadth_5 : List UInt8 := dkwX3_breadth_5 ++ []
def dkwX3_breadth_4 : List UInt8 := [180, 0, 7, 6, 46, 158, 0, 24, 42, 180, 0, 7, 7, 46, 42, 27, 8, 182, 0, 79, 160, 0, 9, 5]
abbrev dktX3_breadth_4 : List UInt8 := dkwX3_breadth_4 ++ dktX3_breadth_5
def dkwX3_breadth_3 : List UInt8 := [28, 5, 108, 172, 42, 180, 0, 7, 16, 6, 46, 172, 42, 27, 5, 182, 0, 79, 2, 160, 0, 33, 42]
abbrev dktX3_breadth_3 : List UInt8 := dkwX3_breadth_3 ++ dktX3_breadth_4
def dkwX3_breadth_2 : List UInt8 := [170, 0, 0, 0, 0, 84, 0, 0, 0, 1, 0, 0, 0, 4, 0, 0, 0, 30, 0, 0, 0, 84, 0, 0, 0, 34, 0, 0, 0, 42]
abbrev dktX3_breadth_2 : List UInt8 := dkwX3_breadth_2 ++ dktX3_breadth_3
def dkwX3_breadth_1 : List UInt8 := [182, 0, 79]
abbrev dktX3_breadth_1 : List UInt8 := dkwX3_breadth_1 ++ dktX3_breadth_2
def dkwX3_breadth_0 : List UInt8 := [42, 27, 16, 7, 182, 0, 79, 4, 160, 0, 5, 3, 172, 42, 27, 6, 182, 0, 79, 61, 42, 27, 3]
abbrev dktX3_breadth_0 : List UInt8 := dkwX3_breadth_0 ++ dktX3_breadth_1
theorem dksX3_breadth_0 : cX3_breadth.data.toList.drop 0 = dktX3_breadth_0 := by decide +kernel
theorem dksX3_breadth_1 : cX3_breadth.data.toList.drop 23 = dktX3_breadth_1 := dk_seg dksX3_breadth_0 23 rfl rfl
theorem dksX3_breadth_2 : cX3_breadth.data.toList.drop 26 = dktX3_breadth_2 := dk_seg dksX3_breadth_1 3 rfl rfl
theorem dksX3_breadth_3 : cX3_breadth.data.toList.drop 56 = dktX3_breadth_3 := dk_seg dksX3_breadth_2 30 rfl rfl
theorem dksX3_breadth_4 : cX3_breadth.data.toList.drop 79 = dktX3_breadth_4 := dk_seg dksX3_breadth_3 23 rfl rfl
theorem dksX3_breadth_5 : cX3_breadth.data.toList.drop 103 = dktX3_breadth_5 := dk_seg dksX3_breadth_4 24 rfl rfl
theorem dX3_breadth_0 : decode cX3_breadth 0 = .ok (.aload_n 0, 1) := dk_42 (dk_at dksX3_breadth_0 0 rfl rfl)
theorem dX3_breadth_1 : decode cX3_breadth 1 = .ok (.iload_n 1, 1) := dk_27 (dk_at dksX3_breadth_0 1 rfl rfl)
theorem dX3_breadth_2 : decode cX3_breadth 2 = .ok (.bipush 7, 2) := dk_16 7 (dk_at dksX3_breadth_0 2 rfl rfl)
theorem dX3_breadth_4 : decode cX3_breadth 4 = .ok (.invokevirtual 79, 3) := dk_182 0 79 (dk_at dksX3_breadth_0 4 rfl rfl)
theorem dX3_breadth_7 : decode cX3_breadth 7 = .ok (.iconst 1, 1) := dk_4 (dk_at dksX3_breadth_0 7 rfl rfl)
theorem dX3_breadth_8 : decode cX3_breadth 8 = .ok (.if_icmp .ne 5, 3) := dk_160 0 5 (dk_at dksX3_breadth_0 8 rfl rfl)
theorem dX3_breadth_11 : decode cX3_breadth 11 = .ok (.iconst 0, 1) := dk_3 (dk_at dksX3_breadth_0 11 rfl rfl)
theorem dX3_breadth_12 : decode cX3_breadth 12 = .ok (.ireturn, 1) := dk_172 (dk_at dksX3_breadth_0 12 rfl rfl)
theorem dX3_breadth_13 : decode cX3_breadth 13 = .ok (.aload_n 0, 1) := dk_42 (dk_at dksX3_breadth_0 13 rfl rfl)
theorem dX3_breadth_14 : decode cX3_breadth 14 = .ok (.iload_n 1, 1) := dk_27 (dk_at dksX3_breadth_0 14 rfl rfl)
theorem dX3_breadth_15 : decode cX3_breadth 15 = .ok (.iconst 3, 1) := dk_6 (dk_at dksX3_breadth_0 15 rfl rfl)
theorem dX3_breadth_16 : decode cX3_breadth 16 = .ok (.invokevirtual 79, 3) := dk_182 0 79 (dk_at dksX3_breadth_0 16 rfl rfl)
theorem dX3_breadth_19 : decode cX3_breadth 19 = .ok (.istore_n 2, 1) := dk_61 (dk_at dksX3_breadth_0 19 rfl rfl)
theorem dX3_breadth_20 : decode cX3_breadth 20 = .ok (.aload_n 0, 1) := dk_42 (dk_at dksX3_breadth_0 20 rfl rfl)
theorem dX3_breadth_21 : decode cX3_breadth 21 = .ok (.iload_n 1, 1) := dk_27 (dk_at dksX3_breadth_0 21 rfl rfl)
theorem dX3_breadth_22 : decode cX3_breadth 22 = .ok (.iconst 0, 1) := dk_3 (dk_at dksX3_breadth_0 22 rfl rfl)
theorem dX3_breadth_23 : decode cX3_breadth 23 = .ok (.invokevirtual 79, 3) := dk_182 0 79 (dk_at dksX3_breadth_1 0 rfl rfl)
theorem dX3_breadth_26 : decode cX3_breadth 26 = .ok (.tableswitch 84 1 4 #[30, 84, 34, 42], 30) := by decide +kernel
theorem dX3_breadth_56 : decode cX3_breadth 56 = .ok (.iload_n 2, 1) := dk_28 (dk_at dksX3_breadth_3 0 rfl rfl)
theorem dX3_breadth_57 : decode cX3_breadth 57 = .ok (.iconst 2, 1) := dk_5 (dk_at dksX3_breadth_3 1 rfl rfl)
theorem dX3_breadth_58 : decode cX3_breadth 58 = .ok (.idiv, 1) := dk_108 (dk_at dksX3_breadth_3 2 rfl rfl)
theorem dX3_breadth_59 : decode cX3_breadth 59 = .ok (.ireturn, 1) := dk_172 (dk_at dksX3_breadth_3 3 rfl rfl)
theorem dX3_breadth_60 : decode cX3_breadth 60 = .ok (.aload_n 0, 1) := dk_42 (dk_at dksX3_breadth_3 4 rfl rfl)
theorem dX3_breadth_61 : decode cX3_breadth 61 = .ok (.getfield 7, 3) := dk_180 0 7 (dk_at dksX3_breadth_3 5 rfl rfl)
theorem dX3_breadth_64 : decode cX3_breadth 64 = .ok (.bipush 6, 2) := dk_16 6 (dk_at dksX3_breadth_3 8 rfl rfl)
theorem dX3_breadth_66 : decode cX3_breadth 66 = .ok (.iaload, 1) := dk_46 (dk_at dksX3_breadth_3 10 rfl rfl)
theorem dX3_breadth_67 : decode cX3_breadth 67 = .ok (.ireturn, 1) := dk_172 (dk_at dksX3_breadth_3 11 rfl rfl)
theorem dX3_breadth_68 : decode cX3_breadth 68 = .ok (.aload_n 0, 1) := dk_42 (dk_at dksX3_breadth_3 12 rfl rfl)
theorem dX3_breadth_69 : decode cX3_breadth 69 = .ok (.iload_n 1, 1) := dk_27 (dk_at dksX3_breadth_3 13 rfl rfl)
theorem dX3_breadth_70 : decode cX3_breadth 70 = .ok (.iconst 2, 1) := dk_5 (dk_at dksX3_breadth_3 14 rfl rfl)
theorem dX3_breadth_71 : decode cX3_breadth 71 = .ok (.invokevirtual 79, 3) := dk_182 0 79 (dk_at dksX3_breadth_3 15 rfl rfl)
theorem dX3_breadth_74 : decode cX3_breadth 74 = .ok (.iconst (-1), 1) := dk_2 (dk_at dksX3_breadth_3 18 rfl rfl)
theorem dX3_breadth_75 : decode cX3_breadth 75 = .ok (.if_icmp .ne 33, 3) := dk_160 0 33 (dk_at dksX3_breadth_3 19 rfl rfl)
theorem dX3_breadth_78 : decode cX3_breadth 78 = .ok (.aload_n 0, 1) := dk_42 (dk_at dksX3_breadth_3 22 rfl rfl)
theorem dX3_breadth_79 : decode cX3_breadth 79 = .ok (.getfield 7, 3) := dk_180 0 7 (dk_at dksX3_breadth_4 0 rfl rfl)
theorem dX3_breadth_82 : decode cX3_breadth 82 = .ok (.iconst 3, 1) := dk_6 (dk_at dksX3_breadth_4 3 rfl rfl)
theorem dX3_breadth_83 : decode cX3_breadth 83 = .ok (.iaload, 1) := dk_46 (dk_at dksX3_breadth_4 4 rfl rfl)
theorem dX3_breadth_84 : decode cX3_breadth 84 = .ok (.ifCond .le 24, 3) := dk_158 0 24 (dk_at dksX3_breadth_4 5 rfl rfl)
theorem dX3_breadth_87 : decode cX3_breadth 87 = .ok (.aload_n 0, 1) := dk_42 (dk_at dksX3_breadth_4 8 rfl rfl)
theorem dX3_breadth_88 : decode cX3_breadth 88 = .ok (.getfield 7, 3) := dk_180 0 7 (dk_at dksX3_breadth_4 9 rfl rfl)
theorem dX3_breadth_91 : decode cX3_breadth 91 = .ok (.iconst 4, 1) := dk_7 (dk_at dksX3_breadth_4 12 rfl rfl)
theorem dX3_breadth_92 : decode cX3_breadth 92 = .ok (.iaload, 1) := dk_46 (dk_at dksX3_breadth_4 13 rfl rfl)
theorem dX3_breadth_93 : decode cX3_breadth 93 = .ok (.aload_n 0, 1) := dk_42 (dk_at dksX3_breadth_4 14 rfl rfl)
theorem dX3_breadth_94 : decode cX3_breadth 94 = .ok (.iload_n 1, 1) := dk_27 (dk_at dksX3_breadth_4 15 rfl rfl)
theorem dX3_breadth_95 : decode cX3_breadth 95 = .ok (.iconst 5, 1) := dk_8 (dk_at dksX3_breadth_4 16 rfl rfl)
theorem dX3_breadth_96 : decode cX3_breadth 96 = .ok (.invokevirtual 79, 3) := dk_182 0 79 (dk_at dksX3_breadth_4 17 rfl rfl)
theorem dX3_breadth_99 : decode cX3_breadth 99 = .ok (.if_icmp .ne 9, 3) := dk_160 0 9 (dk_at dksX3_breadth_4 20 rfl rfl)
theorem dX3_breadth_102 : decode cX3_breadth 102 = .ok (.iconst 2, 1) := dk_5 (dk_at dksX3_breadth_4 23 rfl rfl)
theorem dX3_breadth_103 : decode cX3_breadth 103 = .ok (.iload_n 2, 1) := dk_28 (dk_at dksX3_breadth_5 0 rfl rfl)
theorem dX3_breadth_104 : decode cX3_breadth 104 = .ok (.imul, 1) := dk_104 (dk_at dksX3_breadth_5 1 rfl rfl)
theorem dX3_breadth_105 : decode cX3_breadth 105 = .ok (.goto 4, 3) := dk_167 0 4 (dk_at dksX3_breadth_5 2 rfl rfl)
theorem dX3_breadth_108 : decode cX3_breadth 108 = .ok (.iload_n 2, 1) := dk_28 (dk_at dksX3_breadth_5 5 rfl rfl)
theorem dX3_breadth_109 : decode cX3_breadth 109 = .ok (.ireturn, 1) := dk_172 (dk_at dksX3_breadth_5 6 rfl rfl)
theorem dX3_breadth_110 : decode cX3_breadth 110 = .ok (.iload_n 2, 1) := dk_28 (dk_at dksX3_breadth_5 7 rfl rfl)
theorem dX3_breadth_111 : decode cX3_breadth 111 = .ok (.ireturn, 1) := dk_172 (dk_at dksX3_breadth_5 8 rfl rfl)
abbrev cX3_push : ByteArray := prog_16_method_12_code
def yX3_push : MethodName := ⟨RX3, "push", "(I)I"⟩
def dkwX3_push_4 : List UInt8 := [182, 0, 79, 8, 160, 0, 16, 28, 6, 42, 180, 0, 7, 5, 46, 104, 100, 167, 0, 4, 28, 172]
abbrev dktX3_push_4 : List UInt8 := dkwX3_push_4 ++ []
def dkwX3_push_3 : List UInt8 := [6, 46, 5, 108, 100, 167, 0, 13, 3, 42, 180, 0, 7, 6, 46, 7, 108, 100, 96, 61, 42, 27, 3]
abbrev dktX3_push_3 : List UInt8 := dkwX3_push_3 ++ dktX3_push_4
def dkwX3_push_2 : List UInt8 := [28, 29, 154, 0, 12, 42, 180, 0, 7, 6, 46, 167, 0, 31, 29, 5, 160, 0, 16, 3, 42, 180, 0, 7]
abbrev dktX3_push_2 : List UInt8 := dkwX3_push_2 ++ dktX3_push_3
def dkwX3_push_1 : List UInt8 := [182, 0, 79, 100, 104, 61, 42, 180, 0, 7, 7, 46, 42, 27, 8, 182, 0, 79, 100, 7, 96, 7, 112, 62]
abbrev dktX3_push_1 : List UInt8 := dkwX3_push_1 ++ dktX3_push_2
def dkwX3_push_0 : List UInt8 := [42, 27, 5, 182, 0, 79, 2, 159, 0, 5, 3, 172, 42, 180, 0, 7, 5, 46, 8, 42, 27, 7]
abbrev dktX3_push_0 : List UInt8 := dkwX3_push_0 ++ dktX3_push_1
theorem dksX3_push_0 : cX3_push.data.toList.drop 0 = dktX3_push_0 := by decide +kernel
theorem dksX3_push_1 : cX3_push.data.toList.drop 22 = dktX3_push_1 := dk_seg dksX3_push_0 22 rfl rfl
theorem dksX3_push_2 : cX3_push.data.toList.drop 46 = dktX3_push_2 := dk_seg dksX3_push_1 24 rfl rfl
theorem dksX3_push_3 : cX3_push.data.toList.drop 70 = dktX3_push_3 := dk_seg dksX3_push_2 24 rfl rfl
theorem dksX3_push_4 : cX3_push.data.toList.drop 93 = dktX3_push_4 := dk_seg dksX3_push_3 23 rfl rfl
theorem dX3_push_0 : decode cX3_push 0 = .ok (.aload_n 0, 1) := dk_42 (dk_at dksX3_push_0 0 rfl rfl)
theorem dX3_push_1 : decode cX3_push 1 = .ok (.iload_n 1, 1) := dk_27 (dk_at dksX3_push_0 1 rfl rfl)
theorem dX3_push_2 : decode cX3_push 2 = .ok (.iconst 2, 1) := dk_5 (dk_at dksX3_push_0 2 rfl rfl)
theorem dX3_push_3 : decode cX3_push 3 = .ok (.invokevirtual 79, 3) := dk_182 0 79 (dk_at dksX3_push_0 3 rfl rfl)
theorem dX3_push_6 : decode cX3_push 6 = .ok (.iconst (-1), 1) := dk_2 (dk_at dksX3_push_0 6 rfl rfl)
theorem dX3_push_7 : decode cX3_push 7 = .ok (.if_icmp .eq 5, 3) := dk_159 0 5 (dk_at dksX3_push_0 7 rfl rfl)
theorem dX3_push_10 : decode cX3_push 10 = .ok (.iconst 0, 1) := dk_3 (dk_at dksX3_push_0 10 rfl rfl)
theorem dX3_push_11 : decode cX3_push 11 = .ok (.ireturn, 1) := dk_172 (dk_at dksX3_push_0 11 rfl rfl)
theorem dX3_push_12 : decode cX3_push 12 = .ok (.aload_n 0, 1) := dk_42 (dk_at dksX3_push_0 12 rfl rfl)
theorem dX3_push_13 : decode cX3_push 13 = .ok (.getfield 7, 3) := dk_180 0 7 (dk_at dksX3_push_0 13 rfl rfl)
theorem dX3_push_16 : decode cX3_push 16 = .ok (.iconst 2, 1) := dk_5 (dk_at dksX3_push_0 16 rfl rfl)
theorem dX3_push_17 : decode cX3_push 17 = .ok (.iaload, 1) := dk_46 (dk_at dksX3_push_0 17 rfl rfl)
theorem dX3_push_18 : decode cX3_push 18 = .ok (.iconst 5, 1) := dk_8 (dk_at dksX3_push_0 18 rfl rfl)
theorem dX3_push_19 : decode cX3_push 19 = .ok (.aload_n 0, 1) := dk_42 (dk_at dksX3_push_0 19 rfl rfl)
theorem dX3_push_20 : decode cX3_push 20 = .ok (.iload_n 1, 1) := dk_27 (dk_at dksX3_push_0 20 rfl rfl)
theorem dX3_push_21 : decode cX3_push 21 = .ok (.iconst 4, 1) := dk_7 (dk_at dksX3_push_0 21 rfl rfl)
theorem dX3_push_22 : decode cX3_push 22 = .ok (.invokevirtual 79, 3) := dk_182 0 79 (dk_at dksX3_push_1 0 rfl rfl)
theorem dX3_push_25 : decode cX3_push 25 = .ok (.isub, 1) := dk_100 (dk_at dksX3_push_1 3 rfl rfl)
theorem dX3_push_26 : decode cX3_push 26 = .ok (.imul, 1) := dk_104 (dk_at dksX3_push_1 4 rfl rfl)
theorem dX3_push_27 : decode cX3_push 27 = .ok (.istore_n 2, 1) := dk_61 (dk_at dksX3_push_1 5 rfl rfl)
theorem dX3_push_28 : decode cX3_push 28 = .ok (.aload_n 0, 1) := dk_42 (dk_at dksX3_push_1 6 rfl rfl)
theorem dX3_push_29 : decode cX3_push 29 = .ok (.getfield 7, 3) := dk_180 0 7 (dk_at dksX3_push_1 7 rfl rfl)
theorem dX3_push_32 : decode cX3_push 32 = .ok (.iconst 4, 1) := dk_7 (dk_at dksX3_push_1 10 rfl rfl)
theorem dX3_push_33 : decode cX3_push 33 = .ok (.iaload, 1) := dk_46 (dk_at dksX3_push_1 11 rfl rfl)
theorem dX3_push_34 : decode cX3_push 34 = .ok (.aload_n 0, 1) := dk_42 (dk_at dksX3_push_1 12 rfl rfl)
theorem dX3_push_35 : decode cX3_push 35 = .ok (.iload_n 1, 1) := dk_27 (dk_at dksX3_push_1 13 rfl rfl)
theorem dX3_push_36 : decode cX3_push 36 = .ok (.iconst 5, 1) := dk_8 (dk_at dksX3_push_1 14 rfl rfl)
theorem dX3_push_37 : decode cX3_push 37 = .ok (.invokevirtual 79, 3) := dk_182 0 79 (dk_at dksX3_push_1 15 rfl rfl)
theorem dX3_push_40 : decode cX3_push 40 = .ok (.isub, 1) := dk_100 (dk_at dksX3_push_1 18 rfl rfl)
theorem dX3_push_41 : decode cX3_push 41 = .ok (.iconst 4, 1) := dk_7 (dk_at dksX3_push_1 19 rfl rfl)
theorem dX3_push_42 : decode cX3_push 42 = .ok (.iadd, 1) := dk_96 (dk_at dksX3_push_1 20 rfl rfl)
theorem dX3_push_43 : decode cX3_push 43 = .ok (.iconst 4, 1) := dk_7 (dk_at dksX3_push_1 21 rfl rfl)
theorem dX3_push_44 : decode cX3_push 44 = .ok (.irem, 1) := dk_112 (dk_at dksX3_push_1 22 rfl rfl)
theorem dX3_push_45 : decode cX3_push 45 = .ok (.istore_n 3, 1) := dk_62 (dk_at dksX3_push_1 23 rfl rfl)
theorem dX3_push_46 : decode cX3_push 46 = .ok (.iload_n 2, 1) := dk_28 (dk_at dksX3_push_2 0 rfl rfl)
theorem dX3_push_47 : decode cX3_push 47 = .ok (.iload_n 3, 1) := dk_29 (dk_at dksX3_push_2 1 rfl rfl)
theorem dX3_push_48 : decode cX3_push 48 = .ok (.ifCond .ne 12, 3) := dk_154 0 12 (dk_at dksX3_push_2 2 rfl rfl)
theorem dX3_push_51 : decode cX3_push 51 = .ok (.aload_n 0, 1) := dk_42 (dk_at dksX3_push_2 5 rfl rfl)
theorem dX3_push_52 : decode cX3_push 52 = .ok (.getfield 7, 3) := dk_180 0 7 (dk_at dksX3_push_2 6 rfl rfl)
theorem dX3_push_55 : decode cX3_push 55 = .ok (.iconst 3, 1) := dk_6 (dk_at dksX3_push_2 9 rfl rfl)
theorem dX3_push_56 : decode cX3_push 56 = .ok (.iaload, 1) := dk_46 (dk_at dksX3_push_2 10 rfl rfl)
theorem dX3_push_57 : decode cX3_push 57 = .ok (.goto 31, 3) := dk_167 0 31 (dk_at dksX3_push_2 11 rfl rfl)
theorem dX3_push_60 : decode cX3_push 60 = .ok (.iload_n 3, 1) := dk_29 (dk_at dksX3_push_2 14 rfl rfl)
theorem dX3_push_61 : decode cX3_push 61 = .ok (.iconst 2, 1) := dk_5 (dk_at dksX3_push_2 15 rfl rfl)
theorem dX3_push_62 : decode cX3_push 62 = .ok (.if_icmp .ne 16, 3) := dk_160 0 16 (dk_at dksX3_push_2 16 rfl rfl)
theorem dX3_push_65 : decode cX3_push 65 = .ok (.iconst 0, 1) := dk_3 (dk_at dksX3_push_2 19 rfl rfl)
theorem dX3_push_66 : decode cX3_push 66 = .ok (.aload_n 0, 1) := dk_42 (dk_at dksX3_push_2 20 rfl rfl)
theorem dX3_push_67 : decode cX3_push 67 = .ok (.getfield 7, 3) := dk_180 0 7 (dk_at dksX3_push_2 21 rfl rfl)
theorem dX3_push_70 : decode cX3_push 70 = .ok (.iconst 3, 1) := dk_6 (dk_at dksX3_push_3 0 rfl rfl)
theorem dX3_push_71 : decode cX3_push 71 = .ok (.iaload, 1) := dk_46 (dk_at dksX3_push_3 1 rfl rfl)
theorem dX3_push_72 : decode cX3_push 72 = .ok (.iconst 2, 1) := dk_5 (dk_at dksX3_push_3 2 rfl rfl)
theorem dX3_push_73 : decode cX3_push 73 = .ok (.idiv, 1) := dk_108 (dk_at dksX3_push_3 3 rfl rfl)
theorem dX3_push_74 : decode cX3_push 74 = .ok (.isub, 1) := dk_100 (dk_at dksX3_push_3 4 rfl rfl)
theorem dX3_push_75 : decode cX3_push 75 = .ok (.goto 13, 3) := dk_167 0 13 (dk_at dksX3_push_3 5 rfl rfl)
theorem dX3_push_78 : decode cX3_push 78 = .ok (.iconst 0, 1) := dk_3 (dk_at dksX3_push_3 8 rfl rfl)
theorem dX3_push_79 : decode cX3_push 79 = .ok (.aload_n 0, 1) := dk_42 (dk_at dksX3_push_3 9 rfl rfl)
theorem dX3_push_80 : decode cX3_push 80 = .ok (.getfield 7, 3) := dk_180 0 7 (dk_at dksX3_push_3 10 rfl rfl)
theorem dX3_push_83 : decode cX3_push 83 = .ok (.iconst 3, 1) := dk_6 (dk_at dksX3_push_3 13 rfl rfl)
theorem dX3_push_84 : decode cX3_push 84 = .ok (.iaload, 1) := dk_46 (dk_at dksX3_push_3 14 rfl rfl)
theorem dX3_push_85 : decode cX3_push 85 = .ok (.iconst 4, 1) := dk_7 (dk_at dksX3_push_3 15 rfl rfl)
theorem dX3_push_86 : decode cX3_push 86 = .ok (.idiv, 1) := dk_108 (dk_at dksX3_push_3 16 rfl rfl)
theorem dX3_push_87 : decode cX3_push 87 = .ok (.isub, 1) := dk_100 (dk_at dksX3_push_3 17 rfl rfl)
theorem dX3_push_88 : decode cX3_push 88 = .ok (.iadd, 1) := dk_96 (dk_at dksX3_push_3 18 rfl rfl)
theorem dX3_push_89 : decode cX3_push 89 = .ok (.istore_n 2, 1) := dk_61 (dk_at dksX3_push_3 19 rfl rfl)
theorem dX3_push_90 : decode cX3_push 90 = .ok (.aload_n 0, 1) := dk_42 (dk_at dksX3_push_3 20 rfl rfl)
theorem dX3_push_91 : decode cX3_push 91 = .ok (.iload_n 1, 1) := dk_27 (dk_at dksX3_push_3 21 rfl rfl)
theorem dX3_push_92 : decode cX3_push 92 = .ok (.iconst 0, 1) := dk_3 (dk_at dksX3_push_3 22 rfl rfl)
theorem dX3_push_93 : decode cX3_push 93 = .ok (.invokevirtual 79, 3) := dk_182 0 79 (dk_at dksX3_push_4 0 rfl rfl)
theorem dX3_push_96 : decode cX3_push 96 = .ok (.iconst 5, 1) := dk_8 (dk_at dksX3_push_4 3 rfl rfl)
theorem dX3_push_97 : decode cX3_push 97 = .ok (.if_icmp .ne 16, 3) := dk_160 0 16 (dk_at dksX3_push_4 4 rfl rfl)
theorem dX3_push_100 : decode cX3_push 100 = .ok (.iload_n 2, 1) := dk_28 (dk_at dksX3_push_4 7 rfl rfl)
theorem dX3_push_101 : decode cX3_push 101 = .ok (.iconst 3, 1) := dk_6 (dk_at dksX3_push_4 8 rfl rfl)
theorem dX3_push_102 : decode cX3_push 102 = .ok (.aload_n 0, 1) := dk_42 (dk_at dksX3_push_4 9 rfl rfl)
theorem dX3_push_103 : decode cX3_push 103 = .ok (.getfield 7, 3) := dk_180 0 7 (dk_at dksX3_push_4 10 rfl rfl)
theorem dX3_push_106 : decode cX3_push 106 = .ok (.iconst 2, 1) := dk_5 (dk_at dksX3_push_4 13 rfl rfl)
theorem dX3_push_107 : decode cX3_push 107 = .ok (.iaload, 1) := dk_46 (dk_at dksX3_push_4 14 rfl rfl)
theorem dX3_push_108 : decode cX3_push 108 = .ok (.imul, 1) := dk_104 (dk_at dksX3_push_4 15 rfl rfl)
theorem dX3_push_109 : decode cX3_push 109 = .ok (.isub, 1) := dk_100 (dk_at dksX3_push_4 16 rfl rfl)
theorem dX3_push_110 : decode cX3_push 110 = .ok (.goto 4, 3) := dk_167 0 4 (dk_at dksX3_push_4 17 rfl rfl)
theorem dX3_push_113 : decode cX3_push 113 = .ok (.iload_n 2, 1) := dk_28 (dk_at dksX3_push_4 20 rfl rfl)
theorem dX3_push_114 : decode cX3_push 114 = .ok (.ireturn, 1) := dk_172 (dk_at dksX3_push_4 21 rfl rfl)
abbrev cX3_width : ByteArray := prog_16_method_14_code
def yX3_width : MethodName := ⟨RX3, "width", "(II)I"⟩
def dkwX3_width_2 : List UInt8 := [28, 79, 29, 172]
abbrev dktX3_width_2 : List UInt8 := dkwX3_width_2 ++ []
def dkwX3_width_1 : List UInt8 := [182, 0, 59, 172, 42, 27, 6, 182, 0, 79, 62, 42, 180, 0, 7, 16, 9, 16, 8, 27, 104, 96, 6, 96]
abbrev dktX3_width_1 : List UInt8 := dkwX3_width_1 ++ dktX3_width_2
def dkwX3_width_0 : List UInt8 := [42, 27, 182, 0, 83, 153, 0, 15, 28, 133, 9, 20, 0, 94, 184, 0, 54, 154, 0, 10, 42, 18, 53]
abbrev dktX3_width_0 : List UInt8 := dkwX3_width_0 ++ dktX3_width_1
theorem dksX3_width_0 : cX3_width.data.toList.drop 0 = dktX3_width_0 := by decide +kernel
theorem dksX3_width_1 : cX3_width.data.toList.drop 23 = dktX3_width_1 := dk_seg dksX3_width_0 23 rfl rfl
theorem dksX3_width_2 : cX3_width.data.toList.drop 47 = dktX3_width_2 := dk_seg dksX3_width_1 24 rfl rfl
theorem dX3_width_0 : decode cX3_width 0 = .ok (.aload_n 0, 1) := dk_42 (dk_at dksX3_width_0 0 rfl rfl)
theorem dX3_width_1 : decode cX3_width 1 = .ok (.iload_n 1, 1) := dk_27 (dk_at dksX3_width_0 1 rfl rfl)
theorem dX3_width_2 : decode cX3_width 2 = .ok (.invokevirtual 83, 3) := dk_182 0 83 (dk_at dksX3_width_0 2 rfl rfl)
theorem dX3_width_5 : decode cX3_width 5 = .ok (.ifCond .eq 15, 3) := dk_153 0 15 (dk_at dksX3_width_0 5 rfl rfl)
theorem dX3_width_8 : decode cX3_width 8 = .ok (.iload_n 2, 1) := dk_28 (dk_at dksX3_width_0 8 rfl rfl)
theorem dX3_width_9 : decode cX3_width 9 = .ok (.i2l, 1) := dk_133 (dk_at dksX3_width_0 9 rfl rfl)
theorem dX3_width_10 : decode cX3_width 10 = .ok (.lconst 0, 1) := dk_9 (dk_at dksX3_width_0 10 rfl rfl)
theorem dX3_width_11 : decode cX3_width 11 = .ok (.ldc2_w 94, 3) := dk_20 0 94 (dk_at dksX3_width_0 11 rfl rfl)
theorem dX3_width_14 : decode cX3_width 14 = .ok (.invokestatic 54, 3) := dk_184 0 54 (dk_at dksX3_width_0 14 rfl rfl)
theorem dX3_width_17 : decode cX3_width 17 = .ok (.ifCond .ne 10, 3) := dk_154 0 10 (dk_at dksX3_width_0 17 rfl rfl)
theorem dX3_width_20 : decode cX3_width 20 = .ok (.aload_n 0, 1) := dk_42 (dk_at dksX3_width_0 20 rfl rfl)
theorem dX3_width_21 : decode cX3_width 21 = .ok (.ldc 53, 2) := dk_18 53 (dk_at dksX3_width_0 21 rfl rfl)
theorem dX3_width_23 : decode cX3_width 23 = .ok (.invokevirtual 59, 3) := dk_182 0 59 (dk_at dksX3_width_1 0 rfl rfl)
theorem dX3_width_26 : decode cX3_width 26 = .ok (.ireturn, 1) := dk_172 (dk_at dksX3_width_1 3 rfl rfl)
theorem dX3_width_27 : decode cX3_width 27 = .ok (.aload_n 0, 1) := dk_42 (dk_at dksX3_width_1 4 rfl rfl)
theorem dX3_width_28 : decode cX3_width 28 = .ok (.iload_n 1, 1) := dk_27 (dk_at dksX3_width_1 5 rfl rfl)
theorem dX3_width_29 : decode cX3_width 29 = .ok (.iconst 3, 1) := dk_6 (dk_at dksX3_width_1 6 rfl rfl)
theorem dX3_width_30 : decode cX3_width 30 = .ok (.invokevirtual 79, 3) := dk_182 0 79 (dk_at dksX3_width_1 7 rfl rfl)
theorem dX3_width_33 : decode cX3_width 33 = .ok (.istore_n 3, 1) := dk_62 (dk_at dksX3_width_1 10 rfl rfl)
theorem dX3_width_34 : decode cX3_width 34 = .ok (.aload_n 0, 1) := dk_42 (dk_at dksX3_width_1 11 rfl rfl)
theorem dX3_width_35 : decode cX3_width 35 = .ok (.getfield 7, 3) := dk_180 0 7 (dk_at dksX3_width_1 12 rfl rfl)
theorem dX3_width_38 : decode cX3_width 38 = .ok (.bipush 9, 2) := dk_16 9 (dk_at dksX3_width_1 15 rfl rfl)
theorem dX3_width_40 : decode cX3_width 40 = .ok (.bipush 8, 2) := dk_16 8 (dk_at dksX3_width_1 17 rfl rfl)
theorem dX3_width_42 : decode cX3_width 42 = .ok (.iload_n 1, 1) := dk_27 (dk_at dksX3_width_1 19 rfl rfl)
theorem dX3_width_43 : decode cX3_width 43 = .ok (.imul, 1) := dk_104 (dk_at dksX3_width_1 20 rfl rfl)
theorem dX3_width_44 : decode cX3_width 44 = .ok (.iadd, 1) := dk_96 (dk_at dksX3_width_1 21 rfl rfl)
theorem dX3_width_45 : decode cX3_width 45 = .ok (.iconst 3, 1) := dk_6 (dk_at dksX3_width_1 22 rfl rfl)
theorem dX3_width_46 : decode cX3_width 46 = .ok (.iadd, 1) := dk_96 (dk_at dksX3_width_1 23 rfl rfl)
theorem dX3_width_47 : decode cX3_width 47 = .ok (.iload_n 2, 1) := dk_28 (dk_at dksX3_width_2 0 rfl rfl)
theorem dX3_width_48 : decode cX3_width 48 = .ok (.iastore, 1) := dk_79 (dk_at dksX3_width_2 1 rfl rfl)
theorem dX3_width_49 : decode cX3_width 49 = .ok (.iload_n 3, 1) := dk_29 (dk_at dksX3_width_2 2 rfl rfl)
theorem dX3_width_50 : decode cX3_width 50 = .ok (.ireturn, 1) := dk_172 (dk_at dksX3_width_2 3 rfl rfl)
abbrev cX3_shut : ByteArray := prog_16_method_15_code
def yX3_shut : MethodName := ⟨RX3, "shut", "(IZ)I"⟩
def dkwX3_shut_2 : List UInt8 := [42, 27, 16, 7, 182, 0, 79, 160, 0, 7, 3, 167, 0, 4, 4, 172]
abbrev dktX3_shut_2 : List UInt8 := dkwX3_shut_2 ++ []
def dkwX3_shut_1 : List UInt8 := [180, 0, 7, 16, 9, 16, 8, 27, 104, 96, 16, 7, 96, 28, 153, 0, 7, 4, 167, 0, 4, 3, 79, 29]
abbrev dktX3_shut_1 : List UInt8 := dkwX3_shut_1 ++ dktX3_shut_2
def dkwX3_shut_0 : List UInt8 := [42, 27, 182, 0, 83, 154, 0, 10, 42, 18, 53, 182, 0, 59, 172, 42, 27, 16, 7, 182, 0, 79, 62, 42]
abbrev dktX3_shut_0 : List UInt8 := dkwX3_shut_0 ++ dktX3_shut_1
theorem dksX3_shut_0 : cX3_shut.data.toList.drop 0 = dktX3_shut_0 := by decide +kernel
theorem dksX3_shut_1 : cX3_shut.data.toList.drop 24 = dktX3_shut_1 := dk_seg dksX3_shut_0 24 rfl rfl
theorem dksX3_shut_2 : cX3_shut.data.toList.drop 48 = dktX3_shut_2 := dk_seg dksX3_shut_1 24 rfl rfl
theorem dX3_shut_0 : decode cX3_shut 0 = .ok (.aload_n 0, 1) := dk_42 (dk_at dksX3_shut_0 0 rfl rfl)
theorem dX3_shut_1 : decode cX3_shut 1 = .ok (.iload_n 1, 1) := dk_27 (dk_at dksX3_shut_0 1 rfl rfl)
theorem dX3_shut_2 : decode cX3_shut 2 = .ok (.invokevirtual 83, 3) := dk_182 0 83 (dk_at dksX3_shut_0 2 rfl rfl)
theorem dX3_shut_5 : decode cX3_shut 5 = .ok (.ifCond .ne 10, 3) := dk_154 0 10 (dk_at dksX3_shut_0 5 rfl rfl)
theorem dX3_shut_8 : decode cX3_shut 8 = .ok (.aload_n 0, 1) := dk_42 (dk_at dksX3_shut_0 8 rfl rfl)
theorem dX3_shut_9 : decode cX3_shut 9 = .ok (.ldc 53, 2) := dk_18 53 (dk_at dksX3_shut_0 9 rfl rfl)
theorem dX3_shut_11 : decode cX3_shut 11 = .ok (.invokevirtual 59, 3) := dk_182 0 59 (dk_at dksX3_shut_0 11 rfl rfl)
theorem dX3_shut_14 : decode cX3_shut 14 = .ok (.ireturn, 1) := dk_172 (dk_at dksX3_shut_0 14 rfl rfl)
theorem dX3_shut_15 : decode cX3_shut 15 = .ok (.aload_n 0, 1) := dk_42 (dk_at dksX3_shut_0 15 rfl rfl)
theorem dX3_shut_16 : decode cX3_shut 16 = .ok (.iload_n 1, 1) := dk_27 (dk_at dksX3_shut_0 16 rfl rfl)
theorem dX3_shut_17 : decode cX3_shut 17 = .ok (.bipush 7, 2) := dk_16 7 (dk_at dksX3_shut_0 17 rfl rfl)
theorem dX3_shut_19 : decode cX3_shut 19 = .ok (.invokevirtual 79, 3) := dk_182 0 79 (dk_at dksX3_shut_0 19 rfl rfl)
theorem dX3_shut_22 : decode cX3_shut 22 = .ok (.istore_n 3, 1) := dk_62 (dk_at dksX3_shut_0 22 rfl rfl)
theorem dX3_shut_23 : decode cX3_shut 23 = .ok (.aload_n 0, 1) := dk_42 (dk_at dksX3_shut_0 23 rfl rfl)
theorem dX3_shut_24 : decode cX3_shut 24 = .ok (.getfield 7, 3) := dk_180 0 7 (dk_at dksX3_shut_1 0 rfl rfl)
theorem dX3_shut_27 : decode cX3_shut 27 = .ok (.bipush 9, 2) := dk_16 9 (dk_at dksX3_shut_1 3 rfl rfl)
theorem dX3_shut_29 : decode cX3_shut 29 = .ok (.bipush 8, 2) := dk_16 8 (dk_at dksX3_shut_1 5 rfl rfl)
theorem dX3_shut_31 : decode cX3_shut 31 = .ok (.iload_n 1, 1) := dk_27 (dk_at dksX3_shut_1 7 rfl rfl)
theorem dX3_shut_32 : decode cX3_shut 32 = .ok (.imul, 1) := dk_104 (dk_at dksX3_shut_1 8 rfl rfl)
theorem dX3_shut_33 : decode cX3_shut 33 = .ok (.iadd, 1) := dk_96 (dk_at dksX3_shut_1 9 rfl rfl)
theorem dX3_shut_34 : decode cX3_shut 34 = .ok (.bipush 7, 2) := dk_16 7 (dk_at dksX3_shut_1 10 rfl rfl)
theorem dX3_shut_36 : decode cX3_shut 36 = .ok (.iadd, 1) := dk_96 (dk_at dksX3_shut_1 12 rfl rfl)
theorem dX3_shut_37 : decode cX3_shut 37 = .ok (.iload_n 2, 1) := dk_28 (dk_at dksX3_shut_1 13 rfl rfl)
theorem dX3_shut_38 : decode cX3_shut 38 = .ok (.ifCond .eq 7, 3) := dk_153 0 7 (dk_at dksX3_shut_1 14 rfl rfl)
theorem dX3_shut_41 : decode cX3_shut 41 = .ok (.iconst 1, 1) := dk_4 (dk_at dksX3_shut_1 17 rfl rfl)
theorem dX3_shut_42 : decode cX3_shut 42 = .ok (.goto 4, 3) := dk_167 0 4 (dk_at dksX3_shut_1 18 rfl rfl)
theorem dX3_shut_45 : decode cX3_shut 45 = .ok (.iconst 0, 1) := dk_3 (dk_at dksX3_shut_1 21 rfl rfl)
theorem dX3_shut_46 : decode cX3_shut 46 = .ok (.iastore, 1) := dk_79 (dk_at dksX3_shut_1 22 rfl rfl)
theorem dX3_shut_47 : decode cX3_shut 47 = .ok (.iload_n 3, 1) := dk_29 (dk_at dksX3_shut_1 23 rfl rfl)
theorem dX3_shut_48 : decode cX3_shut 48 = .ok (.aload_n 0, 1) := dk_42 (dk_at dksX3_shut_2 0 rfl rfl)
theorem dX3_shut_49 : decode cX3_shut 49 = .ok (.iload_n 1, 1) := dk_27 (dk_at dksX3_shut_2 1 rfl rfl)
theorem dX3_shut_50 : decode cX3_shut 50 = .ok (.bipush 7, 2) := dk_16 7 (dk_at dksX3_shut_2 2 rfl rfl)
theorem dX3_shut_52 : decode cX3_shut 52 = .ok (.invokevirtual 79, 3) := dk_182 0 79 (dk_at dksX3_shut_2 4 rfl rfl)
theorem dX3_shut_55 : decode cX3_shut 55 = .ok (.if_icmp .ne 7, 3) := dk_160 0 7 (dk_at dksX3_shut_2 7 rfl rfl)
theorem dX3_shut_58 : decode cX3_shut 58 = .ok (.iconst 0, 1) := dk_3 (dk_at dksX3_shut_2 10 rfl rfl)
theorem dX3_shut_59 : decode cX3_shut 59 = .ok (.goto 4, 3) := dk_167 0 4 (dk_at dksX3_shut_2 11 rfl rfl)
theorem dX3_shut_62 : decode cX3_shut 62 = .ok (.iconst 1, 1) := dk_4 (dk_at dksX3_shut_2 14 rfl rfl)
theorem dX3_shut_63 : decode cX3_shut 63 = .ok (.ireturn, 1) := dk_172 (dk_at dksX3_shut_2 15 rfl rfl)
abbrev cX3_as : ByteArray := prog_16_method_17_code
def yX3_as : MethodName := ⟨RX3, "as", "(II)I"⟩
def dkwX3_as_3 : List UInt8 := [167, 0, 9, 42, 18, 99, 182, 0, 59, 172]
abbrev dktX3_as_3 : List UInt8 := dkwX3_as_3 ++ []
def dkwX3_as_2 : List UInt8 := [27, 182, 0, 96, 153, 0, 7, 4, 167, 0, 4, 3, 62, 29, 153, 0, 11, 42, 27, 182, 0, 88]
abbrev dktX3_as_2 : List UInt8 := dkwX3_as_2 ++ dktX3_as_3
def dkwX3_as_1 : List UInt8 := [182, 0, 59, 172, 28, 153, 0, 26, 42, 27, 3, 182, 0, 79, 28, 159, 0, 16, 28, 5, 160, 0, 15, 42]
abbrev dktX3_as_1 : List UInt8 := dkwX3_as_1 ++ dktX3_as_2
def dkwX3_as_0 : List UInt8 := [42, 27, 182, 0, 83, 153, 0, 15, 28, 133, 9, 20, 0, 67, 184, 0, 54, 154, 0, 10, 42, 18, 53]
abbrev dktX3_as_0 : List UInt8 := dkwX3_as_0 ++ dktX3_as_1
theorem dksX3_as_0 : cX3_as.data.toList.drop 0 = dktX3_as_0 := by decide +kernel
theorem dksX3_as_1 : cX3_as.data.toList.drop 23 = dktX3_as_1 := dk_seg dksX3_as_0 23 rfl rfl
theorem dksX3_as_2 : cX3_as.data.toList.drop 47 = dktX3_as_2 := dk_seg dksX3_as_1 24 rfl rfl
theorem dksX3_as_3 : cX3_as.data.toList.drop 69 = dktX3_as_3 := dk_seg dksX3_as_2 22 rfl rfl
theorem dX3_as_0 : decode cX3_as 0 = .ok (.aload_n 0, 1) := dk_42 (dk_at dksX3_as_0 0 rfl rfl)
theorem dX3_as_1 : decode cX3_as 1 = .ok (.iload_n 1, 1) := dk_27 (dk_at dksX3_as_0 1 rfl rfl)
theorem dX3_as_2 : decode cX3_as 2 = .ok (.invokevirtual 83, 3) := dk_182 0 83 (dk_at dksX3_as_0 2 rfl rfl)
theorem dX3_as_5 : decode cX3_as 5 = .ok (.ifCond .eq 15, 3) := dk_153 0 15 (dk_at dksX3_as_0 5 rfl rfl)
theorem dX3_as_8 : decode cX3_as 8 = .ok (.iload_n 2, 1) := dk_28 (dk_at dksX3_as_0 8 rfl rfl)
theorem dX3_as_9 : decode cX3_as 9 = .ok (.i2l, 1) := dk_133 (dk_at dksX3_as_0 9 rfl rfl)
theorem dX3_as_10 : decode cX3_as 10 = .ok (.lconst 0, 1) := dk_9 (dk_at dksX3_as_0 10 rfl rfl)
theorem dX3_as_11 : decode cX3_as 11 = .ok (.ldc2_w 67, 3) := dk_20 0 67 (dk_at dksX3_as_0 11 rfl rfl)
theorem dX3_as_14 : decode cX3_as 14 = .ok (.invokestatic 54, 3) := dk_184 0 54 (dk_at dksX3_as_0 14 rfl rfl)
theorem dX3_as_17 : decode cX3_as 17 = .ok (.ifCond .ne 10, 3) := dk_154 0 10 (dk_at dksX3_as_0 17 rfl rfl)
theorem dX3_as_20 : decode cX3_as 20 = .ok (.aload_n 0, 1) := dk_42 (dk_at dksX3_as_0 20 rfl rfl)
theorem dX3_as_21 : decode cX3_as 21 = .ok (.ldc 53, 2) := dk_18 53 (dk_at dksX3_as_0 21 rfl rfl)
theorem dX3_as_23 : decode cX3_as 23 = .ok (.invokevirtual 59, 3) := dk_182 0 59 (dk_at dksX3_as_1 0 rfl rfl)
theorem dX3_as_26 : decode cX3_as 26 = .ok (.ireturn, 1) := dk_172 (dk_at dksX3_as_1 3 rfl rfl)
theorem dX3_as_27 : decode cX3_as 27 = .ok (.iload_n 2, 1) := dk_28 (dk_at dksX3_as_1 4 rfl rfl)
theorem dX3_as_28 : decode cX3_as 28 = .ok (.ifCond .eq 26, 3) := dk_153 0 26 (dk_at dksX3_as_1 5 rfl rfl)
theorem dX3_as_31 : decode cX3_as 31 = .ok (.aload_n 0, 1) := dk_42 (dk_at dksX3_as_1 8 rfl rfl)
theorem dX3_as_32 : decode cX3_as 32 = .ok (.iload_n 1, 1) := dk_27 (dk_at dksX3_as_1 9 rfl rfl)
theorem dX3_as_33 : decode cX3_as 33 = .ok (.iconst 0, 1) := dk_3 (dk_at dksX3_as_1 10 rfl rfl)
theorem dX3_as_34 : decode cX3_as 34 = .ok (.invokevirtual 79, 3) := dk_182 0 79 (dk_at dksX3_as_1 11 rfl rfl)
theorem dX3_as_37 : decode cX3_as 37 = .ok (.iload_n 2, 1) := dk_28 (dk_at dksX3_as_1 14 rfl rfl)
theorem dX3_as_38 : decode cX3_as 38 = .ok (.if_icmp .eq 16, 3) := dk_159 0 16 (dk_at dksX3_as_1 15 rfl rfl)
theorem dX3_as_41 : decode cX3_as 41 = .ok (.iload_n 2, 1) := dk_28 (dk_at dksX3_as_1 18 rfl rfl)
theorem dX3_as_42 : decode cX3_as 42 = .ok (.iconst 2, 1) := dk_5 (dk_at dksX3_as_1 19 rfl rfl)
theorem dX3_as_43 : decode cX3_as 43 = .ok (.if_icmp .ne 15, 3) := dk_160 0 15 (dk_at dksX3_as_1 20 rfl rfl)
theorem dX3_as_46 : decode cX3_as 46 = .ok (.aload_n 0, 1) := dk_42 (dk_at dksX3_as_1 23 rfl rfl)
theorem dX3_as_47 : decode cX3_as 47 = .ok (.iload_n 1, 1) := dk_27 (dk_at dksX3_as_2 0 rfl rfl)
theorem dX3_as_48 : decode cX3_as 48 = .ok (.invokevirtual 96, 3) := dk_182 0 96 (dk_at dksX3_as_2 1 rfl rfl)
theorem dX3_as_51 : decode cX3_as 51 = .ok (.ifCond .eq 7, 3) := dk_153 0 7 (dk_at dksX3_as_2 4 rfl rfl)
theorem dX3_as_54 : decode cX3_as 54 = .ok (.iconst 1, 1) := dk_4 (dk_at dksX3_as_2 7 rfl rfl)
theorem dX3_as_55 : decode cX3_as 55 = .ok (.goto 4, 3) := dk_167 0 4 (dk_at dksX3_as_2 8 rfl rfl)
theorem dX3_as_58 : decode cX3_as 58 = .ok (.iconst 0, 1) := dk_3 (dk_at dksX3_as_2 11 rfl rfl)
theorem dX3_as_59 : decode cX3_as 59 = .ok (.istore_n 3, 1) := dk_62 (dk_at dksX3_as_2 12 rfl rfl)
theorem dX3_as_60 : decode cX3_as 60 = .ok (.iload_n 3, 1) := dk_29 (dk_at dksX3_as_2 13 rfl rfl)
theorem dX3_as_61 : decode cX3_as 61 = .ok (.ifCond .eq 11, 3) := dk_153 0 11 (dk_at dksX3_as_2 14 rfl rfl)
theorem dX3_as_64 : decode cX3_as 64 = .ok (.aload_n 0, 1) := dk_42 (dk_at dksX3_as_2 17 rfl rfl)
theorem dX3_as_65 : decode cX3_as 65 = .ok (.iload_n 1, 1) := dk_27 (dk_at dksX3_as_2 18 rfl rfl)
theorem dX3_as_66 : decode cX3_as 66 = .ok (.invokevirtual 88, 3) := dk_182 0 88 (dk_at dksX3_as_2 19 rfl rfl)
theorem dX3_as_69 : decode cX3_as 69 = .ok (.goto 9, 3) := dk_167 0 9 (dk_at dksX3_as_3 0 rfl rfl)
theorem dX3_as_72 : decode cX3_as 72 = .ok (.aload_n 0, 1) := dk_42 (dk_at dksX3_as_3 3 rfl rfl)
theorem dX3_as_73 : decode cX3_as 73 = .ok (.ldc 99, 2) := dk_18 99 (dk_at dksX3_as_3 4 rfl rfl)
theorem dX3_as_75 : decode cX3_as 75 = .ok (.invokevirtual 59, 3) := dk_182 0 59 (dk_at dksX3_as_3 6 rfl rfl)
theorem dX3_as_78 : decode cX3_as 78 = .ok (.ireturn, 1) := dk_172 (dk_at dksX3_as_3 9 rfl rfl)
abbrev cX3_isNeeded : ByteArray := prog_16_method_16_code
def yX3_isNeeded : MethodName := ⟨RX3, "isNeeded", "(I)Z"⟩
def dkwX3_isNeeded_1 : List UInt8 := [3, 172]
abbrev dktX3_isNeeded_1 : List UInt8 := dkwX3_isNeeded_1 ++ []
def dkwX3_isNeeded_0 : List UInt8 := [42, 27, 3, 182, 0, 79, 5, 159, 0, 13, 42, 27, 3, 182, 0, 79, 8, 160, 0, 7, 4, 167, 0, 4]
abbrev dktX3_isNeeded_0 : List UInt8 := dkwX3_isNeeded_0 ++ dktX3_isNeeded_1
theorem dksX3_isNeeded_0 : cX3_isNeeded.data.toList.drop 0 = dktX3_isNeeded_0 := by decide +kernel
theorem dksX3_isNeeded_1 : cX3_isNeeded.data.toList.drop 24 = dktX3_isNeeded_1 := dk_seg dksX3_isNeeded_0 24 rfl rfl
theorem dX3_isNeeded_0 : decode cX3_isNeeded 0 = .ok (.aload_n 0, 1) := dk_42 (dk_at dksX3_isNeeded_0 0 rfl rfl)
theorem dX3_isNeeded_1 : decode cX3_isNeeded 1 = .ok (.iload_n 1, 1) := dk_27 (dk_at dksX3_isNeeded_0 1 rfl rfl)
theorem dX3_isNeeded_2 : decode cX3_isNeeded 2 = .ok (.iconst 0, 1) := dk_3 (dk_at dksX3_isNeeded_0 2 rfl rfl)
theorem dX3_isNeeded_3 : decode cX3_isNeeded 3 = .ok (.invokevirtual 79, 3) := dk_182 0 79 (dk_at dksX3_isNeeded_0 3 rfl rfl)
theorem dX3_isNeeded_6 : decode cX3_isNeeded 6 = .ok (.iconst 2, 1) := dk_5 (dk_at dksX3_isNeeded_0 6 rfl rfl)
theorem dX3_isNeeded_7 : decode cX3_isNeeded 7 = .ok (.if_icmp .eq 13, 3) := dk_159 0 13 (dk_at dksX3_isNeeded_0 7 rfl rfl)
theorem dX3_isNeeded_10 : decode cX3_isNeeded 10 = .ok (.aload_n 0, 1) := dk_42 (dk_at dksX3_isNeeded_0 10 rfl rfl)
theorem dX3_isNeeded_11 : decode cX3_isNeeded 11 = .ok (.iload_n 1, 1) := dk_27 (dk_at dksX3_isNeeded_0 11 rfl rfl)
theorem dX3_isNeeded_12 : decode cX3_isNeeded 12 = .ok (.iconst 0, 1) := dk_3 (dk_at dksX3_isNeeded_0 12 rfl rfl)
theorem dX3_isNeeded_13 : decode cX3_isNeeded 13 = .ok (.invokevirtual 79, 3) := dk_182 0 79 (dk_at dksX3_isNeeded_0 13 rfl rfl)
theorem dX3_isNeeded_16 : decode cX3_isNeeded 16 = .ok (.iconst 5, 1) := dk_8 (dk_at dksX3_isNeeded_0 16 rfl rfl)
theorem dX3_isNeeded_17 : decode cX3_isNeeded 17 = .ok (.if_icmp .ne 7, 3) := dk_160 0 7 (dk_at dksX3_isNeeded_0 17 rfl rfl)
theorem dX3_isNeeded_20 : decode cX3_isNeeded 20 = .ok (.iconst 1, 1) := dk_4 (dk_at dksX3_isNeeded_0 20 rfl rfl)
theorem dX3_isNeeded_21 : decode cX3_isNeeded 21 = .ok (.goto 4, 3) := dk_167 0 4 (dk_at dksX3_isNeeded_0 21 rfl rfl)
theorem dX3_isNeeded_24 : decode cX3_isNeeded 24 = .ok (.iconst 0, 1) := dk_3 (dk_at dksX3_isNeeded_1 0 rfl rfl)
theorem dX3_isNeeded_25 : decode cX3_isNeeded 25 = .ok (.ireturn, 1) := dk_172 (dk_at dksX3_isNeeded_1 1 rfl rfl)
abbrev cX3_night : ByteArray := prog_16_method_20_code
def yX3_night : MethodName := ⟨RX3, "night", "(II)I"⟩
def dkwX3_night_2 : List UInt8 := [180, 0, 7, 5, 27, 96, 28, 79, 29, 172]
abbrev dktX3_night_2 : List UInt8 := dkwX3_night_2 ++ []
def dkwX3_night_1 : List UInt8 := [184, 0, 54, 154, 0, 10, 42, 18, 53, 182, 0, 59, 172, 42, 180, 0, 7, 5, 27, 96, 46, 62, 42]
abbrev dktX3_night_1 : List UInt8 := dkwX3_night_1 ++ dktX3_night_2
def dkwX3_night_0 : List UInt8 := [27, 133, 9, 20, 0, 67, 184, 0, 54, 153, 0, 21, 28, 133, 27, 184, 0, 100, 133, 27, 184, 0, 103, 133]
abbrev dktX3_night_0 : List UInt8 := dkwX3_night_0 ++ dktX3_night_1
theorem dksX3_night_0 : cX3_night.data.toList.drop 0 = dktX3_night_0 := by decide +kernel
theorem dksX3_night_1 : cX3_night.data.toList.drop 24 = dktX3_night_1 := dk_seg dksX3_night_0 24 rfl rfl
theorem dksX3_night_2 : cX3_night.data.toList.drop 47 = dktX3_night_2 := dk_seg dksX3_night_1 23 rfl rfl
theorem dX3_night_0 : decode cX3_night 0 = .ok (.iload_n 1, 1) := dk_27 (dk_at dksX3_night_0 0 rfl rfl)
theorem dX3_night_1 : decode cX3_night 1 = .ok (.i2l, 1) := dk_133 (dk_at dksX3_night_0 1 rfl rfl)
theorem dX3_night_2 : decode cX3_night 2 = .ok (.lconst 0, 1) := dk_9 (dk_at dksX3_night_0 2 rfl rfl)
theorem dX3_night_3 : decode cX3_night 3 = .ok (.ldc2_w 67, 3) := dk_20 0 67 (dk_at dksX3_night_0 3 rfl rfl)
theorem dX3_night_6 : decode cX3_night 6 = .ok (.invokestatic 54, 3) := dk_184 0 54 (dk_at dksX3_night_0 6 rfl rfl)
theorem dX3_night_9 : decode cX3_night 9 = .ok (.ifCond .eq 21, 3) := dk_153 0 21 (dk_at dksX3_night_0 9 rfl rfl)
theorem dX3_night_12 : decode cX3_night 12 = .ok (.iload_n 2, 1) := dk_28 (dk_at dksX3_night_0 12 rfl rfl)
theorem dX3_night_13 : decode cX3_night 13 = .ok (.i2l, 1) := dk_133 (dk_at dksX3_night_0 13 rfl rfl)
theorem dX3_night_14 : decode cX3_night 14 = .ok (.iload_n 1, 1) := dk_27 (dk_at dksX3_night_0 14 rfl rfl)
theorem dX3_night_15 : decode cX3_night 15 = .ok (.invokestatic 100, 3) := dk_184 0 100 (dk_at dksX3_night_0 15 rfl rfl)
theorem dX3_night_18 : decode cX3_night 18 = .ok (.i2l, 1) := dk_133 (dk_at dksX3_night_0 18 rfl rfl)
theorem dX3_night_19 : decode cX3_night 19 = .ok (.iload_n 1, 1) := dk_27 (dk_at dksX3_night_0 19 rfl rfl)
theorem dX3_night_20 : decode cX3_night 20 = .ok (.invokestatic 103, 3) := dk_184 0 103 (dk_at dksX3_night_0 20 rfl rfl)
theorem dX3_night_23 : decode cX3_night 23 = .ok (.i2l, 1) := dk_133 (dk_at dksX3_night_0 23 rfl rfl)
theorem dX3_night_24 : decode cX3_night 24 = .ok (.invokestatic 54, 3) := dk_184 0 54 (dk_at dksX3_night_1 0 rfl rfl)
theorem dX3_night_27 : decode cX3_night 27 = .ok (.ifCond .ne 10, 3) := dk_154 0 10 (dk_at dksX3_night_1 3 rfl rfl)
theorem dX3_night_30 : decode cX3_night 30 = .ok (.aload_n 0, 1) := dk_42 (dk_at dksX3_night_1 6 rfl rfl)
theorem dX3_night_31 : decode cX3_night 31 = .ok (.ldc 53, 2) := dk_18 53 (dk_at dksX3_night_1 7 rfl rfl)
theorem dX3_night_33 : decode cX3_night 33 = .ok (.invokevirtual 59, 3) := dk_182 0 59 (dk_at dksX3_night_1 9 rfl rfl)
theorem dX3_night_36 : decode cX3_night 36 = .ok (.ireturn, 1) := dk_172 (dk_at dksX3_night_1 12 rfl rfl)
theorem dX3_night_37 : decode cX3_night 37 = .ok (.aload_n 0, 1) := dk_42 (dk_at dksX3_night_1 13 rfl rfl)
theorem dX3_night_38 : decode cX3_night 38 = .ok (.getfield 7, 3) := dk_180 0 7 (dk_at dksX3_night_1 14 rfl rfl)
theorem dX3_night_41 : decode cX3_night 41 = .ok (.iconst 2, 1) := dk_5 (dk_at dksX3_night_1 17 rfl rfl)
theorem dX3_night_42 : decode cX3_night 42 = .ok (.iload_n 1, 1) := dk_27 (dk_at dksX3_night_1 18 rfl rfl)
theorem dX3_night_43 : decode cX3_night 43 = .ok (.iadd, 1) := dk_96 (dk_at dksX3_night_1 19 rfl rfl)
theorem dX3_night_44 : decode cX3_night 44 = .ok (.iaload, 1) := dk_46 (dk_at dksX3_night_1 20 rfl rfl)
theorem dX3_night_45 : decode cX3_night 45 = .ok (.istore_n 3, 1) := dk_62 (dk_at dksX3_night_1 21 rfl rfl)
theorem dX3_night_46 : decode cX3_night 46 = .ok (.aload_n 0, 1) := dk_42 (dk_at dksX3_night_1 22 rfl rfl)
theorem dX3_night_47 : decode cX3_night 47 = .ok (.getfield 7, 3) := dk_180 0 7 (dk_at dksX3_night_2 0 rfl rfl)
theorem dX3_night_50 : decode cX3_night 50 = .ok (.iconst 2, 1) := dk_5 (dk_at dksX3_night_2 3 rfl rfl)
theorem dX3_night_51 : decode cX3_night 51 = .ok (.iload_n 1, 1) := dk_27 (dk_at dksX3_night_2 4 rfl rfl)
theorem dX3_night_52 : decode cX3_night 52 = .ok (.iadd, 1) := dk_96 (dk_at dksX3_night_2 5 rfl rfl)
theorem dX3_night_53 : decode cX3_night 53 = .ok (.iload_n 2, 1) := dk_28 (dk_at dksX3_night_2 6 rfl rfl)
theorem dX3_night_54 : decode cX3_night 54 = .ok (.iastore, 1) := dk_79 (dk_at dksX3_night_2 7 rfl rfl)
theorem dX3_night_55 : decode cX3_night 55 = .ok (.iload_n 3, 1) := dk_29 (dk_at dksX3_night_2 8 rfl rfl)
theorem dX3_night_56 : decode cX3_night 56 = .ok (.ireturn, 1) := dk_172 (dk_at dksX3_night_2 9 rfl rfl)
abbrev cX3_leastOf : ByteArray := prog_16_method_18_code
def yX3_leastOf : MethodName := ⟨RX3, "leastOf", "(I)I"⟩
def dkwX3_leastOf_0 : List UInt8 := [26, 6, 160, 0, 8, 16, 157, 167, 0, 4, 3, 172]
abbrev dktX3_leastOf_0 : List UInt8 := dkwX3_leastOf_0 ++ []
theorem dksX3_leastOf_0 : cX3_leastOf.data.toList.drop 0 = dktX3_leastOf_0 := by decide +kernel
theorem dX3_leastOf_0 : decode cX3_leastOf 0 = .ok (.iload_n 0, 1) := dk_26 (dk_at dksX3_leastOf_0 0 rfl rfl)
theorem dX3_leastOf_1 : decode cX3_leastOf 1 = .ok (.iconst 3, 1) := dk_6 (dk_at dksX3_leastOf_0 1 rfl rfl)
theorem dX3_leastOf_2 : decode cX3_leastOf 2 = .ok (.if_icmp .ne 8, 3) := dk_160 0 8 (dk_at dksX3_leastOf_0 2 rfl rfl)
theorem dX3_leastOf_5 : decode cX3_leastOf 5 = .ok (.bipush (-99), 2) := dk_16 157 (dk_at dksX3_leastOf_0 5 rfl rfl)
theorem dX3_leastOf_7 : decode cX3_leastOf 7 = .ok (.goto 4, 3) := dk_167 0 4 (dk_at dksX3_leastOf_0 7 rfl rfl)
theorem dX3_leastOf_10 : decode cX3_leastOf 10 = .ok (.iconst 0, 1) := dk_3 (dk_at dksX3_leastOf_0 10 rfl rfl)
theorem dX3_leastOf_11 : decode cX3_leastOf 11 = .ok (.ireturn, 1) := dk_172 (dk_at dksX3_leastOf_0 11 rfl rfl)
abbrev cX3_mostOf : ByteArray := prog_16_method_19_code
def yX3_mostOf : MethodName := ⟨RX3, "mostOf", "(I)I"⟩
def dkwX3_mostOf_1 : List UInt8 := [16, 100, 167, 0, 5, 16, 99, 172]
abbrev dktX3_mostOf_1 : List UInt8 := dkwX3_mostOf_1 ++ []
def dkwX3_mostOf_0 : List UInt8 := [26, 154, 0, 8, 16, 40, 167, 0, 24, 26, 5, 160, 0, 7, 6, 167, 0, 15, 26, 8, 160, 0, 8]
abbrev dktX3_mostOf_0 : List UInt8 := dkwX3_mostOf_0 ++ dktX3_mostOf_1
theorem dksX3_mostOf_0 : cX3_mostOf.data.toList.drop 0 = dktX3_mostOf_0 := by decide +kernel
theorem dksX3_mostOf_1 : cX3_mostOf.data.toList.drop 23 = dktX3_mostOf_1 := dk_seg dksX3_mostOf_0 23 rfl rfl
theorem dX3_mostOf_0 : decode cX3_mostOf 0 = .ok (.iload_n 0, 1) := dk_26 (dk_at dksX3_mostOf_0 0 rfl rfl)
theorem dX3_mostOf_1 : decode cX3_mostOf 1 = .ok (.ifCond .ne 8, 3) := dk_154 0 8 (dk_at dksX3_mostOf_0 1 rfl rfl)
theorem dX3_mostOf_4 : decode cX3_mostOf 4 = .ok (.bipush 40, 2) := dk_16 40 (dk_at dksX3_mostOf_0 4 rfl rfl)
theorem dX3_mostOf_6 : decode cX3_mostOf 6 = .ok (.goto 24, 3) := dk_167 0 24 (dk_at dksX3_mostOf_0 6 rfl rfl)
theorem dX3_mostOf_9 : decode cX3_mostOf 9 = .ok (.iload_n 0, 1) := dk_26 (dk_at dksX3_mostOf_0 9 rfl rfl)
theorem dX3_mostOf_10 : decode cX3_mostOf 10 = .ok (.iconst 2, 1) := dk_5 (dk_at dksX3_mostOf_0 10 rfl rfl)
theorem dX3_mostOf_11 : decode cX3_mostOf 11 = .ok (.if_icmp .ne 7, 3) := dk_160 0 7 (dk_at dksX3_mostOf_0 11 rfl rfl)
theorem dX3_mostOf_14 : decode cX3_mostOf 14 = .ok (.iconst 3, 1) := dk_6 (dk_at dksX3_mostOf_0 14 rfl rfl)
theorem dX3_mostOf_15 : decode cX3_mostOf 15 = .ok (.goto 15, 3) := dk_167 0 15 (dk_at dksX3_mostOf_0 15 rfl rfl)
theorem dX3_mostOf_18 : decode cX3_mostOf 18 = .ok (.iload_n 0, 1) := dk_26 (dk_at dksX3_mostOf_0 18 rfl rfl)
theorem dX3_mostOf_19 : decode cX3_mostOf 19 = .ok (.iconst 5, 1) := dk_8 (dk_at dksX3_mostOf_0 19 rfl rfl)
theorem dX3_mostOf_20 : decode cX3_mostOf 20 = .ok (.if_icmp .ne 8, 3) := dk_160 0 8 (dk_at dksX3_mostOf_0 20 rfl rfl)
theorem dX3_mostOf_23 : decode cX3_mostOf 23 = .ok (.bipush 100, 2) := dk_16 100 (dk_at dksX3_mostOf_1 0 rfl rfl)
theorem dX3_mostOf_25 : decode cX3_mostOf 25 = .ok (.goto 5, 3) := dk_167 0 5 (dk_at dksX3_mostOf_1 2 rfl rfl)
theorem dX3_mostOf_28 : decode cX3_mostOf 28 = .ok (.bipush 99, 2) := dk_16 99 (dk_at dksX3_mostOf_1 5 rfl rfl)
theorem dX3_mostOf_30 : decode cX3_mostOf 30 = .ok (.ireturn, 1) := dk_172 (dk_at dksX3_mostOf_1 7 rfl rfl)
abbrev cX3_feed : ByteArray := prog_16_method_21_code
def yX3_feed : MethodName := ⟨RX3, "feed", "(II)I"⟩
def dkwX3_feed_3 : List UInt8 := [96, 181, 0, 108, 132, 3, 255, 167, 255, 220, 42, 180, 0, 108, 172]
abbrev dktX3_feed_3 : List UInt8 := dkwX3_feed_3 ++ []
def dkwX3_feed_2 : List UInt8 := [180, 0, 22, 42, 180, 0, 108, 27, 16, 8, 29, 104, 122, 17, 0, 255, 126, 79, 42, 89, 180, 0, 108, 4]
abbrev dktX3_feed_2 : List UInt8 := dkwX3_feed_2 ++ dktX3_feed_3
def dkwX3_feed_1 : List UInt8 := [96, 16, 120, 164, 0, 10, 42, 18, 58, 182, 0, 59, 172, 28, 4, 100, 62, 29, 155, 0, 38, 42]
abbrev dktX3_feed_1 : List UInt8 := dkwX3_feed_1 ++ dktX3_feed_2
def dkwX3_feed_0 : List UInt8 := [28, 133, 10, 20, 0, 106, 184, 0, 54, 154, 0, 10, 42, 18, 53, 182, 0, 59, 172, 42, 180, 0, 108, 28]
abbrev dktX3_feed_0 : List UInt8 := dkwX3_feed_0 ++ dktX3_feed_1
theorem dksX3_feed_0 : cX3_feed.data.toList.drop 0 = dktX3_feed_0 := by decide +kernel
theorem dksX3_feed_1 : cX3_feed.data.toList.drop 24 = dktX3_feed_1 := dk_seg dksX3_feed_0 24 rfl rfl
theorem dksX3_feed_2 : cX3_feed.data.toList.drop 46 = dktX3_feed_2 := dk_seg dksX3_feed_1 22 rfl rfl
theorem dksX3_feed_3 : cX3_feed.data.toList.drop 70 = dktX3_feed_3 := dk_seg dksX3_feed_2 24 rfl rfl
theorem dX3_feed_0 : decode cX3_feed 0 = .ok (.iload_n 2, 1) := dk_28 (dk_at dksX3_feed_0 0 rfl rfl)
theorem dX3_feed_1 : decode cX3_feed 1 = .ok (.i2l, 1) := dk_133 (dk_at dksX3_feed_0 1 rfl rfl)
theorem dX3_feed_2 : decode cX3_feed 2 = .ok (.lconst 1, 1) := dk_10 (dk_at dksX3_feed_0 2 rfl rfl)
theorem dX3_feed_3 : decode cX3_feed 3 = .ok (.ldc2_w 106, 3) := dk_20 0 106 (dk_at dksX3_feed_0 3 rfl rfl)
theorem dX3_feed_6 : decode cX3_feed 6 = .ok (.invokestatic 54, 3) := dk_184 0 54 (dk_at dksX3_feed_0 6 rfl rfl)
theorem dX3_feed_9 : decode cX3_feed 9 = .ok (.ifCond .ne 10, 3) := dk_154 0 10 (dk_at dksX3_feed_0 9 rfl rfl)
theorem dX3_feed_12 : decode cX3_feed 12 = .ok (.aload_n 0, 1) := dk_42 (dk_at dksX3_feed_0 12 rfl rfl)
theorem dX3_feed_13 : decode cX3_feed 13 = .ok (.ldc 53, 2) := dk_18 53 (dk_at dksX3_feed_0 13 rfl rfl)
theorem dX3_feed_15 : decode cX3_feed 15 = .ok (.invokevirtual 59, 3) := dk_182 0 59 (dk_at dksX3_feed_0 15 rfl rfl)
theorem dX3_feed_18 : decode cX3_feed 18 = .ok (.ireturn, 1) := dk_172 (dk_at dksX3_feed_0 18 rfl rfl)
theorem dX3_feed_19 : decode cX3_feed 19 = .ok (.aload_n 0, 1) := dk_42 (dk_at dksX3_feed_0 19 rfl rfl)
theorem dX3_feed_20 : decode cX3_feed 20 = .ok (.getfield 108, 3) := dk_180 0 108 (dk_at dksX3_feed_0 20 rfl rfl)
theorem dX3_feed_23 : decode cX3_feed 23 = .ok (.iload_n 2, 1) := dk_28 (dk_at dksX3_feed_0 23 rfl rfl)
theorem dX3_feed_24 : decode cX3_feed 24 = .ok (.iadd, 1) := dk_96 (dk_at dksX3_feed_1 0 rfl rfl)
theorem dX3_feed_25 : decode cX3_feed 25 = .ok (.bipush 120, 2) := dk_16 120 (dk_at dksX3_feed_1 1 rfl rfl)
theorem dX3_feed_27 : decode cX3_feed 27 = .ok (.if_icmp .le 10, 3) := dk_164 0 10 (dk_at dksX3_feed_1 3 rfl rfl)
theorem dX3_feed_30 : decode cX3_feed 30 = .ok (.aload_n 0, 1) := dk_42 (dk_at dksX3_feed_1 6 rfl rfl)
theorem dX3_feed_31 : decode cX3_feed 31 = .ok (.ldc 58, 2) := dk_18 58 (dk_at dksX3_feed_1 7 rfl rfl)
theorem dX3_feed_33 : decode cX3_feed 33 = .ok (.invokevirtual 59, 3) := dk_182 0 59 (dk_at dksX3_feed_1 9 rfl rfl)
theorem dX3_feed_36 : decode cX3_feed 36 = .ok (.ireturn, 1) := dk_172 (dk_at dksX3_feed_1 12 rfl rfl)
theorem dX3_feed_37 : decode cX3_feed 37 = .ok (.iload_n 2, 1) := dk_28 (dk_at dksX3_feed_1 13 rfl rfl)
theorem dX3_feed_38 : decode cX3_feed 38 = .ok (.iconst 1, 1) := dk_4 (dk_at dksX3_feed_1 14 rfl rfl)
theorem dX3_feed_39 : decode cX3_feed 39 = .ok (.isub, 1) := dk_100 (dk_at dksX3_feed_1 15 rfl rfl)
theorem dX3_feed_40 : decode cX3_feed 40 = .ok (.istore_n 3, 1) := dk_62 (dk_at dksX3_feed_1 16 rfl rfl)
theorem dX3_feed_41 : decode cX3_feed 41 = .ok (.iload_n 3, 1) := dk_29 (dk_at dksX3_feed_1 17 rfl rfl)
theorem dX3_feed_42 : decode cX3_feed 42 = .ok (.ifCond .lt 38, 3) := dk_155 0 38 (dk_at dksX3_feed_1 18 rfl rfl)
theorem dX3_feed_45 : decode cX3_feed 45 = .ok (.aload_n 0, 1) := dk_42 (dk_at dksX3_feed_1 21 rfl rfl)
theorem dX3_feed_46 : decode cX3_feed 46 = .ok (.getfield 22, 3) := dk_180 0 22 (dk_at dksX3_feed_2 0 rfl rfl)
theorem dX3_feed_49 : decode cX3_feed 49 = .ok (.aload_n 0, 1) := dk_42 (dk_at dksX3_feed_2 3 rfl rfl)
theorem dX3_feed_50 : decode cX3_feed 50 = .ok (.getfield 108, 3) := dk_180 0 108 (dk_at dksX3_feed_2 4 rfl rfl)
theorem dX3_feed_53 : decode cX3_feed 53 = .ok (.iload_n 1, 1) := dk_27 (dk_at dksX3_feed_2 7 rfl rfl)
theorem dX3_feed_54 : decode cX3_feed 54 = .ok (.bipush 8, 2) := dk_16 8 (dk_at dksX3_feed_2 8 rfl rfl)
theorem dX3_feed_56 : decode cX3_feed 56 = .ok (.iload_n 3, 1) := dk_29 (dk_at dksX3_feed_2 10 rfl rfl)
theorem dX3_feed_57 : decode cX3_feed 57 = .ok (.imul, 1) := dk_104 (dk_at dksX3_feed_2 11 rfl rfl)
theorem dX3_feed_58 : decode cX3_feed 58 = .ok (.ishr, 1) := dk_122 (dk_at dksX3_feed_2 12 rfl rfl)
theorem dX3_feed_59 : decode cX3_feed 59 = .ok (.sipush 255, 3) := dk_17 0 255 (dk_at dksX3_feed_2 13 rfl rfl)
theorem dX3_feed_62 : decode cX3_feed 62 = .ok (.iand, 1) := dk_126 (dk_at dksX3_feed_2 16 rfl rfl)
theorem dX3_feed_63 : decode cX3_feed 63 = .ok (.iastore, 1) := dk_79 (dk_at dksX3_feed_2 17 rfl rfl)
theorem dX3_feed_64 : decode cX3_feed 64 = .ok (.aload_n 0, 1) := dk_42 (dk_at dksX3_feed_2 18 rfl rfl)
theorem dX3_feed_65 : decode cX3_feed 65 = .ok (.dup, 1) := dk_89 (dk_at dksX3_feed_2 19 rfl rfl)
theorem dX3_feed_66 : decode cX3_feed 66 = .ok (.getfield 108, 3) := dk_180 0 108 (dk_at dksX3_feed_2 20 rfl rfl)
theorem dX3_feed_69 : decode cX3_feed 69 = .ok (.iconst 1, 1) := dk_4 (dk_at dksX3_feed_2 23 rfl rfl)
theorem dX3_feed_70 : decode cX3_feed 70 = .ok (.iadd, 1) := dk_96 (dk_at dksX3_feed_3 0 rfl rfl)
theorem dX3_feed_71 : decode cX3_feed 71 = .ok (.putfield 108, 3) := dk_181 0 108 (dk_at dksX3_feed_3 1 rfl rfl)
theorem dX3_feed_74 : decode cX3_feed 74 = .ok (.iinc 3 (-1), 3) := dk_132 3 255 (dk_at dksX3_feed_3 4 rfl rfl)
theorem dX3_feed_77 : decode cX3_feed 77 = .ok (.goto (-36), 3) := dk_167 255 220 (dk_at dksX3_feed_3 7 rfl rfl)
theorem dX3_feed_80 : decode cX3_feed 80 = .ok (.aload_n 0, 1) := dk_42 (dk_at dksX3_feed_3 10 rfl rfl)
theorem dX3_feed_81 : decode cX3_feed 81 = .ok (.getfield 108, 3) := dk_180 0 108 (dk_at dksX3_feed_3 11 rfl rfl)
theorem dX3_feed_84 : decode cX3_feed 84 = .ok (.ireturn, 1) := dk_172 (dk_at dksX3_feed_3 14 rfl rfl)
abbrev cX3_wipe : ByteArray := prog_16_method_22_code
def yX3_wipe : MethodName := ⟨RX3, "wipe", "()I"⟩
def dkwX3_wipe_0 : List UInt8 := [42, 180, 0, 108, 60, 42, 3, 181, 0, 108, 27, 172]
abbrev dktX3_wipe_0 : List UInt8 := dkwX3_wipe_0 ++ []
theorem dksX3_wipe_0 : cX3_wipe.data.toList.drop 0 = dktX3_wipe_0 := by decide +kernel
theorem dX3_wipe_0 : decode cX3_wipe 0 = .ok (.aload_n 0, 1) := dk_42 (dk_at dksX3_wipe_0 0 rfl rfl)
theorem dX3_wipe_1 : decode cX3_wipe 1 = .ok (.getfield 108, 3) := dk_180 0 108 (dk_at dksX3_wipe_0 1 rfl rfl)
theorem dX3_wipe_4 : decode cX3_wipe 4 = .ok (.istore_n 1, 1) := dk_60 (dk_at dksX3_wipe_0 4 rfl rfl)
theorem dX3_wipe_5 : decode cX3_wipe 5 = .ok (.aload_n 0, 1) := dk_42 (dk_at dksX3_wipe_0 5 rfl rfl)
theorem dX3_wipe_6 : decode cX3_wipe 6 = .ok (.iconst 0, 1) := dk_3 (dk_at dksX3_wipe_0 6 rfl rfl)
theorem dX3_wipe_7 : decode cX3_wipe 7 = .ok (.putfield 108, 3) := dk_181 0 108 (dk_at dksX3_wipe_0 7 rfl rfl)
theorem dX3_wipe_10 : decode cX3_wipe 10 = .ok (.iload_n 1, 1) := dk_27 (dk_at dksX3_wipe_0 10 rfl rfl)
theorem dX3_wipe_11 : decode cX3_wipe 11 = .ok (.ireturn, 1) := dk_172 (dk_at dksX3_wipe_0 11 rfl rfl)
abbrev cX3_house : ByteArray := prog_16_method_39_code
def yX3_house : MethodName := ⟨RX3, "house", "()I"⟩
def dkwX3_house_4 : List UInt8 := [100, 172, 27, 172]
abbrev dktX3_house_4 : List UInt8 := dkwX3_house_4 ++ []
def dkwX3_house_3 : List UInt8 := [167, 255, 209, 42, 3, 181, 0, 108, 42, 180, 0, 135, 153, 0, 14, 42, 182, 0, 183, 2, 42, 180, 0, 123]
abbrev dktX3_house_3 : List UInt8 := dkwX3_house_3 ++ dktX3_house_4
def dkwX3_house_2 : List UInt8 := [182, 0, 126, 16, 44, 160, 0, 7, 4, 167, 0, 4, 3, 182, 0, 149, 42, 182, 0, 180, 132, 1, 1]
abbrev dktX3_house_2 : List UInt8 := dkwX3_house_2 ++ dktX3_house_3
def dkwX3_house_1 : List UInt8 := [42, 180, 0, 135, 154, 0, 46, 42, 180, 0, 123, 42, 180, 0, 108, 162, 0, 35, 42, 42, 42, 180, 0, 123]
abbrev dktX3_house_1 : List UInt8 := dkwX3_house_1 ++ dktX3_house_2
def dkwX3_house_0 : List UInt8 := [42, 182, 0, 177, 42, 3, 181, 0, 120, 42, 3, 181, 0, 135, 42, 182, 0, 139, 4, 60, 42, 182, 0, 180]
abbrev dktX3_house_0 : List UInt8 := dkwX3_house_0 ++ dktX3_house_1
theorem dksX3_house_0 : cX3_house.data.toList.drop 0 = dktX3_house_0 := by decide +kernel
theorem dksX3_house_1 : cX3_house.data.toList.drop 24 = dktX3_house_1 := dk_seg dksX3_house_0 24 rfl rfl
theorem dksX3_house_2 : cX3_house.data.toList.drop 48 = dktX3_house_2 := dk_seg dksX3_house_1 24 rfl rfl
theorem dksX3_house_3 : cX3_house.data.toList.drop 71 = dktX3_house_3 := dk_seg dksX3_house_2 23 rfl rfl
theorem dksX3_house_4 : cX3_house.data.toList.drop 95 = dktX3_house_4 := dk_seg dksX3_house_3 24 rfl rfl
theorem dX3_house_0 : decode cX3_house 0 = .ok (.aload_n 0, 1) := dk_42 (dk_at dksX3_house_0 0 rfl rfl)
theorem dX3_house_1 : decode cX3_house 1 = .ok (.invokevirtual 177, 3) := dk_182 0 177 (dk_at dksX3_house_0 1 rfl rfl)
theorem dX3_house_4 : decode cX3_house 4 = .ok (.aload_n 0, 1) := dk_42 (dk_at dksX3_house_0 4 rfl rfl)
theorem dX3_house_5 : decode cX3_house 5 = .ok (.iconst 0, 1) := dk_3 (dk_at dksX3_house_0 5 rfl rfl)
theorem dX3_house_6 : decode cX3_house 6 = .ok (.putfield 120, 3) := dk_181 0 120 (dk_at dksX3_house_0 6 rfl rfl)
theorem dX3_house_9 : decode cX3_house 9 = .ok (.aload_n 0, 1) := dk_42 (dk_at dksX3_house_0 9 rfl rfl)
theorem dX3_house_10 : decode cX3_house 10 = .ok (.iconst 0, 1) := dk_3 (dk_at dksX3_house_0 10 rfl rfl)
theorem dX3_house_11 : decode cX3_house 11 = .ok (.putfield 135, 3) := dk_181 0 135 (dk_at dksX3_house_0 11 rfl rfl)
theorem dX3_house_14 : decode cX3_house 14 = .ok (.aload_n 0, 1) := dk_42 (dk_at dksX3_house_0 14 rfl rfl)
theorem dX3_house_15 : decode cX3_house 15 = .ok (.invokevirtual 139, 3) := dk_182 0 139 (dk_at dksX3_house_0 15 rfl rfl)
theorem dX3_house_18 : decode cX3_house 18 = .ok (.iconst 1, 1) := dk_4 (dk_at dksX3_house_0 18 rfl rfl)
theorem dX3_house_19 : decode cX3_house 19 = .ok (.istore_n 1, 1) := dk_60 (dk_at dksX3_house_0 19 rfl rfl)
theorem dX3_house_20 : decode cX3_house 20 = .ok (.aload_n 0, 1) := dk_42 (dk_at dksX3_house_0 20 rfl rfl)
theorem dX3_house_21 : decode cX3_house 21 = .ok (.invokevirtual 180, 3) := dk_182 0 180 (dk_at dksX3_house_0 21 rfl rfl)
theorem dX3_house_24 : decode cX3_house 24 = .ok (.aload_n 0, 1) := dk_42 (dk_at dksX3_house_1 0 rfl rfl)
theorem dX3_house_25 : decode cX3_house 25 = .ok (.getfield 135, 3) := dk_180 0 135 (dk_at dksX3_house_1 1 rfl rfl)
theorem dX3_house_28 : decode cX3_house 28 = .ok (.ifCond .ne 46, 3) := dk_154 0 46 (dk_at dksX3_house_1 4 rfl rfl)
theorem dX3_house_31 : decode cX3_house 31 = .ok (.aload_n 0, 1) := dk_42 (dk_at dksX3_house_1 7 rfl rfl)
theorem dX3_house_32 : decode cX3_house 32 = .ok (.getfield 123, 3) := dk_180 0 123 (dk_at dksX3_house_1 8 rfl rfl)
theorem dX3_house_35 : decode cX3_house 35 = .ok (.aload_n 0, 1) := dk_42 (dk_at dksX3_house_1 11 rfl rfl)
theorem dX3_house_36 : decode cX3_house 36 = .ok (.getfield 108, 3) := dk_180 0 108 (dk_at dksX3_house_1 12 rfl rfl)
theorem dX3_house_39 : decode cX3_house 39 = .ok (.if_icmp .ge 35, 3) := dk_162 0 35 (dk_at dksX3_house_1 15 rfl rfl)
theorem dX3_house_42 : decode cX3_house 42 = .ok (.aload_n 0, 1) := dk_42 (dk_at dksX3_house_1 18 rfl rfl)
theorem dX3_house_43 : decode cX3_house 43 = .ok (.aload_n 0, 1) := dk_42 (dk_at dksX3_house_1 19 rfl rfl)
theorem dX3_house_44 : decode cX3_house 44 = .ok (.aload_n 0, 1) := dk_42 (dk_at dksX3_house_1 20 rfl rfl)
theorem dX3_house_45 : decode cX3_house 45 = .ok (.getfield 123, 3) := dk_180 0 123 (dk_at dksX3_house_1 21 rfl rfl)
theorem dX3_house_48 : decode cX3_house 48 = .ok (.invokevirtual 126, 3) := dk_182 0 126 (dk_at dksX3_house_2 0 rfl rfl)
theorem dX3_house_51 : decode cX3_house 51 = .ok (.bipush 44, 2) := dk_16 44 (dk_at dksX3_house_2 3 rfl rfl)
theorem dX3_house_53 : decode cX3_house 53 = .ok (.if_icmp .ne 7, 3) := dk_160 0 7 (dk_at dksX3_house_2 5 rfl rfl)
theorem dX3_house_56 : decode cX3_house 56 = .ok (.iconst 1, 1) := dk_4 (dk_at dksX3_house_2 8 rfl rfl)
theorem dX3_house_57 : decode cX3_house 57 = .ok (.goto 4, 3) := dk_167 0 4 (dk_at dksX3_house_2 9 rfl rfl)
theorem dX3_house_60 : decode cX3_house 60 = .ok (.iconst 0, 1) := dk_3 (dk_at dksX3_house_2 12 rfl rfl)
theorem dX3_house_61 : decode cX3_house 61 = .ok (.invokevirtual 149, 3) := dk_182 0 149 (dk_at dksX3_house_2 13 rfl rfl)
theorem dX3_house_64 : decode cX3_house 64 = .ok (.aload_n 0, 1) := dk_42 (dk_at dksX3_house_2 16 rfl rfl)
theorem dX3_house_65 : decode cX3_house 65 = .ok (.invokevirtual 180, 3) := dk_182 0 180 (dk_at dksX3_house_2 17 rfl rfl)
theorem dX3_house_68 : decode cX3_house 68 = .ok (.iinc 1 1, 3) := dk_132 1 1 (dk_at dksX3_house_2 20 rfl rfl)
theorem dX3_house_71 : decode cX3_house 71 = .ok (.goto (-47), 3) := dk_167 255 209 (dk_at dksX3_house_3 0 rfl rfl)
theorem dX3_house_74 : decode cX3_house 74 = .ok (.aload_n 0, 1) := dk_42 (dk_at dksX3_house_3 3 rfl rfl)
theorem dX3_house_75 : decode cX3_house 75 = .ok (.iconst 0, 1) := dk_3 (dk_at dksX3_house_3 4 rfl rfl)
theorem dX3_house_76 : decode cX3_house 76 = .ok (.putfield 108, 3) := dk_181 0 108 (dk_at dksX3_house_3 5 rfl rfl)
theorem dX3_house_79 : decode cX3_house 79 = .ok (.aload_n 0, 1) := dk_42 (dk_at dksX3_house_3 8 rfl rfl)
theorem dX3_house_80 : decode cX3_house 80 = .ok (.getfield 135, 3) := dk_180 0 135 (dk_at dksX3_house_3 9 rfl rfl)
theorem dX3_house_83 : decode cX3_house 83 = .ok (.ifCond .eq 14, 3) := dk_153 0 14 (dk_at dksX3_house_3 12 rfl rfl)
theorem dX3_house_86 : decode cX3_house 86 = .ok (.aload_n 0, 1) := dk_42 (dk_at dksX3_house_3 15 rfl rfl)
theorem dX3_house_87 : decode cX3_house 87 = .ok (.invokevirtual 183, 3) := dk_182 0 183 (dk_at dksX3_house_3 16 rfl rfl)
theorem dX3_house_90 : decode cX3_house 90 = .ok (.iconst (-1), 1) := dk_2 (dk_at dksX3_house_3 19 rfl rfl)
theorem dX3_house_91 : decode cX3_house 91 = .ok (.aload_n 0, 1) := dk_42 (dk_at dksX3_house_3 20 rfl rfl)
theorem dX3_house_92 : decode cX3_house 92 = .ok (.getfield 123, 3) := dk_180 0 123 (dk_at dksX3_house_3 21 rfl rfl)
theorem dX3_house_95 : decode cX3_house 95 = .ok (.isub, 1) := dk_100 (dk_at dksX3_house_4 0 rfl rfl)
theorem dX3_house_96 : decode cX3_house 96 = .ok (.ireturn, 1) := dk_172 (dk_at dksX3_house_4 1 rfl rfl)
theorem dX3_house_97 : decode cX3_house 97 = .ok (.iload_n 1, 1) := dk_27 (dk_at dksX3_house_4 2 rfl rfl)
theorem dX3_house_98 : decode cX3_house 98 = .ok (.ireturn, 1) := dk_172 (dk_at dksX3_house_4 3 rfl rfl)
abbrev cX3_puts : ByteArray := prog_16_method_37_code
def yX3_puts : MethodName := ⟨RX3, "puts", "()V"⟩
def dkwX3_puts_1 : List UInt8 := [167, 255, 234, 177]
abbrev dktX3_puts_1 : List UInt8 := dkwX3_puts_1 ++ []
def dkwX3_puts_0 : List UInt8 := [3, 60, 27, 17, 0, 169, 162, 0, 21, 42, 180, 0, 16, 27, 42, 180, 0, 7, 27, 46, 79, 132, 1, 1]
abbrev dktX3_puts_0 : List UInt8 := dkwX3_puts_0 ++ dktX3_puts_1
theorem dksX3_puts_0 : cX3_puts.data.toList.drop 0 = dktX3_puts_0 := by decide +kernel
theorem dksX3_puts_1 : cX3_puts.data.toList.drop 24 = dktX3_puts_1 := dk_seg dksX3_puts_0 24 rfl rfl
theorem dX3_puts_0 : decode cX3_puts 0 = .ok (.iconst 0, 1) := dk_3 (dk_at dksX3_puts_0 0 rfl rfl)
theorem dX3_puts_1 : decode cX3_puts 1 = .ok (.istore_n 1, 1) := dk_60 (dk_at dksX3_puts_0 1 rfl rfl)
theorem dX3_puts_2 : decode cX3_puts 2 = .ok (.iload_n 1, 1) := dk_27 (dk_at dksX3_puts_0 2 rfl rfl)
theorem dX3_puts_3 : decode cX3_puts 3 = .ok (.sipush 169, 3) := dk_17 0 169 (dk_at dksX3_puts_0 3 rfl rfl)
theorem dX3_puts_6 : decode cX3_puts 6 = .ok (.if_icmp .ge 21, 3) := dk_162 0 21 (dk_at dksX3_puts_0 6 rfl rfl)
theorem dX3_puts_9 : decode cX3_puts 9 = .ok (.aload_n 0, 1) := dk_42 (dk_at dksX3_puts_0 9 rfl rfl)
theorem dX3_puts_10 : decode cX3_puts 10 = .ok (.getfield 16, 3) := dk_180 0 16 (dk_at dksX3_puts_0 10 rfl rfl)
theorem dX3_puts_13 : decode cX3_puts 13 = .ok (.iload_n 1, 1) := dk_27 (dk_at dksX3_puts_0 13 rfl rfl)
theorem dX3_puts_14 : decode cX3_puts 14 = .ok (.aload_n 0, 1) := dk_42 (dk_at dksX3_puts_0 14 rfl rfl)
theorem dX3_puts_15 : decode cX3_puts 15 = .ok (.getfield 7, 3) := dk_180 0 7 (dk_at dksX3_puts_0 15 rfl rfl)
theorem dX3_puts_18 : decode cX3_puts 18 = .ok (.iload_n 1, 1) := dk_27 (dk_at dksX3_puts_0 18 rfl rfl)
theorem dX3_puts_19 : decode cX3_puts 19 = .ok (.iaload, 1) := dk_46 (dk_at dksX3_puts_0 19 rfl rfl)
theorem dX3_puts_20 : decode cX3_puts 20 = .ok (.iastore, 1) := dk_79 (dk_at dksX3_puts_0 20 rfl rfl)
theorem dX3_puts_21 : decode cX3_puts 21 = .ok (.iinc 1 1, 3) := dk_132 1 1 (dk_at dksX3_puts_0 21 rfl rfl)
theorem dX3_puts_24 : decode cX3_puts 24 = .ok (.goto (-22), 3) := dk_167 255 234 (dk_at dksX3_puts_1 0 rfl rfl)
theorem dX3_puts_27 : decode cX3_puts 27 = .ok (.return_, 1) := dk_177 (dk_at dksX3_puts_1 3 rfl rfl)
abbrev cX3_next : ByteArray := prog_16_method_26_code
def yX3_next : MethodName := ⟨RX3, "next", "()V"⟩
def dkwX3_next_5 : List UInt8 := [153, 0, 16, 42, 89, 180, 0, 120, 4, 96, 181, 0, 120, 167, 255, 210, 177]
abbrev dktX3_next_5 : List UInt8 := dkwX3_next_5 ++ []
def dkwX3_next_4 : List UInt8 := [182, 0, 126, 184, 0, 129, 154, 0, 21, 28, 153, 0, 30, 42, 42, 180, 0, 120, 182, 0, 126, 184, 0, 132]
abbrev dktX3_next_4 : List UInt8 := dkwX3_next_4 ++ dktX3_next_5
def dkwX3_next_3 : List UInt8 := [180, 0, 123, 4, 96, 167, 0, 7, 42, 180, 0, 123, 181, 0, 120, 27, 153, 0, 17, 42, 42, 180, 0, 120]
abbrev dktX3_next_3 : List UInt8 := dkwX3_next_3 ++ dktX3_next_4
def dkwX3_next_2 : List UInt8 := [42, 180, 0, 123, 182, 0, 126, 184, 0, 132, 61, 42, 42, 180, 0, 123, 42, 180, 0, 108, 162, 0, 12, 42]
abbrev dktX3_next_2 : List UInt8 := dkwX3_next_2 ++ dktX3_next_3
def dkwX3_next_1 : List UInt8 := [180, 0, 123, 4, 96, 181, 0, 123, 167, 255, 233, 42, 42, 180, 0, 123, 182, 0, 126, 184, 0, 129, 60, 42]
abbrev dktX3_next_1 : List UInt8 := dkwX3_next_1 ++ dktX3_next_2
def dkwX3_next_0 : List UInt8 := [42, 42, 180, 0, 120, 181, 0, 123, 42, 42, 180, 0, 123, 182, 0, 126, 16, 32, 160, 0, 16, 42, 89]
abbrev dktX3_next_0 : List UInt8 := dkwX3_next_0 ++ dktX3_next_1
theorem dksX3_next_0 : cX3_next.data.toList.drop 0 = dktX3_next_0 := by decide +kernel
theorem dksX3_next_1 : cX3_next.data.toList.drop 23 = dktX3_next_1 := dk_seg dksX3_next_0 23 rfl rfl
theorem dksX3_next_2 : cX3_next.data.toList.drop 47 = dktX3_next_2 := dk_seg dksX3_next_1 24 rfl rfl
theorem dksX3_next_3 : cX3_next.data.toList.drop 71 = dktX3_next_3 := dk_seg dksX3_next_2 24 rfl rfl
theorem dksX3_next_4 : cX3_next.data.toList.drop 95 = dktX3_next_4 := dk_seg dksX3_next_3 24 rfl rfl
theorem dksX3_next_5 : cX3_next.data.toList.drop 119 = dktX3_next_5 := dk_seg dksX3_next_4 24 rfl rfl
theorem dX3_next_0 : decode cX3_next 0 = .ok (.aload_n 0, 1) := dk_42 (dk_at dksX3_next_0 0 rfl rfl)
theorem dX3_next_1 : decode cX3_next 1 = .ok (.aload_n 0, 1) := dk_42 (dk_at dksX3_next_0 1 rfl rfl)
theorem dX3_next_2 : decode cX3_next 2 = .ok (.getfield 120, 3) := dk_180 0 120 (dk_at dksX3_next_0 2 rfl rfl)
theorem dX3_next_5 : decode cX3_next 5 = .ok (.putfield 123, 3) := dk_181 0 123 (dk_at dksX3_next_0 5 rfl rfl)
theorem dX3_next_8 : decode cX3_next 8 = .ok (.aload_n 0, 1) := dk_42 (dk_at dksX3_next_0 8 rfl rfl)
theorem dX3_next_9 : decode cX3_next 9 = .ok (.aload_n 0, 1) := dk_42 (dk_at dksX3_next_0 9 rfl rfl)
theorem dX3_next_10 : decode cX3_next 10 = .ok (.getfield 123, 3) := dk_180 0 123 (dk_at dksX3_next_0 10 rfl rfl)
theorem dX3_next_13 : decode cX3_next 13 = .ok (.invokevirtual 126, 3) := dk_182 0 126 (dk_at dksX3_next_0 13 rfl rfl)
theorem dX3_next_16 : decode cX3_next 16 = .ok (.bipush 32, 2) := dk_16 32 (dk_at dksX3_next_0 16 rfl rfl)
theorem dX3_next_18 : decode cX3_next 18 = .ok (.if_icmp .ne 16, 3) := dk_160 0 16 (dk_at dksX3_next_0 18 rfl rfl)
theorem dX3_next_21 : decode cX3_next 21 = .ok (.aload_n 0, 1) := dk_42 (dk_at dksX3_next_0 21 rfl rfl)
theorem dX3_next_22 : decode cX3_next 22 = .ok (.dup, 1) := dk_89 (dk_at dksX3_next_0 22 rfl rfl)
theorem dX3_next_23 : decode cX3_next 23 = .ok (.getfield 123, 3) := dk_180 0 123 (dk_at dksX3_next_1 0 rfl rfl)
theorem dX3_next_26 : decode cX3_next 26 = .ok (.iconst 1, 1) := dk_4 (dk_at dksX3_next_1 3 rfl rfl)
theorem dX3_next_27 : decode cX3_next 27 = .ok (.iadd, 1) := dk_96 (dk_at dksX3_next_1 4 rfl rfl)
theorem dX3_next_28 : decode cX3_next 28 = .ok (.putfield 123, 3) := dk_181 0 123 (dk_at dksX3_next_1 5 rfl rfl)
theorem dX3_next_31 : decode cX3_next 31 = .ok (.goto (-23), 3) := dk_167 255 233 (dk_at dksX3_next_1 8 rfl rfl)
theorem dX3_next_34 : decode cX3_next 34 = .ok (.aload_n 0, 1) := dk_42 (dk_at dksX3_next_1 11 rfl rfl)
theorem dX3_next_35 : decode cX3_next 35 = .ok (.aload_n 0, 1) := dk_42 (dk_at dksX3_next_1 12 rfl rfl)
theorem dX3_next_36 : decode cX3_next 36 = .ok (.getfield 123, 3) := dk_180 0 123 (dk_at dksX3_next_1 13 rfl rfl)
theorem dX3_next_39 : decode cX3_next 39 = .ok (.invokevirtual 126, 3) := dk_182 0 126 (dk_at dksX3_next_1 16 rfl rfl)
theorem dX3_next_42 : decode cX3_next 42 = .ok (.invokestatic 129, 3) := dk_184 0 129 (dk_at dksX3_next_1 19 rfl rfl)
theorem dX3_next_45 : decode cX3_next 45 = .ok (.istore_n 1, 1) := dk_60 (dk_at dksX3_next_1 22 rfl rfl)
theorem dX3_next_46 : decode cX3_next 46 = .ok (.aload_n 0, 1) := dk_42 (dk_at dksX3_next_1 23 rfl rfl)
theorem dX3_next_47 : decode cX3_next 47 = .ok (.aload_n 0, 1) := dk_42 (dk_at dksX3_next_2 0 rfl rfl)
theorem dX3_next_48 : decode cX3_next 48 = .ok (.getfield 123, 3) := dk_180 0 123 (dk_at dksX3_next_2 1 rfl rfl)
theorem dX3_next_51 : decode cX3_next 51 = .ok (.invokevirtual 126, 3) := dk_182 0 126 (dk_at dksX3_next_2 4 rfl rfl)
theorem dX3_next_54 : decode cX3_next 54 = .ok (.invokestatic 132, 3) := dk_184 0 132 (dk_at dksX3_next_2 7 rfl rfl)
theorem dX3_next_57 : decode cX3_next 57 = .ok (.istore_n 2, 1) := dk_61 (dk_at dksX3_next_2 10 rfl rfl)
theorem dX3_next_58 : decode cX3_next 58 = .ok (.aload_n 0, 1) := dk_42 (dk_at dksX3_next_2 11 rfl rfl)
theorem dX3_next_59 : decode cX3_next 59 = .ok (.aload_n 0, 1) := dk_42 (dk_at dksX3_next_2 12 rfl rfl)
theorem dX3_next_60 : decode cX3_next 60 = .ok (.getfield 123, 3) := dk_180 0 123 (dk_at dksX3_next_2 13 rfl rfl)
theorem dX3_next_63 : decode cX3_next 63 = .ok (.aload_n 0, 1) := dk_42 (dk_at dksX3_next_2 16 rfl rfl)
theorem dX3_next_64 : decode cX3_next 64 = .ok (.getfield 108, 3) := dk_180 0 108 (dk_at dksX3_next_2 17 rfl rfl)
theorem dX3_next_67 : decode cX3_next 67 = .ok (.if_icmp .ge 12, 3) := dk_162 0 12 (dk_at dksX3_next_2 20 rfl rfl)
theorem dX3_next_70 : decode cX3_next 70 = .ok (.aload_n 0, 1) := dk_42 (dk_at dksX3_next_2 23 rfl rfl)
theorem dX3_next_71 : decode cX3_next 71 = .ok (.getfield 123, 3) := dk_180 0 123 (dk_at dksX3_next_3 0 rfl rfl)
theorem dX3_next_74 : decode cX3_next 74 = .ok (.iconst 1, 1) := dk_4 (dk_at dksX3_next_3 3 rfl rfl)
theorem dX3_next_75 : decode cX3_next 75 = .ok (.iadd, 1) := dk_96 (dk_at dksX3_next_3 4 rfl rfl)
theorem dX3_next_76 : decode cX3_next 76 = .ok (.goto 7, 3) := dk_167 0 7 (dk_at dksX3_next_3 5 rfl rfl)
theorem dX3_next_79 : decode cX3_next 79 = .ok (.aload_n 0, 1) := dk_42 (dk_at dksX3_next_3 8 rfl rfl)
theorem dX3_next_80 : decode cX3_next 80 = .ok (.getfield 123, 3) := dk_180 0 123 (dk_at dksX3_next_3 9 rfl rfl)
theorem dX3_next_83 : decode cX3_next 83 = .ok (.putfield 120, 3) := dk_181 0 120 (dk_at dksX3_next_3 12 rfl rfl)
theorem dX3_next_86 : decode cX3_next 86 = .ok (.iload_n 1, 1) := dk_27 (dk_at dksX3_next_3 15 rfl rfl)
theorem dX3_next_87 : decode cX3_next 87 = .ok (.ifCond .eq 17, 3) := dk_153 0 17 (dk_at dksX3_next_3 16 rfl rfl)
theorem dX3_next_90 : decode cX3_next 90 = .ok (.aload_n 0, 1) := dk_42 (dk_at dksX3_next_3 19 rfl rfl)
theorem dX3_next_91 : decode cX3_next 91 = .ok (.aload_n 0, 1) := dk_42 (dk_at dksX3_next_3 20 rfl rfl)
theorem dX3_next_92 : decode cX3_next 92 = .ok (.getfield 120, 3) := dk_180 0 120 (dk_at dksX3_next_3 21 rfl rfl)
theorem dX3_next_95 : decode cX3_next 95 = .ok (.invokevirtual 126, 3) := dk_182 0 126 (dk_at dksX3_next_4 0 rfl rfl)
theorem dX3_next_98 : decode cX3_next 98 = .ok (.invokestatic 129, 3) := dk_184 0 129 (dk_at dksX3_next_4 3 rfl rfl)
theorem dX3_next_101 : decode cX3_next 101 = .ok (.ifCond .ne 21, 3) := dk_154 0 21 (dk_at dksX3_next_4 6 rfl rfl)
theorem dX3_next_104 : decode cX3_next 104 = .ok (.iload_n 2, 1) := dk_28 (dk_at dksX3_next_4 9 rfl rfl)
theorem dX3_next_105 : decode cX3_next 105 = .ok (.ifCond .eq 30, 3) := dk_153 0 30 (dk_at dksX3_next_4 10 rfl rfl)
theorem dX3_next_108 : decode cX3_next 108 = .ok (.aload_n 0, 1) := dk_42 (dk_at dksX3_next_4 13 rfl rfl)
theorem dX3_next_109 : decode cX3_next 109 = .ok (.aload_n 0, 1) := dk_42 (dk_at dksX3_next_4 14 rfl rfl)
theorem dX3_next_110 : decode cX3_next 110 = .ok (.getfield 120, 3) := dk_180 0 120 (dk_at dksX3_next_4 15 rfl rfl)
theorem dX3_next_113 : decode cX3_next 113 = .ok (.invokevirtual 126, 3) := dk_182 0 126 (dk_at dksX3_next_4 18 rfl rfl)
theorem dX3_next_116 : decode cX3_next 116 = .ok (.invokestatic 132, 3) := dk_184 0 132 (dk_at dksX3_next_4 21 rfl rfl)
theorem dX3_next_119 : decode cX3_next 119 = .ok (.ifCond .eq 16, 3) := dk_153 0 16 (dk_at dksX3_next_5 0 rfl rfl)
theorem dX3_next_122 : decode cX3_next 122 = .ok (.aload_n 0, 1) := dk_42 (dk_at dksX3_next_5 3 rfl rfl)
theorem dX3_next_123 : decode cX3_next 123 = .ok (.dup, 1) := dk_89 (dk_at dksX3_next_5 4 rfl rfl)
theorem dX3_next_124 : decode cX3_next 124 = .ok (.getfield 120, 3) := dk_180 0 120 (dk_at dksX3_next_5 5 rfl rfl)
theorem dX3_next_127 : decode cX3_next 127 = .ok (.iconst 1, 1) := dk_4 (dk_at dksX3_next_5 8 rfl rfl)
theorem dX3_next_128 : decode cX3_next 128 = .ok (.iadd, 1) := dk_96 (dk_at dksX3_next_5 9 rfl rfl)
theorem dX3_next_129 : decode cX3_next 129 = .ok (.putfield 120, 3) := dk_181 0 120 (dk_at dksX3_next_5 10 rfl rfl)
theorem dX3_next_132 : decode cX3_next 132 = .ok (.goto (-46), 3) := dk_167 255 210 (dk_at dksX3_next_5 13 rfl rfl)
theorem dX3_next_135 : decode cX3_next 135 = .ok (.return_, 1) := dk_177 (dk_at dksX3_next_5 16 rfl rfl)
abbrev cX3_byteAt : ByteArray := prog_16_method_23_code
def yX3_byteAt : MethodName := ⟨RX3, "byteAt", "(I)I"⟩
def dkwX3_byteAt_0 : List UInt8 := [27, 42, 180, 0, 108, 162, 0, 12, 42, 180, 0, 22, 27, 46, 167, 0, 4, 2, 172]
abbrev dktX3_byteAt_0 : List UInt8 := dkwX3_byteAt_0 ++ []
theorem dksX3_byteAt_0 : cX3_byteAt.data.toList.drop 0 = dktX3_byteAt_0 := by decide +kernel
theorem dX3_byteAt_0 : decode cX3_byteAt 0 = .ok (.iload_n 1, 1) := dk_27 (dk_at dksX3_byteAt_0 0 rfl rfl)
theorem dX3_byteAt_1 : decode cX3_byteAt 1 = .ok (.aload_n 0, 1) := dk_42 (dk_at dksX3_byteAt_0 1 rfl rfl)
theorem dX3_byteAt_2 : decode cX3_byteAt 2 = .ok (.getfield 108, 3) := dk_180 0 108 (dk_at dksX3_byteAt_0 2 rfl rfl)
theorem dX3_byteAt_5 : decode cX3_byteAt 5 = .ok (.if_icmp .ge 12, 3) := dk_162 0 12 (dk_at dksX3_byteAt_0 5 rfl rfl)
theorem dX3_byteAt_8 : decode cX3_byteAt 8 = .ok (.aload_n 0, 1) := dk_42 (dk_at dksX3_byteAt_0 8 rfl rfl)
theorem dX3_byteAt_9 : decode cX3_byteAt 9 = .ok (.getfield 22, 3) := dk_180 0 22 (dk_at dksX3_byteAt_0 9 rfl rfl)
theorem dX3_byteAt_12 : decode cX3_byteAt 12 = .ok (.iload_n 1, 1) := dk_27 (dk_at dksX3_byteAt_0 12 rfl rfl)
theorem dX3_byteAt_13 : decode cX3_byteAt 13 = .ok (.iaload, 1) := dk_46 (dk_at dksX3_byteAt_0 13 rfl rfl)
theorem dX3_byteAt_14 : decode cX3_byteAt 14 = .ok (.goto 4, 3) := dk_167 0 4 (dk_at dksX3_byteAt_0 14 rfl rfl)
theorem dX3_byteAt_17 : decode cX3_byteAt 17 = .ok (.iconst (-1), 1) := dk_2 (dk_at dksX3_byteAt_0 17 rfl rfl)
theorem dX3_byteAt_18 : decode cX3_byteAt 18 = .ok (.ireturn, 1) := dk_172 (dk_at dksX3_byteAt_0 18 rfl rfl)
abbrev cX3_isLetter : ByteArray := prog_16_method_24_code
def yX3_isLetter : MethodName := ⟨RX3, "isLetter", "(I)Z"⟩
def dkwX3_isLetter_0 : List UInt8 := [26, 133, 20, 0, 112, 20, 0, 114, 184, 0, 54, 172]
abbrev dktX3_isLetter_0 : List UInt8 := dkwX3_isLetter_0 ++ []
theorem dksX3_isLetter_0 : cX3_isLetter.data.toList.drop 0 = dktX3_isLetter_0 := by decide +kernel
theorem dX3_isLetter_0 : decode cX3_isLetter 0 = .ok (.iload_n 0, 1) := dk_26 (dk_at dksX3_isLetter_0 0 rfl rfl)
theorem dX3_isLetter_1 : decode cX3_isLetter 1 = .ok (.i2l, 1) := dk_133 (dk_at dksX3_isLetter_0 1 rfl rfl)
theorem dX3_isLetter_2 : decode cX3_isLetter 2 = .ok (.ldc2_w 112, 3) := dk_20 0 112 (dk_at dksX3_isLetter_0 2 rfl rfl)
theorem dX3_isLetter_5 : decode cX3_isLetter 5 = .ok (.ldc2_w 114, 3) := dk_20 0 114 (dk_at dksX3_isLetter_0 5 rfl rfl)
theorem dX3_isLetter_8 : decode cX3_isLetter 8 = .ok (.invokestatic 54, 3) := dk_184 0 54 (dk_at dksX3_isLetter_0 8 rfl rfl)
theorem dX3_isLetter_11 : decode cX3_isLetter 11 = .ok (.ireturn, 1) := dk_172 (dk_at dksX3_isLetter_0 11 rfl rfl)
abbrev cX3_isDigit : ByteArray := prog_16_method_25_code
def yX3_isDigit : MethodName := ⟨RX3, "isDigit", "(I)Z"⟩
def dkwX3_isDigit_0 : List UInt8 := [26, 133, 20, 0, 116, 20, 0, 118, 184, 0, 54, 172]
abbrev dktX3_isDigit_0 : List UInt8 := dkwX3_isDigit_0 ++ []
theorem dksX3_isDigit_0 : cX3_isDigit.data.toList.drop 0 = dktX3_isDigit_0 := by decide +kernel
theorem dX3_isDigit_0 : decode cX3_isDigit 0 = .ok (.iload_n 0, 1) := dk_26 (dk_at dksX3_isDigit_0 0 rfl rfl)
theorem dX3_isDigit_1 : decode cX3_isDigit 1 = .ok (.i2l, 1) := dk_133 (dk_at dksX3_isDigit_0 1 rfl rfl)
theorem dX3_isDigit_2 : decode cX3_isDigit 2 = .ok (.ldc2_w 116, 3) := dk_20 0 116 (dk_at dksX3_isDigit_0 2 rfl rfl)
theorem dX3_isDigit_5 : decode cX3_isDigit 5 = .ok (.ldc2_w 118, 3) := dk_20 0 118 (dk_at dksX3_isDigit_0 5 rfl rfl)
theorem dX3_isDigit_8 : decode cX3_isDigit 8 = .ok (.invokestatic 54, 3) := dk_184 0 54 (dk_at dksX3_isDigit_0 8 rfl rfl)
theorem dX3_isDigit_11 : decode cX3_isDigit 11 = .ok (.ireturn, 1) := dk_172 (dk_at dksX3_isDigit_0 11 rfl rfl)
abbrev cX3_item : ByteArray := prog_16_method_36_code
def yX3_item : MethodName := ⟨RX3, "item", "()V"⟩
def dkwX3_item_3 : List UInt8 := [167, 0, 4, 4, 96, 79, 167, 0, 7, 42, 182, 0, 174, 177]
abbrev dktX3_item_3 : List UInt8 := dkwX3_item_3 ++ []
def dkwX3_item_2 : List UInt8 := [167, 0, 4, 3, 182, 0, 149, 42, 180, 0, 7, 3, 92, 46, 42, 180, 0, 135, 153, 0, 7, 3]
abbrev dktX3_item_2 : List UInt8 := dkwX3_item_2 ++ dktX3_item_3
def dkwX3_item_1 : List UInt8 := [16, 109, 3, 3, 3, 182, 0, 153, 153, 0, 47, 42, 42, 180, 0, 7, 3, 46, 16, 6, 162, 0, 7, 4]
abbrev dktX3_item_1 : List UInt8 := dkwX3_item_1 ++ dktX3_item_2
def dkwX3_item_0 : List UInt8 := [42, 182, 0, 167, 60, 27, 155, 0, 11, 42, 27, 182, 0, 170, 167, 0, 69, 42, 16, 114, 16, 111, 16, 111]
abbrev dktX3_item_0 : List UInt8 := dkwX3_item_0 ++ dktX3_item_1
theorem dksX3_item_0 : cX3_item.data.toList.drop 0 = dktX3_item_0 := by decide +kernel
theorem dksX3_item_1 : cX3_item.data.toList.drop 24 = dktX3_item_1 := dk_seg dksX3_item_0 24 rfl rfl
theorem dksX3_item_2 : cX3_item.data.toList.drop 48 = dktX3_item_2 := dk_seg dksX3_item_1 24 rfl rfl
theorem dksX3_item_3 : cX3_item.data.toList.drop 70 = dktX3_item_3 := dk_seg dksX3_item_2 22 rfl rfl
theorem dX3_item_0 : decode cX3_item 0 = .ok (.aload_n 0, 1) := dk_42 (dk_at dksX3_item_0 0 rfl rfl)
theorem dX3_item_1 : decode cX3_item 1 = .ok (.invokevirtual 167, 3) := dk_182 0 167 (dk_at dksX3_item_0 1 rfl rfl)
theorem dX3_item_4 : decode cX3_item 4 = .ok (.istore_n 1, 1) := dk_60 (dk_at dksX3_item_0 4 rfl rfl)
theorem dX3_item_5 : decode cX3_item 5 = .ok (.iload_n 1, 1) := dk_27 (dk_at dksX3_item_0 5 rfl rfl)
theorem dX3_item_6 : decode cX3_item 6 = .ok (.ifCond .lt 11, 3) := dk_155 0 11 (dk_at dksX3_item_0 6 rfl rfl)
theorem dX3_item_9 : decode cX3_item 9 = .ok (.aload_n 0, 1) := dk_42 (dk_at dksX3_item_0 9 rfl rfl)
theorem dX3_item_10 : decode cX3_item 10 = .ok (.iload_n 1, 1) := dk_27 (dk_at dksX3_item_0 10 rfl rfl)
theorem dX3_item_11 : decode cX3_item 11 = .ok (.invokevirtual 170, 3) := dk_182 0 170 (dk_at dksX3_item_0 11 rfl rfl)
theorem dX3_item_14 : decode cX3_item 14 = .ok (.goto 69, 3) := dk_167 0 69 (dk_at dksX3_item_0 14 rfl rfl)
theorem dX3_item_17 : decode cX3_item 17 = .ok (.aload_n 0, 1) := dk_42 (dk_at dksX3_item_0 17 rfl rfl)
theorem dX3_item_18 : decode cX3_item 18 = .ok (.bipush 114, 2) := dk_16 114 (dk_at dksX3_item_0 18 rfl rfl)
theorem dX3_item_20 : decode cX3_item 20 = .ok (.bipush 111, 2) := dk_16 111 (dk_at dksX3_item_0 20 rfl rfl)
theorem dX3_item_22 : decode cX3_item 22 = .ok (.bipush 111, 2) := dk_16 111 (dk_at dksX3_item_0 22 rfl rfl)
theorem dX3_item_24 : decode cX3_item 24 = .ok (.bipush 109, 2) := dk_16 109 (dk_at dksX3_item_1 0 rfl rfl)
theorem dX3_item_26 : decode cX3_item 26 = .ok (.iconst 0, 1) := dk_3 (dk_at dksX3_item_1 2 rfl rfl)
theorem dX3_item_27 : decode cX3_item 27 = .ok (.iconst 0, 1) := dk_3 (dk_at dksX3_item_1 3 rfl rfl)
theorem dX3_item_28 : decode cX3_item 28 = .ok (.iconst 0, 1) := dk_3 (dk_at dksX3_item_1 4 rfl rfl)
theorem dX3_item_29 : decode cX3_item 29 = .ok (.invokevirtual 153, 3) := dk_182 0 153 (dk_at dksX3_item_1 5 rfl rfl)
theorem dX3_item_32 : decode cX3_item 32 = .ok (.ifCond .eq 47, 3) := dk_153 0 47 (dk_at dksX3_item_1 8 rfl rfl)
theorem dX3_item_35 : decode cX3_item 35 = .ok (.aload_n 0, 1) := dk_42 (dk_at dksX3_item_1 11 rfl rfl)
theorem dX3_item_36 : decode cX3_item 36 = .ok (.aload_n 0, 1) := dk_42 (dk_at dksX3_item_1 12 rfl rfl)
theorem dX3_item_37 : decode cX3_item 37 = .ok (.getfield 7, 3) := dk_180 0 7 (dk_at dksX3_item_1 13 rfl rfl)
theorem dX3_item_40 : decode cX3_item 40 = .ok (.iconst 0, 1) := dk_3 (dk_at dksX3_item_1 16 rfl rfl)
theorem dX3_item_41 : decode cX3_item 41 = .ok (.iaload, 1) := dk_46 (dk_at dksX3_item_1 17 rfl rfl)
theorem dX3_item_42 : decode cX3_item 42 = .ok (.bipush 6, 2) := dk_16 6 (dk_at dksX3_item_1 18 rfl rfl)
theorem dX3_item_44 : decode cX3_item 44 = .ok (.if_icmp .ge 7, 3) := dk_162 0 7 (dk_at dksX3_item_1 20 rfl rfl)
theorem dX3_item_47 : decode cX3_item 47 = .ok (.iconst 1, 1) := dk_4 (dk_at dksX3_item_1 23 rfl rfl)
theorem dX3_item_48 : decode cX3_item 48 = .ok (.goto 4, 3) := dk_167 0 4 (dk_at dksX3_item_2 0 rfl rfl)
theorem dX3_item_51 : decode cX3_item 51 = .ok (.iconst 0, 1) := dk_3 (dk_at dksX3_item_2 3 rfl rfl)
theorem dX3_item_52 : decode cX3_item 52 = .ok (.invokevirtual 149, 3) := dk_182 0 149 (dk_at dksX3_item_2 4 rfl rfl)
theorem dX3_item_55 : decode cX3_item 55 = .ok (.aload_n 0, 1) := dk_42 (dk_at dksX3_item_2 7 rfl rfl)
theorem dX3_item_56 : decode cX3_item 56 = .ok (.getfield 7, 3) := dk_180 0 7 (dk_at dksX3_item_2 8 rfl rfl)
theorem dX3_item_59 : decode cX3_item 59 = .ok (.iconst 0, 1) := dk_3 (dk_at dksX3_item_2 11 rfl rfl)
theorem dX3_item_60 : decode cX3_item 60 = .ok (.dup2, 1) := dk_92 (dk_at dksX3_item_2 12 rfl rfl)
theorem dX3_item_61 : decode cX3_item 61 = .ok (.iaload, 1) := dk_46 (dk_at dksX3_item_2 13 rfl rfl)
theorem dX3_item_62 : decode cX3_item 62 = .ok (.aload_n 0, 1) := dk_42 (dk_at dksX3_item_2 14 rfl rfl)
theorem dX3_item_63 : decode cX3_item 63 = .ok (.getfield 135, 3) := dk_180 0 135 (dk_at dksX3_item_2 15 rfl rfl)
theorem dX3_item_66 : decode cX3_item 66 = .ok (.ifCond .eq 7, 3) := dk_153 0 7 (dk_at dksX3_item_2 18 rfl rfl)
theorem dX3_item_69 : decode cX3_item 69 = .ok (.iconst 0, 1) := dk_3 (dk_at dksX3_item_2 21 rfl rfl)
theorem dX3_item_70 : decode cX3_item 70 = .ok (.goto 4, 3) := dk_167 0 4 (dk_at dksX3_item_3 0 rfl rfl)
theorem dX3_item_73 : decode cX3_item 73 = .ok (.iconst 1, 1) := dk_4 (dk_at dksX3_item_3 3 rfl rfl)
theorem dX3_item_74 : decode cX3_item 74 = .ok (.iadd, 1) := dk_96 (dk_at dksX3_item_3 4 rfl rfl)
theorem dX3_item_75 : decode cX3_item 75 = .ok (.iastore, 1) := dk_79 (dk_at dksX3_item_3 5 rfl rfl)
theorem dX3_item_76 : decode cX3_item 76 = .ok (.goto 7, 3) := dk_167 0 7 (dk_at dksX3_item_3 6 rfl rfl)
theorem dX3_item_79 : decode cX3_item 79 = .ok (.aload_n 0, 1) := dk_42 (dk_at dksX3_item_3 9 rfl rfl)
theorem dX3_item_80 : decode cX3_item 80 = .ok (.invokevirtual 174, 3) := dk_182 0 174 (dk_at dksX3_item_3 10 rfl rfl)
theorem dX3_item_83 : decode cX3_item 83 = .ok (.return_, 1) := dk_177 (dk_at dksX3_item_3 13 rfl rfl)
abbrev cX3_kindHere : ByteArray := prog_16_method_31_code
def yX3_kindHere : MethodName := ⟨RX3, "kindHere", "()I"⟩
def dkwX3_kindHere_5 : List UInt8 := [16, 104, 16, 105, 16, 109, 16, 110, 16, 101, 16, 121, 182, 0, 153, 153, 0, 7, 8, 167, 0, 4, 2, 172]
abbrev dktX3_kindHere_5 : List UInt8 := dkwX3_kindHere_5 ++ []
def dkwX3_kindHere_4 : List UInt8 := [16, 114, 16, 110, 16, 105, 16, 110, 16, 103, 182, 0, 153, 153, 0, 7, 7, 167, 0, 29, 42, 16, 99]
abbrev dktX3_kindHere_4 : List UInt8 := dkwX3_kindHere_4 ++ dktX3_kindHere_5
def dkwX3_kindHere_3 : List UInt8 := [16, 111, 16, 119, 16, 110, 3, 3, 182, 0, 153, 153, 0, 7, 6, 167, 0, 54, 42, 16, 116, 16, 117]
abbrev dktX3_kindHere_3 : List UInt8 := dkwX3_kindHere_3 ++ dktX3_kindHere_4
def dkwX3_kindHere_2 : List UInt8 := [16, 101, 16, 100, 16, 101, 16, 100, 3, 182, 0, 153, 153, 0, 7, 5, 167, 0, 77, 42, 16, 107, 16, 110]
abbrev dktX3_kindHere_2 : List UInt8 := dkwX3_kindHere_2 ++ dktX3_kindHere_3
def dkwX3_kindHere_1 : List UInt8 := [16, 100, 16, 100, 16, 101, 16, 110, 3, 182, 0, 153, 153, 0, 7, 4, 167, 0, 101, 42, 16, 110, 16, 101]
abbrev dktX3_kindHere_1 : List UInt8 := dkwX3_kindHere_1 ++ dktX3_kindHere_2
def dkwX3_kindHere_0 : List UInt8 := [42, 16, 103, 16, 97, 16, 112, 3, 3, 3, 3, 182, 0, 153, 153, 0, 5, 3, 172, 42, 16, 104, 16, 105]
abbrev dktX3_kindHere_0 : List UInt8 := dkwX3_kindHere_0 ++ dktX3_kindHere_1
theorem dksX3_kindHere_0 : cX3_kindHere.data.toList.drop 0 = dktX3_kindHere_0 := by decide +kernel
theorem dksX3_kindHere_1 : cX3_kindHere.data.toList.drop 24 = dktX3_kindHere_1 := dk_seg dksX3_kindHere_0 24 rfl rfl
theorem dksX3_kindHere_2 : cX3_kindHere.data.toList.drop 48 = dktX3_kindHere_2 := dk_seg dksX3_kindHere_1 24 rfl rfl
theorem dksX3_kindHere_3 : cX3_kindHere.data.toList.drop 72 = dktX3_kindHere_3 := dk_seg dksX3_kindHere_2 24 rfl rfl
theorem dksX3_kindHere_4 : cX3_kindHere.data.toList.drop 95 = dktX3_kindHere_4 := dk_seg dksX3_kindHere_3 23 rfl rfl
theorem dksX3_kindHere_5 : cX3_kindHere.data.toList.drop 118 = dktX3_kindHere_5 := dk_seg dksX3_kindHere_4 23 rfl rfl
theorem dX3_kindHere_0 : decode cX3_kindHere 0 = .ok (.aload_n 0, 1) := dk_42 (dk_at dksX3_kindHere_0 0 rfl rfl)
theorem dX3_kindHere_1 : decode cX3_kindHere 1 = .ok (.bipush 103, 2) := dk_16 103 (dk_at dksX3_kindHere_0 1 rfl rfl)
theorem dX3_kindHere_3 : decode cX3_kindHere 3 = .ok (.bipush 97, 2) := dk_16 97 (dk_at dksX3_kindHere_0 3 rfl rfl)
theorem dX3_kindHere_5 : decode cX3_kindHere 5 = .ok (.bipush 112, 2) := dk_16 112 (dk_at dksX3_kindHere_0 5 rfl rfl)
theorem dX3_kindHere_7 : decode cX3_kindHere 7 = .ok (.iconst 0, 1) := dk_3 (dk_at dksX3_kindHere_0 7 rfl rfl)
theorem dX3_kindHere_8 : decode cX3_kindHere 8 = .ok (.iconst 0, 1) := dk_3 (dk_at dksX3_kindHere_0 8 rfl rfl)
theorem dX3_kindHere_9 : decode cX3_kindHere 9 = .ok (.iconst 0, 1) := dk_3 (dk_at dksX3_kindHere_0 9 rfl rfl)
theorem dX3_kindHere_10 : decode cX3_kindHere 10 = .ok (.iconst 0, 1) := dk_3 (dk_at dksX3_kindHere_0 10 rfl rfl)
theorem dX3_kindHere_11 : decode cX3_kindHere 11 = .ok (.invokevirtual 153, 3) := dk_182 0 153 (dk_at dksX3_kindHere_0 11 rfl rfl)
theorem dX3_kindHere_14 : decode cX3_kindHere 14 = .ok (.ifCond .eq 5, 3) := dk_153 0 5 (dk_at dksX3_kindHere_0 14 rfl rfl)
theorem dX3_kindHere_17 : decode cX3_kindHere 17 = .ok (.iconst 0, 1) := dk_3 (dk_at dksX3_kindHere_0 17 rfl rfl)
theorem dX3_kindHere_18 : decode cX3_kindHere 18 = .ok (.ireturn, 1) := dk_172 (dk_at dksX3_kindHere_0 18 rfl rfl)
theorem dX3_kindHere_19 : decode cX3_kindHere 19 = .ok (.aload_n 0, 1) := dk_42 (dk_at dksX3_kindHere_0 19 rfl rfl)
theorem dX3_kindHere_20 : decode cX3_kindHere 20 = .ok (.bipush 104, 2) := dk_16 104 (dk_at dksX3_kindHere_0 20 rfl rfl)
theorem dX3_kindHere_22 : decode cX3_kindHere 22 = .ok (.bipush 105, 2) := dk_16 105 (dk_at dksX3_kindHere_0 22 rfl rfl)
theorem dX3_kindHere_24 : decode cX3_kindHere 24 = .ok (.bipush 100, 2) := dk_16 100 (dk_at dksX3_kindHere_1 0 rfl rfl)
theorem dX3_kindHere_26 : decode cX3_kindHere 26 = .ok (.bipush 100, 2) := dk_16 100 (dk_at dksX3_kindHere_1 2 rfl rfl)
theorem dX3_kindHere_28 : decode cX3_kindHere 28 = .ok (.bipush 101, 2) := dk_16 101 (dk_at dksX3_kindHere_1 4 rfl rfl)
theorem dX3_kindHere_30 : decode cX3_kindHere 30 = .ok (.bipush 110, 2) := dk_16 110 (dk_at dksX3_kindHere_1 6 rfl rfl)
theorem dX3_kindHere_32 : decode cX3_kindHere 32 = .ok (.iconst 0, 1) := dk_3 (dk_at dksX3_kindHere_1 8 rfl rfl)
theorem dX3_kindHere_33 : decode cX3_kindHere 33 = .ok (.invokevirtual 153, 3) := dk_182 0 153 (dk_at dksX3_kindHere_1 9 rfl rfl)
theorem dX3_kindHere_36 : decode cX3_kindHere 36 = .ok (.ifCond .eq 7, 3) := dk_153 0 7 (dk_at dksX3_kindHere_1 12 rfl rfl)
theorem dX3_kindHere_39 : decode cX3_kindHere 39 = .ok (.iconst 1, 1) := dk_4 (dk_at dksX3_kindHere_1 15 rfl rfl)
theorem dX3_kindHere_40 : decode cX3_kindHere 40 = .ok (.goto 101, 3) := dk_167 0 101 (dk_at dksX3_kindHere_1 16 rfl rfl)
theorem dX3_kindHere_43 : decode cX3_kindHere 43 = .ok (.aload_n 0, 1) := dk_42 (dk_at dksX3_kindHere_1 19 rfl rfl)
theorem dX3_kindHere_44 : decode cX3_kindHere 44 = .ok (.bipush 110, 2) := dk_16 110 (dk_at dksX3_kindHere_1 20 rfl rfl)
theorem dX3_kindHere_46 : decode cX3_kindHere 46 = .ok (.bipush 101, 2) := dk_16 101 (dk_at dksX3_kindHere_1 22 rfl rfl)
theorem dX3_kindHere_48 : decode cX3_kindHere 48 = .ok (.bipush 101, 2) := dk_16 101 (dk_at dksX3_kindHere_2 0 rfl rfl)
theorem dX3_kindHere_50 : decode cX3_kindHere 50 = .ok (.bipush 100, 2) := dk_16 100 (dk_at dksX3_kindHere_2 2 rfl rfl)
theorem dX3_kindHere_52 : decode cX3_kindHere 52 = .ok (.bipush 101, 2) := dk_16 101 (dk_at dksX3_kindHere_2 4 rfl rfl)
theorem dX3_kindHere_54 : decode cX3_kindHere 54 = .ok (.bipush 100, 2) := dk_16 100 (dk_at dksX3_kindHere_2 6 rfl rfl)
theorem dX3_kindHere_56 : decode cX3_kindHere 56 = .ok (.iconst 0, 1) := dk_3 (dk_at dksX3_kindHere_2 8 rfl rfl)
theorem dX3_kindHere_57 : decode cX3_kindHere 57 = .ok (.invokevirtual 153, 3) := dk_182 0 153 (dk_at dksX3_kindHere_2 9 rfl rfl)
theorem dX3_kindHere_60 : decode cX3_kindHere 60 = .ok (.ifCond .eq 7, 3) := dk_153 0 7 (dk_at dksX3_kindHere_2 12 rfl rfl)
theorem dX3_kindHere_63 : decode cX3_kindHere 63 = .ok (.iconst 2, 1) := dk_5 (dk_at dksX3_kindHere_2 15 rfl rfl)
theorem dX3_kindHere_64 : decode cX3_kindHere 64 = .ok (.goto 77, 3) := dk_167 0 77 (dk_at dksX3_kindHere_2 16 rfl rfl)
theorem dX3_kindHere_67 : decode cX3_kindHere 67 = .ok (.aload_n 0, 1) := dk_42 (dk_at dksX3_kindHere_2 19 rfl rfl)
theorem dX3_kindHere_68 : decode cX3_kindHere 68 = .ok (.bipush 107, 2) := dk_16 107 (dk_at dksX3_kindHere_2 20 rfl rfl)
theorem dX3_kindHere_70 : decode cX3_kindHere 70 = .ok (.bipush 110, 2) := dk_16 110 (dk_at dksX3_kindHere_2 22 rfl rfl)
theorem dX3_kindHere_72 : decode cX3_kindHere 72 = .ok (.bipush 111, 2) := dk_16 111 (dk_at dksX3_kindHere_3 0 rfl rfl)
theorem dX3_kindHere_74 : decode cX3_kindHere 74 = .ok (.bipush 119, 2) := dk_16 119 (dk_at dksX3_kindHere_3 2 rfl rfl)
theorem dX3_kindHere_76 : decode cX3_kindHere 76 = .ok (.bipush 110, 2) := dk_16 110 (dk_at dksX3_kindHere_3 4 rfl rfl)
theorem dX3_kindHere_78 : decode cX3_kindHere 78 = .ok (.iconst 0, 1) := dk_3 (dk_at dksX3_kindHere_3 6 rfl rfl)
theorem dX3_kindHere_79 : decode cX3_kindHere 79 = .ok (.iconst 0, 1) := dk_3 (dk_at dksX3_kindHere_3 7 rfl rfl)
theorem dX3_kindHere_80 : decode cX3_kindHere 80 = .ok (.invokevirtual 153, 3) := dk_182 0 153 (dk_at dksX3_kindHere_3 8 rfl rfl)
theorem dX3_kindHere_83 : decode cX3_kindHere 83 = .ok (.ifCond .eq 7, 3) := dk_153 0 7 (dk_at dksX3_kindHere_3 11 rfl rfl)
theorem dX3_kindHere_86 : decode cX3_kindHere 86 = .ok (.iconst 3, 1) := dk_6 (dk_at dksX3_kindHere_3 14 rfl rfl)
theorem dX3_kindHere_87 : decode cX3_kindHere 87 = .ok (.goto 54, 3) := dk_167 0 54 (dk_at dksX3_kindHere_3 15 rfl rfl)
theorem dX3_kindHere_90 : decode cX3_kindHere 90 = .ok (.aload_n 0, 1) := dk_42 (dk_at dksX3_kindHere_3 18 rfl rfl)
theorem dX3_kindHere_91 : decode cX3_kindHere 91 = .ok (.bipush 116, 2) := dk_16 116 (dk_at dksX3_kindHere_3 19 rfl rfl)
theorem dX3_kindHere_93 : decode cX3_kindHere 93 = .ok (.bipush 117, 2) := dk_16 117 (dk_at dksX3_kindHere_3 21 rfl rfl)
theorem dX3_kindHere_95 : decode cX3_kindHere 95 = .ok (.bipush 114, 2) := dk_16 114 (dk_at dksX3_kindHere_4 0 rfl rfl)
theorem dX3_kindHere_97 : decode cX3_kindHere 97 = .ok (.bipush 110, 2) := dk_16 110 (dk_at dksX3_kindHere_4 2 rfl rfl)
theorem dX3_kindHere_99 : decode cX3_kindHere 99 = .ok (.bipush 105, 2) := dk_16 105 (dk_at dksX3_kindHere_4 4 rfl rfl)
theorem dX3_kindHere_101 : decode cX3_kindHere 101 = .ok (.bipush 110, 2) := dk_16 110 (dk_at dksX3_kindHere_4 6 rfl rfl)
theorem dX3_kindHere_103 : decode cX3_kindHere 103 = .ok (.bipush 103, 2) := dk_16 103 (dk_at dksX3_kindHere_4 8 rfl rfl)
theorem dX3_kindHere_105 : decode cX3_kindHere 105 = .ok (.invokevirtual 153, 3) := dk_182 0 153 (dk_at dksX3_kindHere_4 10 rfl rfl)
theorem dX3_kindHere_108 : decode cX3_kindHere 108 = .ok (.ifCond .eq 7, 3) := dk_153 0 7 (dk_at dksX3_kindHere_4 13 rfl rfl)
theorem dX3_kindHere_111 : decode cX3_kindHere 111 = .ok (.iconst 4, 1) := dk_7 (dk_at dksX3_kindHere_4 16 rfl rfl)
theorem dX3_kindHere_112 : decode cX3_kindHere 112 = .ok (.goto 29, 3) := dk_167 0 29 (dk_at dksX3_kindHere_4 17 rfl rfl)
theorem dX3_kindHere_115 : decode cX3_kindHere 115 = .ok (.aload_n 0, 1) := dk_42 (dk_at dksX3_kindHere_4 20 rfl rfl)
theorem dX3_kindHere_116 : decode cX3_kindHere 116 = .ok (.bipush 99, 2) := dk_16 99 (dk_at dksX3_kindHere_4 21 rfl rfl)
theorem dX3_kindHere_118 : decode cX3_kindHere 118 = .ok (.bipush 104, 2) := dk_16 104 (dk_at dksX3_kindHere_5 0 rfl rfl)
theorem dX3_kindHere_120 : decode cX3_kindHere 120 = .ok (.bipush 105, 2) := dk_16 105 (dk_at dksX3_kindHere_5 2 rfl rfl)
theorem dX3_kindHere_122 : decode cX3_kindHere 122 = .ok (.bipush 109, 2) := dk_16 109 (dk_at dksX3_kindHere_5 4 rfl rfl)
theorem dX3_kindHere_124 : decode cX3_kindHere 124 = .ok (.bipush 110, 2) := dk_16 110 (dk_at dksX3_kindHere_5 6 rfl rfl)
theorem dX3_kindHere_126 : decode cX3_kindHere 126 = .ok (.bipush 101, 2) := dk_16 101 (dk_at dksX3_kindHere_5 8 rfl rfl)
theorem dX3_kindHere_128 : decode cX3_kindHere 128 = .ok (.bipush 121, 2) := dk_16 121 (dk_at dksX3_kindHere_5 10 rfl rfl)
theorem dX3_kindHere_130 : decode cX3_kindHere 130 = .ok (.invokevirtual 153, 3) := dk_182 0 153 (dk_at dksX3_kindHere_5 12 rfl rfl)
theorem dX3_kindHere_133 : decode cX3_kindHere 133 = .ok (.ifCond .eq 7, 3) := dk_153 0 7 (dk_at dksX3_kindHere_5 15 rfl rfl)
theorem dX3_kindHere_136 : decode cX3_kindHere 136 = .ok (.iconst 5, 1) := dk_8 (dk_at dksX3_kindHere_5 18 rfl rfl)
theorem dX3_kindHere_137 : decode cX3_kindHere 137 = .ok (.goto 4, 3) := dk_167 0 4 (dk_at dksX3_kindHere_5 19 rfl rfl)
theorem dX3_kindHere_140 : decode cX3_kindHere 140 = .ok (.iconst (-1), 1) := dk_2 (dk_at dksX3_kindHere_5 22 rfl rfl)
theorem dX3_kindHere_141 : decode cX3_kindHere 141 = .ok (.ireturn, 1) := dk_172 (dk_at dksX3_kindHere_5 23 rfl rfl)
abbrev cX3_isWord : ByteArray := prog_16_method_29_code
def yX3_isWord : MethodName := ⟨RX3, "isWord", "(IIIIIII)Z"⟩
def dkwX3_isWord_5 : List UInt8 := [16, 6, 21, 7, 182, 0, 142, 153, 0, 7, 4, 167, 0, 4, 3, 172]
abbrev dktX3_isWord_5 : List UInt8 := dkwX3_isWord_5 ++ []
def dkwX3_isWord_4 : List UInt8 := [153, 0, 38, 42, 7, 21, 5, 182, 0, 142, 153, 0, 28, 42, 8, 21, 6, 182, 0, 142, 153, 0, 18, 42]
abbrev dktX3_isWord_4 : List UInt8 := dkwX3_isWord_4 ++ dktX3_isWord_5
def dkwX3_isWord_3 : List UInt8 := [4, 28, 182, 0, 142, 153, 0, 57, 42, 5, 29, 182, 0, 142, 153, 0, 48, 42, 6, 21, 4, 182, 0, 142]
abbrev dktX3_isWord_3 : List UInt8 := dkwX3_isWord_3 ++ dktX3_isWord_4
def dkwX3_isWord_2 : List UInt8 := [42, 180, 0, 120, 42, 180, 0, 123, 100, 21, 8, 160, 0, 75, 42, 3, 27, 182, 0, 142, 153, 0, 66, 42]
abbrev dktX3_isWord_2 : List UInt8 := dkwX3_isWord_2 ++ dktX3_isWord_3
def dkwX3_isWord_1 : List UInt8 := [167, 0, 15, 21, 7, 154, 0, 8, 16, 6, 167, 0, 5, 16, 7, 54, 8, 42, 180, 0, 135, 154, 0, 89]
abbrev dktX3_isWord_1 : List UInt8 := dkwX3_isWord_1 ++ dktX3_isWord_2
def dkwX3_isWord_0 : List UInt8 := [21, 4, 154, 0, 7, 6, 167, 0, 33, 21, 5, 154, 0, 7, 7, 167, 0, 24, 21, 6, 154, 0, 7, 8]
abbrev dktX3_isWord_0 : List UInt8 := dkwX3_isWord_0 ++ dktX3_isWord_1
theorem dksX3_isWord_0 : cX3_isWord.data.toList.drop 0 = dktX3_isWord_0 := by decide +kernel
theorem dksX3_isWord_1 : cX3_isWord.data.toList.drop 24 = dktX3_isWord_1 := dk_seg dksX3_isWord_0 24 rfl rfl
theorem dksX3_isWord_2 : cX3_isWord.data.toList.drop 48 = dktX3_isWord_2 := dk_seg dksX3_isWord_1 24 rfl rfl
theorem dksX3_isWord_3 : cX3_isWord.data.toList.drop 72 = dktX3_isWord_3 := dk_seg dksX3_isWord_2 24 rfl rfl
theorem dksX3_isWord_4 : cX3_isWord.data.toList.drop 96 = dktX3_isWord_4 := dk_seg dksX3_isWord_3 24 rfl rfl
theorem dksX3_isWord_5 : cX3_isWord.data.toList.drop 120 = dktX3_isWord_5 := dk_seg dksX3_isWord_4 24 rfl rfl
theorem dX3_isWord_0 : decode cX3_isWord 0 = .ok (.iload 4, 2) := dk_21 4 (dk_at dksX3_isWord_0 0 rfl rfl)
theorem dX3_isWord_2 : decode cX3_isWord 2 = .ok (.ifCond .ne 7, 3) := dk_154 0 7 (dk_at dksX3_isWord_0 2 rfl rfl)
theorem dX3_isWord_5 : decode cX3_isWord 5 = .ok (.iconst 3, 1) := dk_6 (dk_at dksX3_isWord_0 5 rfl rfl)
theorem dX3_isWord_6 : decode cX3_isWord 6 = .ok (.goto 33, 3) := dk_167 0 33 (dk_at dksX3_isWord_0 6 rfl rfl)
theorem dX3_isWord_9 : decode cX3_isWord 9 = .ok (.iload 5, 2) := dk_21 5 (dk_at dksX3_isWord_0 9 rfl rfl)
theorem dX3_isWord_11 : decode cX3_isWord 11 = .ok (.ifCond .ne 7, 3) := dk_154 0 7 (dk_at dksX3_isWord_0 11 rfl rfl)
theorem dX3_isWord_14 : decode cX3_isWord 14 = .ok (.iconst 4, 1) := dk_7 (dk_at dksX3_isWord_0 14 rfl rfl)
theorem dX3_isWord_15 : decode cX3_isWord 15 = .ok (.goto 24, 3) := dk_167 0 24 (dk_at dksX3_isWord_0 15 rfl rfl)
theorem dX3_isWord_18 : decode cX3_isWord 18 = .ok (.iload 6, 2) := dk_21 6 (dk_at dksX3_isWord_0 18 rfl rfl)
theorem dX3_isWord_20 : decode cX3_isWord 20 = .ok (.ifCond .ne 7, 3) := dk_154 0 7 (dk_at dksX3_isWord_0 20 rfl rfl)
theorem dX3_isWord_23 : decode cX3_isWord 23 = .ok (.iconst 5, 1) := dk_8 (dk_at dksX3_isWord_0 23 rfl rfl)
theorem dX3_isWord_24 : decode cX3_isWord 24 = .ok (.goto 15, 3) := dk_167 0 15 (dk_at dksX3_isWord_1 0 rfl rfl)
theorem dX3_isWord_27 : decode cX3_isWord 27 = .ok (.iload 7, 2) := dk_21 7 (dk_at dksX3_isWord_1 3 rfl rfl)
theorem dX3_isWord_29 : decode cX3_isWord 29 = .ok (.ifCond .ne 8, 3) := dk_154 0 8 (dk_at dksX3_isWord_1 5 rfl rfl)
theorem dX3_isWord_32 : decode cX3_isWord 32 = .ok (.bipush 6, 2) := dk_16 6 (dk_at dksX3_isWord_1 8 rfl rfl)
theorem dX3_isWord_34 : decode cX3_isWord 34 = .ok (.goto 5, 3) := dk_167 0 5 (dk_at dksX3_isWord_1 10 rfl rfl)
theorem dX3_isWord_37 : decode cX3_isWord 37 = .ok (.bipush 7, 2) := dk_16 7 (dk_at dksX3_isWord_1 13 rfl rfl)
theorem dX3_isWord_39 : decode cX3_isWord 39 = .ok (.istore 8, 2) := dk_54 8 (dk_at dksX3_isWord_1 15 rfl rfl)
theorem dX3_isWord_41 : decode cX3_isWord 41 = .ok (.aload_n 0, 1) := dk_42 (dk_at dksX3_isWord_1 17 rfl rfl)
theorem dX3_isWord_42 : decode cX3_isWord 42 = .ok (.getfield 135, 3) := dk_180 0 135 (dk_at dksX3_isWord_1 18 rfl rfl)
theorem dX3_isWord_45 : decode cX3_isWord 45 = .ok (.ifCond .ne 89, 3) := dk_154 0 89 (dk_at dksX3_isWord_1 21 rfl rfl)
theorem dX3_isWord_48 : decode cX3_isWord 48 = .ok (.aload_n 0, 1) := dk_42 (dk_at dksX3_isWord_2 0 rfl rfl)
theorem dX3_isWord_49 : decode cX3_isWord 49 = .ok (.getfield 120, 3) := dk_180 0 120 (dk_at dksX3_isWord_2 1 rfl rfl)
theorem dX3_isWord_52 : decode cX3_isWord 52 = .ok (.aload_n 0, 1) := dk_42 (dk_at dksX3_isWord_2 4 rfl rfl)
theorem dX3_isWord_53 : decode cX3_isWord 53 = .ok (.getfield 123, 3) := dk_180 0 123 (dk_at dksX3_isWord_2 5 rfl rfl)
theorem dX3_isWord_56 : decode cX3_isWord 56 = .ok (.isub, 1) := dk_100 (dk_at dksX3_isWord_2 8 rfl rfl)
theorem dX3_isWord_57 : decode cX3_isWord 57 = .ok (.iload 8, 2) := dk_21 8 (dk_at dksX3_isWord_2 9 rfl rfl)
theorem dX3_isWord_59 : decode cX3_isWord 59 = .ok (.if_icmp .ne 75, 3) := dk_160 0 75 (dk_at dksX3_isWord_2 11 rfl rfl)
theorem dX3_isWord_62 : decode cX3_isWord 62 = .ok (.aload_n 0, 1) := dk_42 (dk_at dksX3_isWord_2 14 rfl rfl)
theorem dX3_isWord_63 : decode cX3_isWord 63 = .ok (.iconst 0, 1) := dk_3 (dk_at dksX3_isWord_2 15 rfl rfl)
theorem dX3_isWord_64 : decode cX3_isWord 64 = .ok (.iload_n 1, 1) := dk_27 (dk_at dksX3_isWord_2 16 rfl rfl)
theorem dX3_isWord_65 : decode cX3_isWord 65 = .ok (.invokevirtual 142, 3) := dk_182 0 142 (dk_at dksX3_isWord_2 17 rfl rfl)
theorem dX3_isWord_68 : decode cX3_isWord 68 = .ok (.ifCond .eq 66, 3) := dk_153 0 66 (dk_at dksX3_isWord_2 20 rfl rfl)
theorem dX3_isWord_71 : decode cX3_isWord 71 = .ok (.aload_n 0, 1) := dk_42 (dk_at dksX3_isWord_2 23 rfl rfl)
theorem dX3_isWord_72 : decode cX3_isWord 72 = .ok (.iconst 1, 1) := dk_4 (dk_at dksX3_isWord_3 0 rfl rfl)
theorem dX3_isWord_73 : decode cX3_isWord 73 = .ok (.iload_n 2, 1) := dk_28 (dk_at dksX3_isWord_3 1 rfl rfl)
theorem dX3_isWord_74 : decode cX3_isWord 74 = .ok (.invokevirtual 142, 3) := dk_182 0 142 (dk_at dksX3_isWord_3 2 rfl rfl)
theorem dX3_isWord_77 : decode cX3_isWord 77 = .ok (.ifCond .eq 57, 3) := dk_153 0 57 (dk_at dksX3_isWord_3 5 rfl rfl)
theorem dX3_isWord_80 : decode cX3_isWord 80 = .ok (.aload_n 0, 1) := dk_42 (dk_at dksX3_isWord_3 8 rfl rfl)
theorem dX3_isWord_81 : decode cX3_isWord 81 = .ok (.iconst 2, 1) := dk_5 (dk_at dksX3_isWord_3 9 rfl rfl)
theorem dX3_isWord_82 : decode cX3_isWord 82 = .ok (.iload_n 3, 1) := dk_29 (dk_at dksX3_isWord_3 10 rfl rfl)
theorem dX3_isWord_83 : decode cX3_isWord 83 = .ok (.invokevirtual 142, 3) := dk_182 0 142 (dk_at dksX3_isWord_3 11 rfl rfl)
theorem dX3_isWord_86 : decode cX3_isWord 86 = .ok (.ifCond .eq 48, 3) := dk_153 0 48 (dk_at dksX3_isWord_3 14 rfl rfl)
theorem dX3_isWord_89 : decode cX3_isWord 89 = .ok (.aload_n 0, 1) := dk_42 (dk_at dksX3_isWord_3 17 rfl rfl)
theorem dX3_isWord_90 : decode cX3_isWord 90 = .ok (.iconst 3, 1) := dk_6 (dk_at dksX3_isWord_3 18 rfl rfl)
theorem dX3_isWord_91 : decode cX3_isWord 91 = .ok (.iload 4, 2) := dk_21 4 (dk_at dksX3_isWord_3 19 rfl rfl)
theorem dX3_isWord_93 : decode cX3_isWord 93 = .ok (.invokevirtual 142, 3) := dk_182 0 142 (dk_at dksX3_isWord_3 21 rfl rfl)
theorem dX3_isWord_96 : decode cX3_isWord 96 = .ok (.ifCond .eq 38, 3) := dk_153 0 38 (dk_at dksX3_isWord_4 0 rfl rfl)
theorem dX3_isWord_99 : decode cX3_isWord 99 = .ok (.aload_n 0, 1) := dk_42 (dk_at dksX3_isWord_4 3 rfl rfl)
theorem dX3_isWord_100 : decode cX3_isWord 100 = .ok (.iconst 4, 1) := dk_7 (dk_at dksX3_isWord_4 4 rfl rfl)
theorem dX3_isWord_101 : decode cX3_isWord 101 = .ok (.iload 5, 2) := dk_21 5 (dk_at dksX3_isWord_4 5 rfl rfl)
theorem dX3_isWord_103 : decode cX3_isWord 103 = .ok (.invokevirtual 142, 3) := dk_182 0 142 (dk_at dksX3_isWord_4 7 rfl rfl)
theorem dX3_isWord_106 : decode cX3_isWord 106 = .ok (.ifCond .eq 28, 3) := dk_153 0 28 (dk_at dksX3_isWord_4 10 rfl rfl)
theorem dX3_isWord_109 : decode cX3_isWord 109 = .ok (.aload_n 0, 1) := dk_42 (dk_at dksX3_isWord_4 13 rfl rfl)
theorem dX3_isWord_110 : decode cX3_isWord 110 = .ok (.iconst 5, 1) := dk_8 (dk_at dksX3_isWord_4 14 rfl rfl)
theorem dX3_isWord_111 : decode cX3_isWord 111 = .ok (.iload 6, 2) := dk_21 6 (dk_at dksX3_isWord_4 15 rfl rfl)
theorem dX3_isWord_113 : decode cX3_isWord 113 = .ok (.invokevirtual 142, 3) := dk_182 0 142 (dk_at dksX3_isWord_4 17 rfl rfl)
theorem dX3_isWord_116 : decode cX3_isWord 116 = .ok (.ifCond .eq 18, 3) := dk_153 0 18 (dk_at dksX3_isWord_4 20 rfl rfl)
theorem dX3_isWord_119 : decode cX3_isWord 119 = .ok (.aload_n 0, 1) := dk_42 (dk_at dksX3_isWord_4 23 rfl rfl)
theorem dX3_isWord_120 : decode cX3_isWord 120 = .ok (.bipush 6, 2) := dk_16 6 (dk_at dksX3_isWord_5 0 rfl rfl)
theorem dX3_isWord_122 : decode cX3_isWord 122 = .ok (.iload 7, 2) := dk_21 7 (dk_at dksX3_isWord_5 2 rfl rfl)
theorem dX3_isWord_124 : decode cX3_isWord 124 = .ok (.invokevirtual 142, 3) := dk_182 0 142 (dk_at dksX3_isWord_5 4 rfl rfl)
theorem dX3_isWord_127 : decode cX3_isWord 127 = .ok (.ifCond .eq 7, 3) := dk_153 0 7 (dk_at dksX3_isWord_5 7 rfl rfl)
theorem dX3_isWord_130 : decode cX3_isWord 130 = .ok (.iconst 1, 1) := dk_4 (dk_at dksX3_isWord_5 10 rfl rfl)
theorem dX3_isWord_131 : decode cX3_isWord 131 = .ok (.goto 4, 3) := dk_167 0 4 (dk_at dksX3_isWord_5 11 rfl rfl)
theorem dX3_isWord_134 : decode cX3_isWord 134 = .ok (.iconst 0, 1) := dk_3 (dk_at dksX3_isWord_5 14 rfl rfl)
theorem dX3_isWord_135 : decode cX3_isWord 135 = .ok (.ireturn, 1) := dk_172 (dk_at dksX3_isWord_5 15 rfl rfl)
abbrev cX3_isAt : ByteArray := prog_16_method_28_code
def yX3_isAt : MethodName := ⟨RX3, "isAt", "(II)Z"⟩
def dkwX3_isAt_0 : List UInt8 := [28, 153, 0, 17, 42, 42, 180, 0, 123, 27, 96, 182, 0, 126, 28, 160, 0, 7, 4, 167, 0, 4, 3, 172]
abbrev dktX3_isAt_0 : List UInt8 := dkwX3_isAt_0 ++ []
theorem dksX3_isAt_0 : cX3_isAt.data.toList.drop 0 = dktX3_isAt_0 := by decide +kernel
theorem dX3_isAt_0 : decode cX3_isAt 0 = .ok (.iload_n 2, 1) := dk_28 (dk_at dksX3_isAt_0 0 rfl rfl)
theorem dX3_isAt_1 : decode cX3_isAt 1 = .ok (.ifCond .eq 17, 3) := dk_153 0 17 (dk_at dksX3_isAt_0 1 rfl rfl)
theorem dX3_isAt_4 : decode cX3_isAt 4 = .ok (.aload_n 0, 1) := dk_42 (dk_at dksX3_isAt_0 4 rfl rfl)
theorem dX3_isAt_5 : decode cX3_isAt 5 = .ok (.aload_n 0, 1) := dk_42 (dk_at dksX3_isAt_0 5 rfl rfl)
theorem dX3_isAt_6 : decode cX3_isAt 6 = .ok (.getfield 123, 3) := dk_180 0 123 (dk_at dksX3_isAt_0 6 rfl rfl)
theorem dX3_isAt_9 : decode cX3_isAt 9 = .ok (.iload_n 1, 1) := dk_27 (dk_at dksX3_isAt_0 9 rfl rfl)
theorem dX3_isAt_10 : decode cX3_isAt 10 = .ok (.iadd, 1) := dk_96 (dk_at dksX3_isAt_0 10 rfl rfl)
theorem dX3_isAt_11 : decode cX3_isAt 11 = .ok (.invokevirtual 126, 3) := dk_182 0 126 (dk_at dksX3_isAt_0 11 rfl rfl)
theorem dX3_isAt_14 : decode cX3_isAt 14 = .ok (.iload_n 2, 1) := dk_28 (dk_at dksX3_isAt_0 14 rfl rfl)
theorem dX3_isAt_15 : decode cX3_isAt 15 = .ok (.if_icmp .ne 7, 3) := dk_160 0 7 (dk_at dksX3_isAt_0 15 rfl rfl)
theorem dX3_isAt_18 : decode cX3_isAt 18 = .ok (.iconst 1, 1) := dk_4 (dk_at dksX3_isAt_0 18 rfl rfl)
theorem dX3_isAt_19 : decode cX3_isAt 19 = .ok (.goto 4, 3) := dk_167 0 4 (dk_at dksX3_isAt_0 19 rfl rfl)
theorem dX3_isAt_22 : decode cX3_isAt 22 = .ok (.iconst 0, 1) := dk_3 (dk_at dksX3_isAt_0 22 rfl rfl)
theorem dX3_isAt_23 : decode cX3_isAt 23 = .ok (.ireturn, 1) := dk_172 (dk_at dksX3_isAt_0 23 rfl rfl)
abbrev cX3_gapItem : ByteArray := prog_16_method_33_code
def yX3_gapItem : MethodName := ⟨RX3, "gapItem", "(I)V"⟩
def dkwX3_gapItem_10 : List UInt8 := [182, 0, 75, 87, 177]
abbrev dktX3_gapItem_10 : List UInt8 := dkwX3_gapItem_10 ++ []
def dkwX3_gapItem_9 : List UInt8 := [182, 0, 163, 54, 7, 42, 180, 0, 135, 154, 0, 19, 42, 27, 28, 29, 21, 4, 21, 5, 21, 6, 21, 7]
abbrev dktX3_gapItem_9 : List UInt8 := dkwX3_gapItem_9 ++ dktX3_gapItem_10
def dkwX3_gapItem_8 : List UInt8 := [182, 0, 163, 54, 6, 42, 42, 16, 99, 16, 111, 16, 115, 16, 116, 3, 3, 3, 182, 0, 153, 16, 99]
abbrev dktX3_gapItem_8 : List UInt8 := dkwX3_gapItem_8 ++ dktX3_gapItem_9
def dkwX3_gapItem_7 : List UInt8 := [182, 0, 163, 54, 5, 42, 42, 16, 115, 16, 105, 16, 100, 16, 101, 3, 3, 3, 182, 0, 153, 6]
abbrev dktX3_gapItem_7 : List UInt8 := dkwX3_gapItem_7 ++ dktX3_gapItem_8
def dkwX3_gapItem_6 : List UInt8 := [180, 0, 146, 54, 4, 42, 42, 16, 104, 16, 105, 16, 103, 16, 104, 3, 3, 3, 182, 0, 153, 16, 9]
abbrev dktX3_gapItem_6 : List UInt8 := dkwX3_gapItem_6 ++ dktX3_gapItem_7
def dkwX3_gapItem_5 : List UInt8 := [180, 0, 7, 3, 46, 4, 100, 182, 0, 157, 42, 180, 0, 146, 62, 42, 3, 16, 99, 182, 0, 157, 42]
abbrev dktX3_gapItem_5 : List UInt8 := dkwX3_gapItem_5 ++ dktX3_gapItem_6
def dkwX3_gapItem_4 : List UInt8 := [153, 0, 7, 4, 167, 0, 4, 3, 54, 4, 21, 4, 153, 0, 8, 42, 4, 181, 0, 135, 42, 3, 42]
abbrev dktX3_gapItem_4 : List UInt8 := dkwX3_gapItem_4 ++ dktX3_gapItem_5
def dkwX3_gapItem_3 : List UInt8 := [154, 0, 29, 42, 42, 180, 0, 123, 182, 0, 126, 184, 0, 132, 153, 0, 15, 42, 28, 182, 0, 160]
abbrev dktX3_gapItem_3 : List UInt8 := dkwX3_gapItem_3 ++ dktX3_gapItem_4
def dkwX3_gapItem_2 : List UInt8 := [3, 3, 3, 3, 182, 0, 153, 153, 0, 11, 42, 4, 182, 0, 149, 167, 0, 67, 42, 180, 0, 135]
abbrev dktX3_gapItem_2 : List UInt8 := dkwX3_gapItem_2 ++ dktX3_gapItem_3
def dkwX3_gapItem_1 : List UInt8 := [180, 0, 7, 3, 46, 4, 100, 182, 0, 157, 42, 180, 0, 146, 61, 2, 62, 42, 16, 111, 16, 117, 16, 116]
abbrev dktX3_gapItem_1 : List UInt8 := dkwX3_gapItem_1 ++ dktX3_gapItem_2
def dkwX3_gapItem_0 : List UInt8 := [42, 42, 180, 0, 7, 4, 46, 16, 20, 162, 0, 7, 4, 167, 0, 4, 3, 182, 0, 149, 42, 3, 42]
abbrev dktX3_gapItem_0 : List UInt8 := dkwX3_gapItem_0 ++ dktX3_gapItem_1
theorem dksX3_gapItem_0 : cX3_gapItem.data.toList.drop 0 = dktX3_gapItem_0 := by decide +kernel
theorem dksX3_gapItem_1 : cX3_gapItem.data.toList.drop 23 = dktX3_gapItem_1 := dk_seg dksX3_gapItem_0 23 rfl rfl
theorem dksX3_gapItem_2 : cX3_gapItem.data.toList.drop 47 = dktX3_gapItem_2 := dk_seg dksX3_gapItem_1 24 rfl rfl
theorem dksX3_gapItem_3 : cX3_gapItem.data.toList.drop 69 = dktX3_gapItem_3 := dk_seg dksX3_gapItem_2 22 rfl rfl
theorem dksX3_gapItem_4 : cX3_gapItem.data.toList.drop 91 = dktX3_gapItem_4 := dk_seg dksX3_gapItem_3 22 rfl rfl
theorem dksX3_gapItem_5 : cX3_gapItem.data.toList.drop 114 = dktX3_gapItem_5 := dk_seg dksX3_gapItem_4 23 rfl rfl
theorem dksX3_gapItem_6 : cX3_gapItem.data.toList.drop 137 = dktX3_gapItem_6 := dk_seg dksX3_gapItem_5 23 rfl rfl
theorem dksX3_gapItem_7 : cX3_gapItem.data.toList.drop 160 = dktX3_gapItem_7 := dk_seg dksX3_gapItem_6 23 rfl rfl
theorem dksX3_gapItem_8 : cX3_gapItem.data.toList.drop 182 = dktX3_gapItem_8 := dk_seg dksX3_gapItem_7 22 rfl rfl
theorem dksX3_gapItem_9 : cX3_gapItem.data.toList.drop 205 = dktX3_gapItem_9 := dk_seg dksX3_gapItem_8 23 rfl rfl
theorem dksX3_gapItem_10 : cX3_gapItem.data.toList.drop 229 = dktX3_gapItem_10 := dk_seg dksX3_gapItem_9 24 rfl rfl
theorem dX3_gapItem_0 : decode cX3_gapItem 0 = .ok (.aload_n 0, 1) := dk_42 (dk_at dksX3_gapItem_0 0 rfl rfl)
theorem dX3_gapItem_1 : decode cX3_gapItem 1 = .ok (.aload_n 0, 1) := dk_42 (dk_at dksX3_gapItem_0 1 rfl rfl)
theorem dX3_gapItem_2 : decode cX3_gapItem 2 = .ok (.getfield 7, 3) := dk_180 0 7 (dk_at dksX3_gapItem_0 2 rfl rfl)
theorem dX3_gapItem_5 : decode cX3_gapItem 5 = .ok (.iconst 1, 1) := dk_4 (dk_at dksX3_gapItem_0 5 rfl rfl)
theorem dX3_gapItem_6 : decode cX3_gapItem 6 = .ok (.iaload, 1) := dk_46 (dk_at dksX3_gapItem_0 6 rfl rfl)
theorem dX3_gapItem_7 : decode cX3_gapItem 7 = .ok (.bipush 20, 2) := dk_16 20 (dk_at dksX3_gapItem_0 7 rfl rfl)
theorem dX3_gapItem_9 : decode cX3_gapItem 9 = .ok (.if_icmp .ge 7, 3) := dk_162 0 7 (dk_at dksX3_gapItem_0 9 rfl rfl)
theorem dX3_gapItem_12 : decode cX3_gapItem 12 = .ok (.iconst 1, 1) := dk_4 (dk_at dksX3_gapItem_0 12 rfl rfl)
theorem dX3_gapItem_13 : decode cX3_gapItem 13 = .ok (.goto 4, 3) := dk_167 0 4 (dk_at dksX3_gapItem_0 13 rfl rfl)
theorem dX3_gapItem_16 : decode cX3_gapItem 16 = .ok (.iconst 0, 1) := dk_3 (dk_at dksX3_gapItem_0 16 rfl rfl)
theorem dX3_gapItem_17 : decode cX3_gapItem 17 = .ok (.invokevirtual 149, 3) := dk_182 0 149 (dk_at dksX3_gapItem_0 17 rfl rfl)
theorem dX3_gapItem_20 : decode cX3_gapItem 20 = .ok (.aload_n 0, 1) := dk_42 (dk_at dksX3_gapItem_0 20 rfl rfl)
theorem dX3_gapItem_21 : decode cX3_gapItem 21 = .ok (.iconst 0, 1) := dk_3 (dk_at dksX3_gapItem_0 21 rfl rfl)
theorem dX3_gapItem_22 : decode cX3_gapItem 22 = .ok (.aload_n 0, 1) := dk_42 (dk_at dksX3_gapItem_0 22 rfl rfl)
theorem dX3_gapItem_23 : decode cX3_gapItem 23 = .ok (.getfield 7, 3) := dk_180 0 7 (dk_at dksX3_gapItem_1 0 rfl rfl)
theorem dX3_gapItem_26 : decode cX3_gapItem 26 = .ok (.iconst 0, 1) := dk_3 (dk_at dksX3_gapItem_1 3 rfl rfl)
theorem dX3_gapItem_27 : decode cX3_gapItem 27 = .ok (.iaload, 1) := dk_46 (dk_at dksX3_gapItem_1 4 rfl rfl)
theorem dX3_gapItem_28 : decode cX3_gapItem 28 = .ok (.iconst 1, 1) := dk_4 (dk_at dksX3_gapItem_1 5 rfl rfl)
theorem dX3_gapItem_29 : decode cX3_gapItem 29 = .ok (.isub, 1) := dk_100 (dk_at dksX3_gapItem_1 6 rfl rfl)
theorem dX3_gapItem_30 : decode cX3_gapItem 30 = .ok (.invokevirtual 157, 3) := dk_182 0 157 (dk_at dksX3_gapItem_1 7 rfl rfl)
theorem dX3_gapItem_33 : decode cX3_gapItem 33 = .ok (.aload_n 0, 1) := dk_42 (dk_at dksX3_gapItem_1 10 rfl rfl)
theorem dX3_gapItem_34 : decode cX3_gapItem 34 = .ok (.getfield 146, 3) := dk_180 0 146 (dk_at dksX3_gapItem_1 11 rfl rfl)
theorem dX3_gapItem_37 : decode cX3_gapItem 37 = .ok (.istore_n 2, 1) := dk_61 (dk_at dksX3_gapItem_1 14 rfl rfl)
theorem dX3_gapItem_38 : decode cX3_gapItem 38 = .ok (.iconst (-1), 1) := dk_2 (dk_at dksX3_gapItem_1 15 rfl rfl)
theorem dX3_gapItem_39 : decode cX3_gapItem 39 = .ok (.istore_n 3, 1) := dk_62 (dk_at dksX3_gapItem_1 16 rfl rfl)
theorem dX3_gapItem_40 : decode cX3_gapItem 40 = .ok (.aload_n 0, 1) := dk_42 (dk_at dksX3_gapItem_1 17 rfl rfl)
theorem dX3_gapItem_41 : decode cX3_gapItem 41 = .ok (.bipush 111, 2) := dk_16 111 (dk_at dksX3_gapItem_1 18 rfl rfl)
theorem dX3_gapItem_43 : decode cX3_gapItem 43 = .ok (.bipush 117, 2) := dk_16 117 (dk_at dksX3_gapItem_1 20 rfl rfl)
theorem dX3_gapItem_45 : decode cX3_gapItem 45 = .ok (.bipush 116, 2) := dk_16 116 (dk_at dksX3_gapItem_1 22 rfl rfl)
theorem dX3_gapItem_47 : decode cX3_gapItem 47 = .ok (.iconst 0, 1) := dk_3 (dk_at dksX3_gapItem_2 0 rfl rfl)
theorem dX3_gapItem_48 : decode cX3_gapItem 48 = .ok (.iconst 0, 1) := dk_3 (dk_at dksX3_gapItem_2 1 rfl rfl)
theorem dX3_gapItem_49 : decode cX3_gapItem 49 = .ok (.iconst 0, 1) := dk_3 (dk_at dksX3_gapItem_2 2 rfl rfl)
theorem dX3_gapItem_50 : decode cX3_gapItem 50 = .ok (.iconst 0, 1) := dk_3 (dk_at dksX3_gapItem_2 3 rfl rfl)
theorem dX3_gapItem_51 : decode cX3_gapItem 51 = .ok (.invokevirtual 153, 3) := dk_182 0 153 (dk_at dksX3_gapItem_2 4 rfl rfl)
theorem dX3_gapItem_54 : decode cX3_gapItem 54 = .ok (.ifCond .eq 11, 3) := dk_153 0 11 (dk_at dksX3_gapItem_2 7 rfl rfl)
theorem dX3_gapItem_57 : decode cX3_gapItem 57 = .ok (.aload_n 0, 1) := dk_42 (dk_at dksX3_gapItem_2 10 rfl rfl)
theorem dX3_gapItem_58 : decode cX3_gapItem 58 = .ok (.iconst 1, 1) := dk_4 (dk_at dksX3_gapItem_2 11 rfl rfl)
theorem dX3_gapItem_59 : decode cX3_gapItem 59 = .ok (.invokevirtual 149, 3) := dk_182 0 149 (dk_at dksX3_gapItem_2 12 rfl rfl)
theorem dX3_gapItem_62 : decode cX3_gapItem 62 = .ok (.goto 67, 3) := dk_167 0 67 (dk_at dksX3_gapItem_2 15 rfl rfl)
theorem dX3_gapItem_65 : decode cX3_gapItem 65 = .ok (.aload_n 0, 1) := dk_42 (dk_at dksX3_gapItem_2 18 rfl rfl)
theorem dX3_gapItem_66 : decode cX3_gapItem 66 = .ok (.getfield 135, 3) := dk_180 0 135 (dk_at dksX3_gapItem_2 19 rfl rfl)
theorem dX3_gapItem_69 : decode cX3_gapItem 69 = .ok (.ifCond .ne 29, 3) := dk_154 0 29 (dk_at dksX3_gapItem_3 0 rfl rfl)
theorem dX3_gapItem_72 : decode cX3_gapItem 72 = .ok (.aload_n 0, 1) := dk_42 (dk_at dksX3_gapItem_3 3 rfl rfl)
theorem dX3_gapItem_73 : decode cX3_gapItem 73 = .ok (.aload_n 0, 1) := dk_42 (dk_at dksX3_gapItem_3 4 rfl rfl)
theorem dX3_gapItem_74 : decode cX3_gapItem 74 = .ok (.getfield 123, 3) := dk_180 0 123 (dk_at dksX3_gapItem_3 5 rfl rfl)
theorem dX3_gapItem_77 : decode cX3_gapItem 77 = .ok (.invokevirtual 126, 3) := dk_182 0 126 (dk_at dksX3_gapItem_3 8 rfl rfl)
theorem dX3_gapItem_80 : decode cX3_gapItem 80 = .ok (.invokestatic 132, 3) := dk_184 0 132 (dk_at dksX3_gapItem_3 11 rfl rfl)
theorem dX3_gapItem_83 : decode cX3_gapItem 83 = .ok (.ifCond .eq 15, 3) := dk_153 0 15 (dk_at dksX3_gapItem_3 14 rfl rfl)
theorem dX3_gapItem_86 : decode cX3_gapItem 86 = .ok (.aload_n 0, 1) := dk_42 (dk_at dksX3_gapItem_3 17 rfl rfl)
theorem dX3_gapItem_87 : decode cX3_gapItem 87 = .ok (.iload_n 2, 1) := dk_28 (dk_at dksX3_gapItem_3 18 rfl rfl)
theorem dX3_gapItem_88 : decode cX3_gapItem 88 = .ok (.invokevirtual 160, 3) := dk_182 0 160 (dk_at dksX3_gapItem_3 19 rfl rfl)
theorem dX3_gapItem_91 : decode cX3_gapItem 91 = .ok (.ifCond .eq 7, 3) := dk_153 0 7 (dk_at dksX3_gapItem_4 0 rfl rfl)
theorem dX3_gapItem_94 : decode cX3_gapItem 94 = .ok (.iconst 1, 1) := dk_4 (dk_at dksX3_gapItem_4 3 rfl rfl)
theorem dX3_gapItem_95 : decode cX3_gapItem 95 = .ok (.goto 4, 3) := dk_167 0 4 (dk_at dksX3_gapItem_4 4 rfl rfl)
theorem dX3_gapItem_98 : decode cX3_gapItem 98 = .ok (.iconst 0, 1) := dk_3 (dk_at dksX3_gapItem_4 7 rfl rfl)
theorem dX3_gapItem_99 : decode cX3_gapItem 99 = .ok (.istore 4, 2) := dk_54 4 (dk_at dksX3_gapItem_4 8 rfl rfl)
theorem dX3_gapItem_101 : decode cX3_gapItem 101 = .ok (.iload 4, 2) := dk_21 4 (dk_at dksX3_gapItem_4 10 rfl rfl)
theorem dX3_gapItem_103 : decode cX3_gapItem 103 = .ok (.ifCond .eq 8, 3) := dk_153 0 8 (dk_at dksX3_gapItem_4 12 rfl rfl)
theorem dX3_gapItem_106 : decode cX3_gapItem 106 = .ok (.aload_n 0, 1) := dk_42 (dk_at dksX3_gapItem_4 15 rfl rfl)
theorem dX3_gapItem_107 : decode cX3_gapItem 107 = .ok (.iconst 1, 1) := dk_4 (dk_at dksX3_gapItem_4 16 rfl rfl)
theorem dX3_gapItem_108 : decode cX3_gapItem 108 = .ok (.putfield 135, 3) := dk_181 0 135 (dk_at dksX3_gapItem_4 17 rfl rfl)
theorem dX3_gapItem_111 : decode cX3_gapItem 111 = .ok (.aload_n 0, 1) := dk_42 (dk_at dksX3_gapItem_4 20 rfl rfl)
theorem dX3_gapItem_112 : decode cX3_gapItem 112 = .ok (.iconst 0, 1) := dk_3 (dk_at dksX3_gapItem_4 21 rfl rfl)
theorem dX3_gapItem_113 : decode cX3_gapItem 113 = .ok (.aload_n 0, 1) := dk_42 (dk_at dksX3_gapItem_4 22 rfl rfl)
theorem dX3_gapItem_114 : decode cX3_gapItem 114 = .ok (.getfield 7, 3) := dk_180 0 7 (dk_at dksX3_gapItem_5 0 rfl rfl)
theorem dX3_gapItem_117 : decode cX3_gapItem 117 = .ok (.iconst 0, 1) := dk_3 (dk_at dksX3_gapItem_5 3 rfl rfl)
theorem dX3_gapItem_118 : decode cX3_gapItem 118 = .ok (.iaload, 1) := dk_46 (dk_at dksX3_gapItem_5 4 rfl rfl)
theorem dX3_gapItem_119 : decode cX3_gapItem 119 = .ok (.iconst 1, 1) := dk_4 (dk_at dksX3_gapItem_5 5 rfl rfl)
theorem dX3_gapItem_120 : decode cX3_gapItem 120 = .ok (.isub, 1) := dk_100 (dk_at dksX3_gapItem_5 6 rfl rfl)
theorem dX3_gapItem_121 : decode cX3_gapItem 121 = .ok (.invokevirtual 157, 3) := dk_182 0 157 (dk_at dksX3_gapItem_5 7 rfl rfl)
theorem dX3_gapItem_124 : decode cX3_gapItem 124 = .ok (.aload_n 0, 1) := dk_42 (dk_at dksX3_gapItem_5 10 rfl rfl)
theorem dX3_gapItem_125 : decode cX3_gapItem 125 = .ok (.getfield 146, 3) := dk_180 0 146 (dk_at dksX3_gapItem_5 11 rfl rfl)
theorem dX3_gapItem_128 : decode cX3_gapItem 128 = .ok (.istore_n 3, 1) := dk_62 (dk_at dksX3_gapItem_5 14 rfl rfl)
theorem dX3_gapItem_129 : decode cX3_gapItem 129 = .ok (.aload_n 0, 1) := dk_42 (dk_at dksX3_gapItem_5 15 rfl rfl)
theorem dX3_gapItem_130 : decode cX3_gapItem 130 = .ok (.iconst 0, 1) := dk_3 (dk_at dksX3_gapItem_5 16 rfl rfl)
theorem dX3_gapItem_131 : decode cX3_gapItem 131 = .ok (.bipush 99, 2) := dk_16 99 (dk_at dksX3_gapItem_5 17 rfl rfl)
theorem dX3_gapItem_133 : decode cX3_gapItem 133 = .ok (.invokevirtual 157, 3) := dk_182 0 157 (dk_at dksX3_gapItem_5 19 rfl rfl)
theorem dX3_gapItem_136 : decode cX3_gapItem 136 = .ok (.aload_n 0, 1) := dk_42 (dk_at dksX3_gapItem_5 22 rfl rfl)
theorem dX3_gapItem_137 : decode cX3_gapItem 137 = .ok (.getfield 146, 3) := dk_180 0 146 (dk_at dksX3_gapItem_6 0 rfl rfl)
theorem dX3_gapItem_140 : decode cX3_gapItem 140 = .ok (.istore 4, 2) := dk_54 4 (dk_at dksX3_gapItem_6 3 rfl rfl)
theorem dX3_gapItem_142 : decode cX3_gapItem 142 = .ok (.aload_n 0, 1) := dk_42 (dk_at dksX3_gapItem_6 5 rfl rfl)
theorem dX3_gapItem_143 : decode cX3_gapItem 143 = .ok (.aload_n 0, 1) := dk_42 (dk_at dksX3_gapItem_6 6 rfl rfl)
theorem dX3_gapItem_144 : decode cX3_gapItem 144 = .ok (.bipush 104, 2) := dk_16 104 (dk_at dksX3_gapItem_6 7 rfl rfl)
theorem dX3_gapItem_146 : decode cX3_gapItem 146 = .ok (.bipush 105, 2) := dk_16 105 (dk_at dksX3_gapItem_6 9 rfl rfl)
theorem dX3_gapItem_148 : decode cX3_gapItem 148 = .ok (.bipush 103, 2) := dk_16 103 (dk_at dksX3_gapItem_6 11 rfl rfl)
theorem dX3_gapItem_150 : decode cX3_gapItem 150 = .ok (.bipush 104, 2) := dk_16 104 (dk_at dksX3_gapItem_6 13 rfl rfl)
theorem dX3_gapItem_152 : decode cX3_gapItem 152 = .ok (.iconst 0, 1) := dk_3 (dk_at dksX3_gapItem_6 15 rfl rfl)
theorem dX3_gapItem_153 : decode cX3_gapItem 153 = .ok (.iconst 0, 1) := dk_3 (dk_at dksX3_gapItem_6 16 rfl rfl)
theorem dX3_gapItem_154 : decode cX3_gapItem 154 = .ok (.iconst 0, 1) := dk_3 (dk_at dksX3_gapItem_6 17 rfl rfl)
theorem dX3_gapItem_155 : decode cX3_gapItem 155 = .ok (.invokevirtual 153, 3) := dk_182 0 153 (dk_at dksX3_gapItem_6 18 rfl rfl)
theorem dX3_gapItem_158 : decode cX3_gapItem 158 = .ok (.bipush 9, 2) := dk_16 9 (dk_at dksX3_gapItem_6 21 rfl rfl)
theorem dX3_gapItem_160 : decode cX3_gapItem 160 = .ok (.invokevirtual 163, 3) := dk_182 0 163 (dk_at dksX3_gapItem_7 0 rfl rfl)
theorem dX3_gapItem_163 : decode cX3_gapItem 163 = .ok (.istore 5, 2) := dk_54 5 (dk_at dksX3_gapItem_7 3 rfl rfl)
theorem dX3_gapItem_165 : decode cX3_gapItem 165 = .ok (.aload_n 0, 1) := dk_42 (dk_at dksX3_gapItem_7 5 rfl rfl)
theorem dX3_gapItem_166 : decode cX3_gapItem 166 = .ok (.aload_n 0, 1) := dk_42 (dk_at dksX3_gapItem_7 6 rfl rfl)
theorem dX3_gapItem_167 : decode cX3_gapItem 167 = .ok (.bipush 115, 2) := dk_16 115 (dk_at dksX3_gapItem_7 7 rfl rfl)
theorem dX3_gapItem_169 : decode cX3_gapItem 169 = .ok (.bipush 105, 2) := dk_16 105 (dk_at dksX3_gapItem_7 9 rfl rfl)
theorem dX3_gapItem_171 : decode cX3_gapItem 171 = .ok (.bipush 100, 2) := dk_16 100 (dk_at dksX3_gapItem_7 11 rfl rfl)
theorem dX3_gapItem_173 : decode cX3_gapItem 173 = .ok (.bipush 101, 2) := dk_16 101 (dk_at dksX3_gapItem_7 13 rfl rfl)
theorem dX3_gapItem_175 : decode cX3_gapItem 175 = .ok (.iconst 0, 1) := dk_3 (dk_at dksX3_gapItem_7 15 rfl rfl)
theorem dX3_gapItem_176 : decode cX3_gapItem 176 = .ok (.iconst 0, 1) := dk_3 (dk_at dksX3_gapItem_7 16 rfl rfl)
theorem dX3_gapItem_177 : decode cX3_gapItem 177 = .ok (.iconst 0, 1) := dk_3 (dk_at dksX3_gapItem_7 17 rfl rfl)
theorem dX3_gapItem_178 : decode cX3_gapItem 178 = .ok (.invokevirtual 153, 3) := dk_182 0 153 (dk_at dksX3_gapItem_7 18 rfl rfl)
theorem dX3_gapItem_181 : decode cX3_gapItem 181 = .ok (.iconst 3, 1) := dk_6 (dk_at dksX3_gapItem_7 21 rfl rfl)
theorem dX3_gapItem_182 : decode cX3_gapItem 182 = .ok (.invokevirtual 163, 3) := dk_182 0 163 (dk_at dksX3_gapItem_8 0 rfl rfl)
theorem dX3_gapItem_185 : decode cX3_gapItem 185 = .ok (.istore 6, 2) := dk_54 6 (dk_at dksX3_gapItem_8 3 rfl rfl)
theorem dX3_gapItem_187 : decode cX3_gapItem 187 = .ok (.aload_n 0, 1) := dk_42 (dk_at dksX3_gapItem_8 5 rfl rfl)
theorem dX3_gapItem_188 : decode cX3_gapItem 188 = .ok (.aload_n 0, 1) := dk_42 (dk_at dksX3_gapItem_8 6 rfl rfl)
theorem dX3_gapItem_189 : decode cX3_gapItem 189 = .ok (.bipush 99, 2) := dk_16 99 (dk_at dksX3_gapItem_8 7 rfl rfl)
theorem dX3_gapItem_191 : decode cX3_gapItem 191 = .ok (.bipush 111, 2) := dk_16 111 (dk_at dksX3_gapItem_8 9 rfl rfl)
theorem dX3_gapItem_193 : decode cX3_gapItem 193 = .ok (.bipush 115, 2) := dk_16 115 (dk_at dksX3_gapItem_8 11 rfl rfl)
theorem dX3_gapItem_195 : decode cX3_gapItem 195 = .ok (.bipush 116, 2) := dk_16 116 (dk_at dksX3_gapItem_8 13 rfl rfl)
theorem dX3_gapItem_197 : decode cX3_gapItem 197 = .ok (.iconst 0, 1) := dk_3 (dk_at dksX3_gapItem_8 15 rfl rfl)
theorem dX3_gapItem_198 : decode cX3_gapItem 198 = .ok (.iconst 0, 1) := dk_3 (dk_at dksX3_gapItem_8 16 rfl rfl)
theorem dX3_gapItem_199 : decode cX3_gapItem 199 = .ok (.iconst 0, 1) := dk_3 (dk_at dksX3_gapItem_8 17 rfl rfl)
theorem dX3_gapItem_200 : decode cX3_gapItem 200 = .ok (.invokevirtual 153, 3) := dk_182 0 153 (dk_at dksX3_gapItem_8 18 rfl rfl)
theorem dX3_gapItem_203 : decode cX3_gapItem 203 = .ok (.bipush 99, 2) := dk_16 99 (dk_at dksX3_gapItem_8 21 rfl rfl)
theorem dX3_gapItem_205 : decode cX3_gapItem 205 = .ok (.invokevirtual 163, 3) := dk_182 0 163 (dk_at dksX3_gapItem_9 0 rfl rfl)
theorem dX3_gapItem_208 : decode cX3_gapItem 208 = .ok (.istore 7, 2) := dk_54 7 (dk_at dksX3_gapItem_9 3 rfl rfl)
theorem dX3_gapItem_210 : decode cX3_gapItem 210 = .ok (.aload_n 0, 1) := dk_42 (dk_at dksX3_gapItem_9 5 rfl rfl)
theorem dX3_gapItem_211 : decode cX3_gapItem 211 = .ok (.getfield 135, 3) := dk_180 0 135 (dk_at dksX3_gapItem_9 6 rfl rfl)
theorem dX3_gapItem_214 : decode cX3_gapItem 214 = .ok (.ifCond .ne 19, 3) := dk_154 0 19 (dk_at dksX3_gapItem_9 9 rfl rfl)
theorem dX3_gapItem_217 : decode cX3_gapItem 217 = .ok (.aload_n 0, 1) := dk_42 (dk_at dksX3_gapItem_9 12 rfl rfl)
theorem dX3_gapItem_218 : decode cX3_gapItem 218 = .ok (.iload_n 1, 1) := dk_27 (dk_at dksX3_gapItem_9 13 rfl rfl)
theorem dX3_gapItem_219 : decode cX3_gapItem 219 = .ok (.iload_n 2, 1) := dk_28 (dk_at dksX3_gapItem_9 14 rfl rfl)
theorem dX3_gapItem_220 : decode cX3_gapItem 220 = .ok (.iload_n 3, 1) := dk_29 (dk_at dksX3_gapItem_9 15 rfl rfl)
theorem dX3_gapItem_221 : decode cX3_gapItem 221 = .ok (.iload 4, 2) := dk_21 4 (dk_at dksX3_gapItem_9 16 rfl rfl)
theorem dX3_gapItem_223 : decode cX3_gapItem 223 = .ok (.iload 5, 2) := dk_21 5 (dk_at dksX3_gapItem_9 18 rfl rfl)
theorem dX3_gapItem_225 : decode cX3_gapItem 225 = .ok (.iload 6, 2) := dk_21 6 (dk_at dksX3_gapItem_9 20 rfl rfl)
theorem dX3_gapItem_227 : decode cX3_gapItem 227 = .ok (.iload 7, 2) := dk_21 7 (dk_at dksX3_gapItem_9 22 rfl rfl)
theorem dX3_gapItem_229 : decode cX3_gapItem 229 = .ok (.invokevirtual 75, 3) := dk_182 0 75 (dk_at dksX3_gapItem_10 0 rfl rfl)
theorem dX3_gapItem_232 : decode cX3_gapItem 232 = .ok (.pop, 1) := dk_87 (dk_at dksX3_gapItem_10 3 rfl rfl)
theorem dX3_gapItem_233 : decode cX3_gapItem 233 = .ok (.return_, 1) := dk_177 (dk_at dksX3_gapItem_10 4 rfl rfl)
