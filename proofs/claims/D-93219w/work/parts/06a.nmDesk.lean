/-! SmokeLeans -/
set_option maxRecDepth 100000
def RX0 : String := "SmokeLeans"
def TX0 : u_T := fun k => match k with
  | 0 => ("SmokeLeans", "house", "LSmokeLeans$House;", true)
  | 1 => ("SmokeLeans", "kept", "LSmokeLeans$House;", true)
  | 2 => ("SmokeLeans", "trial", "LSmokeLeans$House;", true)
  | 3 => ("SmokeLeans", "isKept", "Z", false)
  | 4 => ("SmokeLeans", "tape", "[B", true)
  | 5 => ("SmokeLeans", "taped", "I", false)
  | 6 => ("SmokeLeans", "sheets", "[LSmokeLeans$Slot;", true)
  | 7 => ("SmokeLeans", "found", "[I", true)
  | 8 => ("SmokeLeans", "bestSet", "I", false)
  | 9 => ("SmokeLeans", "bestLost", "I", false)
  | 10 => ("SmokeLeans", "inOrder", "[I", true)
  | 11 => ("SmokeLeans", "lostThen", "I", false)
  | _ => ("SmokeLeans", "leans", "[I", true)
def tyX0 : Nat → FieldType := fun k => match k with
  | 0 => .object "SmokeLeans$House"
  | 1 => .object "SmokeLeans$House"
  | 2 => .object "SmokeLeans$House"
  | 3 => .boolean
  | 4 => .array .byte
  | 5 => .int
  | 6 => .array (.object "SmokeLeans$Slot")
  | 7 => .array .int
  | 8 => .int
  | 9 => .int
  | 10 => .array .int
  | 11 => .int
  | _ => .array .int
abbrev wsX00 : List Cond := u_ws RX0 TX0 13
set_option maxRecDepth 100000 in
theorem nmX0 : ∀ a, a < 13 → ∀ b, b < 13 → a ≠ b → (TX0 a).2.1 ≠ (TX0 b).2.1 := by decide +kernel
set_option maxRecDepth 100000 in
theorem tyX0_ok : ∀ k, k < 13 → parseFieldDescriptor (TX0 k).2.2.1 = some (tyX0 k) := by decide +kernel
abbrev cX0_init : ByteArray := prog_1_method_8_code
def yX0_init : MethodName := ⟨RX0, "<init>", "()V"⟩
def dkwX0_init_3 : List UInt8 := [16, 20, 188, 10, 181, 0, 114, 177]
abbrev dktX0_init_3 : List UInt8 := dkwX0_init_3 ++ []
def dkwX0_init_2 : List UInt8 := [184, 0, 99, 181, 0, 103, 42, 16, 7, 188, 10, 181, 0, 107, 42, 16, 20, 188, 10, 181, 0, 111, 42]
abbrev dktX0_init_2 : List UInt8 := dkwX0_init_2 ++ dktX0_init_3
def dkwX0_init_1 : List UInt8 := [181, 0, 89, 42, 187, 0, 82, 89, 183, 0, 84, 181, 0, 92, 42, 16, 120, 188, 8, 181, 0, 95, 42, 7]
abbrev dktX0_init_1 : List UInt8 := dkwX0_init_1 ++ dktX0_init_2
def dkwX0_init_0 : List UInt8 := [42, 183, 0, 79, 42, 187, 0, 82, 89, 183, 0, 84, 181, 0, 85, 42, 187, 0, 82, 89, 183, 0, 84]
abbrev dktX0_init_0 : List UInt8 := dkwX0_init_0 ++ dktX0_init_1
theorem dksX0_init_0 : cX0_init.data.toList.drop 0 = dktX0_init_0 := by decide +kernel
theorem dksX0_init_1 : cX0_init.data.toList.drop 23 = dktX0_init_1 := dk_seg dksX0_init_0 23 rfl rfl
theorem dksX0_init_2 : cX0_init.data.toList.drop 47 = dktX0_init_2 := dk_seg dksX0_init_1 24 rfl rfl
theorem dksX0_init_3 : cX0_init.data.toList.drop 70 = dktX0_init_3 := dk_seg dksX0_init_2 23 rfl rfl
theorem dX0_init_0 : decode cX0_init 0 = .ok (.aload_n 0, 1) := dk_42 (dk_at dksX0_init_0 0 rfl rfl)
theorem dX0_init_1 : decode cX0_init 1 = .ok (.invokespecial 79, 3) := dk_183 0 79 (dk_at dksX0_init_0 1 rfl rfl)
theorem dX0_init_4 : decode cX0_init 4 = .ok (.aload_n 0, 1) := dk_42 (dk_at dksX0_init_0 4 rfl rfl)
theorem dX0_init_5 : decode cX0_init 5 = .ok (.new 82, 3) := dk_187 0 82 (dk_at dksX0_init_0 5 rfl rfl)
theorem dX0_init_8 : decode cX0_init 8 = .ok (.dup, 1) := dk_89 (dk_at dksX0_init_0 8 rfl rfl)
theorem dX0_init_9 : decode cX0_init 9 = .ok (.invokespecial 84, 3) := dk_183 0 84 (dk_at dksX0_init_0 9 rfl rfl)
theorem dX0_init_12 : decode cX0_init 12 = .ok (.putfield 85, 3) := dk_181 0 85 (dk_at dksX0_init_0 12 rfl rfl)
theorem dX0_init_15 : decode cX0_init 15 = .ok (.aload_n 0, 1) := dk_42 (dk_at dksX0_init_0 15 rfl rfl)
theorem dX0_init_16 : decode cX0_init 16 = .ok (.new 82, 3) := dk_187 0 82 (dk_at dksX0_init_0 16 rfl rfl)
theorem dX0_init_19 : decode cX0_init 19 = .ok (.dup, 1) := dk_89 (dk_at dksX0_init_0 19 rfl rfl)
theorem dX0_init_20 : decode cX0_init 20 = .ok (.invokespecial 84, 3) := dk_183 0 84 (dk_at dksX0_init_0 20 rfl rfl)
theorem dX0_init_23 : decode cX0_init 23 = .ok (.putfield 89, 3) := dk_181 0 89 (dk_at dksX0_init_1 0 rfl rfl)
theorem dX0_init_26 : decode cX0_init 26 = .ok (.aload_n 0, 1) := dk_42 (dk_at dksX0_init_1 3 rfl rfl)
theorem dX0_init_27 : decode cX0_init 27 = .ok (.new 82, 3) := dk_187 0 82 (dk_at dksX0_init_1 4 rfl rfl)
theorem dX0_init_30 : decode cX0_init 30 = .ok (.dup, 1) := dk_89 (dk_at dksX0_init_1 7 rfl rfl)
theorem dX0_init_31 : decode cX0_init 31 = .ok (.invokespecial 84, 3) := dk_183 0 84 (dk_at dksX0_init_1 8 rfl rfl)
theorem dX0_init_34 : decode cX0_init 34 = .ok (.putfield 92, 3) := dk_181 0 92 (dk_at dksX0_init_1 11 rfl rfl)
theorem dX0_init_37 : decode cX0_init 37 = .ok (.aload_n 0, 1) := dk_42 (dk_at dksX0_init_1 14 rfl rfl)
theorem dX0_init_38 : decode cX0_init 38 = .ok (.bipush 120, 2) := dk_16 120 (dk_at dksX0_init_1 15 rfl rfl)
theorem dX0_init_40 : decode cX0_init 40 = .ok (.newarray .byte, 2) := dk_188_8 (dk_at dksX0_init_1 17 rfl rfl)
theorem dX0_init_42 : decode cX0_init 42 = .ok (.putfield 95, 3) := dk_181 0 95 (dk_at dksX0_init_1 19 rfl rfl)
theorem dX0_init_45 : decode cX0_init 45 = .ok (.aload_n 0, 1) := dk_42 (dk_at dksX0_init_1 22 rfl rfl)
theorem dX0_init_46 : decode cX0_init 46 = .ok (.iconst 4, 1) := dk_7 (dk_at dksX0_init_1 23 rfl rfl)
theorem dX0_init_47 : decode cX0_init 47 = .ok (.invokestatic 99, 3) := dk_184 0 99 (dk_at dksX0_init_2 0 rfl rfl)
theorem dX0_init_50 : decode cX0_init 50 = .ok (.putfield 103, 3) := dk_181 0 103 (dk_at dksX0_init_2 3 rfl rfl)
theorem dX0_init_53 : decode cX0_init 53 = .ok (.aload_n 0, 1) := dk_42 (dk_at dksX0_init_2 6 rfl rfl)
theorem dX0_init_54 : decode cX0_init 54 = .ok (.bipush 7, 2) := dk_16 7 (dk_at dksX0_init_2 7 rfl rfl)
theorem dX0_init_56 : decode cX0_init 56 = .ok (.newarray .int, 2) := dk_188_10 (dk_at dksX0_init_2 9 rfl rfl)
theorem dX0_init_58 : decode cX0_init 58 = .ok (.putfield 107, 3) := dk_181 0 107 (dk_at dksX0_init_2 11 rfl rfl)
theorem dX0_init_61 : decode cX0_init 61 = .ok (.aload_n 0, 1) := dk_42 (dk_at dksX0_init_2 14 rfl rfl)
theorem dX0_init_62 : decode cX0_init 62 = .ok (.bipush 20, 2) := dk_16 20 (dk_at dksX0_init_2 15 rfl rfl)
theorem dX0_init_64 : decode cX0_init 64 = .ok (.newarray .int, 2) := dk_188_10 (dk_at dksX0_init_2 17 rfl rfl)
theorem dX0_init_66 : decode cX0_init 66 = .ok (.putfield 111, 3) := dk_181 0 111 (dk_at dksX0_init_2 19 rfl rfl)
theorem dX0_init_69 : decode cX0_init 69 = .ok (.aload_n 0, 1) := dk_42 (dk_at dksX0_init_2 22 rfl rfl)
theorem dX0_init_70 : decode cX0_init 70 = .ok (.bipush 20, 2) := dk_16 20 (dk_at dksX0_init_3 0 rfl rfl)
theorem dX0_init_72 : decode cX0_init 72 = .ok (.newarray .int, 2) := dk_188_10 (dk_at dksX0_init_3 2 rfl rfl)
theorem dX0_init_74 : decode cX0_init 74 = .ok (.putfield 114, 3) := dk_181 0 114 (dk_at dksX0_init_3 4 rfl rfl)
theorem dX0_init_77 : decode cX0_init 77 = .ok (.return_, 1) := dk_177 (dk_at dksX0_init_3 7 rfl rfl)
abbrev cX0_slots : ByteArray := prog_1_method_4_code
def yX0_slots : MethodName := ⟨RX0, "slots", "(I)[LSmokeLeans$Slot;"⟩
def dkwX0_slots_1 : List UInt8 := [132, 2, 1, 167, 255, 238, 43, 176]
abbrev dktX0_slots_1 : List UInt8 := dkwX0_slots_1 ++ []
def dkwX0_slots_0 : List UInt8 := [26, 189, 0, 7, 76, 3, 61, 28, 26, 162, 0, 19, 43, 28, 187, 0, 7, 89, 183, 0, 9, 83]
abbrev dktX0_slots_0 : List UInt8 := dkwX0_slots_0 ++ dktX0_slots_1
theorem dksX0_slots_0 : cX0_slots.data.toList.drop 0 = dktX0_slots_0 := by decide +kernel
theorem dksX0_slots_1 : cX0_slots.data.toList.drop 22 = dktX0_slots_1 := dk_seg dksX0_slots_0 22 rfl rfl
theorem dX0_slots_0 : decode cX0_slots 0 = .ok (.iload_n 0, 1) := dk_26 (dk_at dksX0_slots_0 0 rfl rfl)
theorem dX0_slots_1 : decode cX0_slots 1 = .ok (.anewarray 7, 3) := dk_189 0 7 (dk_at dksX0_slots_0 1 rfl rfl)
theorem dX0_slots_4 : decode cX0_slots 4 = .ok (.astore_n 1, 1) := dk_76 (dk_at dksX0_slots_0 4 rfl rfl)
theorem dX0_slots_5 : decode cX0_slots 5 = .ok (.iconst 0, 1) := dk_3 (dk_at dksX0_slots_0 5 rfl rfl)
theorem dX0_slots_6 : decode cX0_slots 6 = .ok (.istore_n 2, 1) := dk_61 (dk_at dksX0_slots_0 6 rfl rfl)
theorem dX0_slots_7 : decode cX0_slots 7 = .ok (.iload_n 2, 1) := dk_28 (dk_at dksX0_slots_0 7 rfl rfl)
theorem dX0_slots_8 : decode cX0_slots 8 = .ok (.iload_n 0, 1) := dk_26 (dk_at dksX0_slots_0 8 rfl rfl)
theorem dX0_slots_9 : decode cX0_slots 9 = .ok (.if_icmp .ge 19, 3) := dk_162 0 19 (dk_at dksX0_slots_0 9 rfl rfl)
theorem dX0_slots_12 : decode cX0_slots 12 = .ok (.aload_n 1, 1) := dk_43 (dk_at dksX0_slots_0 12 rfl rfl)
theorem dX0_slots_13 : decode cX0_slots 13 = .ok (.iload_n 2, 1) := dk_28 (dk_at dksX0_slots_0 13 rfl rfl)
theorem dX0_slots_14 : decode cX0_slots 14 = .ok (.new 7, 3) := dk_187 0 7 (dk_at dksX0_slots_0 14 rfl rfl)
theorem dX0_slots_17 : decode cX0_slots 17 = .ok (.dup, 1) := dk_89 (dk_at dksX0_slots_0 17 rfl rfl)
theorem dX0_slots_18 : decode cX0_slots 18 = .ok (.invokespecial 9, 3) := dk_183 0 9 (dk_at dksX0_slots_0 18 rfl rfl)
theorem dX0_slots_21 : decode cX0_slots 21 = .ok (.aastore, 1) := dk_83 (dk_at dksX0_slots_0 21 rfl rfl)
theorem dX0_slots_22 : decode cX0_slots 22 = .ok (.iinc 2 1, 3) := dk_132 2 1 (dk_at dksX0_slots_1 0 rfl rfl)
theorem dX0_slots_25 : decode cX0_slots 25 = .ok (.goto (-18), 3) := dk_167 255 238 (dk_at dksX0_slots_1 3 rfl rfl)
theorem dX0_slots_28 : decode cX0_slots 28 = .ok (.aload_n 1, 1) := dk_43 (dk_at dksX0_slots_1 6 rfl rfl)
theorem dX0_slots_29 : decode cX0_slots 29 = .ok (.areturn, 1) := dk_176 (dk_at dksX0_slots_1 7 rfl rfl)
abbrev cX0_room : ByteArray := prog_1_method_14_code
def yX0_room : MethodName := ⟨RX0, "room", "()I"⟩
def dkwX0_room_2 : List UInt8 := [180, 0, 127, 4, 100, 172, 76, 42, 43, 182, 0, 136, 172]
abbrev dktX0_room_2 : List UInt8 := dkwX0_room_2 ++ []
def dkwX0_room_1 : List UInt8 := [180, 0, 85, 89, 180, 0, 127, 4, 96, 181, 0, 127, 42, 180, 0, 85, 182, 0, 133, 42, 180, 0, 85]
abbrev dktX0_room_1 : List UInt8 := dkwX0_room_1 ++ dktX0_room_2
def dkwX0_room_0 : List UInt8 := [42, 180, 0, 85, 180, 0, 127, 16, 6, 162, 0, 7, 4, 167, 0, 4, 3, 4, 184, 0, 123, 42]
abbrev dktX0_room_0 : List UInt8 := dkwX0_room_0 ++ dktX0_room_1
theorem dksX0_room_0 : cX0_room.data.toList.drop 0 = dktX0_room_0 := by decide +kernel
theorem dksX0_room_1 : cX0_room.data.toList.drop 22 = dktX0_room_1 := dk_seg dksX0_room_0 22 rfl rfl
theorem dksX0_room_2 : cX0_room.data.toList.drop 45 = dktX0_room_2 := dk_seg dksX0_room_1 23 rfl rfl
theorem dX0_room_0 : decode cX0_room 0 = .ok (.aload_n 0, 1) := dk_42 (dk_at dksX0_room_0 0 rfl rfl)
theorem dX0_room_1 : decode cX0_room 1 = .ok (.getfield 85, 3) := dk_180 0 85 (dk_at dksX0_room_0 1 rfl rfl)
theorem dX0_room_4 : decode cX0_room 4 = .ok (.getfield 127, 3) := dk_180 0 127 (dk_at dksX0_room_0 4 rfl rfl)
theorem dX0_room_7 : decode cX0_room 7 = .ok (.bipush 6, 2) := dk_16 6 (dk_at dksX0_room_0 7 rfl rfl)
theorem dX0_room_9 : decode cX0_room 9 = .ok (.if_icmp .ge 7, 3) := dk_162 0 7 (dk_at dksX0_room_0 9 rfl rfl)
theorem dX0_room_12 : decode cX0_room 12 = .ok (.iconst 1, 1) := dk_4 (dk_at dksX0_room_0 12 rfl rfl)
theorem dX0_room_13 : decode cX0_room 13 = .ok (.goto 4, 3) := dk_167 0 4 (dk_at dksX0_room_0 13 rfl rfl)
theorem dX0_room_16 : decode cX0_room 16 = .ok (.iconst 0, 1) := dk_3 (dk_at dksX0_room_0 16 rfl rfl)
theorem dX0_room_17 : decode cX0_room 17 = .ok (.iconst 1, 1) := dk_4 (dk_at dksX0_room_0 17 rfl rfl)
theorem dX0_room_18 : decode cX0_room 18 = .ok (.invokestatic 123, 3) := dk_184 0 123 (dk_at dksX0_room_0 18 rfl rfl)
theorem dX0_room_21 : decode cX0_room 21 = .ok (.aload_n 0, 1) := dk_42 (dk_at dksX0_room_0 21 rfl rfl)
theorem dX0_room_22 : decode cX0_room 22 = .ok (.getfield 85, 3) := dk_180 0 85 (dk_at dksX0_room_1 0 rfl rfl)
theorem dX0_room_25 : decode cX0_room 25 = .ok (.dup, 1) := dk_89 (dk_at dksX0_room_1 3 rfl rfl)
theorem dX0_room_26 : decode cX0_room 26 = .ok (.getfield 127, 3) := dk_180 0 127 (dk_at dksX0_room_1 4 rfl rfl)
theorem dX0_room_29 : decode cX0_room 29 = .ok (.iconst 1, 1) := dk_4 (dk_at dksX0_room_1 7 rfl rfl)
theorem dX0_room_30 : decode cX0_room 30 = .ok (.iadd, 1) := dk_96 (dk_at dksX0_room_1 8 rfl rfl)
theorem dX0_room_31 : decode cX0_room 31 = .ok (.putfield 127, 3) := dk_181 0 127 (dk_at dksX0_room_1 9 rfl rfl)
theorem dX0_room_34 : decode cX0_room 34 = .ok (.aload_n 0, 1) := dk_42 (dk_at dksX0_room_1 12 rfl rfl)
theorem dX0_room_35 : decode cX0_room 35 = .ok (.getfield 85, 3) := dk_180 0 85 (dk_at dksX0_room_1 13 rfl rfl)
theorem dX0_room_38 : decode cX0_room 38 = .ok (.invokevirtual 133, 3) := dk_182 0 133 (dk_at dksX0_room_1 16 rfl rfl)
theorem dX0_room_41 : decode cX0_room 41 = .ok (.aload_n 0, 1) := dk_42 (dk_at dksX0_room_1 19 rfl rfl)
theorem dX0_room_42 : decode cX0_room 42 = .ok (.getfield 85, 3) := dk_180 0 85 (dk_at dksX0_room_1 20 rfl rfl)
theorem dX0_room_45 : decode cX0_room 45 = .ok (.getfield 127, 3) := dk_180 0 127 (dk_at dksX0_room_2 0 rfl rfl)
theorem dX0_room_48 : decode cX0_room 48 = .ok (.iconst 1, 1) := dk_4 (dk_at dksX0_room_2 3 rfl rfl)
theorem dX0_room_49 : decode cX0_room 49 = .ok (.isub, 1) := dk_100 (dk_at dksX0_room_2 4 rfl rfl)
theorem dX0_room_50 : decode cX0_room 50 = .ok (.ireturn, 1) := dk_172 (dk_at dksX0_room_2 5 rfl rfl)
theorem dX0_room_51 : decode cX0_room 51 = .ok (.astore_n 1, 1) := dk_76 (dk_at dksX0_room_2 6 rfl rfl)
theorem dX0_room_52 : decode cX0_room 52 = .ok (.aload_n 0, 1) := dk_42 (dk_at dksX0_room_2 7 rfl rfl)
theorem dX0_room_53 : decode cX0_room 53 = .ok (.aload_n 1, 1) := dk_43 (dk_at dksX0_room_2 8 rfl rfl)
theorem dX0_room_54 : decode cX0_room 54 = .ok (.invokevirtual 136, 3) := dk_182 0 136 (dk_at dksX0_room_2 9 rfl rfl)
theorem dX0_room_57 : decode cX0_room 57 = .ok (.ireturn, 1) := dk_172 (dk_at dksX0_room_2 12 rfl rfl)
abbrev cX0_need : ByteArray := prog_1_method_1_code
def yX0_need : MethodName := ⟨RX0, "need", "(ZI)V"⟩
def dkwX0_need_0 : List UInt8 := [26, 154, 0, 12, 187, 0, 1, 89, 27, 183, 0, 3, 191, 177]
abbrev dktX0_need_0 : List UInt8 := dkwX0_need_0 ++ []
theorem dksX0_need_0 : cX0_need.data.toList.drop 0 = dktX0_need_0 := by decide +kernel
theorem dX0_need_0 : decode cX0_need 0 = .ok (.iload_n 0, 1) := dk_26 (dk_at dksX0_need_0 0 rfl rfl)
theorem dX0_need_1 : decode cX0_need 1 = .ok (.ifCond .ne 12, 3) := dk_154 0 12 (dk_at dksX0_need_0 1 rfl rfl)
theorem dX0_need_4 : decode cX0_need 4 = .ok (.new 1, 3) := dk_187 0 1 (dk_at dksX0_need_0 4 rfl rfl)
theorem dX0_need_7 : decode cX0_need 7 = .ok (.dup, 1) := dk_89 (dk_at dksX0_need_0 7 rfl rfl)
theorem dX0_need_8 : decode cX0_need 8 = .ok (.iload_n 1, 1) := dk_27 (dk_at dksX0_need_0 8 rfl rfl)
theorem dX0_need_9 : decode cX0_need 9 = .ok (.invokespecial 3, 3) := dk_183 0 3 (dk_at dksX0_need_0 9 rfl rfl)
theorem dX0_need_12 : decode cX0_need 12 = .ok (.athrow, 1) := dk_191 (dk_at dksX0_need_0 12 rfl rfl)
theorem dX0_need_13 : decode cX0_need 13 = .ok (.return_, 1) := dk_177 (dk_at dksX0_need_0 13 rfl rfl)
abbrev cX0_finds : ByteArray := prog_1_method_9_code
def yX0_finds : MethodName := ⟨RX0, "finds", "(LSmokeLeans$Finding;)I"⟩
def dkwX0_finds_0 : List UInt8 := [42, 180, 0, 107, 43, 180, 0, 117, 92, 46, 4, 96, 79, 43, 182, 0, 120, 172]
abbrev dktX0_finds_0 : List UInt8 := dkwX0_finds_0 ++ []
theorem dksX0_finds_0 : cX0_finds.data.toList.drop 0 = dktX0_finds_0 := by decide +kernel
theorem dX0_finds_0 : decode cX0_finds 0 = .ok (.aload_n 0, 1) := dk_42 (dk_at dksX0_finds_0 0 rfl rfl)
theorem dX0_finds_1 : decode cX0_finds 1 = .ok (.getfield 107, 3) := dk_180 0 107 (dk_at dksX0_finds_0 1 rfl rfl)
theorem dX0_finds_4 : decode cX0_finds 4 = .ok (.aload_n 1, 1) := dk_43 (dk_at dksX0_finds_0 4 rfl rfl)
theorem dX0_finds_5 : decode cX0_finds 5 = .ok (.getfield 117, 3) := dk_180 0 117 (dk_at dksX0_finds_0 5 rfl rfl)
theorem dX0_finds_8 : decode cX0_finds 8 = .ok (.dup2, 1) := dk_92 (dk_at dksX0_finds_0 8 rfl rfl)
theorem dX0_finds_9 : decode cX0_finds 9 = .ok (.iaload, 1) := dk_46 (dk_at dksX0_finds_0 9 rfl rfl)
theorem dX0_finds_10 : decode cX0_finds 10 = .ok (.iconst 1, 1) := dk_4 (dk_at dksX0_finds_0 10 rfl rfl)
theorem dX0_finds_11 : decode cX0_finds 11 = .ok (.iadd, 1) := dk_96 (dk_at dksX0_finds_0 11 rfl rfl)
theorem dX0_finds_12 : decode cX0_finds 12 = .ok (.iastore, 1) := dk_79 (dk_at dksX0_finds_0 12 rfl rfl)
theorem dX0_finds_13 : decode cX0_finds 13 = .ok (.aload_n 1, 1) := dk_43 (dk_at dksX0_finds_0 13 rfl rfl)
theorem dX0_finds_14 : decode cX0_finds 14 = .ok (.invokevirtual 120, 3) := dk_182 0 120 (dk_at dksX0_finds_0 14 rfl rfl)
theorem dX0_finds_17 : decode cX0_finds 17 = .ok (.ireturn, 1) := dk_172 (dk_at dksX0_finds_0 17 rfl rfl)
abbrev cX0_gap : ByteArray := prog_1_method_15_code
def yX0_gap : MethodName := ⟨RX0, "gap", "(IIII)I"⟩
def dkwX0_gap_8 : List UInt8 := [100, 172, 58, 5, 42, 25, 5, 182, 0, 136, 172]
abbrev dktX0_gap_8 : List UInt8 := dkwX0_gap_8 ++ []
def dkwX0_gap_7 : List UInt8 := [89, 180, 0, 130, 4, 96, 181, 0, 130, 42, 180, 0, 85, 182, 0, 133, 42, 180, 0, 85, 180, 0, 130, 4]
abbrev dktX0_gap_7 : List UInt8 := dkwX0_gap_7 ++ dktX0_gap_8
def dkwX0_gap_6 : List UInt8 := [27, 28, 29, 21, 5, 21, 6, 21, 7, 21, 4, 16, 100, 112, 184, 0, 71, 181, 0, 152, 42, 180, 0, 85]
abbrev dktX0_gap_6 : List UInt8 := dkwX0_gap_6 ++ dktX0_gap_7
def dkwX0_gap_5 : List UInt8 := [4, 167, 0, 4, 3, 4, 184, 0, 123, 42, 180, 0, 85, 180, 0, 149, 42, 180, 0, 85, 180, 0, 130, 50]
abbrev dktX0_gap_5 : List UInt8 := dkwX0_gap_5 ++ dktX0_gap_6
def dkwX0_gap_4 : List UInt8 := [153, 0, 7, 4, 167, 0, 4, 3, 3, 184, 0, 123, 42, 180, 0, 85, 180, 0, 130, 16, 20, 162, 0, 7]
abbrev dktX0_gap_4 : List UInt8 := dkwX0_gap_4 ++ dktX0_gap_5
def dkwX0_gap_3 : List UInt8 := [153, 0, 30, 29, 2, 159, 0, 11, 42, 29, 182, 0, 146, 153, 0, 17, 29, 28, 159, 0, 12, 21, 8]
abbrev dktX0_gap_3 : List UInt8 := dkwX0_gap_3 ++ dktX0_gap_4
def dkwX0_gap_2 : List UInt8 := [4, 167, 0, 4, 3, 54, 8, 27, 133, 9, 20, 0, 144, 184, 0, 14, 153, 0, 38, 42, 28, 182, 0, 146]
abbrev dktX0_gap_2 : List UInt8 := dkwX0_gap_2 ++ dktX0_gap_3
def dkwX0_gap_1 : List UInt8 := [16, 10, 112, 54, 7, 21, 4, 155, 0, 21, 21, 5, 184, 0, 140, 153, 0, 13, 21, 7, 7, 162, 0, 7]
abbrev dktX0_gap_1 : List UInt8 := dkwX0_gap_1 ++ dktX0_gap_2
def dkwX0_gap_0 : List UInt8 := [21, 4, 17, 39, 16, 108, 54, 5, 21, 4, 17, 3, 232, 108, 16, 10, 112, 54, 6, 21, 4, 16, 100, 108]
abbrev dktX0_gap_0 : List UInt8 := dkwX0_gap_0 ++ dktX0_gap_1
theorem dksX0_gap_0 : cX0_gap.data.toList.drop 0 = dktX0_gap_0 := by decide +kernel
theorem dksX0_gap_1 : cX0_gap.data.toList.drop 24 = dktX0_gap_1 := dk_seg dksX0_gap_0 24 rfl rfl
theorem dksX0_gap_2 : cX0_gap.data.toList.drop 48 = dktX0_gap_2 := dk_seg dksX0_gap_1 24 rfl rfl
theorem dksX0_gap_3 : cX0_gap.data.toList.drop 72 = dktX0_gap_3 := dk_seg dksX0_gap_2 24 rfl rfl
theorem dksX0_gap_4 : cX0_gap.data.toList.drop 95 = dktX0_gap_4 := dk_seg dksX0_gap_3 23 rfl rfl
theorem dksX0_gap_5 : cX0_gap.data.toList.drop 119 = dktX0_gap_5 := dk_seg dksX0_gap_4 24 rfl rfl
theorem dksX0_gap_6 : cX0_gap.data.toList.drop 143 = dktX0_gap_6 := dk_seg dksX0_gap_5 24 rfl rfl
theorem dksX0_gap_7 : cX0_gap.data.toList.drop 167 = dktX0_gap_7 := dk_seg dksX0_gap_6 24 rfl rfl
theorem dksX0_gap_8 : cX0_gap.data.toList.drop 191 = dktX0_gap_8 := dk_seg dksX0_gap_7 24 rfl rfl
theorem dX0_gap_0 : decode cX0_gap 0 = .ok (.iload 4, 2) := dk_21 4 (dk_at dksX0_gap_0 0 rfl rfl)
theorem dX0_gap_2 : decode cX0_gap 2 = .ok (.sipush 10000, 3) := dk_17 39 16 (dk_at dksX0_gap_0 2 rfl rfl)
theorem dX0_gap_5 : decode cX0_gap 5 = .ok (.idiv, 1) := dk_108 (dk_at dksX0_gap_0 5 rfl rfl)
theorem dX0_gap_6 : decode cX0_gap 6 = .ok (.istore 5, 2) := dk_54 5 (dk_at dksX0_gap_0 6 rfl rfl)
theorem dX0_gap_8 : decode cX0_gap 8 = .ok (.iload 4, 2) := dk_21 4 (dk_at dksX0_gap_0 8 rfl rfl)
theorem dX0_gap_10 : decode cX0_gap 10 = .ok (.sipush 1000, 3) := dk_17 3 232 (dk_at dksX0_gap_0 10 rfl rfl)
theorem dX0_gap_13 : decode cX0_gap 13 = .ok (.idiv, 1) := dk_108 (dk_at dksX0_gap_0 13 rfl rfl)
theorem dX0_gap_14 : decode cX0_gap 14 = .ok (.bipush 10, 2) := dk_16 10 (dk_at dksX0_gap_0 14 rfl rfl)
theorem dX0_gap_16 : decode cX0_gap 16 = .ok (.irem, 1) := dk_112 (dk_at dksX0_gap_0 16 rfl rfl)
theorem dX0_gap_17 : decode cX0_gap 17 = .ok (.istore 6, 2) := dk_54 6 (dk_at dksX0_gap_0 17 rfl rfl)
theorem dX0_gap_19 : decode cX0_gap 19 = .ok (.iload 4, 2) := dk_21 4 (dk_at dksX0_gap_0 19 rfl rfl)
theorem dX0_gap_21 : decode cX0_gap 21 = .ok (.bipush 100, 2) := dk_16 100 (dk_at dksX0_gap_0 21 rfl rfl)
theorem dX0_gap_23 : decode cX0_gap 23 = .ok (.idiv, 1) := dk_108 (dk_at dksX0_gap_0 23 rfl rfl)
theorem dX0_gap_24 : decode cX0_gap 24 = .ok (.bipush 10, 2) := dk_16 10 (dk_at dksX0_gap_1 0 rfl rfl)
theorem dX0_gap_26 : decode cX0_gap 26 = .ok (.irem, 1) := dk_112 (dk_at dksX0_gap_1 2 rfl rfl)
theorem dX0_gap_27 : decode cX0_gap 27 = .ok (.istore 7, 2) := dk_54 7 (dk_at dksX0_gap_1 3 rfl rfl)
theorem dX0_gap_29 : decode cX0_gap 29 = .ok (.iload 4, 2) := dk_21 4 (dk_at dksX0_gap_1 5 rfl rfl)
theorem dX0_gap_31 : decode cX0_gap 31 = .ok (.ifCond .lt 21, 3) := dk_155 0 21 (dk_at dksX0_gap_1 7 rfl rfl)
theorem dX0_gap_34 : decode cX0_gap 34 = .ok (.iload 5, 2) := dk_21 5 (dk_at dksX0_gap_1 10 rfl rfl)
theorem dX0_gap_36 : decode cX0_gap 36 = .ok (.invokestatic 140, 3) := dk_184 0 140 (dk_at dksX0_gap_1 12 rfl rfl)
theorem dX0_gap_39 : decode cX0_gap 39 = .ok (.ifCond .eq 13, 3) := dk_153 0 13 (dk_at dksX0_gap_1 15 rfl rfl)
theorem dX0_gap_42 : decode cX0_gap 42 = .ok (.iload 7, 2) := dk_21 7 (dk_at dksX0_gap_1 18 rfl rfl)
theorem dX0_gap_44 : decode cX0_gap 44 = .ok (.iconst 4, 1) := dk_7 (dk_at dksX0_gap_1 20 rfl rfl)
theorem dX0_gap_45 : decode cX0_gap 45 = .ok (.if_icmp .ge 7, 3) := dk_162 0 7 (dk_at dksX0_gap_1 21 rfl rfl)
theorem dX0_gap_48 : decode cX0_gap 48 = .ok (.iconst 1, 1) := dk_4 (dk_at dksX0_gap_2 0 rfl rfl)
theorem dX0_gap_49 : decode cX0_gap 49 = .ok (.goto 4, 3) := dk_167 0 4 (dk_at dksX0_gap_2 1 rfl rfl)
theorem dX0_gap_52 : decode cX0_gap 52 = .ok (.iconst 0, 1) := dk_3 (dk_at dksX0_gap_2 4 rfl rfl)
theorem dX0_gap_53 : decode cX0_gap 53 = .ok (.istore 8, 2) := dk_54 8 (dk_at dksX0_gap_2 5 rfl rfl)
theorem dX0_gap_55 : decode cX0_gap 55 = .ok (.iload_n 1, 1) := dk_27 (dk_at dksX0_gap_2 7 rfl rfl)
theorem dX0_gap_56 : decode cX0_gap 56 = .ok (.i2l, 1) := dk_133 (dk_at dksX0_gap_2 8 rfl rfl)
theorem dX0_gap_57 : decode cX0_gap 57 = .ok (.lconst 0, 1) := dk_9 (dk_at dksX0_gap_2 9 rfl rfl)
theorem dX0_gap_58 : decode cX0_gap 58 = .ok (.ldc2_w 144, 3) := dk_20 0 144 (dk_at dksX0_gap_2 10 rfl rfl)
theorem dX0_gap_61 : decode cX0_gap 61 = .ok (.invokestatic 14, 3) := dk_184 0 14 (dk_at dksX0_gap_2 13 rfl rfl)
theorem dX0_gap_64 : decode cX0_gap 64 = .ok (.ifCond .eq 38, 3) := dk_153 0 38 (dk_at dksX0_gap_2 16 rfl rfl)
theorem dX0_gap_67 : decode cX0_gap 67 = .ok (.aload_n 0, 1) := dk_42 (dk_at dksX0_gap_2 19 rfl rfl)
theorem dX0_gap_68 : decode cX0_gap 68 = .ok (.iload_n 2, 1) := dk_28 (dk_at dksX0_gap_2 20 rfl rfl)
theorem dX0_gap_69 : decode cX0_gap 69 = .ok (.invokevirtual 146, 3) := dk_182 0 146 (dk_at dksX0_gap_2 21 rfl rfl)
theorem dX0_gap_72 : decode cX0_gap 72 = .ok (.ifCond .eq 30, 3) := dk_153 0 30 (dk_at dksX0_gap_3 0 rfl rfl)
theorem dX0_gap_75 : decode cX0_gap 75 = .ok (.iload_n 3, 1) := dk_29 (dk_at dksX0_gap_3 3 rfl rfl)
theorem dX0_gap_76 : decode cX0_gap 76 = .ok (.iconst (-1), 1) := dk_2 (dk_at dksX0_gap_3 4 rfl rfl)
theorem dX0_gap_77 : decode cX0_gap 77 = .ok (.if_icmp .eq 11, 3) := dk_159 0 11 (dk_at dksX0_gap_3 5 rfl rfl)
theorem dX0_gap_80 : decode cX0_gap 80 = .ok (.aload_n 0, 1) := dk_42 (dk_at dksX0_gap_3 8 rfl rfl)
theorem dX0_gap_81 : decode cX0_gap 81 = .ok (.iload_n 3, 1) := dk_29 (dk_at dksX0_gap_3 9 rfl rfl)
theorem dX0_gap_82 : decode cX0_gap 82 = .ok (.invokevirtual 146, 3) := dk_182 0 146 (dk_at dksX0_gap_3 10 rfl rfl)
theorem dX0_gap_85 : decode cX0_gap 85 = .ok (.ifCond .eq 17, 3) := dk_153 0 17 (dk_at dksX0_gap_3 13 rfl rfl)
theorem dX0_gap_88 : decode cX0_gap 88 = .ok (.iload_n 3, 1) := dk_29 (dk_at dksX0_gap_3 16 rfl rfl)
theorem dX0_gap_89 : decode cX0_gap 89 = .ok (.iload_n 2, 1) := dk_28 (dk_at dksX0_gap_3 17 rfl rfl)
theorem dX0_gap_90 : decode cX0_gap 90 = .ok (.if_icmp .eq 12, 3) := dk_159 0 12 (dk_at dksX0_gap_3 18 rfl rfl)
theorem dX0_gap_93 : decode cX0_gap 93 = .ok (.iload 8, 2) := dk_21 8 (dk_at dksX0_gap_3 21 rfl rfl)
theorem dX0_gap_95 : decode cX0_gap 95 = .ok (.ifCond .eq 7, 3) := dk_153 0 7 (dk_at dksX0_gap_4 0 rfl rfl)
theorem dX0_gap_98 : decode cX0_gap 98 = .ok (.iconst 1, 1) := dk_4 (dk_at dksX0_gap_4 3 rfl rfl)
theorem dX0_gap_99 : decode cX0_gap 99 = .ok (.goto 4, 3) := dk_167 0 4 (dk_at dksX0_gap_4 4 rfl rfl)
theorem dX0_gap_102 : decode cX0_gap 102 = .ok (.iconst 0, 1) := dk_3 (dk_at dksX0_gap_4 7 rfl rfl)
theorem dX0_gap_103 : decode cX0_gap 103 = .ok (.iconst 0, 1) := dk_3 (dk_at dksX0_gap_4 8 rfl rfl)
theorem dX0_gap_104 : decode cX0_gap 104 = .ok (.invokestatic 123, 3) := dk_184 0 123 (dk_at dksX0_gap_4 9 rfl rfl)
theorem dX0_gap_107 : decode cX0_gap 107 = .ok (.aload_n 0, 1) := dk_42 (dk_at dksX0_gap_4 12 rfl rfl)
theorem dX0_gap_108 : decode cX0_gap 108 = .ok (.getfield 85, 3) := dk_180 0 85 (dk_at dksX0_gap_4 13 rfl rfl)
theorem dX0_gap_111 : decode cX0_gap 111 = .ok (.getfield 130, 3) := dk_180 0 130 (dk_at dksX0_gap_4 16 rfl rfl)
theorem dX0_gap_114 : decode cX0_gap 114 = .ok (.bipush 20, 2) := dk_16 20 (dk_at dksX0_gap_4 19 rfl rfl)
theorem dX0_gap_116 : decode cX0_gap 116 = .ok (.if_icmp .ge 7, 3) := dk_162 0 7 (dk_at dksX0_gap_4 21 rfl rfl)
theorem dX0_gap_119 : decode cX0_gap 119 = .ok (.iconst 1, 1) := dk_4 (dk_at dksX0_gap_5 0 rfl rfl)
theorem dX0_gap_120 : decode cX0_gap 120 = .ok (.goto 4, 3) := dk_167 0 4 (dk_at dksX0_gap_5 1 rfl rfl)
theorem dX0_gap_123 : decode cX0_gap 123 = .ok (.iconst 0, 1) := dk_3 (dk_at dksX0_gap_5 4 rfl rfl)
theorem dX0_gap_124 : decode cX0_gap 124 = .ok (.iconst 1, 1) := dk_4 (dk_at dksX0_gap_5 5 rfl rfl)
theorem dX0_gap_125 : decode cX0_gap 125 = .ok (.invokestatic 123, 3) := dk_184 0 123 (dk_at dksX0_gap_5 6 rfl rfl)
theorem dX0_gap_128 : decode cX0_gap 128 = .ok (.aload_n 0, 1) := dk_42 (dk_at dksX0_gap_5 9 rfl rfl)
theorem dX0_gap_129 : decode cX0_gap 129 = .ok (.getfield 85, 3) := dk_180 0 85 (dk_at dksX0_gap_5 10 rfl rfl)
theorem dX0_gap_132 : decode cX0_gap 132 = .ok (.getfield 149, 3) := dk_180 0 149 (dk_at dksX0_gap_5 13 rfl rfl)
theorem dX0_gap_135 : decode cX0_gap 135 = .ok (.aload_n 0, 1) := dk_42 (dk_at dksX0_gap_5 16 rfl rfl)
theorem dX0_gap_136 : decode cX0_gap 136 = .ok (.getfield 85, 3) := dk_180 0 85 (dk_at dksX0_gap_5 17 rfl rfl)
theorem dX0_gap_139 : decode cX0_gap 139 = .ok (.getfield 130, 3) := dk_180 0 130 (dk_at dksX0_gap_5 20 rfl rfl)
theorem dX0_gap_142 : decode cX0_gap 142 = .ok (.aaload, 1) := dk_50 (dk_at dksX0_gap_5 23 rfl rfl)
theorem dX0_gap_143 : decode cX0_gap 143 = .ok (.iload_n 1, 1) := dk_27 (dk_at dksX0_gap_6 0 rfl rfl)
theorem dX0_gap_144 : decode cX0_gap 144 = .ok (.iload_n 2, 1) := dk_28 (dk_at dksX0_gap_6 1 rfl rfl)
theorem dX0_gap_145 : decode cX0_gap 145 = .ok (.iload_n 3, 1) := dk_29 (dk_at dksX0_gap_6 2 rfl rfl)
theorem dX0_gap_146 : decode cX0_gap 146 = .ok (.iload 5, 2) := dk_21 5 (dk_at dksX0_gap_6 3 rfl rfl)
theorem dX0_gap_148 : decode cX0_gap 148 = .ok (.iload 6, 2) := dk_21 6 (dk_at dksX0_gap_6 5 rfl rfl)
theorem dX0_gap_150 : decode cX0_gap 150 = .ok (.iload 7, 2) := dk_21 7 (dk_at dksX0_gap_6 7 rfl rfl)
theorem dX0_gap_152 : decode cX0_gap 152 = .ok (.iload 4, 2) := dk_21 4 (dk_at dksX0_gap_6 9 rfl rfl)
theorem dX0_gap_154 : decode cX0_gap 154 = .ok (.bipush 100, 2) := dk_16 100 (dk_at dksX0_gap_6 11 rfl rfl)
theorem dX0_gap_156 : decode cX0_gap 156 = .ok (.irem, 1) := dk_112 (dk_at dksX0_gap_6 13 rfl rfl)
theorem dX0_gap_157 : decode cX0_gap 157 = .ok (.invokestatic 71, 3) := dk_184 0 71 (dk_at dksX0_gap_6 14 rfl rfl)
theorem dX0_gap_160 : decode cX0_gap 160 = .ok (.putfield 152, 3) := dk_181 0 152 (dk_at dksX0_gap_6 17 rfl rfl)
theorem dX0_gap_163 : decode cX0_gap 163 = .ok (.aload_n 0, 1) := dk_42 (dk_at dksX0_gap_6 20 rfl rfl)
theorem dX0_gap_164 : decode cX0_gap 164 = .ok (.getfield 85, 3) := dk_180 0 85 (dk_at dksX0_gap_6 21 rfl rfl)
theorem dX0_gap_167 : decode cX0_gap 167 = .ok (.dup, 1) := dk_89 (dk_at dksX0_gap_7 0 rfl rfl)
theorem dX0_gap_168 : decode cX0_gap 168 = .ok (.getfield 130, 3) := dk_180 0 130 (dk_at dksX0_gap_7 1 rfl rfl)
theorem dX0_gap_171 : decode cX0_gap 171 = .ok (.iconst 1, 1) := dk_4 (dk_at dksX0_gap_7 4 rfl rfl)
theorem dX0_gap_172 : decode cX0_gap 172 = .ok (.iadd, 1) := dk_96 (dk_at dksX0_gap_7 5 rfl rfl)
theorem dX0_gap_173 : decode cX0_gap 173 = .ok (.putfield 130, 3) := dk_181 0 130 (dk_at dksX0_gap_7 6 rfl rfl)
theorem dX0_gap_176 : decode cX0_gap 176 = .ok (.aload_n 0, 1) := dk_42 (dk_at dksX0_gap_7 9 rfl rfl)
theorem dX0_gap_177 : decode cX0_gap 177 = .ok (.getfield 85, 3) := dk_180 0 85 (dk_at dksX0_gap_7 10 rfl rfl)
theorem dX0_gap_180 : decode cX0_gap 180 = .ok (.invokevirtual 133, 3) := dk_182 0 133 (dk_at dksX0_gap_7 13 rfl rfl)
theorem dX0_gap_183 : decode cX0_gap 183 = .ok (.aload_n 0, 1) := dk_42 (dk_at dksX0_gap_7 16 rfl rfl)
theorem dX0_gap_184 : decode cX0_gap 184 = .ok (.getfield 85, 3) := dk_180 0 85 (dk_at dksX0_gap_7 17 rfl rfl)
theorem dX0_gap_187 : decode cX0_gap 187 = .ok (.getfield 130, 3) := dk_180 0 130 (dk_at dksX0_gap_7 20 rfl rfl)
theorem dX0_gap_190 : decode cX0_gap 190 = .ok (.iconst 1, 1) := dk_4 (dk_at dksX0_gap_7 23 rfl rfl)
theorem dX0_gap_191 : decode cX0_gap 191 = .ok (.isub, 1) := dk_100 (dk_at dksX0_gap_8 0 rfl rfl)
theorem dX0_gap_192 : decode cX0_gap 192 = .ok (.ireturn, 1) := dk_172 (dk_at dksX0_gap_8 1 rfl rfl)
theorem dX0_gap_193 : decode cX0_gap 193 = .ok (.astore 5, 2) := dk_58 5 (dk_at dksX0_gap_8 2 rfl rfl)
theorem dX0_gap_195 : decode cX0_gap 195 = .ok (.aload_n 0, 1) := dk_42 (dk_at dksX0_gap_8 4 rfl rfl)
theorem dX0_gap_196 : decode cX0_gap 196 = .ok (.aload 5, 2) := dk_25 5 (dk_at dksX0_gap_8 5 rfl rfl)
theorem dX0_gap_198 : decode cX0_gap 198 = .ok (.invokevirtual 136, 3) := dk_182 0 136 (dk_at dksX0_gap_8 7 rfl rfl)
theorem dX0_gap_201 : decode cX0_gap 201 = .ok (.ireturn, 1) := dk_172 (dk_at dksX0_gap_8 10 rfl rfl)
abbrev cX0_isWide : ByteArray := prog_1_method_13_code
def yX0_isWide : MethodName := ⟨RX0, "isWide", "(I)Z"⟩
def dkwX0_isWide_0 : List UInt8 := [26, 133, 9, 20, 0, 24, 184, 0, 14, 172]
abbrev dktX0_isWide_0 : List UInt8 := dkwX0_isWide_0 ++ []
theorem dksX0_isWide_0 : cX0_isWide.data.toList.drop 0 = dktX0_isWide_0 := by decide +kernel
theorem dX0_isWide_0 : decode cX0_isWide 0 = .ok (.iload_n 0, 1) := dk_26 (dk_at dksX0_isWide_0 0 rfl rfl)
theorem dX0_isWide_1 : decode cX0_isWide 1 = .ok (.i2l, 1) := dk_133 (dk_at dksX0_isWide_0 1 rfl rfl)
theorem dX0_isWide_2 : decode cX0_isWide 2 = .ok (.lconst 0, 1) := dk_9 (dk_at dksX0_isWide_0 2 rfl rfl)
theorem dX0_isWide_3 : decode cX0_isWide 3 = .ok (.ldc2_w 24, 3) := dk_20 0 24 (dk_at dksX0_isWide_0 3 rfl rfl)
theorem dX0_isWide_6 : decode cX0_isWide 6 = .ok (.invokestatic 14, 3) := dk_184 0 14 (dk_at dksX0_isWide_0 6 rfl rfl)
theorem dX0_isWide_9 : decode cX0_isWide 9 = .ok (.ireturn, 1) := dk_172 (dk_at dksX0_isWide_0 9 rfl rfl)
abbrev cX0_in : ByteArray := prog_1_method_2_code
def yX0_in : MethodName := ⟨RX0, "in", "(JJJ)Z"⟩
def dkwX0_in_0 : List UInt8 := [30, 32, 148, 155, 0, 14, 30, 22, 4, 148, 157, 0, 7, 4, 167, 0, 4, 3, 172]
abbrev dktX0_in_0 : List UInt8 := dkwX0_in_0 ++ []
theorem dksX0_in_0 : cX0_in.data.toList.drop 0 = dktX0_in_0 := by decide +kernel
theorem dX0_in_0 : decode cX0_in 0 = .ok (.lload_n 0, 1) := dk_30 (dk_at dksX0_in_0 0 rfl rfl)
theorem dX0_in_1 : decode cX0_in 1 = .ok (.lload_n 2, 1) := dk_32 (dk_at dksX0_in_0 1 rfl rfl)
theorem dX0_in_2 : decode cX0_in 2 = .ok (.lcmp, 1) := dk_148 (dk_at dksX0_in_0 2 rfl rfl)
theorem dX0_in_3 : decode cX0_in 3 = .ok (.ifCond .lt 14, 3) := dk_155 0 14 (dk_at dksX0_in_0 3 rfl rfl)
theorem dX0_in_6 : decode cX0_in 6 = .ok (.lload_n 0, 1) := dk_30 (dk_at dksX0_in_0 6 rfl rfl)
theorem dX0_in_7 : decode cX0_in 7 = .ok (.lload 4, 2) := dk_22 4 (dk_at dksX0_in_0 7 rfl rfl)
theorem dX0_in_9 : decode cX0_in 9 = .ok (.lcmp, 1) := dk_148 (dk_at dksX0_in_0 9 rfl rfl)
theorem dX0_in_10 : decode cX0_in 10 = .ok (.ifCond .gt 7, 3) := dk_157 0 7 (dk_at dksX0_in_0 10 rfl rfl)
theorem dX0_in_13 : decode cX0_in 13 = .ok (.iconst 1, 1) := dk_4 (dk_at dksX0_in_0 13 rfl rfl)
theorem dX0_in_14 : decode cX0_in 14 = .ok (.goto 4, 3) := dk_167 0 4 (dk_at dksX0_in_0 14 rfl rfl)
theorem dX0_in_17 : decode cX0_in 17 = .ok (.iconst 0, 1) := dk_3 (dk_at dksX0_in_0 17 rfl rfl)
theorem dX0_in_18 : decode cX0_in 18 = .ok (.ireturn, 1) := dk_172 (dk_at dksX0_in_0 18 rfl rfl)
abbrev cX0_isRoom : ByteArray := prog_1_method_11_code
def yX0_isRoom : MethodName := ⟨RX0, "isRoom", "(I)Z"⟩
def dkwX0_isRoom_0 : List UInt8 := [27, 133, 9, 42, 180, 0, 85, 180, 0, 127, 4, 100, 133, 184, 0, 14, 172]
abbrev dktX0_isRoom_0 : List UInt8 := dkwX0_isRoom_0 ++ []
theorem dksX0_isRoom_0 : cX0_isRoom.data.toList.drop 0 = dktX0_isRoom_0 := by decide +kernel
theorem dX0_isRoom_0 : decode cX0_isRoom 0 = .ok (.iload_n 1, 1) := dk_27 (dk_at dksX0_isRoom_0 0 rfl rfl)
theorem dX0_isRoom_1 : decode cX0_isRoom 1 = .ok (.i2l, 1) := dk_133 (dk_at dksX0_isRoom_0 1 rfl rfl)
theorem dX0_isRoom_2 : decode cX0_isRoom 2 = .ok (.lconst 0, 1) := dk_9 (dk_at dksX0_isRoom_0 2 rfl rfl)
theorem dX0_isRoom_3 : decode cX0_isRoom 3 = .ok (.aload_n 0, 1) := dk_42 (dk_at dksX0_isRoom_0 3 rfl rfl)
theorem dX0_isRoom_4 : decode cX0_isRoom 4 = .ok (.getfield 85, 3) := dk_180 0 85 (dk_at dksX0_isRoom_0 4 rfl rfl)
theorem dX0_isRoom_7 : decode cX0_isRoom 7 = .ok (.getfield 127, 3) := dk_180 0 127 (dk_at dksX0_isRoom_0 7 rfl rfl)
theorem dX0_isRoom_10 : decode cX0_isRoom 10 = .ok (.iconst 1, 1) := dk_4 (dk_at dksX0_isRoom_0 10 rfl rfl)
theorem dX0_isRoom_11 : decode cX0_isRoom 11 = .ok (.isub, 1) := dk_100 (dk_at dksX0_isRoom_0 11 rfl rfl)
theorem dX0_isRoom_12 : decode cX0_isRoom 12 = .ok (.i2l, 1) := dk_133 (dk_at dksX0_isRoom_0 12 rfl rfl)
theorem dX0_isRoom_13 : decode cX0_isRoom 13 = .ok (.invokestatic 14, 3) := dk_184 0 14 (dk_at dksX0_isRoom_0 13 rfl rfl)
theorem dX0_isRoom_16 : decode cX0_isRoom 16 = .ok (.ireturn, 1) := dk_172 (dk_at dksX0_isRoom_0 16 rfl rfl)
abbrev cX0_gapOf : ByteArray := prog_1_method_6_code
def yX0_gapOf : MethodName := ⟨RX0, "gapOf", "(IIIIIII)LSmokeLeans$Gap;"⟩
def dkwX0_gapOf_6 : List UInt8 := [21, 5, 21, 6, 183, 0, 47, 176]
abbrev dktX0_gapOf_6 : List UInt8 := dkwX0_gapOf_6 ++ []
def dkwX0_gapOf_5 : List UInt8 := [89, 27, 28, 29, 21, 4, 21, 5, 21, 6, 183, 0, 44, 176, 187, 0, 45, 89, 27, 28, 29, 21, 4]
abbrev dktX0_gapOf_5 : List UInt8 := dkwX0_gapOf_5 ++ dktX0_gapOf_6
def dkwX0_gapOf_4 : List UInt8 := [183, 0, 38, 176, 187, 0, 39, 89, 27, 28, 29, 21, 4, 21, 5, 21, 6, 183, 0, 41, 176, 187, 0, 42]
abbrev dktX0_gapOf_4 : List UInt8 := dkwX0_gapOf_4 ++ dktX0_gapOf_5
def dkwX0_gapOf_3 : List UInt8 := [21, 4, 21, 5, 21, 6, 183, 0, 35, 176, 187, 0, 36, 89, 27, 28, 29, 21, 4, 21, 5, 21, 6]
abbrev dktX0_gapOf_3 : List UInt8 := dkwX0_gapOf_3 ++ dktX0_gapOf_4
def dkwX0_gapOf_2 : List UInt8 := [187, 0, 28, 89, 27, 28, 29, 21, 4, 21, 5, 21, 6, 183, 0, 30, 176, 187, 0, 33, 89, 27, 28, 29]
abbrev dktX0_gapOf_2 : List UInt8 := dkwX0_gapOf_2 ++ dktX0_gapOf_3
def dkwX0_gapOf_1 : List UInt8 := [170, 0, 0, 0, 0, 0, 120, 0, 0, 0, 0, 0, 0, 0, 4, 0, 0, 0, 35, 0, 0, 0, 52, 0, 0, 0, 69, 0, 0, 0, 86, 0, 0, 0, 103]
abbrev dktX0_gapOf_1 : List UInt8 := dkwX0_gapOf_1 ++ dktX0_gapOf_2
def dkwX0_gapOf_0 : List UInt8 := [26]
abbrev dktX0_gapOf_0 : List UInt8 := dkwX0_gapOf_0 ++ dktX0_gapOf_1
theorem dksX0_gapOf_0 : cX0_gapOf.data.toList.drop 0 = dktX0_gapOf_0 := by decide +kernel
theorem dksX0_gapOf_1 : cX0_gapOf.data.toList.drop 1 = dktX0_gapOf_1 := dk_seg dksX0_gapOf_0 1 rfl rfl
theorem dksX0_gapOf_2 : cX0_gapOf.data.toList.drop 36 = dktX0_gapOf_2 := dk_seg dksX0_gapOf_1 35 rfl rfl
theorem dksX0_gapOf_3 : cX0_gapOf.data.toList.drop 60 = dktX0_gapOf_3 := dk_seg dksX0_gapOf_2 24 rfl rfl
theorem dksX0_gapOf_4 : cX0_gapOf.data.toList.drop 83 = dktX0_gapOf_4 := dk_seg dksX0_gapOf_3 23 rfl rfl
theorem dksX0_gapOf_5 : cX0_gapOf.data.toList.drop 107 = dktX0_gapOf_5 := dk_seg dksX0_gapOf_4 24 rfl rfl
theorem dksX0_gapOf_6 : cX0_gapOf.data.toList.drop 130 = dktX0_gapOf_6 := dk_seg dksX0_gapOf_5 23 rfl rfl
theorem dX0_gapOf_0 : decode cX0_gapOf 0 = .ok (.iload_n 0, 1) := dk_26 (dk_at dksX0_gapOf_0 0 rfl rfl)
theorem dX0_gapOf_1 : decode cX0_gapOf 1 = .ok (.tableswitch 120 0 4 #[35, 52, 69, 86, 103], 35) := by decide +kernel
theorem dX0_gapOf_36 : decode cX0_gapOf 36 = .ok (.new 28, 3) := dk_187 0 28 (dk_at dksX0_gapOf_2 0 rfl rfl)
theorem dX0_gapOf_39 : decode cX0_gapOf 39 = .ok (.dup, 1) := dk_89 (dk_at dksX0_gapOf_2 3 rfl rfl)
theorem dX0_gapOf_40 : decode cX0_gapOf 40 = .ok (.iload_n 1, 1) := dk_27 (dk_at dksX0_gapOf_2 4 rfl rfl)
theorem dX0_gapOf_41 : decode cX0_gapOf 41 = .ok (.iload_n 2, 1) := dk_28 (dk_at dksX0_gapOf_2 5 rfl rfl)
theorem dX0_gapOf_42 : decode cX0_gapOf 42 = .ok (.iload_n 3, 1) := dk_29 (dk_at dksX0_gapOf_2 6 rfl rfl)
theorem dX0_gapOf_43 : decode cX0_gapOf 43 = .ok (.iload 4, 2) := dk_21 4 (dk_at dksX0_gapOf_2 7 rfl rfl)
theorem dX0_gapOf_45 : decode cX0_gapOf 45 = .ok (.iload 5, 2) := dk_21 5 (dk_at dksX0_gapOf_2 9 rfl rfl)
theorem dX0_gapOf_47 : decode cX0_gapOf 47 = .ok (.iload 6, 2) := dk_21 6 (dk_at dksX0_gapOf_2 11 rfl rfl)
theorem dX0_gapOf_49 : decode cX0_gapOf 49 = .ok (.invokespecial 30, 3) := dk_183 0 30 (dk_at dksX0_gapOf_2 13 rfl rfl)
theorem dX0_gapOf_52 : decode cX0_gapOf 52 = .ok (.areturn, 1) := dk_176 (dk_at dksX0_gapOf_2 16 rfl rfl)
theorem dX0_gapOf_53 : decode cX0_gapOf 53 = .ok (.new 33, 3) := dk_187 0 33 (dk_at dksX0_gapOf_2 17 rfl rfl)
theorem dX0_gapOf_56 : decode cX0_gapOf 56 = .ok (.dup, 1) := dk_89 (dk_at dksX0_gapOf_2 20 rfl rfl)
theorem dX0_gapOf_57 : decode cX0_gapOf 57 = .ok (.iload_n 1, 1) := dk_27 (dk_at dksX0_gapOf_2 21 rfl rfl)
theorem dX0_gapOf_58 : decode cX0_gapOf 58 = .ok (.iload_n 2, 1) := dk_28 (dk_at dksX0_gapOf_2 22 rfl rfl)
theorem dX0_gapOf_59 : decode cX0_gapOf 59 = .ok (.iload_n 3, 1) := dk_29 (dk_at dksX0_gapOf_2 23 rfl rfl)
theorem dX0_gapOf_60 : decode cX0_gapOf 60 = .ok (.iload 4, 2) := dk_21 4 (dk_at dksX0_gapOf_3 0 rfl rfl)
theorem dX0_gapOf_62 : decode cX0_gapOf 62 = .ok (.iload 5, 2) := dk_21 5 (dk_at dksX0_gapOf_3 2 rfl rfl)
theorem dX0_gapOf_64 : decode cX0_gapOf 64 = .ok (.iload 6, 2) := dk_21 6 (dk_at dksX0_gapOf_3 4 rfl rfl)
theorem dX0_gapOf_66 : decode cX0_gapOf 66 = .ok (.invokespecial 35, 3) := dk_183 0 35 (dk_at dksX0_gapOf_3 6 rfl rfl)
theorem dX0_gapOf_69 : decode cX0_gapOf 69 = .ok (.areturn, 1) := dk_176 (dk_at dksX0_gapOf_3 9 rfl rfl)
theorem dX0_gapOf_70 : decode cX0_gapOf 70 = .ok (.new 36, 3) := dk_187 0 36 (dk_at dksX0_gapOf_3 10 rfl rfl)
theorem dX0_gapOf_73 : decode cX0_gapOf 73 = .ok (.dup, 1) := dk_89 (dk_at dksX0_gapOf_3 13 rfl rfl)
theorem dX0_gapOf_74 : decode cX0_gapOf 74 = .ok (.iload_n 1, 1) := dk_27 (dk_at dksX0_gapOf_3 14 rfl rfl)
theorem dX0_gapOf_75 : decode cX0_gapOf 75 = .ok (.iload_n 2, 1) := dk_28 (dk_at dksX0_gapOf_3 15 rfl rfl)
theorem dX0_gapOf_76 : decode cX0_gapOf 76 = .ok (.iload_n 3, 1) := dk_29 (dk_at dksX0_gapOf_3 16 rfl rfl)
theorem dX0_gapOf_77 : decode cX0_gapOf 77 = .ok (.iload 4, 2) := dk_21 4 (dk_at dksX0_gapOf_3 17 rfl rfl)
theorem dX0_gapOf_79 : decode cX0_gapOf 79 = .ok (.iload 5, 2) := dk_21 5 (dk_at dksX0_gapOf_3 19 rfl rfl)
theorem dX0_gapOf_81 : decode cX0_gapOf 81 = .ok (.iload 6, 2) := dk_21 6 (dk_at dksX0_gapOf_3 21 rfl rfl)
theorem dX0_gapOf_83 : decode cX0_gapOf 83 = .ok (.invokespecial 38, 3) := dk_183 0 38 (dk_at dksX0_gapOf_4 0 rfl rfl)
theorem dX0_gapOf_86 : decode cX0_gapOf 86 = .ok (.areturn, 1) := dk_176 (dk_at dksX0_gapOf_4 3 rfl rfl)
theorem dX0_gapOf_87 : decode cX0_gapOf 87 = .ok (.new 39, 3) := dk_187 0 39 (dk_at dksX0_gapOf_4 4 rfl rfl)
theorem dX0_gapOf_90 : decode cX0_gapOf 90 = .ok (.dup, 1) := dk_89 (dk_at dksX0_gapOf_4 7 rfl rfl)
theorem dX0_gapOf_91 : decode cX0_gapOf 91 = .ok (.iload_n 1, 1) := dk_27 (dk_at dksX0_gapOf_4 8 rfl rfl)
theorem dX0_gapOf_92 : decode cX0_gapOf 92 = .ok (.iload_n 2, 1) := dk_28 (dk_at dksX0_gapOf_4 9 rfl rfl)
theorem dX0_gapOf_93 : decode cX0_gapOf 93 = .ok (.iload_n 3, 1) := dk_29 (dk_at dksX0_gapOf_4 10 rfl rfl)
theorem dX0_gapOf_94 : decode cX0_gapOf 94 = .ok (.iload 4, 2) := dk_21 4 (dk_at dksX0_gapOf_4 11 rfl rfl)
theorem dX0_gapOf_96 : decode cX0_gapOf 96 = .ok (.iload 5, 2) := dk_21 5 (dk_at dksX0_gapOf_4 13 rfl rfl)
theorem dX0_gapOf_98 : decode cX0_gapOf 98 = .ok (.iload 6, 2) := dk_21 6 (dk_at dksX0_gapOf_4 15 rfl rfl)
theorem dX0_gapOf_100 : decode cX0_gapOf 100 = .ok (.invokespecial 41, 3) := dk_183 0 41 (dk_at dksX0_gapOf_4 17 rfl rfl)
theorem dX0_gapOf_103 : decode cX0_gapOf 103 = .ok (.areturn, 1) := dk_176 (dk_at dksX0_gapOf_4 20 rfl rfl)
theorem dX0_gapOf_104 : decode cX0_gapOf 104 = .ok (.new 42, 3) := dk_187 0 42 (dk_at dksX0_gapOf_4 21 rfl rfl)
theorem dX0_gapOf_107 : decode cX0_gapOf 107 = .ok (.dup, 1) := dk_89 (dk_at dksX0_gapOf_5 0 rfl rfl)
theorem dX0_gapOf_108 : decode cX0_gapOf 108 = .ok (.iload_n 1, 1) := dk_27 (dk_at dksX0_gapOf_5 1 rfl rfl)
theorem dX0_gapOf_109 : decode cX0_gapOf 109 = .ok (.iload_n 2, 1) := dk_28 (dk_at dksX0_gapOf_5 2 rfl rfl)
theorem dX0_gapOf_110 : decode cX0_gapOf 110 = .ok (.iload_n 3, 1) := dk_29 (dk_at dksX0_gapOf_5 3 rfl rfl)
theorem dX0_gapOf_111 : decode cX0_gapOf 111 = .ok (.iload 4, 2) := dk_21 4 (dk_at dksX0_gapOf_5 4 rfl rfl)
theorem dX0_gapOf_113 : decode cX0_gapOf 113 = .ok (.iload 5, 2) := dk_21 5 (dk_at dksX0_gapOf_5 6 rfl rfl)
theorem dX0_gapOf_115 : decode cX0_gapOf 115 = .ok (.iload 6, 2) := dk_21 6 (dk_at dksX0_gapOf_5 8 rfl rfl)
theorem dX0_gapOf_117 : decode cX0_gapOf 117 = .ok (.invokespecial 44, 3) := dk_183 0 44 (dk_at dksX0_gapOf_5 10 rfl rfl)
theorem dX0_gapOf_120 : decode cX0_gapOf 120 = .ok (.areturn, 1) := dk_176 (dk_at dksX0_gapOf_5 13 rfl rfl)
theorem dX0_gapOf_121 : decode cX0_gapOf 121 = .ok (.new 45, 3) := dk_187 0 45 (dk_at dksX0_gapOf_5 14 rfl rfl)
theorem dX0_gapOf_124 : decode cX0_gapOf 124 = .ok (.dup, 1) := dk_89 (dk_at dksX0_gapOf_5 17 rfl rfl)
theorem dX0_gapOf_125 : decode cX0_gapOf 125 = .ok (.iload_n 1, 1) := dk_27 (dk_at dksX0_gapOf_5 18 rfl rfl)
theorem dX0_gapOf_126 : decode cX0_gapOf 126 = .ok (.iload_n 2, 1) := dk_28 (dk_at dksX0_gapOf_5 19 rfl rfl)
theorem dX0_gapOf_127 : decode cX0_gapOf 127 = .ok (.iload_n 3, 1) := dk_29 (dk_at dksX0_gapOf_5 20 rfl rfl)
theorem dX0_gapOf_128 : decode cX0_gapOf 128 = .ok (.iload 4, 2) := dk_21 4 (dk_at dksX0_gapOf_5 21 rfl rfl)
theorem dX0_gapOf_130 : decode cX0_gapOf 130 = .ok (.iload 5, 2) := dk_21 5 (dk_at dksX0_gapOf_6 0 rfl rfl)
theorem dX0_gapOf_132 : decode cX0_gapOf 132 = .ok (.iload 6, 2) := dk_21 6 (dk_at dksX0_gapOf_6 2 rfl rfl)
theorem dX0_gapOf_134 : decode cX0_gapOf 134 = .ok (.invokespecial 47, 3) := dk_183 0 47 (dk_at dksX0_gapOf_6 4 rfl rfl)
theorem dX0_gapOf_137 : decode cX0_gapOf 137 = .ok (.areturn, 1) := dk_176 (dk_at dksX0_gapOf_6 7 rfl rfl)
abbrev cX0_of : ByteArray := prog_1_method_17_code
def yX0_of : MethodName := ⟨RX0, "of", "(II)I"⟩
def dkwX0_of_4 : List UInt8 := [172, 42, 45, 27, 28, 182, 0, 175, 172, 78, 42, 45, 182, 0, 136, 172]
abbrev dktX0_of_4 : List UInt8 := dkwX0_of_4 ++ []
def dkwX0_of_3 : List UInt8 := [45, 182, 0, 48, 172, 45, 180, 0, 52, 172, 45, 180, 0, 56, 172, 45, 180, 0, 59, 172, 45, 180, 0, 62]
abbrev dktX0_of_3 : List UInt8 := dkwX0_of_3 ++ dktX0_of_4
def dkwX0_of_2 : List UInt8 := [170, 0, 0, 0, 58, 0, 0, 0, 0, 0, 0, 0, 4, 0, 0, 0, 33, 0, 0, 0, 38, 0, 0, 0, 43, 0, 0, 0, 48, 0, 0, 0, 53]
abbrev dktX0_of_2 : List UInt8 := dkwX0_of_2 ++ dktX0_of_3
def dkwX0_of_1 : List UInt8 := [3, 3, 184, 0, 123, 42, 180, 0, 85, 27, 182, 0, 172, 78, 28]
abbrev dktX0_of_1 : List UInt8 := dkwX0_of_1 ++ dktX0_of_2
def dkwX0_of_0 : List UInt8 := [42, 27, 182, 0, 167, 153, 0, 19, 28, 133, 9, 20, 0, 170, 184, 0, 14, 153, 0, 7, 4, 167, 0, 4]
abbrev dktX0_of_0 : List UInt8 := dkwX0_of_0 ++ dktX0_of_1
theorem dksX0_of_0 : cX0_of.data.toList.drop 0 = dktX0_of_0 := by decide +kernel
theorem dksX0_of_1 : cX0_of.data.toList.drop 24 = dktX0_of_1 := dk_seg dksX0_of_0 24 rfl rfl
theorem dksX0_of_2 : cX0_of.data.toList.drop 39 = dktX0_of_2 := dk_seg dksX0_of_1 15 rfl rfl
theorem dksX0_of_3 : cX0_of.data.toList.drop 72 = dktX0_of_3 := dk_seg dksX0_of_2 33 rfl rfl
theorem dksX0_of_4 : cX0_of.data.toList.drop 96 = dktX0_of_4 := dk_seg dksX0_of_3 24 rfl rfl
theorem dX0_of_0 : decode cX0_of 0 = .ok (.aload_n 0, 1) := dk_42 (dk_at dksX0_of_0 0 rfl rfl)
theorem dX0_of_1 : decode cX0_of 1 = .ok (.iload_n 1, 1) := dk_27 (dk_at dksX0_of_0 1 rfl rfl)
theorem dX0_of_2 : decode cX0_of 2 = .ok (.invokevirtual 167, 3) := dk_182 0 167 (dk_at dksX0_of_0 2 rfl rfl)
theorem dX0_of_5 : decode cX0_of 5 = .ok (.ifCond .eq 19, 3) := dk_153 0 19 (dk_at dksX0_of_0 5 rfl rfl)
theorem dX0_of_8 : decode cX0_of 8 = .ok (.iload_n 2, 1) := dk_28 (dk_at dksX0_of_0 8 rfl rfl)
theorem dX0_of_9 : decode cX0_of 9 = .ok (.i2l, 1) := dk_133 (dk_at dksX0_of_0 9 rfl rfl)
theorem dX0_of_10 : decode cX0_of 10 = .ok (.lconst 0, 1) := dk_9 (dk_at dksX0_of_0 10 rfl rfl)
theorem dX0_of_11 : decode cX0_of 11 = .ok (.ldc2_w 170, 3) := dk_20 0 170 (dk_at dksX0_of_0 11 rfl rfl)
theorem dX0_of_14 : decode cX0_of 14 = .ok (.invokestatic 14, 3) := dk_184 0 14 (dk_at dksX0_of_0 14 rfl rfl)
theorem dX0_of_17 : decode cX0_of 17 = .ok (.ifCond .eq 7, 3) := dk_153 0 7 (dk_at dksX0_of_0 17 rfl rfl)
theorem dX0_of_20 : decode cX0_of 20 = .ok (.iconst 1, 1) := dk_4 (dk_at dksX0_of_0 20 rfl rfl)
theorem dX0_of_21 : decode cX0_of 21 = .ok (.goto 4, 3) := dk_167 0 4 (dk_at dksX0_of_0 21 rfl rfl)
theorem dX0_of_24 : decode cX0_of 24 = .ok (.iconst 0, 1) := dk_3 (dk_at dksX0_of_1 0 rfl rfl)
theorem dX0_of_25 : decode cX0_of 25 = .ok (.iconst 0, 1) := dk_3 (dk_at dksX0_of_1 1 rfl rfl)
theorem dX0_of_26 : decode cX0_of 26 = .ok (.invokestatic 123, 3) := dk_184 0 123 (dk_at dksX0_of_1 2 rfl rfl)
theorem dX0_of_29 : decode cX0_of 29 = .ok (.aload_n 0, 1) := dk_42 (dk_at dksX0_of_1 5 rfl rfl)
theorem dX0_of_30 : decode cX0_of 30 = .ok (.getfield 85, 3) := dk_180 0 85 (dk_at dksX0_of_1 6 rfl rfl)
theorem dX0_of_33 : decode cX0_of 33 = .ok (.iload_n 1, 1) := dk_27 (dk_at dksX0_of_1 9 rfl rfl)
theorem dX0_of_34 : decode cX0_of 34 = .ok (.invokevirtual 172, 3) := dk_182 0 172 (dk_at dksX0_of_1 10 rfl rfl)
theorem dX0_of_37 : decode cX0_of 37 = .ok (.astore_n 3, 1) := dk_78 (dk_at dksX0_of_1 13 rfl rfl)
theorem dX0_of_38 : decode cX0_of 38 = .ok (.iload_n 2, 1) := dk_28 (dk_at dksX0_of_1 14 rfl rfl)
theorem dX0_of_39 : decode cX0_of 39 = .ok (.tableswitch 58 0 4 #[33, 38, 43, 48, 53], 33) := by decide +kernel
theorem dX0_of_72 : decode cX0_of 72 = .ok (.aload_n 3, 1) := dk_45 (dk_at dksX0_of_3 0 rfl rfl)
theorem dX0_of_73 : decode cX0_of 73 = .ok (.invokevirtual 48, 3) := dk_182 0 48 (dk_at dksX0_of_3 1 rfl rfl)
theorem dX0_of_76 : decode cX0_of 76 = .ok (.ireturn, 1) := dk_172 (dk_at dksX0_of_3 4 rfl rfl)
theorem dX0_of_77 : decode cX0_of 77 = .ok (.aload_n 3, 1) := dk_45 (dk_at dksX0_of_3 5 rfl rfl)
theorem dX0_of_78 : decode cX0_of 78 = .ok (.getfield 52, 3) := dk_180 0 52 (dk_at dksX0_of_3 6 rfl rfl)
theorem dX0_of_81 : decode cX0_of 81 = .ok (.ireturn, 1) := dk_172 (dk_at dksX0_of_3 9 rfl rfl)
theorem dX0_of_82 : decode cX0_of 82 = .ok (.aload_n 3, 1) := dk_45 (dk_at dksX0_of_3 10 rfl rfl)
theorem dX0_of_83 : decode cX0_of 83 = .ok (.getfield 56, 3) := dk_180 0 56 (dk_at dksX0_of_3 11 rfl rfl)
theorem dX0_of_86 : decode cX0_of 86 = .ok (.ireturn, 1) := dk_172 (dk_at dksX0_of_3 14 rfl rfl)
theorem dX0_of_87 : decode cX0_of 87 = .ok (.aload_n 3, 1) := dk_45 (dk_at dksX0_of_3 15 rfl rfl)
theorem dX0_of_88 : decode cX0_of 88 = .ok (.getfield 59, 3) := dk_180 0 59 (dk_at dksX0_of_3 16 rfl rfl)
theorem dX0_of_91 : decode cX0_of 91 = .ok (.ireturn, 1) := dk_172 (dk_at dksX0_of_3 19 rfl rfl)
theorem dX0_of_92 : decode cX0_of 92 = .ok (.aload_n 3, 1) := dk_45 (dk_at dksX0_of_3 20 rfl rfl)
theorem dX0_of_93 : decode cX0_of 93 = .ok (.getfield 62, 3) := dk_180 0 62 (dk_at dksX0_of_3 21 rfl rfl)
theorem dX0_of_96 : decode cX0_of 96 = .ok (.ireturn, 1) := dk_172 (dk_at dksX0_of_4 0 rfl rfl)
theorem dX0_of_97 : decode cX0_of 97 = .ok (.aload_n 0, 1) := dk_42 (dk_at dksX0_of_4 1 rfl rfl)
theorem dX0_of_98 : decode cX0_of 98 = .ok (.aload_n 3, 1) := dk_45 (dk_at dksX0_of_4 2 rfl rfl)
theorem dX0_of_99 : decode cX0_of 99 = .ok (.iload_n 1, 1) := dk_27 (dk_at dksX0_of_4 3 rfl rfl)
theorem dX0_of_100 : decode cX0_of 100 = .ok (.iload_n 2, 1) := dk_28 (dk_at dksX0_of_4 4 rfl rfl)
theorem dX0_of_101 : decode cX0_of 101 = .ok (.invokevirtual 175, 3) := dk_182 0 175 (dk_at dksX0_of_4 5 rfl rfl)
theorem dX0_of_104 : decode cX0_of 104 = .ok (.ireturn, 1) := dk_172 (dk_at dksX0_of_4 8 rfl rfl)
theorem dX0_of_105 : decode cX0_of 105 = .ok (.astore_n 3, 1) := dk_78 (dk_at dksX0_of_4 9 rfl rfl)
theorem dX0_of_106 : decode cX0_of 106 = .ok (.aload_n 0, 1) := dk_42 (dk_at dksX0_of_4 10 rfl rfl)
theorem dX0_of_107 : decode cX0_of 107 = .ok (.aload_n 3, 1) := dk_45 (dk_at dksX0_of_4 11 rfl rfl)
theorem dX0_of_108 : decode cX0_of 108 = .ok (.invokevirtual 136, 3) := dk_182 0 136 (dk_at dksX0_of_4 12 rfl rfl)
theorem dX0_of_111 : decode cX0_of 111 = .ok (.ireturn, 1) := dk_172 (dk_at dksX0_of_4 15 rfl rfl)
abbrev cX0_isGap : ByteArray := prog_1_method_12_code
def yX0_isGap : MethodName := ⟨RX0, "isGap", "(I)Z"⟩
def dkwX0_isGap_0 : List UInt8 := [27, 133, 9, 42, 180, 0, 85, 180, 0, 130, 4, 100, 133, 184, 0, 14, 172]
abbrev dktX0_isGap_0 : List UInt8 := dkwX0_isGap_0 ++ []
theorem dksX0_isGap_0 : cX0_isGap.data.toList.drop 0 = dktX0_isGap_0 := by decide +kernel
theorem dX0_isGap_0 : decode cX0_isGap 0 = .ok (.iload_n 1, 1) := dk_27 (dk_at dksX0_isGap_0 0 rfl rfl)
theorem dX0_isGap_1 : decode cX0_isGap 1 = .ok (.i2l, 1) := dk_133 (dk_at dksX0_isGap_0 1 rfl rfl)
theorem dX0_isGap_2 : decode cX0_isGap 2 = .ok (.lconst 0, 1) := dk_9 (dk_at dksX0_isGap_0 2 rfl rfl)
theorem dX0_isGap_3 : decode cX0_isGap 3 = .ok (.aload_n 0, 1) := dk_42 (dk_at dksX0_isGap_0 3 rfl rfl)
theorem dX0_isGap_4 : decode cX0_isGap 4 = .ok (.getfield 85, 3) := dk_180 0 85 (dk_at dksX0_isGap_0 4 rfl rfl)
theorem dX0_isGap_7 : decode cX0_isGap 7 = .ok (.getfield 130, 3) := dk_180 0 130 (dk_at dksX0_isGap_0 7 rfl rfl)
theorem dX0_isGap_10 : decode cX0_isGap 10 = .ok (.iconst 1, 1) := dk_4 (dk_at dksX0_isGap_0 10 rfl rfl)
theorem dX0_isGap_11 : decode cX0_isGap 11 = .ok (.isub, 1) := dk_100 (dk_at dksX0_isGap_0 11 rfl rfl)
theorem dX0_isGap_12 : decode cX0_isGap 12 = .ok (.i2l, 1) := dk_133 (dk_at dksX0_isGap_0 12 rfl rfl)
theorem dX0_isGap_13 : decode cX0_isGap 13 = .ok (.invokestatic 14, 3) := dk_184 0 14 (dk_at dksX0_isGap_0 13 rfl rfl)
theorem dX0_isGap_16 : decode cX0_isGap 16 = .ok (.ireturn, 1) := dk_172 (dk_at dksX0_isGap_0 16 rfl rfl)
abbrev cX0_more : ByteArray := prog_1_method_16_code
def yX0_more : MethodName := ⟨RX0, "more", "(LSmokeLeans$Gap;II)I"⟩
def dkwX0_more_4 : List UInt8 := [182, 0, 163, 167, 0, 4, 3, 172]
abbrev dktX0_more_4 : List UInt8 := dkwX0_more_4 ++ []
def dkwX0_more_3 : List UInt8 := [180, 0, 85, 28, 182, 0, 156, 172, 43, 180, 0, 56, 2, 160, 0, 17, 43, 42, 180, 0, 85, 180, 0, 160]
abbrev dktX0_more_3 : List UInt8 := dkwX0_more_3 ++ dktX0_more_4
def dkwX0_more_2 : List UInt8 := [43, 180, 0, 65, 172, 43, 180, 0, 68, 172, 43, 180, 0, 75, 153, 0, 7, 4, 167, 0, 4, 3, 172, 42]
abbrev dktX0_more_2 : List UInt8 := dkwX0_more_2 ++ dktX0_more_3
def dkwX0_more_1 : List UInt8 := [170, 0, 0, 0, 0, 0, 63, 0, 0, 0, 5, 0, 0, 0, 8, 0, 0, 0, 31, 0, 0, 0, 36, 0, 0, 0, 41, 0, 0, 0, 54]
abbrev dktX0_more_1 : List UInt8 := dkwX0_more_1 ++ dktX0_more_2
def dkwX0_more_0 : List UInt8 := [29]
abbrev dktX0_more_0 : List UInt8 := dkwX0_more_0 ++ dktX0_more_1
theorem dksX0_more_0 : cX0_more.data.toList.drop 0 = dktX0_more_0 := by decide +kernel
theorem dksX0_more_1 : cX0_more.data.toList.drop 1 = dktX0_more_1 := dk_seg dksX0_more_0 1 rfl rfl
theorem dksX0_more_2 : cX0_more.data.toList.drop 32 = dktX0_more_2 := dk_seg dksX0_more_1 31 rfl rfl
theorem dksX0_more_3 : cX0_more.data.toList.drop 56 = dktX0_more_3 := dk_seg dksX0_more_2 24 rfl rfl
theorem dksX0_more_4 : cX0_more.data.toList.drop 80 = dktX0_more_4 := dk_seg dksX0_more_3 24 rfl rfl
theorem dX0_more_0 : decode cX0_more 0 = .ok (.iload_n 3, 1) := dk_29 (dk_at dksX0_more_0 0 rfl rfl)
theorem dX0_more_1 : decode cX0_more 1 = .ok (.tableswitch 63 5 8 #[31, 36, 41, 54], 31) := by decide +kernel
theorem dX0_more_32 : decode cX0_more 32 = .ok (.aload_n 1, 1) := dk_43 (dk_at dksX0_more_2 0 rfl rfl)
theorem dX0_more_33 : decode cX0_more 33 = .ok (.getfield 65, 3) := dk_180 0 65 (dk_at dksX0_more_2 1 rfl rfl)
theorem dX0_more_36 : decode cX0_more 36 = .ok (.ireturn, 1) := dk_172 (dk_at dksX0_more_2 4 rfl rfl)
theorem dX0_more_37 : decode cX0_more 37 = .ok (.aload_n 1, 1) := dk_43 (dk_at dksX0_more_2 5 rfl rfl)
theorem dX0_more_38 : decode cX0_more 38 = .ok (.getfield 68, 3) := dk_180 0 68 (dk_at dksX0_more_2 6 rfl rfl)
theorem dX0_more_41 : decode cX0_more 41 = .ok (.ireturn, 1) := dk_172 (dk_at dksX0_more_2 9 rfl rfl)
theorem dX0_more_42 : decode cX0_more 42 = .ok (.aload_n 1, 1) := dk_43 (dk_at dksX0_more_2 10 rfl rfl)
theorem dX0_more_43 : decode cX0_more 43 = .ok (.getfield 75, 3) := dk_180 0 75 (dk_at dksX0_more_2 11 rfl rfl)
theorem dX0_more_46 : decode cX0_more 46 = .ok (.ifCond .eq 7, 3) := dk_153 0 7 (dk_at dksX0_more_2 14 rfl rfl)
theorem dX0_more_49 : decode cX0_more 49 = .ok (.iconst 1, 1) := dk_4 (dk_at dksX0_more_2 17 rfl rfl)
theorem dX0_more_50 : decode cX0_more 50 = .ok (.goto 4, 3) := dk_167 0 4 (dk_at dksX0_more_2 18 rfl rfl)
theorem dX0_more_53 : decode cX0_more 53 = .ok (.iconst 0, 1) := dk_3 (dk_at dksX0_more_2 21 rfl rfl)
theorem dX0_more_54 : decode cX0_more 54 = .ok (.ireturn, 1) := dk_172 (dk_at dksX0_more_2 22 rfl rfl)
theorem dX0_more_55 : decode cX0_more 55 = .ok (.aload_n 0, 1) := dk_42 (dk_at dksX0_more_2 23 rfl rfl)
theorem dX0_more_56 : decode cX0_more 56 = .ok (.getfield 85, 3) := dk_180 0 85 (dk_at dksX0_more_3 0 rfl rfl)
theorem dX0_more_59 : decode cX0_more 59 = .ok (.iload_n 2, 1) := dk_28 (dk_at dksX0_more_3 3 rfl rfl)
theorem dX0_more_60 : decode cX0_more 60 = .ok (.invokevirtual 156, 3) := dk_182 0 156 (dk_at dksX0_more_3 4 rfl rfl)
theorem dX0_more_63 : decode cX0_more 63 = .ok (.ireturn, 1) := dk_172 (dk_at dksX0_more_3 7 rfl rfl)
theorem dX0_more_64 : decode cX0_more 64 = .ok (.aload_n 1, 1) := dk_43 (dk_at dksX0_more_3 8 rfl rfl)
theorem dX0_more_65 : decode cX0_more 65 = .ok (.getfield 56, 3) := dk_180 0 56 (dk_at dksX0_more_3 9 rfl rfl)
theorem dX0_more_68 : decode cX0_more 68 = .ok (.iconst (-1), 1) := dk_2 (dk_at dksX0_more_3 12 rfl rfl)
theorem dX0_more_69 : decode cX0_more 69 = .ok (.if_icmp .ne 17, 3) := dk_160 0 17 (dk_at dksX0_more_3 13 rfl rfl)
theorem dX0_more_72 : decode cX0_more 72 = .ok (.aload_n 1, 1) := dk_43 (dk_at dksX0_more_3 16 rfl rfl)
theorem dX0_more_73 : decode cX0_more 73 = .ok (.aload_n 0, 1) := dk_42 (dk_at dksX0_more_3 17 rfl rfl)
theorem dX0_more_74 : decode cX0_more 74 = .ok (.getfield 85, 3) := dk_180 0 85 (dk_at dksX0_more_3 18 rfl rfl)
theorem dX0_more_77 : decode cX0_more 77 = .ok (.getfield 160, 3) := dk_180 0 160 (dk_at dksX0_more_3 21 rfl rfl)
theorem dX0_more_80 : decode cX0_more 80 = .ok (.invokevirtual 163, 3) := dk_182 0 163 (dk_at dksX0_more_4 0 rfl rfl)
theorem dX0_more_83 : decode cX0_more 83 = .ok (.goto 4, 3) := dk_167 0 4 (dk_at dksX0_more_4 3 rfl rfl)
theorem dX0_more_86 : decode cX0_more 86 = .ok (.iconst 0, 1) := dk_3 (dk_at dksX0_more_4 6 rfl rfl)
theorem dX0_more_87 : decode cX0_more 87 = .ok (.ireturn, 1) := dk_172 (dk_at dksX0_more_4 7 rfl rfl)
abbrev cX0_width : ByteArray := prog_1_method_18_code
def yX0_width : MethodName := ⟨RX0, "width", "(II)I"⟩
def dkwX0_width_2 : List UInt8 := [42, 180, 0, 85, 182, 0, 133, 29, 172, 78, 42, 45, 182, 0, 136, 172]
abbrev dktX0_width_2 : List UInt8 := dkwX0_width_2 ++ []
def dkwX0_width_1 : List UInt8 := [42, 180, 0, 85, 27, 182, 0, 172, 180, 0, 59, 62, 42, 180, 0, 85, 27, 182, 0, 172, 28, 181, 0, 59]
abbrev dktX0_width_1 : List UInt8 := dkwX0_width_1 ++ dktX0_width_2
def dkwX0_width_0 : List UInt8 := [42, 27, 182, 0, 167, 153, 0, 14, 28, 184, 0, 140, 153, 0, 7, 4, 167, 0, 4, 3, 3, 184, 0, 123]
abbrev dktX0_width_0 : List UInt8 := dkwX0_width_0 ++ dktX0_width_1
theorem dksX0_width_0 : cX0_width.data.toList.drop 0 = dktX0_width_0 := by decide +kernel
theorem dksX0_width_1 : cX0_width.data.toList.drop 24 = dktX0_width_1 := dk_seg dksX0_width_0 24 rfl rfl
theorem dksX0_width_2 : cX0_width.data.toList.drop 48 = dktX0_width_2 := dk_seg dksX0_width_1 24 rfl rfl
theorem dX0_width_0 : decode cX0_width 0 = .ok (.aload_n 0, 1) := dk_42 (dk_at dksX0_width_0 0 rfl rfl)
theorem dX0_width_1 : decode cX0_width 1 = .ok (.iload_n 1, 1) := dk_27 (dk_at dksX0_width_0 1 rfl rfl)
theorem dX0_width_2 : decode cX0_width 2 = .ok (.invokevirtual 167, 3) := dk_182 0 167 (dk_at dksX0_width_0 2 rfl rfl)
theorem dX0_width_5 : decode cX0_width 5 = .ok (.ifCond .eq 14, 3) := dk_153 0 14 (dk_at dksX0_width_0 5 rfl rfl)
theorem dX0_width_8 : decode cX0_width 8 = .ok (.iload_n 2, 1) := dk_28 (dk_at dksX0_width_0 8 rfl rfl)
theorem dX0_width_9 : decode cX0_width 9 = .ok (.invokestatic 140, 3) := dk_184 0 140 (dk_at dksX0_width_0 9 rfl rfl)
theorem dX0_width_12 : decode cX0_width 12 = .ok (.ifCond .eq 7, 3) := dk_153 0 7 (dk_at dksX0_width_0 12 rfl rfl)
theorem dX0_width_15 : decode cX0_width 15 = .ok (.iconst 1, 1) := dk_4 (dk_at dksX0_width_0 15 rfl rfl)
theorem dX0_width_16 : decode cX0_width 16 = .ok (.goto 4, 3) := dk_167 0 4 (dk_at dksX0_width_0 16 rfl rfl)
theorem dX0_width_19 : decode cX0_width 19 = .ok (.iconst 0, 1) := dk_3 (dk_at dksX0_width_0 19 rfl rfl)
theorem dX0_width_20 : decode cX0_width 20 = .ok (.iconst 0, 1) := dk_3 (dk_at dksX0_width_0 20 rfl rfl)
theorem dX0_width_21 : decode cX0_width 21 = .ok (.invokestatic 123, 3) := dk_184 0 123 (dk_at dksX0_width_0 21 rfl rfl)
theorem dX0_width_24 : decode cX0_width 24 = .ok (.aload_n 0, 1) := dk_42 (dk_at dksX0_width_1 0 rfl rfl)
theorem dX0_width_25 : decode cX0_width 25 = .ok (.getfield 85, 3) := dk_180 0 85 (dk_at dksX0_width_1 1 rfl rfl)
theorem dX0_width_28 : decode cX0_width 28 = .ok (.iload_n 1, 1) := dk_27 (dk_at dksX0_width_1 4 rfl rfl)
theorem dX0_width_29 : decode cX0_width 29 = .ok (.invokevirtual 172, 3) := dk_182 0 172 (dk_at dksX0_width_1 5 rfl rfl)
theorem dX0_width_32 : decode cX0_width 32 = .ok (.getfield 59, 3) := dk_180 0 59 (dk_at dksX0_width_1 8 rfl rfl)
theorem dX0_width_35 : decode cX0_width 35 = .ok (.istore_n 3, 1) := dk_62 (dk_at dksX0_width_1 11 rfl rfl)
theorem dX0_width_36 : decode cX0_width 36 = .ok (.aload_n 0, 1) := dk_42 (dk_at dksX0_width_1 12 rfl rfl)
theorem dX0_width_37 : decode cX0_width 37 = .ok (.getfield 85, 3) := dk_180 0 85 (dk_at dksX0_width_1 13 rfl rfl)
theorem dX0_width_40 : decode cX0_width 40 = .ok (.iload_n 1, 1) := dk_27 (dk_at dksX0_width_1 16 rfl rfl)
theorem dX0_width_41 : decode cX0_width 41 = .ok (.invokevirtual 172, 3) := dk_182 0 172 (dk_at dksX0_width_1 17 rfl rfl)
theorem dX0_width_44 : decode cX0_width 44 = .ok (.iload_n 2, 1) := dk_28 (dk_at dksX0_width_1 20 rfl rfl)
theorem dX0_width_45 : decode cX0_width 45 = .ok (.putfield 59, 3) := dk_181 0 59 (dk_at dksX0_width_1 21 rfl rfl)
theorem dX0_width_48 : decode cX0_width 48 = .ok (.aload_n 0, 1) := dk_42 (dk_at dksX0_width_2 0 rfl rfl)
theorem dX0_width_49 : decode cX0_width 49 = .ok (.getfield 85, 3) := dk_180 0 85 (dk_at dksX0_width_2 1 rfl rfl)
theorem dX0_width_52 : decode cX0_width 52 = .ok (.invokevirtual 133, 3) := dk_182 0 133 (dk_at dksX0_width_2 4 rfl rfl)
theorem dX0_width_55 : decode cX0_width 55 = .ok (.iload_n 3, 1) := dk_29 (dk_at dksX0_width_2 7 rfl rfl)
theorem dX0_width_56 : decode cX0_width 56 = .ok (.ireturn, 1) := dk_172 (dk_at dksX0_width_2 8 rfl rfl)
theorem dX0_width_57 : decode cX0_width 57 = .ok (.astore_n 3, 1) := dk_78 (dk_at dksX0_width_2 9 rfl rfl)
theorem dX0_width_58 : decode cX0_width 58 = .ok (.aload_n 0, 1) := dk_42 (dk_at dksX0_width_2 10 rfl rfl)
theorem dX0_width_59 : decode cX0_width 59 = .ok (.aload_n 3, 1) := dk_45 (dk_at dksX0_width_2 11 rfl rfl)
theorem dX0_width_60 : decode cX0_width 60 = .ok (.invokevirtual 136, 3) := dk_182 0 136 (dk_at dksX0_width_2 12 rfl rfl)
theorem dX0_width_63 : decode cX0_width 63 = .ok (.ireturn, 1) := dk_172 (dk_at dksX0_width_2 15 rfl rfl)
abbrev cX0_shut : ByteArray := prog_1_method_19_code
def yX0_shut : MethodName := ⟨RX0, "shut", "(IZ)I"⟩
def dkwX0_shut_1 : List UInt8 := [167, 0, 4, 4, 172, 78, 42, 45, 182, 0, 136, 172]
abbrev dktX0_shut_1 : List UInt8 := dkwX0_shut_1 ++ []
def dkwX0_shut_0 : List UInt8 := [42, 27, 182, 0, 167, 3, 184, 0, 123, 42, 180, 0, 85, 27, 28, 182, 0, 179, 28, 160, 0, 7, 3]
abbrev dktX0_shut_0 : List UInt8 := dkwX0_shut_0 ++ dktX0_shut_1
theorem dksX0_shut_0 : cX0_shut.data.toList.drop 0 = dktX0_shut_0 := by decide +kernel
theorem dksX0_shut_1 : cX0_shut.data.toList.drop 23 = dktX0_shut_1 := dk_seg dksX0_shut_0 23 rfl rfl
theorem dX0_shut_0 : decode cX0_shut 0 = .ok (.aload_n 0, 1) := dk_42 (dk_at dksX0_shut_0 0 rfl rfl)
theorem dX0_shut_1 : decode cX0_shut 1 = .ok (.iload_n 1, 1) := dk_27 (dk_at dksX0_shut_0 1 rfl rfl)
theorem dX0_shut_2 : decode cX0_shut 2 = .ok (.invokevirtual 167, 3) := dk_182 0 167 (dk_at dksX0_shut_0 2 rfl rfl)
theorem dX0_shut_5 : decode cX0_shut 5 = .ok (.iconst 0, 1) := dk_3 (dk_at dksX0_shut_0 5 rfl rfl)
theorem dX0_shut_6 : decode cX0_shut 6 = .ok (.invokestatic 123, 3) := dk_184 0 123 (dk_at dksX0_shut_0 6 rfl rfl)
theorem dX0_shut_9 : decode cX0_shut 9 = .ok (.aload_n 0, 1) := dk_42 (dk_at dksX0_shut_0 9 rfl rfl)
theorem dX0_shut_10 : decode cX0_shut 10 = .ok (.getfield 85, 3) := dk_180 0 85 (dk_at dksX0_shut_0 10 rfl rfl)
theorem dX0_shut_13 : decode cX0_shut 13 = .ok (.iload_n 1, 1) := dk_27 (dk_at dksX0_shut_0 13 rfl rfl)
theorem dX0_shut_14 : decode cX0_shut 14 = .ok (.iload_n 2, 1) := dk_28 (dk_at dksX0_shut_0 14 rfl rfl)
theorem dX0_shut_15 : decode cX0_shut 15 = .ok (.invokevirtual 179, 3) := dk_182 0 179 (dk_at dksX0_shut_0 15 rfl rfl)
theorem dX0_shut_18 : decode cX0_shut 18 = .ok (.iload_n 2, 1) := dk_28 (dk_at dksX0_shut_0 18 rfl rfl)
theorem dX0_shut_19 : decode cX0_shut 19 = .ok (.if_icmp .ne 7, 3) := dk_160 0 7 (dk_at dksX0_shut_0 19 rfl rfl)
theorem dX0_shut_22 : decode cX0_shut 22 = .ok (.iconst 0, 1) := dk_3 (dk_at dksX0_shut_0 22 rfl rfl)
theorem dX0_shut_23 : decode cX0_shut 23 = .ok (.goto 4, 3) := dk_167 0 4 (dk_at dksX0_shut_1 0 rfl rfl)
theorem dX0_shut_26 : decode cX0_shut 26 = .ok (.iconst 1, 1) := dk_4 (dk_at dksX0_shut_1 3 rfl rfl)
theorem dX0_shut_27 : decode cX0_shut 27 = .ok (.ireturn, 1) := dk_172 (dk_at dksX0_shut_1 4 rfl rfl)
theorem dX0_shut_28 : decode cX0_shut 28 = .ok (.astore_n 3, 1) := dk_78 (dk_at dksX0_shut_1 5 rfl rfl)
theorem dX0_shut_29 : decode cX0_shut 29 = .ok (.aload_n 0, 1) := dk_42 (dk_at dksX0_shut_1 6 rfl rfl)
theorem dX0_shut_30 : decode cX0_shut 30 = .ok (.aload_n 3, 1) := dk_45 (dk_at dksX0_shut_1 7 rfl rfl)
theorem dX0_shut_31 : decode cX0_shut 31 = .ok (.invokevirtual 136, 3) := dk_182 0 136 (dk_at dksX0_shut_1 8 rfl rfl)
theorem dX0_shut_34 : decode cX0_shut 34 = .ok (.ireturn, 1) := dk_172 (dk_at dksX0_shut_1 11 rfl rfl)
abbrev cX0_as : ByteArray := prog_1_method_20_code
def yX0_as : MethodName := ⟨RX0, "as", "(II)I"⟩
def dkwX0_as_2 : List UInt8 := [180, 0, 85, 27, 182, 0, 156, 172, 78, 42, 45, 182, 0, 136, 172]
abbrev dktX0_as_2 : List UInt8 := dkwX0_as_2 ++ []
def dkwX0_as_1 : List UInt8 := [3, 3, 184, 0, 123, 42, 180, 0, 85, 27, 182, 0, 172, 28, 182, 0, 183, 5, 184, 0, 123, 42]
abbrev dktX0_as_1 : List UInt8 := dkwX0_as_1 ++ dktX0_as_2
def dkwX0_as_0 : List UInt8 := [42, 27, 182, 0, 167, 153, 0, 19, 28, 133, 9, 20, 0, 144, 184, 0, 14, 153, 0, 7, 4, 167, 0, 4]
abbrev dktX0_as_0 : List UInt8 := dkwX0_as_0 ++ dktX0_as_1
theorem dksX0_as_0 : cX0_as.data.toList.drop 0 = dktX0_as_0 := by decide +kernel
theorem dksX0_as_1 : cX0_as.data.toList.drop 24 = dktX0_as_1 := dk_seg dksX0_as_0 24 rfl rfl
theorem dksX0_as_2 : cX0_as.data.toList.drop 46 = dktX0_as_2 := dk_seg dksX0_as_1 22 rfl rfl
theorem dX0_as_0 : decode cX0_as 0 = .ok (.aload_n 0, 1) := dk_42 (dk_at dksX0_as_0 0 rfl rfl)
theorem dX0_as_1 : decode cX0_as 1 = .ok (.iload_n 1, 1) := dk_27 (dk_at dksX0_as_0 1 rfl rfl)
theorem dX0_as_2 : decode cX0_as 2 = .ok (.invokevirtual 167, 3) := dk_182 0 167 (dk_at dksX0_as_0 2 rfl rfl)
theorem dX0_as_5 : decode cX0_as 5 = .ok (.ifCond .eq 19, 3) := dk_153 0 19 (dk_at dksX0_as_0 5 rfl rfl)
theorem dX0_as_8 : decode cX0_as 8 = .ok (.iload_n 2, 1) := dk_28 (dk_at dksX0_as_0 8 rfl rfl)
theorem dX0_as_9 : decode cX0_as 9 = .ok (.i2l, 1) := dk_133 (dk_at dksX0_as_0 9 rfl rfl)
theorem dX0_as_10 : decode cX0_as 10 = .ok (.lconst 0, 1) := dk_9 (dk_at dksX0_as_0 10 rfl rfl)
theorem dX0_as_11 : decode cX0_as 11 = .ok (.ldc2_w 144, 3) := dk_20 0 144 (dk_at dksX0_as_0 11 rfl rfl)
theorem dX0_as_14 : decode cX0_as 14 = .ok (.invokestatic 14, 3) := dk_184 0 14 (dk_at dksX0_as_0 14 rfl rfl)
theorem dX0_as_17 : decode cX0_as 17 = .ok (.ifCond .eq 7, 3) := dk_153 0 7 (dk_at dksX0_as_0 17 rfl rfl)
theorem dX0_as_20 : decode cX0_as 20 = .ok (.iconst 1, 1) := dk_4 (dk_at dksX0_as_0 20 rfl rfl)
theorem dX0_as_21 : decode cX0_as 21 = .ok (.goto 4, 3) := dk_167 0 4 (dk_at dksX0_as_0 21 rfl rfl)
theorem dX0_as_24 : decode cX0_as 24 = .ok (.iconst 0, 1) := dk_3 (dk_at dksX0_as_1 0 rfl rfl)
theorem dX0_as_25 : decode cX0_as 25 = .ok (.iconst 0, 1) := dk_3 (dk_at dksX0_as_1 1 rfl rfl)
theorem dX0_as_26 : decode cX0_as 26 = .ok (.invokestatic 123, 3) := dk_184 0 123 (dk_at dksX0_as_1 2 rfl rfl)
theorem dX0_as_29 : decode cX0_as 29 = .ok (.aload_n 0, 1) := dk_42 (dk_at dksX0_as_1 5 rfl rfl)
theorem dX0_as_30 : decode cX0_as 30 = .ok (.getfield 85, 3) := dk_180 0 85 (dk_at dksX0_as_1 6 rfl rfl)
theorem dX0_as_33 : decode cX0_as 33 = .ok (.iload_n 1, 1) := dk_27 (dk_at dksX0_as_1 9 rfl rfl)
theorem dX0_as_34 : decode cX0_as 34 = .ok (.invokevirtual 172, 3) := dk_182 0 172 (dk_at dksX0_as_1 10 rfl rfl)
theorem dX0_as_37 : decode cX0_as 37 = .ok (.iload_n 2, 1) := dk_28 (dk_at dksX0_as_1 13 rfl rfl)
theorem dX0_as_38 : decode cX0_as 38 = .ok (.invokevirtual 183, 3) := dk_182 0 183 (dk_at dksX0_as_1 14 rfl rfl)
theorem dX0_as_41 : decode cX0_as 41 = .ok (.iconst 2, 1) := dk_5 (dk_at dksX0_as_1 17 rfl rfl)
theorem dX0_as_42 : decode cX0_as 42 = .ok (.invokestatic 123, 3) := dk_184 0 123 (dk_at dksX0_as_1 18 rfl rfl)
theorem dX0_as_45 : decode cX0_as 45 = .ok (.aload_n 0, 1) := dk_42 (dk_at dksX0_as_1 21 rfl rfl)
theorem dX0_as_46 : decode cX0_as 46 = .ok (.getfield 85, 3) := dk_180 0 85 (dk_at dksX0_as_2 0 rfl rfl)
theorem dX0_as_49 : decode cX0_as 49 = .ok (.iload_n 1, 1) := dk_27 (dk_at dksX0_as_2 3 rfl rfl)
theorem dX0_as_50 : decode cX0_as 50 = .ok (.invokevirtual 156, 3) := dk_182 0 156 (dk_at dksX0_as_2 4 rfl rfl)
theorem dX0_as_53 : decode cX0_as 53 = .ok (.ireturn, 1) := dk_172 (dk_at dksX0_as_2 7 rfl rfl)
theorem dX0_as_54 : decode cX0_as 54 = .ok (.astore_n 3, 1) := dk_78 (dk_at dksX0_as_2 8 rfl rfl)
theorem dX0_as_55 : decode cX0_as 55 = .ok (.aload_n 0, 1) := dk_42 (dk_at dksX0_as_2 9 rfl rfl)
theorem dX0_as_56 : decode cX0_as 56 = .ok (.aload_n 3, 1) := dk_45 (dk_at dksX0_as_2 10 rfl rfl)
theorem dX0_as_57 : decode cX0_as 57 = .ok (.invokevirtual 136, 3) := dk_182 0 136 (dk_at dksX0_as_2 11 rfl rfl)
theorem dX0_as_60 : decode cX0_as 60 = .ok (.ireturn, 1) := dk_172 (dk_at dksX0_as_2 14 rfl rfl)
abbrev cX0_night : ByteArray := prog_1_method_21_code
def yX0_night : MethodName := ⟨RX0, "night", "(II)I"⟩
def dkwX0_night_1 : List UInt8 := [180, 0, 160, 27, 28, 79, 42, 180, 0, 85, 182, 0, 133, 29, 172, 78, 42, 45, 182, 0, 136, 172]
abbrev dktX0_night_1 : List UInt8 := dkwX0_night_1 ++ []
def dkwX0_night_0 : List UInt8 := [27, 28, 184, 0, 186, 3, 184, 0, 123, 42, 180, 0, 85, 180, 0, 160, 27, 46, 62, 42, 180, 0, 85]
abbrev dktX0_night_0 : List UInt8 := dkwX0_night_0 ++ dktX0_night_1
theorem dksX0_night_0 : cX0_night.data.toList.drop 0 = dktX0_night_0 := by decide +kernel
theorem dksX0_night_1 : cX0_night.data.toList.drop 23 = dktX0_night_1 := dk_seg dksX0_night_0 23 rfl rfl
theorem dX0_night_0 : decode cX0_night 0 = .ok (.iload_n 1, 1) := dk_27 (dk_at dksX0_night_0 0 rfl rfl)
theorem dX0_night_1 : decode cX0_night 1 = .ok (.iload_n 2, 1) := dk_28 (dk_at dksX0_night_0 1 rfl rfl)
theorem dX0_night_2 : decode cX0_night 2 = .ok (.invokestatic 186, 3) := dk_184 0 186 (dk_at dksX0_night_0 2 rfl rfl)
theorem dX0_night_5 : decode cX0_night 5 = .ok (.iconst 0, 1) := dk_3 (dk_at dksX0_night_0 5 rfl rfl)
theorem dX0_night_6 : decode cX0_night 6 = .ok (.invokestatic 123, 3) := dk_184 0 123 (dk_at dksX0_night_0 6 rfl rfl)
theorem dX0_night_9 : decode cX0_night 9 = .ok (.aload_n 0, 1) := dk_42 (dk_at dksX0_night_0 9 rfl rfl)
theorem dX0_night_10 : decode cX0_night 10 = .ok (.getfield 85, 3) := dk_180 0 85 (dk_at dksX0_night_0 10 rfl rfl)
theorem dX0_night_13 : decode cX0_night 13 = .ok (.getfield 160, 3) := dk_180 0 160 (dk_at dksX0_night_0 13 rfl rfl)
theorem dX0_night_16 : decode cX0_night 16 = .ok (.iload_n 1, 1) := dk_27 (dk_at dksX0_night_0 16 rfl rfl)
theorem dX0_night_17 : decode cX0_night 17 = .ok (.iaload, 1) := dk_46 (dk_at dksX0_night_0 17 rfl rfl)
theorem dX0_night_18 : decode cX0_night 18 = .ok (.istore_n 3, 1) := dk_62 (dk_at dksX0_night_0 18 rfl rfl)
theorem dX0_night_19 : decode cX0_night 19 = .ok (.aload_n 0, 1) := dk_42 (dk_at dksX0_night_0 19 rfl rfl)
theorem dX0_night_20 : decode cX0_night 20 = .ok (.getfield 85, 3) := dk_180 0 85 (dk_at dksX0_night_0 20 rfl rfl)
theorem dX0_night_23 : decode cX0_night 23 = .ok (.getfield 160, 3) := dk_180 0 160 (dk_at dksX0_night_1 0 rfl rfl)
theorem dX0_night_26 : decode cX0_night 26 = .ok (.iload_n 1, 1) := dk_27 (dk_at dksX0_night_1 3 rfl rfl)
theorem dX0_night_27 : decode cX0_night 27 = .ok (.iload_n 2, 1) := dk_28 (dk_at dksX0_night_1 4 rfl rfl)
theorem dX0_night_28 : decode cX0_night 28 = .ok (.iastore, 1) := dk_79 (dk_at dksX0_night_1 5 rfl rfl)
theorem dX0_night_29 : decode cX0_night 29 = .ok (.aload_n 0, 1) := dk_42 (dk_at dksX0_night_1 6 rfl rfl)
theorem dX0_night_30 : decode cX0_night 30 = .ok (.getfield 85, 3) := dk_180 0 85 (dk_at dksX0_night_1 7 rfl rfl)
theorem dX0_night_33 : decode cX0_night 33 = .ok (.invokevirtual 133, 3) := dk_182 0 133 (dk_at dksX0_night_1 10 rfl rfl)
theorem dX0_night_36 : decode cX0_night 36 = .ok (.iload_n 3, 1) := dk_29 (dk_at dksX0_night_1 13 rfl rfl)
theorem dX0_night_37 : decode cX0_night 37 = .ok (.ireturn, 1) := dk_172 (dk_at dksX0_night_1 14 rfl rfl)
theorem dX0_night_38 : decode cX0_night 38 = .ok (.astore_n 3, 1) := dk_78 (dk_at dksX0_night_1 15 rfl rfl)
theorem dX0_night_39 : decode cX0_night 39 = .ok (.aload_n 0, 1) := dk_42 (dk_at dksX0_night_1 16 rfl rfl)
theorem dX0_night_40 : decode cX0_night 40 = .ok (.aload_n 3, 1) := dk_45 (dk_at dksX0_night_1 17 rfl rfl)
theorem dX0_night_41 : decode cX0_night 41 = .ok (.invokevirtual 136, 3) := dk_182 0 136 (dk_at dksX0_night_1 18 rfl rfl)
theorem dX0_night_44 : decode cX0_night 44 = .ok (.ireturn, 1) := dk_172 (dk_at dksX0_night_1 21 rfl rfl)
abbrev cX0_isNight : ByteArray := prog_1_method_5_code
def yX0_isNight : MethodName := ⟨RX0, "isNight", "(II)Z"⟩
def dkwX0_isNight_5 : List UInt8 := [3, 172]
abbrev dktX0_isNight_5 : List UInt8 := dkwX0_isNight_5 ++ []
def dkwX0_isNight_4 : List UInt8 := [159, 0, 8, 26, 7, 160, 0, 19, 27, 133, 9, 20, 0, 24, 184, 0, 14, 153, 0, 7, 4, 167, 0, 4]
abbrev dktX0_isNight_4 : List UInt8 := dkwX0_isNight_4 ++ dktX0_isNight_5
def dkwX0_isNight_3 : List UInt8 := [20, 0, 22, 20, 0, 24, 184, 0, 14, 172, 27, 133, 9, 20, 0, 26, 184, 0, 14, 172, 26, 4]
abbrev dktX0_isNight_3 : List UInt8 := dkwX0_isNight_3 ++ dktX0_isNight_4
def dkwX0_isNight_2 : List UInt8 := [27, 133, 9, 20, 0, 12, 184, 0, 14, 172, 27, 133, 9, 20, 0, 20, 184, 0, 14, 172, 27, 133]
abbrev dktX0_isNight_2 : List UInt8 := dkwX0_isNight_2 ++ dktX0_isNight_3
def dkwX0_isNight_1 : List UInt8 := [170, 0, 0, 0, 0, 0, 81, 0, 0, 0, 0, 0, 0, 0, 5, 0, 0, 0, 39, 0, 0, 0, 81, 0, 0, 0, 49, 0, 0, 0, 59, 0, 0, 0, 81, 0, 0, 0, 71]
abbrev dktX0_isNight_1 : List UInt8 := dkwX0_isNight_1 ++ dktX0_isNight_2
def dkwX0_isNight_0 : List UInt8 := [26]
abbrev dktX0_isNight_0 : List UInt8 := dkwX0_isNight_0 ++ dktX0_isNight_1
theorem dksX0_isNight_0 : cX0_isNight.data.toList.drop 0 = dktX0_isNight_0 := by decide +kernel
theorem dksX0_isNight_1 : cX0_isNight.data.toList.drop 1 = dktX0_isNight_1 := dk_seg dksX0_isNight_0 1 rfl rfl
theorem dksX0_isNight_2 : cX0_isNight.data.toList.drop 40 = dktX0_isNight_2 := dk_seg dksX0_isNight_1 39 rfl rfl
theorem dksX0_isNight_3 : cX0_isNight.data.toList.drop 62 = dktX0_isNight_3 := dk_seg dksX0_isNight_2 22 rfl rfl
theorem dksX0_isNight_4 : cX0_isNight.data.toList.drop 84 = dktX0_isNight_4 := dk_seg dksX0_isNight_3 22 rfl rfl
theorem dksX0_isNight_5 : cX0_isNight.data.toList.drop 108 = dktX0_isNight_5 := dk_seg dksX0_isNight_4 24 rfl rfl
theorem dX0_isNight_0 : decode cX0_isNight 0 = .ok (.iload_n 0, 1) := dk_26 (dk_at dksX0_isNight_0 0 rfl rfl)
theorem dX0_isNight_1 : decode cX0_isNight 1 = .ok (.tableswitch 81 0 5 #[39, 81, 49, 59, 81, 71], 39) := by decide +kernel
theorem dX0_isNight_40 : decode cX0_isNight 40 = .ok (.iload_n 1, 1) := dk_27 (dk_at dksX0_isNight_2 0 rfl rfl)
theorem dX0_isNight_41 : decode cX0_isNight 41 = .ok (.i2l, 1) := dk_133 (dk_at dksX0_isNight_2 1 rfl rfl)
theorem dX0_isNight_42 : decode cX0_isNight 42 = .ok (.lconst 0, 1) := dk_9 (dk_at dksX0_isNight_2 2 rfl rfl)
theorem dX0_isNight_43 : decode cX0_isNight 43 = .ok (.ldc2_w 12, 3) := dk_20 0 12 (dk_at dksX0_isNight_2 3 rfl rfl)
theorem dX0_isNight_46 : decode cX0_isNight 46 = .ok (.invokestatic 14, 3) := dk_184 0 14 (dk_at dksX0_isNight_2 6 rfl rfl)
theorem dX0_isNight_49 : decode cX0_isNight 49 = .ok (.ireturn, 1) := dk_172 (dk_at dksX0_isNight_2 9 rfl rfl)
theorem dX0_isNight_50 : decode cX0_isNight 50 = .ok (.iload_n 1, 1) := dk_27 (dk_at dksX0_isNight_2 10 rfl rfl)
theorem dX0_isNight_51 : decode cX0_isNight 51 = .ok (.i2l, 1) := dk_133 (dk_at dksX0_isNight_2 11 rfl rfl)
theorem dX0_isNight_52 : decode cX0_isNight 52 = .ok (.lconst 0, 1) := dk_9 (dk_at dksX0_isNight_2 12 rfl rfl)
theorem dX0_isNight_53 : decode cX0_isNight 53 = .ok (.ldc2_w 20, 3) := dk_20 0 20 (dk_at dksX0_isNight_2 13 rfl rfl)
theorem dX0_isNight_56 : decode cX0_isNight 56 = .ok (.invokestatic 14, 3) := dk_184 0 14 (dk_at dksX0_isNight_2 16 rfl rfl)
theorem dX0_isNight_59 : decode cX0_isNight 59 = .ok (.ireturn, 1) := dk_172 (dk_at dksX0_isNight_2 19 rfl rfl)
theorem dX0_isNight_60 : decode cX0_isNight 60 = .ok (.iload_n 1, 1) := dk_27 (dk_at dksX0_isNight_2 20 rfl rfl)
theorem dX0_isNight_61 : decode cX0_isNight 61 = .ok (.i2l, 1) := dk_133 (dk_at dksX0_isNight_2 21 rfl rfl)
theorem dX0_isNight_62 : decode cX0_isNight 62 = .ok (.ldc2_w 22, 3) := dk_20 0 22 (dk_at dksX0_isNight_3 0 rfl rfl)
theorem dX0_isNight_65 : decode cX0_isNight 65 = .ok (.ldc2_w 24, 3) := dk_20 0 24 (dk_at dksX0_isNight_3 3 rfl rfl)
theorem dX0_isNight_68 : decode cX0_isNight 68 = .ok (.invokestatic 14, 3) := dk_184 0 14 (dk_at dksX0_isNight_3 6 rfl rfl)
theorem dX0_isNight_71 : decode cX0_isNight 71 = .ok (.ireturn, 1) := dk_172 (dk_at dksX0_isNight_3 9 rfl rfl)
theorem dX0_isNight_72 : decode cX0_isNight 72 = .ok (.iload_n 1, 1) := dk_27 (dk_at dksX0_isNight_3 10 rfl rfl)
theorem dX0_isNight_73 : decode cX0_isNight 73 = .ok (.i2l, 1) := dk_133 (dk_at dksX0_isNight_3 11 rfl rfl)
theorem dX0_isNight_74 : decode cX0_isNight 74 = .ok (.lconst 0, 1) := dk_9 (dk_at dksX0_isNight_3 12 rfl rfl)
theorem dX0_isNight_75 : decode cX0_isNight 75 = .ok (.ldc2_w 26, 3) := dk_20 0 26 (dk_at dksX0_isNight_3 13 rfl rfl)
theorem dX0_isNight_78 : decode cX0_isNight 78 = .ok (.invokestatic 14, 3) := dk_184 0 14 (dk_at dksX0_isNight_3 16 rfl rfl)
theorem dX0_isNight_81 : decode cX0_isNight 81 = .ok (.ireturn, 1) := dk_172 (dk_at dksX0_isNight_3 19 rfl rfl)
theorem dX0_isNight_82 : decode cX0_isNight 82 = .ok (.iload_n 0, 1) := dk_26 (dk_at dksX0_isNight_3 20 rfl rfl)
theorem dX0_isNight_83 : decode cX0_isNight 83 = .ok (.iconst 1, 1) := dk_4 (dk_at dksX0_isNight_3 21 rfl rfl)
theorem dX0_isNight_84 : decode cX0_isNight 84 = .ok (.if_icmp .eq 8, 3) := dk_159 0 8 (dk_at dksX0_isNight_4 0 rfl rfl)
theorem dX0_isNight_87 : decode cX0_isNight 87 = .ok (.iload_n 0, 1) := dk_26 (dk_at dksX0_isNight_4 3 rfl rfl)
theorem dX0_isNight_88 : decode cX0_isNight 88 = .ok (.iconst 4, 1) := dk_7 (dk_at dksX0_isNight_4 4 rfl rfl)
theorem dX0_isNight_89 : decode cX0_isNight 89 = .ok (.if_icmp .ne 19, 3) := dk_160 0 19 (dk_at dksX0_isNight_4 5 rfl rfl)
theorem dX0_isNight_92 : decode cX0_isNight 92 = .ok (.iload_n 1, 1) := dk_27 (dk_at dksX0_isNight_4 8 rfl rfl)
theorem dX0_isNight_93 : decode cX0_isNight 93 = .ok (.i2l, 1) := dk_133 (dk_at dksX0_isNight_4 9 rfl rfl)
theorem dX0_isNight_94 : decode cX0_isNight 94 = .ok (.lconst 0, 1) := dk_9 (dk_at dksX0_isNight_4 10 rfl rfl)
theorem dX0_isNight_95 : decode cX0_isNight 95 = .ok (.ldc2_w 24, 3) := dk_20 0 24 (dk_at dksX0_isNight_4 11 rfl rfl)
theorem dX0_isNight_98 : decode cX0_isNight 98 = .ok (.invokestatic 14, 3) := dk_184 0 14 (dk_at dksX0_isNight_4 14 rfl rfl)
theorem dX0_isNight_101 : decode cX0_isNight 101 = .ok (.ifCond .eq 7, 3) := dk_153 0 7 (dk_at dksX0_isNight_4 17 rfl rfl)
theorem dX0_isNight_104 : decode cX0_isNight 104 = .ok (.iconst 1, 1) := dk_4 (dk_at dksX0_isNight_4 20 rfl rfl)
theorem dX0_isNight_105 : decode cX0_isNight 105 = .ok (.goto 4, 3) := dk_167 0 4 (dk_at dksX0_isNight_4 21 rfl rfl)
theorem dX0_isNight_108 : decode cX0_isNight 108 = .ok (.iconst 0, 1) := dk_3 (dk_at dksX0_isNight_5 0 rfl rfl)
theorem dX0_isNight_109 : decode cX0_isNight 109 = .ok (.ireturn, 1) := dk_172 (dk_at dksX0_isNight_5 1 rfl rfl)
abbrev cX0_feed : ByteArray := prog_1_method_22_code
def yX0_feed : MethodName := ⟨RX0, "feed", "(II)I"⟩
def dkwX0_feed_3 : List UInt8 := [167, 255, 223, 42, 180, 0, 192, 172, 78, 42, 45, 182, 0, 136, 172]
abbrev dktX0_feed_3 : List UInt8 := dkwX0_feed_3 ++ []
def dkwX0_feed_2 : List UInt8 := [180, 0, 192, 27, 16, 8, 29, 104, 122, 145, 84, 42, 89, 180, 0, 192, 4, 96, 181, 0, 192, 132, 3, 255]
abbrev dktX0_feed_2 : List UInt8 := dkwX0_feed_2 ++ dktX0_feed_3
def dkwX0_feed_1 : List UInt8 := [4, 167, 0, 4, 3, 4, 184, 0, 123, 28, 4, 100, 62, 29, 155, 0, 35, 42, 180, 0, 95, 42]
abbrev dktX0_feed_1 : List UInt8 := dkwX0_feed_1 ++ dktX0_feed_2
def dkwX0_feed_0 : List UInt8 := [28, 133, 10, 20, 0, 190, 184, 0, 14, 3, 184, 0, 123, 42, 180, 0, 192, 28, 96, 16, 120, 163, 0, 7]
abbrev dktX0_feed_0 : List UInt8 := dkwX0_feed_0 ++ dktX0_feed_1
theorem dksX0_feed_0 : cX0_feed.data.toList.drop 0 = dktX0_feed_0 := by decide +kernel
theorem dksX0_feed_1 : cX0_feed.data.toList.drop 24 = dktX0_feed_1 := dk_seg dksX0_feed_0 24 rfl rfl
theorem dksX0_feed_2 : cX0_feed.data.toList.drop 46 = dktX0_feed_2 := dk_seg dksX0_feed_1 22 rfl rfl
theorem dksX0_feed_3 : cX0_feed.data.toList.drop 70 = dktX0_feed_3 := dk_seg dksX0_feed_2 24 rfl rfl
theorem dX0_feed_0 : decode cX0_feed 0 = .ok (.iload_n 2, 1) := dk_28 (dk_at dksX0_feed_0 0 rfl rfl)
theorem dX0_feed_1 : decode cX0_feed 1 = .ok (.i2l, 1) := dk_133 (dk_at dksX0_feed_0 1 rfl rfl)
theorem dX0_feed_2 : decode cX0_feed 2 = .ok (.lconst 1, 1) := dk_10 (dk_at dksX0_feed_0 2 rfl rfl)
theorem dX0_feed_3 : decode cX0_feed 3 = .ok (.ldc2_w 190, 3) := dk_20 0 190 (dk_at dksX0_feed_0 3 rfl rfl)
theorem dX0_feed_6 : decode cX0_feed 6 = .ok (.invokestatic 14, 3) := dk_184 0 14 (dk_at dksX0_feed_0 6 rfl rfl)
theorem dX0_feed_9 : decode cX0_feed 9 = .ok (.iconst 0, 1) := dk_3 (dk_at dksX0_feed_0 9 rfl rfl)
theorem dX0_feed_10 : decode cX0_feed 10 = .ok (.invokestatic 123, 3) := dk_184 0 123 (dk_at dksX0_feed_0 10 rfl rfl)
theorem dX0_feed_13 : decode cX0_feed 13 = .ok (.aload_n 0, 1) := dk_42 (dk_at dksX0_feed_0 13 rfl rfl)
theorem dX0_feed_14 : decode cX0_feed 14 = .ok (.getfield 192, 3) := dk_180 0 192 (dk_at dksX0_feed_0 14 rfl rfl)
theorem dX0_feed_17 : decode cX0_feed 17 = .ok (.iload_n 2, 1) := dk_28 (dk_at dksX0_feed_0 17 rfl rfl)
theorem dX0_feed_18 : decode cX0_feed 18 = .ok (.iadd, 1) := dk_96 (dk_at dksX0_feed_0 18 rfl rfl)
theorem dX0_feed_19 : decode cX0_feed 19 = .ok (.bipush 120, 2) := dk_16 120 (dk_at dksX0_feed_0 19 rfl rfl)
theorem dX0_feed_21 : decode cX0_feed 21 = .ok (.if_icmp .gt 7, 3) := dk_163 0 7 (dk_at dksX0_feed_0 21 rfl rfl)
theorem dX0_feed_24 : decode cX0_feed 24 = .ok (.iconst 1, 1) := dk_4 (dk_at dksX0_feed_1 0 rfl rfl)
theorem dX0_feed_25 : decode cX0_feed 25 = .ok (.goto 4, 3) := dk_167 0 4 (dk_at dksX0_feed_1 1 rfl rfl)
theorem dX0_feed_28 : decode cX0_feed 28 = .ok (.iconst 0, 1) := dk_3 (dk_at dksX0_feed_1 4 rfl rfl)
theorem dX0_feed_29 : decode cX0_feed 29 = .ok (.iconst 1, 1) := dk_4 (dk_at dksX0_feed_1 5 rfl rfl)
theorem dX0_feed_30 : decode cX0_feed 30 = .ok (.invokestatic 123, 3) := dk_184 0 123 (dk_at dksX0_feed_1 6 rfl rfl)
theorem dX0_feed_33 : decode cX0_feed 33 = .ok (.iload_n 2, 1) := dk_28 (dk_at dksX0_feed_1 9 rfl rfl)
theorem dX0_feed_34 : decode cX0_feed 34 = .ok (.iconst 1, 1) := dk_4 (dk_at dksX0_feed_1 10 rfl rfl)
theorem dX0_feed_35 : decode cX0_feed 35 = .ok (.isub, 1) := dk_100 (dk_at dksX0_feed_1 11 rfl rfl)
theorem dX0_feed_36 : decode cX0_feed 36 = .ok (.istore_n 3, 1) := dk_62 (dk_at dksX0_feed_1 12 rfl rfl)
theorem dX0_feed_37 : decode cX0_feed 37 = .ok (.iload_n 3, 1) := dk_29 (dk_at dksX0_feed_1 13 rfl rfl)
theorem dX0_feed_38 : decode cX0_feed 38 = .ok (.ifCond .lt 35, 3) := dk_155 0 35 (dk_at dksX0_feed_1 14 rfl rfl)
theorem dX0_feed_41 : decode cX0_feed 41 = .ok (.aload_n 0, 1) := dk_42 (dk_at dksX0_feed_1 17 rfl rfl)
theorem dX0_feed_42 : decode cX0_feed 42 = .ok (.getfield 95, 3) := dk_180 0 95 (dk_at dksX0_feed_1 18 rfl rfl)
theorem dX0_feed_45 : decode cX0_feed 45 = .ok (.aload_n 0, 1) := dk_42 (dk_at dksX0_feed_1 21 rfl rfl)
theorem dX0_feed_46 : decode cX0_feed 46 = .ok (.getfield 192, 3) := dk_180 0 192 (dk_at dksX0_feed_2 0 rfl rfl)
theorem dX0_feed_49 : decode cX0_feed 49 = .ok (.iload_n 1, 1) := dk_27 (dk_at dksX0_feed_2 3 rfl rfl)
theorem dX0_feed_50 : decode cX0_feed 50 = .ok (.bipush 8, 2) := dk_16 8 (dk_at dksX0_feed_2 4 rfl rfl)
theorem dX0_feed_52 : decode cX0_feed 52 = .ok (.iload_n 3, 1) := dk_29 (dk_at dksX0_feed_2 6 rfl rfl)
theorem dX0_feed_53 : decode cX0_feed 53 = .ok (.imul, 1) := dk_104 (dk_at dksX0_feed_2 7 rfl rfl)
theorem dX0_feed_54 : decode cX0_feed 54 = .ok (.ishr, 1) := dk_122 (dk_at dksX0_feed_2 8 rfl rfl)
theorem dX0_feed_55 : decode cX0_feed 55 = .ok (.i2b, 1) := dk_145 (dk_at dksX0_feed_2 9 rfl rfl)
theorem dX0_feed_56 : decode cX0_feed 56 = .ok (.bastore, 1) := dk_84 (dk_at dksX0_feed_2 10 rfl rfl)
theorem dX0_feed_57 : decode cX0_feed 57 = .ok (.aload_n 0, 1) := dk_42 (dk_at dksX0_feed_2 11 rfl rfl)
theorem dX0_feed_58 : decode cX0_feed 58 = .ok (.dup, 1) := dk_89 (dk_at dksX0_feed_2 12 rfl rfl)
theorem dX0_feed_59 : decode cX0_feed 59 = .ok (.getfield 192, 3) := dk_180 0 192 (dk_at dksX0_feed_2 13 rfl rfl)
theorem dX0_feed_62 : decode cX0_feed 62 = .ok (.iconst 1, 1) := dk_4 (dk_at dksX0_feed_2 16 rfl rfl)
theorem dX0_feed_63 : decode cX0_feed 63 = .ok (.iadd, 1) := dk_96 (dk_at dksX0_feed_2 17 rfl rfl)
theorem dX0_feed_64 : decode cX0_feed 64 = .ok (.putfield 192, 3) := dk_181 0 192 (dk_at dksX0_feed_2 18 rfl rfl)
theorem dX0_feed_67 : decode cX0_feed 67 = .ok (.iinc 3 (-1), 3) := dk_132 3 255 (dk_at dksX0_feed_2 21 rfl rfl)
theorem dX0_feed_70 : decode cX0_feed 70 = .ok (.goto (-33), 3) := dk_167 255 223 (dk_at dksX0_feed_3 0 rfl rfl)
theorem dX0_feed_73 : decode cX0_feed 73 = .ok (.aload_n 0, 1) := dk_42 (dk_at dksX0_feed_3 3 rfl rfl)
theorem dX0_feed_74 : decode cX0_feed 74 = .ok (.getfield 192, 3) := dk_180 0 192 (dk_at dksX0_feed_3 4 rfl rfl)
theorem dX0_feed_77 : decode cX0_feed 77 = .ok (.ireturn, 1) := dk_172 (dk_at dksX0_feed_3 7 rfl rfl)
theorem dX0_feed_78 : decode cX0_feed 78 = .ok (.astore_n 3, 1) := dk_78 (dk_at dksX0_feed_3 8 rfl rfl)
theorem dX0_feed_79 : decode cX0_feed 79 = .ok (.aload_n 0, 1) := dk_42 (dk_at dksX0_feed_3 9 rfl rfl)
theorem dX0_feed_80 : decode cX0_feed 80 = .ok (.aload_n 3, 1) := dk_45 (dk_at dksX0_feed_3 10 rfl rfl)
theorem dX0_feed_81 : decode cX0_feed 81 = .ok (.invokevirtual 136, 3) := dk_182 0 136 (dk_at dksX0_feed_3 11 rfl rfl)
theorem dX0_feed_84 : decode cX0_feed 84 = .ok (.ireturn, 1) := dk_172 (dk_at dksX0_feed_3 14 rfl rfl)
abbrev cX0_wipe : ByteArray := prog_1_method_23_code
def yX0_wipe : MethodName := ⟨RX0, "wipe", "()I"⟩
def dkwX0_wipe_0 : List UInt8 := [42, 180, 0, 192, 60, 42, 3, 181, 0, 192, 27, 172]
abbrev dktX0_wipe_0 : List UInt8 := dkwX0_wipe_0 ++ []
theorem dksX0_wipe_0 : cX0_wipe.data.toList.drop 0 = dktX0_wipe_0 := by decide +kernel
theorem dX0_wipe_0 : decode cX0_wipe 0 = .ok (.aload_n 0, 1) := dk_42 (dk_at dksX0_wipe_0 0 rfl rfl)
theorem dX0_wipe_1 : decode cX0_wipe 1 = .ok (.getfield 192, 3) := dk_180 0 192 (dk_at dksX0_wipe_0 1 rfl rfl)
theorem dX0_wipe_4 : decode cX0_wipe 4 = .ok (.istore_n 1, 1) := dk_60 (dk_at dksX0_wipe_0 4 rfl rfl)
theorem dX0_wipe_5 : decode cX0_wipe 5 = .ok (.aload_n 0, 1) := dk_42 (dk_at dksX0_wipe_0 5 rfl rfl)
theorem dX0_wipe_6 : decode cX0_wipe 6 = .ok (.iconst 0, 1) := dk_3 (dk_at dksX0_wipe_0 6 rfl rfl)
theorem dX0_wipe_7 : decode cX0_wipe 7 = .ok (.putfield 192, 3) := dk_181 0 192 (dk_at dksX0_wipe_0 7 rfl rfl)
theorem dX0_wipe_10 : decode cX0_wipe 10 = .ok (.iload_n 1, 1) := dk_27 (dk_at dksX0_wipe_0 10 rfl rfl)
theorem dX0_wipe_11 : decode cX0_wipe 11 = .ok (.ireturn, 1) := dk_172 (dk_at dksX0_wipe_0 11 rfl rfl)
abbrev cX0_house : ByteArray := prog_1_method_24_code
def yX0_house : MethodName := ⟨RX0, "house", "()I"⟩
def dkwX0_house_3 : List UInt8 := [181, 0, 192, 45, 191]
abbrev dktX0_house_3 : List UInt8 := dkwX0_house_3 ++ []
def dkwX0_house_2 : List UInt8 := [3, 181, 0, 192, 28, 172, 76, 2, 43, 180, 0, 209, 100, 61, 42, 3, 181, 0, 192, 28, 172, 78, 42, 3]
abbrev dktX0_house_2 : List UInt8 := dkwX0_house_2 ++ dktX0_house_3
def dkwX0_house_1 : List UInt8 := [180, 0, 92, 183, 0, 201, 182, 0, 204, 60, 42, 180, 0, 85, 42, 180, 0, 92, 182, 0, 195, 27, 61, 42]
abbrev dktX0_house_1 : List UInt8 := dkwX0_house_1 ++ dktX0_house_2
def dkwX0_house_0 : List UInt8 := [42, 180, 0, 92, 42, 180, 0, 85, 182, 0, 195, 187, 0, 199, 89, 42, 180, 0, 95, 42, 180, 0, 192, 42]
abbrev dktX0_house_0 : List UInt8 := dkwX0_house_0 ++ dktX0_house_1
theorem dksX0_house_0 : cX0_house.data.toList.drop 0 = dktX0_house_0 := by decide +kernel
theorem dksX0_house_1 : cX0_house.data.toList.drop 24 = dktX0_house_1 := dk_seg dksX0_house_0 24 rfl rfl
theorem dksX0_house_2 : cX0_house.data.toList.drop 48 = dktX0_house_2 := dk_seg dksX0_house_1 24 rfl rfl
theorem dksX0_house_3 : cX0_house.data.toList.drop 72 = dktX0_house_3 := dk_seg dksX0_house_2 24 rfl rfl
theorem dX0_house_0 : decode cX0_house 0 = .ok (.aload_n 0, 1) := dk_42 (dk_at dksX0_house_0 0 rfl rfl)
theorem dX0_house_1 : decode cX0_house 1 = .ok (.getfield 92, 3) := dk_180 0 92 (dk_at dksX0_house_0 1 rfl rfl)
theorem dX0_house_4 : decode cX0_house 4 = .ok (.aload_n 0, 1) := dk_42 (dk_at dksX0_house_0 4 rfl rfl)
theorem dX0_house_5 : decode cX0_house 5 = .ok (.getfield 85, 3) := dk_180 0 85 (dk_at dksX0_house_0 5 rfl rfl)
theorem dX0_house_8 : decode cX0_house 8 = .ok (.invokevirtual 195, 3) := dk_182 0 195 (dk_at dksX0_house_0 8 rfl rfl)
theorem dX0_house_11 : decode cX0_house 11 = .ok (.new 199, 3) := dk_187 0 199 (dk_at dksX0_house_0 11 rfl rfl)
theorem dX0_house_14 : decode cX0_house 14 = .ok (.dup, 1) := dk_89 (dk_at dksX0_house_0 14 rfl rfl)
theorem dX0_house_15 : decode cX0_house 15 = .ok (.aload_n 0, 1) := dk_42 (dk_at dksX0_house_0 15 rfl rfl)
theorem dX0_house_16 : decode cX0_house 16 = .ok (.getfield 95, 3) := dk_180 0 95 (dk_at dksX0_house_0 16 rfl rfl)
theorem dX0_house_19 : decode cX0_house 19 = .ok (.aload_n 0, 1) := dk_42 (dk_at dksX0_house_0 19 rfl rfl)
theorem dX0_house_20 : decode cX0_house 20 = .ok (.getfield 192, 3) := dk_180 0 192 (dk_at dksX0_house_0 20 rfl rfl)
theorem dX0_house_23 : decode cX0_house 23 = .ok (.aload_n 0, 1) := dk_42 (dk_at dksX0_house_0 23 rfl rfl)
theorem dX0_house_24 : decode cX0_house 24 = .ok (.getfield 92, 3) := dk_180 0 92 (dk_at dksX0_house_1 0 rfl rfl)
theorem dX0_house_27 : decode cX0_house 27 = .ok (.invokespecial 201, 3) := dk_183 0 201 (dk_at dksX0_house_1 3 rfl rfl)
theorem dX0_house_30 : decode cX0_house 30 = .ok (.invokevirtual 204, 3) := dk_182 0 204 (dk_at dksX0_house_1 6 rfl rfl)
theorem dX0_house_33 : decode cX0_house 33 = .ok (.istore_n 1, 1) := dk_60 (dk_at dksX0_house_1 9 rfl rfl)
theorem dX0_house_34 : decode cX0_house 34 = .ok (.aload_n 0, 1) := dk_42 (dk_at dksX0_house_1 10 rfl rfl)
theorem dX0_house_35 : decode cX0_house 35 = .ok (.getfield 85, 3) := dk_180 0 85 (dk_at dksX0_house_1 11 rfl rfl)
theorem dX0_house_38 : decode cX0_house 38 = .ok (.aload_n 0, 1) := dk_42 (dk_at dksX0_house_1 14 rfl rfl)
theorem dX0_house_39 : decode cX0_house 39 = .ok (.getfield 92, 3) := dk_180 0 92 (dk_at dksX0_house_1 15 rfl rfl)
theorem dX0_house_42 : decode cX0_house 42 = .ok (.invokevirtual 195, 3) := dk_182 0 195 (dk_at dksX0_house_1 18 rfl rfl)
theorem dX0_house_45 : decode cX0_house 45 = .ok (.iload_n 1, 1) := dk_27 (dk_at dksX0_house_1 21 rfl rfl)
theorem dX0_house_46 : decode cX0_house 46 = .ok (.istore_n 2, 1) := dk_61 (dk_at dksX0_house_1 22 rfl rfl)
theorem dX0_house_47 : decode cX0_house 47 = .ok (.aload_n 0, 1) := dk_42 (dk_at dksX0_house_1 23 rfl rfl)
theorem dX0_house_48 : decode cX0_house 48 = .ok (.iconst 0, 1) := dk_3 (dk_at dksX0_house_2 0 rfl rfl)
theorem dX0_house_49 : decode cX0_house 49 = .ok (.putfield 192, 3) := dk_181 0 192 (dk_at dksX0_house_2 1 rfl rfl)
theorem dX0_house_52 : decode cX0_house 52 = .ok (.iload_n 2, 1) := dk_28 (dk_at dksX0_house_2 4 rfl rfl)
theorem dX0_house_53 : decode cX0_house 53 = .ok (.ireturn, 1) := dk_172 (dk_at dksX0_house_2 5 rfl rfl)
theorem dX0_house_54 : decode cX0_house 54 = .ok (.astore_n 1, 1) := dk_76 (dk_at dksX0_house_2 6 rfl rfl)
theorem dX0_house_55 : decode cX0_house 55 = .ok (.iconst (-1), 1) := dk_2 (dk_at dksX0_house_2 7 rfl rfl)
theorem dX0_house_56 : decode cX0_house 56 = .ok (.aload_n 1, 1) := dk_43 (dk_at dksX0_house_2 8 rfl rfl)
theorem dX0_house_57 : decode cX0_house 57 = .ok (.getfield 209, 3) := dk_180 0 209 (dk_at dksX0_house_2 9 rfl rfl)
theorem dX0_house_60 : decode cX0_house 60 = .ok (.isub, 1) := dk_100 (dk_at dksX0_house_2 12 rfl rfl)
theorem dX0_house_61 : decode cX0_house 61 = .ok (.istore_n 2, 1) := dk_61 (dk_at dksX0_house_2 13 rfl rfl)
theorem dX0_house_62 : decode cX0_house 62 = .ok (.aload_n 0, 1) := dk_42 (dk_at dksX0_house_2 14 rfl rfl)
theorem dX0_house_63 : decode cX0_house 63 = .ok (.iconst 0, 1) := dk_3 (dk_at dksX0_house_2 15 rfl rfl)
theorem dX0_house_64 : decode cX0_house 64 = .ok (.putfield 192, 3) := dk_181 0 192 (dk_at dksX0_house_2 16 rfl rfl)
theorem dX0_house_67 : decode cX0_house 67 = .ok (.iload_n 2, 1) := dk_28 (dk_at dksX0_house_2 19 rfl rfl)
theorem dX0_house_68 : decode cX0_house 68 = .ok (.ireturn, 1) := dk_172 (dk_at dksX0_house_2 20 rfl rfl)
theorem dX0_house_69 : decode cX0_house 69 = .ok (.astore_n 3, 1) := dk_78 (dk_at dksX0_house_2 21 rfl rfl)
theorem dX0_house_70 : decode cX0_house 70 = .ok (.aload_n 0, 1) := dk_42 (dk_at dksX0_house_2 22 rfl rfl)
theorem dX0_house_71 : decode cX0_house 71 = .ok (.iconst 0, 1) := dk_3 (dk_at dksX0_house_2 23 rfl rfl)
theorem dX0_house_72 : decode cX0_house 72 = .ok (.putfield 192, 3) := dk_181 0 192 (dk_at dksX0_house_3 0 rfl rfl)
theorem dX0_house_75 : decode cX0_house 75 = .ok (.aload_n 3, 1) := dk_45 (dk_at dksX0_house_3 3 rfl rfl)
theorem dX0_house_76 : decode cX0_house 76 = .ok (.athrow, 1) := dk_191 (dk_at dksX0_house_3 4 rfl rfl)
abbrev cX0_copyOf : ByteArray := prog_1_method_7_code
def yX0_copyOf : MethodName := ⟨RX0, "copyOf", "(LSmokeLeans$Gap;)LSmokeLeans$Gap;"⟩
def dkwX0_copyOf_1 : List UInt8 := [42, 180, 0, 68, 184, 0, 71, 76, 43, 42, 180, 0, 75, 181, 0, 75, 43, 176]
abbrev dktX0_copyOf_1 : List UInt8 := dkwX0_copyOf_1 ++ []
def dkwX0_copyOf_0 : List UInt8 := [42, 182, 0, 48, 42, 180, 0, 52, 42, 180, 0, 56, 42, 180, 0, 59, 42, 180, 0, 62, 42, 180, 0, 65]
abbrev dktX0_copyOf_0 : List UInt8 := dkwX0_copyOf_0 ++ dktX0_copyOf_1
theorem dksX0_copyOf_0 : cX0_copyOf.data.toList.drop 0 = dktX0_copyOf_0 := by decide +kernel
theorem dksX0_copyOf_1 : cX0_copyOf.data.toList.drop 24 = dktX0_copyOf_1 := dk_seg dksX0_copyOf_0 24 rfl rfl
theorem dX0_copyOf_0 : decode cX0_copyOf 0 = .ok (.aload_n 0, 1) := dk_42 (dk_at dksX0_copyOf_0 0 rfl rfl)
theorem dX0_copyOf_1 : decode cX0_copyOf 1 = .ok (.invokevirtual 48, 3) := dk_182 0 48 (dk_at dksX0_copyOf_0 1 rfl rfl)
theorem dX0_copyOf_4 : decode cX0_copyOf 4 = .ok (.aload_n 0, 1) := dk_42 (dk_at dksX0_copyOf_0 4 rfl rfl)
theorem dX0_copyOf_5 : decode cX0_copyOf 5 = .ok (.getfield 52, 3) := dk_180 0 52 (dk_at dksX0_copyOf_0 5 rfl rfl)
theorem dX0_copyOf_8 : decode cX0_copyOf 8 = .ok (.aload_n 0, 1) := dk_42 (dk_at dksX0_copyOf_0 8 rfl rfl)
theorem dX0_copyOf_9 : decode cX0_copyOf 9 = .ok (.getfield 56, 3) := dk_180 0 56 (dk_at dksX0_copyOf_0 9 rfl rfl)
theorem dX0_copyOf_12 : decode cX0_copyOf 12 = .ok (.aload_n 0, 1) := dk_42 (dk_at dksX0_copyOf_0 12 rfl rfl)
theorem dX0_copyOf_13 : decode cX0_copyOf 13 = .ok (.getfield 59, 3) := dk_180 0 59 (dk_at dksX0_copyOf_0 13 rfl rfl)
theorem dX0_copyOf_16 : decode cX0_copyOf 16 = .ok (.aload_n 0, 1) := dk_42 (dk_at dksX0_copyOf_0 16 rfl rfl)
theorem dX0_copyOf_17 : decode cX0_copyOf 17 = .ok (.getfield 62, 3) := dk_180 0 62 (dk_at dksX0_copyOf_0 17 rfl rfl)
theorem dX0_copyOf_20 : decode cX0_copyOf 20 = .ok (.aload_n 0, 1) := dk_42 (dk_at dksX0_copyOf_0 20 rfl rfl)
theorem dX0_copyOf_21 : decode cX0_copyOf 21 = .ok (.getfield 65, 3) := dk_180 0 65 (dk_at dksX0_copyOf_0 21 rfl rfl)
theorem dX0_copyOf_24 : decode cX0_copyOf 24 = .ok (.aload_n 0, 1) := dk_42 (dk_at dksX0_copyOf_1 0 rfl rfl)
theorem dX0_copyOf_25 : decode cX0_copyOf 25 = .ok (.getfield 68, 3) := dk_180 0 68 (dk_at dksX0_copyOf_1 1 rfl rfl)
theorem dX0_copyOf_28 : decode cX0_copyOf 28 = .ok (.invokestatic 71, 3) := dk_184 0 71 (dk_at dksX0_copyOf_1 4 rfl rfl)
theorem dX0_copyOf_31 : decode cX0_copyOf 31 = .ok (.astore_n 1, 1) := dk_76 (dk_at dksX0_copyOf_1 7 rfl rfl)
theorem dX0_copyOf_32 : decode cX0_copyOf 32 = .ok (.aload_n 1, 1) := dk_43 (dk_at dksX0_copyOf_1 8 rfl rfl)
theorem dX0_copyOf_33 : decode cX0_copyOf 33 = .ok (.aload_n 0, 1) := dk_42 (dk_at dksX0_copyOf_1 9 rfl rfl)
theorem dX0_copyOf_34 : decode cX0_copyOf 34 = .ok (.getfield 75, 3) := dk_180 0 75 (dk_at dksX0_copyOf_1 10 rfl rfl)
theorem dX0_copyOf_37 : decode cX0_copyOf 37 = .ok (.putfield 75, 3) := dk_181 0 75 (dk_at dksX0_copyOf_1 13 rfl rfl)
theorem dX0_copyOf_40 : decode cX0_copyOf 40 = .ok (.aload_n 1, 1) := dk_43 (dk_at dksX0_copyOf_1 16 rfl rfl)
theorem dX0_copyOf_41 : decode cX0_copyOf 41 = .ok (.areturn, 1) := dk_176 (dk_at dksX0_copyOf_1 17 rfl rfl)
abbrev cX0_pressure : ByteArray := prog_1_method_25_code
def yX0_pressure : MethodName := ⟨RX0, "pressure", "(I)I"⟩
def dkwX0_pressure_1 : List UInt8 := [172]
abbrev dktX0_pressure_1 : List UInt8 := dkwX0_pressure_1 ++ []
def dkwX0_pressure_0 : List UInt8 := [42, 27, 182, 0, 146, 3, 184, 0, 123, 42, 180, 0, 85, 27, 182, 0, 212, 172, 77, 42, 44, 182, 0, 136]
abbrev dktX0_pressure_0 : List UInt8 := dkwX0_pressure_0 ++ dktX0_pressure_1
theorem dksX0_pressure_0 : cX0_pressure.data.toList.drop 0 = dktX0_pressure_0 := by decide +kernel
theorem dksX0_pressure_1 : cX0_pressure.data.toList.drop 24 = dktX0_pressure_1 := dk_seg dksX0_pressure_0 24 rfl rfl
theorem dX0_pressure_0 : decode cX0_pressure 0 = .ok (.aload_n 0, 1) := dk_42 (dk_at dksX0_pressure_0 0 rfl rfl)
theorem dX0_pressure_1 : decode cX0_pressure 1 = .ok (.iload_n 1, 1) := dk_27 (dk_at dksX0_pressure_0 1 rfl rfl)
theorem dX0_pressure_2 : decode cX0_pressure 2 = .ok (.invokevirtual 146, 3) := dk_182 0 146 (dk_at dksX0_pressure_0 2 rfl rfl)
theorem dX0_pressure_5 : decode cX0_pressure 5 = .ok (.iconst 0, 1) := dk_3 (dk_at dksX0_pressure_0 5 rfl rfl)
theorem dX0_pressure_6 : decode cX0_pressure 6 = .ok (.invokestatic 123, 3) := dk_184 0 123 (dk_at dksX0_pressure_0 6 rfl rfl)
theorem dX0_pressure_9 : decode cX0_pressure 9 = .ok (.aload_n 0, 1) := dk_42 (dk_at dksX0_pressure_0 9 rfl rfl)
theorem dX0_pressure_10 : decode cX0_pressure 10 = .ok (.getfield 85, 3) := dk_180 0 85 (dk_at dksX0_pressure_0 10 rfl rfl)
theorem dX0_pressure_13 : decode cX0_pressure 13 = .ok (.iload_n 1, 1) := dk_27 (dk_at dksX0_pressure_0 13 rfl rfl)
theorem dX0_pressure_14 : decode cX0_pressure 14 = .ok (.invokevirtual 212, 3) := dk_182 0 212 (dk_at dksX0_pressure_0 14 rfl rfl)
theorem dX0_pressure_17 : decode cX0_pressure 17 = .ok (.ireturn, 1) := dk_172 (dk_at dksX0_pressure_0 17 rfl rfl)
theorem dX0_pressure_18 : decode cX0_pressure 18 = .ok (.astore_n 2, 1) := dk_77 (dk_at dksX0_pressure_0 18 rfl rfl)
theorem dX0_pressure_19 : decode cX0_pressure 19 = .ok (.aload_n 0, 1) := dk_42 (dk_at dksX0_pressure_0 19 rfl rfl)
theorem dX0_pressure_20 : decode cX0_pressure 20 = .ok (.aload_n 2, 1) := dk_44 (dk_at dksX0_pressure_0 20 rfl rfl)
theorem dX0_pressure_21 : decode cX0_pressure 21 = .ok (.invokevirtual 136, 3) := dk_182 0 136 (dk_at dksX0_pressure_0 21 rfl rfl)
theorem dX0_pressure_24 : decode cX0_pressure 24 = .ok (.ireturn, 1) := dk_172 (dk_at dksX0_pressure_1 0 rfl rfl)
abbrev cX0_flow : ByteArray := prog_1_method_26_code
def yX0_flow : MethodName := ⟨RX0, "flow", "(I)I"⟩
def dkwX0_flow_1 : List UInt8 := [172]
abbrev dktX0_flow_1 : List UInt8 := dkwX0_flow_1 ++ []
def dkwX0_flow_0 : List UInt8 := [42, 27, 182, 0, 167, 3, 184, 0, 123, 42, 180, 0, 85, 27, 182, 0, 215, 172, 77, 42, 44, 182, 0, 136]
abbrev dktX0_flow_0 : List UInt8 := dkwX0_flow_0 ++ dktX0_flow_1
theorem dksX0_flow_0 : cX0_flow.data.toList.drop 0 = dktX0_flow_0 := by decide +kernel
theorem dksX0_flow_1 : cX0_flow.data.toList.drop 24 = dktX0_flow_1 := dk_seg dksX0_flow_0 24 rfl rfl
theorem dX0_flow_0 : decode cX0_flow 0 = .ok (.aload_n 0, 1) := dk_42 (dk_at dksX0_flow_0 0 rfl rfl)
theorem dX0_flow_1 : decode cX0_flow 1 = .ok (.iload_n 1, 1) := dk_27 (dk_at dksX0_flow_0 1 rfl rfl)
theorem dX0_flow_2 : decode cX0_flow 2 = .ok (.invokevirtual 167, 3) := dk_182 0 167 (dk_at dksX0_flow_0 2 rfl rfl)
theorem dX0_flow_5 : decode cX0_flow 5 = .ok (.iconst 0, 1) := dk_3 (dk_at dksX0_flow_0 5 rfl rfl)
theorem dX0_flow_6 : decode cX0_flow 6 = .ok (.invokestatic 123, 3) := dk_184 0 123 (dk_at dksX0_flow_0 6 rfl rfl)
theorem dX0_flow_9 : decode cX0_flow 9 = .ok (.aload_n 0, 1) := dk_42 (dk_at dksX0_flow_0 9 rfl rfl)
theorem dX0_flow_10 : decode cX0_flow 10 = .ok (.getfield 85, 3) := dk_180 0 85 (dk_at dksX0_flow_0 10 rfl rfl)
theorem dX0_flow_13 : decode cX0_flow 13 = .ok (.iload_n 1, 1) := dk_27 (dk_at dksX0_flow_0 13 rfl rfl)
theorem dX0_flow_14 : decode cX0_flow 14 = .ok (.invokevirtual 215, 3) := dk_182 0 215 (dk_at dksX0_flow_0 14 rfl rfl)
theorem dX0_flow_17 : decode cX0_flow 17 = .ok (.ireturn, 1) := dk_172 (dk_at dksX0_flow_0 17 rfl rfl)
theorem dX0_flow_18 : decode cX0_flow 18 = .ok (.astore_n 2, 1) := dk_77 (dk_at dksX0_flow_0 18 rfl rfl)
theorem dX0_flow_19 : decode cX0_flow 19 = .ok (.aload_n 0, 1) := dk_42 (dk_at dksX0_flow_0 19 rfl rfl)
theorem dX0_flow_20 : decode cX0_flow 20 = .ok (.aload_n 2, 1) := dk_44 (dk_at dksX0_flow_0 20 rfl rfl)
theorem dX0_flow_21 : decode cX0_flow 21 = .ok (.invokevirtual 136, 3) := dk_182 0 136 (dk_at dksX0_flow_0 21 rfl rfl)
theorem dX0_flow_24 : decode cX0_flow 24 = .ok (.ireturn, 1) := dk_172 (dk_at dksX0_flow_1 0 rfl rfl)
abbrev cX0_lean : ByteArray := prog_1_method_27_code
def yX0_lean : MethodName := ⟨RX0, "lean", "(I)I"⟩
def dkwX0_lean_1 : List UInt8 := [172]
abbrev dktX0_lean_1 : List UInt8 := dkwX0_lean_1 ++ []
def dkwX0_lean_0 : List UInt8 := [42, 27, 182, 0, 167, 3, 184, 0, 123, 42, 180, 0, 85, 27, 182, 0, 218, 172, 77, 42, 44, 182, 0, 136]
abbrev dktX0_lean_0 : List UInt8 := dkwX0_lean_0 ++ dktX0_lean_1
theorem dksX0_lean_0 : cX0_lean.data.toList.drop 0 = dktX0_lean_0 := by decide +kernel
theorem dksX0_lean_1 : cX0_lean.data.toList.drop 24 = dktX0_lean_1 := dk_seg dksX0_lean_0 24 rfl rfl
theorem dX0_lean_0 : decode cX0_lean 0 = .ok (.aload_n 0, 1) := dk_42 (dk_at dksX0_lean_0 0 rfl rfl)
theorem dX0_lean_1 : decode cX0_lean 1 = .ok (.iload_n 1, 1) := dk_27 (dk_at dksX0_lean_0 1 rfl rfl)
theorem dX0_lean_2 : decode cX0_lean 2 = .ok (.invokevirtual 167, 3) := dk_182 0 167 (dk_at dksX0_lean_0 2 rfl rfl)
theorem dX0_lean_5 : decode cX0_lean 5 = .ok (.iconst 0, 1) := dk_3 (dk_at dksX0_lean_0 5 rfl rfl)
theorem dX0_lean_6 : decode cX0_lean 6 = .ok (.invokestatic 123, 3) := dk_184 0 123 (dk_at dksX0_lean_0 6 rfl rfl)
theorem dX0_lean_9 : decode cX0_lean 9 = .ok (.aload_n 0, 1) := dk_42 (dk_at dksX0_lean_0 9 rfl rfl)
theorem dX0_lean_10 : decode cX0_lean 10 = .ok (.getfield 85, 3) := dk_180 0 85 (dk_at dksX0_lean_0 10 rfl rfl)
theorem dX0_lean_13 : decode cX0_lean 13 = .ok (.iload_n 1, 1) := dk_27 (dk_at dksX0_lean_0 13 rfl rfl)
theorem dX0_lean_14 : decode cX0_lean 14 = .ok (.invokevirtual 218, 3) := dk_182 0 218 (dk_at dksX0_lean_0 14 rfl rfl)
theorem dX0_lean_17 : decode cX0_lean 17 = .ok (.ireturn, 1) := dk_172 (dk_at dksX0_lean_0 17 rfl rfl)
theorem dX0_lean_18 : decode cX0_lean 18 = .ok (.astore_n 2, 1) := dk_77 (dk_at dksX0_lean_0 18 rfl rfl)
theorem dX0_lean_19 : decode cX0_lean 19 = .ok (.aload_n 0, 1) := dk_42 (dk_at dksX0_lean_0 19 rfl rfl)
theorem dX0_lean_20 : decode cX0_lean 20 = .ok (.aload_n 2, 1) := dk_44 (dk_at dksX0_lean_0 20 rfl rfl)
theorem dX0_lean_21 : decode cX0_lean 21 = .ok (.invokevirtual 136, 3) := dk_182 0 136 (dk_at dksX0_lean_0 21 rfl rfl)
theorem dX0_lean_24 : decode cX0_lean 24 = .ok (.ireturn, 1) := dk_172 (dk_at dksX0_lean_1 0 rfl rfl)
abbrev cX0_rounds : ByteArray := prog_1_method_28_code
def yX0_rounds : MethodName := ⟨RX0, "rounds", "()I"⟩
def dkwX0_rounds_0 : List UInt8 := [42, 180, 0, 85, 182, 0, 221, 172]
abbrev dktX0_rounds_0 : List UInt8 := dkwX0_rounds_0 ++ []
theorem dksX0_rounds_0 : cX0_rounds.data.toList.drop 0 = dktX0_rounds_0 := by decide +kernel
theorem dX0_rounds_0 : decode cX0_rounds 0 = .ok (.aload_n 0, 1) := dk_42 (dk_at dksX0_rounds_0 0 rfl rfl)
theorem dX0_rounds_1 : decode cX0_rounds 1 = .ok (.getfield 85, 3) := dk_180 0 85 (dk_at dksX0_rounds_0 1 rfl rfl)
theorem dX0_rounds_4 : decode cX0_rounds 4 = .ok (.invokevirtual 221, 3) := dk_182 0 221 (dk_at dksX0_rounds_0 4 rfl rfl)
theorem dX0_rounds_7 : decode cX0_rounds 7 = .ok (.ireturn, 1) := dk_172 (dk_at dksX0_rounds_0 7 rfl rfl)
abbrev cX0_rest : ByteArray := prog_1_method_29_code
def yX0_rest : MethodName := ⟨RX0, "rest", "(I)I"⟩
def dkwX0_rest_3 : List UInt8 := [182, 0, 215, 100, 61, 132, 3, 1, 167, 255, 190, 28, 172, 77, 42, 44, 182, 0, 136, 172]
abbrev dktX0_rest_3 : List UInt8 := dkwX0_rest_3 ++ []
def dkwX0_rest_2 : List UInt8 := [96, 61, 42, 180, 0, 85, 29, 182, 0, 172, 180, 0, 56, 27, 160, 0, 14, 28, 42, 180, 0, 85, 29]
abbrev dktX0_rest_2 : List UInt8 := dkwX0_rest_2 ++ dktX0_rest_3
def dkwX0_rest_1 : List UInt8 := [42, 180, 0, 85, 29, 182, 0, 172, 180, 0, 52, 27, 160, 0, 14, 28, 42, 180, 0, 85, 29, 182, 0, 215]
abbrev dktX0_rest_1 : List UInt8 := dkwX0_rest_1 ++ dktX0_rest_2
def dkwX0_rest_0 : List UInt8 := [42, 27, 182, 0, 146, 3, 184, 0, 123, 3, 61, 3, 62, 29, 42, 180, 0, 85, 180, 0, 130, 162, 0, 61]
abbrev dktX0_rest_0 : List UInt8 := dkwX0_rest_0 ++ dktX0_rest_1
theorem dksX0_rest_0 : cX0_rest.data.toList.drop 0 = dktX0_rest_0 := by decide +kernel
theorem dksX0_rest_1 : cX0_rest.data.toList.drop 24 = dktX0_rest_1 := dk_seg dksX0_rest_0 24 rfl rfl
theorem dksX0_rest_2 : cX0_rest.data.toList.drop 48 = dktX0_rest_2 := dk_seg dksX0_rest_1 24 rfl rfl
theorem dksX0_rest_3 : cX0_rest.data.toList.drop 71 = dktX0_rest_3 := dk_seg dksX0_rest_2 23 rfl rfl
theorem dX0_rest_0 : decode cX0_rest 0 = .ok (.aload_n 0, 1) := dk_42 (dk_at dksX0_rest_0 0 rfl rfl)
theorem dX0_rest_1 : decode cX0_rest 1 = .ok (.iload_n 1, 1) := dk_27 (dk_at dksX0_rest_0 1 rfl rfl)
theorem dX0_rest_2 : decode cX0_rest 2 = .ok (.invokevirtual 146, 3) := dk_182 0 146 (dk_at dksX0_rest_0 2 rfl rfl)
theorem dX0_rest_5 : decode cX0_rest 5 = .ok (.iconst 0, 1) := dk_3 (dk_at dksX0_rest_0 5 rfl rfl)
theorem dX0_rest_6 : decode cX0_rest 6 = .ok (.invokestatic 123, 3) := dk_184 0 123 (dk_at dksX0_rest_0 6 rfl rfl)
theorem dX0_rest_9 : decode cX0_rest 9 = .ok (.iconst 0, 1) := dk_3 (dk_at dksX0_rest_0 9 rfl rfl)
theorem dX0_rest_10 : decode cX0_rest 10 = .ok (.istore_n 2, 1) := dk_61 (dk_at dksX0_rest_0 10 rfl rfl)
theorem dX0_rest_11 : decode cX0_rest 11 = .ok (.iconst 0, 1) := dk_3 (dk_at dksX0_rest_0 11 rfl rfl)
theorem dX0_rest_12 : decode cX0_rest 12 = .ok (.istore_n 3, 1) := dk_62 (dk_at dksX0_rest_0 12 rfl rfl)
theorem dX0_rest_13 : decode cX0_rest 13 = .ok (.iload_n 3, 1) := dk_29 (dk_at dksX0_rest_0 13 rfl rfl)
theorem dX0_rest_14 : decode cX0_rest 14 = .ok (.aload_n 0, 1) := dk_42 (dk_at dksX0_rest_0 14 rfl rfl)
theorem dX0_rest_15 : decode cX0_rest 15 = .ok (.getfield 85, 3) := dk_180 0 85 (dk_at dksX0_rest_0 15 rfl rfl)
theorem dX0_rest_18 : decode cX0_rest 18 = .ok (.getfield 130, 3) := dk_180 0 130 (dk_at dksX0_rest_0 18 rfl rfl)
theorem dX0_rest_21 : decode cX0_rest 21 = .ok (.if_icmp .ge 61, 3) := dk_162 0 61 (dk_at dksX0_rest_0 21 rfl rfl)
theorem dX0_rest_24 : decode cX0_rest 24 = .ok (.aload_n 0, 1) := dk_42 (dk_at dksX0_rest_1 0 rfl rfl)
theorem dX0_rest_25 : decode cX0_rest 25 = .ok (.getfield 85, 3) := dk_180 0 85 (dk_at dksX0_rest_1 1 rfl rfl)
theorem dX0_rest_28 : decode cX0_rest 28 = .ok (.iload_n 3, 1) := dk_29 (dk_at dksX0_rest_1 4 rfl rfl)
theorem dX0_rest_29 : decode cX0_rest 29 = .ok (.invokevirtual 172, 3) := dk_182 0 172 (dk_at dksX0_rest_1 5 rfl rfl)
theorem dX0_rest_32 : decode cX0_rest 32 = .ok (.getfield 52, 3) := dk_180 0 52 (dk_at dksX0_rest_1 8 rfl rfl)
theorem dX0_rest_35 : decode cX0_rest 35 = .ok (.iload_n 1, 1) := dk_27 (dk_at dksX0_rest_1 11 rfl rfl)
theorem dX0_rest_36 : decode cX0_rest 36 = .ok (.if_icmp .ne 14, 3) := dk_160 0 14 (dk_at dksX0_rest_1 12 rfl rfl)
theorem dX0_rest_39 : decode cX0_rest 39 = .ok (.iload_n 2, 1) := dk_28 (dk_at dksX0_rest_1 15 rfl rfl)
theorem dX0_rest_40 : decode cX0_rest 40 = .ok (.aload_n 0, 1) := dk_42 (dk_at dksX0_rest_1 16 rfl rfl)
theorem dX0_rest_41 : decode cX0_rest 41 = .ok (.getfield 85, 3) := dk_180 0 85 (dk_at dksX0_rest_1 17 rfl rfl)
theorem dX0_rest_44 : decode cX0_rest 44 = .ok (.iload_n 3, 1) := dk_29 (dk_at dksX0_rest_1 20 rfl rfl)
theorem dX0_rest_45 : decode cX0_rest 45 = .ok (.invokevirtual 215, 3) := dk_182 0 215 (dk_at dksX0_rest_1 21 rfl rfl)
theorem dX0_rest_48 : decode cX0_rest 48 = .ok (.iadd, 1) := dk_96 (dk_at dksX0_rest_2 0 rfl rfl)
theorem dX0_rest_49 : decode cX0_rest 49 = .ok (.istore_n 2, 1) := dk_61 (dk_at dksX0_rest_2 1 rfl rfl)
theorem dX0_rest_50 : decode cX0_rest 50 = .ok (.aload_n 0, 1) := dk_42 (dk_at dksX0_rest_2 2 rfl rfl)
theorem dX0_rest_51 : decode cX0_rest 51 = .ok (.getfield 85, 3) := dk_180 0 85 (dk_at dksX0_rest_2 3 rfl rfl)
theorem dX0_rest_54 : decode cX0_rest 54 = .ok (.iload_n 3, 1) := dk_29 (dk_at dksX0_rest_2 6 rfl rfl)
theorem dX0_rest_55 : decode cX0_rest 55 = .ok (.invokevirtual 172, 3) := dk_182 0 172 (dk_at dksX0_rest_2 7 rfl rfl)
theorem dX0_rest_58 : decode cX0_rest 58 = .ok (.getfield 56, 3) := dk_180 0 56 (dk_at dksX0_rest_2 10 rfl rfl)
theorem dX0_rest_61 : decode cX0_rest 61 = .ok (.iload_n 1, 1) := dk_27 (dk_at dksX0_rest_2 13 rfl rfl)
theorem dX0_rest_62 : decode cX0_rest 62 = .ok (.if_icmp .ne 14, 3) := dk_160 0 14 (dk_at dksX0_rest_2 14 rfl rfl)
theorem dX0_rest_65 : decode cX0_rest 65 = .ok (.iload_n 2, 1) := dk_28 (dk_at dksX0_rest_2 17 rfl rfl)
theorem dX0_rest_66 : decode cX0_rest 66 = .ok (.aload_n 0, 1) := dk_42 (dk_at dksX0_rest_2 18 rfl rfl)
theorem dX0_rest_67 : decode cX0_rest 67 = .ok (.getfield 85, 3) := dk_180 0 85 (dk_at dksX0_rest_2 19 rfl rfl)
theorem dX0_rest_70 : decode cX0_rest 70 = .ok (.iload_n 3, 1) := dk_29 (dk_at dksX0_rest_2 22 rfl rfl)
theorem dX0_rest_71 : decode cX0_rest 71 = .ok (.invokevirtual 215, 3) := dk_182 0 215 (dk_at dksX0_rest_3 0 rfl rfl)
theorem dX0_rest_74 : decode cX0_rest 74 = .ok (.isub, 1) := dk_100 (dk_at dksX0_rest_3 3 rfl rfl)
theorem dX0_rest_75 : decode cX0_rest 75 = .ok (.istore_n 2, 1) := dk_61 (dk_at dksX0_rest_3 4 rfl rfl)
theorem dX0_rest_76 : decode cX0_rest 76 = .ok (.iinc 3 1, 3) := dk_132 3 1 (dk_at dksX0_rest_3 5 rfl rfl)
theorem dX0_rest_79 : decode cX0_rest 79 = .ok (.goto (-66), 3) := dk_167 255 190 (dk_at dksX0_rest_3 8 rfl rfl)
theorem dX0_rest_82 : decode cX0_rest 82 = .ok (.iload_n 2, 1) := dk_28 (dk_at dksX0_rest_3 11 rfl rfl)
theorem dX0_rest_83 : decode cX0_rest 83 = .ok (.ireturn, 1) := dk_172 (dk_at dksX0_rest_3 12 rfl rfl)
theorem dX0_rest_84 : decode cX0_rest 84 = .ok (.astore_n 2, 1) := dk_77 (dk_at dksX0_rest_3 13 rfl rfl)
theorem dX0_rest_85 : decode cX0_rest 85 = .ok (.aload_n 0, 1) := dk_42 (dk_at dksX0_rest_3 14 rfl rfl)
theorem dX0_rest_86 : decode cX0_rest 86 = .ok (.aload_n 2, 1) := dk_44 (dk_at dksX0_rest_3 15 rfl rfl)
theorem dX0_rest_87 : decode cX0_rest 87 = .ok (.invokevirtual 136, 3) := dk_182 0 136 (dk_at dksX0_rest_3 16 rfl rfl)
theorem dX0_rest_90 : decode cX0_rest 90 = .ok (.ireturn, 1) := dk_172 (dk_at dksX0_rest_3 19 rfl rfl)
abbrev cX0_air : ByteArray := prog_1_method_30_code
def yX0_air : MethodName := ⟨RX0, "air", "(I)I"⟩
def dkwX0_air_3 : List UInt8 := [167, 0, 4, 3, 172, 77, 42, 44, 182, 0, 136, 172]
abbrev dktX0_air_3 : List UInt8 := dkwX0_air_3 ++ []
def dkwX0_air_2 : List UInt8 := [180, 0, 85, 182, 0, 230, 153, 0, 20, 167, 0, 13, 42, 180, 0, 85, 182, 0, 234, 153, 0, 7, 4]
abbrev dktX0_air_2 : List UInt8 := dkwX0_air_2 ++ dktX0_air_3
def dkwX0_air_1 : List UInt8 := [167, 0, 51, 27, 4, 160, 0, 13, 42, 180, 0, 85, 182, 0, 227, 167, 0, 36, 27, 5, 160, 0, 16, 42]
abbrev dktX0_air_1 : List UInt8 := dkwX0_air_1 ++ dktX0_air_2
def dkwX0_air_0 : List UInt8 := [27, 133, 9, 20, 0, 20, 184, 0, 14, 3, 184, 0, 123, 27, 154, 0, 13, 42, 180, 0, 85, 182, 0, 224]
abbrev dktX0_air_0 : List UInt8 := dkwX0_air_0 ++ dktX0_air_1
theorem dksX0_air_0 : cX0_air.data.toList.drop 0 = dktX0_air_0 := by decide +kernel
theorem dksX0_air_1 : cX0_air.data.toList.drop 24 = dktX0_air_1 := dk_seg dksX0_air_0 24 rfl rfl
theorem dksX0_air_2 : cX0_air.data.toList.drop 48 = dktX0_air_2 := dk_seg dksX0_air_1 24 rfl rfl
theorem dksX0_air_3 : cX0_air.data.toList.drop 71 = dktX0_air_3 := dk_seg dksX0_air_2 23 rfl rfl
theorem dX0_air_0 : decode cX0_air 0 = .ok (.iload_n 1, 1) := dk_27 (dk_at dksX0_air_0 0 rfl rfl)
theorem dX0_air_1 : decode cX0_air 1 = .ok (.i2l, 1) := dk_133 (dk_at dksX0_air_0 1 rfl rfl)
theorem dX0_air_2 : decode cX0_air 2 = .ok (.lconst 0, 1) := dk_9 (dk_at dksX0_air_0 2 rfl rfl)
theorem dX0_air_3 : decode cX0_air 3 = .ok (.ldc2_w 20, 3) := dk_20 0 20 (dk_at dksX0_air_0 3 rfl rfl)
theorem dX0_air_6 : decode cX0_air 6 = .ok (.invokestatic 14, 3) := dk_184 0 14 (dk_at dksX0_air_0 6 rfl rfl)
theorem dX0_air_9 : decode cX0_air 9 = .ok (.iconst 0, 1) := dk_3 (dk_at dksX0_air_0 9 rfl rfl)
theorem dX0_air_10 : decode cX0_air 10 = .ok (.invokestatic 123, 3) := dk_184 0 123 (dk_at dksX0_air_0 10 rfl rfl)
theorem dX0_air_13 : decode cX0_air 13 = .ok (.iload_n 1, 1) := dk_27 (dk_at dksX0_air_0 13 rfl rfl)
theorem dX0_air_14 : decode cX0_air 14 = .ok (.ifCond .ne 13, 3) := dk_154 0 13 (dk_at dksX0_air_0 14 rfl rfl)
theorem dX0_air_17 : decode cX0_air 17 = .ok (.aload_n 0, 1) := dk_42 (dk_at dksX0_air_0 17 rfl rfl)
theorem dX0_air_18 : decode cX0_air 18 = .ok (.getfield 85, 3) := dk_180 0 85 (dk_at dksX0_air_0 18 rfl rfl)
theorem dX0_air_21 : decode cX0_air 21 = .ok (.invokevirtual 224, 3) := dk_182 0 224 (dk_at dksX0_air_0 21 rfl rfl)
theorem dX0_air_24 : decode cX0_air 24 = .ok (.goto 51, 3) := dk_167 0 51 (dk_at dksX0_air_1 0 rfl rfl)
theorem dX0_air_27 : decode cX0_air 27 = .ok (.iload_n 1, 1) := dk_27 (dk_at dksX0_air_1 3 rfl rfl)
theorem dX0_air_28 : decode cX0_air 28 = .ok (.iconst 1, 1) := dk_4 (dk_at dksX0_air_1 4 rfl rfl)
theorem dX0_air_29 : decode cX0_air 29 = .ok (.if_icmp .ne 13, 3) := dk_160 0 13 (dk_at dksX0_air_1 5 rfl rfl)
theorem dX0_air_32 : decode cX0_air 32 = .ok (.aload_n 0, 1) := dk_42 (dk_at dksX0_air_1 8 rfl rfl)
theorem dX0_air_33 : decode cX0_air 33 = .ok (.getfield 85, 3) := dk_180 0 85 (dk_at dksX0_air_1 9 rfl rfl)
theorem dX0_air_36 : decode cX0_air 36 = .ok (.invokevirtual 227, 3) := dk_182 0 227 (dk_at dksX0_air_1 12 rfl rfl)
theorem dX0_air_39 : decode cX0_air 39 = .ok (.goto 36, 3) := dk_167 0 36 (dk_at dksX0_air_1 15 rfl rfl)
theorem dX0_air_42 : decode cX0_air 42 = .ok (.iload_n 1, 1) := dk_27 (dk_at dksX0_air_1 18 rfl rfl)
theorem dX0_air_43 : decode cX0_air 43 = .ok (.iconst 2, 1) := dk_5 (dk_at dksX0_air_1 19 rfl rfl)
theorem dX0_air_44 : decode cX0_air 44 = .ok (.if_icmp .ne 16, 3) := dk_160 0 16 (dk_at dksX0_air_1 20 rfl rfl)
theorem dX0_air_47 : decode cX0_air 47 = .ok (.aload_n 0, 1) := dk_42 (dk_at dksX0_air_1 23 rfl rfl)
theorem dX0_air_48 : decode cX0_air 48 = .ok (.getfield 85, 3) := dk_180 0 85 (dk_at dksX0_air_2 0 rfl rfl)
theorem dX0_air_51 : decode cX0_air 51 = .ok (.invokevirtual 230, 3) := dk_182 0 230 (dk_at dksX0_air_2 3 rfl rfl)
theorem dX0_air_54 : decode cX0_air 54 = .ok (.ifCond .eq 20, 3) := dk_153 0 20 (dk_at dksX0_air_2 6 rfl rfl)
theorem dX0_air_57 : decode cX0_air 57 = .ok (.goto 13, 3) := dk_167 0 13 (dk_at dksX0_air_2 9 rfl rfl)
theorem dX0_air_60 : decode cX0_air 60 = .ok (.aload_n 0, 1) := dk_42 (dk_at dksX0_air_2 12 rfl rfl)
theorem dX0_air_61 : decode cX0_air 61 = .ok (.getfield 85, 3) := dk_180 0 85 (dk_at dksX0_air_2 13 rfl rfl)
theorem dX0_air_64 : decode cX0_air 64 = .ok (.invokevirtual 234, 3) := dk_182 0 234 (dk_at dksX0_air_2 16 rfl rfl)
theorem dX0_air_67 : decode cX0_air 67 = .ok (.ifCond .eq 7, 3) := dk_153 0 7 (dk_at dksX0_air_2 19 rfl rfl)
theorem dX0_air_70 : decode cX0_air 70 = .ok (.iconst 1, 1) := dk_4 (dk_at dksX0_air_2 22 rfl rfl)
theorem dX0_air_71 : decode cX0_air 71 = .ok (.goto 4, 3) := dk_167 0 4 (dk_at dksX0_air_3 0 rfl rfl)
theorem dX0_air_74 : decode cX0_air 74 = .ok (.iconst 0, 1) := dk_3 (dk_at dksX0_air_3 3 rfl rfl)
theorem dX0_air_75 : decode cX0_air 75 = .ok (.ireturn, 1) := dk_172 (dk_at dksX0_air_3 4 rfl rfl)
theorem dX0_air_76 : decode cX0_air 76 = .ok (.astore_n 2, 1) := dk_77 (dk_at dksX0_air_3 5 rfl rfl)
theorem dX0_air_77 : decode cX0_air 77 = .ok (.aload_n 0, 1) := dk_42 (dk_at dksX0_air_3 6 rfl rfl)
theorem dX0_air_78 : decode cX0_air 78 = .ok (.aload_n 2, 1) := dk_44 (dk_at dksX0_air_3 7 rfl rfl)
theorem dX0_air_79 : decode cX0_air 79 = .ok (.invokevirtual 136, 3) := dk_182 0 136 (dk_at dksX0_air_3 8 rfl rfl)
theorem dX0_air_82 : decode cX0_air 82 = .ok (.ireturn, 1) := dk_172 (dk_at dksX0_air_3 11 rfl rfl)
abbrev cX0_seed : ByteArray := prog_1_method_31_code
def yX0_seed : MethodName := ⟨RX0, "seed", "(I)I"⟩
def dkwX0_seed_0 : List UInt8 := [42, 180, 0, 85, 180, 0, 237, 61, 42, 180, 0, 85, 27, 181, 0, 237, 28, 172]
abbrev dktX0_seed_0 : List UInt8 := dkwX0_seed_0 ++ []
theorem dksX0_seed_0 : cX0_seed.data.toList.drop 0 = dktX0_seed_0 := by decide +kernel
theorem dX0_seed_0 : decode cX0_seed 0 = .ok (.aload_n 0, 1) := dk_42 (dk_at dksX0_seed_0 0 rfl rfl)
theorem dX0_seed_1 : decode cX0_seed 1 = .ok (.getfield 85, 3) := dk_180 0 85 (dk_at dksX0_seed_0 1 rfl rfl)
theorem dX0_seed_4 : decode cX0_seed 4 = .ok (.getfield 237, 3) := dk_180 0 237 (dk_at dksX0_seed_0 4 rfl rfl)
theorem dX0_seed_7 : decode cX0_seed 7 = .ok (.istore_n 2, 1) := dk_61 (dk_at dksX0_seed_0 7 rfl rfl)
theorem dX0_seed_8 : decode cX0_seed 8 = .ok (.aload_n 0, 1) := dk_42 (dk_at dksX0_seed_0 8 rfl rfl)
theorem dX0_seed_9 : decode cX0_seed 9 = .ok (.getfield 85, 3) := dk_180 0 85 (dk_at dksX0_seed_0 9 rfl rfl)
theorem dX0_seed_12 : decode cX0_seed 12 = .ok (.iload_n 1, 1) := dk_27 (dk_at dksX0_seed_0 12 rfl rfl)
theorem dX0_seed_13 : decode cX0_seed 13 = .ok (.putfield 237, 3) := dk_181 0 237 (dk_at dksX0_seed_0 13 rfl rfl)
theorem dX0_seed_16 : decode cX0_seed 16 = .ok (.iload_n 2, 1) := dk_28 (dk_at dksX0_seed_0 16 rfl rfl)
theorem dX0_seed_17 : decode cX0_seed 17 = .ok (.ireturn, 1) := dk_172 (dk_at dksX0_seed_0 17 rfl rfl)
abbrev cX0_stick : ByteArray := prog_1_method_32_code
def yX0_stick : MethodName := ⟨RX0, "stick", "(I)I"⟩
def dkwX0_stick_1 : List UInt8 := [172]
abbrev dktX0_stick_1 : List UInt8 := dkwX0_stick_1 ++ []
def dkwX0_stick_0 : List UInt8 := [42, 27, 182, 0, 167, 3, 184, 0, 123, 42, 180, 0, 85, 27, 182, 0, 240, 172, 77, 42, 44, 182, 0, 136]
abbrev dktX0_stick_0 : List UInt8 := dkwX0_stick_0 ++ dktX0_stick_1
theorem dksX0_stick_0 : cX0_stick.data.toList.drop 0 = dktX0_stick_0 := by decide +kernel
theorem dksX0_stick_1 : cX0_stick.data.toList.drop 24 = dktX0_stick_1 := dk_seg dksX0_stick_0 24 rfl rfl
theorem dX0_stick_0 : decode cX0_stick 0 = .ok (.aload_n 0, 1) := dk_42 (dk_at dksX0_stick_0 0 rfl rfl)
theorem dX0_stick_1 : decode cX0_stick 1 = .ok (.iload_n 1, 1) := dk_27 (dk_at dksX0_stick_0 1 rfl rfl)
theorem dX0_stick_2 : decode cX0_stick 2 = .ok (.invokevirtual 167, 3) := dk_182 0 167 (dk_at dksX0_stick_0 2 rfl rfl)
theorem dX0_stick_5 : decode cX0_stick 5 = .ok (.iconst 0, 1) := dk_3 (dk_at dksX0_stick_0 5 rfl rfl)
theorem dX0_stick_6 : decode cX0_stick 6 = .ok (.invokestatic 123, 3) := dk_184 0 123 (dk_at dksX0_stick_0 6 rfl rfl)
theorem dX0_stick_9 : decode cX0_stick 9 = .ok (.aload_n 0, 1) := dk_42 (dk_at dksX0_stick_0 9 rfl rfl)
theorem dX0_stick_10 : decode cX0_stick 10 = .ok (.getfield 85, 3) := dk_180 0 85 (dk_at dksX0_stick_0 10 rfl rfl)
theorem dX0_stick_13 : decode cX0_stick 13 = .ok (.iload_n 1, 1) := dk_27 (dk_at dksX0_stick_0 13 rfl rfl)
theorem dX0_stick_14 : decode cX0_stick 14 = .ok (.invokevirtual 240, 3) := dk_182 0 240 (dk_at dksX0_stick_0 14 rfl rfl)
theorem dX0_stick_17 : decode cX0_stick 17 = .ok (.ireturn, 1) := dk_172 (dk_at dksX0_stick_0 17 rfl rfl)
theorem dX0_stick_18 : decode cX0_stick 18 = .ok (.astore_n 2, 1) := dk_77 (dk_at dksX0_stick_0 18 rfl rfl)
theorem dX0_stick_19 : decode cX0_stick 19 = .ok (.aload_n 0, 1) := dk_42 (dk_at dksX0_stick_0 19 rfl rfl)
theorem dX0_stick_20 : decode cX0_stick 20 = .ok (.aload_n 2, 1) := dk_44 (dk_at dksX0_stick_0 20 rfl rfl)
theorem dX0_stick_21 : decode cX0_stick 21 = .ok (.invokevirtual 136, 3) := dk_182 0 136 (dk_at dksX0_stick_0 21 rfl rfl)
theorem dX0_stick_24 : decode cX0_stick 24 = .ok (.ireturn, 1) := dk_172 (dk_at dksX0_stick_1 0 rfl rfl)
abbrev cX0_sticks : ByteArray := prog_1_method_33_code
def yX0_sticks : MethodName := ⟨RX0, "sticks", "(I)I"⟩
def dkwX0_sticks_2 : List UInt8 := [184, 1, 4, 132, 4, 1, 167, 255, 231, 29, 172, 77, 42, 44, 182, 0, 136, 172]
abbrev dktX0_sticks_2 : List UInt8 := dkwX0_sticks_2 ++ []
def dkwX0_sticks_1 : List UInt8 := [62, 3, 54, 4, 21, 4, 29, 162, 0, 25, 44, 21, 4, 42, 180, 0, 85, 21, 4, 182, 0, 240, 133]
abbrev dktX0_sticks_1 : List UInt8 := dkwX0_sticks_1 ++ dktX0_sticks_2
def dkwX0_sticks_0 : List UInt8 := [27, 184, 0, 243, 42, 27, 182, 0, 246, 77, 44, 184, 0, 250, 42, 180, 0, 85, 180, 0, 130, 184, 0, 254]
abbrev dktX0_sticks_0 : List UInt8 := dkwX0_sticks_0 ++ dktX0_sticks_1
theorem dksX0_sticks_0 : cX0_sticks.data.toList.drop 0 = dktX0_sticks_0 := by decide +kernel
theorem dksX0_sticks_1 : cX0_sticks.data.toList.drop 24 = dktX0_sticks_1 := dk_seg dksX0_sticks_0 24 rfl rfl
theorem dksX0_sticks_2 : cX0_sticks.data.toList.drop 47 = dktX0_sticks_2 := dk_seg dksX0_sticks_1 23 rfl rfl
theorem dX0_sticks_0 : decode cX0_sticks 0 = .ok (.iload_n 1, 1) := dk_27 (dk_at dksX0_sticks_0 0 rfl rfl)
theorem dX0_sticks_1 : decode cX0_sticks 1 = .ok (.invokestatic 243, 3) := dk_184 0 243 (dk_at dksX0_sticks_0 1 rfl rfl)
theorem dX0_sticks_4 : decode cX0_sticks 4 = .ok (.aload_n 0, 1) := dk_42 (dk_at dksX0_sticks_0 4 rfl rfl)
theorem dX0_sticks_5 : decode cX0_sticks 5 = .ok (.iload_n 1, 1) := dk_27 (dk_at dksX0_sticks_0 5 rfl rfl)
theorem dX0_sticks_6 : decode cX0_sticks 6 = .ok (.invokevirtual 246, 3) := dk_182 0 246 (dk_at dksX0_sticks_0 6 rfl rfl)
theorem dX0_sticks_9 : decode cX0_sticks 9 = .ok (.astore_n 2, 1) := dk_77 (dk_at dksX0_sticks_0 9 rfl rfl)
theorem dX0_sticks_10 : decode cX0_sticks 10 = .ok (.aload_n 2, 1) := dk_44 (dk_at dksX0_sticks_0 10 rfl rfl)
theorem dX0_sticks_11 : decode cX0_sticks 11 = .ok (.invokestatic 250, 3) := dk_184 0 250 (dk_at dksX0_sticks_0 11 rfl rfl)
theorem dX0_sticks_14 : decode cX0_sticks 14 = .ok (.aload_n 0, 1) := dk_42 (dk_at dksX0_sticks_0 14 rfl rfl)
theorem dX0_sticks_15 : decode cX0_sticks 15 = .ok (.getfield 85, 3) := dk_180 0 85 (dk_at dksX0_sticks_0 15 rfl rfl)
theorem dX0_sticks_18 : decode cX0_sticks 18 = .ok (.getfield 130, 3) := dk_180 0 130 (dk_at dksX0_sticks_0 18 rfl rfl)
theorem dX0_sticks_21 : decode cX0_sticks 21 = .ok (.invokestatic 254, 3) := dk_184 0 254 (dk_at dksX0_sticks_0 21 rfl rfl)
theorem dX0_sticks_24 : decode cX0_sticks 24 = .ok (.istore_n 3, 1) := dk_62 (dk_at dksX0_sticks_1 0 rfl rfl)
theorem dX0_sticks_25 : decode cX0_sticks 25 = .ok (.iconst 0, 1) := dk_3 (dk_at dksX0_sticks_1 1 rfl rfl)
theorem dX0_sticks_26 : decode cX0_sticks 26 = .ok (.istore 4, 2) := dk_54 4 (dk_at dksX0_sticks_1 2 rfl rfl)
theorem dX0_sticks_28 : decode cX0_sticks 28 = .ok (.iload 4, 2) := dk_21 4 (dk_at dksX0_sticks_1 4 rfl rfl)
theorem dX0_sticks_30 : decode cX0_sticks 30 = .ok (.iload_n 3, 1) := dk_29 (dk_at dksX0_sticks_1 6 rfl rfl)
theorem dX0_sticks_31 : decode cX0_sticks 31 = .ok (.if_icmp .ge 25, 3) := dk_162 0 25 (dk_at dksX0_sticks_1 7 rfl rfl)
theorem dX0_sticks_34 : decode cX0_sticks 34 = .ok (.aload_n 2, 1) := dk_44 (dk_at dksX0_sticks_1 10 rfl rfl)
theorem dX0_sticks_35 : decode cX0_sticks 35 = .ok (.iload 4, 2) := dk_21 4 (dk_at dksX0_sticks_1 11 rfl rfl)
theorem dX0_sticks_37 : decode cX0_sticks 37 = .ok (.aload_n 0, 1) := dk_42 (dk_at dksX0_sticks_1 13 rfl rfl)
theorem dX0_sticks_38 : decode cX0_sticks 38 = .ok (.getfield 85, 3) := dk_180 0 85 (dk_at dksX0_sticks_1 14 rfl rfl)
theorem dX0_sticks_41 : decode cX0_sticks 41 = .ok (.iload 4, 2) := dk_21 4 (dk_at dksX0_sticks_1 17 rfl rfl)
theorem dX0_sticks_43 : decode cX0_sticks 43 = .ok (.invokevirtual 240, 3) := dk_182 0 240 (dk_at dksX0_sticks_1 19 rfl rfl)
theorem dX0_sticks_46 : decode cX0_sticks 46 = .ok (.i2l, 1) := dk_133 (dk_at dksX0_sticks_1 22 rfl rfl)
theorem dX0_sticks_47 : decode cX0_sticks 47 = .ok (.invokestatic 260, 3) := dk_184 1 4 (dk_at dksX0_sticks_2 0 rfl rfl)
theorem dX0_sticks_50 : decode cX0_sticks 50 = .ok (.iinc 4 1, 3) := dk_132 4 1 (dk_at dksX0_sticks_2 3 rfl rfl)
theorem dX0_sticks_53 : decode cX0_sticks 53 = .ok (.goto (-25), 3) := dk_167 255 231 (dk_at dksX0_sticks_2 6 rfl rfl)
theorem dX0_sticks_56 : decode cX0_sticks 56 = .ok (.iload_n 3, 1) := dk_29 (dk_at dksX0_sticks_2 9 rfl rfl)
theorem dX0_sticks_57 : decode cX0_sticks 57 = .ok (.ireturn, 1) := dk_172 (dk_at dksX0_sticks_2 10 rfl rfl)
theorem dX0_sticks_58 : decode cX0_sticks 58 = .ok (.astore_n 2, 1) := dk_77 (dk_at dksX0_sticks_2 11 rfl rfl)
theorem dX0_sticks_59 : decode cX0_sticks 59 = .ok (.aload_n 0, 1) := dk_42 (dk_at dksX0_sticks_2 12 rfl rfl)
theorem dX0_sticks_60 : decode cX0_sticks 60 = .ok (.aload_n 2, 1) := dk_44 (dk_at dksX0_sticks_2 13 rfl rfl)
theorem dX0_sticks_61 : decode cX0_sticks 61 = .ok (.invokevirtual 136, 3) := dk_182 0 136 (dk_at dksX0_sticks_2 14 rfl rfl)
theorem dX0_sticks_64 : decode cX0_sticks 64 = .ok (.ireturn, 1) := dk_172 (dk_at dksX0_sticks_2 17 rfl rfl)
abbrev cX0_sheetAt : ByteArray := prog_1_method_51_code
def yX0_sheetAt : MethodName := ⟨RX0, "sheetAt", "(I)V"⟩
def dkwX0_sheetAt_0 : List UInt8 := [26, 133, 9, 20, 0, 20, 184, 0, 14, 3, 184, 0, 123, 177]
abbrev dktX0_sheetAt_0 : List UInt8 := dkwX0_sheetAt_0 ++ []
theorem dksX0_sheetAt_0 : cX0_sheetAt.data.toList.drop 0 = dktX0_sheetAt_0 := by decide +kernel
theorem dX0_sheetAt_0 : decode cX0_sheetAt 0 = .ok (.iload_n 0, 1) := dk_26 (dk_at dksX0_sheetAt_0 0 rfl rfl)
theorem dX0_sheetAt_1 : decode cX0_sheetAt 1 = .ok (.i2l, 1) := dk_133 (dk_at dksX0_sheetAt_0 1 rfl rfl)
theorem dX0_sheetAt_2 : decode cX0_sheetAt 2 = .ok (.lconst 0, 1) := dk_9 (dk_at dksX0_sheetAt_0 2 rfl rfl)
theorem dX0_sheetAt_3 : decode cX0_sheetAt 3 = .ok (.ldc2_w 20, 3) := dk_20 0 20 (dk_at dksX0_sheetAt_0 3 rfl rfl)
theorem dX0_sheetAt_6 : decode cX0_sheetAt 6 = .ok (.invokestatic 14, 3) := dk_184 0 14 (dk_at dksX0_sheetAt_0 6 rfl rfl)
theorem dX0_sheetAt_9 : decode cX0_sheetAt 9 = .ok (.iconst 0, 1) := dk_3 (dk_at dksX0_sheetAt_0 9 rfl rfl)
theorem dX0_sheetAt_10 : decode cX0_sheetAt 10 = .ok (.invokestatic 123, 3) := dk_184 0 123 (dk_at dksX0_sheetAt_0 10 rfl rfl)
theorem dX0_sheetAt_13 : decode cX0_sheetAt 13 = .ok (.return_, 1) := dk_177 (dk_at dksX0_sheetAt_0 13 rfl rfl)
abbrev cX0_there : ByteArray := prog_1_method_52_code
def yX0_there : MethodName := ⟨RX0, "there", "(I)Ljava/lang/Object;"⟩
def dkwX0_there_1 : List UInt8 := [176]
abbrev dktX0_there_1 : List UInt8 := dkwX0_there_1 ++ []
def dkwX0_there_0 : List UInt8 := [42, 180, 0, 103, 27, 50, 180, 0, 152, 77, 44, 198, 0, 7, 4, 167, 0, 4, 3, 8, 184, 0, 123, 44]
abbrev dktX0_there_0 : List UInt8 := dkwX0_there_0 ++ dktX0_there_1
theorem dksX0_there_0 : cX0_there.data.toList.drop 0 = dktX0_there_0 := by decide +kernel
theorem dksX0_there_1 : cX0_there.data.toList.drop 24 = dktX0_there_1 := dk_seg dksX0_there_0 24 rfl rfl
theorem dX0_there_0 : decode cX0_there 0 = .ok (.aload_n 0, 1) := dk_42 (dk_at dksX0_there_0 0 rfl rfl)
theorem dX0_there_1 : decode cX0_there 1 = .ok (.getfield 103, 3) := dk_180 0 103 (dk_at dksX0_there_0 1 rfl rfl)
theorem dX0_there_4 : decode cX0_there 4 = .ok (.iload_n 1, 1) := dk_27 (dk_at dksX0_there_0 4 rfl rfl)
theorem dX0_there_5 : decode cX0_there 5 = .ok (.aaload, 1) := dk_50 (dk_at dksX0_there_0 5 rfl rfl)
theorem dX0_there_6 : decode cX0_there 6 = .ok (.getfield 152, 3) := dk_180 0 152 (dk_at dksX0_there_0 6 rfl rfl)
theorem dX0_there_9 : decode cX0_there 9 = .ok (.astore_n 2, 1) := dk_77 (dk_at dksX0_there_0 9 rfl rfl)
theorem dX0_there_10 : decode cX0_there 10 = .ok (.aload_n 2, 1) := dk_44 (dk_at dksX0_there_0 10 rfl rfl)
theorem dX0_there_11 : decode cX0_there 11 = .ok (.ifnull 7, 3) := dk_198 0 7 (dk_at dksX0_there_0 11 rfl rfl)
theorem dX0_there_14 : decode cX0_there 14 = .ok (.iconst 1, 1) := dk_4 (dk_at dksX0_there_0 14 rfl rfl)
theorem dX0_there_15 : decode cX0_there 15 = .ok (.goto 4, 3) := dk_167 0 4 (dk_at dksX0_there_0 15 rfl rfl)
theorem dX0_there_18 : decode cX0_there 18 = .ok (.iconst 0, 1) := dk_3 (dk_at dksX0_there_0 18 rfl rfl)
theorem dX0_there_19 : decode cX0_there 19 = .ok (.iconst 5, 1) := dk_8 (dk_at dksX0_there_0 19 rfl rfl)
theorem dX0_there_20 : decode cX0_there 20 = .ok (.invokestatic 123, 3) := dk_184 0 123 (dk_at dksX0_there_0 20 rfl rfl)
theorem dX0_there_23 : decode cX0_there 23 = .ok (.aload_n 2, 1) := dk_44 (dk_at dksX0_there_0 23 rfl rfl)
theorem dX0_there_24 : decode cX0_there 24 = .ok (.areturn, 1) := dk_176 (dk_at dksX0_there_1 0 rfl rfl)
abbrev cX0_length : ByteArray := prog_1_method_54_code
def yX0_length : MethodName := ⟨RX0, "length", "(Ljava/lang/Object;)I"⟩
def dkwX0_length_1 : List UInt8 := [190, 167, 0, 8, 42, 192, 1, 70, 190, 172]
abbrev dktX0_length_1 : List UInt8 := dkwX0_length_1 ++ []
def dkwX0_length_0 : List UInt8 := [42, 193, 1, 67, 153, 0, 9, 42, 192, 1, 67, 190, 172, 42, 193, 1, 68, 153, 0, 11, 42, 192, 1, 68]
abbrev dktX0_length_0 : List UInt8 := dkwX0_length_0 ++ dktX0_length_1
theorem dksX0_length_0 : cX0_length.data.toList.drop 0 = dktX0_length_0 := by decide +kernel
theorem dksX0_length_1 : cX0_length.data.toList.drop 24 = dktX0_length_1 := dk_seg dksX0_length_0 24 rfl rfl
theorem dX0_length_0 : decode cX0_length 0 = .ok (.aload_n 0, 1) := dk_42 (dk_at dksX0_length_0 0 rfl rfl)
theorem dX0_length_1 : decode cX0_length 1 = .ok (.instanceof 323, 3) := dk_193 1 67 (dk_at dksX0_length_0 1 rfl rfl)
theorem dX0_length_4 : decode cX0_length 4 = .ok (.ifCond .eq 9, 3) := dk_153 0 9 (dk_at dksX0_length_0 4 rfl rfl)
theorem dX0_length_7 : decode cX0_length 7 = .ok (.aload_n 0, 1) := dk_42 (dk_at dksX0_length_0 7 rfl rfl)
theorem dX0_length_8 : decode cX0_length 8 = .ok (.checkcast 323, 3) := dk_192 1 67 (dk_at dksX0_length_0 8 rfl rfl)
theorem dX0_length_11 : decode cX0_length 11 = .ok (.arraylength, 1) := dk_190 (dk_at dksX0_length_0 11 rfl rfl)
theorem dX0_length_12 : decode cX0_length 12 = .ok (.ireturn, 1) := dk_172 (dk_at dksX0_length_0 12 rfl rfl)
theorem dX0_length_13 : decode cX0_length 13 = .ok (.aload_n 0, 1) := dk_42 (dk_at dksX0_length_0 13 rfl rfl)
theorem dX0_length_14 : decode cX0_length 14 = .ok (.instanceof 324, 3) := dk_193 1 68 (dk_at dksX0_length_0 14 rfl rfl)
theorem dX0_length_17 : decode cX0_length 17 = .ok (.ifCond .eq 11, 3) := dk_153 0 11 (dk_at dksX0_length_0 17 rfl rfl)
theorem dX0_length_20 : decode cX0_length 20 = .ok (.aload_n 0, 1) := dk_42 (dk_at dksX0_length_0 20 rfl rfl)
theorem dX0_length_21 : decode cX0_length 21 = .ok (.checkcast 324, 3) := dk_192 1 68 (dk_at dksX0_length_0 21 rfl rfl)
theorem dX0_length_24 : decode cX0_length 24 = .ok (.arraylength, 1) := dk_190 (dk_at dksX0_length_1 0 rfl rfl)
theorem dX0_length_25 : decode cX0_length 25 = .ok (.goto 8, 3) := dk_167 0 8 (dk_at dksX0_length_1 1 rfl rfl)
theorem dX0_length_28 : decode cX0_length 28 = .ok (.aload_n 0, 1) := dk_42 (dk_at dksX0_length_1 4 rfl rfl)
theorem dX0_length_29 : decode cX0_length 29 = .ok (.checkcast 326, 3) := dk_192 1 70 (dk_at dksX0_length_1 5 rfl rfl)
theorem dX0_length_32 : decode cX0_length 32 = .ok (.arraylength, 1) := dk_190 (dk_at dksX0_length_1 8 rfl rfl)
theorem dX0_length_33 : decode cX0_length 33 = .ok (.ireturn, 1) := dk_172 (dk_at dksX0_length_1 9 rfl rfl)
abbrev cX0_put : ByteArray := prog_1_method_56_code
def yX0_put : MethodName := ⟨RX0, "put", "(Ljava/lang/Object;IJ)V"⟩
def dkwX0_put_1 : List UInt8 := [153, 0, 15, 42, 192, 1, 68, 27, 32, 136, 147, 86, 167, 0, 10, 42, 192, 1, 70, 27, 32, 80, 177]
abbrev dktX0_put_1 : List UInt8 := dkwX0_put_1 ++ []
def dkwX0_put_0 : List UInt8 := [42, 193, 1, 67, 153, 0, 15, 42, 192, 1, 67, 27, 32, 136, 145, 84, 167, 0, 29, 42, 193, 1, 68]
abbrev dktX0_put_0 : List UInt8 := dkwX0_put_0 ++ dktX0_put_1
theorem dksX0_put_0 : cX0_put.data.toList.drop 0 = dktX0_put_0 := by decide +kernel
theorem dksX0_put_1 : cX0_put.data.toList.drop 23 = dktX0_put_1 := dk_seg dksX0_put_0 23 rfl rfl
theorem dX0_put_0 : decode cX0_put 0 = .ok (.aload_n 0, 1) := dk_42 (dk_at dksX0_put_0 0 rfl rfl)
theorem dX0_put_1 : decode cX0_put 1 = .ok (.instanceof 323, 3) := dk_193 1 67 (dk_at dksX0_put_0 1 rfl rfl)
theorem dX0_put_4 : decode cX0_put 4 = .ok (.ifCond .eq 15, 3) := dk_153 0 15 (dk_at dksX0_put_0 4 rfl rfl)
theorem dX0_put_7 : decode cX0_put 7 = .ok (.aload_n 0, 1) := dk_42 (dk_at dksX0_put_0 7 rfl rfl)
theorem dX0_put_8 : decode cX0_put 8 = .ok (.checkcast 323, 3) := dk_192 1 67 (dk_at dksX0_put_0 8 rfl rfl)
theorem dX0_put_11 : decode cX0_put 11 = .ok (.iload_n 1, 1) := dk_27 (dk_at dksX0_put_0 11 rfl rfl)
theorem dX0_put_12 : decode cX0_put 12 = .ok (.lload_n 2, 1) := dk_32 (dk_at dksX0_put_0 12 rfl rfl)
theorem dX0_put_13 : decode cX0_put 13 = .ok (.l2i, 1) := dk_136 (dk_at dksX0_put_0 13 rfl rfl)
theorem dX0_put_14 : decode cX0_put 14 = .ok (.i2b, 1) := dk_145 (dk_at dksX0_put_0 14 rfl rfl)
theorem dX0_put_15 : decode cX0_put 15 = .ok (.bastore, 1) := dk_84 (dk_at dksX0_put_0 15 rfl rfl)
theorem dX0_put_16 : decode cX0_put 16 = .ok (.goto 29, 3) := dk_167 0 29 (dk_at dksX0_put_0 16 rfl rfl)
theorem dX0_put_19 : decode cX0_put 19 = .ok (.aload_n 0, 1) := dk_42 (dk_at dksX0_put_0 19 rfl rfl)
theorem dX0_put_20 : decode cX0_put 20 = .ok (.instanceof 324, 3) := dk_193 1 68 (dk_at dksX0_put_0 20 rfl rfl)
theorem dX0_put_23 : decode cX0_put 23 = .ok (.ifCond .eq 15, 3) := dk_153 0 15 (dk_at dksX0_put_1 0 rfl rfl)
theorem dX0_put_26 : decode cX0_put 26 = .ok (.aload_n 0, 1) := dk_42 (dk_at dksX0_put_1 3 rfl rfl)
theorem dX0_put_27 : decode cX0_put 27 = .ok (.checkcast 324, 3) := dk_192 1 68 (dk_at dksX0_put_1 4 rfl rfl)
theorem dX0_put_30 : decode cX0_put 30 = .ok (.iload_n 1, 1) := dk_27 (dk_at dksX0_put_1 7 rfl rfl)
theorem dX0_put_31 : decode cX0_put 31 = .ok (.lload_n 2, 1) := dk_32 (dk_at dksX0_put_1 8 rfl rfl)
theorem dX0_put_32 : decode cX0_put 32 = .ok (.l2i, 1) := dk_136 (dk_at dksX0_put_1 9 rfl rfl)
theorem dX0_put_33 : decode cX0_put 33 = .ok (.i2s, 1) := dk_147 (dk_at dksX0_put_1 10 rfl rfl)
theorem dX0_put_34 : decode cX0_put 34 = .ok (.sastore, 1) := dk_86 (dk_at dksX0_put_1 11 rfl rfl)
theorem dX0_put_35 : decode cX0_put 35 = .ok (.goto 10, 3) := dk_167 0 10 (dk_at dksX0_put_1 12 rfl rfl)
theorem dX0_put_38 : decode cX0_put 38 = .ok (.aload_n 0, 1) := dk_42 (dk_at dksX0_put_1 15 rfl rfl)
theorem dX0_put_39 : decode cX0_put 39 = .ok (.checkcast 326, 3) := dk_192 1 70 (dk_at dksX0_put_1 16 rfl rfl)
theorem dX0_put_42 : decode cX0_put 42 = .ok (.iload_n 1, 1) := dk_27 (dk_at dksX0_put_1 19 rfl rfl)
theorem dX0_put_43 : decode cX0_put 43 = .ok (.lload_n 2, 1) := dk_32 (dk_at dksX0_put_1 20 rfl rfl)
theorem dX0_put_44 : decode cX0_put 44 = .ok (.lastore, 1) := dk_80 (dk_at dksX0_put_1 21 rfl rfl)
theorem dX0_put_45 : decode cX0_put 45 = .ok (.return_, 1) := dk_177 (dk_at dksX0_put_1 22 rfl rfl)
abbrev cX0_widths : ByteArray := prog_1_method_34_code
def yX0_widths : MethodName := ⟨RX0, "widths", "(III)I"⟩
def dkwX0_widths_7 : List UInt8 := [167, 0, 5, 21, 8, 184, 1, 12, 172, 58, 4, 42, 25, 4, 182, 0, 136, 172]
abbrev dktX0_widths_7 : List UInt8 := dkwX0_widths_7 ++ []
def dkwX0_widths_6 : List UInt8 := [42, 180, 0, 85, 182, 0, 133, 29, 154, 0, 8, 21, 6, 167, 0, 18, 29, 4, 160, 0, 8, 21, 7]
abbrev dktX0_widths_6 : List UInt8 := dkwX0_widths_6 ++ dktX0_widths_7
def dkwX0_widths_5 : List UInt8 := [167, 0, 5, 21, 7, 54, 7, 21, 9, 54, 8, 132, 9, 1, 167, 255, 196, 25, 4, 21, 5, 181, 0, 59]
abbrev dktX0_widths_5 : List UInt8 := dkwX0_widths_5 ++ dktX0_widths_6
def dkwX0_widths_4 : List UInt8 := [180, 0, 85, 27, 182, 0, 218, 28, 159, 0, 6, 167, 0, 24, 132, 6, 1, 21, 7, 156, 0, 8, 21, 9]
abbrev dktX0_widths_4 : List UInt8 := dkwX0_widths_4 ++ dktX0_widths_5
def dkwX0_widths_3 : List UInt8 := [21, 9, 16, 99, 163, 0, 59, 25, 4, 21, 9, 181, 0, 59, 42, 180, 0, 85, 182, 0, 133, 42]
abbrev dktX0_widths_3 : List UInt8 := dkwX0_widths_3 ++ dktX0_widths_4
def dkwX0_widths_2 : List UInt8 := [182, 0, 172, 58, 4, 25, 4, 180, 0, 59, 54, 5, 3, 54, 6, 2, 54, 7, 2, 54, 8, 3, 54, 9]
abbrev dktX0_widths_2 : List UInt8 := dkwX0_widths_2 ++ dktX0_widths_3
def dkwX0_widths_1 : List UInt8 := [9, 20, 1, 10, 184, 0, 14, 153, 0, 7, 4, 167, 0, 4, 3, 3, 184, 0, 123, 42, 180, 0, 85, 27]
abbrev dktX0_widths_1 : List UInt8 := dkwX0_widths_1 ++ dktX0_widths_2
def dkwX0_widths_0 : List UInt8 := [42, 27, 182, 0, 167, 153, 0, 33, 28, 133, 20, 1, 8, 20, 0, 170, 184, 0, 14, 153, 0, 19, 29, 133]
abbrev dktX0_widths_0 : List UInt8 := dkwX0_widths_0 ++ dktX0_widths_1
theorem dksX0_widths_0 : cX0_widths.data.toList.drop 0 = dktX0_widths_0 := by decide +kernel
theorem dksX0_widths_1 : cX0_widths.data.toList.drop 24 = dktX0_widths_1 := dk_seg dksX0_widths_0 24 rfl rfl
theorem dksX0_widths_2 : cX0_widths.data.toList.drop 48 = dktX0_widths_2 := dk_seg dksX0_widths_1 24 rfl rfl
theorem dksX0_widths_3 : cX0_widths.data.toList.drop 72 = dktX0_widths_3 := dk_seg dksX0_widths_2 24 rfl rfl
theorem dksX0_widths_4 : cX0_widths.data.toList.drop 94 = dktX0_widths_4 := dk_seg dksX0_widths_3 22 rfl rfl
theorem dksX0_widths_5 : cX0_widths.data.toList.drop 118 = dktX0_widths_5 := dk_seg dksX0_widths_4 24 rfl rfl
theorem dksX0_widths_6 : cX0_widths.data.toList.drop 142 = dktX0_widths_6 := dk_seg dksX0_widths_5 24 rfl rfl
theorem dksX0_widths_7 : cX0_widths.data.toList.drop 165 = dktX0_widths_7 := dk_seg dksX0_widths_6 23 rfl rfl
theorem dX0_widths_0 : decode cX0_widths 0 = .ok (.aload_n 0, 1) := dk_42 (dk_at dksX0_widths_0 0 rfl rfl)
theorem dX0_widths_1 : decode cX0_widths 1 = .ok (.iload_n 1, 1) := dk_27 (dk_at dksX0_widths_0 1 rfl rfl)
theorem dX0_widths_2 : decode cX0_widths 2 = .ok (.invokevirtual 167, 3) := dk_182 0 167 (dk_at dksX0_widths_0 2 rfl rfl)
theorem dX0_widths_5 : decode cX0_widths 5 = .ok (.ifCond .eq 33, 3) := dk_153 0 33 (dk_at dksX0_widths_0 5 rfl rfl)
theorem dX0_widths_8 : decode cX0_widths 8 = .ok (.iload_n 2, 1) := dk_28 (dk_at dksX0_widths_0 8 rfl rfl)
theorem dX0_widths_9 : decode cX0_widths 9 = .ok (.i2l, 1) := dk_133 (dk_at dksX0_widths_0 9 rfl rfl)
theorem dX0_widths_10 : decode cX0_widths 10 = .ok (.ldc2_w 264, 3) := dk_20 1 8 (dk_at dksX0_widths_0 10 rfl rfl)
theorem dX0_widths_13 : decode cX0_widths 13 = .ok (.ldc2_w 170, 3) := dk_20 0 170 (dk_at dksX0_widths_0 13 rfl rfl)
theorem dX0_widths_16 : decode cX0_widths 16 = .ok (.invokestatic 14, 3) := dk_184 0 14 (dk_at dksX0_widths_0 16 rfl rfl)
theorem dX0_widths_19 : decode cX0_widths 19 = .ok (.ifCond .eq 19, 3) := dk_153 0 19 (dk_at dksX0_widths_0 19 rfl rfl)
theorem dX0_widths_22 : decode cX0_widths 22 = .ok (.iload_n 3, 1) := dk_29 (dk_at dksX0_widths_0 22 rfl rfl)
theorem dX0_widths_23 : decode cX0_widths 23 = .ok (.i2l, 1) := dk_133 (dk_at dksX0_widths_0 23 rfl rfl)
theorem dX0_widths_24 : decode cX0_widths 24 = .ok (.lconst 0, 1) := dk_9 (dk_at dksX0_widths_1 0 rfl rfl)
theorem dX0_widths_25 : decode cX0_widths 25 = .ok (.ldc2_w 266, 3) := dk_20 1 10 (dk_at dksX0_widths_1 1 rfl rfl)
theorem dX0_widths_28 : decode cX0_widths 28 = .ok (.invokestatic 14, 3) := dk_184 0 14 (dk_at dksX0_widths_1 4 rfl rfl)
theorem dX0_widths_31 : decode cX0_widths 31 = .ok (.ifCond .eq 7, 3) := dk_153 0 7 (dk_at dksX0_widths_1 7 rfl rfl)
theorem dX0_widths_34 : decode cX0_widths 34 = .ok (.iconst 1, 1) := dk_4 (dk_at dksX0_widths_1 10 rfl rfl)
theorem dX0_widths_35 : decode cX0_widths 35 = .ok (.goto 4, 3) := dk_167 0 4 (dk_at dksX0_widths_1 11 rfl rfl)
theorem dX0_widths_38 : decode cX0_widths 38 = .ok (.iconst 0, 1) := dk_3 (dk_at dksX0_widths_1 14 rfl rfl)
theorem dX0_widths_39 : decode cX0_widths 39 = .ok (.iconst 0, 1) := dk_3 (dk_at dksX0_widths_1 15 rfl rfl)
theorem dX0_widths_40 : decode cX0_widths 40 = .ok (.invokestatic 123, 3) := dk_184 0 123 (dk_at dksX0_widths_1 16 rfl rfl)
theorem dX0_widths_43 : decode cX0_widths 43 = .ok (.aload_n 0, 1) := dk_42 (dk_at dksX0_widths_1 19 rfl rfl)
theorem dX0_widths_44 : decode cX0_widths 44 = .ok (.getfield 85, 3) := dk_180 0 85 (dk_at dksX0_widths_1 20 rfl rfl)
theorem dX0_widths_47 : decode cX0_widths 47 = .ok (.iload_n 1, 1) := dk_27 (dk_at dksX0_widths_1 23 rfl rfl)
theorem dX0_widths_48 : decode cX0_widths 48 = .ok (.invokevirtual 172, 3) := dk_182 0 172 (dk_at dksX0_widths_2 0 rfl rfl)
theorem dX0_widths_51 : decode cX0_widths 51 = .ok (.astore 4, 2) := dk_58 4 (dk_at dksX0_widths_2 3 rfl rfl)
theorem dX0_widths_53 : decode cX0_widths 53 = .ok (.aload 4, 2) := dk_25 4 (dk_at dksX0_widths_2 5 rfl rfl)
theorem dX0_widths_55 : decode cX0_widths 55 = .ok (.getfield 59, 3) := dk_180 0 59 (dk_at dksX0_widths_2 7 rfl rfl)
theorem dX0_widths_58 : decode cX0_widths 58 = .ok (.istore 5, 2) := dk_54 5 (dk_at dksX0_widths_2 10 rfl rfl)
theorem dX0_widths_60 : decode cX0_widths 60 = .ok (.iconst 0, 1) := dk_3 (dk_at dksX0_widths_2 12 rfl rfl)
theorem dX0_widths_61 : decode cX0_widths 61 = .ok (.istore 6, 2) := dk_54 6 (dk_at dksX0_widths_2 13 rfl rfl)
theorem dX0_widths_63 : decode cX0_widths 63 = .ok (.iconst (-1), 1) := dk_2 (dk_at dksX0_widths_2 15 rfl rfl)
theorem dX0_widths_64 : decode cX0_widths 64 = .ok (.istore 7, 2) := dk_54 7 (dk_at dksX0_widths_2 16 rfl rfl)
theorem dX0_widths_66 : decode cX0_widths 66 = .ok (.iconst (-1), 1) := dk_2 (dk_at dksX0_widths_2 18 rfl rfl)
theorem dX0_widths_67 : decode cX0_widths 67 = .ok (.istore 8, 2) := dk_54 8 (dk_at dksX0_widths_2 19 rfl rfl)
theorem dX0_widths_69 : decode cX0_widths 69 = .ok (.iconst 0, 1) := dk_3 (dk_at dksX0_widths_2 21 rfl rfl)
theorem dX0_widths_70 : decode cX0_widths 70 = .ok (.istore 9, 2) := dk_54 9 (dk_at dksX0_widths_2 22 rfl rfl)
theorem dX0_widths_72 : decode cX0_widths 72 = .ok (.iload 9, 2) := dk_21 9 (dk_at dksX0_widths_3 0 rfl rfl)
theorem dX0_widths_74 : decode cX0_widths 74 = .ok (.bipush 99, 2) := dk_16 99 (dk_at dksX0_widths_3 2 rfl rfl)
theorem dX0_widths_76 : decode cX0_widths 76 = .ok (.if_icmp .gt 59, 3) := dk_163 0 59 (dk_at dksX0_widths_3 4 rfl rfl)
theorem dX0_widths_79 : decode cX0_widths 79 = .ok (.aload 4, 2) := dk_25 4 (dk_at dksX0_widths_3 7 rfl rfl)
theorem dX0_widths_81 : decode cX0_widths 81 = .ok (.iload 9, 2) := dk_21 9 (dk_at dksX0_widths_3 9 rfl rfl)
theorem dX0_widths_83 : decode cX0_widths 83 = .ok (.putfield 59, 3) := dk_181 0 59 (dk_at dksX0_widths_3 11 rfl rfl)
theorem dX0_widths_86 : decode cX0_widths 86 = .ok (.aload_n 0, 1) := dk_42 (dk_at dksX0_widths_3 14 rfl rfl)
theorem dX0_widths_87 : decode cX0_widths 87 = .ok (.getfield 85, 3) := dk_180 0 85 (dk_at dksX0_widths_3 15 rfl rfl)
theorem dX0_widths_90 : decode cX0_widths 90 = .ok (.invokevirtual 133, 3) := dk_182 0 133 (dk_at dksX0_widths_3 18 rfl rfl)
theorem dX0_widths_93 : decode cX0_widths 93 = .ok (.aload_n 0, 1) := dk_42 (dk_at dksX0_widths_3 21 rfl rfl)
theorem dX0_widths_94 : decode cX0_widths 94 = .ok (.getfield 85, 3) := dk_180 0 85 (dk_at dksX0_widths_4 0 rfl rfl)
theorem dX0_widths_97 : decode cX0_widths 97 = .ok (.iload_n 1, 1) := dk_27 (dk_at dksX0_widths_4 3 rfl rfl)
theorem dX0_widths_98 : decode cX0_widths 98 = .ok (.invokevirtual 218, 3) := dk_182 0 218 (dk_at dksX0_widths_4 4 rfl rfl)
theorem dX0_widths_101 : decode cX0_widths 101 = .ok (.iload_n 2, 1) := dk_28 (dk_at dksX0_widths_4 7 rfl rfl)
theorem dX0_widths_102 : decode cX0_widths 102 = .ok (.if_icmp .eq 6, 3) := dk_159 0 6 (dk_at dksX0_widths_4 8 rfl rfl)
theorem dX0_widths_105 : decode cX0_widths 105 = .ok (.goto 24, 3) := dk_167 0 24 (dk_at dksX0_widths_4 11 rfl rfl)
theorem dX0_widths_108 : decode cX0_widths 108 = .ok (.iinc 6 1, 3) := dk_132 6 1 (dk_at dksX0_widths_4 14 rfl rfl)
theorem dX0_widths_111 : decode cX0_widths 111 = .ok (.iload 7, 2) := dk_21 7 (dk_at dksX0_widths_4 17 rfl rfl)
theorem dX0_widths_113 : decode cX0_widths 113 = .ok (.ifCond .ge 8, 3) := dk_156 0 8 (dk_at dksX0_widths_4 19 rfl rfl)
theorem dX0_widths_116 : decode cX0_widths 116 = .ok (.iload 9, 2) := dk_21 9 (dk_at dksX0_widths_4 22 rfl rfl)
theorem dX0_widths_118 : decode cX0_widths 118 = .ok (.goto 5, 3) := dk_167 0 5 (dk_at dksX0_widths_5 0 rfl rfl)
theorem dX0_widths_121 : decode cX0_widths 121 = .ok (.iload 7, 2) := dk_21 7 (dk_at dksX0_widths_5 3 rfl rfl)
theorem dX0_widths_123 : decode cX0_widths 123 = .ok (.istore 7, 2) := dk_54 7 (dk_at dksX0_widths_5 5 rfl rfl)
theorem dX0_widths_125 : decode cX0_widths 125 = .ok (.iload 9, 2) := dk_21 9 (dk_at dksX0_widths_5 7 rfl rfl)
theorem dX0_widths_127 : decode cX0_widths 127 = .ok (.istore 8, 2) := dk_54 8 (dk_at dksX0_widths_5 9 rfl rfl)
theorem dX0_widths_129 : decode cX0_widths 129 = .ok (.iinc 9 1, 3) := dk_132 9 1 (dk_at dksX0_widths_5 11 rfl rfl)
theorem dX0_widths_132 : decode cX0_widths 132 = .ok (.goto (-60), 3) := dk_167 255 196 (dk_at dksX0_widths_5 14 rfl rfl)
theorem dX0_widths_135 : decode cX0_widths 135 = .ok (.aload 4, 2) := dk_25 4 (dk_at dksX0_widths_5 17 rfl rfl)
theorem dX0_widths_137 : decode cX0_widths 137 = .ok (.iload 5, 2) := dk_21 5 (dk_at dksX0_widths_5 19 rfl rfl)
theorem dX0_widths_139 : decode cX0_widths 139 = .ok (.putfield 59, 3) := dk_181 0 59 (dk_at dksX0_widths_5 21 rfl rfl)
theorem dX0_widths_142 : decode cX0_widths 142 = .ok (.aload_n 0, 1) := dk_42 (dk_at dksX0_widths_6 0 rfl rfl)
theorem dX0_widths_143 : decode cX0_widths 143 = .ok (.getfield 85, 3) := dk_180 0 85 (dk_at dksX0_widths_6 1 rfl rfl)
theorem dX0_widths_146 : decode cX0_widths 146 = .ok (.invokevirtual 133, 3) := dk_182 0 133 (dk_at dksX0_widths_6 4 rfl rfl)
theorem dX0_widths_149 : decode cX0_widths 149 = .ok (.iload_n 3, 1) := dk_29 (dk_at dksX0_widths_6 7 rfl rfl)
theorem dX0_widths_150 : decode cX0_widths 150 = .ok (.ifCond .ne 8, 3) := dk_154 0 8 (dk_at dksX0_widths_6 8 rfl rfl)
theorem dX0_widths_153 : decode cX0_widths 153 = .ok (.iload 6, 2) := dk_21 6 (dk_at dksX0_widths_6 11 rfl rfl)
theorem dX0_widths_155 : decode cX0_widths 155 = .ok (.goto 18, 3) := dk_167 0 18 (dk_at dksX0_widths_6 13 rfl rfl)
theorem dX0_widths_158 : decode cX0_widths 158 = .ok (.iload_n 3, 1) := dk_29 (dk_at dksX0_widths_6 16 rfl rfl)
theorem dX0_widths_159 : decode cX0_widths 159 = .ok (.iconst 1, 1) := dk_4 (dk_at dksX0_widths_6 17 rfl rfl)
theorem dX0_widths_160 : decode cX0_widths 160 = .ok (.if_icmp .ne 8, 3) := dk_160 0 8 (dk_at dksX0_widths_6 18 rfl rfl)
theorem dX0_widths_163 : decode cX0_widths 163 = .ok (.iload 7, 2) := dk_21 7 (dk_at dksX0_widths_6 21 rfl rfl)
theorem dX0_widths_165 : decode cX0_widths 165 = .ok (.goto 5, 3) := dk_167 0 5 (dk_at dksX0_widths_7 0 rfl rfl)
theorem dX0_widths_168 : decode cX0_widths 168 = .ok (.iload 8, 2) := dk_21 8 (dk_at dksX0_widths_7 3 rfl rfl)
theorem dX0_widths_170 : decode cX0_widths 170 = .ok (.invokestatic 268, 3) := dk_184 1 12 (dk_at dksX0_widths_7 5 rfl rfl)
theorem dX0_widths_173 : decode cX0_widths 173 = .ok (.ireturn, 1) := dk_172 (dk_at dksX0_widths_7 8 rfl rfl)
theorem dX0_widths_174 : decode cX0_widths 174 = .ok (.astore 4, 2) := dk_58 4 (dk_at dksX0_widths_7 9 rfl rfl)
theorem dX0_widths_176 : decode cX0_widths 176 = .ok (.aload_n 0, 1) := dk_42 (dk_at dksX0_widths_7 11 rfl rfl)
theorem dX0_widths_177 : decode cX0_widths 177 = .ok (.aload 4, 2) := dk_25 4 (dk_at dksX0_widths_7 12 rfl rfl)
theorem dX0_widths_179 : decode cX0_widths 179 = .ok (.invokevirtual 136, 3) := dk_182 0 136 (dk_at dksX0_widths_7 14 rfl rfl)
theorem dX0_widths_182 : decode cX0_widths 182 = .ok (.ireturn, 1) := dk_172 (dk_at dksX0_widths_7 17 rfl rfl)
abbrev cX0_orNone : ByteArray := prog_1_method_10_code
def yX0_orNone : MethodName := ⟨RX0, "orNone", "(I)I"⟩
def dkwX0_orNone_0 : List UInt8 := [26, 155, 0, 7, 4, 167, 0, 4, 3, 6, 184, 0, 123, 26, 172]
abbrev dktX0_orNone_0 : List UInt8 := dkwX0_orNone_0 ++ []
theorem dksX0_orNone_0 : cX0_orNone.data.toList.drop 0 = dktX0_orNone_0 := by decide +kernel
theorem dX0_orNone_0 : decode cX0_orNone 0 = .ok (.iload_n 0, 1) := dk_26 (dk_at dksX0_orNone_0 0 rfl rfl)
theorem dX0_orNone_1 : decode cX0_orNone 1 = .ok (.ifCond .lt 7, 3) := dk_155 0 7 (dk_at dksX0_orNone_0 1 rfl rfl)
theorem dX0_orNone_4 : decode cX0_orNone 4 = .ok (.iconst 1, 1) := dk_4 (dk_at dksX0_orNone_0 4 rfl rfl)
theorem dX0_orNone_5 : decode cX0_orNone 5 = .ok (.goto 4, 3) := dk_167 0 4 (dk_at dksX0_orNone_0 5 rfl rfl)
theorem dX0_orNone_8 : decode cX0_orNone 8 = .ok (.iconst 0, 1) := dk_3 (dk_at dksX0_orNone_0 8 rfl rfl)
theorem dX0_orNone_9 : decode cX0_orNone 9 = .ok (.iconst 3, 1) := dk_6 (dk_at dksX0_orNone_0 9 rfl rfl)
theorem dX0_orNone_10 : decode cX0_orNone 10 = .ok (.invokestatic 123, 3) := dk_184 0 123 (dk_at dksX0_orNone_0 10 rfl rfl)
theorem dX0_orNone_13 : decode cX0_orNone 13 = .ok (.iload_n 0, 1) := dk_26 (dk_at dksX0_orNone_0 13 rfl rfl)
theorem dX0_orNone_14 : decode cX0_orNone 14 = .ok (.ireturn, 1) := dk_172 (dk_at dksX0_orNone_0 14 rfl rfl)
abbrev cX0_most : ByteArray := prog_1_method_35_code
def yX0_most : MethodName := ⟨RX0, "most", "()I"⟩
def dkwX0_most_2 : List UInt8 := [132, 2, 1, 167, 255, 211, 27, 184, 1, 12, 172, 76, 42, 43, 182, 0, 136, 172]
abbrev dktX0_most_2 : List UInt8 := dkwX0_most_2 ++ []
def dkwX0_most_1 : List UInt8 := [182, 0, 215, 184, 1, 15, 42, 180, 0, 85, 27, 182, 0, 215, 184, 1, 15, 164, 0, 5, 28, 60]
abbrev dktX0_most_1 : List UInt8 := dkwX0_most_1 ++ dktX0_most_2
def dkwX0_most_0 : List UInt8 := [2, 60, 3, 61, 28, 42, 180, 0, 85, 180, 0, 130, 162, 0, 40, 27, 155, 0, 28, 42, 180, 0, 85, 28]
abbrev dktX0_most_0 : List UInt8 := dkwX0_most_0 ++ dktX0_most_1
theorem dksX0_most_0 : cX0_most.data.toList.drop 0 = dktX0_most_0 := by decide +kernel
theorem dksX0_most_1 : cX0_most.data.toList.drop 24 = dktX0_most_1 := dk_seg dksX0_most_0 24 rfl rfl
theorem dksX0_most_2 : cX0_most.data.toList.drop 46 = dktX0_most_2 := dk_seg dksX0_most_1 22 rfl rfl
theorem dX0_most_0 : decode cX0_most 0 = .ok (.iconst (-1), 1) := dk_2 (dk_at dksX0_most_0 0 rfl rfl)
theorem dX0_most_1 : decode cX0_most 1 = .ok (.istore_n 1, 1) := dk_60 (dk_at dksX0_most_0 1 rfl rfl)
theorem dX0_most_2 : decode cX0_most 2 = .ok (.iconst 0, 1) := dk_3 (dk_at dksX0_most_0 2 rfl rfl)
theorem dX0_most_3 : decode cX0_most 3 = .ok (.istore_n 2, 1) := dk_61 (dk_at dksX0_most_0 3 rfl rfl)
theorem dX0_most_4 : decode cX0_most 4 = .ok (.iload_n 2, 1) := dk_28 (dk_at dksX0_most_0 4 rfl rfl)
theorem dX0_most_5 : decode cX0_most 5 = .ok (.aload_n 0, 1) := dk_42 (dk_at dksX0_most_0 5 rfl rfl)
theorem dX0_most_6 : decode cX0_most 6 = .ok (.getfield 85, 3) := dk_180 0 85 (dk_at dksX0_most_0 6 rfl rfl)
theorem dX0_most_9 : decode cX0_most 9 = .ok (.getfield 130, 3) := dk_180 0 130 (dk_at dksX0_most_0 9 rfl rfl)
theorem dX0_most_12 : decode cX0_most 12 = .ok (.if_icmp .ge 40, 3) := dk_162 0 40 (dk_at dksX0_most_0 12 rfl rfl)
theorem dX0_most_15 : decode cX0_most 15 = .ok (.iload_n 1, 1) := dk_27 (dk_at dksX0_most_0 15 rfl rfl)
theorem dX0_most_16 : decode cX0_most 16 = .ok (.ifCond .lt 28, 3) := dk_155 0 28 (dk_at dksX0_most_0 16 rfl rfl)
theorem dX0_most_19 : decode cX0_most 19 = .ok (.aload_n 0, 1) := dk_42 (dk_at dksX0_most_0 19 rfl rfl)
theorem dX0_most_20 : decode cX0_most 20 = .ok (.getfield 85, 3) := dk_180 0 85 (dk_at dksX0_most_0 20 rfl rfl)
theorem dX0_most_23 : decode cX0_most 23 = .ok (.iload_n 2, 1) := dk_28 (dk_at dksX0_most_0 23 rfl rfl)
theorem dX0_most_24 : decode cX0_most 24 = .ok (.invokevirtual 215, 3) := dk_182 0 215 (dk_at dksX0_most_1 0 rfl rfl)
theorem dX0_most_27 : decode cX0_most 27 = .ok (.invokestatic 271, 3) := dk_184 1 15 (dk_at dksX0_most_1 3 rfl rfl)
theorem dX0_most_30 : decode cX0_most 30 = .ok (.aload_n 0, 1) := dk_42 (dk_at dksX0_most_1 6 rfl rfl)
theorem dX0_most_31 : decode cX0_most 31 = .ok (.getfield 85, 3) := dk_180 0 85 (dk_at dksX0_most_1 7 rfl rfl)
theorem dX0_most_34 : decode cX0_most 34 = .ok (.iload_n 1, 1) := dk_27 (dk_at dksX0_most_1 10 rfl rfl)
theorem dX0_most_35 : decode cX0_most 35 = .ok (.invokevirtual 215, 3) := dk_182 0 215 (dk_at dksX0_most_1 11 rfl rfl)
theorem dX0_most_38 : decode cX0_most 38 = .ok (.invokestatic 271, 3) := dk_184 1 15 (dk_at dksX0_most_1 14 rfl rfl)
theorem dX0_most_41 : decode cX0_most 41 = .ok (.if_icmp .le 5, 3) := dk_164 0 5 (dk_at dksX0_most_1 17 rfl rfl)
theorem dX0_most_44 : decode cX0_most 44 = .ok (.iload_n 2, 1) := dk_28 (dk_at dksX0_most_1 20 rfl rfl)
theorem dX0_most_45 : decode cX0_most 45 = .ok (.istore_n 1, 1) := dk_60 (dk_at dksX0_most_1 21 rfl rfl)
theorem dX0_most_46 : decode cX0_most 46 = .ok (.iinc 2 1, 3) := dk_132 2 1 (dk_at dksX0_most_2 0 rfl rfl)
theorem dX0_most_49 : decode cX0_most 49 = .ok (.goto (-45), 3) := dk_167 255 211 (dk_at dksX0_most_2 3 rfl rfl)
theorem dX0_most_52 : decode cX0_most 52 = .ok (.iload_n 1, 1) := dk_27 (dk_at dksX0_most_2 6 rfl rfl)
theorem dX0_most_53 : decode cX0_most 53 = .ok (.invokestatic 268, 3) := dk_184 1 12 (dk_at dksX0_most_2 7 rfl rfl)
theorem dX0_most_56 : decode cX0_most 56 = .ok (.ireturn, 1) := dk_172 (dk_at dksX0_most_2 10 rfl rfl)
theorem dX0_most_57 : decode cX0_most 57 = .ok (.astore_n 1, 1) := dk_76 (dk_at dksX0_most_2 11 rfl rfl)
theorem dX0_most_58 : decode cX0_most 58 = .ok (.aload_n 0, 1) := dk_42 (dk_at dksX0_most_2 12 rfl rfl)
theorem dX0_most_59 : decode cX0_most 59 = .ok (.aload_n 1, 1) := dk_43 (dk_at dksX0_most_2 13 rfl rfl)
theorem dX0_most_60 : decode cX0_most 60 = .ok (.invokevirtual 136, 3) := dk_182 0 136 (dk_at dksX0_most_2 14 rfl rfl)
theorem dX0_most_63 : decode cX0_most 63 = .ok (.ireturn, 1) := dk_172 (dk_at dksX0_most_2 17 rfl rfl)
abbrev cX0_stop : ByteArray := prog_1_method_40_code
def yX0_stop : MethodName := ⟨RX0, "stop", "(IIII)I"⟩
def dkwX0_stop_4 : List UInt8 := [167, 0, 11, 42, 42, 180, 1, 26, 182, 1, 29, 172, 58, 5, 42, 25, 5, 182, 0, 136, 172]
abbrev dktX0_stop_4 : List UInt8 := dkwX0_stop_4 ++ []
def dkwX0_stop_3 : List UInt8 := [21, 4, 154, 0, 10, 42, 180, 1, 26, 167, 0, 24, 21, 4, 4, 160, 0, 10, 42, 180, 1, 36]
abbrev dktX0_stop_3 : List UInt8 := dkwX0_stop_3 ++ dktX0_stop_4
def dkwX0_stop_2 : List UInt8 := [167, 0, 4, 3, 3, 184, 0, 123, 42, 27, 28, 29, 182, 1, 46, 42, 180, 1, 26, 184, 1, 12, 87]
abbrev dktX0_stop_2 : List UInt8 := dkwX0_stop_2 ++ dktX0_stop_3
def dkwX0_stop_1 : List UInt8 := [20, 1, 44, 184, 0, 14, 153, 0, 20, 21, 4, 133, 9, 20, 1, 10, 184, 0, 14, 153, 0, 7, 4]
abbrev dktX0_stop_1 : List UInt8 := dkwX0_stop_1 ++ dktX0_stop_2
def dkwX0_stop_0 : List UInt8 := [42, 27, 182, 1, 39, 153, 0, 44, 28, 133, 9, 20, 1, 42, 184, 0, 14, 153, 0, 32, 29, 133, 9]
abbrev dktX0_stop_0 : List UInt8 := dkwX0_stop_0 ++ dktX0_stop_1
theorem dksX0_stop_0 : cX0_stop.data.toList.drop 0 = dktX0_stop_0 := by decide +kernel
theorem dksX0_stop_1 : cX0_stop.data.toList.drop 23 = dktX0_stop_1 := dk_seg dksX0_stop_0 23 rfl rfl
theorem dksX0_stop_2 : cX0_stop.data.toList.drop 46 = dktX0_stop_2 := dk_seg dksX0_stop_1 23 rfl rfl
theorem dksX0_stop_3 : cX0_stop.data.toList.drop 69 = dktX0_stop_3 := dk_seg dksX0_stop_2 23 rfl rfl
theorem dksX0_stop_4 : cX0_stop.data.toList.drop 91 = dktX0_stop_4 := dk_seg dksX0_stop_3 22 rfl rfl
theorem dX0_stop_0 : decode cX0_stop 0 = .ok (.aload_n 0, 1) := dk_42 (dk_at dksX0_stop_0 0 rfl rfl)
theorem dX0_stop_1 : decode cX0_stop 1 = .ok (.iload_n 1, 1) := dk_27 (dk_at dksX0_stop_0 1 rfl rfl)
theorem dX0_stop_2 : decode cX0_stop 2 = .ok (.invokevirtual 295, 3) := dk_182 1 39 (dk_at dksX0_stop_0 2 rfl rfl)
theorem dX0_stop_5 : decode cX0_stop 5 = .ok (.ifCond .eq 44, 3) := dk_153 0 44 (dk_at dksX0_stop_0 5 rfl rfl)
theorem dX0_stop_8 : decode cX0_stop 8 = .ok (.iload_n 2, 1) := dk_28 (dk_at dksX0_stop_0 8 rfl rfl)
theorem dX0_stop_9 : decode cX0_stop 9 = .ok (.i2l, 1) := dk_133 (dk_at dksX0_stop_0 9 rfl rfl)
theorem dX0_stop_10 : decode cX0_stop 10 = .ok (.lconst 0, 1) := dk_9 (dk_at dksX0_stop_0 10 rfl rfl)
theorem dX0_stop_11 : decode cX0_stop 11 = .ok (.ldc2_w 298, 3) := dk_20 1 42 (dk_at dksX0_stop_0 11 rfl rfl)
theorem dX0_stop_14 : decode cX0_stop 14 = .ok (.invokestatic 14, 3) := dk_184 0 14 (dk_at dksX0_stop_0 14 rfl rfl)
theorem dX0_stop_17 : decode cX0_stop 17 = .ok (.ifCond .eq 32, 3) := dk_153 0 32 (dk_at dksX0_stop_0 17 rfl rfl)
theorem dX0_stop_20 : decode cX0_stop 20 = .ok (.iload_n 3, 1) := dk_29 (dk_at dksX0_stop_0 20 rfl rfl)
theorem dX0_stop_21 : decode cX0_stop 21 = .ok (.i2l, 1) := dk_133 (dk_at dksX0_stop_0 21 rfl rfl)
theorem dX0_stop_22 : decode cX0_stop 22 = .ok (.lconst 0, 1) := dk_9 (dk_at dksX0_stop_0 22 rfl rfl)
theorem dX0_stop_23 : decode cX0_stop 23 = .ok (.ldc2_w 300, 3) := dk_20 1 44 (dk_at dksX0_stop_1 0 rfl rfl)
theorem dX0_stop_26 : decode cX0_stop 26 = .ok (.invokestatic 14, 3) := dk_184 0 14 (dk_at dksX0_stop_1 3 rfl rfl)
theorem dX0_stop_29 : decode cX0_stop 29 = .ok (.ifCond .eq 20, 3) := dk_153 0 20 (dk_at dksX0_stop_1 6 rfl rfl)
theorem dX0_stop_32 : decode cX0_stop 32 = .ok (.iload 4, 2) := dk_21 4 (dk_at dksX0_stop_1 9 rfl rfl)
theorem dX0_stop_34 : decode cX0_stop 34 = .ok (.i2l, 1) := dk_133 (dk_at dksX0_stop_1 11 rfl rfl)
theorem dX0_stop_35 : decode cX0_stop 35 = .ok (.lconst 0, 1) := dk_9 (dk_at dksX0_stop_1 12 rfl rfl)
theorem dX0_stop_36 : decode cX0_stop 36 = .ok (.ldc2_w 266, 3) := dk_20 1 10 (dk_at dksX0_stop_1 13 rfl rfl)
theorem dX0_stop_39 : decode cX0_stop 39 = .ok (.invokestatic 14, 3) := dk_184 0 14 (dk_at dksX0_stop_1 16 rfl rfl)
theorem dX0_stop_42 : decode cX0_stop 42 = .ok (.ifCond .eq 7, 3) := dk_153 0 7 (dk_at dksX0_stop_1 19 rfl rfl)
theorem dX0_stop_45 : decode cX0_stop 45 = .ok (.iconst 1, 1) := dk_4 (dk_at dksX0_stop_1 22 rfl rfl)
theorem dX0_stop_46 : decode cX0_stop 46 = .ok (.goto 4, 3) := dk_167 0 4 (dk_at dksX0_stop_2 0 rfl rfl)
theorem dX0_stop_49 : decode cX0_stop 49 = .ok (.iconst 0, 1) := dk_3 (dk_at dksX0_stop_2 3 rfl rfl)
theorem dX0_stop_50 : decode cX0_stop 50 = .ok (.iconst 0, 1) := dk_3 (dk_at dksX0_stop_2 4 rfl rfl)
theorem dX0_stop_51 : decode cX0_stop 51 = .ok (.invokestatic 123, 3) := dk_184 0 123 (dk_at dksX0_stop_2 5 rfl rfl)
theorem dX0_stop_54 : decode cX0_stop 54 = .ok (.aload_n 0, 1) := dk_42 (dk_at dksX0_stop_2 8 rfl rfl)
theorem dX0_stop_55 : decode cX0_stop 55 = .ok (.iload_n 1, 1) := dk_27 (dk_at dksX0_stop_2 9 rfl rfl)
theorem dX0_stop_56 : decode cX0_stop 56 = .ok (.iload_n 2, 1) := dk_28 (dk_at dksX0_stop_2 10 rfl rfl)
theorem dX0_stop_57 : decode cX0_stop 57 = .ok (.iload_n 3, 1) := dk_29 (dk_at dksX0_stop_2 11 rfl rfl)
theorem dX0_stop_58 : decode cX0_stop 58 = .ok (.invokevirtual 302, 3) := dk_182 1 46 (dk_at dksX0_stop_2 12 rfl rfl)
theorem dX0_stop_61 : decode cX0_stop 61 = .ok (.aload_n 0, 1) := dk_42 (dk_at dksX0_stop_2 15 rfl rfl)
theorem dX0_stop_62 : decode cX0_stop 62 = .ok (.getfield 282, 3) := dk_180 1 26 (dk_at dksX0_stop_2 16 rfl rfl)
theorem dX0_stop_65 : decode cX0_stop 65 = .ok (.invokestatic 268, 3) := dk_184 1 12 (dk_at dksX0_stop_2 19 rfl rfl)
theorem dX0_stop_68 : decode cX0_stop 68 = .ok (.pop, 1) := dk_87 (dk_at dksX0_stop_2 22 rfl rfl)
theorem dX0_stop_69 : decode cX0_stop 69 = .ok (.iload 4, 2) := dk_21 4 (dk_at dksX0_stop_3 0 rfl rfl)
theorem dX0_stop_71 : decode cX0_stop 71 = .ok (.ifCond .ne 10, 3) := dk_154 0 10 (dk_at dksX0_stop_3 2 rfl rfl)
theorem dX0_stop_74 : decode cX0_stop 74 = .ok (.aload_n 0, 1) := dk_42 (dk_at dksX0_stop_3 5 rfl rfl)
theorem dX0_stop_75 : decode cX0_stop 75 = .ok (.getfield 282, 3) := dk_180 1 26 (dk_at dksX0_stop_3 6 rfl rfl)
theorem dX0_stop_78 : decode cX0_stop 78 = .ok (.goto 24, 3) := dk_167 0 24 (dk_at dksX0_stop_3 9 rfl rfl)
theorem dX0_stop_81 : decode cX0_stop 81 = .ok (.iload 4, 2) := dk_21 4 (dk_at dksX0_stop_3 12 rfl rfl)
theorem dX0_stop_83 : decode cX0_stop 83 = .ok (.iconst 1, 1) := dk_4 (dk_at dksX0_stop_3 14 rfl rfl)
theorem dX0_stop_84 : decode cX0_stop 84 = .ok (.if_icmp .ne 10, 3) := dk_160 0 10 (dk_at dksX0_stop_3 15 rfl rfl)
theorem dX0_stop_87 : decode cX0_stop 87 = .ok (.aload_n 0, 1) := dk_42 (dk_at dksX0_stop_3 18 rfl rfl)
theorem dX0_stop_88 : decode cX0_stop 88 = .ok (.getfield 292, 3) := dk_180 1 36 (dk_at dksX0_stop_3 19 rfl rfl)
theorem dX0_stop_91 : decode cX0_stop 91 = .ok (.goto 11, 3) := dk_167 0 11 (dk_at dksX0_stop_4 0 rfl rfl)
theorem dX0_stop_94 : decode cX0_stop 94 = .ok (.aload_n 0, 1) := dk_42 (dk_at dksX0_stop_4 3 rfl rfl)
theorem dX0_stop_95 : decode cX0_stop 95 = .ok (.aload_n 0, 1) := dk_42 (dk_at dksX0_stop_4 4 rfl rfl)
theorem dX0_stop_96 : decode cX0_stop 96 = .ok (.getfield 282, 3) := dk_180 1 26 (dk_at dksX0_stop_4 5 rfl rfl)
theorem dX0_stop_99 : decode cX0_stop 99 = .ok (.invokevirtual 285, 3) := dk_182 1 29 (dk_at dksX0_stop_4 8 rfl rfl)
theorem dX0_stop_102 : decode cX0_stop 102 = .ok (.ireturn, 1) := dk_172 (dk_at dksX0_stop_4 11 rfl rfl)
theorem dX0_stop_103 : decode cX0_stop 103 = .ok (.astore 5, 2) := dk_58 5 (dk_at dksX0_stop_4 12 rfl rfl)
theorem dX0_stop_105 : decode cX0_stop 105 = .ok (.aload_n 0, 1) := dk_42 (dk_at dksX0_stop_4 14 rfl rfl)
theorem dX0_stop_106 : decode cX0_stop 106 = .ok (.aload 5, 2) := dk_25 5 (dk_at dksX0_stop_4 15 rfl rfl)
theorem dX0_stop_108 : decode cX0_stop 108 = .ok (.invokevirtual 136, 3) := dk_182 0 136 (dk_at dksX0_stop_4 17 rfl rfl)
theorem dX0_stop_111 : decode cX0_stop 111 = .ok (.ireturn, 1) := dk_172 (dk_at dksX0_stop_4 20 rfl rfl)
abbrev cX0_isOpenSet : ByteArray := prog_1_method_38_code
def yX0_isOpenSet : MethodName := ⟨RX0, "isOpenSet", "(I)Z"⟩
def dkwX0_isOpenSet_3 : List UInt8 := [180, 0, 75, 154, 0, 7, 4, 167, 0, 4, 3, 61, 132, 3, 1, 167, 255, 210, 28, 172]
abbrev dktX0_isOpenSet_3 : List UInt8 := dkwX0_isOpenSet_3 ++ []
def dkwX0_isOpenSet_2 : List UInt8 := [162, 0, 41, 28, 153, 0, 37, 27, 29, 184, 1, 18, 153, 0, 17, 42, 180, 0, 85, 29, 182, 0, 172]
abbrev dktX0_isOpenSet_2 : List UInt8 := dkwX0_isOpenSet_2 ++ dktX0_isOpenSet_3
def dkwX0_isOpenSet_1 : List UInt8 := [184, 1, 21, 16, 10, 163, 0, 7, 4, 167, 0, 4, 3, 61, 3, 62, 29, 42, 180, 0, 85, 180, 0, 130]
abbrev dktX0_isOpenSet_1 : List UInt8 := dkwX0_isOpenSet_1 ++ dktX0_isOpenSet_2
def dkwX0_isOpenSet_0 : List UInt8 := [27, 133, 9, 4, 42, 180, 0, 85, 180, 0, 130, 120, 4, 100, 133, 184, 0, 14, 153, 0, 16, 27]
abbrev dktX0_isOpenSet_0 : List UInt8 := dkwX0_isOpenSet_0 ++ dktX0_isOpenSet_1
theorem dksX0_isOpenSet_0 : cX0_isOpenSet.data.toList.drop 0 = dktX0_isOpenSet_0 := by decide +kernel
theorem dksX0_isOpenSet_1 : cX0_isOpenSet.data.toList.drop 22 = dktX0_isOpenSet_1 := dk_seg dksX0_isOpenSet_0 22 rfl rfl
theorem dksX0_isOpenSet_2 : cX0_isOpenSet.data.toList.drop 46 = dktX0_isOpenSet_2 := dk_seg dksX0_isOpenSet_1 24 rfl rfl
theorem dksX0_isOpenSet_3 : cX0_isOpenSet.data.toList.drop 69 = dktX0_isOpenSet_3 := dk_seg dksX0_isOpenSet_2 23 rfl rfl
theorem dX0_isOpenSet_0 : decode cX0_isOpenSet 0 = .ok (.iload_n 1, 1) := dk_27 (dk_at dksX0_isOpenSet_0 0 rfl rfl)
theorem dX0_isOpenSet_1 : decode cX0_isOpenSet 1 = .ok (.i2l, 1) := dk_133 (dk_at dksX0_isOpenSet_0 1 rfl rfl)
theorem dX0_isOpenSet_2 : decode cX0_isOpenSet 2 = .ok (.lconst 0, 1) := dk_9 (dk_at dksX0_isOpenSet_0 2 rfl rfl)
theorem dX0_isOpenSet_3 : decode cX0_isOpenSet 3 = .ok (.iconst 1, 1) := dk_4 (dk_at dksX0_isOpenSet_0 3 rfl rfl)
theorem dX0_isOpenSet_4 : decode cX0_isOpenSet 4 = .ok (.aload_n 0, 1) := dk_42 (dk_at dksX0_isOpenSet_0 4 rfl rfl)
theorem dX0_isOpenSet_5 : decode cX0_isOpenSet 5 = .ok (.getfield 85, 3) := dk_180 0 85 (dk_at dksX0_isOpenSet_0 5 rfl rfl)
theorem dX0_isOpenSet_8 : decode cX0_isOpenSet 8 = .ok (.getfield 130, 3) := dk_180 0 130 (dk_at dksX0_isOpenSet_0 8 rfl rfl)
theorem dX0_isOpenSet_11 : decode cX0_isOpenSet 11 = .ok (.ishl, 1) := dk_120 (dk_at dksX0_isOpenSet_0 11 rfl rfl)
theorem dX0_isOpenSet_12 : decode cX0_isOpenSet 12 = .ok (.iconst 1, 1) := dk_4 (dk_at dksX0_isOpenSet_0 12 rfl rfl)
theorem dX0_isOpenSet_13 : decode cX0_isOpenSet 13 = .ok (.isub, 1) := dk_100 (dk_at dksX0_isOpenSet_0 13 rfl rfl)
theorem dX0_isOpenSet_14 : decode cX0_isOpenSet 14 = .ok (.i2l, 1) := dk_133 (dk_at dksX0_isOpenSet_0 14 rfl rfl)
theorem dX0_isOpenSet_15 : decode cX0_isOpenSet 15 = .ok (.invokestatic 14, 3) := dk_184 0 14 (dk_at dksX0_isOpenSet_0 15 rfl rfl)
theorem dX0_isOpenSet_18 : decode cX0_isOpenSet 18 = .ok (.ifCond .eq 16, 3) := dk_153 0 16 (dk_at dksX0_isOpenSet_0 18 rfl rfl)
theorem dX0_isOpenSet_21 : decode cX0_isOpenSet 21 = .ok (.iload_n 1, 1) := dk_27 (dk_at dksX0_isOpenSet_0 21 rfl rfl)
theorem dX0_isOpenSet_22 : decode cX0_isOpenSet 22 = .ok (.invokestatic 277, 3) := dk_184 1 21 (dk_at dksX0_isOpenSet_1 0 rfl rfl)
theorem dX0_isOpenSet_25 : decode cX0_isOpenSet 25 = .ok (.bipush 10, 2) := dk_16 10 (dk_at dksX0_isOpenSet_1 3 rfl rfl)
theorem dX0_isOpenSet_27 : decode cX0_isOpenSet 27 = .ok (.if_icmp .gt 7, 3) := dk_163 0 7 (dk_at dksX0_isOpenSet_1 5 rfl rfl)
theorem dX0_isOpenSet_30 : decode cX0_isOpenSet 30 = .ok (.iconst 1, 1) := dk_4 (dk_at dksX0_isOpenSet_1 8 rfl rfl)
theorem dX0_isOpenSet_31 : decode cX0_isOpenSet 31 = .ok (.goto 4, 3) := dk_167 0 4 (dk_at dksX0_isOpenSet_1 9 rfl rfl)
theorem dX0_isOpenSet_34 : decode cX0_isOpenSet 34 = .ok (.iconst 0, 1) := dk_3 (dk_at dksX0_isOpenSet_1 12 rfl rfl)
theorem dX0_isOpenSet_35 : decode cX0_isOpenSet 35 = .ok (.istore_n 2, 1) := dk_61 (dk_at dksX0_isOpenSet_1 13 rfl rfl)
theorem dX0_isOpenSet_36 : decode cX0_isOpenSet 36 = .ok (.iconst 0, 1) := dk_3 (dk_at dksX0_isOpenSet_1 14 rfl rfl)
theorem dX0_isOpenSet_37 : decode cX0_isOpenSet 37 = .ok (.istore_n 3, 1) := dk_62 (dk_at dksX0_isOpenSet_1 15 rfl rfl)
theorem dX0_isOpenSet_38 : decode cX0_isOpenSet 38 = .ok (.iload_n 3, 1) := dk_29 (dk_at dksX0_isOpenSet_1 16 rfl rfl)
theorem dX0_isOpenSet_39 : decode cX0_isOpenSet 39 = .ok (.aload_n 0, 1) := dk_42 (dk_at dksX0_isOpenSet_1 17 rfl rfl)
theorem dX0_isOpenSet_40 : decode cX0_isOpenSet 40 = .ok (.getfield 85, 3) := dk_180 0 85 (dk_at dksX0_isOpenSet_1 18 rfl rfl)
theorem dX0_isOpenSet_43 : decode cX0_isOpenSet 43 = .ok (.getfield 130, 3) := dk_180 0 130 (dk_at dksX0_isOpenSet_1 21 rfl rfl)
theorem dX0_isOpenSet_46 : decode cX0_isOpenSet 46 = .ok (.if_icmp .ge 41, 3) := dk_162 0 41 (dk_at dksX0_isOpenSet_2 0 rfl rfl)
theorem dX0_isOpenSet_49 : decode cX0_isOpenSet 49 = .ok (.iload_n 2, 1) := dk_28 (dk_at dksX0_isOpenSet_2 3 rfl rfl)
theorem dX0_isOpenSet_50 : decode cX0_isOpenSet 50 = .ok (.ifCond .eq 37, 3) := dk_153 0 37 (dk_at dksX0_isOpenSet_2 4 rfl rfl)
theorem dX0_isOpenSet_53 : decode cX0_isOpenSet 53 = .ok (.iload_n 1, 1) := dk_27 (dk_at dksX0_isOpenSet_2 7 rfl rfl)
theorem dX0_isOpenSet_54 : decode cX0_isOpenSet 54 = .ok (.iload_n 3, 1) := dk_29 (dk_at dksX0_isOpenSet_2 8 rfl rfl)
theorem dX0_isOpenSet_55 : decode cX0_isOpenSet 55 = .ok (.invokestatic 274, 3) := dk_184 1 18 (dk_at dksX0_isOpenSet_2 9 rfl rfl)
theorem dX0_isOpenSet_58 : decode cX0_isOpenSet 58 = .ok (.ifCond .eq 17, 3) := dk_153 0 17 (dk_at dksX0_isOpenSet_2 12 rfl rfl)
theorem dX0_isOpenSet_61 : decode cX0_isOpenSet 61 = .ok (.aload_n 0, 1) := dk_42 (dk_at dksX0_isOpenSet_2 15 rfl rfl)
theorem dX0_isOpenSet_62 : decode cX0_isOpenSet 62 = .ok (.getfield 85, 3) := dk_180 0 85 (dk_at dksX0_isOpenSet_2 16 rfl rfl)
theorem dX0_isOpenSet_65 : decode cX0_isOpenSet 65 = .ok (.iload_n 3, 1) := dk_29 (dk_at dksX0_isOpenSet_2 19 rfl rfl)
theorem dX0_isOpenSet_66 : decode cX0_isOpenSet 66 = .ok (.invokevirtual 172, 3) := dk_182 0 172 (dk_at dksX0_isOpenSet_2 20 rfl rfl)
theorem dX0_isOpenSet_69 : decode cX0_isOpenSet 69 = .ok (.getfield 75, 3) := dk_180 0 75 (dk_at dksX0_isOpenSet_3 0 rfl rfl)
theorem dX0_isOpenSet_72 : decode cX0_isOpenSet 72 = .ok (.ifCond .ne 7, 3) := dk_154 0 7 (dk_at dksX0_isOpenSet_3 3 rfl rfl)
theorem dX0_isOpenSet_75 : decode cX0_isOpenSet 75 = .ok (.iconst 1, 1) := dk_4 (dk_at dksX0_isOpenSet_3 6 rfl rfl)
theorem dX0_isOpenSet_76 : decode cX0_isOpenSet 76 = .ok (.goto 4, 3) := dk_167 0 4 (dk_at dksX0_isOpenSet_3 7 rfl rfl)
theorem dX0_isOpenSet_79 : decode cX0_isOpenSet 79 = .ok (.iconst 0, 1) := dk_3 (dk_at dksX0_isOpenSet_3 10 rfl rfl)
theorem dX0_isOpenSet_80 : decode cX0_isOpenSet 80 = .ok (.istore_n 2, 1) := dk_61 (dk_at dksX0_isOpenSet_3 11 rfl rfl)
theorem dX0_isOpenSet_81 : decode cX0_isOpenSet 81 = .ok (.iinc 3 1, 3) := dk_132 3 1 (dk_at dksX0_isOpenSet_3 12 rfl rfl)
theorem dX0_isOpenSet_84 : decode cX0_isOpenSet 84 = .ok (.goto (-46), 3) := dk_167 255 210 (dk_at dksX0_isOpenSet_3 15 rfl rfl)
theorem dX0_isOpenSet_87 : decode cX0_isOpenSet 87 = .ok (.iload_n 2, 1) := dk_28 (dk_at dksX0_isOpenSet_3 18 rfl rfl)
theorem dX0_isOpenSet_88 : decode cX0_isOpenSet 88 = .ok (.ireturn, 1) := dk_172 (dk_at dksX0_isOpenSet_3 19 rfl rfl)
