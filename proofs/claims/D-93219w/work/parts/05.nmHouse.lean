/-! SmokeLeans$House -/
set_option maxRecDepth 100000
def RX1 : String := "SmokeLeans$House"
def TX1 : u_T := fun k => match k with
  | 0 => ("SmokeLeans$House", "rooms", "I", false)
  | 1 => ("SmokeLeans$House", "gaps", "I", false)
  | 2 => ("SmokeLeans$House", "gap", "[LSmokeLeans$Slot;", true)
  | 3 => ("SmokeLeans$House", "night", "[I", true)
  | 4 => ("SmokeLeans$House", "z", "I", false)
  | 5 => ("SmokeLeans$House", "isFresh", "Z", false)
  | 6 => ("SmokeLeans$House", "pressure", "[I", true)
  | 7 => ("SmokeLeans$House", "before", "[I", true)
  | 8 => ("SmokeLeans$House", "rounds", "I", false)
  | _ => ("SmokeLeans$House", "isRestless", "Z", false)
def tyX1 : Nat → FieldType := fun k => match k with
  | 0 => .int
  | 1 => .int
  | 2 => .array (.object "SmokeLeans$Slot")
  | 3 => .array .int
  | 4 => .int
  | 5 => .boolean
  | 6 => .array .int
  | 7 => .array .int
  | 8 => .int
  | _ => .boolean
abbrev wsX10 : List Cond := u_ws RX1 TX1 10
theorem nmX1 : ∀ a, a < 10 → ∀ b, b < 10 → a ≠ b → (TX1 a).2.1 ≠ (TX1 b).2.1 := by decide +kernel
theorem tyX1_ok : ∀ k, k < 10 → parseFieldDescriptor (TX1 k).2.2.1 = some (tyX1 k) := by decide +kernel
abbrev cX1_init : ByteArray := prog_8_method_1_code
def yX1_init : MethodName := ⟨RX1, "<init>", "()V"⟩
def dkwX1_init_2 : List UInt8 := [181, 0, 23, 42, 16, 6, 188, 10, 181, 0, 27, 42, 16, 6, 188, 10, 181, 0, 30, 177]
abbrev dktX1_init_2 : List UInt8 := dkwX1_init_2 ++ []
def dkwX1_init_1 : List UInt8 := [4, 3, 79, 89, 5, 3, 79, 89, 6, 3, 79, 89, 7, 8, 79, 89, 8, 3, 79, 181, 0, 19, 42, 4]
abbrev dktX1_init_1 : List UInt8 := dkwX1_init_1 ++ dktX1_init_2
def dkwX1_init_0 : List UInt8 := [42, 183, 0, 3, 42, 16, 20, 184, 0, 9, 181, 0, 13, 42, 16, 6, 188, 10, 89, 3, 16, 10, 79, 89]
abbrev dktX1_init_0 : List UInt8 := dkwX1_init_0 ++ dktX1_init_1
theorem dksX1_init_0 : cX1_init.data.toList.drop 0 = dktX1_init_0 := by decide +kernel
theorem dksX1_init_1 : cX1_init.data.toList.drop 24 = dktX1_init_1 := dk_seg dksX1_init_0 24 rfl rfl
theorem dksX1_init_2 : cX1_init.data.toList.drop 48 = dktX1_init_2 := dk_seg dksX1_init_1 24 rfl rfl
theorem dX1_init_0 : decode cX1_init 0 = .ok (.aload_n 0, 1) := dk_42 (dk_at dksX1_init_0 0 rfl rfl)
theorem dX1_init_1 : decode cX1_init 1 = .ok (.invokespecial 3, 3) := dk_183 0 3 (dk_at dksX1_init_0 1 rfl rfl)
theorem dX1_init_4 : decode cX1_init 4 = .ok (.aload_n 0, 1) := dk_42 (dk_at dksX1_init_0 4 rfl rfl)
theorem dX1_init_5 : decode cX1_init 5 = .ok (.bipush 20, 2) := dk_16 20 (dk_at dksX1_init_0 5 rfl rfl)
theorem dX1_init_7 : decode cX1_init 7 = .ok (.invokestatic 9, 3) := dk_184 0 9 (dk_at dksX1_init_0 7 rfl rfl)
theorem dX1_init_10 : decode cX1_init 10 = .ok (.putfield 13, 3) := dk_181 0 13 (dk_at dksX1_init_0 10 rfl rfl)
theorem dX1_init_13 : decode cX1_init 13 = .ok (.aload_n 0, 1) := dk_42 (dk_at dksX1_init_0 13 rfl rfl)
theorem dX1_init_14 : decode cX1_init 14 = .ok (.bipush 6, 2) := dk_16 6 (dk_at dksX1_init_0 14 rfl rfl)
theorem dX1_init_16 : decode cX1_init 16 = .ok (.newarray .int, 2) := dk_188_10 (dk_at dksX1_init_0 16 rfl rfl)
theorem dX1_init_18 : decode cX1_init 18 = .ok (.dup, 1) := dk_89 (dk_at dksX1_init_0 18 rfl rfl)
theorem dX1_init_19 : decode cX1_init 19 = .ok (.iconst 0, 1) := dk_3 (dk_at dksX1_init_0 19 rfl rfl)
theorem dX1_init_20 : decode cX1_init 20 = .ok (.bipush 10, 2) := dk_16 10 (dk_at dksX1_init_0 20 rfl rfl)
theorem dX1_init_22 : decode cX1_init 22 = .ok (.iastore, 1) := dk_79 (dk_at dksX1_init_0 22 rfl rfl)
theorem dX1_init_23 : decode cX1_init 23 = .ok (.dup, 1) := dk_89 (dk_at dksX1_init_0 23 rfl rfl)
theorem dX1_init_24 : decode cX1_init 24 = .ok (.iconst 1, 1) := dk_4 (dk_at dksX1_init_1 0 rfl rfl)
theorem dX1_init_25 : decode cX1_init 25 = .ok (.iconst 0, 1) := dk_3 (dk_at dksX1_init_1 1 rfl rfl)
theorem dX1_init_26 : decode cX1_init 26 = .ok (.iastore, 1) := dk_79 (dk_at dksX1_init_1 2 rfl rfl)
theorem dX1_init_27 : decode cX1_init 27 = .ok (.dup, 1) := dk_89 (dk_at dksX1_init_1 3 rfl rfl)
theorem dX1_init_28 : decode cX1_init 28 = .ok (.iconst 2, 1) := dk_5 (dk_at dksX1_init_1 4 rfl rfl)
theorem dX1_init_29 : decode cX1_init 29 = .ok (.iconst 0, 1) := dk_3 (dk_at dksX1_init_1 5 rfl rfl)
theorem dX1_init_30 : decode cX1_init 30 = .ok (.iastore, 1) := dk_79 (dk_at dksX1_init_1 6 rfl rfl)
theorem dX1_init_31 : decode cX1_init 31 = .ok (.dup, 1) := dk_89 (dk_at dksX1_init_1 7 rfl rfl)
theorem dX1_init_32 : decode cX1_init 32 = .ok (.iconst 3, 1) := dk_6 (dk_at dksX1_init_1 8 rfl rfl)
theorem dX1_init_33 : decode cX1_init 33 = .ok (.iconst 0, 1) := dk_3 (dk_at dksX1_init_1 9 rfl rfl)
theorem dX1_init_34 : decode cX1_init 34 = .ok (.iastore, 1) := dk_79 (dk_at dksX1_init_1 10 rfl rfl)
theorem dX1_init_35 : decode cX1_init 35 = .ok (.dup, 1) := dk_89 (dk_at dksX1_init_1 11 rfl rfl)
theorem dX1_init_36 : decode cX1_init 36 = .ok (.iconst 4, 1) := dk_7 (dk_at dksX1_init_1 12 rfl rfl)
theorem dX1_init_37 : decode cX1_init 37 = .ok (.iconst 5, 1) := dk_8 (dk_at dksX1_init_1 13 rfl rfl)
theorem dX1_init_38 : decode cX1_init 38 = .ok (.iastore, 1) := dk_79 (dk_at dksX1_init_1 14 rfl rfl)
theorem dX1_init_39 : decode cX1_init 39 = .ok (.dup, 1) := dk_89 (dk_at dksX1_init_1 15 rfl rfl)
theorem dX1_init_40 : decode cX1_init 40 = .ok (.iconst 5, 1) := dk_8 (dk_at dksX1_init_1 16 rfl rfl)
theorem dX1_init_41 : decode cX1_init 41 = .ok (.iconst 0, 1) := dk_3 (dk_at dksX1_init_1 17 rfl rfl)
theorem dX1_init_42 : decode cX1_init 42 = .ok (.iastore, 1) := dk_79 (dk_at dksX1_init_1 18 rfl rfl)
theorem dX1_init_43 : decode cX1_init 43 = .ok (.putfield 19, 3) := dk_181 0 19 (dk_at dksX1_init_1 19 rfl rfl)
theorem dX1_init_46 : decode cX1_init 46 = .ok (.aload_n 0, 1) := dk_42 (dk_at dksX1_init_1 22 rfl rfl)
theorem dX1_init_47 : decode cX1_init 47 = .ok (.iconst 1, 1) := dk_4 (dk_at dksX1_init_1 23 rfl rfl)
theorem dX1_init_48 : decode cX1_init 48 = .ok (.putfield 23, 3) := dk_181 0 23 (dk_at dksX1_init_2 0 rfl rfl)
theorem dX1_init_51 : decode cX1_init 51 = .ok (.aload_n 0, 1) := dk_42 (dk_at dksX1_init_2 3 rfl rfl)
theorem dX1_init_52 : decode cX1_init 52 = .ok (.bipush 6, 2) := dk_16 6 (dk_at dksX1_init_2 4 rfl rfl)
theorem dX1_init_54 : decode cX1_init 54 = .ok (.newarray .int, 2) := dk_188_10 (dk_at dksX1_init_2 6 rfl rfl)
theorem dX1_init_56 : decode cX1_init 56 = .ok (.putfield 27, 3) := dk_181 0 27 (dk_at dksX1_init_2 8 rfl rfl)
theorem dX1_init_59 : decode cX1_init 59 = .ok (.aload_n 0, 1) := dk_42 (dk_at dksX1_init_2 11 rfl rfl)
theorem dX1_init_60 : decode cX1_init 60 = .ok (.bipush 6, 2) := dk_16 6 (dk_at dksX1_init_2 12 rfl rfl)
theorem dX1_init_62 : decode cX1_init 62 = .ok (.newarray .int, 2) := dk_188_10 (dk_at dksX1_init_2 14 rfl rfl)
theorem dX1_init_64 : decode cX1_init 64 = .ok (.putfield 30, 3) := dk_181 0 30 (dk_at dksX1_init_2 16 rfl rfl)
theorem dX1_init_67 : decode cX1_init 67 = .ok (.return_, 1) := dk_177 (dk_at dksX1_init_2 19 rfl rfl)
abbrev cX1_changes : ByteArray := prog_8_method_4_code
def yX1_changes : MethodName := ⟨RX1, "changes", "()V"⟩
def dkwX1_changes_0 : List UInt8 := [42, 3, 181, 0, 63, 177]
abbrev dktX1_changes_0 : List UInt8 := dkwX1_changes_0 ++ []
theorem dksX1_changes_0 : cX1_changes.data.toList.drop 0 = dktX1_changes_0 := by decide +kernel
theorem dX1_changes_0 : decode cX1_changes 0 = .ok (.aload_n 0, 1) := dk_42 (dk_at dksX1_changes_0 0 rfl rfl)
theorem dX1_changes_1 : decode cX1_changes 1 = .ok (.iconst 0, 1) := dk_3 (dk_at dksX1_changes_0 1 rfl rfl)
theorem dX1_changes_2 : decode cX1_changes 2 = .ok (.putfield 63, 3) := dk_181 0 63 (dk_at dksX1_changes_0 2 rfl rfl)
theorem dX1_changes_5 : decode cX1_changes 5 = .ok (.return_, 1) := dk_177 (dk_at dksX1_changes_0 5 rfl rfl)
abbrev cX1_gap : ByteArray := prog_8_method_3_code
def yX1_gap : MethodName := ⟨RX1, "gap", "(I)LSmokeLeans$Gap;"⟩
def dkwX1_gap_0 : List UInt8 := [42, 180, 0, 13, 27, 50, 180, 0, 46, 192, 0, 61, 176]
abbrev dktX1_gap_0 : List UInt8 := dkwX1_gap_0 ++ []
theorem dksX1_gap_0 : cX1_gap.data.toList.drop 0 = dktX1_gap_0 := by decide +kernel
theorem dX1_gap_0 : decode cX1_gap 0 = .ok (.aload_n 0, 1) := dk_42 (dk_at dksX1_gap_0 0 rfl rfl)
theorem dX1_gap_1 : decode cX1_gap 1 = .ok (.getfield 13, 3) := dk_180 0 13 (dk_at dksX1_gap_0 1 rfl rfl)
theorem dX1_gap_4 : decode cX1_gap 4 = .ok (.iload_n 1, 1) := dk_27 (dk_at dksX1_gap_0 4 rfl rfl)
theorem dX1_gap_5 : decode cX1_gap 5 = .ok (.aaload, 1) := dk_50 (dk_at dksX1_gap_0 5 rfl rfl)
theorem dX1_gap_6 : decode cX1_gap 6 = .ok (.getfield 46, 3) := dk_180 0 46 (dk_at dksX1_gap_0 6 rfl rfl)
theorem dX1_gap_9 : decode cX1_gap 9 = .ok (.checkcast 61, 3) := dk_192 0 61 (dk_at dksX1_gap_0 9 rfl rfl)
theorem dX1_gap_12 : decode cX1_gap 12 = .ok (.areturn, 1) := dk_176 (dk_at dksX1_gap_0 12 rfl rfl)
abbrev cX1_breadth : ByteArray := prog_8_method_5_code
def yX1_breadth : MethodName := ⟨RX1, "breadth", "(I)I"⟩
def dkwX1_breadth_0 : List UInt8 := [42, 27, 182, 0, 39, 42, 180, 0, 19, 182, 0, 67, 172]
abbrev dktX1_breadth_0 : List UInt8 := dkwX1_breadth_0 ++ []
theorem dksX1_breadth_0 : cX1_breadth.data.toList.drop 0 = dktX1_breadth_0 := by decide +kernel
theorem dX1_breadth_0 : decode cX1_breadth 0 = .ok (.aload_n 0, 1) := dk_42 (dk_at dksX1_breadth_0 0 rfl rfl)
theorem dX1_breadth_1 : decode cX1_breadth 1 = .ok (.iload_n 1, 1) := dk_27 (dk_at dksX1_breadth_0 1 rfl rfl)
theorem dX1_breadth_2 : decode cX1_breadth 2 = .ok (.invokevirtual 39, 3) := dk_182 0 39 (dk_at dksX1_breadth_0 2 rfl rfl)
theorem dX1_breadth_5 : decode cX1_breadth 5 = .ok (.aload_n 0, 1) := dk_42 (dk_at dksX1_breadth_0 5 rfl rfl)
theorem dX1_breadth_6 : decode cX1_breadth 6 = .ok (.getfield 19, 3) := dk_180 0 19 (dk_at dksX1_breadth_0 6 rfl rfl)
theorem dX1_breadth_9 : decode cX1_breadth 9 = .ok (.invokevirtual 67, 3) := dk_182 0 67 (dk_at dksX1_breadth_0 9 rfl rfl)
theorem dX1_breadth_12 : decode cX1_breadth 12 = .ok (.ireturn, 1) := dk_172 (dk_at dksX1_breadth_0 12 rfl rfl)
abbrev cX1_shuts : ByteArray := prog_8_method_20_code
def yX1_shuts : MethodName := ⟨RX1, "shuts", "(IZ)Z"⟩
def dkwX1_shuts_0 : List UInt8 := [42, 27, 182, 0, 39, 180, 0, 124, 62, 42, 27, 182, 0, 39, 28, 181, 0, 124, 42, 182, 0, 58, 29, 172]
abbrev dktX1_shuts_0 : List UInt8 := dkwX1_shuts_0 ++ []
theorem dksX1_shuts_0 : cX1_shuts.data.toList.drop 0 = dktX1_shuts_0 := by decide +kernel
theorem dX1_shuts_0 : decode cX1_shuts 0 = .ok (.aload_n 0, 1) := dk_42 (dk_at dksX1_shuts_0 0 rfl rfl)
theorem dX1_shuts_1 : decode cX1_shuts 1 = .ok (.iload_n 1, 1) := dk_27 (dk_at dksX1_shuts_0 1 rfl rfl)
theorem dX1_shuts_2 : decode cX1_shuts 2 = .ok (.invokevirtual 39, 3) := dk_182 0 39 (dk_at dksX1_shuts_0 2 rfl rfl)
theorem dX1_shuts_5 : decode cX1_shuts 5 = .ok (.getfield 124, 3) := dk_180 0 124 (dk_at dksX1_shuts_0 5 rfl rfl)
theorem dX1_shuts_8 : decode cX1_shuts 8 = .ok (.istore_n 3, 1) := dk_62 (dk_at dksX1_shuts_0 8 rfl rfl)
theorem dX1_shuts_9 : decode cX1_shuts 9 = .ok (.aload_n 0, 1) := dk_42 (dk_at dksX1_shuts_0 9 rfl rfl)
theorem dX1_shuts_10 : decode cX1_shuts 10 = .ok (.iload_n 1, 1) := dk_27 (dk_at dksX1_shuts_0 10 rfl rfl)
theorem dX1_shuts_11 : decode cX1_shuts 11 = .ok (.invokevirtual 39, 3) := dk_182 0 39 (dk_at dksX1_shuts_0 11 rfl rfl)
theorem dX1_shuts_14 : decode cX1_shuts 14 = .ok (.iload_n 2, 1) := dk_28 (dk_at dksX1_shuts_0 14 rfl rfl)
theorem dX1_shuts_15 : decode cX1_shuts 15 = .ok (.putfield 124, 3) := dk_181 0 124 (dk_at dksX1_shuts_0 15 rfl rfl)
theorem dX1_shuts_18 : decode cX1_shuts 18 = .ok (.aload_n 0, 1) := dk_42 (dk_at dksX1_shuts_0 18 rfl rfl)
theorem dX1_shuts_19 : decode cX1_shuts 19 = .ok (.invokevirtual 58, 3) := dk_182 0 58 (dk_at dksX1_shuts_0 19 rfl rfl)
theorem dX1_shuts_22 : decode cX1_shuts 22 = .ok (.iload_n 3, 1) := dk_29 (dk_at dksX1_shuts_0 22 rfl rfl)
theorem dX1_shuts_23 : decode cX1_shuts 23 = .ok (.ireturn, 1) := dk_172 (dk_at dksX1_shuts_0 23 rfl rfl)
abbrev cX1_become : ByteArray := prog_8_method_2_code
def yX1_become : MethodName := ⟨RX1, "become", "(LSmokeLeans$House;)V"⟩
def dkwX1_become_3 : List UInt8 := [180, 0, 23, 181, 0, 23, 42, 182, 0, 58, 177]
abbrev dktX1_become_3 : List UInt8 := dkwX1_become_3 ++ []
def dkwX1_become_2 : List UInt8 := [167, 255, 228, 43, 180, 0, 19, 3, 42, 180, 0, 19, 3, 42, 180, 0, 19, 190, 184, 0, 52, 42, 43]
abbrev dktX1_become_2 : List UInt8 := dkwX1_become_2 ++ dktX1_become_3
def dkwX1_become_1 : List UInt8 := [162, 0, 26, 42, 180, 0, 13, 28, 50, 43, 28, 182, 0, 39, 184, 0, 42, 181, 0, 46, 132, 2, 1]
abbrev dktX1_become_1 : List UInt8 := dkwX1_become_1 ++ dktX1_become_2
def dkwX1_become_0 : List UInt8 := [42, 43, 180, 0, 33, 181, 0, 33, 42, 43, 180, 0, 36, 181, 0, 36, 3, 61, 28, 42, 180, 0, 36]
abbrev dktX1_become_0 : List UInt8 := dkwX1_become_0 ++ dktX1_become_1
theorem dksX1_become_0 : cX1_become.data.toList.drop 0 = dktX1_become_0 := by decide +kernel
theorem dksX1_become_1 : cX1_become.data.toList.drop 23 = dktX1_become_1 := dk_seg dksX1_become_0 23 rfl rfl
theorem dksX1_become_2 : cX1_become.data.toList.drop 46 = dktX1_become_2 := dk_seg dksX1_become_1 23 rfl rfl
theorem dksX1_become_3 : cX1_become.data.toList.drop 69 = dktX1_become_3 := dk_seg dksX1_become_2 23 rfl rfl
theorem dX1_become_0 : decode cX1_become 0 = .ok (.aload_n 0, 1) := dk_42 (dk_at dksX1_become_0 0 rfl rfl)
theorem dX1_become_1 : decode cX1_become 1 = .ok (.aload_n 1, 1) := dk_43 (dk_at dksX1_become_0 1 rfl rfl)
theorem dX1_become_2 : decode cX1_become 2 = .ok (.getfield 33, 3) := dk_180 0 33 (dk_at dksX1_become_0 2 rfl rfl)
theorem dX1_become_5 : decode cX1_become 5 = .ok (.putfield 33, 3) := dk_181 0 33 (dk_at dksX1_become_0 5 rfl rfl)
theorem dX1_become_8 : decode cX1_become 8 = .ok (.aload_n 0, 1) := dk_42 (dk_at dksX1_become_0 8 rfl rfl)
theorem dX1_become_9 : decode cX1_become 9 = .ok (.aload_n 1, 1) := dk_43 (dk_at dksX1_become_0 9 rfl rfl)
theorem dX1_become_10 : decode cX1_become 10 = .ok (.getfield 36, 3) := dk_180 0 36 (dk_at dksX1_become_0 10 rfl rfl)
theorem dX1_become_13 : decode cX1_become 13 = .ok (.putfield 36, 3) := dk_181 0 36 (dk_at dksX1_become_0 13 rfl rfl)
theorem dX1_become_16 : decode cX1_become 16 = .ok (.iconst 0, 1) := dk_3 (dk_at dksX1_become_0 16 rfl rfl)
theorem dX1_become_17 : decode cX1_become 17 = .ok (.istore_n 2, 1) := dk_61 (dk_at dksX1_become_0 17 rfl rfl)
theorem dX1_become_18 : decode cX1_become 18 = .ok (.iload_n 2, 1) := dk_28 (dk_at dksX1_become_0 18 rfl rfl)
theorem dX1_become_19 : decode cX1_become 19 = .ok (.aload_n 0, 1) := dk_42 (dk_at dksX1_become_0 19 rfl rfl)
theorem dX1_become_20 : decode cX1_become 20 = .ok (.getfield 36, 3) := dk_180 0 36 (dk_at dksX1_become_0 20 rfl rfl)
theorem dX1_become_23 : decode cX1_become 23 = .ok (.if_icmp .ge 26, 3) := dk_162 0 26 (dk_at dksX1_become_1 0 rfl rfl)
theorem dX1_become_26 : decode cX1_become 26 = .ok (.aload_n 0, 1) := dk_42 (dk_at dksX1_become_1 3 rfl rfl)
theorem dX1_become_27 : decode cX1_become 27 = .ok (.getfield 13, 3) := dk_180 0 13 (dk_at dksX1_become_1 4 rfl rfl)
theorem dX1_become_30 : decode cX1_become 30 = .ok (.iload_n 2, 1) := dk_28 (dk_at dksX1_become_1 7 rfl rfl)
theorem dX1_become_31 : decode cX1_become 31 = .ok (.aaload, 1) := dk_50 (dk_at dksX1_become_1 8 rfl rfl)
theorem dX1_become_32 : decode cX1_become 32 = .ok (.aload_n 1, 1) := dk_43 (dk_at dksX1_become_1 9 rfl rfl)
theorem dX1_become_33 : decode cX1_become 33 = .ok (.iload_n 2, 1) := dk_28 (dk_at dksX1_become_1 10 rfl rfl)
theorem dX1_become_34 : decode cX1_become 34 = .ok (.invokevirtual 39, 3) := dk_182 0 39 (dk_at dksX1_become_1 11 rfl rfl)
theorem dX1_become_37 : decode cX1_become 37 = .ok (.invokestatic 42, 3) := dk_184 0 42 (dk_at dksX1_become_1 14 rfl rfl)
theorem dX1_become_40 : decode cX1_become 40 = .ok (.putfield 46, 3) := dk_181 0 46 (dk_at dksX1_become_1 17 rfl rfl)
theorem dX1_become_43 : decode cX1_become 43 = .ok (.iinc 2 1, 3) := dk_132 2 1 (dk_at dksX1_become_1 20 rfl rfl)
theorem dX1_become_46 : decode cX1_become 46 = .ok (.goto (-28), 3) := dk_167 255 228 (dk_at dksX1_become_2 0 rfl rfl)
theorem dX1_become_49 : decode cX1_become 49 = .ok (.aload_n 1, 1) := dk_43 (dk_at dksX1_become_2 3 rfl rfl)
theorem dX1_become_50 : decode cX1_become 50 = .ok (.getfield 19, 3) := dk_180 0 19 (dk_at dksX1_become_2 4 rfl rfl)
theorem dX1_become_53 : decode cX1_become 53 = .ok (.iconst 0, 1) := dk_3 (dk_at dksX1_become_2 7 rfl rfl)
theorem dX1_become_54 : decode cX1_become 54 = .ok (.aload_n 0, 1) := dk_42 (dk_at dksX1_become_2 8 rfl rfl)
theorem dX1_become_55 : decode cX1_become 55 = .ok (.getfield 19, 3) := dk_180 0 19 (dk_at dksX1_become_2 9 rfl rfl)
theorem dX1_become_58 : decode cX1_become 58 = .ok (.iconst 0, 1) := dk_3 (dk_at dksX1_become_2 12 rfl rfl)
theorem dX1_become_59 : decode cX1_become 59 = .ok (.aload_n 0, 1) := dk_42 (dk_at dksX1_become_2 13 rfl rfl)
theorem dX1_become_60 : decode cX1_become 60 = .ok (.getfield 19, 3) := dk_180 0 19 (dk_at dksX1_become_2 14 rfl rfl)
theorem dX1_become_63 : decode cX1_become 63 = .ok (.arraylength, 1) := dk_190 (dk_at dksX1_become_2 17 rfl rfl)
theorem dX1_become_64 : decode cX1_become 64 = .ok (.invokestatic 52, 3) := dk_184 0 52 (dk_at dksX1_become_2 18 rfl rfl)
theorem dX1_become_67 : decode cX1_become 67 = .ok (.aload_n 0, 1) := dk_42 (dk_at dksX1_become_2 21 rfl rfl)
theorem dX1_become_68 : decode cX1_become 68 = .ok (.aload_n 1, 1) := dk_43 (dk_at dksX1_become_2 22 rfl rfl)
theorem dX1_become_69 : decode cX1_become 69 = .ok (.getfield 23, 3) := dk_180 0 23 (dk_at dksX1_become_3 0 rfl rfl)
theorem dX1_become_72 : decode cX1_become 72 = .ok (.putfield 23, 3) := dk_181 0 23 (dk_at dksX1_become_3 3 rfl rfl)
theorem dX1_become_75 : decode cX1_become 75 = .ok (.aload_n 0, 1) := dk_42 (dk_at dksX1_become_3 6 rfl rfl)
theorem dX1_become_76 : decode cX1_become 76 = .ok (.invokevirtual 58, 3) := dk_182 0 58 (dk_at dksX1_become_3 7 rfl rfl)
theorem dX1_become_79 : decode cX1_become 79 = .ok (.return_, 1) := dk_177 (dk_at dksX1_become_3 10 rfl rfl)
abbrev cX1_pressure : ByteArray := prog_8_method_10_code
def yX1_pressure : MethodName := ⟨RX1, "pressure", "(I)I"⟩
def dkwX1_pressure_0 : List UInt8 := [42, 182, 0, 98, 42, 180, 0, 27, 27, 46, 172]
abbrev dktX1_pressure_0 : List UInt8 := dkwX1_pressure_0 ++ []
theorem dksX1_pressure_0 : cX1_pressure.data.toList.drop 0 = dktX1_pressure_0 := by decide +kernel
theorem dX1_pressure_0 : decode cX1_pressure 0 = .ok (.aload_n 0, 1) := dk_42 (dk_at dksX1_pressure_0 0 rfl rfl)
theorem dX1_pressure_1 : decode cX1_pressure 1 = .ok (.invokevirtual 98, 3) := dk_182 0 98 (dk_at dksX1_pressure_0 1 rfl rfl)
theorem dX1_pressure_4 : decode cX1_pressure 4 = .ok (.aload_n 0, 1) := dk_42 (dk_at dksX1_pressure_0 4 rfl rfl)
theorem dX1_pressure_5 : decode cX1_pressure 5 = .ok (.getfield 27, 3) := dk_180 0 27 (dk_at dksX1_pressure_0 5 rfl rfl)
theorem dX1_pressure_8 : decode cX1_pressure 8 = .ok (.iload_n 1, 1) := dk_27 (dk_at dksX1_pressure_0 8 rfl rfl)
theorem dX1_pressure_9 : decode cX1_pressure 9 = .ok (.iaload, 1) := dk_46 (dk_at dksX1_pressure_0 9 rfl rfl)
theorem dX1_pressure_10 : decode cX1_pressure 10 = .ok (.ireturn, 1) := dk_172 (dk_at dksX1_pressure_0 10 rfl rfl)
abbrev cX1_finds : ByteArray := prog_8_method_9_code
def yX1_finds : MethodName := ⟨RX1, "finds", "()V"⟩
def dkwX1_finds_3 : List UInt8 := [181, 0, 88, 167, 255, 220, 42, 27, 181, 0, 95, 42, 4, 181, 0, 63, 177]
abbrev dktX1_finds_3 : List UInt8 := dkwX1_finds_3 ++ []
def dkwX1_finds_2 : List UInt8 := [162, 0, 29, 42, 182, 0, 91, 60, 42, 89, 180, 0, 88, 27, 153, 0, 7, 4, 167, 0, 4, 3, 96]
abbrev dktX1_finds_2 : List UInt8 := dkwX1_finds_2 ++ dktX1_finds_3
def dkwX1_finds_1 : List UInt8 := [132, 1, 1, 167, 255, 240, 42, 3, 181, 0, 88, 4, 60, 27, 153, 0, 38, 42, 180, 0, 88, 16, 60]
abbrev dktX1_finds_1 : List UInt8 := dkwX1_finds_1 ++ dktX1_finds_2
def dkwX1_finds_0 : List UInt8 := [42, 180, 0, 63, 153, 0, 4, 177, 3, 60, 27, 16, 6, 162, 0, 16, 42, 180, 0, 27, 27, 3, 79]
abbrev dktX1_finds_0 : List UInt8 := dkwX1_finds_0 ++ dktX1_finds_1
theorem dksX1_finds_0 : cX1_finds.data.toList.drop 0 = dktX1_finds_0 := by decide +kernel
theorem dksX1_finds_1 : cX1_finds.data.toList.drop 23 = dktX1_finds_1 := dk_seg dksX1_finds_0 23 rfl rfl
theorem dksX1_finds_2 : cX1_finds.data.toList.drop 46 = dktX1_finds_2 := dk_seg dksX1_finds_1 23 rfl rfl
theorem dksX1_finds_3 : cX1_finds.data.toList.drop 69 = dktX1_finds_3 := dk_seg dksX1_finds_2 23 rfl rfl
theorem dX1_finds_0 : decode cX1_finds 0 = .ok (.aload_n 0, 1) := dk_42 (dk_at dksX1_finds_0 0 rfl rfl)
theorem dX1_finds_1 : decode cX1_finds 1 = .ok (.getfield 63, 3) := dk_180 0 63 (dk_at dksX1_finds_0 1 rfl rfl)
theorem dX1_finds_4 : decode cX1_finds 4 = .ok (.ifCond .eq 4, 3) := dk_153 0 4 (dk_at dksX1_finds_0 4 rfl rfl)
theorem dX1_finds_7 : decode cX1_finds 7 = .ok (.return_, 1) := dk_177 (dk_at dksX1_finds_0 7 rfl rfl)
theorem dX1_finds_8 : decode cX1_finds 8 = .ok (.iconst 0, 1) := dk_3 (dk_at dksX1_finds_0 8 rfl rfl)
theorem dX1_finds_9 : decode cX1_finds 9 = .ok (.istore_n 1, 1) := dk_60 (dk_at dksX1_finds_0 9 rfl rfl)
theorem dX1_finds_10 : decode cX1_finds 10 = .ok (.iload_n 1, 1) := dk_27 (dk_at dksX1_finds_0 10 rfl rfl)
theorem dX1_finds_11 : decode cX1_finds 11 = .ok (.bipush 6, 2) := dk_16 6 (dk_at dksX1_finds_0 11 rfl rfl)
theorem dX1_finds_13 : decode cX1_finds 13 = .ok (.if_icmp .ge 16, 3) := dk_162 0 16 (dk_at dksX1_finds_0 13 rfl rfl)
theorem dX1_finds_16 : decode cX1_finds 16 = .ok (.aload_n 0, 1) := dk_42 (dk_at dksX1_finds_0 16 rfl rfl)
theorem dX1_finds_17 : decode cX1_finds 17 = .ok (.getfield 27, 3) := dk_180 0 27 (dk_at dksX1_finds_0 17 rfl rfl)
theorem dX1_finds_20 : decode cX1_finds 20 = .ok (.iload_n 1, 1) := dk_27 (dk_at dksX1_finds_0 20 rfl rfl)
theorem dX1_finds_21 : decode cX1_finds 21 = .ok (.iconst 0, 1) := dk_3 (dk_at dksX1_finds_0 21 rfl rfl)
theorem dX1_finds_22 : decode cX1_finds 22 = .ok (.iastore, 1) := dk_79 (dk_at dksX1_finds_0 22 rfl rfl)
theorem dX1_finds_23 : decode cX1_finds 23 = .ok (.iinc 1 1, 3) := dk_132 1 1 (dk_at dksX1_finds_1 0 rfl rfl)
theorem dX1_finds_26 : decode cX1_finds 26 = .ok (.goto (-16), 3) := dk_167 255 240 (dk_at dksX1_finds_1 3 rfl rfl)
theorem dX1_finds_29 : decode cX1_finds 29 = .ok (.aload_n 0, 1) := dk_42 (dk_at dksX1_finds_1 6 rfl rfl)
theorem dX1_finds_30 : decode cX1_finds 30 = .ok (.iconst 0, 1) := dk_3 (dk_at dksX1_finds_1 7 rfl rfl)
theorem dX1_finds_31 : decode cX1_finds 31 = .ok (.putfield 88, 3) := dk_181 0 88 (dk_at dksX1_finds_1 8 rfl rfl)
theorem dX1_finds_34 : decode cX1_finds 34 = .ok (.iconst 1, 1) := dk_4 (dk_at dksX1_finds_1 11 rfl rfl)
theorem dX1_finds_35 : decode cX1_finds 35 = .ok (.istore_n 1, 1) := dk_60 (dk_at dksX1_finds_1 12 rfl rfl)
theorem dX1_finds_36 : decode cX1_finds 36 = .ok (.iload_n 1, 1) := dk_27 (dk_at dksX1_finds_1 13 rfl rfl)
theorem dX1_finds_37 : decode cX1_finds 37 = .ok (.ifCond .eq 38, 3) := dk_153 0 38 (dk_at dksX1_finds_1 14 rfl rfl)
theorem dX1_finds_40 : decode cX1_finds 40 = .ok (.aload_n 0, 1) := dk_42 (dk_at dksX1_finds_1 17 rfl rfl)
theorem dX1_finds_41 : decode cX1_finds 41 = .ok (.getfield 88, 3) := dk_180 0 88 (dk_at dksX1_finds_1 18 rfl rfl)
theorem dX1_finds_44 : decode cX1_finds 44 = .ok (.bipush 60, 2) := dk_16 60 (dk_at dksX1_finds_1 21 rfl rfl)
theorem dX1_finds_46 : decode cX1_finds 46 = .ok (.if_icmp .ge 29, 3) := dk_162 0 29 (dk_at dksX1_finds_2 0 rfl rfl)
theorem dX1_finds_49 : decode cX1_finds 49 = .ok (.aload_n 0, 1) := dk_42 (dk_at dksX1_finds_2 3 rfl rfl)
theorem dX1_finds_50 : decode cX1_finds 50 = .ok (.invokevirtual 91, 3) := dk_182 0 91 (dk_at dksX1_finds_2 4 rfl rfl)
theorem dX1_finds_53 : decode cX1_finds 53 = .ok (.istore_n 1, 1) := dk_60 (dk_at dksX1_finds_2 7 rfl rfl)
theorem dX1_finds_54 : decode cX1_finds 54 = .ok (.aload_n 0, 1) := dk_42 (dk_at dksX1_finds_2 8 rfl rfl)
theorem dX1_finds_55 : decode cX1_finds 55 = .ok (.dup, 1) := dk_89 (dk_at dksX1_finds_2 9 rfl rfl)
theorem dX1_finds_56 : decode cX1_finds 56 = .ok (.getfield 88, 3) := dk_180 0 88 (dk_at dksX1_finds_2 10 rfl rfl)
theorem dX1_finds_59 : decode cX1_finds 59 = .ok (.iload_n 1, 1) := dk_27 (dk_at dksX1_finds_2 13 rfl rfl)
theorem dX1_finds_60 : decode cX1_finds 60 = .ok (.ifCond .eq 7, 3) := dk_153 0 7 (dk_at dksX1_finds_2 14 rfl rfl)
theorem dX1_finds_63 : decode cX1_finds 63 = .ok (.iconst 1, 1) := dk_4 (dk_at dksX1_finds_2 17 rfl rfl)
theorem dX1_finds_64 : decode cX1_finds 64 = .ok (.goto 4, 3) := dk_167 0 4 (dk_at dksX1_finds_2 18 rfl rfl)
theorem dX1_finds_67 : decode cX1_finds 67 = .ok (.iconst 0, 1) := dk_3 (dk_at dksX1_finds_2 21 rfl rfl)
theorem dX1_finds_68 : decode cX1_finds 68 = .ok (.iadd, 1) := dk_96 (dk_at dksX1_finds_2 22 rfl rfl)
theorem dX1_finds_69 : decode cX1_finds 69 = .ok (.putfield 88, 3) := dk_181 0 88 (dk_at dksX1_finds_3 0 rfl rfl)
theorem dX1_finds_72 : decode cX1_finds 72 = .ok (.goto (-36), 3) := dk_167 255 220 (dk_at dksX1_finds_3 3 rfl rfl)
theorem dX1_finds_75 : decode cX1_finds 75 = .ok (.aload_n 0, 1) := dk_42 (dk_at dksX1_finds_3 6 rfl rfl)
theorem dX1_finds_76 : decode cX1_finds 76 = .ok (.iload_n 1, 1) := dk_27 (dk_at dksX1_finds_3 7 rfl rfl)
theorem dX1_finds_77 : decode cX1_finds 77 = .ok (.putfield 95, 3) := dk_181 0 95 (dk_at dksX1_finds_3 8 rfl rfl)
theorem dX1_finds_80 : decode cX1_finds 80 = .ok (.aload_n 0, 1) := dk_42 (dk_at dksX1_finds_3 11 rfl rfl)
theorem dX1_finds_81 : decode cX1_finds 81 = .ok (.iconst 1, 1) := dk_4 (dk_at dksX1_finds_3 12 rfl rfl)
theorem dX1_finds_82 : decode cX1_finds 82 = .ok (.putfield 63, 3) := dk_181 0 63 (dk_at dksX1_finds_3 13 rfl rfl)
theorem dX1_finds_85 : decode cX1_finds 85 = .ok (.return_, 1) := dk_177 (dk_at dksX1_finds_3 16 rfl rfl)
abbrev cX1_round : ByteArray := prog_8_method_8_code
def yX1_round : MethodName := ⟨RX1, "round", "()Z"⟩
def dkwX1_round_2 : List UInt8 := [180, 0, 30, 28, 46, 159, 0, 7, 4, 167, 0, 4, 3, 128, 60, 132, 2, 1, 167, 255, 211, 27, 172]
abbrev dktX1_round_2 : List UInt8 := dkwX1_round_2 ++ []
def dkwX1_round_1 : List UInt8 := [162, 0, 43, 42, 180, 0, 27, 28, 42, 28, 182, 0, 84, 79, 27, 42, 180, 0, 27, 28, 46, 42]
abbrev dktX1_round_1 : List UInt8 := dkwX1_round_1 ++ dktX1_round_2
def dkwX1_round_0 : List UInt8 := [3, 60, 42, 180, 0, 27, 3, 42, 180, 0, 30, 3, 16, 6, 184, 0, 52, 3, 61, 28, 42, 180, 0, 33]
abbrev dktX1_round_0 : List UInt8 := dkwX1_round_0 ++ dktX1_round_1
theorem dksX1_round_0 : cX1_round.data.toList.drop 0 = dktX1_round_0 := by decide +kernel
theorem dksX1_round_1 : cX1_round.data.toList.drop 24 = dktX1_round_1 := dk_seg dksX1_round_0 24 rfl rfl
theorem dksX1_round_2 : cX1_round.data.toList.drop 46 = dktX1_round_2 := dk_seg dksX1_round_1 22 rfl rfl
theorem dX1_round_0 : decode cX1_round 0 = .ok (.iconst 0, 1) := dk_3 (dk_at dksX1_round_0 0 rfl rfl)
theorem dX1_round_1 : decode cX1_round 1 = .ok (.istore_n 1, 1) := dk_60 (dk_at dksX1_round_0 1 rfl rfl)
theorem dX1_round_2 : decode cX1_round 2 = .ok (.aload_n 0, 1) := dk_42 (dk_at dksX1_round_0 2 rfl rfl)
theorem dX1_round_3 : decode cX1_round 3 = .ok (.getfield 27, 3) := dk_180 0 27 (dk_at dksX1_round_0 3 rfl rfl)
theorem dX1_round_6 : decode cX1_round 6 = .ok (.iconst 0, 1) := dk_3 (dk_at dksX1_round_0 6 rfl rfl)
theorem dX1_round_7 : decode cX1_round 7 = .ok (.aload_n 0, 1) := dk_42 (dk_at dksX1_round_0 7 rfl rfl)
theorem dX1_round_8 : decode cX1_round 8 = .ok (.getfield 30, 3) := dk_180 0 30 (dk_at dksX1_round_0 8 rfl rfl)
theorem dX1_round_11 : decode cX1_round 11 = .ok (.iconst 0, 1) := dk_3 (dk_at dksX1_round_0 11 rfl rfl)
theorem dX1_round_12 : decode cX1_round 12 = .ok (.bipush 6, 2) := dk_16 6 (dk_at dksX1_round_0 12 rfl rfl)
theorem dX1_round_14 : decode cX1_round 14 = .ok (.invokestatic 52, 3) := dk_184 0 52 (dk_at dksX1_round_0 14 rfl rfl)
theorem dX1_round_17 : decode cX1_round 17 = .ok (.iconst 0, 1) := dk_3 (dk_at dksX1_round_0 17 rfl rfl)
theorem dX1_round_18 : decode cX1_round 18 = .ok (.istore_n 2, 1) := dk_61 (dk_at dksX1_round_0 18 rfl rfl)
theorem dX1_round_19 : decode cX1_round 19 = .ok (.iload_n 2, 1) := dk_28 (dk_at dksX1_round_0 19 rfl rfl)
theorem dX1_round_20 : decode cX1_round 20 = .ok (.aload_n 0, 1) := dk_42 (dk_at dksX1_round_0 20 rfl rfl)
theorem dX1_round_21 : decode cX1_round 21 = .ok (.getfield 33, 3) := dk_180 0 33 (dk_at dksX1_round_0 21 rfl rfl)
theorem dX1_round_24 : decode cX1_round 24 = .ok (.if_icmp .ge 43, 3) := dk_162 0 43 (dk_at dksX1_round_1 0 rfl rfl)
theorem dX1_round_27 : decode cX1_round 27 = .ok (.aload_n 0, 1) := dk_42 (dk_at dksX1_round_1 3 rfl rfl)
theorem dX1_round_28 : decode cX1_round 28 = .ok (.getfield 27, 3) := dk_180 0 27 (dk_at dksX1_round_1 4 rfl rfl)
theorem dX1_round_31 : decode cX1_round 31 = .ok (.iload_n 2, 1) := dk_28 (dk_at dksX1_round_1 7 rfl rfl)
theorem dX1_round_32 : decode cX1_round 32 = .ok (.aload_n 0, 1) := dk_42 (dk_at dksX1_round_1 8 rfl rfl)
theorem dX1_round_33 : decode cX1_round 33 = .ok (.iload_n 2, 1) := dk_28 (dk_at dksX1_round_1 9 rfl rfl)
theorem dX1_round_34 : decode cX1_round 34 = .ok (.invokevirtual 84, 3) := dk_182 0 84 (dk_at dksX1_round_1 10 rfl rfl)
theorem dX1_round_37 : decode cX1_round 37 = .ok (.iastore, 1) := dk_79 (dk_at dksX1_round_1 13 rfl rfl)
theorem dX1_round_38 : decode cX1_round 38 = .ok (.iload_n 1, 1) := dk_27 (dk_at dksX1_round_1 14 rfl rfl)
theorem dX1_round_39 : decode cX1_round 39 = .ok (.aload_n 0, 1) := dk_42 (dk_at dksX1_round_1 15 rfl rfl)
theorem dX1_round_40 : decode cX1_round 40 = .ok (.getfield 27, 3) := dk_180 0 27 (dk_at dksX1_round_1 16 rfl rfl)
theorem dX1_round_43 : decode cX1_round 43 = .ok (.iload_n 2, 1) := dk_28 (dk_at dksX1_round_1 19 rfl rfl)
theorem dX1_round_44 : decode cX1_round 44 = .ok (.iaload, 1) := dk_46 (dk_at dksX1_round_1 20 rfl rfl)
theorem dX1_round_45 : decode cX1_round 45 = .ok (.aload_n 0, 1) := dk_42 (dk_at dksX1_round_1 21 rfl rfl)
theorem dX1_round_46 : decode cX1_round 46 = .ok (.getfield 30, 3) := dk_180 0 30 (dk_at dksX1_round_2 0 rfl rfl)
theorem dX1_round_49 : decode cX1_round 49 = .ok (.iload_n 2, 1) := dk_28 (dk_at dksX1_round_2 3 rfl rfl)
theorem dX1_round_50 : decode cX1_round 50 = .ok (.iaload, 1) := dk_46 (dk_at dksX1_round_2 4 rfl rfl)
theorem dX1_round_51 : decode cX1_round 51 = .ok (.if_icmp .eq 7, 3) := dk_159 0 7 (dk_at dksX1_round_2 5 rfl rfl)
theorem dX1_round_54 : decode cX1_round 54 = .ok (.iconst 1, 1) := dk_4 (dk_at dksX1_round_2 8 rfl rfl)
theorem dX1_round_55 : decode cX1_round 55 = .ok (.goto 4, 3) := dk_167 0 4 (dk_at dksX1_round_2 9 rfl rfl)
theorem dX1_round_58 : decode cX1_round 58 = .ok (.iconst 0, 1) := dk_3 (dk_at dksX1_round_2 12 rfl rfl)
theorem dX1_round_59 : decode cX1_round 59 = .ok (.ior, 1) := dk_128 (dk_at dksX1_round_2 13 rfl rfl)
theorem dX1_round_60 : decode cX1_round 60 = .ok (.istore_n 1, 1) := dk_60 (dk_at dksX1_round_2 14 rfl rfl)
theorem dX1_round_61 : decode cX1_round 61 = .ok (.iinc 2 1, 3) := dk_132 2 1 (dk_at dksX1_round_2 15 rfl rfl)
theorem dX1_round_64 : decode cX1_round 64 = .ok (.goto (-45), 3) := dk_167 255 211 (dk_at dksX1_round_2 18 rfl rfl)
theorem dX1_round_67 : decode cX1_round 67 = .ok (.iload_n 1, 1) := dk_27 (dk_at dksX1_round_2 21 rfl rfl)
theorem dX1_round_68 : decode cX1_round 68 = .ok (.ireturn, 1) := dk_172 (dk_at dksX1_round_2 22 rfl rfl)
abbrev cX1_pressed : ByteArray := prog_8_method_7_code
def yX1_pressed : MethodName := ⟨RX1, "pressed", "(I)I"⟩
def dkwX1_pressed_4 : List UInt8 := [132, 4, 1, 167, 255, 182, 28, 154, 0, 7, 3, 167, 0, 6, 29, 28, 108, 172]
abbrev dktX1_pressed_4 : List UInt8 := dkwX1_pressed_4 ++ []
def dkwX1_pressed_3 : List UInt8 := [54, 6, 28, 21, 6, 96, 61, 29, 21, 6, 42, 25, 5, 27, 42, 180, 0, 30, 182, 0, 80, 104, 96, 62]
abbrev dktX1_pressed_3 : List UInt8 := dkwX1_pressed_3 ++ dktX1_pressed_4
def dkwX1_pressed_2 : List UInt8 := [159, 0, 15, 25, 5, 180, 0, 74, 27, 159, 0, 6, 167, 0, 36, 25, 5, 42, 180, 0, 19, 182, 0, 67]
abbrev dktX1_pressed_2 : List UInt8 := dkwX1_pressed_2 ++ dktX1_pressed_3
def dkwX1_pressed_1 : List UInt8 := [21, 4, 42, 180, 0, 36, 162, 0, 71, 42, 21, 4, 182, 0, 39, 58, 5, 25, 5, 180, 0, 71, 27]
abbrev dktX1_pressed_1 : List UInt8 := dkwX1_pressed_1 ++ dktX1_pressed_2
def dkwX1_pressed_0 : List UInt8 := [3, 61, 27, 154, 0, 15, 16, 80, 42, 180, 0, 19, 6, 46, 104, 167, 0, 4, 3, 62, 3, 54, 4]
abbrev dktX1_pressed_0 : List UInt8 := dkwX1_pressed_0 ++ dktX1_pressed_1
theorem dksX1_pressed_0 : cX1_pressed.data.toList.drop 0 = dktX1_pressed_0 := by decide +kernel
theorem dksX1_pressed_1 : cX1_pressed.data.toList.drop 23 = dktX1_pressed_1 := dk_seg dksX1_pressed_0 23 rfl rfl
theorem dksX1_pressed_2 : cX1_pressed.data.toList.drop 46 = dktX1_pressed_2 := dk_seg dksX1_pressed_1 23 rfl rfl
theorem dksX1_pressed_3 : cX1_pressed.data.toList.drop 70 = dktX1_pressed_3 := dk_seg dksX1_pressed_2 24 rfl rfl
theorem dksX1_pressed_4 : cX1_pressed.data.toList.drop 94 = dktX1_pressed_4 := dk_seg dksX1_pressed_3 24 rfl rfl
theorem dX1_pressed_0 : decode cX1_pressed 0 = .ok (.iconst 0, 1) := dk_3 (dk_at dksX1_pressed_0 0 rfl rfl)
theorem dX1_pressed_1 : decode cX1_pressed 1 = .ok (.istore_n 2, 1) := dk_61 (dk_at dksX1_pressed_0 1 rfl rfl)
theorem dX1_pressed_2 : decode cX1_pressed 2 = .ok (.iload_n 1, 1) := dk_27 (dk_at dksX1_pressed_0 2 rfl rfl)
theorem dX1_pressed_3 : decode cX1_pressed 3 = .ok (.ifCond .ne 15, 3) := dk_154 0 15 (dk_at dksX1_pressed_0 3 rfl rfl)
theorem dX1_pressed_6 : decode cX1_pressed 6 = .ok (.bipush 80, 2) := dk_16 80 (dk_at dksX1_pressed_0 6 rfl rfl)
theorem dX1_pressed_8 : decode cX1_pressed 8 = .ok (.aload_n 0, 1) := dk_42 (dk_at dksX1_pressed_0 8 rfl rfl)
theorem dX1_pressed_9 : decode cX1_pressed 9 = .ok (.getfield 19, 3) := dk_180 0 19 (dk_at dksX1_pressed_0 9 rfl rfl)
theorem dX1_pressed_12 : decode cX1_pressed 12 = .ok (.iconst 3, 1) := dk_6 (dk_at dksX1_pressed_0 12 rfl rfl)
theorem dX1_pressed_13 : decode cX1_pressed 13 = .ok (.iaload, 1) := dk_46 (dk_at dksX1_pressed_0 13 rfl rfl)
theorem dX1_pressed_14 : decode cX1_pressed 14 = .ok (.imul, 1) := dk_104 (dk_at dksX1_pressed_0 14 rfl rfl)
theorem dX1_pressed_15 : decode cX1_pressed 15 = .ok (.goto 4, 3) := dk_167 0 4 (dk_at dksX1_pressed_0 15 rfl rfl)
theorem dX1_pressed_18 : decode cX1_pressed 18 = .ok (.iconst 0, 1) := dk_3 (dk_at dksX1_pressed_0 18 rfl rfl)
theorem dX1_pressed_19 : decode cX1_pressed 19 = .ok (.istore_n 3, 1) := dk_62 (dk_at dksX1_pressed_0 19 rfl rfl)
theorem dX1_pressed_20 : decode cX1_pressed 20 = .ok (.iconst 0, 1) := dk_3 (dk_at dksX1_pressed_0 20 rfl rfl)
theorem dX1_pressed_21 : decode cX1_pressed 21 = .ok (.istore 4, 2) := dk_54 4 (dk_at dksX1_pressed_0 21 rfl rfl)
theorem dX1_pressed_23 : decode cX1_pressed 23 = .ok (.iload 4, 2) := dk_21 4 (dk_at dksX1_pressed_1 0 rfl rfl)
theorem dX1_pressed_25 : decode cX1_pressed 25 = .ok (.aload_n 0, 1) := dk_42 (dk_at dksX1_pressed_1 2 rfl rfl)
theorem dX1_pressed_26 : decode cX1_pressed 26 = .ok (.getfield 36, 3) := dk_180 0 36 (dk_at dksX1_pressed_1 3 rfl rfl)
theorem dX1_pressed_29 : decode cX1_pressed 29 = .ok (.if_icmp .ge 71, 3) := dk_162 0 71 (dk_at dksX1_pressed_1 6 rfl rfl)
theorem dX1_pressed_32 : decode cX1_pressed 32 = .ok (.aload_n 0, 1) := dk_42 (dk_at dksX1_pressed_1 9 rfl rfl)
theorem dX1_pressed_33 : decode cX1_pressed 33 = .ok (.iload 4, 2) := dk_21 4 (dk_at dksX1_pressed_1 10 rfl rfl)
theorem dX1_pressed_35 : decode cX1_pressed 35 = .ok (.invokevirtual 39, 3) := dk_182 0 39 (dk_at dksX1_pressed_1 12 rfl rfl)
theorem dX1_pressed_38 : decode cX1_pressed 38 = .ok (.astore 5, 2) := dk_58 5 (dk_at dksX1_pressed_1 15 rfl rfl)
theorem dX1_pressed_40 : decode cX1_pressed 40 = .ok (.aload 5, 2) := dk_25 5 (dk_at dksX1_pressed_1 17 rfl rfl)
theorem dX1_pressed_42 : decode cX1_pressed 42 = .ok (.getfield 71, 3) := dk_180 0 71 (dk_at dksX1_pressed_1 19 rfl rfl)
theorem dX1_pressed_45 : decode cX1_pressed 45 = .ok (.iload_n 1, 1) := dk_27 (dk_at dksX1_pressed_1 22 rfl rfl)
theorem dX1_pressed_46 : decode cX1_pressed 46 = .ok (.if_icmp .eq 15, 3) := dk_159 0 15 (dk_at dksX1_pressed_2 0 rfl rfl)
theorem dX1_pressed_49 : decode cX1_pressed 49 = .ok (.aload 5, 2) := dk_25 5 (dk_at dksX1_pressed_2 3 rfl rfl)
theorem dX1_pressed_51 : decode cX1_pressed 51 = .ok (.getfield 74, 3) := dk_180 0 74 (dk_at dksX1_pressed_2 5 rfl rfl)
theorem dX1_pressed_54 : decode cX1_pressed 54 = .ok (.iload_n 1, 1) := dk_27 (dk_at dksX1_pressed_2 8 rfl rfl)
theorem dX1_pressed_55 : decode cX1_pressed 55 = .ok (.if_icmp .eq 6, 3) := dk_159 0 6 (dk_at dksX1_pressed_2 9 rfl rfl)
theorem dX1_pressed_58 : decode cX1_pressed 58 = .ok (.goto 36, 3) := dk_167 0 36 (dk_at dksX1_pressed_2 12 rfl rfl)
theorem dX1_pressed_61 : decode cX1_pressed 61 = .ok (.aload 5, 2) := dk_25 5 (dk_at dksX1_pressed_2 15 rfl rfl)
theorem dX1_pressed_63 : decode cX1_pressed 63 = .ok (.aload_n 0, 1) := dk_42 (dk_at dksX1_pressed_2 17 rfl rfl)
theorem dX1_pressed_64 : decode cX1_pressed 64 = .ok (.getfield 19, 3) := dk_180 0 19 (dk_at dksX1_pressed_2 18 rfl rfl)
theorem dX1_pressed_67 : decode cX1_pressed 67 = .ok (.invokevirtual 67, 3) := dk_182 0 67 (dk_at dksX1_pressed_2 21 rfl rfl)
theorem dX1_pressed_70 : decode cX1_pressed 70 = .ok (.istore 6, 2) := dk_54 6 (dk_at dksX1_pressed_3 0 rfl rfl)
theorem dX1_pressed_72 : decode cX1_pressed 72 = .ok (.iload_n 2, 1) := dk_28 (dk_at dksX1_pressed_3 2 rfl rfl)
theorem dX1_pressed_73 : decode cX1_pressed 73 = .ok (.iload 6, 2) := dk_21 6 (dk_at dksX1_pressed_3 3 rfl rfl)
theorem dX1_pressed_75 : decode cX1_pressed 75 = .ok (.iadd, 1) := dk_96 (dk_at dksX1_pressed_3 5 rfl rfl)
theorem dX1_pressed_76 : decode cX1_pressed 76 = .ok (.istore_n 2, 1) := dk_61 (dk_at dksX1_pressed_3 6 rfl rfl)
theorem dX1_pressed_77 : decode cX1_pressed 77 = .ok (.iload_n 3, 1) := dk_29 (dk_at dksX1_pressed_3 7 rfl rfl)
theorem dX1_pressed_78 : decode cX1_pressed 78 = .ok (.iload 6, 2) := dk_21 6 (dk_at dksX1_pressed_3 8 rfl rfl)
theorem dX1_pressed_80 : decode cX1_pressed 80 = .ok (.aload_n 0, 1) := dk_42 (dk_at dksX1_pressed_3 10 rfl rfl)
theorem dX1_pressed_81 : decode cX1_pressed 81 = .ok (.aload 5, 2) := dk_25 5 (dk_at dksX1_pressed_3 11 rfl rfl)
theorem dX1_pressed_83 : decode cX1_pressed 83 = .ok (.iload_n 1, 1) := dk_27 (dk_at dksX1_pressed_3 13 rfl rfl)
theorem dX1_pressed_84 : decode cX1_pressed 84 = .ok (.aload_n 0, 1) := dk_42 (dk_at dksX1_pressed_3 14 rfl rfl)
theorem dX1_pressed_85 : decode cX1_pressed 85 = .ok (.getfield 30, 3) := dk_180 0 30 (dk_at dksX1_pressed_3 15 rfl rfl)
theorem dX1_pressed_88 : decode cX1_pressed 88 = .ok (.invokevirtual 80, 3) := dk_182 0 80 (dk_at dksX1_pressed_3 18 rfl rfl)
theorem dX1_pressed_91 : decode cX1_pressed 91 = .ok (.imul, 1) := dk_104 (dk_at dksX1_pressed_3 21 rfl rfl)
theorem dX1_pressed_92 : decode cX1_pressed 92 = .ok (.iadd, 1) := dk_96 (dk_at dksX1_pressed_3 22 rfl rfl)
theorem dX1_pressed_93 : decode cX1_pressed 93 = .ok (.istore_n 3, 1) := dk_62 (dk_at dksX1_pressed_3 23 rfl rfl)
theorem dX1_pressed_94 : decode cX1_pressed 94 = .ok (.iinc 4 1, 3) := dk_132 4 1 (dk_at dksX1_pressed_4 0 rfl rfl)
theorem dX1_pressed_97 : decode cX1_pressed 97 = .ok (.goto (-74), 3) := dk_167 255 182 (dk_at dksX1_pressed_4 3 rfl rfl)
theorem dX1_pressed_100 : decode cX1_pressed 100 = .ok (.iload_n 2, 1) := dk_28 (dk_at dksX1_pressed_4 6 rfl rfl)
theorem dX1_pressed_101 : decode cX1_pressed 101 = .ok (.ifCond .ne 7, 3) := dk_154 0 7 (dk_at dksX1_pressed_4 7 rfl rfl)
theorem dX1_pressed_104 : decode cX1_pressed 104 = .ok (.iconst 0, 1) := dk_3 (dk_at dksX1_pressed_4 10 rfl rfl)
theorem dX1_pressed_105 : decode cX1_pressed 105 = .ok (.goto 6, 3) := dk_167 0 6 (dk_at dksX1_pressed_4 11 rfl rfl)
theorem dX1_pressed_108 : decode cX1_pressed 108 = .ok (.iload_n 3, 1) := dk_29 (dk_at dksX1_pressed_4 14 rfl rfl)
theorem dX1_pressed_109 : decode cX1_pressed 109 = .ok (.iload_n 2, 1) := dk_28 (dk_at dksX1_pressed_4 15 rfl rfl)
theorem dX1_pressed_110 : decode cX1_pressed 110 = .ok (.idiv, 1) := dk_108 (dk_at dksX1_pressed_4 16 rfl rfl)
theorem dX1_pressed_111 : decode cX1_pressed 111 = .ok (.ireturn, 1) := dk_172 (dk_at dksX1_pressed_4 17 rfl rfl)
abbrev cX1_pushes : ByteArray := prog_8_method_6_code
def yX1_pushes : MethodName := ⟨RX1, "pushes", "(LSmokeLeans$Gap;I[I)I"⟩
def dkwX1_pushes_1 : List UInt8 := [160, 0, 17, 16, 8, 43, 42, 180, 0, 19, 182, 0, 77, 104, 167, 0, 7, 45, 21, 4, 46, 172]
abbrev dktX1_pushes_1 : List UInt8 := dkwX1_pushes_1 ++ []
def dkwX1_pushes_0 : List UInt8 := [43, 180, 0, 71, 28, 160, 0, 10, 43, 180, 0, 74, 167, 0, 7, 43, 180, 0, 71, 54, 4, 21, 4, 2]
abbrev dktX1_pushes_0 : List UInt8 := dkwX1_pushes_0 ++ dktX1_pushes_1
theorem dksX1_pushes_0 : cX1_pushes.data.toList.drop 0 = dktX1_pushes_0 := by decide +kernel
theorem dksX1_pushes_1 : cX1_pushes.data.toList.drop 24 = dktX1_pushes_1 := dk_seg dksX1_pushes_0 24 rfl rfl
theorem dX1_pushes_0 : decode cX1_pushes 0 = .ok (.aload_n 1, 1) := dk_43 (dk_at dksX1_pushes_0 0 rfl rfl)
theorem dX1_pushes_1 : decode cX1_pushes 1 = .ok (.getfield 71, 3) := dk_180 0 71 (dk_at dksX1_pushes_0 1 rfl rfl)
theorem dX1_pushes_4 : decode cX1_pushes 4 = .ok (.iload_n 2, 1) := dk_28 (dk_at dksX1_pushes_0 4 rfl rfl)
theorem dX1_pushes_5 : decode cX1_pushes 5 = .ok (.if_icmp .ne 10, 3) := dk_160 0 10 (dk_at dksX1_pushes_0 5 rfl rfl)
theorem dX1_pushes_8 : decode cX1_pushes 8 = .ok (.aload_n 1, 1) := dk_43 (dk_at dksX1_pushes_0 8 rfl rfl)
theorem dX1_pushes_9 : decode cX1_pushes 9 = .ok (.getfield 74, 3) := dk_180 0 74 (dk_at dksX1_pushes_0 9 rfl rfl)
theorem dX1_pushes_12 : decode cX1_pushes 12 = .ok (.goto 7, 3) := dk_167 0 7 (dk_at dksX1_pushes_0 12 rfl rfl)
theorem dX1_pushes_15 : decode cX1_pushes 15 = .ok (.aload_n 1, 1) := dk_43 (dk_at dksX1_pushes_0 15 rfl rfl)
theorem dX1_pushes_16 : decode cX1_pushes 16 = .ok (.getfield 71, 3) := dk_180 0 71 (dk_at dksX1_pushes_0 16 rfl rfl)
theorem dX1_pushes_19 : decode cX1_pushes 19 = .ok (.istore 4, 2) := dk_54 4 (dk_at dksX1_pushes_0 19 rfl rfl)
theorem dX1_pushes_21 : decode cX1_pushes 21 = .ok (.iload 4, 2) := dk_21 4 (dk_at dksX1_pushes_0 21 rfl rfl)
theorem dX1_pushes_23 : decode cX1_pushes 23 = .ok (.iconst (-1), 1) := dk_2 (dk_at dksX1_pushes_0 23 rfl rfl)
theorem dX1_pushes_24 : decode cX1_pushes 24 = .ok (.if_icmp .ne 17, 3) := dk_160 0 17 (dk_at dksX1_pushes_1 0 rfl rfl)
theorem dX1_pushes_27 : decode cX1_pushes 27 = .ok (.bipush 8, 2) := dk_16 8 (dk_at dksX1_pushes_1 3 rfl rfl)
theorem dX1_pushes_29 : decode cX1_pushes 29 = .ok (.aload_n 1, 1) := dk_43 (dk_at dksX1_pushes_1 5 rfl rfl)
theorem dX1_pushes_30 : decode cX1_pushes 30 = .ok (.aload_n 0, 1) := dk_42 (dk_at dksX1_pushes_1 6 rfl rfl)
theorem dX1_pushes_31 : decode cX1_pushes 31 = .ok (.getfield 19, 3) := dk_180 0 19 (dk_at dksX1_pushes_1 7 rfl rfl)
theorem dX1_pushes_34 : decode cX1_pushes 34 = .ok (.invokevirtual 77, 3) := dk_182 0 77 (dk_at dksX1_pushes_1 10 rfl rfl)
theorem dX1_pushes_37 : decode cX1_pushes 37 = .ok (.imul, 1) := dk_104 (dk_at dksX1_pushes_1 13 rfl rfl)
theorem dX1_pushes_38 : decode cX1_pushes 38 = .ok (.goto 7, 3) := dk_167 0 7 (dk_at dksX1_pushes_1 14 rfl rfl)
theorem dX1_pushes_41 : decode cX1_pushes 41 = .ok (.aload_n 3, 1) := dk_45 (dk_at dksX1_pushes_1 17 rfl rfl)
theorem dX1_pushes_42 : decode cX1_pushes 42 = .ok (.iload 4, 2) := dk_21 4 (dk_at dksX1_pushes_1 18 rfl rfl)
theorem dX1_pushes_44 : decode cX1_pushes 44 = .ok (.iaload, 1) := dk_46 (dk_at dksX1_pushes_1 20 rfl rfl)
theorem dX1_pushes_45 : decode cX1_pushes 45 = .ok (.ireturn, 1) := dk_172 (dk_at dksX1_pushes_1 21 rfl rfl)
abbrev cX1_flow : ByteArray := prog_8_method_13_code
def yX1_flow : MethodName := ⟨RX1, "flow", "(I)I"⟩
def dkwX1_flow_1 : List UInt8 := [42, 180, 0, 27, 182, 0, 80, 42, 180, 0, 27, 44, 180, 0, 71, 46, 100, 104, 16, 80, 108, 172]
abbrev dktX1_flow_1 : List UInt8 := dkwX1_flow_1 ++ []
def dkwX1_flow_0 : List UInt8 := [42, 182, 0, 98, 42, 27, 182, 0, 39, 77, 44, 42, 180, 0, 19, 182, 0, 67, 42, 44, 44, 180, 0, 71]
abbrev dktX1_flow_0 : List UInt8 := dkwX1_flow_0 ++ dktX1_flow_1
theorem dksX1_flow_0 : cX1_flow.data.toList.drop 0 = dktX1_flow_0 := by decide +kernel
theorem dksX1_flow_1 : cX1_flow.data.toList.drop 24 = dktX1_flow_1 := dk_seg dksX1_flow_0 24 rfl rfl
theorem dX1_flow_0 : decode cX1_flow 0 = .ok (.aload_n 0, 1) := dk_42 (dk_at dksX1_flow_0 0 rfl rfl)
theorem dX1_flow_1 : decode cX1_flow 1 = .ok (.invokevirtual 98, 3) := dk_182 0 98 (dk_at dksX1_flow_0 1 rfl rfl)
theorem dX1_flow_4 : decode cX1_flow 4 = .ok (.aload_n 0, 1) := dk_42 (dk_at dksX1_flow_0 4 rfl rfl)
theorem dX1_flow_5 : decode cX1_flow 5 = .ok (.iload_n 1, 1) := dk_27 (dk_at dksX1_flow_0 5 rfl rfl)
theorem dX1_flow_6 : decode cX1_flow 6 = .ok (.invokevirtual 39, 3) := dk_182 0 39 (dk_at dksX1_flow_0 6 rfl rfl)
theorem dX1_flow_9 : decode cX1_flow 9 = .ok (.astore_n 2, 1) := dk_77 (dk_at dksX1_flow_0 9 rfl rfl)
theorem dX1_flow_10 : decode cX1_flow 10 = .ok (.aload_n 2, 1) := dk_44 (dk_at dksX1_flow_0 10 rfl rfl)
theorem dX1_flow_11 : decode cX1_flow 11 = .ok (.aload_n 0, 1) := dk_42 (dk_at dksX1_flow_0 11 rfl rfl)
theorem dX1_flow_12 : decode cX1_flow 12 = .ok (.getfield 19, 3) := dk_180 0 19 (dk_at dksX1_flow_0 12 rfl rfl)
theorem dX1_flow_15 : decode cX1_flow 15 = .ok (.invokevirtual 67, 3) := dk_182 0 67 (dk_at dksX1_flow_0 15 rfl rfl)
theorem dX1_flow_18 : decode cX1_flow 18 = .ok (.aload_n 0, 1) := dk_42 (dk_at dksX1_flow_0 18 rfl rfl)
theorem dX1_flow_19 : decode cX1_flow 19 = .ok (.aload_n 2, 1) := dk_44 (dk_at dksX1_flow_0 19 rfl rfl)
theorem dX1_flow_20 : decode cX1_flow 20 = .ok (.aload_n 2, 1) := dk_44 (dk_at dksX1_flow_0 20 rfl rfl)
theorem dX1_flow_21 : decode cX1_flow 21 = .ok (.getfield 71, 3) := dk_180 0 71 (dk_at dksX1_flow_0 21 rfl rfl)
theorem dX1_flow_24 : decode cX1_flow 24 = .ok (.aload_n 0, 1) := dk_42 (dk_at dksX1_flow_1 0 rfl rfl)
theorem dX1_flow_25 : decode cX1_flow 25 = .ok (.getfield 27, 3) := dk_180 0 27 (dk_at dksX1_flow_1 1 rfl rfl)
theorem dX1_flow_28 : decode cX1_flow 28 = .ok (.invokevirtual 80, 3) := dk_182 0 80 (dk_at dksX1_flow_1 4 rfl rfl)
theorem dX1_flow_31 : decode cX1_flow 31 = .ok (.aload_n 0, 1) := dk_42 (dk_at dksX1_flow_1 7 rfl rfl)
theorem dX1_flow_32 : decode cX1_flow 32 = .ok (.getfield 27, 3) := dk_180 0 27 (dk_at dksX1_flow_1 8 rfl rfl)
theorem dX1_flow_35 : decode cX1_flow 35 = .ok (.aload_n 2, 1) := dk_44 (dk_at dksX1_flow_1 11 rfl rfl)
theorem dX1_flow_36 : decode cX1_flow 36 = .ok (.getfield 71, 3) := dk_180 0 71 (dk_at dksX1_flow_1 12 rfl rfl)
theorem dX1_flow_39 : decode cX1_flow 39 = .ok (.iaload, 1) := dk_46 (dk_at dksX1_flow_1 15 rfl rfl)
theorem dX1_flow_40 : decode cX1_flow 40 = .ok (.isub, 1) := dk_100 (dk_at dksX1_flow_1 16 rfl rfl)
theorem dX1_flow_41 : decode cX1_flow 41 = .ok (.imul, 1) := dk_104 (dk_at dksX1_flow_1 17 rfl rfl)
theorem dX1_flow_42 : decode cX1_flow 42 = .ok (.bipush 80, 2) := dk_16 80 (dk_at dksX1_flow_1 18 rfl rfl)
theorem dX1_flow_44 : decode cX1_flow 44 = .ok (.idiv, 1) := dk_108 (dk_at dksX1_flow_1 20 rfl rfl)
theorem dX1_flow_45 : decode cX1_flow 45 = .ok (.ireturn, 1) := dk_172 (dk_at dksX1_flow_1 21 rfl rfl)
abbrev cX1_lean : ByteArray := prog_8_method_14_code
def yX1_lean : MethodName := ⟨RX1, "lean", "(I)I"⟩
def dkwX1_lean_1 : List UInt8 := [16, 20, 108, 4, 96, 184, 0, 109, 62, 28, 156, 0, 8, 29, 116, 167, 0, 4, 29, 172]
abbrev dktX1_lean_1 : List UInt8 := dkwX1_lean_1 ++ []
def dkwX1_lean_0 : List UInt8 := [42, 27, 182, 0, 101, 61, 28, 184, 0, 104, 8, 162, 0, 7, 3, 167, 0, 17, 16, 9, 28, 184, 0, 104]
abbrev dktX1_lean_0 : List UInt8 := dkwX1_lean_0 ++ dktX1_lean_1
theorem dksX1_lean_0 : cX1_lean.data.toList.drop 0 = dktX1_lean_0 := by decide +kernel
theorem dksX1_lean_1 : cX1_lean.data.toList.drop 24 = dktX1_lean_1 := dk_seg dksX1_lean_0 24 rfl rfl
theorem dX1_lean_0 : decode cX1_lean 0 = .ok (.aload_n 0, 1) := dk_42 (dk_at dksX1_lean_0 0 rfl rfl)
theorem dX1_lean_1 : decode cX1_lean 1 = .ok (.iload_n 1, 1) := dk_27 (dk_at dksX1_lean_0 1 rfl rfl)
theorem dX1_lean_2 : decode cX1_lean 2 = .ok (.invokevirtual 101, 3) := dk_182 0 101 (dk_at dksX1_lean_0 2 rfl rfl)
theorem dX1_lean_5 : decode cX1_lean 5 = .ok (.istore_n 2, 1) := dk_61 (dk_at dksX1_lean_0 5 rfl rfl)
theorem dX1_lean_6 : decode cX1_lean 6 = .ok (.iload_n 2, 1) := dk_28 (dk_at dksX1_lean_0 6 rfl rfl)
theorem dX1_lean_7 : decode cX1_lean 7 = .ok (.invokestatic 104, 3) := dk_184 0 104 (dk_at dksX1_lean_0 7 rfl rfl)
theorem dX1_lean_10 : decode cX1_lean 10 = .ok (.iconst 5, 1) := dk_8 (dk_at dksX1_lean_0 10 rfl rfl)
theorem dX1_lean_11 : decode cX1_lean 11 = .ok (.if_icmp .ge 7, 3) := dk_162 0 7 (dk_at dksX1_lean_0 11 rfl rfl)
theorem dX1_lean_14 : decode cX1_lean 14 = .ok (.iconst 0, 1) := dk_3 (dk_at dksX1_lean_0 14 rfl rfl)
theorem dX1_lean_15 : decode cX1_lean 15 = .ok (.goto 17, 3) := dk_167 0 17 (dk_at dksX1_lean_0 15 rfl rfl)
theorem dX1_lean_18 : decode cX1_lean 18 = .ok (.bipush 9, 2) := dk_16 9 (dk_at dksX1_lean_0 18 rfl rfl)
theorem dX1_lean_20 : decode cX1_lean 20 = .ok (.iload_n 2, 1) := dk_28 (dk_at dksX1_lean_0 20 rfl rfl)
theorem dX1_lean_21 : decode cX1_lean 21 = .ok (.invokestatic 104, 3) := dk_184 0 104 (dk_at dksX1_lean_0 21 rfl rfl)
theorem dX1_lean_24 : decode cX1_lean 24 = .ok (.bipush 20, 2) := dk_16 20 (dk_at dksX1_lean_1 0 rfl rfl)
theorem dX1_lean_26 : decode cX1_lean 26 = .ok (.idiv, 1) := dk_108 (dk_at dksX1_lean_1 2 rfl rfl)
theorem dX1_lean_27 : decode cX1_lean 27 = .ok (.iconst 1, 1) := dk_4 (dk_at dksX1_lean_1 3 rfl rfl)
theorem dX1_lean_28 : decode cX1_lean 28 = .ok (.iadd, 1) := dk_96 (dk_at dksX1_lean_1 4 rfl rfl)
theorem dX1_lean_29 : decode cX1_lean 29 = .ok (.invokestatic 109, 3) := dk_184 0 109 (dk_at dksX1_lean_1 5 rfl rfl)
theorem dX1_lean_32 : decode cX1_lean 32 = .ok (.istore_n 3, 1) := dk_62 (dk_at dksX1_lean_1 8 rfl rfl)
theorem dX1_lean_33 : decode cX1_lean 33 = .ok (.iload_n 2, 1) := dk_28 (dk_at dksX1_lean_1 9 rfl rfl)
theorem dX1_lean_34 : decode cX1_lean 34 = .ok (.ifCond .ge 8, 3) := dk_156 0 8 (dk_at dksX1_lean_1 10 rfl rfl)
theorem dX1_lean_37 : decode cX1_lean 37 = .ok (.iload_n 3, 1) := dk_29 (dk_at dksX1_lean_1 13 rfl rfl)
theorem dX1_lean_38 : decode cX1_lean 38 = .ok (.ineg, 1) := dk_116 (dk_at dksX1_lean_1 14 rfl rfl)
theorem dX1_lean_39 : decode cX1_lean 39 = .ok (.goto 4, 3) := dk_167 0 4 (dk_at dksX1_lean_1 15 rfl rfl)
theorem dX1_lean_42 : decode cX1_lean 42 = .ok (.iload_n 3, 1) := dk_29 (dk_at dksX1_lean_1 18 rfl rfl)
theorem dX1_lean_43 : decode cX1_lean 43 = .ok (.ireturn, 1) := dk_172 (dk_at dksX1_lean_1 19 rfl rfl)
abbrev cX1_rounds : ByteArray := prog_8_method_11_code
def yX1_rounds : MethodName := ⟨RX1, "rounds", "()I"⟩
def dkwX1_rounds_0 : List UInt8 := [42, 182, 0, 98, 42, 180, 0, 88, 172]
abbrev dktX1_rounds_0 : List UInt8 := dkwX1_rounds_0 ++ []
theorem dksX1_rounds_0 : cX1_rounds.data.toList.drop 0 = dktX1_rounds_0 := by decide +kernel
theorem dX1_rounds_0 : decode cX1_rounds 0 = .ok (.aload_n 0, 1) := dk_42 (dk_at dksX1_rounds_0 0 rfl rfl)
theorem dX1_rounds_1 : decode cX1_rounds 1 = .ok (.invokevirtual 98, 3) := dk_182 0 98 (dk_at dksX1_rounds_0 1 rfl rfl)
theorem dX1_rounds_4 : decode cX1_rounds 4 = .ok (.aload_n 0, 1) := dk_42 (dk_at dksX1_rounds_0 4 rfl rfl)
theorem dX1_rounds_5 : decode cX1_rounds 5 = .ok (.getfield 88, 3) := dk_180 0 88 (dk_at dksX1_rounds_0 5 rfl rfl)
theorem dX1_rounds_8 : decode cX1_rounds 8 = .ok (.ireturn, 1) := dk_172 (dk_at dksX1_rounds_0 8 rfl rfl)
abbrev cX1_fresh : ByteArray := prog_8_method_15_code
def yX1_fresh : MethodName := ⟨RX1, "fresh", "()I"⟩
def dkwX1_fresh_1 : List UInt8 := [27, 3, 42, 28, 182, 0, 101, 184, 0, 113, 96, 60, 132, 2, 1, 167, 255, 221, 27, 172]
abbrev dktX1_fresh_1 : List UInt8 := dkwX1_fresh_1 ++ []
def dkwX1_fresh_0 : List UInt8 := [3, 60, 3, 61, 28, 42, 180, 0, 36, 162, 0, 33, 42, 28, 182, 0, 39, 180, 0, 74, 2, 160, 0, 15]
abbrev dktX1_fresh_0 : List UInt8 := dkwX1_fresh_0 ++ dktX1_fresh_1
theorem dksX1_fresh_0 : cX1_fresh.data.toList.drop 0 = dktX1_fresh_0 := by decide +kernel
theorem dksX1_fresh_1 : cX1_fresh.data.toList.drop 24 = dktX1_fresh_1 := dk_seg dksX1_fresh_0 24 rfl rfl
theorem dX1_fresh_0 : decode cX1_fresh 0 = .ok (.iconst 0, 1) := dk_3 (dk_at dksX1_fresh_0 0 rfl rfl)
theorem dX1_fresh_1 : decode cX1_fresh 1 = .ok (.istore_n 1, 1) := dk_60 (dk_at dksX1_fresh_0 1 rfl rfl)
theorem dX1_fresh_2 : decode cX1_fresh 2 = .ok (.iconst 0, 1) := dk_3 (dk_at dksX1_fresh_0 2 rfl rfl)
theorem dX1_fresh_3 : decode cX1_fresh 3 = .ok (.istore_n 2, 1) := dk_61 (dk_at dksX1_fresh_0 3 rfl rfl)
theorem dX1_fresh_4 : decode cX1_fresh 4 = .ok (.iload_n 2, 1) := dk_28 (dk_at dksX1_fresh_0 4 rfl rfl)
theorem dX1_fresh_5 : decode cX1_fresh 5 = .ok (.aload_n 0, 1) := dk_42 (dk_at dksX1_fresh_0 5 rfl rfl)
theorem dX1_fresh_6 : decode cX1_fresh 6 = .ok (.getfield 36, 3) := dk_180 0 36 (dk_at dksX1_fresh_0 6 rfl rfl)
theorem dX1_fresh_9 : decode cX1_fresh 9 = .ok (.if_icmp .ge 33, 3) := dk_162 0 33 (dk_at dksX1_fresh_0 9 rfl rfl)
theorem dX1_fresh_12 : decode cX1_fresh 12 = .ok (.aload_n 0, 1) := dk_42 (dk_at dksX1_fresh_0 12 rfl rfl)
theorem dX1_fresh_13 : decode cX1_fresh 13 = .ok (.iload_n 2, 1) := dk_28 (dk_at dksX1_fresh_0 13 rfl rfl)
theorem dX1_fresh_14 : decode cX1_fresh 14 = .ok (.invokevirtual 39, 3) := dk_182 0 39 (dk_at dksX1_fresh_0 14 rfl rfl)
theorem dX1_fresh_17 : decode cX1_fresh 17 = .ok (.getfield 74, 3) := dk_180 0 74 (dk_at dksX1_fresh_0 17 rfl rfl)
theorem dX1_fresh_20 : decode cX1_fresh 20 = .ok (.iconst (-1), 1) := dk_2 (dk_at dksX1_fresh_0 20 rfl rfl)
theorem dX1_fresh_21 : decode cX1_fresh 21 = .ok (.if_icmp .ne 15, 3) := dk_160 0 15 (dk_at dksX1_fresh_0 21 rfl rfl)
theorem dX1_fresh_24 : decode cX1_fresh 24 = .ok (.iload_n 1, 1) := dk_27 (dk_at dksX1_fresh_1 0 rfl rfl)
theorem dX1_fresh_25 : decode cX1_fresh 25 = .ok (.iconst 0, 1) := dk_3 (dk_at dksX1_fresh_1 1 rfl rfl)
theorem dX1_fresh_26 : decode cX1_fresh 26 = .ok (.aload_n 0, 1) := dk_42 (dk_at dksX1_fresh_1 2 rfl rfl)
theorem dX1_fresh_27 : decode cX1_fresh 27 = .ok (.iload_n 2, 1) := dk_28 (dk_at dksX1_fresh_1 3 rfl rfl)
theorem dX1_fresh_28 : decode cX1_fresh 28 = .ok (.invokevirtual 101, 3) := dk_182 0 101 (dk_at dksX1_fresh_1 4 rfl rfl)
theorem dX1_fresh_31 : decode cX1_fresh 31 = .ok (.invokestatic 113, 3) := dk_184 0 113 (dk_at dksX1_fresh_1 7 rfl rfl)
theorem dX1_fresh_34 : decode cX1_fresh 34 = .ok (.iadd, 1) := dk_96 (dk_at dksX1_fresh_1 10 rfl rfl)
theorem dX1_fresh_35 : decode cX1_fresh 35 = .ok (.istore_n 1, 1) := dk_60 (dk_at dksX1_fresh_1 11 rfl rfl)
theorem dX1_fresh_36 : decode cX1_fresh 36 = .ok (.iinc 2 1, 3) := dk_132 2 1 (dk_at dksX1_fresh_1 12 rfl rfl)
theorem dX1_fresh_39 : decode cX1_fresh 39 = .ok (.goto (-35), 3) := dk_167 255 221 (dk_at dksX1_fresh_1 15 rfl rfl)
theorem dX1_fresh_42 : decode cX1_fresh 42 = .ok (.iload_n 1, 1) := dk_27 (dk_at dksX1_fresh_1 18 rfl rfl)
theorem dX1_fresh_43 : decode cX1_fresh 43 = .ok (.ireturn, 1) := dk_172 (dk_at dksX1_fresh_1 19 rfl rfl)
abbrev cX1_lost : ByteArray := prog_8_method_16_code
def yX1_lost : MethodName := ⟨RX1, "lost", "()I"⟩
def dkwX1_lost_0 : List UInt8 := [42, 182, 0, 116, 42, 180, 0, 19, 3, 46, 104, 172]
abbrev dktX1_lost_0 : List UInt8 := dkwX1_lost_0 ++ []
theorem dksX1_lost_0 : cX1_lost.data.toList.drop 0 = dktX1_lost_0 := by decide +kernel
theorem dX1_lost_0 : decode cX1_lost 0 = .ok (.aload_n 0, 1) := dk_42 (dk_at dksX1_lost_0 0 rfl rfl)
theorem dX1_lost_1 : decode cX1_lost 1 = .ok (.invokevirtual 116, 3) := dk_182 0 116 (dk_at dksX1_lost_0 1 rfl rfl)
theorem dX1_lost_4 : decode cX1_lost 4 = .ok (.aload_n 0, 1) := dk_42 (dk_at dksX1_lost_0 4 rfl rfl)
theorem dX1_lost_5 : decode cX1_lost 5 = .ok (.getfield 19, 3) := dk_180 0 19 (dk_at dksX1_lost_0 5 rfl rfl)
theorem dX1_lost_8 : decode cX1_lost 8 = .ok (.iconst 0, 1) := dk_3 (dk_at dksX1_lost_0 8 rfl rfl)
theorem dX1_lost_9 : decode cX1_lost 9 = .ok (.iaload, 1) := dk_46 (dk_at dksX1_lost_0 9 rfl rfl)
theorem dX1_lost_10 : decode cX1_lost 10 = .ok (.imul, 1) := dk_104 (dk_at dksX1_lost_0 10 rfl rfl)
theorem dX1_lost_11 : decode cX1_lost 11 = .ok (.ireturn, 1) := dk_172 (dk_at dksX1_lost_0 11 rfl rfl)
abbrev cX1_isSmoky : ByteArray := prog_8_method_17_code
def yX1_isSmoky : MethodName := ⟨RX1, "isSmoky", "()Z"⟩
def dkwX1_isSmoky_2 : List UInt8 := [182, 0, 101, 155, 0, 5, 4, 172, 132, 1, 1, 167, 255, 200, 3, 172]
abbrev dktX1_isSmoky_2 : List UInt8 := dkwX1_isSmoky_2 ++ []
def dkwX1_isSmoky_1 : List UInt8 := [182, 0, 39, 180, 0, 74, 2, 160, 0, 24, 42, 27, 182, 0, 39, 180, 0, 124, 154, 0, 13, 42, 27]
abbrev dktX1_isSmoky_1 : List UInt8 := dkwX1_isSmoky_1 ++ dktX1_isSmoky_2
def dkwX1_isSmoky_0 : List UInt8 := [3, 60, 27, 42, 180, 0, 36, 162, 0, 54, 42, 27, 182, 0, 39, 5, 182, 0, 120, 153, 0, 36, 42, 27]
abbrev dktX1_isSmoky_0 : List UInt8 := dkwX1_isSmoky_0 ++ dktX1_isSmoky_1
theorem dksX1_isSmoky_0 : cX1_isSmoky.data.toList.drop 0 = dktX1_isSmoky_0 := by decide +kernel
theorem dksX1_isSmoky_1 : cX1_isSmoky.data.toList.drop 24 = dktX1_isSmoky_1 := dk_seg dksX1_isSmoky_0 24 rfl rfl
theorem dksX1_isSmoky_2 : cX1_isSmoky.data.toList.drop 47 = dktX1_isSmoky_2 := dk_seg dksX1_isSmoky_1 23 rfl rfl
theorem dX1_isSmoky_0 : decode cX1_isSmoky 0 = .ok (.iconst 0, 1) := dk_3 (dk_at dksX1_isSmoky_0 0 rfl rfl)
theorem dX1_isSmoky_1 : decode cX1_isSmoky 1 = .ok (.istore_n 1, 1) := dk_60 (dk_at dksX1_isSmoky_0 1 rfl rfl)
theorem dX1_isSmoky_2 : decode cX1_isSmoky 2 = .ok (.iload_n 1, 1) := dk_27 (dk_at dksX1_isSmoky_0 2 rfl rfl)
theorem dX1_isSmoky_3 : decode cX1_isSmoky 3 = .ok (.aload_n 0, 1) := dk_42 (dk_at dksX1_isSmoky_0 3 rfl rfl)
theorem dX1_isSmoky_4 : decode cX1_isSmoky 4 = .ok (.getfield 36, 3) := dk_180 0 36 (dk_at dksX1_isSmoky_0 4 rfl rfl)
theorem dX1_isSmoky_7 : decode cX1_isSmoky 7 = .ok (.if_icmp .ge 54, 3) := dk_162 0 54 (dk_at dksX1_isSmoky_0 7 rfl rfl)
theorem dX1_isSmoky_10 : decode cX1_isSmoky 10 = .ok (.aload_n 0, 1) := dk_42 (dk_at dksX1_isSmoky_0 10 rfl rfl)
theorem dX1_isSmoky_11 : decode cX1_isSmoky 11 = .ok (.iload_n 1, 1) := dk_27 (dk_at dksX1_isSmoky_0 11 rfl rfl)
theorem dX1_isSmoky_12 : decode cX1_isSmoky 12 = .ok (.invokevirtual 39, 3) := dk_182 0 39 (dk_at dksX1_isSmoky_0 12 rfl rfl)
theorem dX1_isSmoky_15 : decode cX1_isSmoky 15 = .ok (.iconst 2, 1) := dk_5 (dk_at dksX1_isSmoky_0 15 rfl rfl)
theorem dX1_isSmoky_16 : decode cX1_isSmoky 16 = .ok (.invokevirtual 120, 3) := dk_182 0 120 (dk_at dksX1_isSmoky_0 16 rfl rfl)
theorem dX1_isSmoky_19 : decode cX1_isSmoky 19 = .ok (.ifCond .eq 36, 3) := dk_153 0 36 (dk_at dksX1_isSmoky_0 19 rfl rfl)
theorem dX1_isSmoky_22 : decode cX1_isSmoky 22 = .ok (.aload_n 0, 1) := dk_42 (dk_at dksX1_isSmoky_0 22 rfl rfl)
theorem dX1_isSmoky_23 : decode cX1_isSmoky 23 = .ok (.iload_n 1, 1) := dk_27 (dk_at dksX1_isSmoky_0 23 rfl rfl)
theorem dX1_isSmoky_24 : decode cX1_isSmoky 24 = .ok (.invokevirtual 39, 3) := dk_182 0 39 (dk_at dksX1_isSmoky_1 0 rfl rfl)
theorem dX1_isSmoky_27 : decode cX1_isSmoky 27 = .ok (.getfield 74, 3) := dk_180 0 74 (dk_at dksX1_isSmoky_1 3 rfl rfl)
theorem dX1_isSmoky_30 : decode cX1_isSmoky 30 = .ok (.iconst (-1), 1) := dk_2 (dk_at dksX1_isSmoky_1 6 rfl rfl)
theorem dX1_isSmoky_31 : decode cX1_isSmoky 31 = .ok (.if_icmp .ne 24, 3) := dk_160 0 24 (dk_at dksX1_isSmoky_1 7 rfl rfl)
theorem dX1_isSmoky_34 : decode cX1_isSmoky 34 = .ok (.aload_n 0, 1) := dk_42 (dk_at dksX1_isSmoky_1 10 rfl rfl)
theorem dX1_isSmoky_35 : decode cX1_isSmoky 35 = .ok (.iload_n 1, 1) := dk_27 (dk_at dksX1_isSmoky_1 11 rfl rfl)
theorem dX1_isSmoky_36 : decode cX1_isSmoky 36 = .ok (.invokevirtual 39, 3) := dk_182 0 39 (dk_at dksX1_isSmoky_1 12 rfl rfl)
theorem dX1_isSmoky_39 : decode cX1_isSmoky 39 = .ok (.getfield 124, 3) := dk_180 0 124 (dk_at dksX1_isSmoky_1 15 rfl rfl)
theorem dX1_isSmoky_42 : decode cX1_isSmoky 42 = .ok (.ifCond .ne 13, 3) := dk_154 0 13 (dk_at dksX1_isSmoky_1 18 rfl rfl)
theorem dX1_isSmoky_45 : decode cX1_isSmoky 45 = .ok (.aload_n 0, 1) := dk_42 (dk_at dksX1_isSmoky_1 21 rfl rfl)
theorem dX1_isSmoky_46 : decode cX1_isSmoky 46 = .ok (.iload_n 1, 1) := dk_27 (dk_at dksX1_isSmoky_1 22 rfl rfl)
theorem dX1_isSmoky_47 : decode cX1_isSmoky 47 = .ok (.invokevirtual 101, 3) := dk_182 0 101 (dk_at dksX1_isSmoky_2 0 rfl rfl)
theorem dX1_isSmoky_50 : decode cX1_isSmoky 50 = .ok (.ifCond .lt 5, 3) := dk_155 0 5 (dk_at dksX1_isSmoky_2 3 rfl rfl)
theorem dX1_isSmoky_53 : decode cX1_isSmoky 53 = .ok (.iconst 1, 1) := dk_4 (dk_at dksX1_isSmoky_2 6 rfl rfl)
theorem dX1_isSmoky_54 : decode cX1_isSmoky 54 = .ok (.ireturn, 1) := dk_172 (dk_at dksX1_isSmoky_2 7 rfl rfl)
theorem dX1_isSmoky_55 : decode cX1_isSmoky 55 = .ok (.iinc 1 1, 3) := dk_132 1 1 (dk_at dksX1_isSmoky_2 8 rfl rfl)
theorem dX1_isSmoky_58 : decode cX1_isSmoky 58 = .ok (.goto (-56), 3) := dk_167 255 200 (dk_at dksX1_isSmoky_2 11 rfl rfl)
theorem dX1_isSmoky_61 : decode cX1_isSmoky 61 = .ok (.iconst 0, 1) := dk_3 (dk_at dksX1_isSmoky_2 14 rfl rfl)
theorem dX1_isSmoky_62 : decode cX1_isSmoky 62 = .ok (.ireturn, 1) := dk_172 (dk_at dksX1_isSmoky_2 15 rfl rfl)
abbrev cX1_isRestless : ByteArray := prog_8_method_12_code
def yX1_isRestless : MethodName := ⟨RX1, "isRestless", "()Z"⟩
def dkwX1_isRestless_0 : List UInt8 := [42, 182, 0, 98, 42, 180, 0, 95, 172]
abbrev dktX1_isRestless_0 : List UInt8 := dkwX1_isRestless_0 ++ []
theorem dksX1_isRestless_0 : cX1_isRestless.data.toList.drop 0 = dktX1_isRestless_0 := by decide +kernel
theorem dX1_isRestless_0 : decode cX1_isRestless 0 = .ok (.aload_n 0, 1) := dk_42 (dk_at dksX1_isRestless_0 0 rfl rfl)
theorem dX1_isRestless_1 : decode cX1_isRestless 1 = .ok (.invokevirtual 98, 3) := dk_182 0 98 (dk_at dksX1_isRestless_0 1 rfl rfl)
theorem dX1_isRestless_4 : decode cX1_isRestless 4 = .ok (.aload_n 0, 1) := dk_42 (dk_at dksX1_isRestless_0 4 rfl rfl)
theorem dX1_isRestless_5 : decode cX1_isRestless 5 = .ok (.getfield 95, 3) := dk_180 0 95 (dk_at dksX1_isRestless_0 5 rfl rfl)
theorem dX1_isRestless_8 : decode cX1_isRestless 8 = .ok (.ireturn, 1) := dk_172 (dk_at dksX1_isRestless_0 8 rfl rfl)
abbrev cX1_seen : ByteArray := prog_8_method_19_code
def yX1_seen : MethodName := ⟨RX1, "seen", "(I)I"⟩
def dkwX1_seen_2 : List UInt8 := [172]
abbrev dktX1_seen_2 : List UInt8 := dkwX1_seen_2 ++ []
def dkwX1_seen_1 : List UInt8 := [154, 0, 15, 42, 27, 182, 0, 39, 182, 0, 131, 4, 160, 0, 7, 3, 167, 0, 8, 42, 27, 182, 0, 134]
abbrev dktX1_seen_1 : List UInt8 := dkwX1_seen_1 ++ dktX1_seen_2
def dkwX1_seen_0 : List UInt8 := [42, 182, 0, 128, 16, 100, 112, 42, 180, 0, 19, 8, 46, 162, 0, 7, 4, 167, 0, 4, 3, 61, 28]
abbrev dktX1_seen_0 : List UInt8 := dkwX1_seen_0 ++ dktX1_seen_1
theorem dksX1_seen_0 : cX1_seen.data.toList.drop 0 = dktX1_seen_0 := by decide +kernel
theorem dksX1_seen_1 : cX1_seen.data.toList.drop 23 = dktX1_seen_1 := dk_seg dksX1_seen_0 23 rfl rfl
theorem dksX1_seen_2 : cX1_seen.data.toList.drop 47 = dktX1_seen_2 := dk_seg dksX1_seen_1 24 rfl rfl
theorem dX1_seen_0 : decode cX1_seen 0 = .ok (.aload_n 0, 1) := dk_42 (dk_at dksX1_seen_0 0 rfl rfl)
theorem dX1_seen_1 : decode cX1_seen 1 = .ok (.invokevirtual 128, 3) := dk_182 0 128 (dk_at dksX1_seen_0 1 rfl rfl)
theorem dX1_seen_4 : decode cX1_seen 4 = .ok (.bipush 100, 2) := dk_16 100 (dk_at dksX1_seen_0 4 rfl rfl)
theorem dX1_seen_6 : decode cX1_seen 6 = .ok (.irem, 1) := dk_112 (dk_at dksX1_seen_0 6 rfl rfl)
theorem dX1_seen_7 : decode cX1_seen 7 = .ok (.aload_n 0, 1) := dk_42 (dk_at dksX1_seen_0 7 rfl rfl)
theorem dX1_seen_8 : decode cX1_seen 8 = .ok (.getfield 19, 3) := dk_180 0 19 (dk_at dksX1_seen_0 8 rfl rfl)
theorem dX1_seen_11 : decode cX1_seen 11 = .ok (.iconst 5, 1) := dk_8 (dk_at dksX1_seen_0 11 rfl rfl)
theorem dX1_seen_12 : decode cX1_seen 12 = .ok (.iaload, 1) := dk_46 (dk_at dksX1_seen_0 12 rfl rfl)
theorem dX1_seen_13 : decode cX1_seen 13 = .ok (.if_icmp .ge 7, 3) := dk_162 0 7 (dk_at dksX1_seen_0 13 rfl rfl)
theorem dX1_seen_16 : decode cX1_seen 16 = .ok (.iconst 1, 1) := dk_4 (dk_at dksX1_seen_0 16 rfl rfl)
theorem dX1_seen_17 : decode cX1_seen 17 = .ok (.goto 4, 3) := dk_167 0 4 (dk_at dksX1_seen_0 17 rfl rfl)
theorem dX1_seen_20 : decode cX1_seen 20 = .ok (.iconst 0, 1) := dk_3 (dk_at dksX1_seen_0 20 rfl rfl)
theorem dX1_seen_21 : decode cX1_seen 21 = .ok (.istore_n 2, 1) := dk_61 (dk_at dksX1_seen_0 21 rfl rfl)
theorem dX1_seen_22 : decode cX1_seen 22 = .ok (.iload_n 2, 1) := dk_28 (dk_at dksX1_seen_0 22 rfl rfl)
theorem dX1_seen_23 : decode cX1_seen 23 = .ok (.ifCond .ne 15, 3) := dk_154 0 15 (dk_at dksX1_seen_1 0 rfl rfl)
theorem dX1_seen_26 : decode cX1_seen 26 = .ok (.aload_n 0, 1) := dk_42 (dk_at dksX1_seen_1 3 rfl rfl)
theorem dX1_seen_27 : decode cX1_seen 27 = .ok (.iload_n 1, 1) := dk_27 (dk_at dksX1_seen_1 4 rfl rfl)
theorem dX1_seen_28 : decode cX1_seen 28 = .ok (.invokevirtual 39, 3) := dk_182 0 39 (dk_at dksX1_seen_1 5 rfl rfl)
theorem dX1_seen_31 : decode cX1_seen 31 = .ok (.invokevirtual 131, 3) := dk_182 0 131 (dk_at dksX1_seen_1 8 rfl rfl)
theorem dX1_seen_34 : decode cX1_seen 34 = .ok (.iconst 1, 1) := dk_4 (dk_at dksX1_seen_1 11 rfl rfl)
theorem dX1_seen_35 : decode cX1_seen 35 = .ok (.if_icmp .ne 7, 3) := dk_160 0 7 (dk_at dksX1_seen_1 12 rfl rfl)
theorem dX1_seen_38 : decode cX1_seen 38 = .ok (.iconst 0, 1) := dk_3 (dk_at dksX1_seen_1 15 rfl rfl)
theorem dX1_seen_39 : decode cX1_seen 39 = .ok (.goto 8, 3) := dk_167 0 8 (dk_at dksX1_seen_1 16 rfl rfl)
theorem dX1_seen_42 : decode cX1_seen 42 = .ok (.aload_n 0, 1) := dk_42 (dk_at dksX1_seen_1 19 rfl rfl)
theorem dX1_seen_43 : decode cX1_seen 43 = .ok (.iload_n 1, 1) := dk_27 (dk_at dksX1_seen_1 20 rfl rfl)
theorem dX1_seen_44 : decode cX1_seen 44 = .ok (.invokevirtual 134, 3) := dk_182 0 134 (dk_at dksX1_seen_1 21 rfl rfl)
theorem dX1_seen_47 : decode cX1_seen 47 = .ok (.ireturn, 1) := dk_172 (dk_at dksX1_seen_2 0 rfl rfl)
abbrev cX1_draw : ByteArray := prog_8_method_18_code
def yX1_draw : MethodName := ⟨RX1, "draw", "()I"⟩
def dkwX1_draw_0 : List UInt8 := [42, 42, 180, 0, 23, 18, 127, 104, 17, 48, 57, 96, 181, 0, 23, 42, 180, 0, 23, 16, 8, 124, 172]
abbrev dktX1_draw_0 : List UInt8 := dkwX1_draw_0 ++ []
theorem dksX1_draw_0 : cX1_draw.data.toList.drop 0 = dktX1_draw_0 := by decide +kernel
theorem dX1_draw_0 : decode cX1_draw 0 = .ok (.aload_n 0, 1) := dk_42 (dk_at dksX1_draw_0 0 rfl rfl)
theorem dX1_draw_1 : decode cX1_draw 1 = .ok (.aload_n 0, 1) := dk_42 (dk_at dksX1_draw_0 1 rfl rfl)
theorem dX1_draw_2 : decode cX1_draw 2 = .ok (.getfield 23, 3) := dk_180 0 23 (dk_at dksX1_draw_0 2 rfl rfl)
theorem dX1_draw_5 : decode cX1_draw 5 = .ok (.ldc 127, 2) := dk_18 127 (dk_at dksX1_draw_0 5 rfl rfl)
theorem dX1_draw_7 : decode cX1_draw 7 = .ok (.imul, 1) := dk_104 (dk_at dksX1_draw_0 7 rfl rfl)
theorem dX1_draw_8 : decode cX1_draw 8 = .ok (.sipush 12345, 3) := dk_17 48 57 (dk_at dksX1_draw_0 8 rfl rfl)
theorem dX1_draw_11 : decode cX1_draw 11 = .ok (.iadd, 1) := dk_96 (dk_at dksX1_draw_0 11 rfl rfl)
theorem dX1_draw_12 : decode cX1_draw 12 = .ok (.putfield 23, 3) := dk_181 0 23 (dk_at dksX1_draw_0 12 rfl rfl)
theorem dX1_draw_15 : decode cX1_draw 15 = .ok (.aload_n 0, 1) := dk_42 (dk_at dksX1_draw_0 15 rfl rfl)
theorem dX1_draw_16 : decode cX1_draw 16 = .ok (.getfield 23, 3) := dk_180 0 23 (dk_at dksX1_draw_0 16 rfl rfl)
theorem dX1_draw_19 : decode cX1_draw 19 = .ok (.bipush 8, 2) := dk_16 8 (dk_at dksX1_draw_0 19 rfl rfl)
theorem dX1_draw_21 : decode cX1_draw 21 = .ok (.iushr, 1) := dk_124 (dk_at dksX1_draw_0 21 rfl rfl)
theorem dX1_draw_22 : decode cX1_draw 22 = .ok (.ireturn, 1) := dk_172 (dk_at dksX1_draw_0 22 rfl rfl)
theorem q68 : (Jvm.Cond.initialized "SmokeLeans$House") ∈ lw_all := lw_g (lw_at lw_m1 2 rfl) rfl
theorem q98 : (Jvm.Cond.instantiable "SmokeLeans$House" (10 : Nat)) ∈ lw_all := lw_g (lw_at lw_m1 32 rfl) rfl
theorem q100 : (Jvm.Cond.instanceMethod ({ cls := "SmokeLeans$House", name := "<init>", desc := "()V" } : Jvm.MethodName)) ∈ lw_all := lw_g (lw_at lw_m1 34 rfl) rfl
theorem q101 : (Jvm.Cond.code ({ cls := "SmokeLeans$House", name := "<init>", desc := "()V" } : Jvm.MethodName) prog_8_method_1_code (1 : Nat) (Option.none : Option Jvm.ClassFile.FieldType)) ∈ lw_all := lw_g (lw_at lw_m1 35 rfl) rfl
theorem q102 : (Jvm.Cond.methodLink "SmokeLeans$House" (3 : Nat) ({ cls := "java/lang/Object", name := "<init>", desc := "()V" } : Jvm.MethodName)) ∈ lw_all := lw_g (lw_at lw_m1 36 rfl) rfl
theorem q103 : (Jvm.Cond.methodLinkNest "SmokeLeans$House" (9 : Nat) ({ cls := "SmokeLeans", name := "slots", desc := "(I)[LSmokeLeans$Slot;" } : Jvm.MethodName) "SmokeLeans") ∈ lw_tbl := lw_at lw_m1 37 rfl
theorem q113 : (Jvm.Cond.fieldLink "SmokeLeans$House" (46 : Nat) "SmokeLeans$Slot" "held" "Ljava/lang/Object;") ∈ lw_all := lw_g (lw_at lw_m1 47 rfl) rfl
theorem q119 : (Jvm.Cond.fieldLink "SmokeLeans$House" (33 : Nat) "SmokeLeans$House" "rooms" "I") ∈ lw_all := lw_g (lw_at lw_m1 53 rfl) rfl
theorem q122 : (Jvm.Cond.fieldLink "SmokeLeans$House" (36 : Nat) "SmokeLeans$House" "gaps" "I") ∈ lw_all := lw_g (lw_at lw_m1 56 rfl) rfl
theorem q125 : (Jvm.Cond.fieldLink "SmokeLeans$House" (13 : Nat) "SmokeLeans$House" "gap" "[LSmokeLeans$Slot;") ∈ lw_all := lw_g (lw_at lw_m1 59 rfl) rfl
theorem q128 : (Jvm.Cond.fieldLink "SmokeLeans$House" (19 : Nat) "SmokeLeans$House" "night" "[I") ∈ lw_all := lw_g (lw_at lw_m1 62 rfl) rfl
theorem q131 : (Jvm.Cond.fieldLink "SmokeLeans$House" (23 : Nat) "SmokeLeans$House" "z" "I") ∈ lw_all := lw_g (lw_at lw_m1 65 rfl) rfl
theorem q133 : (Jvm.Cond.fieldLink "SmokeLeans$House" (63 : Nat) "SmokeLeans$House" "isFresh" "Z") ∈ lw_all := lw_g (lw_at lw_m1 67 rfl) rfl
theorem q134 : (Jvm.Cond.fieldLink "SmokeLeans$House" (27 : Nat) "SmokeLeans$House" "pressure" "[I") ∈ lw_all := lw_g (lw_at lw_m1 68 rfl) rfl
theorem q135 : (Jvm.Cond.fieldLink "SmokeLeans$House" (30 : Nat) "SmokeLeans$House" "before" "[I") ∈ lw_all := lw_g (lw_at lw_m1 69 rfl) rfl
theorem q136 : (Jvm.Cond.fieldLink "SmokeLeans$House" (88 : Nat) "SmokeLeans$House" "rounds" "I") ∈ lw_all := lw_g (lw_at lw_m1 70 rfl) rfl
theorem q137 : (Jvm.Cond.fieldLink "SmokeLeans$House" (95 : Nat) "SmokeLeans$House" "isRestless" "Z") ∈ lw_all := lw_g (lw_at lw_m1 71 rfl) rfl
theorem q138 : (Jvm.Cond.lays "SmokeLeans$House" "SmokeLeans$House" "rooms" "I") ∈ lw_all := lw_g (lw_at lw_m1 72 rfl) rfl
theorem q139 : (Jvm.Cond.soleField "SmokeLeans$House" "rooms") ∈ lw_all := lw_g (lw_at lw_m1 73 rfl) rfl
theorem q140 : (Jvm.Cond.lays "SmokeLeans$House" "SmokeLeans$House" "gaps" "I") ∈ lw_all := lw_g (lw_at lw_m1 74 rfl) rfl
theorem q141 : (Jvm.Cond.soleField "SmokeLeans$House" "gaps") ∈ lw_all := lw_g (lw_at lw_m1 75 rfl) rfl
theorem q142 : (Jvm.Cond.laysFinal "SmokeLeans$House" "SmokeLeans$House" "gap" "[LSmokeLeans$Slot;") ∈ lw_all := lw_g (lw_at lw_m1 76 rfl) rfl
theorem q143 : (Jvm.Cond.soleField "SmokeLeans$House" "gap") ∈ lw_all := lw_g (lw_at lw_m1 77 rfl) rfl
theorem q144 : (Jvm.Cond.laysFinal "SmokeLeans$House" "SmokeLeans$House" "night" "[I") ∈ lw_all := lw_g (lw_at lw_m1 78 rfl) rfl
theorem q145 : (Jvm.Cond.soleField "SmokeLeans$House" "night") ∈ lw_all := lw_g (lw_at lw_m1 79 rfl) rfl
theorem q146 : (Jvm.Cond.lays "SmokeLeans$House" "SmokeLeans$House" "z" "I") ∈ lw_all := lw_g (lw_at lw_m1 80 rfl) rfl
theorem q147 : (Jvm.Cond.soleField "SmokeLeans$House" "z") ∈ lw_all := lw_g (lw_at lw_m1 81 rfl) rfl
theorem q148 : (Jvm.Cond.lays "SmokeLeans$House" "SmokeLeans$House" "isFresh" "Z") ∈ lw_all := lw_g (lw_at lw_m1 82 rfl) rfl
theorem q149 : (Jvm.Cond.soleField "SmokeLeans$House" "isFresh") ∈ lw_all := lw_g (lw_at lw_m1 83 rfl) rfl
theorem q150 : (Jvm.Cond.laysFinal "SmokeLeans$House" "SmokeLeans$House" "pressure" "[I") ∈ lw_all := lw_g (lw_at lw_m1 84 rfl) rfl
theorem q151 : (Jvm.Cond.soleField "SmokeLeans$House" "pressure") ∈ lw_all := lw_g (lw_at lw_m1 85 rfl) rfl
theorem q152 : (Jvm.Cond.laysFinal "SmokeLeans$House" "SmokeLeans$House" "before" "[I") ∈ lw_all := lw_g (lw_at lw_m1 86 rfl) rfl
theorem q153 : (Jvm.Cond.soleField "SmokeLeans$House" "before") ∈ lw_all := lw_g (lw_at lw_m1 87 rfl) rfl
theorem q154 : (Jvm.Cond.lays "SmokeLeans$House" "SmokeLeans$House" "rounds" "I") ∈ lw_all := lw_g (lw_at lw_m1 88 rfl) rfl
theorem q155 : (Jvm.Cond.soleField "SmokeLeans$House" "rounds") ∈ lw_all := lw_g (lw_at lw_m1 89 rfl) rfl
theorem q156 : (Jvm.Cond.lays "SmokeLeans$House" "SmokeLeans$House" "isRestless" "Z") ∈ lw_all := lw_g (lw_at lw_m1 90 rfl) rfl
theorem q157 : (Jvm.Cond.soleField "SmokeLeans$House" "isRestless") ∈ lw_all := lw_g (lw_at lw_m1 91 rfl) rfl
theorem q158 : (Jvm.Cond.superclass "SmokeLeans$House" "java/lang/Object") ∈ lw_all := lw_g (lw_at lw_m1 92 rfl) rfl
theorem q274 : (Jvm.Cond.instanceMethod ({ cls := "SmokeLeans$House", name := "changes", desc := "()V" } : Jvm.MethodName)) ∈ lw_all := lw_g (lw_at lw_m1 208 rfl) rfl
theorem q275 : (Jvm.Cond.selects "SmokeLeans$House" ({ cls := "SmokeLeans$House", name := "changes", desc := "()V" } : Jvm.MethodName) ({ cls := "SmokeLeans$House", name := "changes", desc := "()V" } : Jvm.MethodName)) ∈ lw_all := lw_g (lw_at lw_m1 209 rfl) rfl
theorem q276 : (Jvm.Cond.code ({ cls := "SmokeLeans$House", name := "changes", desc := "()V" } : Jvm.MethodName) prog_8_method_4_code (1 : Nat) (Option.none : Option Jvm.ClassFile.FieldType)) ∈ lw_all := lw_g (lw_at lw_m1 210 rfl) rfl
theorem q312 : (Jvm.Cond.fieldLink "SmokeLeans$House" (71 : Nat) "SmokeLeans$Gap" "room" "I") ∈ lw_all := lw_g (lw_at lw_m2 6 rfl) rfl
theorem q317 : (Jvm.Cond.fieldLink "SmokeLeans$House" (74 : Nat) "SmokeLeans$Gap" "to" "I") ∈ lw_all := lw_g (lw_at lw_m2 11 rfl) rfl
theorem q333 : (Jvm.Cond.fieldLink "SmokeLeans$House" (124 : Nat) "SmokeLeans$Gap" "isShut" "Z") ∈ lw_all := lw_g (lw_at lw_m2 27 rfl) rfl
theorem q429 : (Jvm.Cond.instanceMethod ({ cls := "SmokeLeans$House", name := "gap", desc := "(I)LSmokeLeans$Gap;" } : Jvm.MethodName)) ∈ lw_all := lw_g (lw_at lw_m2 123 rfl) rfl
theorem q430 : (Jvm.Cond.selects "SmokeLeans$House" ({ cls := "SmokeLeans$House", name := "gap", desc := "(I)LSmokeLeans$Gap;" } : Jvm.MethodName) ({ cls := "SmokeLeans$House", name := "gap", desc := "(I)LSmokeLeans$Gap;" } : Jvm.MethodName)) ∈ lw_all := lw_g (lw_at lw_m2 124 rfl) rfl
theorem q431 : (Jvm.Cond.code ({ cls := "SmokeLeans$House", name := "gap", desc := "(I)LSmokeLeans$Gap;" } : Jvm.MethodName) prog_8_method_3_code (2 : Nat) (Option.some (Jvm.ClassFile.FieldType.object "SmokeLeans$Gap"))) ∈ lw_all := lw_g (lw_at lw_m2 125 rfl) rfl
theorem q432 : (Jvm.Cond.classLink "SmokeLeans$House" (61 : Nat) "SmokeLeans$Gap") ∈ lw_all := lw_g (lw_at lw_m2 126 rfl) rfl
theorem q463 : (Jvm.Cond.instanceMethod ({ cls := "SmokeLeans$House", name := "breadth", desc := "(I)I" } : Jvm.MethodName)) ∈ lw_all := lw_g (lw_at lw_m2 157 rfl) rfl
theorem q464 : (Jvm.Cond.selects "SmokeLeans$House" ({ cls := "SmokeLeans$House", name := "breadth", desc := "(I)I" } : Jvm.MethodName) ({ cls := "SmokeLeans$House", name := "breadth", desc := "(I)I" } : Jvm.MethodName)) ∈ lw_all := lw_g (lw_at lw_m2 158 rfl) rfl
theorem q465 : (Jvm.Cond.code ({ cls := "SmokeLeans$House", name := "breadth", desc := "(I)I" } : Jvm.MethodName) prog_8_method_5_code (2 : Nat) (Option.some Jvm.ClassFile.FieldType.int)) ∈ lw_all := lw_g (lw_at lw_m2 159 rfl) rfl
theorem q466 : (Jvm.Cond.methodLink "SmokeLeans$House" (39 : Nat) ({ cls := "SmokeLeans$House", name := "gap", desc := "(I)LSmokeLeans$Gap;" } : Jvm.MethodName)) ∈ lw_all := lw_g (lw_at lw_m2 160 rfl) rfl
theorem q467 : (Jvm.Cond.methodLink "SmokeLeans$House" (67 : Nat) ({ cls := "SmokeLeans$Gap", name := "breadth", desc := "([I)I" } : Jvm.MethodName)) ∈ lw_all := lw_g (lw_at lw_m2 161 rfl) rfl
theorem q519 : (Jvm.Cond.instanceMethod ({ cls := "SmokeLeans$House", name := "shuts", desc := "(IZ)Z" } : Jvm.MethodName)) ∈ lw_all := lw_g (lw_at lw_m2 213 rfl) rfl
theorem q520 : (Jvm.Cond.selects "SmokeLeans$House" ({ cls := "SmokeLeans$House", name := "shuts", desc := "(IZ)Z" } : Jvm.MethodName) ({ cls := "SmokeLeans$House", name := "shuts", desc := "(IZ)Z" } : Jvm.MethodName)) ∈ lw_all := lw_g (lw_at lw_m2 214 rfl) rfl
theorem q521 : (Jvm.Cond.code ({ cls := "SmokeLeans$House", name := "shuts", desc := "(IZ)Z" } : Jvm.MethodName) prog_8_method_20_code (4 : Nat) (Option.some Jvm.ClassFile.FieldType.boolean)) ∈ lw_all := lw_g (lw_at lw_m2 215 rfl) rfl
theorem q522 : (Jvm.Cond.methodLink "SmokeLeans$House" (58 : Nat) ({ cls := "SmokeLeans$House", name := "changes", desc := "()V" } : Jvm.MethodName)) ∈ lw_all := lw_g (lw_at lw_m2 216 rfl) rfl
theorem q567 : (Jvm.Cond.instanceMethod ({ cls := "SmokeLeans$House", name := "become", desc := "(LSmokeLeans$House;)V" } : Jvm.MethodName)) ∈ lw_all := lw_g (lw_at lw_m3 21 rfl) rfl
theorem q568 : (Jvm.Cond.selects "SmokeLeans$House" ({ cls := "SmokeLeans$House", name := "become", desc := "(LSmokeLeans$House;)V" } : Jvm.MethodName) ({ cls := "SmokeLeans$House", name := "become", desc := "(LSmokeLeans$House;)V" } : Jvm.MethodName)) ∈ lw_all := lw_g (lw_at lw_m3 22 rfl) rfl
theorem q569 : (Jvm.Cond.code ({ cls := "SmokeLeans$House", name := "become", desc := "(LSmokeLeans$House;)V" } : Jvm.MethodName) prog_8_method_2_code (3 : Nat) (Option.none : Option Jvm.ClassFile.FieldType)) ∈ lw_all := lw_g (lw_at lw_m3 23 rfl) rfl
theorem q570 : (Jvm.Cond.methodLinkNest "SmokeLeans$House" (42 : Nat) ({ cls := "SmokeLeans", name := "copyOf", desc := "(LSmokeLeans$Gap;)LSmokeLeans$Gap;" } : Jvm.MethodName) "SmokeLeans") ∈ lw_tbl := lw_at lw_m3 24 rfl
theorem q573 : (Jvm.Cond.methodLink "SmokeLeans$House" (52 : Nat) ({ cls := "java/lang/System", name := "arraycopy", desc := "(Ljava/lang/Object;ILjava/lang/Object;II)V" } : Jvm.MethodName)) ∈ lw_all := lw_g (lw_at lw_m3 27 rfl) rfl
theorem q733 : (Jvm.Cond.instanceMethod ({ cls := "SmokeLeans$House", name := "pressure", desc := "(I)I" } : Jvm.MethodName)) ∈ lw_all := lw_g (lw_at lw_m3 187 rfl) rfl
theorem q734 : (Jvm.Cond.selects "SmokeLeans$House" ({ cls := "SmokeLeans$House", name := "pressure", desc := "(I)I" } : Jvm.MethodName) ({ cls := "SmokeLeans$House", name := "pressure", desc := "(I)I" } : Jvm.MethodName)) ∈ lw_all := lw_g (lw_at lw_m3 188 rfl) rfl
theorem q735 : (Jvm.Cond.code ({ cls := "SmokeLeans$House", name := "pressure", desc := "(I)I" } : Jvm.MethodName) prog_8_method_10_code (2 : Nat) (Option.some Jvm.ClassFile.FieldType.int)) ∈ lw_all := lw_g (lw_at lw_m3 189 rfl) rfl
theorem q736 : (Jvm.Cond.methodLink "SmokeLeans$House" (98 : Nat) ({ cls := "SmokeLeans$House", name := "finds", desc := "()V" } : Jvm.MethodName)) ∈ lw_all := lw_g (lw_at lw_m3 190 rfl) rfl
theorem q737 : (Jvm.Cond.privateMethod ({ cls := "SmokeLeans$House", name := "finds", desc := "()V" } : Jvm.MethodName)) ∈ lw_tbl := lw_at lw_m3 191 rfl
theorem q738 : (Jvm.Cond.instanceMethod ({ cls := "SmokeLeans$House", name := "finds", desc := "()V" } : Jvm.MethodName)) ∈ lw_all := lw_g (lw_at lw_m3 192 rfl) rfl
theorem q739 : (Jvm.Cond.code ({ cls := "SmokeLeans$House", name := "finds", desc := "()V" } : Jvm.MethodName) prog_8_method_9_code (2 : Nat) (Option.none : Option Jvm.ClassFile.FieldType)) ∈ lw_all := lw_g (lw_at lw_m3 193 rfl) rfl
theorem q740 : (Jvm.Cond.methodLink "SmokeLeans$House" (91 : Nat) ({ cls := "SmokeLeans$House", name := "round", desc := "()Z" } : Jvm.MethodName)) ∈ lw_all := lw_g (lw_at lw_m3 194 rfl) rfl
theorem q741 : (Jvm.Cond.privateMethod ({ cls := "SmokeLeans$House", name := "round", desc := "()Z" } : Jvm.MethodName)) ∈ lw_tbl := lw_at lw_m3 195 rfl
theorem q742 : (Jvm.Cond.instanceMethod ({ cls := "SmokeLeans$House", name := "round", desc := "()Z" } : Jvm.MethodName)) ∈ lw_all := lw_g (lw_at lw_m3 196 rfl) rfl
theorem q743 : (Jvm.Cond.code ({ cls := "SmokeLeans$House", name := "round", desc := "()Z" } : Jvm.MethodName) prog_8_method_8_code (3 : Nat) (Option.some Jvm.ClassFile.FieldType.boolean)) ∈ lw_all := lw_g (lw_at lw_m3 197 rfl) rfl
theorem q744 : (Jvm.Cond.methodLink "SmokeLeans$House" (84 : Nat) ({ cls := "SmokeLeans$House", name := "pressed", desc := "(I)I" } : Jvm.MethodName)) ∈ lw_all := lw_g (lw_at lw_m3 198 rfl) rfl
theorem q745 : (Jvm.Cond.privateMethod ({ cls := "SmokeLeans$House", name := "pressed", desc := "(I)I" } : Jvm.MethodName)) ∈ lw_tbl := lw_at lw_m3 199 rfl
theorem q746 : (Jvm.Cond.instanceMethod ({ cls := "SmokeLeans$House", name := "pressed", desc := "(I)I" } : Jvm.MethodName)) ∈ lw_all := lw_g (lw_at lw_m3 200 rfl) rfl
theorem q747 : (Jvm.Cond.code ({ cls := "SmokeLeans$House", name := "pressed", desc := "(I)I" } : Jvm.MethodName) prog_8_method_7_code (7 : Nat) (Option.some Jvm.ClassFile.FieldType.int)) ∈ lw_all := lw_g (lw_at lw_m3 201 rfl) rfl
theorem q748 : (Jvm.Cond.methodLink "SmokeLeans$House" (80 : Nat) ({ cls := "SmokeLeans$House", name := "pushes", desc := "(LSmokeLeans$Gap;I[I)I" } : Jvm.MethodName)) ∈ lw_all := lw_g (lw_at lw_m3 202 rfl) rfl
theorem q749 : (Jvm.Cond.privateMethod ({ cls := "SmokeLeans$House", name := "pushes", desc := "(LSmokeLeans$Gap;I[I)I" } : Jvm.MethodName)) ∈ lw_tbl := lw_at lw_m3 203 rfl
theorem q750 : (Jvm.Cond.instanceMethod ({ cls := "SmokeLeans$House", name := "pushes", desc := "(LSmokeLeans$Gap;I[I)I" } : Jvm.MethodName)) ∈ lw_all := lw_g (lw_at lw_m3 204 rfl) rfl
theorem q751 : (Jvm.Cond.code ({ cls := "SmokeLeans$House", name := "pushes", desc := "(LSmokeLeans$Gap;I[I)I" } : Jvm.MethodName) prog_8_method_6_code (5 : Nat) (Option.some Jvm.ClassFile.FieldType.int)) ∈ lw_all := lw_g (lw_at lw_m3 205 rfl) rfl
theorem q752 : (Jvm.Cond.methodLink "SmokeLeans$House" (77 : Nat) ({ cls := "SmokeLeans$Gap", name := "push", desc := "([I)I" } : Jvm.MethodName)) ∈ lw_all := lw_g (lw_at lw_m3 206 rfl) rfl
theorem q758 : (Jvm.Cond.instanceMethod ({ cls := "SmokeLeans$House", name := "flow", desc := "(I)I" } : Jvm.MethodName)) ∈ lw_all := lw_g (lw_at lw_m3 212 rfl) rfl
theorem q759 : (Jvm.Cond.selects "SmokeLeans$House" ({ cls := "SmokeLeans$House", name := "flow", desc := "(I)I" } : Jvm.MethodName) ({ cls := "SmokeLeans$House", name := "flow", desc := "(I)I" } : Jvm.MethodName)) ∈ lw_all := lw_g (lw_at lw_m3 213 rfl) rfl
theorem q760 : (Jvm.Cond.code ({ cls := "SmokeLeans$House", name := "flow", desc := "(I)I" } : Jvm.MethodName) prog_8_method_13_code (3 : Nat) (Option.some Jvm.ClassFile.FieldType.int)) ∈ lw_all := lw_g (lw_at lw_m3 214 rfl) rfl
theorem q766 : (Jvm.Cond.instanceMethod ({ cls := "SmokeLeans$House", name := "lean", desc := "(I)I" } : Jvm.MethodName)) ∈ lw_all := lw_g (lw_at lw_m3 220 rfl) rfl
theorem q767 : (Jvm.Cond.selects "SmokeLeans$House" ({ cls := "SmokeLeans$House", name := "lean", desc := "(I)I" } : Jvm.MethodName) ({ cls := "SmokeLeans$House", name := "lean", desc := "(I)I" } : Jvm.MethodName)) ∈ lw_all := lw_g (lw_at lw_m3 221 rfl) rfl
theorem q768 : (Jvm.Cond.code ({ cls := "SmokeLeans$House", name := "lean", desc := "(I)I" } : Jvm.MethodName) prog_8_method_14_code (4 : Nat) (Option.some Jvm.ClassFile.FieldType.int)) ∈ lw_all := lw_g (lw_at lw_m3 222 rfl) rfl
theorem q769 : (Jvm.Cond.methodLink "SmokeLeans$House" (101 : Nat) ({ cls := "SmokeLeans$House", name := "flow", desc := "(I)I" } : Jvm.MethodName)) ∈ lw_all := lw_g (lw_at lw_m3 223 rfl) rfl
theorem q770 : (Jvm.Cond.methodLink "SmokeLeans$House" (104 : Nat) ({ cls := "java/lang/Math", name := "abs", desc := "(I)I" } : Jvm.MethodName)) ∈ lw_all := lw_g (lw_at lw_m3 224 rfl) rfl
theorem q773 : (Jvm.Cond.methodLink "SmokeLeans$House" (109 : Nat) ({ cls := "java/lang/Math", name := "min", desc := "(II)I" } : Jvm.MethodName)) ∈ lw_all := lw_g (lw_at lw_m3 227 rfl) rfl
theorem q781 : (Jvm.Cond.instanceMethod ({ cls := "SmokeLeans$House", name := "rounds", desc := "()I" } : Jvm.MethodName)) ∈ lw_all := lw_g (lw_at lw_m3 235 rfl) rfl
theorem q782 : (Jvm.Cond.selects "SmokeLeans$House" ({ cls := "SmokeLeans$House", name := "rounds", desc := "()I" } : Jvm.MethodName) ({ cls := "SmokeLeans$House", name := "rounds", desc := "()I" } : Jvm.MethodName)) ∈ lw_all := lw_g (lw_at lw_m3 236 rfl) rfl
theorem q783 : (Jvm.Cond.code ({ cls := "SmokeLeans$House", name := "rounds", desc := "()I" } : Jvm.MethodName) prog_8_method_11_code (1 : Nat) (Option.some Jvm.ClassFile.FieldType.int)) ∈ lw_all := lw_g (lw_at lw_m3 237 rfl) rfl
theorem q793 : (Jvm.Cond.instanceMethod ({ cls := "SmokeLeans$House", name := "fresh", desc := "()I" } : Jvm.MethodName)) ∈ lw_all := lw_g (lw_at lw_m4 7 rfl) rfl
theorem q794 : (Jvm.Cond.selects "SmokeLeans$House" ({ cls := "SmokeLeans$House", name := "fresh", desc := "()I" } : Jvm.MethodName) ({ cls := "SmokeLeans$House", name := "fresh", desc := "()I" } : Jvm.MethodName)) ∈ lw_all := lw_g (lw_at lw_m4 8 rfl) rfl
theorem q795 : (Jvm.Cond.code ({ cls := "SmokeLeans$House", name := "fresh", desc := "()I" } : Jvm.MethodName) prog_8_method_15_code (3 : Nat) (Option.some Jvm.ClassFile.FieldType.int)) ∈ lw_all := lw_g (lw_at lw_m4 9 rfl) rfl
theorem q796 : (Jvm.Cond.methodLink "SmokeLeans$House" (113 : Nat) ({ cls := "java/lang/Math", name := "max", desc := "(II)I" } : Jvm.MethodName)) ∈ lw_all := lw_g (lw_at lw_m4 10 rfl) rfl
theorem q800 : (Jvm.Cond.instanceMethod ({ cls := "SmokeLeans$House", name := "lost", desc := "()I" } : Jvm.MethodName)) ∈ lw_all := lw_g (lw_at lw_m4 14 rfl) rfl
theorem q801 : (Jvm.Cond.selects "SmokeLeans$House" ({ cls := "SmokeLeans$House", name := "lost", desc := "()I" } : Jvm.MethodName) ({ cls := "SmokeLeans$House", name := "lost", desc := "()I" } : Jvm.MethodName)) ∈ lw_all := lw_g (lw_at lw_m4 15 rfl) rfl
theorem q802 : (Jvm.Cond.code ({ cls := "SmokeLeans$House", name := "lost", desc := "()I" } : Jvm.MethodName) prog_8_method_16_code (1 : Nat) (Option.some Jvm.ClassFile.FieldType.int)) ∈ lw_all := lw_g (lw_at lw_m4 16 rfl) rfl
theorem q803 : (Jvm.Cond.methodLink "SmokeLeans$House" (116 : Nat) ({ cls := "SmokeLeans$House", name := "fresh", desc := "()I" } : Jvm.MethodName)) ∈ lw_all := lw_g (lw_at lw_m4 17 rfl) rfl
theorem q805 : (Jvm.Cond.instanceMethod ({ cls := "SmokeLeans$House", name := "isSmoky", desc := "()Z" } : Jvm.MethodName)) ∈ lw_all := lw_g (lw_at lw_m4 19 rfl) rfl
theorem q806 : (Jvm.Cond.selects "SmokeLeans$House" ({ cls := "SmokeLeans$House", name := "isSmoky", desc := "()Z" } : Jvm.MethodName) ({ cls := "SmokeLeans$House", name := "isSmoky", desc := "()Z" } : Jvm.MethodName)) ∈ lw_all := lw_g (lw_at lw_m4 20 rfl) rfl
theorem q807 : (Jvm.Cond.code ({ cls := "SmokeLeans$House", name := "isSmoky", desc := "()Z" } : Jvm.MethodName) prog_8_method_17_code (2 : Nat) (Option.some Jvm.ClassFile.FieldType.boolean)) ∈ lw_all := lw_g (lw_at lw_m4 21 rfl) rfl
theorem q808 : (Jvm.Cond.methodLink "SmokeLeans$House" (120 : Nat) ({ cls := "SmokeLeans$Gap", name := "is", desc := "(I)Z" } : Jvm.MethodName)) ∈ lw_all := lw_g (lw_at lw_m4 22 rfl) rfl
theorem q810 : (Jvm.Cond.instanceMethod ({ cls := "SmokeLeans$House", name := "isRestless", desc := "()Z" } : Jvm.MethodName)) ∈ lw_all := lw_g (lw_at lw_m4 24 rfl) rfl
theorem q811 : (Jvm.Cond.selects "SmokeLeans$House" ({ cls := "SmokeLeans$House", name := "isRestless", desc := "()Z" } : Jvm.MethodName) ({ cls := "SmokeLeans$House", name := "isRestless", desc := "()Z" } : Jvm.MethodName)) ∈ lw_all := lw_g (lw_at lw_m4 25 rfl) rfl
theorem q812 : (Jvm.Cond.code ({ cls := "SmokeLeans$House", name := "isRestless", desc := "()Z" } : Jvm.MethodName) prog_8_method_12_code (1 : Nat) (Option.some Jvm.ClassFile.FieldType.boolean)) ∈ lw_all := lw_g (lw_at lw_m4 26 rfl) rfl
theorem q822 : (Jvm.Cond.instanceMethod ({ cls := "SmokeLeans$House", name := "seen", desc := "(I)I" } : Jvm.MethodName)) ∈ lw_all := lw_g (lw_at lw_m4 36 rfl) rfl
theorem q823 : (Jvm.Cond.selects "SmokeLeans$House" ({ cls := "SmokeLeans$House", name := "seen", desc := "(I)I" } : Jvm.MethodName) ({ cls := "SmokeLeans$House", name := "seen", desc := "(I)I" } : Jvm.MethodName)) ∈ lw_all := lw_g (lw_at lw_m4 37 rfl) rfl
theorem q824 : (Jvm.Cond.code ({ cls := "SmokeLeans$House", name := "seen", desc := "(I)I" } : Jvm.MethodName) prog_8_method_19_code (3 : Nat) (Option.some Jvm.ClassFile.FieldType.int)) ∈ lw_all := lw_g (lw_at lw_m4 38 rfl) rfl
theorem q825 : (Jvm.Cond.methodLink "SmokeLeans$House" (128 : Nat) ({ cls := "SmokeLeans$House", name := "draw", desc := "()I" } : Jvm.MethodName)) ∈ lw_all := lw_g (lw_at lw_m4 39 rfl) rfl
theorem q826 : (Jvm.Cond.instanceMethod ({ cls := "SmokeLeans$House", name := "draw", desc := "()I" } : Jvm.MethodName)) ∈ lw_all := lw_g (lw_at lw_m4 40 rfl) rfl
theorem q827 : (Jvm.Cond.selects "SmokeLeans$House" ({ cls := "SmokeLeans$House", name := "draw", desc := "()I" } : Jvm.MethodName) ({ cls := "SmokeLeans$House", name := "draw", desc := "()I" } : Jvm.MethodName)) ∈ lw_all := lw_g (lw_at lw_m4 41 rfl) rfl
theorem q828 : (Jvm.Cond.code ({ cls := "SmokeLeans$House", name := "draw", desc := "()I" } : Jvm.MethodName) prog_8_method_18_code (1 : Nat) (Option.some Jvm.ClassFile.FieldType.int)) ∈ lw_all := lw_g (lw_at lw_m4 42 rfl) rfl
theorem q829 : (Jvm.Cond.constant "SmokeLeans$House" (127 : Nat) (1103515245 : Int32)) ∈ lw_all := lw_g (lw_at lw_m4 43 rfl) rfl
theorem q830 : (Jvm.Cond.methodLink "SmokeLeans$House" (131 : Nat) ({ cls := "SmokeLeans$Gap", name := "kind", desc := "()I" } : Jvm.MethodName)) ∈ lw_all := lw_g (lw_at lw_m4 44 rfl) rfl
theorem q831 : (Jvm.Cond.methodLink "SmokeLeans$House" (134 : Nat) ({ cls := "SmokeLeans$House", name := "lean", desc := "(I)I" } : Jvm.MethodName)) ∈ lw_all := lw_g (lw_at lw_m4 45 rfl) rfl
theorem in_X1 : ∀ w ∈ wsX10, w ∈ lw_all := lw_in wsX10 [138, 140, 142, 144, 146, 148, 150, 152, 154, 156] (by decide +kernel) (by decide +kernel)

/-! SmokeLeans$Reader -/
set_option maxRecDepth 100000
def RX11 : String := "SmokeLeans$Reader"
def TX11 : u_T := fun k => match k with
  | 0 => ("SmokeLeans$Reader", "tape", "[B", true)
  | 1 => ("SmokeLeans$Reader", "size", "I", true)
  | 2 => ("SmokeLeans$Reader", "house", "LSmokeLeans$House;", true)
  | 3 => ("SmokeLeans$Reader", "sort", "I", false)
  | 4 => ("SmokeLeans$Reader", "from", "I", false)
  | _ => ("SmokeLeans$Reader", "to", "I", false)
def tyX11 : Nat → FieldType := fun k => match k with
  | 0 => .array .byte
  | 1 => .int
  | 2 => .object "SmokeLeans$House"
  | 3 => .int
  | 4 => .int
  | _ => .int
abbrev wsX110 : List Cond := u_ws RX11 TX11 6
theorem nmX11 : ∀ a, a < 6 → ∀ b, b < 6 → a ≠ b → (TX11 a).2.1 ≠ (TX11 b).2.1 := by decide +kernel
theorem tyX11_ok : ∀ k, k < 6 → parseFieldDescriptor (TX11 k).2.2.1 = some (tyX11 k) := by decide +kernel
abbrev cX11_init : ByteArray := prog_12_method_1_code
def yX11_init : MethodName := ⟨RX11, "<init>", "([BILSmokeLeans$House;)V"⟩
def dkwX11_init_0 : List UInt8 := [42, 183, 0, 3, 42, 43, 181, 0, 9, 42, 28, 181, 0, 15, 42, 45, 181, 0, 19, 177]
abbrev dktX11_init_0 : List UInt8 := dkwX11_init_0 ++ []
theorem dksX11_init_0 : cX11_init.data.toList.drop 0 = dktX11_init_0 := by decide +kernel
theorem dX11_init_0 : decode cX11_init 0 = .ok (.aload_n 0, 1) := dk_42 (dk_at dksX11_init_0 0 rfl rfl)
theorem dX11_init_1 : decode cX11_init 1 = .ok (.invokespecial 3, 3) := dk_183 0 3 (dk_at dksX11_init_0 1 rfl rfl)
theorem dX11_init_4 : decode cX11_init 4 = .ok (.aload_n 0, 1) := dk_42 (dk_at dksX11_init_0 4 rfl rfl)
theorem dX11_init_5 : decode cX11_init 5 = .ok (.aload_n 1, 1) := dk_43 (dk_at dksX11_init_0 5 rfl rfl)
theorem dX11_init_6 : decode cX11_init 6 = .ok (.putfield 9, 3) := dk_181 0 9 (dk_at dksX11_init_0 6 rfl rfl)
theorem dX11_init_9 : decode cX11_init 9 = .ok (.aload_n 0, 1) := dk_42 (dk_at dksX11_init_0 9 rfl rfl)
theorem dX11_init_10 : decode cX11_init 10 = .ok (.iload_n 2, 1) := dk_28 (dk_at dksX11_init_0 10 rfl rfl)
theorem dX11_init_11 : decode cX11_init 11 = .ok (.putfield 15, 3) := dk_181 0 15 (dk_at dksX11_init_0 11 rfl rfl)
theorem dX11_init_14 : decode cX11_init 14 = .ok (.aload_n 0, 1) := dk_42 (dk_at dksX11_init_0 14 rfl rfl)
theorem dX11_init_15 : decode cX11_init 15 = .ok (.aload_n 3, 1) := dk_45 (dk_at dksX11_init_0 15 rfl rfl)
theorem dX11_init_16 : decode cX11_init 16 = .ok (.putfield 19, 3) := dk_181 0 19 (dk_at dksX11_init_0 16 rfl rfl)
theorem dX11_init_19 : decode cX11_init 19 = .ok (.return_, 1) := dk_177 (dk_at dksX11_init_0 19 rfl rfl)
abbrev cX11_read : ByteArray := prog_12_method_12_code
def yX11_read : MethodName := ⟨RX11, "read", "()I"⟩
def dkwX11_read_2 : List UInt8 := [182, 0, 62, 27, 172]
abbrev dktX11_read_2 : List UInt8 := dkwX11_read_2 ++ []
def dkwX11_read_1 : List UInt8 := [182, 0, 135, 132, 1, 1, 167, 255, 237, 42, 42, 180, 0, 37, 154, 0, 7, 4, 167, 0, 4, 3]
abbrev dktX11_read_1 : List UInt8 := dkwX11_read_1 ++ dktX11_read_2
def dkwX11_read_0 : List UInt8 := [4, 60, 42, 182, 0, 59, 42, 182, 0, 135, 42, 180, 0, 37, 6, 160, 0, 17, 42, 182, 0, 59, 42]
abbrev dktX11_read_0 : List UInt8 := dkwX11_read_0 ++ dktX11_read_1
theorem dksX11_read_0 : cX11_read.data.toList.drop 0 = dktX11_read_0 := by decide +kernel
theorem dksX11_read_1 : cX11_read.data.toList.drop 23 = dktX11_read_1 := dk_seg dksX11_read_0 23 rfl rfl
theorem dksX11_read_2 : cX11_read.data.toList.drop 45 = dktX11_read_2 := dk_seg dksX11_read_1 22 rfl rfl
theorem dX11_read_0 : decode cX11_read 0 = .ok (.iconst 1, 1) := dk_4 (dk_at dksX11_read_0 0 rfl rfl)
theorem dX11_read_1 : decode cX11_read 1 = .ok (.istore_n 1, 1) := dk_60 (dk_at dksX11_read_0 1 rfl rfl)
theorem dX11_read_2 : decode cX11_read 2 = .ok (.aload_n 0, 1) := dk_42 (dk_at dksX11_read_0 2 rfl rfl)
theorem dX11_read_3 : decode cX11_read 3 = .ok (.invokevirtual 59, 3) := dk_182 0 59 (dk_at dksX11_read_0 3 rfl rfl)
theorem dX11_read_6 : decode cX11_read 6 = .ok (.aload_n 0, 1) := dk_42 (dk_at dksX11_read_0 6 rfl rfl)
theorem dX11_read_7 : decode cX11_read 7 = .ok (.invokevirtual 135, 3) := dk_182 0 135 (dk_at dksX11_read_0 7 rfl rfl)
theorem dX11_read_10 : decode cX11_read 10 = .ok (.aload_n 0, 1) := dk_42 (dk_at dksX11_read_0 10 rfl rfl)
theorem dX11_read_11 : decode cX11_read 11 = .ok (.getfield 37, 3) := dk_180 0 37 (dk_at dksX11_read_0 11 rfl rfl)
theorem dX11_read_14 : decode cX11_read 14 = .ok (.iconst 3, 1) := dk_6 (dk_at dksX11_read_0 14 rfl rfl)
theorem dX11_read_15 : decode cX11_read 15 = .ok (.if_icmp .ne 17, 3) := dk_160 0 17 (dk_at dksX11_read_0 15 rfl rfl)
theorem dX11_read_18 : decode cX11_read 18 = .ok (.aload_n 0, 1) := dk_42 (dk_at dksX11_read_0 18 rfl rfl)
theorem dX11_read_19 : decode cX11_read 19 = .ok (.invokevirtual 59, 3) := dk_182 0 59 (dk_at dksX11_read_0 19 rfl rfl)
theorem dX11_read_22 : decode cX11_read 22 = .ok (.aload_n 0, 1) := dk_42 (dk_at dksX11_read_0 22 rfl rfl)
theorem dX11_read_23 : decode cX11_read 23 = .ok (.invokevirtual 135, 3) := dk_182 0 135 (dk_at dksX11_read_1 0 rfl rfl)
theorem dX11_read_26 : decode cX11_read 26 = .ok (.iinc 1 1, 3) := dk_132 1 1 (dk_at dksX11_read_1 3 rfl rfl)
theorem dX11_read_29 : decode cX11_read 29 = .ok (.goto (-19), 3) := dk_167 255 237 (dk_at dksX11_read_1 6 rfl rfl)
theorem dX11_read_32 : decode cX11_read 32 = .ok (.aload_n 0, 1) := dk_42 (dk_at dksX11_read_1 9 rfl rfl)
theorem dX11_read_33 : decode cX11_read 33 = .ok (.aload_n 0, 1) := dk_42 (dk_at dksX11_read_1 10 rfl rfl)
theorem dX11_read_34 : decode cX11_read 34 = .ok (.getfield 37, 3) := dk_180 0 37 (dk_at dksX11_read_1 11 rfl rfl)
theorem dX11_read_37 : decode cX11_read 37 = .ok (.ifCond .ne 7, 3) := dk_154 0 7 (dk_at dksX11_read_1 14 rfl rfl)
theorem dX11_read_40 : decode cX11_read 40 = .ok (.iconst 1, 1) := dk_4 (dk_at dksX11_read_1 17 rfl rfl)
theorem dX11_read_41 : decode cX11_read 41 = .ok (.goto 4, 3) := dk_167 0 4 (dk_at dksX11_read_1 18 rfl rfl)
theorem dX11_read_44 : decode cX11_read 44 = .ok (.iconst 0, 1) := dk_3 (dk_at dksX11_read_1 21 rfl rfl)
theorem dX11_read_45 : decode cX11_read 45 = .ok (.invokevirtual 62, 3) := dk_182 0 62 (dk_at dksX11_read_2 0 rfl rfl)
theorem dX11_read_48 : decode cX11_read 48 = .ok (.iload_n 1, 1) := dk_27 (dk_at dksX11_read_2 3 rfl rfl)
theorem dX11_read_49 : decode cX11_read 49 = .ok (.ireturn, 1) := dk_172 (dk_at dksX11_read_2 4 rfl rfl)
abbrev cX11_next : ByteArray := prog_12_method_3_code
def yX11_next : MethodName := ⟨RX11, "next", "()V"⟩
def dkwX11_next_8 : List UInt8 := [182, 0, 33, 153, 0, 16, 42, 89, 180, 0, 27, 4, 96, 181, 0, 27, 167, 255, 227, 177]
abbrev dktX11_next_8 : List UInt8 := dkwX11_next_8 ++ []
def dkwX11_next_7 : List UInt8 := [180, 0, 27, 4, 96, 181, 0, 27, 167, 255, 227, 28, 153, 0, 31, 42, 42, 180, 0, 27, 16, 48, 16, 57]
abbrev dktX11_next_7 : List UInt8 := dkwX11_next_7 ++ dktX11_next_8
def dkwX11_next_6 : List UInt8 := [181, 0, 27, 27, 153, 0, 31, 42, 42, 180, 0, 27, 16, 97, 16, 122, 182, 0, 33, 153, 0, 16, 42, 89]
abbrev dktX11_next_6 : List UInt8 := dkwX11_next_6 ++ dktX11_next_7
def dkwX11_next_5 : List UInt8 := [167, 0, 4, 7, 181, 0, 37, 42, 180, 0, 37, 5, 164, 0, 13, 42, 89, 180, 0, 27, 4, 96]
abbrev dktX11_next_5 : List UInt8 := dkwX11_next_5 ++ dktX11_next_6
def dkwX11_next_4 : List UInt8 := [28, 153, 0, 7, 5, 167, 0, 22, 42, 180, 0, 9, 42, 180, 0, 30, 51, 16, 44, 160, 0, 7, 6]
abbrev dktX11_next_4 : List UInt8 := dkwX11_next_4 ++ dktX11_next_5
def dkwX11_next_3 : List UInt8 := [42, 42, 180, 0, 30, 42, 180, 0, 15, 160, 0, 7, 3, 167, 0, 38, 27, 153, 0, 7, 4, 167, 0, 30]
abbrev dktX11_next_3 : List UInt8 := dkwX11_next_3 ++ dktX11_next_4
def dkwX11_next_2 : List UInt8 := [180, 0, 30, 16, 97, 16, 122, 182, 0, 33, 60, 42, 42, 180, 0, 30, 16, 48, 16, 57, 182, 0, 33, 61]
abbrev dktX11_next_2 : List UInt8 := dkwX11_next_2 ++ dktX11_next_3
def dkwX11_next_1 : List UInt8 := [89, 180, 0, 30, 4, 96, 181, 0, 30, 167, 255, 231, 42, 42, 180, 0, 30, 181, 0, 27, 42, 42]
abbrev dktX11_next_1 : List UInt8 := dkwX11_next_1 ++ dktX11_next_2
def dkwX11_next_0 : List UInt8 := [42, 42, 180, 0, 27, 181, 0, 30, 42, 42, 180, 0, 30, 16, 32, 16, 32, 182, 0, 33, 153, 0, 16, 42]
abbrev dktX11_next_0 : List UInt8 := dkwX11_next_0 ++ dktX11_next_1
theorem dksX11_next_0 : cX11_next.data.toList.drop 0 = dktX11_next_0 := by decide +kernel
theorem dksX11_next_1 : cX11_next.data.toList.drop 24 = dktX11_next_1 := dk_seg dksX11_next_0 24 rfl rfl
theorem dksX11_next_2 : cX11_next.data.toList.drop 46 = dktX11_next_2 := dk_seg dksX11_next_1 22 rfl rfl
theorem dksX11_next_3 : cX11_next.data.toList.drop 70 = dktX11_next_3 := dk_seg dksX11_next_2 24 rfl rfl
theorem dksX11_next_4 : cX11_next.data.toList.drop 94 = dktX11_next_4 := dk_seg dksX11_next_3 24 rfl rfl
theorem dksX11_next_5 : cX11_next.data.toList.drop 117 = dktX11_next_5 := dk_seg dksX11_next_4 23 rfl rfl
theorem dksX11_next_6 : cX11_next.data.toList.drop 139 = dktX11_next_6 := dk_seg dksX11_next_5 22 rfl rfl
theorem dksX11_next_7 : cX11_next.data.toList.drop 163 = dktX11_next_7 := dk_seg dksX11_next_6 24 rfl rfl
theorem dksX11_next_8 : cX11_next.data.toList.drop 187 = dktX11_next_8 := dk_seg dksX11_next_7 24 rfl rfl
theorem dX11_next_0 : decode cX11_next 0 = .ok (.aload_n 0, 1) := dk_42 (dk_at dksX11_next_0 0 rfl rfl)
theorem dX11_next_1 : decode cX11_next 1 = .ok (.aload_n 0, 1) := dk_42 (dk_at dksX11_next_0 1 rfl rfl)
theorem dX11_next_2 : decode cX11_next 2 = .ok (.getfield 27, 3) := dk_180 0 27 (dk_at dksX11_next_0 2 rfl rfl)
theorem dX11_next_5 : decode cX11_next 5 = .ok (.putfield 30, 3) := dk_181 0 30 (dk_at dksX11_next_0 5 rfl rfl)
theorem dX11_next_8 : decode cX11_next 8 = .ok (.aload_n 0, 1) := dk_42 (dk_at dksX11_next_0 8 rfl rfl)
theorem dX11_next_9 : decode cX11_next 9 = .ok (.aload_n 0, 1) := dk_42 (dk_at dksX11_next_0 9 rfl rfl)
theorem dX11_next_10 : decode cX11_next 10 = .ok (.getfield 30, 3) := dk_180 0 30 (dk_at dksX11_next_0 10 rfl rfl)
theorem dX11_next_13 : decode cX11_next 13 = .ok (.bipush 32, 2) := dk_16 32 (dk_at dksX11_next_0 13 rfl rfl)
theorem dX11_next_15 : decode cX11_next 15 = .ok (.bipush 32, 2) := dk_16 32 (dk_at dksX11_next_0 15 rfl rfl)
theorem dX11_next_17 : decode cX11_next 17 = .ok (.invokevirtual 33, 3) := dk_182 0 33 (dk_at dksX11_next_0 17 rfl rfl)
theorem dX11_next_20 : decode cX11_next 20 = .ok (.ifCond .eq 16, 3) := dk_153 0 16 (dk_at dksX11_next_0 20 rfl rfl)
theorem dX11_next_23 : decode cX11_next 23 = .ok (.aload_n 0, 1) := dk_42 (dk_at dksX11_next_0 23 rfl rfl)
theorem dX11_next_24 : decode cX11_next 24 = .ok (.dup, 1) := dk_89 (dk_at dksX11_next_1 0 rfl rfl)
theorem dX11_next_25 : decode cX11_next 25 = .ok (.getfield 30, 3) := dk_180 0 30 (dk_at dksX11_next_1 1 rfl rfl)
theorem dX11_next_28 : decode cX11_next 28 = .ok (.iconst 1, 1) := dk_4 (dk_at dksX11_next_1 4 rfl rfl)
theorem dX11_next_29 : decode cX11_next 29 = .ok (.iadd, 1) := dk_96 (dk_at dksX11_next_1 5 rfl rfl)
theorem dX11_next_30 : decode cX11_next 30 = .ok (.putfield 30, 3) := dk_181 0 30 (dk_at dksX11_next_1 6 rfl rfl)
theorem dX11_next_33 : decode cX11_next 33 = .ok (.goto (-25), 3) := dk_167 255 231 (dk_at dksX11_next_1 9 rfl rfl)
theorem dX11_next_36 : decode cX11_next 36 = .ok (.aload_n 0, 1) := dk_42 (dk_at dksX11_next_1 12 rfl rfl)
theorem dX11_next_37 : decode cX11_next 37 = .ok (.aload_n 0, 1) := dk_42 (dk_at dksX11_next_1 13 rfl rfl)
theorem dX11_next_38 : decode cX11_next 38 = .ok (.getfield 30, 3) := dk_180 0 30 (dk_at dksX11_next_1 14 rfl rfl)
theorem dX11_next_41 : decode cX11_next 41 = .ok (.putfield 27, 3) := dk_181 0 27 (dk_at dksX11_next_1 17 rfl rfl)
theorem dX11_next_44 : decode cX11_next 44 = .ok (.aload_n 0, 1) := dk_42 (dk_at dksX11_next_1 20 rfl rfl)
theorem dX11_next_45 : decode cX11_next 45 = .ok (.aload_n 0, 1) := dk_42 (dk_at dksX11_next_1 21 rfl rfl)
theorem dX11_next_46 : decode cX11_next 46 = .ok (.getfield 30, 3) := dk_180 0 30 (dk_at dksX11_next_2 0 rfl rfl)
theorem dX11_next_49 : decode cX11_next 49 = .ok (.bipush 97, 2) := dk_16 97 (dk_at dksX11_next_2 3 rfl rfl)
theorem dX11_next_51 : decode cX11_next 51 = .ok (.bipush 122, 2) := dk_16 122 (dk_at dksX11_next_2 5 rfl rfl)
theorem dX11_next_53 : decode cX11_next 53 = .ok (.invokevirtual 33, 3) := dk_182 0 33 (dk_at dksX11_next_2 7 rfl rfl)
theorem dX11_next_56 : decode cX11_next 56 = .ok (.istore_n 1, 1) := dk_60 (dk_at dksX11_next_2 10 rfl rfl)
theorem dX11_next_57 : decode cX11_next 57 = .ok (.aload_n 0, 1) := dk_42 (dk_at dksX11_next_2 11 rfl rfl)
theorem dX11_next_58 : decode cX11_next 58 = .ok (.aload_n 0, 1) := dk_42 (dk_at dksX11_next_2 12 rfl rfl)
theorem dX11_next_59 : decode cX11_next 59 = .ok (.getfield 30, 3) := dk_180 0 30 (dk_at dksX11_next_2 13 rfl rfl)
theorem dX11_next_62 : decode cX11_next 62 = .ok (.bipush 48, 2) := dk_16 48 (dk_at dksX11_next_2 16 rfl rfl)
theorem dX11_next_64 : decode cX11_next 64 = .ok (.bipush 57, 2) := dk_16 57 (dk_at dksX11_next_2 18 rfl rfl)
theorem dX11_next_66 : decode cX11_next 66 = .ok (.invokevirtual 33, 3) := dk_182 0 33 (dk_at dksX11_next_2 20 rfl rfl)
theorem dX11_next_69 : decode cX11_next 69 = .ok (.istore_n 2, 1) := dk_61 (dk_at dksX11_next_2 23 rfl rfl)
theorem dX11_next_70 : decode cX11_next 70 = .ok (.aload_n 0, 1) := dk_42 (dk_at dksX11_next_3 0 rfl rfl)
theorem dX11_next_71 : decode cX11_next 71 = .ok (.aload_n 0, 1) := dk_42 (dk_at dksX11_next_3 1 rfl rfl)
theorem dX11_next_72 : decode cX11_next 72 = .ok (.getfield 30, 3) := dk_180 0 30 (dk_at dksX11_next_3 2 rfl rfl)
theorem dX11_next_75 : decode cX11_next 75 = .ok (.aload_n 0, 1) := dk_42 (dk_at dksX11_next_3 5 rfl rfl)
theorem dX11_next_76 : decode cX11_next 76 = .ok (.getfield 15, 3) := dk_180 0 15 (dk_at dksX11_next_3 6 rfl rfl)
theorem dX11_next_79 : decode cX11_next 79 = .ok (.if_icmp .ne 7, 3) := dk_160 0 7 (dk_at dksX11_next_3 9 rfl rfl)
theorem dX11_next_82 : decode cX11_next 82 = .ok (.iconst 0, 1) := dk_3 (dk_at dksX11_next_3 12 rfl rfl)
theorem dX11_next_83 : decode cX11_next 83 = .ok (.goto 38, 3) := dk_167 0 38 (dk_at dksX11_next_3 13 rfl rfl)
theorem dX11_next_86 : decode cX11_next 86 = .ok (.iload_n 1, 1) := dk_27 (dk_at dksX11_next_3 16 rfl rfl)
theorem dX11_next_87 : decode cX11_next 87 = .ok (.ifCond .eq 7, 3) := dk_153 0 7 (dk_at dksX11_next_3 17 rfl rfl)
theorem dX11_next_90 : decode cX11_next 90 = .ok (.iconst 1, 1) := dk_4 (dk_at dksX11_next_3 20 rfl rfl)
theorem dX11_next_91 : decode cX11_next 91 = .ok (.goto 30, 3) := dk_167 0 30 (dk_at dksX11_next_3 21 rfl rfl)
theorem dX11_next_94 : decode cX11_next 94 = .ok (.iload_n 2, 1) := dk_28 (dk_at dksX11_next_4 0 rfl rfl)
theorem dX11_next_95 : decode cX11_next 95 = .ok (.ifCond .eq 7, 3) := dk_153 0 7 (dk_at dksX11_next_4 1 rfl rfl)
theorem dX11_next_98 : decode cX11_next 98 = .ok (.iconst 2, 1) := dk_5 (dk_at dksX11_next_4 4 rfl rfl)
theorem dX11_next_99 : decode cX11_next 99 = .ok (.goto 22, 3) := dk_167 0 22 (dk_at dksX11_next_4 5 rfl rfl)
theorem dX11_next_102 : decode cX11_next 102 = .ok (.aload_n 0, 1) := dk_42 (dk_at dksX11_next_4 8 rfl rfl)
theorem dX11_next_103 : decode cX11_next 103 = .ok (.getfield 9, 3) := dk_180 0 9 (dk_at dksX11_next_4 9 rfl rfl)
theorem dX11_next_106 : decode cX11_next 106 = .ok (.aload_n 0, 1) := dk_42 (dk_at dksX11_next_4 12 rfl rfl)
theorem dX11_next_107 : decode cX11_next 107 = .ok (.getfield 30, 3) := dk_180 0 30 (dk_at dksX11_next_4 13 rfl rfl)
theorem dX11_next_110 : decode cX11_next 110 = .ok (.baload, 1) := dk_51 (dk_at dksX11_next_4 16 rfl rfl)
theorem dX11_next_111 : decode cX11_next 111 = .ok (.bipush 44, 2) := dk_16 44 (dk_at dksX11_next_4 17 rfl rfl)
theorem dX11_next_113 : decode cX11_next 113 = .ok (.if_icmp .ne 7, 3) := dk_160 0 7 (dk_at dksX11_next_4 19 rfl rfl)
theorem dX11_next_116 : decode cX11_next 116 = .ok (.iconst 3, 1) := dk_6 (dk_at dksX11_next_4 22 rfl rfl)
theorem dX11_next_117 : decode cX11_next 117 = .ok (.goto 4, 3) := dk_167 0 4 (dk_at dksX11_next_5 0 rfl rfl)
theorem dX11_next_120 : decode cX11_next 120 = .ok (.iconst 4, 1) := dk_7 (dk_at dksX11_next_5 3 rfl rfl)
theorem dX11_next_121 : decode cX11_next 121 = .ok (.putfield 37, 3) := dk_181 0 37 (dk_at dksX11_next_5 4 rfl rfl)
theorem dX11_next_124 : decode cX11_next 124 = .ok (.aload_n 0, 1) := dk_42 (dk_at dksX11_next_5 7 rfl rfl)
theorem dX11_next_125 : decode cX11_next 125 = .ok (.getfield 37, 3) := dk_180 0 37 (dk_at dksX11_next_5 8 rfl rfl)
theorem dX11_next_128 : decode cX11_next 128 = .ok (.iconst 2, 1) := dk_5 (dk_at dksX11_next_5 11 rfl rfl)
theorem dX11_next_129 : decode cX11_next 129 = .ok (.if_icmp .le 13, 3) := dk_164 0 13 (dk_at dksX11_next_5 12 rfl rfl)
theorem dX11_next_132 : decode cX11_next 132 = .ok (.aload_n 0, 1) := dk_42 (dk_at dksX11_next_5 15 rfl rfl)
theorem dX11_next_133 : decode cX11_next 133 = .ok (.dup, 1) := dk_89 (dk_at dksX11_next_5 16 rfl rfl)
theorem dX11_next_134 : decode cX11_next 134 = .ok (.getfield 27, 3) := dk_180 0 27 (dk_at dksX11_next_5 17 rfl rfl)
theorem dX11_next_137 : decode cX11_next 137 = .ok (.iconst 1, 1) := dk_4 (dk_at dksX11_next_5 20 rfl rfl)
theorem dX11_next_138 : decode cX11_next 138 = .ok (.iadd, 1) := dk_96 (dk_at dksX11_next_5 21 rfl rfl)
theorem dX11_next_139 : decode cX11_next 139 = .ok (.putfield 27, 3) := dk_181 0 27 (dk_at dksX11_next_6 0 rfl rfl)
theorem dX11_next_142 : decode cX11_next 142 = .ok (.iload_n 1, 1) := dk_27 (dk_at dksX11_next_6 3 rfl rfl)
theorem dX11_next_143 : decode cX11_next 143 = .ok (.ifCond .eq 31, 3) := dk_153 0 31 (dk_at dksX11_next_6 4 rfl rfl)
theorem dX11_next_146 : decode cX11_next 146 = .ok (.aload_n 0, 1) := dk_42 (dk_at dksX11_next_6 7 rfl rfl)
theorem dX11_next_147 : decode cX11_next 147 = .ok (.aload_n 0, 1) := dk_42 (dk_at dksX11_next_6 8 rfl rfl)
theorem dX11_next_148 : decode cX11_next 148 = .ok (.getfield 27, 3) := dk_180 0 27 (dk_at dksX11_next_6 9 rfl rfl)
theorem dX11_next_151 : decode cX11_next 151 = .ok (.bipush 97, 2) := dk_16 97 (dk_at dksX11_next_6 12 rfl rfl)
theorem dX11_next_153 : decode cX11_next 153 = .ok (.bipush 122, 2) := dk_16 122 (dk_at dksX11_next_6 14 rfl rfl)
theorem dX11_next_155 : decode cX11_next 155 = .ok (.invokevirtual 33, 3) := dk_182 0 33 (dk_at dksX11_next_6 16 rfl rfl)
theorem dX11_next_158 : decode cX11_next 158 = .ok (.ifCond .eq 16, 3) := dk_153 0 16 (dk_at dksX11_next_6 19 rfl rfl)
theorem dX11_next_161 : decode cX11_next 161 = .ok (.aload_n 0, 1) := dk_42 (dk_at dksX11_next_6 22 rfl rfl)
theorem dX11_next_162 : decode cX11_next 162 = .ok (.dup, 1) := dk_89 (dk_at dksX11_next_6 23 rfl rfl)
theorem dX11_next_163 : decode cX11_next 163 = .ok (.getfield 27, 3) := dk_180 0 27 (dk_at dksX11_next_7 0 rfl rfl)
theorem dX11_next_166 : decode cX11_next 166 = .ok (.iconst 1, 1) := dk_4 (dk_at dksX11_next_7 3 rfl rfl)
theorem dX11_next_167 : decode cX11_next 167 = .ok (.iadd, 1) := dk_96 (dk_at dksX11_next_7 4 rfl rfl)
theorem dX11_next_168 : decode cX11_next 168 = .ok (.putfield 27, 3) := dk_181 0 27 (dk_at dksX11_next_7 5 rfl rfl)
theorem dX11_next_171 : decode cX11_next 171 = .ok (.goto (-29), 3) := dk_167 255 227 (dk_at dksX11_next_7 8 rfl rfl)
theorem dX11_next_174 : decode cX11_next 174 = .ok (.iload_n 2, 1) := dk_28 (dk_at dksX11_next_7 11 rfl rfl)
theorem dX11_next_175 : decode cX11_next 175 = .ok (.ifCond .eq 31, 3) := dk_153 0 31 (dk_at dksX11_next_7 12 rfl rfl)
theorem dX11_next_178 : decode cX11_next 178 = .ok (.aload_n 0, 1) := dk_42 (dk_at dksX11_next_7 15 rfl rfl)
theorem dX11_next_179 : decode cX11_next 179 = .ok (.aload_n 0, 1) := dk_42 (dk_at dksX11_next_7 16 rfl rfl)
theorem dX11_next_180 : decode cX11_next 180 = .ok (.getfield 27, 3) := dk_180 0 27 (dk_at dksX11_next_7 17 rfl rfl)
theorem dX11_next_183 : decode cX11_next 183 = .ok (.bipush 48, 2) := dk_16 48 (dk_at dksX11_next_7 20 rfl rfl)
theorem dX11_next_185 : decode cX11_next 185 = .ok (.bipush 57, 2) := dk_16 57 (dk_at dksX11_next_7 22 rfl rfl)
theorem dX11_next_187 : decode cX11_next 187 = .ok (.invokevirtual 33, 3) := dk_182 0 33 (dk_at dksX11_next_8 0 rfl rfl)
theorem dX11_next_190 : decode cX11_next 190 = .ok (.ifCond .eq 16, 3) := dk_153 0 16 (dk_at dksX11_next_8 3 rfl rfl)
theorem dX11_next_193 : decode cX11_next 193 = .ok (.aload_n 0, 1) := dk_42 (dk_at dksX11_next_8 6 rfl rfl)
theorem dX11_next_194 : decode cX11_next 194 = .ok (.dup, 1) := dk_89 (dk_at dksX11_next_8 7 rfl rfl)
theorem dX11_next_195 : decode cX11_next 195 = .ok (.getfield 27, 3) := dk_180 0 27 (dk_at dksX11_next_8 8 rfl rfl)
theorem dX11_next_198 : decode cX11_next 198 = .ok (.iconst 1, 1) := dk_4 (dk_at dksX11_next_8 11 rfl rfl)
theorem dX11_next_199 : decode cX11_next 199 = .ok (.iadd, 1) := dk_96 (dk_at dksX11_next_8 12 rfl rfl)
theorem dX11_next_200 : decode cX11_next 200 = .ok (.putfield 27, 3) := dk_181 0 27 (dk_at dksX11_next_8 13 rfl rfl)
theorem dX11_next_203 : decode cX11_next 203 = .ok (.goto (-29), 3) := dk_167 255 227 (dk_at dksX11_next_8 16 rfl rfl)
theorem dX11_next_206 : decode cX11_next 206 = .ok (.return_, 1) := dk_177 (dk_at dksX11_next_8 19 rfl rfl)
abbrev cX11_isAt : ByteArray := prog_12_method_2_code
def yX11_isAt : MethodName := ⟨RX11, "isAt", "(III)Z"⟩
def dkwX11_isAt_1 : List UInt8 := [153, 0, 7, 4, 167, 0, 4, 3, 172]
abbrev dktX11_isAt_1 : List UInt8 := dkwX11_isAt_1 ++ []
def dkwX11_isAt_0 : List UInt8 := [27, 42, 180, 0, 15, 162, 0, 24, 42, 180, 0, 9, 27, 51, 133, 28, 133, 29, 133, 184, 0, 23]
abbrev dktX11_isAt_0 : List UInt8 := dkwX11_isAt_0 ++ dktX11_isAt_1
theorem dksX11_isAt_0 : cX11_isAt.data.toList.drop 0 = dktX11_isAt_0 := by decide +kernel
theorem dksX11_isAt_1 : cX11_isAt.data.toList.drop 22 = dktX11_isAt_1 := dk_seg dksX11_isAt_0 22 rfl rfl
theorem dX11_isAt_0 : decode cX11_isAt 0 = .ok (.iload_n 1, 1) := dk_27 (dk_at dksX11_isAt_0 0 rfl rfl)
theorem dX11_isAt_1 : decode cX11_isAt 1 = .ok (.aload_n 0, 1) := dk_42 (dk_at dksX11_isAt_0 1 rfl rfl)
theorem dX11_isAt_2 : decode cX11_isAt 2 = .ok (.getfield 15, 3) := dk_180 0 15 (dk_at dksX11_isAt_0 2 rfl rfl)
theorem dX11_isAt_5 : decode cX11_isAt 5 = .ok (.if_icmp .ge 24, 3) := dk_162 0 24 (dk_at dksX11_isAt_0 5 rfl rfl)
theorem dX11_isAt_8 : decode cX11_isAt 8 = .ok (.aload_n 0, 1) := dk_42 (dk_at dksX11_isAt_0 8 rfl rfl)
theorem dX11_isAt_9 : decode cX11_isAt 9 = .ok (.getfield 9, 3) := dk_180 0 9 (dk_at dksX11_isAt_0 9 rfl rfl)
theorem dX11_isAt_12 : decode cX11_isAt 12 = .ok (.iload_n 1, 1) := dk_27 (dk_at dksX11_isAt_0 12 rfl rfl)
theorem dX11_isAt_13 : decode cX11_isAt 13 = .ok (.baload, 1) := dk_51 (dk_at dksX11_isAt_0 13 rfl rfl)
theorem dX11_isAt_14 : decode cX11_isAt 14 = .ok (.i2l, 1) := dk_133 (dk_at dksX11_isAt_0 14 rfl rfl)
theorem dX11_isAt_15 : decode cX11_isAt 15 = .ok (.iload_n 2, 1) := dk_28 (dk_at dksX11_isAt_0 15 rfl rfl)
theorem dX11_isAt_16 : decode cX11_isAt 16 = .ok (.i2l, 1) := dk_133 (dk_at dksX11_isAt_0 16 rfl rfl)
theorem dX11_isAt_17 : decode cX11_isAt 17 = .ok (.iload_n 3, 1) := dk_29 (dk_at dksX11_isAt_0 17 rfl rfl)
theorem dX11_isAt_18 : decode cX11_isAt 18 = .ok (.i2l, 1) := dk_133 (dk_at dksX11_isAt_0 18 rfl rfl)
theorem dX11_isAt_19 : decode cX11_isAt 19 = .ok (.invokestatic 23, 3) := dk_184 0 23 (dk_at dksX11_isAt_0 19 rfl rfl)
theorem dX11_isAt_22 : decode cX11_isAt 22 = .ok (.ifCond .eq 7, 3) := dk_153 0 7 (dk_at dksX11_isAt_1 0 rfl rfl)
theorem dX11_isAt_25 : decode cX11_isAt 25 = .ok (.iconst 1, 1) := dk_4 (dk_at dksX11_isAt_1 3 rfl rfl)
theorem dX11_isAt_26 : decode cX11_isAt 26 = .ok (.goto 4, 3) := dk_167 0 4 (dk_at dksX11_isAt_1 4 rfl rfl)
theorem dX11_isAt_29 : decode cX11_isAt 29 = .ok (.iconst 0, 1) := dk_3 (dk_at dksX11_isAt_1 7 rfl rfl)
theorem dX11_isAt_30 : decode cX11_isAt 30 = .ok (.ireturn, 1) := dk_172 (dk_at dksX11_isAt_1 8 rfl rfl)
abbrev cX11_item : ByteArray := prog_12_method_11_code
def yX11_item : MethodName := ⟨RX11, "item", "()V"⟩
def dkwX11_item_6 : List UInt8 := [167, 0, 5, 16, 99, 182, 0, 88, 79, 177]
abbrev dktX11_item_6 : List UInt8 := dkwX11_item_6 ++ []
def dkwX11_item_5 : List UInt8 := [182, 0, 62, 42, 182, 0, 59, 42, 180, 0, 19, 180, 0, 131, 28, 42, 3, 28, 154, 0, 8, 16, 40]
abbrev dktX11_item_5 : List UInt8 := dkwX11_item_5 ++ dktX11_item_6
def dkwX11_item_4 : List UInt8 := [18, 129, 182, 0, 55, 153, 0, 7, 7, 167, 0, 4, 2, 61, 42, 28, 155, 0, 7, 4, 167, 0, 4, 3]
abbrev dktX11_item_4 : List UInt8 := dkwX11_item_4 ++ dktX11_item_5
def dkwX11_item_3 : List UInt8 := [182, 0, 55, 153, 0, 7, 3, 167, 0, 30, 42, 18, 127, 182, 0, 55, 153, 0, 7, 4, 167, 0, 17, 42]
abbrev dktX11_item_3 : List UInt8 := dkwX11_item_3 ++ dktX11_item_4
def dkwX11_item_2 : List UInt8 := [42, 182, 0, 59, 42, 180, 0, 19, 89, 180, 0, 83, 4, 96, 181, 0, 83, 167, 0, 86, 42, 18, 125]
abbrev dktX11_item_2 : List UInt8 := dkwX11_item_2 ++ dktX11_item_3
def dkwX11_item_1 : List UInt8 := [153, 0, 44, 42, 42, 180, 0, 19, 180, 0, 83, 16, 6, 162, 0, 7, 4, 167, 0, 4, 3, 182, 0, 62]
abbrev dktX11_item_1 : List UInt8 := dkwX11_item_1 ++ dktX11_item_2
def dkwX11_item_0 : List UInt8 := [42, 182, 0, 118, 60, 27, 155, 0, 11, 42, 27, 182, 0, 121, 167, 0, 136, 42, 18, 123, 182, 0, 55]
abbrev dktX11_item_0 : List UInt8 := dkwX11_item_0 ++ dktX11_item_1
theorem dksX11_item_0 : cX11_item.data.toList.drop 0 = dktX11_item_0 := by decide +kernel
theorem dksX11_item_1 : cX11_item.data.toList.drop 23 = dktX11_item_1 := dk_seg dksX11_item_0 23 rfl rfl
theorem dksX11_item_2 : cX11_item.data.toList.drop 47 = dktX11_item_2 := dk_seg dksX11_item_1 24 rfl rfl
theorem dksX11_item_3 : cX11_item.data.toList.drop 70 = dktX11_item_3 := dk_seg dksX11_item_2 23 rfl rfl
theorem dksX11_item_4 : cX11_item.data.toList.drop 94 = dktX11_item_4 := dk_seg dksX11_item_3 24 rfl rfl
theorem dksX11_item_5 : cX11_item.data.toList.drop 118 = dktX11_item_5 := dk_seg dksX11_item_4 24 rfl rfl
theorem dksX11_item_6 : cX11_item.data.toList.drop 141 = dktX11_item_6 := dk_seg dksX11_item_5 23 rfl rfl
theorem dX11_item_0 : decode cX11_item 0 = .ok (.aload_n 0, 1) := dk_42 (dk_at dksX11_item_0 0 rfl rfl)
theorem dX11_item_1 : decode cX11_item 1 = .ok (.invokevirtual 118, 3) := dk_182 0 118 (dk_at dksX11_item_0 1 rfl rfl)
theorem dX11_item_4 : decode cX11_item 4 = .ok (.istore_n 1, 1) := dk_60 (dk_at dksX11_item_0 4 rfl rfl)
theorem dX11_item_5 : decode cX11_item 5 = .ok (.iload_n 1, 1) := dk_27 (dk_at dksX11_item_0 5 rfl rfl)
theorem dX11_item_6 : decode cX11_item 6 = .ok (.ifCond .lt 11, 3) := dk_155 0 11 (dk_at dksX11_item_0 6 rfl rfl)
theorem dX11_item_9 : decode cX11_item 9 = .ok (.aload_n 0, 1) := dk_42 (dk_at dksX11_item_0 9 rfl rfl)
theorem dX11_item_10 : decode cX11_item 10 = .ok (.iload_n 1, 1) := dk_27 (dk_at dksX11_item_0 10 rfl rfl)
theorem dX11_item_11 : decode cX11_item 11 = .ok (.invokevirtual 121, 3) := dk_182 0 121 (dk_at dksX11_item_0 11 rfl rfl)
theorem dX11_item_14 : decode cX11_item 14 = .ok (.goto 136, 3) := dk_167 0 136 (dk_at dksX11_item_0 14 rfl rfl)
theorem dX11_item_17 : decode cX11_item 17 = .ok (.aload_n 0, 1) := dk_42 (dk_at dksX11_item_0 17 rfl rfl)
theorem dX11_item_18 : decode cX11_item 18 = .ok (.ldc 123, 2) := dk_18 123 (dk_at dksX11_item_0 18 rfl rfl)
theorem dX11_item_20 : decode cX11_item 20 = .ok (.invokevirtual 55, 3) := dk_182 0 55 (dk_at dksX11_item_0 20 rfl rfl)
theorem dX11_item_23 : decode cX11_item 23 = .ok (.ifCond .eq 44, 3) := dk_153 0 44 (dk_at dksX11_item_1 0 rfl rfl)
theorem dX11_item_26 : decode cX11_item 26 = .ok (.aload_n 0, 1) := dk_42 (dk_at dksX11_item_1 3 rfl rfl)
theorem dX11_item_27 : decode cX11_item 27 = .ok (.aload_n 0, 1) := dk_42 (dk_at dksX11_item_1 4 rfl rfl)
theorem dX11_item_28 : decode cX11_item 28 = .ok (.getfield 19, 3) := dk_180 0 19 (dk_at dksX11_item_1 5 rfl rfl)
theorem dX11_item_31 : decode cX11_item 31 = .ok (.getfield 83, 3) := dk_180 0 83 (dk_at dksX11_item_1 8 rfl rfl)
theorem dX11_item_34 : decode cX11_item 34 = .ok (.bipush 6, 2) := dk_16 6 (dk_at dksX11_item_1 11 rfl rfl)
theorem dX11_item_36 : decode cX11_item 36 = .ok (.if_icmp .ge 7, 3) := dk_162 0 7 (dk_at dksX11_item_1 13 rfl rfl)
theorem dX11_item_39 : decode cX11_item 39 = .ok (.iconst 1, 1) := dk_4 (dk_at dksX11_item_1 16 rfl rfl)
theorem dX11_item_40 : decode cX11_item 40 = .ok (.goto 4, 3) := dk_167 0 4 (dk_at dksX11_item_1 17 rfl rfl)
theorem dX11_item_43 : decode cX11_item 43 = .ok (.iconst 0, 1) := dk_3 (dk_at dksX11_item_1 20 rfl rfl)
theorem dX11_item_44 : decode cX11_item 44 = .ok (.invokevirtual 62, 3) := dk_182 0 62 (dk_at dksX11_item_1 21 rfl rfl)
theorem dX11_item_47 : decode cX11_item 47 = .ok (.aload_n 0, 1) := dk_42 (dk_at dksX11_item_2 0 rfl rfl)
theorem dX11_item_48 : decode cX11_item 48 = .ok (.invokevirtual 59, 3) := dk_182 0 59 (dk_at dksX11_item_2 1 rfl rfl)
theorem dX11_item_51 : decode cX11_item 51 = .ok (.aload_n 0, 1) := dk_42 (dk_at dksX11_item_2 4 rfl rfl)
theorem dX11_item_52 : decode cX11_item 52 = .ok (.getfield 19, 3) := dk_180 0 19 (dk_at dksX11_item_2 5 rfl rfl)
theorem dX11_item_55 : decode cX11_item 55 = .ok (.dup, 1) := dk_89 (dk_at dksX11_item_2 8 rfl rfl)
theorem dX11_item_56 : decode cX11_item 56 = .ok (.getfield 83, 3) := dk_180 0 83 (dk_at dksX11_item_2 9 rfl rfl)
theorem dX11_item_59 : decode cX11_item 59 = .ok (.iconst 1, 1) := dk_4 (dk_at dksX11_item_2 12 rfl rfl)
theorem dX11_item_60 : decode cX11_item 60 = .ok (.iadd, 1) := dk_96 (dk_at dksX11_item_2 13 rfl rfl)
theorem dX11_item_61 : decode cX11_item 61 = .ok (.putfield 83, 3) := dk_181 0 83 (dk_at dksX11_item_2 14 rfl rfl)
theorem dX11_item_64 : decode cX11_item 64 = .ok (.goto 86, 3) := dk_167 0 86 (dk_at dksX11_item_2 17 rfl rfl)
theorem dX11_item_67 : decode cX11_item 67 = .ok (.aload_n 0, 1) := dk_42 (dk_at dksX11_item_2 20 rfl rfl)
theorem dX11_item_68 : decode cX11_item 68 = .ok (.ldc 125, 2) := dk_18 125 (dk_at dksX11_item_2 21 rfl rfl)
theorem dX11_item_70 : decode cX11_item 70 = .ok (.invokevirtual 55, 3) := dk_182 0 55 (dk_at dksX11_item_3 0 rfl rfl)
theorem dX11_item_73 : decode cX11_item 73 = .ok (.ifCond .eq 7, 3) := dk_153 0 7 (dk_at dksX11_item_3 3 rfl rfl)
theorem dX11_item_76 : decode cX11_item 76 = .ok (.iconst 0, 1) := dk_3 (dk_at dksX11_item_3 6 rfl rfl)
theorem dX11_item_77 : decode cX11_item 77 = .ok (.goto 30, 3) := dk_167 0 30 (dk_at dksX11_item_3 7 rfl rfl)
theorem dX11_item_80 : decode cX11_item 80 = .ok (.aload_n 0, 1) := dk_42 (dk_at dksX11_item_3 10 rfl rfl)
theorem dX11_item_81 : decode cX11_item 81 = .ok (.ldc 127, 2) := dk_18 127 (dk_at dksX11_item_3 11 rfl rfl)
theorem dX11_item_83 : decode cX11_item 83 = .ok (.invokevirtual 55, 3) := dk_182 0 55 (dk_at dksX11_item_3 13 rfl rfl)
theorem dX11_item_86 : decode cX11_item 86 = .ok (.ifCond .eq 7, 3) := dk_153 0 7 (dk_at dksX11_item_3 16 rfl rfl)
theorem dX11_item_89 : decode cX11_item 89 = .ok (.iconst 1, 1) := dk_4 (dk_at dksX11_item_3 19 rfl rfl)
theorem dX11_item_90 : decode cX11_item 90 = .ok (.goto 17, 3) := dk_167 0 17 (dk_at dksX11_item_3 20 rfl rfl)
theorem dX11_item_93 : decode cX11_item 93 = .ok (.aload_n 0, 1) := dk_42 (dk_at dksX11_item_3 23 rfl rfl)
theorem dX11_item_94 : decode cX11_item 94 = .ok (.ldc 129, 2) := dk_18 129 (dk_at dksX11_item_4 0 rfl rfl)
theorem dX11_item_96 : decode cX11_item 96 = .ok (.invokevirtual 55, 3) := dk_182 0 55 (dk_at dksX11_item_4 2 rfl rfl)
theorem dX11_item_99 : decode cX11_item 99 = .ok (.ifCond .eq 7, 3) := dk_153 0 7 (dk_at dksX11_item_4 5 rfl rfl)
theorem dX11_item_102 : decode cX11_item 102 = .ok (.iconst 4, 1) := dk_7 (dk_at dksX11_item_4 8 rfl rfl)
theorem dX11_item_103 : decode cX11_item 103 = .ok (.goto 4, 3) := dk_167 0 4 (dk_at dksX11_item_4 9 rfl rfl)
theorem dX11_item_106 : decode cX11_item 106 = .ok (.iconst (-1), 1) := dk_2 (dk_at dksX11_item_4 12 rfl rfl)
theorem dX11_item_107 : decode cX11_item 107 = .ok (.istore_n 2, 1) := dk_61 (dk_at dksX11_item_4 13 rfl rfl)
theorem dX11_item_108 : decode cX11_item 108 = .ok (.aload_n 0, 1) := dk_42 (dk_at dksX11_item_4 14 rfl rfl)
theorem dX11_item_109 : decode cX11_item 109 = .ok (.iload_n 2, 1) := dk_28 (dk_at dksX11_item_4 15 rfl rfl)
theorem dX11_item_110 : decode cX11_item 110 = .ok (.ifCond .lt 7, 3) := dk_155 0 7 (dk_at dksX11_item_4 16 rfl rfl)
theorem dX11_item_113 : decode cX11_item 113 = .ok (.iconst 1, 1) := dk_4 (dk_at dksX11_item_4 19 rfl rfl)
theorem dX11_item_114 : decode cX11_item 114 = .ok (.goto 4, 3) := dk_167 0 4 (dk_at dksX11_item_4 20 rfl rfl)
theorem dX11_item_117 : decode cX11_item 117 = .ok (.iconst 0, 1) := dk_3 (dk_at dksX11_item_4 23 rfl rfl)
theorem dX11_item_118 : decode cX11_item 118 = .ok (.invokevirtual 62, 3) := dk_182 0 62 (dk_at dksX11_item_5 0 rfl rfl)
theorem dX11_item_121 : decode cX11_item 121 = .ok (.aload_n 0, 1) := dk_42 (dk_at dksX11_item_5 3 rfl rfl)
theorem dX11_item_122 : decode cX11_item 122 = .ok (.invokevirtual 59, 3) := dk_182 0 59 (dk_at dksX11_item_5 4 rfl rfl)
theorem dX11_item_125 : decode cX11_item 125 = .ok (.aload_n 0, 1) := dk_42 (dk_at dksX11_item_5 7 rfl rfl)
theorem dX11_item_126 : decode cX11_item 126 = .ok (.getfield 19, 3) := dk_180 0 19 (dk_at dksX11_item_5 8 rfl rfl)
theorem dX11_item_129 : decode cX11_item 129 = .ok (.getfield 131, 3) := dk_180 0 131 (dk_at dksX11_item_5 11 rfl rfl)
theorem dX11_item_132 : decode cX11_item 132 = .ok (.iload_n 2, 1) := dk_28 (dk_at dksX11_item_5 14 rfl rfl)
theorem dX11_item_133 : decode cX11_item 133 = .ok (.aload_n 0, 1) := dk_42 (dk_at dksX11_item_5 15 rfl rfl)
theorem dX11_item_134 : decode cX11_item 134 = .ok (.iconst 0, 1) := dk_3 (dk_at dksX11_item_5 16 rfl rfl)
theorem dX11_item_135 : decode cX11_item 135 = .ok (.iload_n 2, 1) := dk_28 (dk_at dksX11_item_5 17 rfl rfl)
theorem dX11_item_136 : decode cX11_item 136 = .ok (.ifCond .ne 8, 3) := dk_154 0 8 (dk_at dksX11_item_5 18 rfl rfl)
theorem dX11_item_139 : decode cX11_item 139 = .ok (.bipush 40, 2) := dk_16 40 (dk_at dksX11_item_5 21 rfl rfl)
theorem dX11_item_141 : decode cX11_item 141 = .ok (.goto 5, 3) := dk_167 0 5 (dk_at dksX11_item_6 0 rfl rfl)
theorem dX11_item_144 : decode cX11_item 144 = .ok (.bipush 99, 2) := dk_16 99 (dk_at dksX11_item_6 3 rfl rfl)
theorem dX11_item_146 : decode cX11_item 146 = .ok (.invokevirtual 88, 3) := dk_182 0 88 (dk_at dksX11_item_6 5 rfl rfl)
theorem dX11_item_149 : decode cX11_item 149 = .ok (.iastore, 1) := dk_79 (dk_at dksX11_item_6 8 rfl rfl)
theorem dX11_item_150 : decode cX11_item 150 = .ok (.return_, 1) := dk_177 (dk_at dksX11_item_6 9 rfl rfl)
abbrev cX11_kindHere : ByteArray := prog_12_method_8_code
def yX11_kindHere : MethodName := ⟨RX11, "kindHere", "()I"⟩
def dkwX11_kindHere_3 : List UInt8 := [153, 0, 7, 7, 167, 0, 17, 42, 18, 76, 182, 0, 55, 153, 0, 7, 8, 167, 0, 4, 2, 172]
abbrev dktX11_kindHere_3 : List UInt8 := dkwX11_kindHere_3 ++ []
def dkwX11_kindHere_2 : List UInt8 := [167, 0, 43, 42, 18, 72, 182, 0, 55, 153, 0, 7, 6, 167, 0, 30, 42, 18, 74, 182, 0, 55]
abbrev dktX11_kindHere_2 : List UInt8 := dkwX11_kindHere_2 ++ dktX11_kindHere_3
def dkwX11_kindHere_1 : List UInt8 := [167, 0, 17, 42, 18, 70, 182, 0, 55, 153, 0, 7, 5, 167, 0, 4, 2, 60, 27, 155, 0, 7, 27]
abbrev dktX11_kindHere_1 : List UInt8 := dkwX11_kindHere_1 ++ dktX11_kindHere_2
def dkwX11_kindHere_0 : List UInt8 := [42, 18, 66, 182, 0, 55, 153, 0, 7, 3, 167, 0, 30, 42, 18, 68, 182, 0, 55, 153, 0, 7, 4]
abbrev dktX11_kindHere_0 : List UInt8 := dkwX11_kindHere_0 ++ dktX11_kindHere_1
theorem dksX11_kindHere_0 : cX11_kindHere.data.toList.drop 0 = dktX11_kindHere_0 := by decide +kernel
theorem dksX11_kindHere_1 : cX11_kindHere.data.toList.drop 23 = dktX11_kindHere_1 := dk_seg dksX11_kindHere_0 23 rfl rfl
theorem dksX11_kindHere_2 : cX11_kindHere.data.toList.drop 46 = dktX11_kindHere_2 := dk_seg dksX11_kindHere_1 23 rfl rfl
theorem dksX11_kindHere_3 : cX11_kindHere.data.toList.drop 68 = dktX11_kindHere_3 := dk_seg dksX11_kindHere_2 22 rfl rfl
theorem dX11_kindHere_0 : decode cX11_kindHere 0 = .ok (.aload_n 0, 1) := dk_42 (dk_at dksX11_kindHere_0 0 rfl rfl)
theorem dX11_kindHere_1 : decode cX11_kindHere 1 = .ok (.ldc 66, 2) := dk_18 66 (dk_at dksX11_kindHere_0 1 rfl rfl)
theorem dX11_kindHere_3 : decode cX11_kindHere 3 = .ok (.invokevirtual 55, 3) := dk_182 0 55 (dk_at dksX11_kindHere_0 3 rfl rfl)
theorem dX11_kindHere_6 : decode cX11_kindHere 6 = .ok (.ifCond .eq 7, 3) := dk_153 0 7 (dk_at dksX11_kindHere_0 6 rfl rfl)
theorem dX11_kindHere_9 : decode cX11_kindHere 9 = .ok (.iconst 0, 1) := dk_3 (dk_at dksX11_kindHere_0 9 rfl rfl)
theorem dX11_kindHere_10 : decode cX11_kindHere 10 = .ok (.goto 30, 3) := dk_167 0 30 (dk_at dksX11_kindHere_0 10 rfl rfl)
theorem dX11_kindHere_13 : decode cX11_kindHere 13 = .ok (.aload_n 0, 1) := dk_42 (dk_at dksX11_kindHere_0 13 rfl rfl)
theorem dX11_kindHere_14 : decode cX11_kindHere 14 = .ok (.ldc 68, 2) := dk_18 68 (dk_at dksX11_kindHere_0 14 rfl rfl)
theorem dX11_kindHere_16 : decode cX11_kindHere 16 = .ok (.invokevirtual 55, 3) := dk_182 0 55 (dk_at dksX11_kindHere_0 16 rfl rfl)
theorem dX11_kindHere_19 : decode cX11_kindHere 19 = .ok (.ifCond .eq 7, 3) := dk_153 0 7 (dk_at dksX11_kindHere_0 19 rfl rfl)
theorem dX11_kindHere_22 : decode cX11_kindHere 22 = .ok (.iconst 1, 1) := dk_4 (dk_at dksX11_kindHere_0 22 rfl rfl)
theorem dX11_kindHere_23 : decode cX11_kindHere 23 = .ok (.goto 17, 3) := dk_167 0 17 (dk_at dksX11_kindHere_1 0 rfl rfl)
theorem dX11_kindHere_26 : decode cX11_kindHere 26 = .ok (.aload_n 0, 1) := dk_42 (dk_at dksX11_kindHere_1 3 rfl rfl)
theorem dX11_kindHere_27 : decode cX11_kindHere 27 = .ok (.ldc 70, 2) := dk_18 70 (dk_at dksX11_kindHere_1 4 rfl rfl)
theorem dX11_kindHere_29 : decode cX11_kindHere 29 = .ok (.invokevirtual 55, 3) := dk_182 0 55 (dk_at dksX11_kindHere_1 6 rfl rfl)
theorem dX11_kindHere_32 : decode cX11_kindHere 32 = .ok (.ifCond .eq 7, 3) := dk_153 0 7 (dk_at dksX11_kindHere_1 9 rfl rfl)
theorem dX11_kindHere_35 : decode cX11_kindHere 35 = .ok (.iconst 2, 1) := dk_5 (dk_at dksX11_kindHere_1 12 rfl rfl)
theorem dX11_kindHere_36 : decode cX11_kindHere 36 = .ok (.goto 4, 3) := dk_167 0 4 (dk_at dksX11_kindHere_1 13 rfl rfl)
theorem dX11_kindHere_39 : decode cX11_kindHere 39 = .ok (.iconst (-1), 1) := dk_2 (dk_at dksX11_kindHere_1 16 rfl rfl)
theorem dX11_kindHere_40 : decode cX11_kindHere 40 = .ok (.istore_n 1, 1) := dk_60 (dk_at dksX11_kindHere_1 17 rfl rfl)
theorem dX11_kindHere_41 : decode cX11_kindHere 41 = .ok (.iload_n 1, 1) := dk_27 (dk_at dksX11_kindHere_1 18 rfl rfl)
theorem dX11_kindHere_42 : decode cX11_kindHere 42 = .ok (.ifCond .lt 7, 3) := dk_155 0 7 (dk_at dksX11_kindHere_1 19 rfl rfl)
theorem dX11_kindHere_45 : decode cX11_kindHere 45 = .ok (.iload_n 1, 1) := dk_27 (dk_at dksX11_kindHere_1 22 rfl rfl)
theorem dX11_kindHere_46 : decode cX11_kindHere 46 = .ok (.goto 43, 3) := dk_167 0 43 (dk_at dksX11_kindHere_2 0 rfl rfl)
theorem dX11_kindHere_49 : decode cX11_kindHere 49 = .ok (.aload_n 0, 1) := dk_42 (dk_at dksX11_kindHere_2 3 rfl rfl)
theorem dX11_kindHere_50 : decode cX11_kindHere 50 = .ok (.ldc 72, 2) := dk_18 72 (dk_at dksX11_kindHere_2 4 rfl rfl)
theorem dX11_kindHere_52 : decode cX11_kindHere 52 = .ok (.invokevirtual 55, 3) := dk_182 0 55 (dk_at dksX11_kindHere_2 6 rfl rfl)
theorem dX11_kindHere_55 : decode cX11_kindHere 55 = .ok (.ifCond .eq 7, 3) := dk_153 0 7 (dk_at dksX11_kindHere_2 9 rfl rfl)
theorem dX11_kindHere_58 : decode cX11_kindHere 58 = .ok (.iconst 3, 1) := dk_6 (dk_at dksX11_kindHere_2 12 rfl rfl)
theorem dX11_kindHere_59 : decode cX11_kindHere 59 = .ok (.goto 30, 3) := dk_167 0 30 (dk_at dksX11_kindHere_2 13 rfl rfl)
theorem dX11_kindHere_62 : decode cX11_kindHere 62 = .ok (.aload_n 0, 1) := dk_42 (dk_at dksX11_kindHere_2 16 rfl rfl)
theorem dX11_kindHere_63 : decode cX11_kindHere 63 = .ok (.ldc 74, 2) := dk_18 74 (dk_at dksX11_kindHere_2 17 rfl rfl)
theorem dX11_kindHere_65 : decode cX11_kindHere 65 = .ok (.invokevirtual 55, 3) := dk_182 0 55 (dk_at dksX11_kindHere_2 19 rfl rfl)
theorem dX11_kindHere_68 : decode cX11_kindHere 68 = .ok (.ifCond .eq 7, 3) := dk_153 0 7 (dk_at dksX11_kindHere_3 0 rfl rfl)
theorem dX11_kindHere_71 : decode cX11_kindHere 71 = .ok (.iconst 4, 1) := dk_7 (dk_at dksX11_kindHere_3 3 rfl rfl)
theorem dX11_kindHere_72 : decode cX11_kindHere 72 = .ok (.goto 17, 3) := dk_167 0 17 (dk_at dksX11_kindHere_3 4 rfl rfl)
theorem dX11_kindHere_75 : decode cX11_kindHere 75 = .ok (.aload_n 0, 1) := dk_42 (dk_at dksX11_kindHere_3 7 rfl rfl)
theorem dX11_kindHere_76 : decode cX11_kindHere 76 = .ok (.ldc 76, 2) := dk_18 76 (dk_at dksX11_kindHere_3 8 rfl rfl)
theorem dX11_kindHere_78 : decode cX11_kindHere 78 = .ok (.invokevirtual 55, 3) := dk_182 0 55 (dk_at dksX11_kindHere_3 10 rfl rfl)
theorem dX11_kindHere_81 : decode cX11_kindHere 81 = .ok (.ifCond .eq 7, 3) := dk_153 0 7 (dk_at dksX11_kindHere_3 13 rfl rfl)
theorem dX11_kindHere_84 : decode cX11_kindHere 84 = .ok (.iconst 5, 1) := dk_8 (dk_at dksX11_kindHere_3 16 rfl rfl)
theorem dX11_kindHere_85 : decode cX11_kindHere 85 = .ok (.goto 4, 3) := dk_167 0 4 (dk_at dksX11_kindHere_3 17 rfl rfl)
theorem dX11_kindHere_88 : decode cX11_kindHere 88 = .ok (.iconst (-1), 1) := dk_2 (dk_at dksX11_kindHere_3 20 rfl rfl)
theorem dX11_kindHere_89 : decode cX11_kindHere 89 = .ok (.ireturn, 1) := dk_172 (dk_at dksX11_kindHere_3 21 rfl rfl)
abbrev cX11_isWord : ByteArray := prog_12_method_5_code
def yX11_isWord : MethodName := ⟨RX11, "isWord", "(Ljava/lang/String;)Z"⟩
def dkwX11_isWord_3 : List UInt8 := [167, 255, 216, 28, 172]
abbrev dktX11_isWord_3 : List UInt8 := dkwX11_isWord_3 ++ []
def dkwX11_isWord_2 : List UInt8 := [42, 180, 0, 30, 29, 96, 51, 43, 29, 182, 0, 51, 160, 0, 7, 4, 167, 0, 4, 3, 61, 132, 3, 1]
abbrev dktX11_isWord_2 : List UInt8 := dkwX11_isWord_2 ++ dktX11_isWord_3
def dkwX11_isWord_1 : List UInt8 := [4, 167, 0, 4, 3, 61, 3, 62, 29, 43, 182, 0, 45, 162, 0, 38, 28, 153, 0, 34, 42, 180, 0, 9]
abbrev dktX11_isWord_1 : List UInt8 := dkwX11_isWord_1 ++ dktX11_isWord_2
def dkwX11_isWord_0 : List UInt8 := [42, 180, 0, 37, 4, 160, 0, 23, 42, 180, 0, 27, 42, 180, 0, 30, 100, 43, 182, 0, 45, 160, 0, 7]
abbrev dktX11_isWord_0 : List UInt8 := dkwX11_isWord_0 ++ dktX11_isWord_1
theorem dksX11_isWord_0 : cX11_isWord.data.toList.drop 0 = dktX11_isWord_0 := by decide +kernel
theorem dksX11_isWord_1 : cX11_isWord.data.toList.drop 24 = dktX11_isWord_1 := dk_seg dksX11_isWord_0 24 rfl rfl
theorem dksX11_isWord_2 : cX11_isWord.data.toList.drop 48 = dktX11_isWord_2 := dk_seg dksX11_isWord_1 24 rfl rfl
theorem dksX11_isWord_3 : cX11_isWord.data.toList.drop 72 = dktX11_isWord_3 := dk_seg dksX11_isWord_2 24 rfl rfl
theorem dX11_isWord_0 : decode cX11_isWord 0 = .ok (.aload_n 0, 1) := dk_42 (dk_at dksX11_isWord_0 0 rfl rfl)
theorem dX11_isWord_1 : decode cX11_isWord 1 = .ok (.getfield 37, 3) := dk_180 0 37 (dk_at dksX11_isWord_0 1 rfl rfl)
theorem dX11_isWord_4 : decode cX11_isWord 4 = .ok (.iconst 1, 1) := dk_4 (dk_at dksX11_isWord_0 4 rfl rfl)
theorem dX11_isWord_5 : decode cX11_isWord 5 = .ok (.if_icmp .ne 23, 3) := dk_160 0 23 (dk_at dksX11_isWord_0 5 rfl rfl)
theorem dX11_isWord_8 : decode cX11_isWord 8 = .ok (.aload_n 0, 1) := dk_42 (dk_at dksX11_isWord_0 8 rfl rfl)
theorem dX11_isWord_9 : decode cX11_isWord 9 = .ok (.getfield 27, 3) := dk_180 0 27 (dk_at dksX11_isWord_0 9 rfl rfl)
theorem dX11_isWord_12 : decode cX11_isWord 12 = .ok (.aload_n 0, 1) := dk_42 (dk_at dksX11_isWord_0 12 rfl rfl)
theorem dX11_isWord_13 : decode cX11_isWord 13 = .ok (.getfield 30, 3) := dk_180 0 30 (dk_at dksX11_isWord_0 13 rfl rfl)
theorem dX11_isWord_16 : decode cX11_isWord 16 = .ok (.isub, 1) := dk_100 (dk_at dksX11_isWord_0 16 rfl rfl)
theorem dX11_isWord_17 : decode cX11_isWord 17 = .ok (.aload_n 1, 1) := dk_43 (dk_at dksX11_isWord_0 17 rfl rfl)
theorem dX11_isWord_18 : decode cX11_isWord 18 = .ok (.invokevirtual 45, 3) := dk_182 0 45 (dk_at dksX11_isWord_0 18 rfl rfl)
theorem dX11_isWord_21 : decode cX11_isWord 21 = .ok (.if_icmp .ne 7, 3) := dk_160 0 7 (dk_at dksX11_isWord_0 21 rfl rfl)
theorem dX11_isWord_24 : decode cX11_isWord 24 = .ok (.iconst 1, 1) := dk_4 (dk_at dksX11_isWord_1 0 rfl rfl)
theorem dX11_isWord_25 : decode cX11_isWord 25 = .ok (.goto 4, 3) := dk_167 0 4 (dk_at dksX11_isWord_1 1 rfl rfl)
theorem dX11_isWord_28 : decode cX11_isWord 28 = .ok (.iconst 0, 1) := dk_3 (dk_at dksX11_isWord_1 4 rfl rfl)
theorem dX11_isWord_29 : decode cX11_isWord 29 = .ok (.istore_n 2, 1) := dk_61 (dk_at dksX11_isWord_1 5 rfl rfl)
theorem dX11_isWord_30 : decode cX11_isWord 30 = .ok (.iconst 0, 1) := dk_3 (dk_at dksX11_isWord_1 6 rfl rfl)
theorem dX11_isWord_31 : decode cX11_isWord 31 = .ok (.istore_n 3, 1) := dk_62 (dk_at dksX11_isWord_1 7 rfl rfl)
theorem dX11_isWord_32 : decode cX11_isWord 32 = .ok (.iload_n 3, 1) := dk_29 (dk_at dksX11_isWord_1 8 rfl rfl)
theorem dX11_isWord_33 : decode cX11_isWord 33 = .ok (.aload_n 1, 1) := dk_43 (dk_at dksX11_isWord_1 9 rfl rfl)
theorem dX11_isWord_34 : decode cX11_isWord 34 = .ok (.invokevirtual 45, 3) := dk_182 0 45 (dk_at dksX11_isWord_1 10 rfl rfl)
theorem dX11_isWord_37 : decode cX11_isWord 37 = .ok (.if_icmp .ge 38, 3) := dk_162 0 38 (dk_at dksX11_isWord_1 13 rfl rfl)
theorem dX11_isWord_40 : decode cX11_isWord 40 = .ok (.iload_n 2, 1) := dk_28 (dk_at dksX11_isWord_1 16 rfl rfl)
theorem dX11_isWord_41 : decode cX11_isWord 41 = .ok (.ifCond .eq 34, 3) := dk_153 0 34 (dk_at dksX11_isWord_1 17 rfl rfl)
theorem dX11_isWord_44 : decode cX11_isWord 44 = .ok (.aload_n 0, 1) := dk_42 (dk_at dksX11_isWord_1 20 rfl rfl)
theorem dX11_isWord_45 : decode cX11_isWord 45 = .ok (.getfield 9, 3) := dk_180 0 9 (dk_at dksX11_isWord_1 21 rfl rfl)
theorem dX11_isWord_48 : decode cX11_isWord 48 = .ok (.aload_n 0, 1) := dk_42 (dk_at dksX11_isWord_2 0 rfl rfl)
theorem dX11_isWord_49 : decode cX11_isWord 49 = .ok (.getfield 30, 3) := dk_180 0 30 (dk_at dksX11_isWord_2 1 rfl rfl)
theorem dX11_isWord_52 : decode cX11_isWord 52 = .ok (.iload_n 3, 1) := dk_29 (dk_at dksX11_isWord_2 4 rfl rfl)
theorem dX11_isWord_53 : decode cX11_isWord 53 = .ok (.iadd, 1) := dk_96 (dk_at dksX11_isWord_2 5 rfl rfl)
theorem dX11_isWord_54 : decode cX11_isWord 54 = .ok (.baload, 1) := dk_51 (dk_at dksX11_isWord_2 6 rfl rfl)
theorem dX11_isWord_55 : decode cX11_isWord 55 = .ok (.aload_n 1, 1) := dk_43 (dk_at dksX11_isWord_2 7 rfl rfl)
theorem dX11_isWord_56 : decode cX11_isWord 56 = .ok (.iload_n 3, 1) := dk_29 (dk_at dksX11_isWord_2 8 rfl rfl)
theorem dX11_isWord_57 : decode cX11_isWord 57 = .ok (.invokevirtual 51, 3) := dk_182 0 51 (dk_at dksX11_isWord_2 9 rfl rfl)
theorem dX11_isWord_60 : decode cX11_isWord 60 = .ok (.if_icmp .ne 7, 3) := dk_160 0 7 (dk_at dksX11_isWord_2 12 rfl rfl)
theorem dX11_isWord_63 : decode cX11_isWord 63 = .ok (.iconst 1, 1) := dk_4 (dk_at dksX11_isWord_2 15 rfl rfl)
theorem dX11_isWord_64 : decode cX11_isWord 64 = .ok (.goto 4, 3) := dk_167 0 4 (dk_at dksX11_isWord_2 16 rfl rfl)
theorem dX11_isWord_67 : decode cX11_isWord 67 = .ok (.iconst 0, 1) := dk_3 (dk_at dksX11_isWord_2 19 rfl rfl)
theorem dX11_isWord_68 : decode cX11_isWord 68 = .ok (.istore_n 2, 1) := dk_61 (dk_at dksX11_isWord_2 20 rfl rfl)
theorem dX11_isWord_69 : decode cX11_isWord 69 = .ok (.iinc 3 1, 3) := dk_132 3 1 (dk_at dksX11_isWord_2 21 rfl rfl)
theorem dX11_isWord_72 : decode cX11_isWord 72 = .ok (.goto (-40), 3) := dk_167 255 216 (dk_at dksX11_isWord_3 0 rfl rfl)
theorem dX11_isWord_75 : decode cX11_isWord 75 = .ok (.iload_n 2, 1) := dk_28 (dk_at dksX11_isWord_3 3 rfl rfl)
theorem dX11_isWord_76 : decode cX11_isWord 76 = .ok (.ireturn, 1) := dk_172 (dk_at dksX11_isWord_3 4 rfl rfl)
abbrev cX11_gap : ByteArray := prog_12_method_10_code
def yX11_gap : MethodName := ⟨RX11, "gap", "(I)V"⟩
def dkwX11_gap_7 : List UInt8 := [181, 0, 92, 177]
abbrev dktX11_gap_7 : List UInt8 := dkwX11_gap_7 ++ []
def dkwX11_gap_6 : List UInt8 := [21, 4, 21, 5, 21, 6, 21, 7, 184, 0, 108, 181, 0, 112, 42, 180, 0, 19, 89, 180, 0, 92, 4, 96]
abbrev dktX11_gap_6 : List UInt8 := dkwX11_gap_6 ++ dktX11_gap_7
def dkwX11_gap_5 : List UInt8 := [167, 0, 4, 3, 54, 7, 42, 180, 0, 19, 180, 0, 105, 42, 180, 0, 19, 180, 0, 92, 50, 27, 28, 29]
abbrev dktX11_gap_5 : List UInt8 := dkwX11_gap_5 ++ dktX11_gap_6
def dkwX11_gap_4 : List UInt8 := [167, 0, 4, 3, 54, 6, 42, 18, 103, 182, 0, 80, 153, 0, 13, 42, 3, 16, 99, 182, 0, 88]
abbrev dktX11_gap_4 : List UInt8 := dkwX11_gap_4 ++ dktX11_gap_5
def dkwX11_gap_3 : List UInt8 := [182, 0, 88, 167, 0, 4, 3, 54, 5, 42, 18, 101, 182, 0, 80, 153, 0, 12, 42, 3, 6, 182, 0, 88]
abbrev dktX11_gap_3 : List UInt8 := dkwX11_gap_3 ++ dktX11_gap_4
def dkwX11_gap_2 : List UInt8 := [42, 3, 16, 99, 182, 0, 88, 54, 4, 42, 18, 99, 182, 0, 80, 153, 0, 13, 42, 3, 16, 9]
abbrev dktX11_gap_2 : List UInt8 := dkwX11_gap_2 ++ dktX11_gap_3
def dkwX11_gap_1 : List UInt8 := [182, 0, 59, 42, 3, 42, 180, 0, 19, 180, 0, 83, 4, 100, 182, 0, 88, 61, 42, 28, 182, 0, 95, 62]
abbrev dktX11_gap_1 : List UInt8 := dkwX11_gap_1 ++ dktX11_gap_2
def dkwX11_gap_0 : List UInt8 := [42, 42, 180, 0, 19, 180, 0, 92, 16, 20, 162, 0, 7, 4, 167, 0, 4, 3, 182, 0, 62, 42]
abbrev dktX11_gap_0 : List UInt8 := dkwX11_gap_0 ++ dktX11_gap_1
theorem dksX11_gap_0 : cX11_gap.data.toList.drop 0 = dktX11_gap_0 := by decide +kernel
theorem dksX11_gap_1 : cX11_gap.data.toList.drop 22 = dktX11_gap_1 := dk_seg dksX11_gap_0 22 rfl rfl
theorem dksX11_gap_2 : cX11_gap.data.toList.drop 46 = dktX11_gap_2 := dk_seg dksX11_gap_1 24 rfl rfl
theorem dksX11_gap_3 : cX11_gap.data.toList.drop 68 = dktX11_gap_3 := dk_seg dksX11_gap_2 22 rfl rfl
theorem dksX11_gap_4 : cX11_gap.data.toList.drop 92 = dktX11_gap_4 := dk_seg dksX11_gap_3 24 rfl rfl
theorem dksX11_gap_5 : cX11_gap.data.toList.drop 114 = dktX11_gap_5 := dk_seg dksX11_gap_4 22 rfl rfl
theorem dksX11_gap_6 : cX11_gap.data.toList.drop 138 = dktX11_gap_6 := dk_seg dksX11_gap_5 24 rfl rfl
theorem dksX11_gap_7 : cX11_gap.data.toList.drop 162 = dktX11_gap_7 := dk_seg dksX11_gap_6 24 rfl rfl
theorem dX11_gap_0 : decode cX11_gap 0 = .ok (.aload_n 0, 1) := dk_42 (dk_at dksX11_gap_0 0 rfl rfl)
theorem dX11_gap_1 : decode cX11_gap 1 = .ok (.aload_n 0, 1) := dk_42 (dk_at dksX11_gap_0 1 rfl rfl)
theorem dX11_gap_2 : decode cX11_gap 2 = .ok (.getfield 19, 3) := dk_180 0 19 (dk_at dksX11_gap_0 2 rfl rfl)
theorem dX11_gap_5 : decode cX11_gap 5 = .ok (.getfield 92, 3) := dk_180 0 92 (dk_at dksX11_gap_0 5 rfl rfl)
theorem dX11_gap_8 : decode cX11_gap 8 = .ok (.bipush 20, 2) := dk_16 20 (dk_at dksX11_gap_0 8 rfl rfl)
theorem dX11_gap_10 : decode cX11_gap 10 = .ok (.if_icmp .ge 7, 3) := dk_162 0 7 (dk_at dksX11_gap_0 10 rfl rfl)
theorem dX11_gap_13 : decode cX11_gap 13 = .ok (.iconst 1, 1) := dk_4 (dk_at dksX11_gap_0 13 rfl rfl)
theorem dX11_gap_14 : decode cX11_gap 14 = .ok (.goto 4, 3) := dk_167 0 4 (dk_at dksX11_gap_0 14 rfl rfl)
theorem dX11_gap_17 : decode cX11_gap 17 = .ok (.iconst 0, 1) := dk_3 (dk_at dksX11_gap_0 17 rfl rfl)
theorem dX11_gap_18 : decode cX11_gap 18 = .ok (.invokevirtual 62, 3) := dk_182 0 62 (dk_at dksX11_gap_0 18 rfl rfl)
theorem dX11_gap_21 : decode cX11_gap 21 = .ok (.aload_n 0, 1) := dk_42 (dk_at dksX11_gap_0 21 rfl rfl)
theorem dX11_gap_22 : decode cX11_gap 22 = .ok (.invokevirtual 59, 3) := dk_182 0 59 (dk_at dksX11_gap_1 0 rfl rfl)
theorem dX11_gap_25 : decode cX11_gap 25 = .ok (.aload_n 0, 1) := dk_42 (dk_at dksX11_gap_1 3 rfl rfl)
theorem dX11_gap_26 : decode cX11_gap 26 = .ok (.iconst 0, 1) := dk_3 (dk_at dksX11_gap_1 4 rfl rfl)
theorem dX11_gap_27 : decode cX11_gap 27 = .ok (.aload_n 0, 1) := dk_42 (dk_at dksX11_gap_1 5 rfl rfl)
theorem dX11_gap_28 : decode cX11_gap 28 = .ok (.getfield 19, 3) := dk_180 0 19 (dk_at dksX11_gap_1 6 rfl rfl)
theorem dX11_gap_31 : decode cX11_gap 31 = .ok (.getfield 83, 3) := dk_180 0 83 (dk_at dksX11_gap_1 9 rfl rfl)
theorem dX11_gap_34 : decode cX11_gap 34 = .ok (.iconst 1, 1) := dk_4 (dk_at dksX11_gap_1 12 rfl rfl)
theorem dX11_gap_35 : decode cX11_gap 35 = .ok (.isub, 1) := dk_100 (dk_at dksX11_gap_1 13 rfl rfl)
theorem dX11_gap_36 : decode cX11_gap 36 = .ok (.invokevirtual 88, 3) := dk_182 0 88 (dk_at dksX11_gap_1 14 rfl rfl)
theorem dX11_gap_39 : decode cX11_gap 39 = .ok (.istore_n 2, 1) := dk_61 (dk_at dksX11_gap_1 17 rfl rfl)
theorem dX11_gap_40 : decode cX11_gap 40 = .ok (.aload_n 0, 1) := dk_42 (dk_at dksX11_gap_1 18 rfl rfl)
theorem dX11_gap_41 : decode cX11_gap 41 = .ok (.iload_n 2, 1) := dk_28 (dk_at dksX11_gap_1 19 rfl rfl)
theorem dX11_gap_42 : decode cX11_gap 42 = .ok (.invokevirtual 95, 3) := dk_182 0 95 (dk_at dksX11_gap_1 20 rfl rfl)
theorem dX11_gap_45 : decode cX11_gap 45 = .ok (.istore_n 3, 1) := dk_62 (dk_at dksX11_gap_1 23 rfl rfl)
theorem dX11_gap_46 : decode cX11_gap 46 = .ok (.aload_n 0, 1) := dk_42 (dk_at dksX11_gap_2 0 rfl rfl)
theorem dX11_gap_47 : decode cX11_gap 47 = .ok (.iconst 0, 1) := dk_3 (dk_at dksX11_gap_2 1 rfl rfl)
theorem dX11_gap_48 : decode cX11_gap 48 = .ok (.bipush 99, 2) := dk_16 99 (dk_at dksX11_gap_2 2 rfl rfl)
theorem dX11_gap_50 : decode cX11_gap 50 = .ok (.invokevirtual 88, 3) := dk_182 0 88 (dk_at dksX11_gap_2 4 rfl rfl)
theorem dX11_gap_53 : decode cX11_gap 53 = .ok (.istore 4, 2) := dk_54 4 (dk_at dksX11_gap_2 7 rfl rfl)
theorem dX11_gap_55 : decode cX11_gap 55 = .ok (.aload_n 0, 1) := dk_42 (dk_at dksX11_gap_2 9 rfl rfl)
theorem dX11_gap_56 : decode cX11_gap 56 = .ok (.ldc 99, 2) := dk_18 99 (dk_at dksX11_gap_2 10 rfl rfl)
theorem dX11_gap_58 : decode cX11_gap 58 = .ok (.invokevirtual 80, 3) := dk_182 0 80 (dk_at dksX11_gap_2 12 rfl rfl)
theorem dX11_gap_61 : decode cX11_gap 61 = .ok (.ifCond .eq 13, 3) := dk_153 0 13 (dk_at dksX11_gap_2 15 rfl rfl)
theorem dX11_gap_64 : decode cX11_gap 64 = .ok (.aload_n 0, 1) := dk_42 (dk_at dksX11_gap_2 18 rfl rfl)
theorem dX11_gap_65 : decode cX11_gap 65 = .ok (.iconst 0, 1) := dk_3 (dk_at dksX11_gap_2 19 rfl rfl)
theorem dX11_gap_66 : decode cX11_gap 66 = .ok (.bipush 9, 2) := dk_16 9 (dk_at dksX11_gap_2 20 rfl rfl)
theorem dX11_gap_68 : decode cX11_gap 68 = .ok (.invokevirtual 88, 3) := dk_182 0 88 (dk_at dksX11_gap_3 0 rfl rfl)
theorem dX11_gap_71 : decode cX11_gap 71 = .ok (.goto 4, 3) := dk_167 0 4 (dk_at dksX11_gap_3 3 rfl rfl)
theorem dX11_gap_74 : decode cX11_gap 74 = .ok (.iconst 0, 1) := dk_3 (dk_at dksX11_gap_3 6 rfl rfl)
theorem dX11_gap_75 : decode cX11_gap 75 = .ok (.istore 5, 2) := dk_54 5 (dk_at dksX11_gap_3 7 rfl rfl)
theorem dX11_gap_77 : decode cX11_gap 77 = .ok (.aload_n 0, 1) := dk_42 (dk_at dksX11_gap_3 9 rfl rfl)
theorem dX11_gap_78 : decode cX11_gap 78 = .ok (.ldc 101, 2) := dk_18 101 (dk_at dksX11_gap_3 10 rfl rfl)
theorem dX11_gap_80 : decode cX11_gap 80 = .ok (.invokevirtual 80, 3) := dk_182 0 80 (dk_at dksX11_gap_3 12 rfl rfl)
theorem dX11_gap_83 : decode cX11_gap 83 = .ok (.ifCond .eq 12, 3) := dk_153 0 12 (dk_at dksX11_gap_3 15 rfl rfl)
theorem dX11_gap_86 : decode cX11_gap 86 = .ok (.aload_n 0, 1) := dk_42 (dk_at dksX11_gap_3 18 rfl rfl)
theorem dX11_gap_87 : decode cX11_gap 87 = .ok (.iconst 0, 1) := dk_3 (dk_at dksX11_gap_3 19 rfl rfl)
theorem dX11_gap_88 : decode cX11_gap 88 = .ok (.iconst 3, 1) := dk_6 (dk_at dksX11_gap_3 20 rfl rfl)
theorem dX11_gap_89 : decode cX11_gap 89 = .ok (.invokevirtual 88, 3) := dk_182 0 88 (dk_at dksX11_gap_3 21 rfl rfl)
theorem dX11_gap_92 : decode cX11_gap 92 = .ok (.goto 4, 3) := dk_167 0 4 (dk_at dksX11_gap_4 0 rfl rfl)
theorem dX11_gap_95 : decode cX11_gap 95 = .ok (.iconst 0, 1) := dk_3 (dk_at dksX11_gap_4 3 rfl rfl)
theorem dX11_gap_96 : decode cX11_gap 96 = .ok (.istore 6, 2) := dk_54 6 (dk_at dksX11_gap_4 4 rfl rfl)
theorem dX11_gap_98 : decode cX11_gap 98 = .ok (.aload_n 0, 1) := dk_42 (dk_at dksX11_gap_4 6 rfl rfl)
theorem dX11_gap_99 : decode cX11_gap 99 = .ok (.ldc 103, 2) := dk_18 103 (dk_at dksX11_gap_4 7 rfl rfl)
theorem dX11_gap_101 : decode cX11_gap 101 = .ok (.invokevirtual 80, 3) := dk_182 0 80 (dk_at dksX11_gap_4 9 rfl rfl)
theorem dX11_gap_104 : decode cX11_gap 104 = .ok (.ifCond .eq 13, 3) := dk_153 0 13 (dk_at dksX11_gap_4 12 rfl rfl)
theorem dX11_gap_107 : decode cX11_gap 107 = .ok (.aload_n 0, 1) := dk_42 (dk_at dksX11_gap_4 15 rfl rfl)
theorem dX11_gap_108 : decode cX11_gap 108 = .ok (.iconst 0, 1) := dk_3 (dk_at dksX11_gap_4 16 rfl rfl)
theorem dX11_gap_109 : decode cX11_gap 109 = .ok (.bipush 99, 2) := dk_16 99 (dk_at dksX11_gap_4 17 rfl rfl)
theorem dX11_gap_111 : decode cX11_gap 111 = .ok (.invokevirtual 88, 3) := dk_182 0 88 (dk_at dksX11_gap_4 19 rfl rfl)
theorem dX11_gap_114 : decode cX11_gap 114 = .ok (.goto 4, 3) := dk_167 0 4 (dk_at dksX11_gap_5 0 rfl rfl)
theorem dX11_gap_117 : decode cX11_gap 117 = .ok (.iconst 0, 1) := dk_3 (dk_at dksX11_gap_5 3 rfl rfl)
theorem dX11_gap_118 : decode cX11_gap 118 = .ok (.istore 7, 2) := dk_54 7 (dk_at dksX11_gap_5 4 rfl rfl)
theorem dX11_gap_120 : decode cX11_gap 120 = .ok (.aload_n 0, 1) := dk_42 (dk_at dksX11_gap_5 6 rfl rfl)
theorem dX11_gap_121 : decode cX11_gap 121 = .ok (.getfield 19, 3) := dk_180 0 19 (dk_at dksX11_gap_5 7 rfl rfl)
theorem dX11_gap_124 : decode cX11_gap 124 = .ok (.getfield 105, 3) := dk_180 0 105 (dk_at dksX11_gap_5 10 rfl rfl)
theorem dX11_gap_127 : decode cX11_gap 127 = .ok (.aload_n 0, 1) := dk_42 (dk_at dksX11_gap_5 13 rfl rfl)
theorem dX11_gap_128 : decode cX11_gap 128 = .ok (.getfield 19, 3) := dk_180 0 19 (dk_at dksX11_gap_5 14 rfl rfl)
theorem dX11_gap_131 : decode cX11_gap 131 = .ok (.getfield 92, 3) := dk_180 0 92 (dk_at dksX11_gap_5 17 rfl rfl)
theorem dX11_gap_134 : decode cX11_gap 134 = .ok (.aaload, 1) := dk_50 (dk_at dksX11_gap_5 20 rfl rfl)
theorem dX11_gap_135 : decode cX11_gap 135 = .ok (.iload_n 1, 1) := dk_27 (dk_at dksX11_gap_5 21 rfl rfl)
theorem dX11_gap_136 : decode cX11_gap 136 = .ok (.iload_n 2, 1) := dk_28 (dk_at dksX11_gap_5 22 rfl rfl)
theorem dX11_gap_137 : decode cX11_gap 137 = .ok (.iload_n 3, 1) := dk_29 (dk_at dksX11_gap_5 23 rfl rfl)
theorem dX11_gap_138 : decode cX11_gap 138 = .ok (.iload 4, 2) := dk_21 4 (dk_at dksX11_gap_6 0 rfl rfl)
theorem dX11_gap_140 : decode cX11_gap 140 = .ok (.iload 5, 2) := dk_21 5 (dk_at dksX11_gap_6 2 rfl rfl)
theorem dX11_gap_142 : decode cX11_gap 142 = .ok (.iload 6, 2) := dk_21 6 (dk_at dksX11_gap_6 4 rfl rfl)
theorem dX11_gap_144 : decode cX11_gap 144 = .ok (.iload 7, 2) := dk_21 7 (dk_at dksX11_gap_6 6 rfl rfl)
theorem dX11_gap_146 : decode cX11_gap 146 = .ok (.invokestatic 108, 3) := dk_184 0 108 (dk_at dksX11_gap_6 8 rfl rfl)
theorem dX11_gap_149 : decode cX11_gap 149 = .ok (.putfield 112, 3) := dk_181 0 112 (dk_at dksX11_gap_6 11 rfl rfl)
theorem dX11_gap_152 : decode cX11_gap 152 = .ok (.aload_n 0, 1) := dk_42 (dk_at dksX11_gap_6 14 rfl rfl)
theorem dX11_gap_153 : decode cX11_gap 153 = .ok (.getfield 19, 3) := dk_180 0 19 (dk_at dksX11_gap_6 15 rfl rfl)
theorem dX11_gap_156 : decode cX11_gap 156 = .ok (.dup, 1) := dk_89 (dk_at dksX11_gap_6 18 rfl rfl)
theorem dX11_gap_157 : decode cX11_gap 157 = .ok (.getfield 92, 3) := dk_180 0 92 (dk_at dksX11_gap_6 19 rfl rfl)
theorem dX11_gap_160 : decode cX11_gap 160 = .ok (.iconst 1, 1) := dk_4 (dk_at dksX11_gap_6 22 rfl rfl)
theorem dX11_gap_161 : decode cX11_gap 161 = .ok (.iadd, 1) := dk_96 (dk_at dksX11_gap_6 23 rfl rfl)
theorem dX11_gap_162 : decode cX11_gap 162 = .ok (.putfield 92, 3) := dk_181 0 92 (dk_at dksX11_gap_7 0 rfl rfl)
theorem dX11_gap_165 : decode cX11_gap 165 = .ok (.return_, 1) := dk_177 (dk_at dksX11_gap_7 3 rfl rfl)
abbrev cX11_must : ByteArray := prog_12_method_4_code
def yX11_must : MethodName := ⟨RX11, "must", "(Z)V"⟩
def dkwX11_must_0 : List UInt8 := [27, 154, 0, 15, 187, 0, 40, 89, 42, 180, 0, 30, 183, 0, 42, 191, 177]
abbrev dktX11_must_0 : List UInt8 := dkwX11_must_0 ++ []
theorem dksX11_must_0 : cX11_must.data.toList.drop 0 = dktX11_must_0 := by decide +kernel
theorem dX11_must_0 : decode cX11_must 0 = .ok (.iload_n 1, 1) := dk_27 (dk_at dksX11_must_0 0 rfl rfl)
theorem dX11_must_1 : decode cX11_must 1 = .ok (.ifCond .ne 15, 3) := dk_154 0 15 (dk_at dksX11_must_0 1 rfl rfl)
theorem dX11_must_4 : decode cX11_must 4 = .ok (.new 40, 3) := dk_187 0 40 (dk_at dksX11_must_0 4 rfl rfl)
theorem dX11_must_7 : decode cX11_must 7 = .ok (.dup, 1) := dk_89 (dk_at dksX11_must_0 7 rfl rfl)
theorem dX11_must_8 : decode cX11_must 8 = .ok (.aload_n 0, 1) := dk_42 (dk_at dksX11_must_0 8 rfl rfl)
theorem dX11_must_9 : decode cX11_must 9 = .ok (.getfield 30, 3) := dk_180 0 30 (dk_at dksX11_must_0 9 rfl rfl)
theorem dX11_must_12 : decode cX11_must 12 = .ok (.invokespecial 42, 3) := dk_183 0 42 (dk_at dksX11_must_0 12 rfl rfl)
theorem dX11_must_15 : decode cX11_must 15 = .ok (.athrow, 1) := dk_191 (dk_at dksX11_must_0 15 rfl rfl)
theorem dX11_must_16 : decode cX11_must 16 = .ok (.return_, 1) := dk_177 (dk_at dksX11_must_0 16 rfl rfl)
abbrev cX11_number : ByteArray := prog_12_method_7_code
def yX11_number : MethodName := ⟨RX11, "number", "(II)I"⟩
def dkwX11_number_3 : List UInt8 := [133, 28, 133, 184, 0, 23, 153, 0, 7, 4, 167, 0, 4, 3, 182, 0, 62, 42, 182, 0, 59, 29, 172]
abbrev dktX11_number_3 : List UInt8 := dkwX11_number_3 ++ []
def dkwX11_number_2 : List UInt8 := [51, 96, 16, 48, 100, 62, 132, 4, 1, 167, 255, 209, 42, 42, 180, 0, 37, 5, 160, 0, 19, 29, 133, 27]
abbrev dktX11_number_2 : List UInt8 := dkwX11_number_2 ++ dktX11_number_3
def dkwX11_number_1 : List UInt8 := [160, 0, 36, 29, 17, 3, 231, 164, 0, 7, 29, 167, 0, 18, 16, 10, 29, 104, 42, 180, 0, 9, 21, 4]
abbrev dktX11_number_1 : List UInt8 := dkwX11_number_1 ++ dktX11_number_2
def dkwX11_number_0 : List UInt8 := [3, 62, 42, 180, 0, 30, 54, 4, 21, 4, 42, 180, 0, 27, 162, 0, 44, 42, 180, 0, 37, 5]
abbrev dktX11_number_0 : List UInt8 := dkwX11_number_0 ++ dktX11_number_1
theorem dksX11_number_0 : cX11_number.data.toList.drop 0 = dktX11_number_0 := by decide +kernel
theorem dksX11_number_1 : cX11_number.data.toList.drop 22 = dktX11_number_1 := dk_seg dksX11_number_0 22 rfl rfl
theorem dksX11_number_2 : cX11_number.data.toList.drop 46 = dktX11_number_2 := dk_seg dksX11_number_1 24 rfl rfl
theorem dksX11_number_3 : cX11_number.data.toList.drop 70 = dktX11_number_3 := dk_seg dksX11_number_2 24 rfl rfl
theorem dX11_number_0 : decode cX11_number 0 = .ok (.iconst 0, 1) := dk_3 (dk_at dksX11_number_0 0 rfl rfl)
theorem dX11_number_1 : decode cX11_number 1 = .ok (.istore_n 3, 1) := dk_62 (dk_at dksX11_number_0 1 rfl rfl)
theorem dX11_number_2 : decode cX11_number 2 = .ok (.aload_n 0, 1) := dk_42 (dk_at dksX11_number_0 2 rfl rfl)
theorem dX11_number_3 : decode cX11_number 3 = .ok (.getfield 30, 3) := dk_180 0 30 (dk_at dksX11_number_0 3 rfl rfl)
theorem dX11_number_6 : decode cX11_number 6 = .ok (.istore 4, 2) := dk_54 4 (dk_at dksX11_number_0 6 rfl rfl)
theorem dX11_number_8 : decode cX11_number 8 = .ok (.iload 4, 2) := dk_21 4 (dk_at dksX11_number_0 8 rfl rfl)
theorem dX11_number_10 : decode cX11_number 10 = .ok (.aload_n 0, 1) := dk_42 (dk_at dksX11_number_0 10 rfl rfl)
theorem dX11_number_11 : decode cX11_number 11 = .ok (.getfield 27, 3) := dk_180 0 27 (dk_at dksX11_number_0 11 rfl rfl)
theorem dX11_number_14 : decode cX11_number 14 = .ok (.if_icmp .ge 44, 3) := dk_162 0 44 (dk_at dksX11_number_0 14 rfl rfl)
theorem dX11_number_17 : decode cX11_number 17 = .ok (.aload_n 0, 1) := dk_42 (dk_at dksX11_number_0 17 rfl rfl)
theorem dX11_number_18 : decode cX11_number 18 = .ok (.getfield 37, 3) := dk_180 0 37 (dk_at dksX11_number_0 18 rfl rfl)
theorem dX11_number_21 : decode cX11_number 21 = .ok (.iconst 2, 1) := dk_5 (dk_at dksX11_number_0 21 rfl rfl)
theorem dX11_number_22 : decode cX11_number 22 = .ok (.if_icmp .ne 36, 3) := dk_160 0 36 (dk_at dksX11_number_1 0 rfl rfl)
theorem dX11_number_25 : decode cX11_number 25 = .ok (.iload_n 3, 1) := dk_29 (dk_at dksX11_number_1 3 rfl rfl)
theorem dX11_number_26 : decode cX11_number 26 = .ok (.sipush 999, 3) := dk_17 3 231 (dk_at dksX11_number_1 4 rfl rfl)
theorem dX11_number_29 : decode cX11_number 29 = .ok (.if_icmp .le 7, 3) := dk_164 0 7 (dk_at dksX11_number_1 7 rfl rfl)
theorem dX11_number_32 : decode cX11_number 32 = .ok (.iload_n 3, 1) := dk_29 (dk_at dksX11_number_1 10 rfl rfl)
theorem dX11_number_33 : decode cX11_number 33 = .ok (.goto 18, 3) := dk_167 0 18 (dk_at dksX11_number_1 11 rfl rfl)
theorem dX11_number_36 : decode cX11_number 36 = .ok (.bipush 10, 2) := dk_16 10 (dk_at dksX11_number_1 14 rfl rfl)
theorem dX11_number_38 : decode cX11_number 38 = .ok (.iload_n 3, 1) := dk_29 (dk_at dksX11_number_1 16 rfl rfl)
theorem dX11_number_39 : decode cX11_number 39 = .ok (.imul, 1) := dk_104 (dk_at dksX11_number_1 17 rfl rfl)
theorem dX11_number_40 : decode cX11_number 40 = .ok (.aload_n 0, 1) := dk_42 (dk_at dksX11_number_1 18 rfl rfl)
theorem dX11_number_41 : decode cX11_number 41 = .ok (.getfield 9, 3) := dk_180 0 9 (dk_at dksX11_number_1 19 rfl rfl)
theorem dX11_number_44 : decode cX11_number 44 = .ok (.iload 4, 2) := dk_21 4 (dk_at dksX11_number_1 22 rfl rfl)
theorem dX11_number_46 : decode cX11_number 46 = .ok (.baload, 1) := dk_51 (dk_at dksX11_number_2 0 rfl rfl)
theorem dX11_number_47 : decode cX11_number 47 = .ok (.iadd, 1) := dk_96 (dk_at dksX11_number_2 1 rfl rfl)
theorem dX11_number_48 : decode cX11_number 48 = .ok (.bipush 48, 2) := dk_16 48 (dk_at dksX11_number_2 2 rfl rfl)
theorem dX11_number_50 : decode cX11_number 50 = .ok (.isub, 1) := dk_100 (dk_at dksX11_number_2 4 rfl rfl)
theorem dX11_number_51 : decode cX11_number 51 = .ok (.istore_n 3, 1) := dk_62 (dk_at dksX11_number_2 5 rfl rfl)
theorem dX11_number_52 : decode cX11_number 52 = .ok (.iinc 4 1, 3) := dk_132 4 1 (dk_at dksX11_number_2 6 rfl rfl)
theorem dX11_number_55 : decode cX11_number 55 = .ok (.goto (-47), 3) := dk_167 255 209 (dk_at dksX11_number_2 9 rfl rfl)
theorem dX11_number_58 : decode cX11_number 58 = .ok (.aload_n 0, 1) := dk_42 (dk_at dksX11_number_2 12 rfl rfl)
theorem dX11_number_59 : decode cX11_number 59 = .ok (.aload_n 0, 1) := dk_42 (dk_at dksX11_number_2 13 rfl rfl)
theorem dX11_number_60 : decode cX11_number 60 = .ok (.getfield 37, 3) := dk_180 0 37 (dk_at dksX11_number_2 14 rfl rfl)
theorem dX11_number_63 : decode cX11_number 63 = .ok (.iconst 2, 1) := dk_5 (dk_at dksX11_number_2 17 rfl rfl)
theorem dX11_number_64 : decode cX11_number 64 = .ok (.if_icmp .ne 19, 3) := dk_160 0 19 (dk_at dksX11_number_2 18 rfl rfl)
theorem dX11_number_67 : decode cX11_number 67 = .ok (.iload_n 3, 1) := dk_29 (dk_at dksX11_number_2 21 rfl rfl)
theorem dX11_number_68 : decode cX11_number 68 = .ok (.i2l, 1) := dk_133 (dk_at dksX11_number_2 22 rfl rfl)
theorem dX11_number_69 : decode cX11_number 69 = .ok (.iload_n 1, 1) := dk_27 (dk_at dksX11_number_2 23 rfl rfl)
theorem dX11_number_70 : decode cX11_number 70 = .ok (.i2l, 1) := dk_133 (dk_at dksX11_number_3 0 rfl rfl)
theorem dX11_number_71 : decode cX11_number 71 = .ok (.iload_n 2, 1) := dk_28 (dk_at dksX11_number_3 1 rfl rfl)
theorem dX11_number_72 : decode cX11_number 72 = .ok (.i2l, 1) := dk_133 (dk_at dksX11_number_3 2 rfl rfl)
theorem dX11_number_73 : decode cX11_number 73 = .ok (.invokestatic 23, 3) := dk_184 0 23 (dk_at dksX11_number_3 3 rfl rfl)
theorem dX11_number_76 : decode cX11_number 76 = .ok (.ifCond .eq 7, 3) := dk_153 0 7 (dk_at dksX11_number_3 6 rfl rfl)
theorem dX11_number_79 : decode cX11_number 79 = .ok (.iconst 1, 1) := dk_4 (dk_at dksX11_number_3 9 rfl rfl)
theorem dX11_number_80 : decode cX11_number 80 = .ok (.goto 4, 3) := dk_167 0 4 (dk_at dksX11_number_3 10 rfl rfl)
theorem dX11_number_83 : decode cX11_number 83 = .ok (.iconst 0, 1) := dk_3 (dk_at dksX11_number_3 13 rfl rfl)
theorem dX11_number_84 : decode cX11_number 84 = .ok (.invokevirtual 62, 3) := dk_182 0 62 (dk_at dksX11_number_3 14 rfl rfl)
theorem dX11_number_87 : decode cX11_number 87 = .ok (.aload_n 0, 1) := dk_42 (dk_at dksX11_number_3 17 rfl rfl)
theorem dX11_number_88 : decode cX11_number 88 = .ok (.invokevirtual 59, 3) := dk_182 0 59 (dk_at dksX11_number_3 18 rfl rfl)
theorem dX11_number_91 : decode cX11_number 91 = .ok (.iload_n 3, 1) := dk_29 (dk_at dksX11_number_3 21 rfl rfl)
theorem dX11_number_92 : decode cX11_number 92 = .ok (.ireturn, 1) := dk_172 (dk_at dksX11_number_3 22 rfl rfl)
abbrev cX11_other : ByteArray := prog_12_method_9_code
def yX11_other : MethodName := ⟨RX11, "other", "(I)I"⟩
def dkwX11_other_2 : List UInt8 := [172]
abbrev dktX11_other_2 : List UInt8 := dkwX11_other_2 ++ []
def dkwX11_other_1 : List UInt8 := [180, 0, 83, 4, 100, 182, 0, 88, 62, 29, 27, 160, 0, 12, 187, 0, 40, 89, 28, 183, 0, 42, 191, 29]
abbrev dktX11_other_1 : List UInt8 := dkwX11_other_1 ++ dktX11_other_2
def dkwX11_other_0 : List UInt8 := [42, 18, 78, 182, 0, 80, 153, 0, 5, 2, 172, 42, 180, 0, 30, 61, 42, 3, 42, 180, 0, 19]
abbrev dktX11_other_0 : List UInt8 := dkwX11_other_0 ++ dktX11_other_1
theorem dksX11_other_0 : cX11_other.data.toList.drop 0 = dktX11_other_0 := by decide +kernel
theorem dksX11_other_1 : cX11_other.data.toList.drop 22 = dktX11_other_1 := dk_seg dksX11_other_0 22 rfl rfl
theorem dksX11_other_2 : cX11_other.data.toList.drop 46 = dktX11_other_2 := dk_seg dksX11_other_1 24 rfl rfl
theorem dX11_other_0 : decode cX11_other 0 = .ok (.aload_n 0, 1) := dk_42 (dk_at dksX11_other_0 0 rfl rfl)
theorem dX11_other_1 : decode cX11_other 1 = .ok (.ldc 78, 2) := dk_18 78 (dk_at dksX11_other_0 1 rfl rfl)
theorem dX11_other_3 : decode cX11_other 3 = .ok (.invokevirtual 80, 3) := dk_182 0 80 (dk_at dksX11_other_0 3 rfl rfl)
theorem dX11_other_6 : decode cX11_other 6 = .ok (.ifCond .eq 5, 3) := dk_153 0 5 (dk_at dksX11_other_0 6 rfl rfl)
theorem dX11_other_9 : decode cX11_other 9 = .ok (.iconst (-1), 1) := dk_2 (dk_at dksX11_other_0 9 rfl rfl)
theorem dX11_other_10 : decode cX11_other 10 = .ok (.ireturn, 1) := dk_172 (dk_at dksX11_other_0 10 rfl rfl)
theorem dX11_other_11 : decode cX11_other 11 = .ok (.aload_n 0, 1) := dk_42 (dk_at dksX11_other_0 11 rfl rfl)
theorem dX11_other_12 : decode cX11_other 12 = .ok (.getfield 30, 3) := dk_180 0 30 (dk_at dksX11_other_0 12 rfl rfl)
theorem dX11_other_15 : decode cX11_other 15 = .ok (.istore_n 2, 1) := dk_61 (dk_at dksX11_other_0 15 rfl rfl)
theorem dX11_other_16 : decode cX11_other 16 = .ok (.aload_n 0, 1) := dk_42 (dk_at dksX11_other_0 16 rfl rfl)
theorem dX11_other_17 : decode cX11_other 17 = .ok (.iconst 0, 1) := dk_3 (dk_at dksX11_other_0 17 rfl rfl)
theorem dX11_other_18 : decode cX11_other 18 = .ok (.aload_n 0, 1) := dk_42 (dk_at dksX11_other_0 18 rfl rfl)
theorem dX11_other_19 : decode cX11_other 19 = .ok (.getfield 19, 3) := dk_180 0 19 (dk_at dksX11_other_0 19 rfl rfl)
theorem dX11_other_22 : decode cX11_other 22 = .ok (.getfield 83, 3) := dk_180 0 83 (dk_at dksX11_other_1 0 rfl rfl)
theorem dX11_other_25 : decode cX11_other 25 = .ok (.iconst 1, 1) := dk_4 (dk_at dksX11_other_1 3 rfl rfl)
theorem dX11_other_26 : decode cX11_other 26 = .ok (.isub, 1) := dk_100 (dk_at dksX11_other_1 4 rfl rfl)
theorem dX11_other_27 : decode cX11_other 27 = .ok (.invokevirtual 88, 3) := dk_182 0 88 (dk_at dksX11_other_1 5 rfl rfl)
theorem dX11_other_30 : decode cX11_other 30 = .ok (.istore_n 3, 1) := dk_62 (dk_at dksX11_other_1 8 rfl rfl)
theorem dX11_other_31 : decode cX11_other 31 = .ok (.iload_n 3, 1) := dk_29 (dk_at dksX11_other_1 9 rfl rfl)
theorem dX11_other_32 : decode cX11_other 32 = .ok (.iload_n 1, 1) := dk_27 (dk_at dksX11_other_1 10 rfl rfl)
theorem dX11_other_33 : decode cX11_other 33 = .ok (.if_icmp .ne 12, 3) := dk_160 0 12 (dk_at dksX11_other_1 11 rfl rfl)
theorem dX11_other_36 : decode cX11_other 36 = .ok (.new 40, 3) := dk_187 0 40 (dk_at dksX11_other_1 14 rfl rfl)
theorem dX11_other_39 : decode cX11_other 39 = .ok (.dup, 1) := dk_89 (dk_at dksX11_other_1 17 rfl rfl)
theorem dX11_other_40 : decode cX11_other 40 = .ok (.iload_n 2, 1) := dk_28 (dk_at dksX11_other_1 18 rfl rfl)
theorem dX11_other_41 : decode cX11_other 41 = .ok (.invokespecial 42, 3) := dk_183 0 42 (dk_at dksX11_other_1 19 rfl rfl)
theorem dX11_other_44 : decode cX11_other 44 = .ok (.athrow, 1) := dk_191 (dk_at dksX11_other_1 22 rfl rfl)
theorem dX11_other_45 : decode cX11_other 45 = .ok (.iload_n 3, 1) := dk_29 (dk_at dksX11_other_1 23 rfl rfl)
theorem dX11_other_46 : decode cX11_other 46 = .ok (.ireturn, 1) := dk_172 (dk_at dksX11_other_2 0 rfl rfl)
abbrev cX11_takes : ByteArray := prog_12_method_6_code
def yX11_takes : MethodName := ⟨RX11, "takes", "(Ljava/lang/String;)Z"⟩
def dkwX11_takes_0 : List UInt8 := [42, 43, 182, 0, 55, 61, 28, 153, 0, 7, 42, 182, 0, 59, 28, 172]
abbrev dktX11_takes_0 : List UInt8 := dkwX11_takes_0 ++ []
theorem dksX11_takes_0 : cX11_takes.data.toList.drop 0 = dktX11_takes_0 := by decide +kernel
theorem dX11_takes_0 : decode cX11_takes 0 = .ok (.aload_n 0, 1) := dk_42 (dk_at dksX11_takes_0 0 rfl rfl)
theorem dX11_takes_1 : decode cX11_takes 1 = .ok (.aload_n 1, 1) := dk_43 (dk_at dksX11_takes_0 1 rfl rfl)
theorem dX11_takes_2 : decode cX11_takes 2 = .ok (.invokevirtual 55, 3) := dk_182 0 55 (dk_at dksX11_takes_0 2 rfl rfl)
theorem dX11_takes_5 : decode cX11_takes 5 = .ok (.istore_n 2, 1) := dk_61 (dk_at dksX11_takes_0 5 rfl rfl)
theorem dX11_takes_6 : decode cX11_takes 6 = .ok (.iload_n 2, 1) := dk_28 (dk_at dksX11_takes_0 6 rfl rfl)
theorem dX11_takes_7 : decode cX11_takes 7 = .ok (.ifCond .eq 7, 3) := dk_153 0 7 (dk_at dksX11_takes_0 7 rfl rfl)
theorem dX11_takes_10 : decode cX11_takes 10 = .ok (.aload_n 0, 1) := dk_42 (dk_at dksX11_takes_0 10 rfl rfl)
theorem dX11_takes_11 : decode cX11_takes 11 = .ok (.invokevirtual 59, 3) := dk_182 0 59 (dk_at dksX11_takes_0 11 rfl rfl)
theorem dX11_takes_14 : decode cX11_takes 14 = .ok (.iload_n 2, 1) := dk_28 (dk_at dksX11_takes_0 14 rfl rfl)
theorem dX11_takes_15 : decode cX11_takes 15 = .ok (.ireturn, 1) := dk_172 (dk_at dksX11_takes_0 15 rfl rfl)
theorem q81 : (Jvm.Cond.initialized "SmokeLeans$Reader") ∈ lw_all := lw_g (lw_at lw_m1 15 rfl) rfl
theorem q114 : (Jvm.Cond.fieldLink "SmokeLeans$Reader" (112 : Nat) "SmokeLeans$Slot" "held" "Ljava/lang/Object;") ∈ lw_all := lw_g (lw_at lw_m1 48 rfl) rfl
theorem q120 : (Jvm.Cond.fieldLink "SmokeLeans$Reader" (83 : Nat) "SmokeLeans$House" "rooms" "I") ∈ lw_all := lw_g (lw_at lw_m1 54 rfl) rfl
theorem q123 : (Jvm.Cond.fieldLink "SmokeLeans$Reader" (92 : Nat) "SmokeLeans$House" "gaps" "I") ∈ lw_all := lw_g (lw_at lw_m1 57 rfl) rfl
theorem q126 : (Jvm.Cond.fieldLink "SmokeLeans$Reader" (105 : Nat) "SmokeLeans$House" "gap" "[LSmokeLeans$Slot;") ∈ lw_all := lw_g (lw_at lw_m1 60 rfl) rfl
theorem q129 : (Jvm.Cond.fieldLink "SmokeLeans$Reader" (131 : Nat) "SmokeLeans$House" "night" "[I") ∈ lw_all := lw_g (lw_at lw_m1 63 rfl) rfl
theorem q577 : (Jvm.Cond.instantiable "SmokeLeans$Reader" (6 : Nat)) ∈ lw_all := lw_g (lw_at lw_m3 31 rfl) rfl
theorem q579 : (Jvm.Cond.instanceMethod ({ cls := "SmokeLeans$Reader", name := "<init>", desc := "([BILSmokeLeans$House;)V" } : Jvm.MethodName)) ∈ lw_all := lw_g (lw_at lw_m3 33 rfl) rfl
theorem q580 : (Jvm.Cond.code ({ cls := "SmokeLeans$Reader", name := "<init>", desc := "([BILSmokeLeans$House;)V" } : Jvm.MethodName) prog_12_method_1_code (4 : Nat) (Option.none : Option Jvm.ClassFile.FieldType)) ∈ lw_all := lw_g (lw_at lw_m3 34 rfl) rfl
theorem q581 : (Jvm.Cond.methodLink "SmokeLeans$Reader" (3 : Nat) ({ cls := "java/lang/Object", name := "<init>", desc := "()V" } : Jvm.MethodName)) ∈ lw_all := lw_g (lw_at lw_m3 35 rfl) rfl
theorem q582 : (Jvm.Cond.fieldLink "SmokeLeans$Reader" (9 : Nat) "SmokeLeans$Reader" "tape" "[B") ∈ lw_all := lw_g (lw_at lw_m3 36 rfl) rfl
theorem q583 : (Jvm.Cond.fieldLink "SmokeLeans$Reader" (15 : Nat) "SmokeLeans$Reader" "size" "I") ∈ lw_all := lw_g (lw_at lw_m3 37 rfl) rfl
theorem q584 : (Jvm.Cond.fieldLink "SmokeLeans$Reader" (19 : Nat) "SmokeLeans$Reader" "house" "LSmokeLeans$House;") ∈ lw_all := lw_g (lw_at lw_m3 38 rfl) rfl
theorem q585 : (Jvm.Cond.fieldLink "SmokeLeans$Reader" (37 : Nat) "SmokeLeans$Reader" "sort" "I") ∈ lw_all := lw_g (lw_at lw_m3 39 rfl) rfl
theorem q586 : (Jvm.Cond.fieldLink "SmokeLeans$Reader" (30 : Nat) "SmokeLeans$Reader" "from" "I") ∈ lw_all := lw_g (lw_at lw_m3 40 rfl) rfl
theorem q587 : (Jvm.Cond.fieldLink "SmokeLeans$Reader" (27 : Nat) "SmokeLeans$Reader" "to" "I") ∈ lw_all := lw_g (lw_at lw_m3 41 rfl) rfl
theorem q588 : (Jvm.Cond.laysFinal "SmokeLeans$Reader" "SmokeLeans$Reader" "tape" "[B") ∈ lw_all := lw_g (lw_at lw_m3 42 rfl) rfl
theorem q589 : (Jvm.Cond.soleField "SmokeLeans$Reader" "tape") ∈ lw_all := lw_g (lw_at lw_m3 43 rfl) rfl
theorem q590 : (Jvm.Cond.laysFinal "SmokeLeans$Reader" "SmokeLeans$Reader" "size" "I") ∈ lw_all := lw_g (lw_at lw_m3 44 rfl) rfl
theorem q591 : (Jvm.Cond.soleField "SmokeLeans$Reader" "size") ∈ lw_all := lw_g (lw_at lw_m3 45 rfl) rfl
theorem q592 : (Jvm.Cond.laysFinal "SmokeLeans$Reader" "SmokeLeans$Reader" "house" "LSmokeLeans$House;") ∈ lw_all := lw_g (lw_at lw_m3 46 rfl) rfl
theorem q593 : (Jvm.Cond.soleField "SmokeLeans$Reader" "house") ∈ lw_all := lw_g (lw_at lw_m3 47 rfl) rfl
theorem q594 : (Jvm.Cond.lays "SmokeLeans$Reader" "SmokeLeans$Reader" "sort" "I") ∈ lw_all := lw_g (lw_at lw_m3 48 rfl) rfl
theorem q595 : (Jvm.Cond.soleField "SmokeLeans$Reader" "sort") ∈ lw_all := lw_g (lw_at lw_m3 49 rfl) rfl
theorem q596 : (Jvm.Cond.lays "SmokeLeans$Reader" "SmokeLeans$Reader" "from" "I") ∈ lw_all := lw_g (lw_at lw_m3 50 rfl) rfl
theorem q597 : (Jvm.Cond.soleField "SmokeLeans$Reader" "from") ∈ lw_all := lw_g (lw_at lw_m3 51 rfl) rfl
theorem q598 : (Jvm.Cond.lays "SmokeLeans$Reader" "SmokeLeans$Reader" "to" "I") ∈ lw_all := lw_g (lw_at lw_m3 52 rfl) rfl
theorem q599 : (Jvm.Cond.soleField "SmokeLeans$Reader" "to") ∈ lw_all := lw_g (lw_at lw_m3 53 rfl) rfl
theorem q600 : (Jvm.Cond.superclass "SmokeLeans$Reader" "java/lang/Object") ∈ lw_all := lw_g (lw_at lw_m3 54 rfl) rfl
theorem q602 : (Jvm.Cond.instanceMethod ({ cls := "SmokeLeans$Reader", name := "read", desc := "()I" } : Jvm.MethodName)) ∈ lw_all := lw_g (lw_at lw_m3 56 rfl) rfl
theorem q603 : (Jvm.Cond.selects "SmokeLeans$Reader" ({ cls := "SmokeLeans$Reader", name := "read", desc := "()I" } : Jvm.MethodName) ({ cls := "SmokeLeans$Reader", name := "read", desc := "()I" } : Jvm.MethodName)) ∈ lw_all := lw_g (lw_at lw_m3 57 rfl) rfl
theorem q604 : (Jvm.Cond.code ({ cls := "SmokeLeans$Reader", name := "read", desc := "()I" } : Jvm.MethodName) prog_12_method_12_code (2 : Nat) (Option.some Jvm.ClassFile.FieldType.int)) ∈ lw_all := lw_g (lw_at lw_m3 58 rfl) rfl
theorem q605 : (Jvm.Cond.methodLink "SmokeLeans$Reader" (59 : Nat) ({ cls := "SmokeLeans$Reader", name := "next", desc := "()V" } : Jvm.MethodName)) ∈ lw_all := lw_g (lw_at lw_m3 59 rfl) rfl
theorem q606 : (Jvm.Cond.privateMethod ({ cls := "SmokeLeans$Reader", name := "next", desc := "()V" } : Jvm.MethodName)) ∈ lw_tbl := lw_at lw_m3 60 rfl
theorem q607 : (Jvm.Cond.instanceMethod ({ cls := "SmokeLeans$Reader", name := "next", desc := "()V" } : Jvm.MethodName)) ∈ lw_all := lw_g (lw_at lw_m3 61 rfl) rfl
theorem q608 : (Jvm.Cond.code ({ cls := "SmokeLeans$Reader", name := "next", desc := "()V" } : Jvm.MethodName) prog_12_method_3_code (3 : Nat) (Option.none : Option Jvm.ClassFile.FieldType)) ∈ lw_all := lw_g (lw_at lw_m3 62 rfl) rfl
theorem q609 : (Jvm.Cond.methodLink "SmokeLeans$Reader" (33 : Nat) ({ cls := "SmokeLeans$Reader", name := "isAt", desc := "(III)Z" } : Jvm.MethodName)) ∈ lw_all := lw_g (lw_at lw_m3 63 rfl) rfl
theorem q610 : (Jvm.Cond.privateMethod ({ cls := "SmokeLeans$Reader", name := "isAt", desc := "(III)Z" } : Jvm.MethodName)) ∈ lw_tbl := lw_at lw_m3 64 rfl
theorem q611 : (Jvm.Cond.instanceMethod ({ cls := "SmokeLeans$Reader", name := "isAt", desc := "(III)Z" } : Jvm.MethodName)) ∈ lw_all := lw_g (lw_at lw_m3 65 rfl) rfl
theorem q612 : (Jvm.Cond.code ({ cls := "SmokeLeans$Reader", name := "isAt", desc := "(III)Z" } : Jvm.MethodName) prog_12_method_2_code (4 : Nat) (Option.some Jvm.ClassFile.FieldType.boolean)) ∈ lw_all := lw_g (lw_at lw_m3 66 rfl) rfl
theorem q613 : (Jvm.Cond.methodLinkNest "SmokeLeans$Reader" (23 : Nat) ({ cls := "SmokeLeans", name := "in", desc := "(JJJ)Z" } : Jvm.MethodName) "SmokeLeans") ∈ lw_tbl := lw_at lw_m3 67 rfl
theorem q614 : (Jvm.Cond.methodLink "SmokeLeans$Reader" (135 : Nat) ({ cls := "SmokeLeans$Reader", name := "item", desc := "()V" } : Jvm.MethodName)) ∈ lw_all := lw_g (lw_at lw_m3 68 rfl) rfl
theorem q615 : (Jvm.Cond.privateMethod ({ cls := "SmokeLeans$Reader", name := "item", desc := "()V" } : Jvm.MethodName)) ∈ lw_tbl := lw_at lw_m3 69 rfl
theorem q616 : (Jvm.Cond.instanceMethod ({ cls := "SmokeLeans$Reader", name := "item", desc := "()V" } : Jvm.MethodName)) ∈ lw_all := lw_g (lw_at lw_m3 70 rfl) rfl
theorem q617 : (Jvm.Cond.code ({ cls := "SmokeLeans$Reader", name := "item", desc := "()V" } : Jvm.MethodName) prog_12_method_11_code (3 : Nat) (Option.none : Option Jvm.ClassFile.FieldType)) ∈ lw_all := lw_g (lw_at lw_m3 71 rfl) rfl
theorem q618 : (Jvm.Cond.methodLink "SmokeLeans$Reader" (118 : Nat) ({ cls := "SmokeLeans$Reader", name := "kindHere", desc := "()I" } : Jvm.MethodName)) ∈ lw_all := lw_g (lw_at lw_m3 72 rfl) rfl
theorem q619 : (Jvm.Cond.privateMethod ({ cls := "SmokeLeans$Reader", name := "kindHere", desc := "()I" } : Jvm.MethodName)) ∈ lw_tbl := lw_at lw_m3 73 rfl
theorem q620 : (Jvm.Cond.instanceMethod ({ cls := "SmokeLeans$Reader", name := "kindHere", desc := "()I" } : Jvm.MethodName)) ∈ lw_all := lw_g (lw_at lw_m3 74 rfl) rfl
theorem q621 : (Jvm.Cond.code ({ cls := "SmokeLeans$Reader", name := "kindHere", desc := "()I" } : Jvm.MethodName) prog_12_method_8_code (2 : Nat) (Option.some Jvm.ClassFile.FieldType.int)) ∈ lw_all := lw_g (lw_at lw_m3 75 rfl) rfl
theorem q622 : (Jvm.Cond.stringRef "SmokeLeans$Reader" (66 : Nat) "gap") ∈ lw_tbl := lw_at lw_m3 76 rfl
theorem q623 : (Jvm.Cond.methodLink "SmokeLeans$Reader" (55 : Nat) ({ cls := "SmokeLeans$Reader", name := "isWord", desc := "(Ljava/lang/String;)Z" } : Jvm.MethodName)) ∈ lw_all := lw_g (lw_at lw_m3 77 rfl) rfl
theorem q624 : (Jvm.Cond.privateMethod ({ cls := "SmokeLeans$Reader", name := "isWord", desc := "(Ljava/lang/String;)Z" } : Jvm.MethodName)) ∈ lw_tbl := lw_at lw_m3 78 rfl
theorem q625 : (Jvm.Cond.instanceMethod ({ cls := "SmokeLeans$Reader", name := "isWord", desc := "(Ljava/lang/String;)Z" } : Jvm.MethodName)) ∈ lw_all := lw_g (lw_at lw_m3 79 rfl) rfl
theorem q626 : (Jvm.Cond.code ({ cls := "SmokeLeans$Reader", name := "isWord", desc := "(Ljava/lang/String;)Z" } : Jvm.MethodName) prog_12_method_5_code (4 : Nat) (Option.some Jvm.ClassFile.FieldType.boolean)) ∈ lw_all := lw_g (lw_at lw_m3 80 rfl) rfl
theorem q627 : (Jvm.Cond.methodLink "SmokeLeans$Reader" (45 : Nat) ({ cls := "java/lang/String", name := "length", desc := "()I" } : Jvm.MethodName)) ∈ lw_all := lw_g (lw_at lw_m3 81 rfl) rfl
theorem q637 : (Jvm.Cond.methodLink "SmokeLeans$Reader" (51 : Nat) ({ cls := "java/lang/String", name := "charAt", desc := "(I)C" } : Jvm.MethodName)) ∈ lw_all := lw_g (lw_at lw_m3 91 rfl) rfl
theorem q675 : (Jvm.Cond.stringRef "SmokeLeans$Reader" (68 : Nat) "hidden") ∈ lw_tbl := lw_at lw_m3 129 rfl
theorem q676 : (Jvm.Cond.stringRef "SmokeLeans$Reader" (70 : Nat) "needed") ∈ lw_tbl := lw_at lw_m3 130 rfl
theorem q677 : (Jvm.Cond.stringRef "SmokeLeans$Reader" (72 : Nat) "known") ∈ lw_tbl := lw_at lw_m3 131 rfl
theorem q678 : (Jvm.Cond.stringRef "SmokeLeans$Reader" (74 : Nat) "turning") ∈ lw_tbl := lw_at lw_m3 132 rfl
theorem q679 : (Jvm.Cond.stringRef "SmokeLeans$Reader" (76 : Nat) "chimney") ∈ lw_tbl := lw_at lw_m3 133 rfl
theorem q680 : (Jvm.Cond.methodLink "SmokeLeans$Reader" (121 : Nat) ({ cls := "SmokeLeans$Reader", name := "gap", desc := "(I)V" } : Jvm.MethodName)) ∈ lw_all := lw_g (lw_at lw_m3 134 rfl) rfl
theorem q681 : (Jvm.Cond.privateMethod ({ cls := "SmokeLeans$Reader", name := "gap", desc := "(I)V" } : Jvm.MethodName)) ∈ lw_tbl := lw_at lw_m3 135 rfl
theorem q682 : (Jvm.Cond.instanceMethod ({ cls := "SmokeLeans$Reader", name := "gap", desc := "(I)V" } : Jvm.MethodName)) ∈ lw_all := lw_g (lw_at lw_m3 136 rfl) rfl
theorem q683 : (Jvm.Cond.code ({ cls := "SmokeLeans$Reader", name := "gap", desc := "(I)V" } : Jvm.MethodName) prog_12_method_10_code (8 : Nat) (Option.none : Option Jvm.ClassFile.FieldType)) ∈ lw_all := lw_g (lw_at lw_m3 137 rfl) rfl
theorem q684 : (Jvm.Cond.methodLink "SmokeLeans$Reader" (62 : Nat) ({ cls := "SmokeLeans$Reader", name := "must", desc := "(Z)V" } : Jvm.MethodName)) ∈ lw_all := lw_g (lw_at lw_m3 138 rfl) rfl
theorem q685 : (Jvm.Cond.privateMethod ({ cls := "SmokeLeans$Reader", name := "must", desc := "(Z)V" } : Jvm.MethodName)) ∈ lw_tbl := lw_at lw_m3 139 rfl
theorem q686 : (Jvm.Cond.instanceMethod ({ cls := "SmokeLeans$Reader", name := "must", desc := "(Z)V" } : Jvm.MethodName)) ∈ lw_all := lw_g (lw_at lw_m3 140 rfl) rfl
theorem q687 : (Jvm.Cond.code ({ cls := "SmokeLeans$Reader", name := "must", desc := "(Z)V" } : Jvm.MethodName) prog_12_method_4_code (2 : Nat) (Option.none : Option Jvm.ClassFile.FieldType)) ∈ lw_all := lw_g (lw_at lw_m3 141 rfl) rfl
theorem q688 : (Jvm.Cond.classLink "SmokeLeans$Reader" (40 : Nat) "SmokeLeans$Fault") ∈ lw_all := lw_g (lw_at lw_m3 142 rfl) rfl
theorem q697 : (Jvm.Cond.methodLink "SmokeLeans$Reader" (42 : Nat) ({ cls := "SmokeLeans$Fault", name := "<init>", desc := "(I)V" } : Jvm.MethodName)) ∈ lw_all := lw_g (lw_at lw_m3 151 rfl) rfl
theorem q707 : (Jvm.Cond.methodLink "SmokeLeans$Reader" (88 : Nat) ({ cls := "SmokeLeans$Reader", name := "number", desc := "(II)I" } : Jvm.MethodName)) ∈ lw_all := lw_g (lw_at lw_m3 161 rfl) rfl
theorem q708 : (Jvm.Cond.privateMethod ({ cls := "SmokeLeans$Reader", name := "number", desc := "(II)I" } : Jvm.MethodName)) ∈ lw_tbl := lw_at lw_m3 162 rfl
theorem q709 : (Jvm.Cond.instanceMethod ({ cls := "SmokeLeans$Reader", name := "number", desc := "(II)I" } : Jvm.MethodName)) ∈ lw_all := lw_g (lw_at lw_m3 163 rfl) rfl
theorem q710 : (Jvm.Cond.code ({ cls := "SmokeLeans$Reader", name := "number", desc := "(II)I" } : Jvm.MethodName) prog_12_method_7_code (5 : Nat) (Option.some Jvm.ClassFile.FieldType.int)) ∈ lw_all := lw_g (lw_at lw_m3 164 rfl) rfl
theorem q711 : (Jvm.Cond.methodLink "SmokeLeans$Reader" (95 : Nat) ({ cls := "SmokeLeans$Reader", name := "other", desc := "(I)I" } : Jvm.MethodName)) ∈ lw_all := lw_g (lw_at lw_m3 165 rfl) rfl
theorem q712 : (Jvm.Cond.privateMethod ({ cls := "SmokeLeans$Reader", name := "other", desc := "(I)I" } : Jvm.MethodName)) ∈ lw_tbl := lw_at lw_m3 166 rfl
theorem q713 : (Jvm.Cond.instanceMethod ({ cls := "SmokeLeans$Reader", name := "other", desc := "(I)I" } : Jvm.MethodName)) ∈ lw_all := lw_g (lw_at lw_m3 167 rfl) rfl
theorem q714 : (Jvm.Cond.code ({ cls := "SmokeLeans$Reader", name := "other", desc := "(I)I" } : Jvm.MethodName) prog_12_method_9_code (4 : Nat) (Option.some Jvm.ClassFile.FieldType.int)) ∈ lw_all := lw_g (lw_at lw_m3 168 rfl) rfl
theorem q715 : (Jvm.Cond.stringRef "SmokeLeans$Reader" (78 : Nat) "out") ∈ lw_tbl := lw_at lw_m3 169 rfl
theorem q716 : (Jvm.Cond.methodLink "SmokeLeans$Reader" (80 : Nat) ({ cls := "SmokeLeans$Reader", name := "takes", desc := "(Ljava/lang/String;)Z" } : Jvm.MethodName)) ∈ lw_all := lw_g (lw_at lw_m3 170 rfl) rfl
theorem q717 : (Jvm.Cond.privateMethod ({ cls := "SmokeLeans$Reader", name := "takes", desc := "(Ljava/lang/String;)Z" } : Jvm.MethodName)) ∈ lw_tbl := lw_at lw_m3 171 rfl
theorem q718 : (Jvm.Cond.instanceMethod ({ cls := "SmokeLeans$Reader", name := "takes", desc := "(Ljava/lang/String;)Z" } : Jvm.MethodName)) ∈ lw_all := lw_g (lw_at lw_m3 172 rfl) rfl
theorem q719 : (Jvm.Cond.code ({ cls := "SmokeLeans$Reader", name := "takes", desc := "(Ljava/lang/String;)Z" } : Jvm.MethodName) prog_12_method_6_code (3 : Nat) (Option.some Jvm.ClassFile.FieldType.boolean)) ∈ lw_all := lw_g (lw_at lw_m3 173 rfl) rfl
theorem q720 : (Jvm.Cond.stringRef "SmokeLeans$Reader" (99 : Nat) "high") ∈ lw_tbl := lw_at lw_m3 174 rfl
theorem q721 : (Jvm.Cond.stringRef "SmokeLeans$Reader" (101 : Nat) "side") ∈ lw_tbl := lw_at lw_m3 175 rfl
theorem q722 : (Jvm.Cond.stringRef "SmokeLeans$Reader" (103 : Nat) "cost") ∈ lw_tbl := lw_at lw_m3 176 rfl
theorem q723 : (Jvm.Cond.methodLinkNest "SmokeLeans$Reader" (108 : Nat) ({ cls := "SmokeLeans", name := "gapOf", desc := "(IIIIIII)LSmokeLeans$Gap;" } : Jvm.MethodName) "SmokeLeans") ∈ lw_tbl := lw_at lw_m3 177 rfl
theorem q724 : (Jvm.Cond.stringRef "SmokeLeans$Reader" (123 : Nat) "room") ∈ lw_tbl := lw_at lw_m3 178 rfl
theorem q725 : (Jvm.Cond.stringRef "SmokeLeans$Reader" (125 : Nat) "cold") ∈ lw_tbl := lw_at lw_m3 179 rfl
theorem q726 : (Jvm.Cond.stringRef "SmokeLeans$Reader" (127 : Nat) "wind") ∈ lw_tbl := lw_at lw_m3 180 rfl
theorem q727 : (Jvm.Cond.stringRef "SmokeLeans$Reader" (129 : Nat) "thumb") ∈ lw_tbl := lw_at lw_m3 181 rfl
theorem in_X11 : ∀ w ∈ wsX110, w ∈ lw_all := lw_in wsX110 [588, 590, 592, 594, 596, 598] (by decide +kernel) (by decide +kernel)
