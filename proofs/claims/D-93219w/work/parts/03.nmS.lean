/-! SmokeLeans$Slot -/
set_option maxRecDepth 100000
def RX2 : String := "SmokeLeans$Slot"
def TX2 : u_T := fun k => match k with
  | _ => ("SmokeLeans$Slot", "held", "Ljava/lang/Object;", false)
def tyX2 : Nat → FieldType := fun k => match k with
  | _ => .object "java/lang/Object"
abbrev wsX20 : List Cond := u_ws RX2 TX2 1
theorem nmX2 : ∀ a, a < 1 → ∀ b, b < 1 → a ≠ b → (TX2 a).2.1 ≠ (TX2 b).2.1 := by decide +kernel
theorem tyX2_ok : ∀ k, k < 1 → parseFieldDescriptor (TX2 k).2.2.1 = some (tyX2 k) := by decide +kernel
abbrev cX2_init : ByteArray := prog_13_method_1_code
def yX2_init : MethodName := ⟨RX2, "<init>", "()V"⟩
theorem dX2_init_0 : decode cX2_init 0 = .ok (.aload_n 0, 1) := by decide +kernel
theorem dX2_init_1 : decode cX2_init 1 = .ok (.invokespecial 1, 3) := by decide +kernel
theorem dX2_init_4 : decode cX2_init 4 = .ok (.return_, 1) := by decide +kernel
theorem q69 : (Jvm.Cond.initialized "SmokeLeans$Slot") ∈ lw_all := lw_g (lw_at lw_m1 3 rfl) rfl
theorem q108 : (Jvm.Cond.instantiable "SmokeLeans$Slot" (1 : Nat)) ∈ lw_all := lw_g (lw_at lw_m1 42 rfl) rfl
theorem q110 : (Jvm.Cond.instanceMethod ({ cls := "SmokeLeans$Slot", name := "<init>", desc := "()V" } : Jvm.MethodName)) ∈ lw_all := lw_g (lw_at lw_m1 44 rfl) rfl
theorem q111 : (Jvm.Cond.code ({ cls := "SmokeLeans$Slot", name := "<init>", desc := "()V" } : Jvm.MethodName) prog_13_method_1_code (1 : Nat) (Option.none : Option Jvm.ClassFile.FieldType)) ∈ lw_all := lw_g (lw_at lw_m1 45 rfl) rfl
theorem q112 : (Jvm.Cond.methodLink "SmokeLeans$Slot" (1 : Nat) ({ cls := "java/lang/Object", name := "<init>", desc := "()V" } : Jvm.MethodName)) ∈ lw_all := lw_g (lw_at lw_m1 46 rfl) rfl
theorem q116 : (Jvm.Cond.lays "SmokeLeans$Slot" "SmokeLeans$Slot" "held" "Ljava/lang/Object;") ∈ lw_all := lw_g (lw_at lw_m1 50 rfl) rfl
theorem q117 : (Jvm.Cond.soleField "SmokeLeans$Slot" "held") ∈ lw_all := lw_g (lw_at lw_m1 51 rfl) rfl
theorem q118 : (Jvm.Cond.superclass "SmokeLeans$Slot" "java/lang/Object") ∈ lw_all := lw_g (lw_at lw_m1 52 rfl) rfl
theorem in_X2 : ∀ w ∈ wsX20, w ∈ lw_all := lw_in wsX20 [116] (by decide +kernel) (by decide +kernel)

/-! SmokeLeans$Finding -/
set_option maxRecDepth 100000
def RX4 : String := "SmokeLeans$Finding"
def TX4 : u_T := fun k => match k with
  | 0 => ("java/lang/Throwable", "cause", "Ljava/lang/Throwable;", false)
  | 1 => ("java/lang/Throwable", "stackTrace", "[Ljava/lang/StackTraceElement;", false)
  | 2 => ("java/lang/Throwable", "suppressedExceptions", "Ljava/util/List;", false)
  | 3 => ("java/lang/Throwable", "detailMessage", "Ljava/lang/String;", false)
  | 4 => ("java/lang/Throwable", "backtrace", "Ljava/lang/Object;", false)
  | 5 => ("java/lang/Throwable", "depth", "I", false)
  | _ => ("SmokeLeans$Finding", "which", "I", true)
def tyX4 : Nat → FieldType := fun k => match k with
  | 0 => .object "java/lang/Throwable"
  | 1 => .array (.object "java/lang/StackTraceElement")
  | 2 => .object "java/util/List"
  | 3 => .object "java/lang/String"
  | 4 => .object "java/lang/Object"
  | 5 => .int
  | _ => .int
abbrev wsX40 : List Cond := u_ws RX4 TX4 7
theorem nmX4 : ∀ a, a < 7 → ∀ b, b < 7 → a ≠ b → (TX4 a).2.1 ≠ (TX4 b).2.1 := by decide +kernel
theorem tyX4_ok : ∀ k, k < 7 → parseFieldDescriptor (TX4 k).2.2.1 = some (tyX4 k) := by decide +kernel
abbrev cX4_init : ByteArray := prog_5_method_1_code
def yX4_init : MethodName := ⟨RX4, "<init>", "(I)V"⟩
def dkwX4_init_0 : List UInt8 := [42, 1, 1, 3, 3, 183, 0, 1, 42, 27, 181, 0, 7, 177]
abbrev dktX4_init_0 : List UInt8 := dkwX4_init_0 ++ []
theorem dksX4_init_0 : cX4_init.data.toList.drop 0 = dktX4_init_0 := by decide +kernel
theorem dX4_init_0 : decode cX4_init 0 = .ok (.aload_n 0, 1) := dk_42 (dk_at dksX4_init_0 0 rfl rfl)
theorem dX4_init_1 : decode cX4_init 1 = .ok (.aconst_null, 1) := dk_1 (dk_at dksX4_init_0 1 rfl rfl)
theorem dX4_init_2 : decode cX4_init 2 = .ok (.aconst_null, 1) := dk_1 (dk_at dksX4_init_0 2 rfl rfl)
theorem dX4_init_3 : decode cX4_init 3 = .ok (.iconst 0, 1) := dk_3 (dk_at dksX4_init_0 3 rfl rfl)
theorem dX4_init_4 : decode cX4_init 4 = .ok (.iconst 0, 1) := dk_3 (dk_at dksX4_init_0 4 rfl rfl)
theorem dX4_init_5 : decode cX4_init 5 = .ok (.invokespecial 1, 3) := dk_183 0 1 (dk_at dksX4_init_0 5 rfl rfl)
theorem dX4_init_8 : decode cX4_init 8 = .ok (.aload_n 0, 1) := dk_42 (dk_at dksX4_init_0 8 rfl rfl)
theorem dX4_init_9 : decode cX4_init 9 = .ok (.iload_n 1, 1) := dk_27 (dk_at dksX4_init_0 9 rfl rfl)
theorem dX4_init_10 : decode cX4_init 10 = .ok (.putfield 7, 3) := dk_181 0 7 (dk_at dksX4_init_0 10 rfl rfl)
theorem dX4_init_13 : decode cX4_init 13 = .ok (.return_, 1) := dk_177 (dk_at dksX4_init_0 13 rfl rfl)
abbrev cX4_answer : ByteArray := prog_5_method_2_code
def yX4_answer : MethodName := ⟨RX4, "answer", "()I"⟩
def dkwX4_answer_0 : List UInt8 := [18, 13, 42, 180, 0, 7, 100, 172]
abbrev dktX4_answer_0 : List UInt8 := dkwX4_answer_0 ++ []
theorem dksX4_answer_0 : cX4_answer.data.toList.drop 0 = dktX4_answer_0 := by decide +kernel
theorem dX4_answer_0 : decode cX4_answer 0 = .ok (.ldc 13, 2) := dk_18 13 (dk_at dksX4_answer_0 0 rfl rfl)
theorem dX4_answer_2 : decode cX4_answer 2 = .ok (.aload_n 0, 1) := dk_42 (dk_at dksX4_answer_0 2 rfl rfl)
theorem dX4_answer_3 : decode cX4_answer 3 = .ok (.getfield 7, 3) := dk_180 0 7 (dk_at dksX4_answer_0 3 rfl rfl)
theorem dX4_answer_6 : decode cX4_answer 6 = .ok (.isub, 1) := dk_100 (dk_at dksX4_answer_0 6 rfl rfl)
theorem dX4_answer_7 : decode cX4_answer 7 = .ok (.ireturn, 1) := dk_172 (dk_at dksX4_answer_0 7 rfl rfl)
theorem q73 : (Jvm.Cond.initialized "SmokeLeans$Finding") ∈ lw_all := lw_g (lw_at lw_m1 7 rfl) rfl
theorem q210 : (Jvm.Cond.instantiable "SmokeLeans$Finding" (7 : Nat)) ∈ lw_all := lw_g (lw_at lw_m1 144 rfl) rfl
theorem q211 : (Jvm.Cond.castable "SmokeLeans$Finding" "SmokeLeans$Finding") ∈ lw_tbl := lw_at lw_m1 145 rfl
theorem q216 : (Jvm.Cond.selects "SmokeLeans$Finding" ({ cls := "java/lang/Throwable", name := "fillInStackTrace", desc := "(I)Ljava/lang/Throwable;" } : Jvm.MethodName) ({ cls := "java/lang/Throwable", name := "fillInStackTrace", desc := "(I)Ljava/lang/Throwable;" } : Jvm.MethodName)) ∈ lw_all := lw_g (lw_at lw_m1 150 rfl) rfl
theorem q217 : (Jvm.Cond.selects "SmokeLeans$Finding" ({ cls := "java/lang/Throwable", name := "fillInStackTrace", desc := "()Ljava/lang/Throwable;" } : Jvm.MethodName) ({ cls := "java/lang/Throwable", name := "fillInStackTrace", desc := "()Ljava/lang/Throwable;" } : Jvm.MethodName)) ∈ lw_all := lw_g (lw_at lw_m1 151 rfl) rfl
theorem q218 : (Jvm.Cond.lays "SmokeLeans$Finding" "java/lang/Throwable" "cause" "Ljava/lang/Throwable;") ∈ lw_all := lw_g (lw_at lw_m1 152 rfl) rfl
theorem q220 : (Jvm.Cond.lays "SmokeLeans$Finding" "java/lang/Throwable" "stackTrace" "[Ljava/lang/StackTraceElement;") ∈ lw_all := lw_g (lw_at lw_m1 154 rfl) rfl
theorem q222 : (Jvm.Cond.lays "SmokeLeans$Finding" "java/lang/Throwable" "suppressedExceptions" "Ljava/util/List;") ∈ lw_all := lw_g (lw_at lw_m1 156 rfl) rfl
theorem q224 : (Jvm.Cond.lays "SmokeLeans$Finding" "java/lang/Throwable" "detailMessage" "Ljava/lang/String;") ∈ lw_all := lw_g (lw_at lw_m1 158 rfl) rfl
theorem q226 : (Jvm.Cond.lays "SmokeLeans$Finding" "java/lang/Throwable" "backtrace" "Ljava/lang/Object;") ∈ lw_all := lw_g (lw_at lw_m1 160 rfl) rfl
theorem q248 : (Jvm.Cond.instanceMethod ({ cls := "SmokeLeans$Finding", name := "<init>", desc := "(I)V" } : Jvm.MethodName)) ∈ lw_all := lw_g (lw_at lw_m1 182 rfl) rfl
theorem q249 : (Jvm.Cond.code ({ cls := "SmokeLeans$Finding", name := "<init>", desc := "(I)V" } : Jvm.MethodName) prog_5_method_1_code (2 : Nat) (Option.none : Option Jvm.ClassFile.FieldType)) ∈ lw_all := lw_g (lw_at lw_m1 183 rfl) rfl
theorem q250 : (Jvm.Cond.methodLink "SmokeLeans$Finding" (1 : Nat) ({ cls := "java/lang/Exception", name := "<init>", desc := "(Ljava/lang/String;Ljava/lang/Throwable;ZZ)V" } : Jvm.MethodName)) ∈ lw_all := lw_g (lw_at lw_m1 184 rfl) rfl
theorem q256 : (Jvm.Cond.fieldLink "SmokeLeans$Finding" (7 : Nat) "SmokeLeans$Finding" "which" "I") ∈ lw_all := lw_g (lw_at lw_m1 190 rfl) rfl
theorem q263 : (Jvm.Cond.laysFinal "SmokeLeans$Finding" "SmokeLeans$Finding" "which" "I") ∈ lw_all := lw_g (lw_at lw_m1 197 rfl) rfl
theorem q264 : (Jvm.Cond.soleField "SmokeLeans$Finding" "which") ∈ lw_all := lw_g (lw_at lw_m1 198 rfl) rfl
theorem q269 : (Jvm.Cond.lays "SmokeLeans$Finding" "java/lang/Throwable" "depth" "I") ∈ lw_all := lw_g (lw_at lw_m1 203 rfl) rfl
theorem q272 : (Jvm.Cond.superclass "SmokeLeans$Finding" "java/lang/Exception") ∈ lw_all := lw_g (lw_at lw_m1 206 rfl) rfl
theorem q282 : (Jvm.Cond.instanceMethod ({ cls := "SmokeLeans$Finding", name := "answer", desc := "()I" } : Jvm.MethodName)) ∈ lw_all := lw_g (lw_at lw_m1 216 rfl) rfl
theorem q283 : (Jvm.Cond.selects "SmokeLeans$Finding" ({ cls := "SmokeLeans$Finding", name := "answer", desc := "()I" } : Jvm.MethodName) ({ cls := "SmokeLeans$Finding", name := "answer", desc := "()I" } : Jvm.MethodName)) ∈ lw_all := lw_g (lw_at lw_m1 217 rfl) rfl
theorem q284 : (Jvm.Cond.code ({ cls := "SmokeLeans$Finding", name := "answer", desc := "()I" } : Jvm.MethodName) prog_5_method_2_code (1 : Nat) (Option.some Jvm.ClassFile.FieldType.int)) ∈ lw_all := lw_g (lw_at lw_m1 218 rfl) rfl
theorem q285 : (Jvm.Cond.constant "SmokeLeans$Finding" (13 : Nat) (-1000000001 : Int32)) ∈ lw_all := lw_g (lw_at lw_m1 219 rfl) rfl
theorem in_X4 : ∀ w ∈ wsX40, w ∈ lw_all := lw_in wsX40 [218, 220, 222, 224, 226, 269, 263] (by decide +kernel) (by decide +kernel)

/-! SmokeLeans$Gap -/
set_option maxRecDepth 100000
def RX5 : String := "SmokeLeans$Gap"
def TX5 : u_T := fun k => match k with
  | 0 => ("SmokeLeans$Gap", "room", "I", true)
  | 1 => ("SmokeLeans$Gap", "to", "I", true)
  | 2 => ("SmokeLeans$Gap", "width", "I", false)
  | 3 => ("SmokeLeans$Gap", "height", "I", true)
  | 4 => ("SmokeLeans$Gap", "side", "I", true)
  | 5 => ("SmokeLeans$Gap", "cost", "I", true)
  | _ => ("SmokeLeans$Gap", "isShut", "Z", false)
def tyX5 : Nat → FieldType := fun k => match k with
  | 0 => .int
  | 1 => .int
  | 2 => .int
  | 3 => .int
  | 4 => .int
  | 5 => .int
  | _ => .boolean
abbrev wsX50 : List Cond := u_ws RX5 TX5 7
theorem nmX5 : ∀ a, a < 7 → ∀ b, b < 7 → a ≠ b → (TX5 a).2.1 ≠ (TX5 b).2.1 := by decide +kernel
theorem tyX5_ok : ∀ k, k < 7 → parseFieldDescriptor (TX5 k).2.2.1 = some (tyX5 k) := by decide +kernel
abbrev cX5_init : ByteArray := prog_6_method_1_code
def yX5_init : MethodName := ⟨RX5, "<init>", "(IIIIII)V"⟩
def dkwX5_init_1 : List UInt8 := [181, 0, 21, 42, 21, 5, 181, 0, 24, 42, 21, 6, 181, 0, 27, 177]
abbrev dktX5_init_1 : List UInt8 := dkwX5_init_1 ++ []
def dkwX5_init_0 : List UInt8 := [42, 183, 0, 3, 42, 27, 181, 0, 9, 42, 28, 181, 0, 15, 42, 29, 181, 0, 18, 42, 21, 4]
abbrev dktX5_init_0 : List UInt8 := dkwX5_init_0 ++ dktX5_init_1
theorem dksX5_init_0 : cX5_init.data.toList.drop 0 = dktX5_init_0 := by decide +kernel
theorem dksX5_init_1 : cX5_init.data.toList.drop 22 = dktX5_init_1 := dk_seg dksX5_init_0 22 rfl rfl
theorem dX5_init_0 : decode cX5_init 0 = .ok (.aload_n 0, 1) := dk_42 (dk_at dksX5_init_0 0 rfl rfl)
theorem dX5_init_1 : decode cX5_init 1 = .ok (.invokespecial 3, 3) := dk_183 0 3 (dk_at dksX5_init_0 1 rfl rfl)
theorem dX5_init_4 : decode cX5_init 4 = .ok (.aload_n 0, 1) := dk_42 (dk_at dksX5_init_0 4 rfl rfl)
theorem dX5_init_5 : decode cX5_init 5 = .ok (.iload_n 1, 1) := dk_27 (dk_at dksX5_init_0 5 rfl rfl)
theorem dX5_init_6 : decode cX5_init 6 = .ok (.putfield 9, 3) := dk_181 0 9 (dk_at dksX5_init_0 6 rfl rfl)
theorem dX5_init_9 : decode cX5_init 9 = .ok (.aload_n 0, 1) := dk_42 (dk_at dksX5_init_0 9 rfl rfl)
theorem dX5_init_10 : decode cX5_init 10 = .ok (.iload_n 2, 1) := dk_28 (dk_at dksX5_init_0 10 rfl rfl)
theorem dX5_init_11 : decode cX5_init 11 = .ok (.putfield 15, 3) := dk_181 0 15 (dk_at dksX5_init_0 11 rfl rfl)
theorem dX5_init_14 : decode cX5_init 14 = .ok (.aload_n 0, 1) := dk_42 (dk_at dksX5_init_0 14 rfl rfl)
theorem dX5_init_15 : decode cX5_init 15 = .ok (.iload_n 3, 1) := dk_29 (dk_at dksX5_init_0 15 rfl rfl)
theorem dX5_init_16 : decode cX5_init 16 = .ok (.putfield 18, 3) := dk_181 0 18 (dk_at dksX5_init_0 16 rfl rfl)
theorem dX5_init_19 : decode cX5_init 19 = .ok (.aload_n 0, 1) := dk_42 (dk_at dksX5_init_0 19 rfl rfl)
theorem dX5_init_20 : decode cX5_init 20 = .ok (.iload 4, 2) := dk_21 4 (dk_at dksX5_init_0 20 rfl rfl)
theorem dX5_init_22 : decode cX5_init 22 = .ok (.putfield 21, 3) := dk_181 0 21 (dk_at dksX5_init_1 0 rfl rfl)
theorem dX5_init_25 : decode cX5_init 25 = .ok (.aload_n 0, 1) := dk_42 (dk_at dksX5_init_1 3 rfl rfl)
theorem dX5_init_26 : decode cX5_init 26 = .ok (.iload 5, 2) := dk_21 5 (dk_at dksX5_init_1 4 rfl rfl)
theorem dX5_init_28 : decode cX5_init 28 = .ok (.putfield 24, 3) := dk_181 0 24 (dk_at dksX5_init_1 6 rfl rfl)
theorem dX5_init_31 : decode cX5_init 31 = .ok (.aload_n 0, 1) := dk_42 (dk_at dksX5_init_1 9 rfl rfl)
theorem dX5_init_32 : decode cX5_init 32 = .ok (.iload 6, 2) := dk_21 6 (dk_at dksX5_init_1 10 rfl rfl)
theorem dX5_init_34 : decode cX5_init 34 = .ok (.putfield 27, 3) := dk_181 0 27 (dk_at dksX5_init_1 12 rfl rfl)
theorem dX5_init_37 : decode cX5_init 37 = .ok (.return_, 1) := dk_177 (dk_at dksX5_init_1 15 rfl rfl)
abbrev cX5_kind : ByteArray := prog_6_method_2_code
def yX5_kind : MethodName := ⟨RX5, "kind", "()I"⟩
theorem dX5_kind_0 : decode cX5_kind 0 = .ok (.iconst 0, 1) := by decide +kernel
theorem dX5_kind_1 : decode cX5_kind 1 = .ok (.ireturn, 1) := by decide +kernel
abbrev cX5_breadth : ByteArray := prog_6_method_4_code
def yX5_breadth : MethodName := ⟨RX5, "breadth", "([I)I"⟩
def dkwX5_breadth_0 : List UInt8 := [42, 180, 0, 34, 153, 0, 7, 3, 167, 0, 7, 42, 180, 0, 18, 172]
abbrev dktX5_breadth_0 : List UInt8 := dkwX5_breadth_0 ++ []
theorem dksX5_breadth_0 : cX5_breadth.data.toList.drop 0 = dktX5_breadth_0 := by decide +kernel
theorem dX5_breadth_0 : decode cX5_breadth 0 = .ok (.aload_n 0, 1) := dk_42 (dk_at dksX5_breadth_0 0 rfl rfl)
theorem dX5_breadth_1 : decode cX5_breadth 1 = .ok (.getfield 34, 3) := dk_180 0 34 (dk_at dksX5_breadth_0 1 rfl rfl)
theorem dX5_breadth_4 : decode cX5_breadth 4 = .ok (.ifCond .eq 7, 3) := dk_153 0 7 (dk_at dksX5_breadth_0 4 rfl rfl)
theorem dX5_breadth_7 : decode cX5_breadth 7 = .ok (.iconst 0, 1) := dk_3 (dk_at dksX5_breadth_0 7 rfl rfl)
theorem dX5_breadth_8 : decode cX5_breadth 8 = .ok (.goto 7, 3) := dk_167 0 7 (dk_at dksX5_breadth_0 8 rfl rfl)
theorem dX5_breadth_11 : decode cX5_breadth 11 = .ok (.aload_n 0, 1) := dk_42 (dk_at dksX5_breadth_0 11 rfl rfl)
theorem dX5_breadth_12 : decode cX5_breadth 12 = .ok (.getfield 18, 3) := dk_180 0 18 (dk_at dksX5_breadth_0 12 rfl rfl)
theorem dX5_breadth_15 : decode cX5_breadth 15 = .ok (.ireturn, 1) := dk_172 (dk_at dksX5_breadth_0 15 rfl rfl)
abbrev cX5_push : ByteArray := prog_6_method_5_code
def yX5_push : MethodName := ⟨RX5, "push", "([I)I"⟩
def dkwX5_push_1 : List UInt8 := [96, 172]
abbrev dktX5_push_1 : List UInt8 := dkwX5_push_1 ++ []
def dkwX5_push_0 : List UInt8 := [43, 3, 46, 8, 42, 180, 0, 21, 100, 104, 42, 43, 4, 46, 43, 5, 46, 42, 180, 0, 24, 182, 0, 38]
abbrev dktX5_push_0 : List UInt8 := dkwX5_push_0 ++ dktX5_push_1
theorem dksX5_push_0 : cX5_push.data.toList.drop 0 = dktX5_push_0 := by decide +kernel
theorem dksX5_push_1 : cX5_push.data.toList.drop 24 = dktX5_push_1 := dk_seg dksX5_push_0 24 rfl rfl
theorem dX5_push_0 : decode cX5_push 0 = .ok (.aload_n 1, 1) := dk_43 (dk_at dksX5_push_0 0 rfl rfl)
theorem dX5_push_1 : decode cX5_push 1 = .ok (.iconst 0, 1) := dk_3 (dk_at dksX5_push_0 1 rfl rfl)
theorem dX5_push_2 : decode cX5_push 2 = .ok (.iaload, 1) := dk_46 (dk_at dksX5_push_0 2 rfl rfl)
theorem dX5_push_3 : decode cX5_push 3 = .ok (.iconst 5, 1) := dk_8 (dk_at dksX5_push_0 3 rfl rfl)
theorem dX5_push_4 : decode cX5_push 4 = .ok (.aload_n 0, 1) := dk_42 (dk_at dksX5_push_0 4 rfl rfl)
theorem dX5_push_5 : decode cX5_push 5 = .ok (.getfield 21, 3) := dk_180 0 21 (dk_at dksX5_push_0 5 rfl rfl)
theorem dX5_push_8 : decode cX5_push 8 = .ok (.isub, 1) := dk_100 (dk_at dksX5_push_0 8 rfl rfl)
theorem dX5_push_9 : decode cX5_push 9 = .ok (.imul, 1) := dk_104 (dk_at dksX5_push_0 9 rfl rfl)
theorem dX5_push_10 : decode cX5_push 10 = .ok (.aload_n 0, 1) := dk_42 (dk_at dksX5_push_0 10 rfl rfl)
theorem dX5_push_11 : decode cX5_push 11 = .ok (.aload_n 1, 1) := dk_43 (dk_at dksX5_push_0 11 rfl rfl)
theorem dX5_push_12 : decode cX5_push 12 = .ok (.iconst 1, 1) := dk_4 (dk_at dksX5_push_0 12 rfl rfl)
theorem dX5_push_13 : decode cX5_push 13 = .ok (.iaload, 1) := dk_46 (dk_at dksX5_push_0 13 rfl rfl)
theorem dX5_push_14 : decode cX5_push 14 = .ok (.aload_n 1, 1) := dk_43 (dk_at dksX5_push_0 14 rfl rfl)
theorem dX5_push_15 : decode cX5_push 15 = .ok (.iconst 2, 1) := dk_5 (dk_at dksX5_push_0 15 rfl rfl)
theorem dX5_push_16 : decode cX5_push 16 = .ok (.iaload, 1) := dk_46 (dk_at dksX5_push_0 16 rfl rfl)
theorem dX5_push_17 : decode cX5_push 17 = .ok (.aload_n 0, 1) := dk_42 (dk_at dksX5_push_0 17 rfl rfl)
theorem dX5_push_18 : decode cX5_push 18 = .ok (.getfield 24, 3) := dk_180 0 24 (dk_at dksX5_push_0 18 rfl rfl)
theorem dX5_push_21 : decode cX5_push 21 = .ok (.invokevirtual 38, 3) := dk_182 0 38 (dk_at dksX5_push_0 21 rfl rfl)
theorem dX5_push_24 : decode cX5_push 24 = .ok (.iadd, 1) := dk_96 (dk_at dksX5_push_1 0 rfl rfl)
theorem dX5_push_25 : decode cX5_push 25 = .ok (.ireturn, 1) := dk_172 (dk_at dksX5_push_1 1 rfl rfl)
abbrev cX5_is : ByteArray := prog_6_method_3_code
def yX5_is : MethodName := ⟨RX5, "is", "(I)Z"⟩
def dkwX5_is_0 : List UInt8 := [27, 153, 0, 11, 27, 42, 182, 0, 30, 160, 0, 7, 4, 167, 0, 4, 3, 172]
abbrev dktX5_is_0 : List UInt8 := dkwX5_is_0 ++ []
theorem dksX5_is_0 : cX5_is.data.toList.drop 0 = dktX5_is_0 := by decide +kernel
theorem dX5_is_0 : decode cX5_is 0 = .ok (.iload_n 1, 1) := dk_27 (dk_at dksX5_is_0 0 rfl rfl)
theorem dX5_is_1 : decode cX5_is 1 = .ok (.ifCond .eq 11, 3) := dk_153 0 11 (dk_at dksX5_is_0 1 rfl rfl)
theorem dX5_is_4 : decode cX5_is 4 = .ok (.iload_n 1, 1) := dk_27 (dk_at dksX5_is_0 4 rfl rfl)
theorem dX5_is_5 : decode cX5_is 5 = .ok (.aload_n 0, 1) := dk_42 (dk_at dksX5_is_0 5 rfl rfl)
theorem dX5_is_6 : decode cX5_is 6 = .ok (.invokevirtual 30, 3) := dk_182 0 30 (dk_at dksX5_is_0 6 rfl rfl)
theorem dX5_is_9 : decode cX5_is 9 = .ok (.if_icmp .ne 7, 3) := dk_160 0 7 (dk_at dksX5_is_0 9 rfl rfl)
theorem dX5_is_12 : decode cX5_is 12 = .ok (.iconst 1, 1) := dk_4 (dk_at dksX5_is_0 12 rfl rfl)
theorem dX5_is_13 : decode cX5_is 13 = .ok (.goto 4, 3) := dk_167 0 4 (dk_at dksX5_is_0 13 rfl rfl)
theorem dX5_is_16 : decode cX5_is 16 = .ok (.iconst 0, 1) := dk_3 (dk_at dksX5_is_0 16 rfl rfl)
theorem dX5_is_17 : decode cX5_is 17 = .ok (.ireturn, 1) := dk_172 (dk_at dksX5_is_0 17 rfl rfl)
theorem q74 : (Jvm.Cond.initialized "SmokeLeans$Gap") ∈ lw_all := lw_g (lw_at lw_m1 8 rfl) rfl
theorem q306 : (Jvm.Cond.instantiable "SmokeLeans$Gap" (7 : Nat)) ∈ lw_all := lw_g (lw_at lw_m2 0 rfl) rfl
theorem q308 : (Jvm.Cond.instanceMethod ({ cls := "SmokeLeans$Gap", name := "<init>", desc := "(IIIIII)V" } : Jvm.MethodName)) ∈ lw_all := lw_g (lw_at lw_m2 2 rfl) rfl
theorem q309 : (Jvm.Cond.code ({ cls := "SmokeLeans$Gap", name := "<init>", desc := "(IIIIII)V" } : Jvm.MethodName) prog_6_method_1_code (7 : Nat) (Option.none : Option Jvm.ClassFile.FieldType)) ∈ lw_all := lw_g (lw_at lw_m2 3 rfl) rfl
theorem q310 : (Jvm.Cond.methodLink "SmokeLeans$Gap" (3 : Nat) ({ cls := "java/lang/Object", name := "<init>", desc := "()V" } : Jvm.MethodName)) ∈ lw_all := lw_g (lw_at lw_m2 4 rfl) rfl
theorem q311 : (Jvm.Cond.fieldLink "SmokeLeans$Gap" (9 : Nat) "SmokeLeans$Gap" "room" "I") ∈ lw_all := lw_g (lw_at lw_m2 5 rfl) rfl
theorem q314 : (Jvm.Cond.fieldLink "SmokeLeans$Gap" (15 : Nat) "SmokeLeans$Gap" "to" "I") ∈ lw_all := lw_g (lw_at lw_m2 8 rfl) rfl
theorem q319 : (Jvm.Cond.fieldLink "SmokeLeans$Gap" (18 : Nat) "SmokeLeans$Gap" "width" "I") ∈ lw_all := lw_g (lw_at lw_m2 13 rfl) rfl
theorem q321 : (Jvm.Cond.fieldLink "SmokeLeans$Gap" (21 : Nat) "SmokeLeans$Gap" "height" "I") ∈ lw_all := lw_g (lw_at lw_m2 15 rfl) rfl
theorem q323 : (Jvm.Cond.fieldLink "SmokeLeans$Gap" (24 : Nat) "SmokeLeans$Gap" "side" "I") ∈ lw_all := lw_g (lw_at lw_m2 17 rfl) rfl
theorem q327 : (Jvm.Cond.fieldLink "SmokeLeans$Gap" (27 : Nat) "SmokeLeans$Gap" "cost" "I") ∈ lw_all := lw_g (lw_at lw_m2 21 rfl) rfl
theorem q331 : (Jvm.Cond.fieldLink "SmokeLeans$Gap" (34 : Nat) "SmokeLeans$Gap" "isShut" "Z") ∈ lw_all := lw_g (lw_at lw_m2 25 rfl) rfl
theorem q334 : (Jvm.Cond.laysFinal "SmokeLeans$Gap" "SmokeLeans$Gap" "room" "I") ∈ lw_all := lw_g (lw_at lw_m2 28 rfl) rfl
theorem q335 : (Jvm.Cond.soleField "SmokeLeans$Gap" "room") ∈ lw_all := lw_g (lw_at lw_m2 29 rfl) rfl
theorem q336 : (Jvm.Cond.laysFinal "SmokeLeans$Gap" "SmokeLeans$Gap" "to" "I") ∈ lw_all := lw_g (lw_at lw_m2 30 rfl) rfl
theorem q337 : (Jvm.Cond.soleField "SmokeLeans$Gap" "to") ∈ lw_all := lw_g (lw_at lw_m2 31 rfl) rfl
theorem q338 : (Jvm.Cond.lays "SmokeLeans$Gap" "SmokeLeans$Gap" "width" "I") ∈ lw_all := lw_g (lw_at lw_m2 32 rfl) rfl
theorem q339 : (Jvm.Cond.soleField "SmokeLeans$Gap" "width") ∈ lw_all := lw_g (lw_at lw_m2 33 rfl) rfl
theorem q340 : (Jvm.Cond.laysFinal "SmokeLeans$Gap" "SmokeLeans$Gap" "height" "I") ∈ lw_all := lw_g (lw_at lw_m2 34 rfl) rfl
theorem q341 : (Jvm.Cond.soleField "SmokeLeans$Gap" "height") ∈ lw_all := lw_g (lw_at lw_m2 35 rfl) rfl
theorem q342 : (Jvm.Cond.laysFinal "SmokeLeans$Gap" "SmokeLeans$Gap" "side" "I") ∈ lw_all := lw_g (lw_at lw_m2 36 rfl) rfl
theorem q343 : (Jvm.Cond.soleField "SmokeLeans$Gap" "side") ∈ lw_all := lw_g (lw_at lw_m2 37 rfl) rfl
theorem q344 : (Jvm.Cond.laysFinal "SmokeLeans$Gap" "SmokeLeans$Gap" "cost" "I") ∈ lw_all := lw_g (lw_at lw_m2 38 rfl) rfl
theorem q345 : (Jvm.Cond.soleField "SmokeLeans$Gap" "cost") ∈ lw_all := lw_g (lw_at lw_m2 39 rfl) rfl
theorem q346 : (Jvm.Cond.lays "SmokeLeans$Gap" "SmokeLeans$Gap" "isShut" "Z") ∈ lw_all := lw_g (lw_at lw_m2 40 rfl) rfl
theorem q347 : (Jvm.Cond.soleField "SmokeLeans$Gap" "isShut") ∈ lw_all := lw_g (lw_at lw_m2 41 rfl) rfl
theorem q348 : (Jvm.Cond.superclass "SmokeLeans$Gap" "java/lang/Object") ∈ lw_all := lw_g (lw_at lw_m2 42 rfl) rfl
theorem q434 : (Jvm.Cond.instanceMethod ({ cls := "SmokeLeans$Gap", name := "kind", desc := "()I" } : Jvm.MethodName)) ∈ lw_all := lw_g (lw_at lw_m2 128 rfl) rfl
theorem q435 : (Jvm.Cond.selects "SmokeLeans$Gap" ({ cls := "SmokeLeans$Gap", name := "kind", desc := "()I" } : Jvm.MethodName) ({ cls := "SmokeLeans$Gap", name := "kind", desc := "()I" } : Jvm.MethodName)) ∈ lw_all := lw_g (lw_at lw_m2 129 rfl) rfl
theorem q436 : (Jvm.Cond.sameMethod "SmokeLeans$Gap" "SmokeLeans$Gap" "kind" "()I") ∈ lw_all := lw_g (lw_at lw_m2 130 rfl) rfl
theorem q457 : (Jvm.Cond.code ({ cls := "SmokeLeans$Gap", name := "kind", desc := "()I" } : Jvm.MethodName) prog_6_method_2_code (1 : Nat) (Option.some Jvm.ClassFile.FieldType.int)) ∈ lw_all := lw_g (lw_at lw_m2 151 rfl) rfl
theorem q468 : (Jvm.Cond.instanceMethod ({ cls := "SmokeLeans$Gap", name := "breadth", desc := "([I)I" } : Jvm.MethodName)) ∈ lw_all := lw_g (lw_at lw_m2 162 rfl) rfl
theorem q469 : (Jvm.Cond.selects "SmokeLeans$Gap" ({ cls := "SmokeLeans$Gap", name := "breadth", desc := "([I)I" } : Jvm.MethodName) ({ cls := "SmokeLeans$Gap", name := "breadth", desc := "([I)I" } : Jvm.MethodName)) ∈ lw_all := lw_g (lw_at lw_m2 163 rfl) rfl
theorem q470 : (Jvm.Cond.sameMethod "SmokeLeans$Gap" "SmokeLeans$Gap" "breadth" "([I)I") ∈ lw_all := lw_g (lw_at lw_m2 164 rfl) rfl
theorem q484 : (Jvm.Cond.code ({ cls := "SmokeLeans$Gap", name := "breadth", desc := "([I)I" } : Jvm.MethodName) prog_6_method_4_code (2 : Nat) (Option.some Jvm.ClassFile.FieldType.int)) ∈ lw_all := lw_g (lw_at lw_m2 178 rfl) rfl
theorem q486 : (Jvm.Cond.instanceMethod ({ cls := "SmokeLeans$Gap", name := "push", desc := "([I)I" } : Jvm.MethodName)) ∈ lw_all := lw_g (lw_at lw_m2 180 rfl) rfl
theorem q487 : (Jvm.Cond.selects "SmokeLeans$Gap" ({ cls := "SmokeLeans$Gap", name := "push", desc := "([I)I" } : Jvm.MethodName) ({ cls := "SmokeLeans$Gap", name := "push", desc := "([I)I" } : Jvm.MethodName)) ∈ lw_all := lw_g (lw_at lw_m2 181 rfl) rfl
theorem q488 : (Jvm.Cond.sameMethod "SmokeLeans$Gap" "SmokeLeans$Gap" "push" "([I)I") ∈ lw_all := lw_g (lw_at lw_m2 182 rfl) rfl
theorem q494 : (Jvm.Cond.declares ({ cls := "SmokeLeans$Gap", name := "push", desc := "([I)I" } : Jvm.MethodName)) ∈ lw_tbl := lw_at lw_m2 188 rfl
theorem q499 : (Jvm.Cond.code ({ cls := "SmokeLeans$Gap", name := "push", desc := "([I)I" } : Jvm.MethodName) prog_6_method_5_code (2 : Nat) (Option.some Jvm.ClassFile.FieldType.int)) ∈ lw_all := lw_g (lw_at lw_m2 193 rfl) rfl
theorem q502 : (Jvm.Cond.unhidden "SmokeLeans$Gap" "wind" "(III)I") ∈ lw_tbl := lw_at lw_m2 196 rfl
theorem q528 : (Jvm.Cond.instanceMethod ({ cls := "SmokeLeans$Gap", name := "is", desc := "(I)Z" } : Jvm.MethodName)) ∈ lw_all := lw_g (lw_at lw_m2 222 rfl) rfl
theorem q529 : (Jvm.Cond.selects "SmokeLeans$Gap" ({ cls := "SmokeLeans$Gap", name := "is", desc := "(I)Z" } : Jvm.MethodName) ({ cls := "SmokeLeans$Gap", name := "is", desc := "(I)Z" } : Jvm.MethodName)) ∈ lw_all := lw_g (lw_at lw_m2 223 rfl) rfl
theorem q530 : (Jvm.Cond.sameMethod "SmokeLeans$Gap" "SmokeLeans$Gap" "is" "(I)Z") ∈ lw_all := lw_g (lw_at lw_m2 224 rfl) rfl
theorem q539 : (Jvm.Cond.code ({ cls := "SmokeLeans$Gap", name := "is", desc := "(I)Z" } : Jvm.MethodName) prog_6_method_3_code (2 : Nat) (Option.some Jvm.ClassFile.FieldType.boolean)) ∈ lw_all := lw_g (lw_at lw_m2 233 rfl) rfl
theorem q540 : (Jvm.Cond.methodLink "SmokeLeans$Gap" (30 : Nat) ({ cls := "SmokeLeans$Gap", name := "kind", desc := "()I" } : Jvm.MethodName)) ∈ lw_all := lw_g (lw_at lw_m2 234 rfl) rfl
theorem in_X5 : ∀ w ∈ wsX50, w ∈ lw_all := lw_in wsX50 [334, 336, 338, 340, 342, 344, 346] (by decide +kernel) (by decide +kernel)

/-! SmokeLeans$Hidden -/
set_option maxRecDepth 100000
def RX6 : String := "SmokeLeans$Hidden"
def TX6 : u_T := fun k => match k with
  | 0 => ("SmokeLeans$Gap", "room", "I", true)
  | 1 => ("SmokeLeans$Gap", "to", "I", true)
  | 2 => ("SmokeLeans$Gap", "width", "I", false)
  | 3 => ("SmokeLeans$Gap", "height", "I", true)
  | 4 => ("SmokeLeans$Gap", "side", "I", true)
  | 5 => ("SmokeLeans$Gap", "cost", "I", true)
  | _ => ("SmokeLeans$Gap", "isShut", "Z", false)
def tyX6 : Nat → FieldType := fun k => match k with
  | 0 => .int
  | 1 => .int
  | 2 => .int
  | 3 => .int
  | 4 => .int
  | 5 => .int
  | _ => .boolean
abbrev wsX60 : List Cond := u_ws RX6 TX6 7
theorem nmX6 : ∀ a, a < 7 → ∀ b, b < 7 → a ≠ b → (TX6 a).2.1 ≠ (TX6 b).2.1 := by decide +kernel
theorem tyX6_ok : ∀ k, k < 7 → parseFieldDescriptor (TX6 k).2.2.1 = some (tyX6 k) := by decide +kernel
abbrev cX6_init : ByteArray := prog_7_method_1_code
def yX6_init : MethodName := ⟨RX6, "<init>", "(IIIIII)V"⟩
def dkwX6_init_0 : List UInt8 := [42, 27, 28, 29, 21, 4, 21, 5, 21, 6, 183, 0, 1, 177]
abbrev dktX6_init_0 : List UInt8 := dkwX6_init_0 ++ []
theorem dksX6_init_0 : cX6_init.data.toList.drop 0 = dktX6_init_0 := by decide +kernel
theorem dX6_init_0 : decode cX6_init 0 = .ok (.aload_n 0, 1) := dk_42 (dk_at dksX6_init_0 0 rfl rfl)
theorem dX6_init_1 : decode cX6_init 1 = .ok (.iload_n 1, 1) := dk_27 (dk_at dksX6_init_0 1 rfl rfl)
theorem dX6_init_2 : decode cX6_init 2 = .ok (.iload_n 2, 1) := dk_28 (dk_at dksX6_init_0 2 rfl rfl)
theorem dX6_init_3 : decode cX6_init 3 = .ok (.iload_n 3, 1) := dk_29 (dk_at dksX6_init_0 3 rfl rfl)
theorem dX6_init_4 : decode cX6_init 4 = .ok (.iload 4, 2) := dk_21 4 (dk_at dksX6_init_0 4 rfl rfl)
theorem dX6_init_6 : decode cX6_init 6 = .ok (.iload 5, 2) := dk_21 5 (dk_at dksX6_init_0 6 rfl rfl)
theorem dX6_init_8 : decode cX6_init 8 = .ok (.iload 6, 2) := dk_21 6 (dk_at dksX6_init_0 8 rfl rfl)
theorem dX6_init_10 : decode cX6_init 10 = .ok (.invokespecial 1, 3) := dk_183 0 1 (dk_at dksX6_init_0 10 rfl rfl)
theorem dX6_init_13 : decode cX6_init 13 = .ok (.return_, 1) := dk_177 (dk_at dksX6_init_0 13 rfl rfl)
abbrev cX6_kind : ByteArray := prog_7_method_2_code
def yX6_kind : MethodName := ⟨RX6, "kind", "()I"⟩
def dkwX6_kind_0 : List UInt8 := [42, 183, 0, 7, 4, 96, 172]
abbrev dktX6_kind_0 : List UInt8 := dkwX6_kind_0 ++ []
theorem dksX6_kind_0 : cX6_kind.data.toList.drop 0 = dktX6_kind_0 := by decide +kernel
theorem dX6_kind_0 : decode cX6_kind 0 = .ok (.aload_n 0, 1) := dk_42 (dk_at dksX6_kind_0 0 rfl rfl)
theorem dX6_kind_1 : decode cX6_kind 1 = .ok (.invokespecial 7, 3) := dk_183 0 7 (dk_at dksX6_kind_0 1 rfl rfl)
theorem dX6_kind_4 : decode cX6_kind 4 = .ok (.iconst 1, 1) := dk_4 (dk_at dksX6_kind_0 4 rfl rfl)
theorem dX6_kind_5 : decode cX6_kind 5 = .ok (.iadd, 1) := dk_96 (dk_at dksX6_kind_0 5 rfl rfl)
theorem dX6_kind_6 : decode cX6_kind 6 = .ok (.ireturn, 1) := dk_172 (dk_at dksX6_kind_0 6 rfl rfl)
abbrev cX6_breadth : ByteArray := prog_7_method_3_code
def yX6_breadth : MethodName := ⟨RX6, "breadth", "([I)I"⟩
def dkwX6_breadth_0 : List UInt8 := [42, 43, 183, 0, 11, 5, 108, 172]
abbrev dktX6_breadth_0 : List UInt8 := dkwX6_breadth_0 ++ []
theorem dksX6_breadth_0 : cX6_breadth.data.toList.drop 0 = dktX6_breadth_0 := by decide +kernel
theorem dX6_breadth_0 : decode cX6_breadth 0 = .ok (.aload_n 0, 1) := dk_42 (dk_at dksX6_breadth_0 0 rfl rfl)
theorem dX6_breadth_1 : decode cX6_breadth 1 = .ok (.aload_n 1, 1) := dk_43 (dk_at dksX6_breadth_0 1 rfl rfl)
theorem dX6_breadth_2 : decode cX6_breadth 2 = .ok (.invokespecial 11, 3) := dk_183 0 11 (dk_at dksX6_breadth_0 2 rfl rfl)
theorem dX6_breadth_5 : decode cX6_breadth 5 = .ok (.iconst 2, 1) := dk_5 (dk_at dksX6_breadth_0 5 rfl rfl)
theorem dX6_breadth_6 : decode cX6_breadth 6 = .ok (.idiv, 1) := dk_108 (dk_at dksX6_breadth_0 6 rfl rfl)
theorem dX6_breadth_7 : decode cX6_breadth 7 = .ok (.ireturn, 1) := dk_172 (dk_at dksX6_breadth_0 7 rfl rfl)
theorem q75 : (Jvm.Cond.initialized "SmokeLeans$Hidden") ∈ lw_all := lw_g (lw_at lw_m1 9 rfl) rfl
theorem q350 : (Jvm.Cond.instantiable "SmokeLeans$Hidden" (7 : Nat)) ∈ lw_all := lw_g (lw_at lw_m2 44 rfl) rfl
theorem q352 : (Jvm.Cond.instanceMethod ({ cls := "SmokeLeans$Hidden", name := "<init>", desc := "(IIIIII)V" } : Jvm.MethodName)) ∈ lw_all := lw_g (lw_at lw_m2 46 rfl) rfl
theorem q353 : (Jvm.Cond.code ({ cls := "SmokeLeans$Hidden", name := "<init>", desc := "(IIIIII)V" } : Jvm.MethodName) prog_7_method_1_code (7 : Nat) (Option.none : Option Jvm.ClassFile.FieldType)) ∈ lw_all := lw_g (lw_at lw_m2 47 rfl) rfl
theorem q354 : (Jvm.Cond.methodLink "SmokeLeans$Hidden" (1 : Nat) ({ cls := "SmokeLeans$Gap", name := "<init>", desc := "(IIIIII)V" } : Jvm.MethodName)) ∈ lw_all := lw_g (lw_at lw_m2 48 rfl) rfl
theorem q355 : (Jvm.Cond.laysFinal "SmokeLeans$Hidden" "SmokeLeans$Gap" "room" "I") ∈ lw_all := lw_g (lw_at lw_m2 49 rfl) rfl
theorem q356 : (Jvm.Cond.laysFinal "SmokeLeans$Hidden" "SmokeLeans$Gap" "to" "I") ∈ lw_all := lw_g (lw_at lw_m2 50 rfl) rfl
theorem q357 : (Jvm.Cond.lays "SmokeLeans$Hidden" "SmokeLeans$Gap" "width" "I") ∈ lw_all := lw_g (lw_at lw_m2 51 rfl) rfl
theorem q358 : (Jvm.Cond.laysFinal "SmokeLeans$Hidden" "SmokeLeans$Gap" "height" "I") ∈ lw_all := lw_g (lw_at lw_m2 52 rfl) rfl
theorem q359 : (Jvm.Cond.laysFinal "SmokeLeans$Hidden" "SmokeLeans$Gap" "side" "I") ∈ lw_all := lw_g (lw_at lw_m2 53 rfl) rfl
theorem q360 : (Jvm.Cond.laysFinal "SmokeLeans$Hidden" "SmokeLeans$Gap" "cost" "I") ∈ lw_all := lw_g (lw_at lw_m2 54 rfl) rfl
theorem q361 : (Jvm.Cond.lays "SmokeLeans$Hidden" "SmokeLeans$Gap" "isShut" "Z") ∈ lw_all := lw_g (lw_at lw_m2 55 rfl) rfl
theorem q362 : (Jvm.Cond.superclass "SmokeLeans$Hidden" "SmokeLeans$Gap") ∈ lw_all := lw_g (lw_at lw_m2 56 rfl) rfl
theorem q444 : (Jvm.Cond.selects "SmokeLeans$Hidden" ({ cls := "SmokeLeans$Gap", name := "kind", desc := "()I" } : Jvm.MethodName) ({ cls := "SmokeLeans$Hidden", name := "kind", desc := "()I" } : Jvm.MethodName)) ∈ lw_all := lw_g (lw_at lw_m2 138 rfl) rfl
theorem q445 : (Jvm.Cond.instanceMethod ({ cls := "SmokeLeans$Hidden", name := "kind", desc := "()I" } : Jvm.MethodName)) ∈ lw_all := lw_g (lw_at lw_m2 139 rfl) rfl
theorem q446 : (Jvm.Cond.code ({ cls := "SmokeLeans$Hidden", name := "kind", desc := "()I" } : Jvm.MethodName) prog_7_method_2_code (1 : Nat) (Option.some Jvm.ClassFile.FieldType.int)) ∈ lw_all := lw_g (lw_at lw_m2 140 rfl) rfl
theorem q447 : (Jvm.Cond.methodLink "SmokeLeans$Hidden" (7 : Nat) ({ cls := "SmokeLeans$Gap", name := "kind", desc := "()I" } : Jvm.MethodName)) ∈ lw_all := lw_g (lw_at lw_m2 141 rfl) rfl
theorem q472 : (Jvm.Cond.selects "SmokeLeans$Hidden" ({ cls := "SmokeLeans$Gap", name := "breadth", desc := "([I)I" } : Jvm.MethodName) ({ cls := "SmokeLeans$Hidden", name := "breadth", desc := "([I)I" } : Jvm.MethodName)) ∈ lw_all := lw_g (lw_at lw_m2 166 rfl) rfl
theorem q473 : (Jvm.Cond.instanceMethod ({ cls := "SmokeLeans$Hidden", name := "breadth", desc := "([I)I" } : Jvm.MethodName)) ∈ lw_all := lw_g (lw_at lw_m2 167 rfl) rfl
theorem q474 : (Jvm.Cond.code ({ cls := "SmokeLeans$Hidden", name := "breadth", desc := "([I)I" } : Jvm.MethodName) prog_7_method_3_code (2 : Nat) (Option.some Jvm.ClassFile.FieldType.int)) ∈ lw_all := lw_g (lw_at lw_m2 168 rfl) rfl
theorem q475 : (Jvm.Cond.methodLink "SmokeLeans$Hidden" (11 : Nat) ({ cls := "SmokeLeans$Gap", name := "breadth", desc := "([I)I" } : Jvm.MethodName)) ∈ lw_all := lw_g (lw_at lw_m2 169 rfl) rfl
theorem q495 : (Jvm.Cond.selects "SmokeLeans$Hidden" ({ cls := "SmokeLeans$Gap", name := "push", desc := "([I)I" } : Jvm.MethodName) ({ cls := "SmokeLeans$Gap", name := "push", desc := "([I)I" } : Jvm.MethodName)) ∈ lw_all := lw_g (lw_at lw_m2 189 rfl) rfl
theorem q503 : (Jvm.Cond.unhidden "SmokeLeans$Hidden" "wind" "(III)I") ∈ lw_tbl := lw_at lw_m2 197 rfl
theorem q535 : (Jvm.Cond.selects "SmokeLeans$Hidden" ({ cls := "SmokeLeans$Gap", name := "is", desc := "(I)Z" } : Jvm.MethodName) ({ cls := "SmokeLeans$Gap", name := "is", desc := "(I)Z" } : Jvm.MethodName)) ∈ lw_all := lw_g (lw_at lw_m2 229 rfl) rfl
theorem q1430 : (Jvm.Cond.castable "SmokeLeans$Hidden" "SmokeLeans$Gap") ∈ lw_tbl := lw_at lw_m6 164 rfl
theorem in_X6 : ∀ w ∈ wsX60, w ∈ lw_all := lw_in wsX60 [355, 356, 357, 358, 359, 360, 361] (by decide +kernel) (by decide +kernel)

/-! SmokeLeans$Needed -/
set_option maxRecDepth 100000
def RX7 : String := "SmokeLeans$Needed"
def TX7 : u_T := fun k => match k with
  | 0 => ("SmokeLeans$Gap", "room", "I", true)
  | 1 => ("SmokeLeans$Gap", "to", "I", true)
  | 2 => ("SmokeLeans$Gap", "width", "I", false)
  | 3 => ("SmokeLeans$Gap", "height", "I", true)
  | 4 => ("SmokeLeans$Gap", "side", "I", true)
  | 5 => ("SmokeLeans$Gap", "cost", "I", true)
  | _ => ("SmokeLeans$Gap", "isShut", "Z", false)
def tyX7 : Nat → FieldType := fun k => match k with
  | 0 => .int
  | 1 => .int
  | 2 => .int
  | 3 => .int
  | 4 => .int
  | 5 => .int
  | _ => .boolean
abbrev wsX70 : List Cond := u_ws RX7 TX7 7
theorem nmX7 : ∀ a, a < 7 → ∀ b, b < 7 → a ≠ b → (TX7 a).2.1 ≠ (TX7 b).2.1 := by decide +kernel
theorem tyX7_ok : ∀ k, k < 7 → parseFieldDescriptor (TX7 k).2.2.1 = some (tyX7 k) := by decide +kernel
abbrev cX7_init : ByteArray := prog_10_method_1_code
def yX7_init : MethodName := ⟨RX7, "<init>", "(IIIIII)V"⟩
def dkwX7_init_0 : List UInt8 := [42, 27, 28, 29, 21, 4, 21, 5, 21, 6, 183, 0, 1, 177]
abbrev dktX7_init_0 : List UInt8 := dkwX7_init_0 ++ []
theorem dksX7_init_0 : cX7_init.data.toList.drop 0 = dktX7_init_0 := by decide +kernel
theorem dX7_init_0 : decode cX7_init 0 = .ok (.aload_n 0, 1) := dk_42 (dk_at dksX7_init_0 0 rfl rfl)
theorem dX7_init_1 : decode cX7_init 1 = .ok (.iload_n 1, 1) := dk_27 (dk_at dksX7_init_0 1 rfl rfl)
theorem dX7_init_2 : decode cX7_init 2 = .ok (.iload_n 2, 1) := dk_28 (dk_at dksX7_init_0 2 rfl rfl)
theorem dX7_init_3 : decode cX7_init 3 = .ok (.iload_n 3, 1) := dk_29 (dk_at dksX7_init_0 3 rfl rfl)
theorem dX7_init_4 : decode cX7_init 4 = .ok (.iload 4, 2) := dk_21 4 (dk_at dksX7_init_0 4 rfl rfl)
theorem dX7_init_6 : decode cX7_init 6 = .ok (.iload 5, 2) := dk_21 5 (dk_at dksX7_init_0 6 rfl rfl)
theorem dX7_init_8 : decode cX7_init 8 = .ok (.iload 6, 2) := dk_21 6 (dk_at dksX7_init_0 8 rfl rfl)
theorem dX7_init_10 : decode cX7_init 10 = .ok (.invokespecial 1, 3) := dk_183 0 1 (dk_at dksX7_init_0 10 rfl rfl)
theorem dX7_init_13 : decode cX7_init 13 = .ok (.return_, 1) := dk_177 (dk_at dksX7_init_0 13 rfl rfl)
abbrev cX7_kind : ByteArray := prog_10_method_2_code
def yX7_kind : MethodName := ⟨RX7, "kind", "()I"⟩
def dkwX7_kind_0 : List UInt8 := [42, 183, 0, 7, 5, 96, 172]
abbrev dktX7_kind_0 : List UInt8 := dkwX7_kind_0 ++ []
theorem dksX7_kind_0 : cX7_kind.data.toList.drop 0 = dktX7_kind_0 := by decide +kernel
theorem dX7_kind_0 : decode cX7_kind 0 = .ok (.aload_n 0, 1) := dk_42 (dk_at dksX7_kind_0 0 rfl rfl)
theorem dX7_kind_1 : decode cX7_kind 1 = .ok (.invokespecial 7, 3) := dk_183 0 7 (dk_at dksX7_kind_0 1 rfl rfl)
theorem dX7_kind_4 : decode cX7_kind 4 = .ok (.iconst 2, 1) := dk_5 (dk_at dksX7_kind_0 4 rfl rfl)
theorem dX7_kind_5 : decode cX7_kind 5 = .ok (.iadd, 1) := dk_96 (dk_at dksX7_kind_0 5 rfl rfl)
theorem dX7_kind_6 : decode cX7_kind 6 = .ok (.ireturn, 1) := dk_172 (dk_at dksX7_kind_0 6 rfl rfl)
abbrev cX7_is : ByteArray := prog_10_method_3_code
def yX7_is : MethodName := ⟨RX7, "is", "(I)Z"⟩
def dkwX7_is_0 : List UInt8 := [27, 5, 159, 0, 11, 42, 27, 183, 0, 11, 153, 0, 7, 4, 167, 0, 4, 3, 172]
abbrev dktX7_is_0 : List UInt8 := dkwX7_is_0 ++ []
theorem dksX7_is_0 : cX7_is.data.toList.drop 0 = dktX7_is_0 := by decide +kernel
theorem dX7_is_0 : decode cX7_is 0 = .ok (.iload_n 1, 1) := dk_27 (dk_at dksX7_is_0 0 rfl rfl)
theorem dX7_is_1 : decode cX7_is 1 = .ok (.iconst 2, 1) := dk_5 (dk_at dksX7_is_0 1 rfl rfl)
theorem dX7_is_2 : decode cX7_is 2 = .ok (.if_icmp .eq 11, 3) := dk_159 0 11 (dk_at dksX7_is_0 2 rfl rfl)
theorem dX7_is_5 : decode cX7_is 5 = .ok (.aload_n 0, 1) := dk_42 (dk_at dksX7_is_0 5 rfl rfl)
theorem dX7_is_6 : decode cX7_is 6 = .ok (.iload_n 1, 1) := dk_27 (dk_at dksX7_is_0 6 rfl rfl)
theorem dX7_is_7 : decode cX7_is 7 = .ok (.invokespecial 11, 3) := dk_183 0 11 (dk_at dksX7_is_0 7 rfl rfl)
theorem dX7_is_10 : decode cX7_is 10 = .ok (.ifCond .eq 7, 3) := dk_153 0 7 (dk_at dksX7_is_0 10 rfl rfl)
theorem dX7_is_13 : decode cX7_is 13 = .ok (.iconst 1, 1) := dk_4 (dk_at dksX7_is_0 13 rfl rfl)
theorem dX7_is_14 : decode cX7_is 14 = .ok (.goto 4, 3) := dk_167 0 4 (dk_at dksX7_is_0 14 rfl rfl)
theorem dX7_is_17 : decode cX7_is 17 = .ok (.iconst 0, 1) := dk_3 (dk_at dksX7_is_0 17 rfl rfl)
theorem dX7_is_18 : decode cX7_is 18 = .ok (.ireturn, 1) := dk_172 (dk_at dksX7_is_0 18 rfl rfl)
theorem q76 : (Jvm.Cond.initialized "SmokeLeans$Needed") ∈ lw_all := lw_g (lw_at lw_m1 10 rfl) rfl
theorem q364 : (Jvm.Cond.instantiable "SmokeLeans$Needed" (7 : Nat)) ∈ lw_all := lw_g (lw_at lw_m2 58 rfl) rfl
theorem q366 : (Jvm.Cond.instanceMethod ({ cls := "SmokeLeans$Needed", name := "<init>", desc := "(IIIIII)V" } : Jvm.MethodName)) ∈ lw_all := lw_g (lw_at lw_m2 60 rfl) rfl
theorem q367 : (Jvm.Cond.code ({ cls := "SmokeLeans$Needed", name := "<init>", desc := "(IIIIII)V" } : Jvm.MethodName) prog_10_method_1_code (7 : Nat) (Option.none : Option Jvm.ClassFile.FieldType)) ∈ lw_all := lw_g (lw_at lw_m2 61 rfl) rfl
theorem q368 : (Jvm.Cond.methodLink "SmokeLeans$Needed" (1 : Nat) ({ cls := "SmokeLeans$Gap", name := "<init>", desc := "(IIIIII)V" } : Jvm.MethodName)) ∈ lw_all := lw_g (lw_at lw_m2 62 rfl) rfl
theorem q369 : (Jvm.Cond.laysFinal "SmokeLeans$Needed" "SmokeLeans$Gap" "room" "I") ∈ lw_all := lw_g (lw_at lw_m2 63 rfl) rfl
theorem q370 : (Jvm.Cond.laysFinal "SmokeLeans$Needed" "SmokeLeans$Gap" "to" "I") ∈ lw_all := lw_g (lw_at lw_m2 64 rfl) rfl
theorem q371 : (Jvm.Cond.lays "SmokeLeans$Needed" "SmokeLeans$Gap" "width" "I") ∈ lw_all := lw_g (lw_at lw_m2 65 rfl) rfl
theorem q372 : (Jvm.Cond.laysFinal "SmokeLeans$Needed" "SmokeLeans$Gap" "height" "I") ∈ lw_all := lw_g (lw_at lw_m2 66 rfl) rfl
theorem q373 : (Jvm.Cond.laysFinal "SmokeLeans$Needed" "SmokeLeans$Gap" "side" "I") ∈ lw_all := lw_g (lw_at lw_m2 67 rfl) rfl
theorem q374 : (Jvm.Cond.laysFinal "SmokeLeans$Needed" "SmokeLeans$Gap" "cost" "I") ∈ lw_all := lw_g (lw_at lw_m2 68 rfl) rfl
theorem q375 : (Jvm.Cond.lays "SmokeLeans$Needed" "SmokeLeans$Gap" "isShut" "Z") ∈ lw_all := lw_g (lw_at lw_m2 69 rfl) rfl
theorem q376 : (Jvm.Cond.superclass "SmokeLeans$Needed" "SmokeLeans$Gap") ∈ lw_all := lw_g (lw_at lw_m2 70 rfl) rfl
theorem q441 : (Jvm.Cond.instanceMethod ({ cls := "SmokeLeans$Needed", name := "kind", desc := "()I" } : Jvm.MethodName)) ∈ lw_all := lw_g (lw_at lw_m2 135 rfl) rfl
theorem q442 : (Jvm.Cond.code ({ cls := "SmokeLeans$Needed", name := "kind", desc := "()I" } : Jvm.MethodName) prog_10_method_2_code (1 : Nat) (Option.some Jvm.ClassFile.FieldType.int)) ∈ lw_all := lw_g (lw_at lw_m2 136 rfl) rfl
theorem q443 : (Jvm.Cond.methodLink "SmokeLeans$Needed" (7 : Nat) ({ cls := "SmokeLeans$Gap", name := "kind", desc := "()I" } : Jvm.MethodName)) ∈ lw_all := lw_g (lw_at lw_m2 137 rfl) rfl
theorem q452 : (Jvm.Cond.selects "SmokeLeans$Needed" ({ cls := "SmokeLeans$Gap", name := "kind", desc := "()I" } : Jvm.MethodName) ({ cls := "SmokeLeans$Needed", name := "kind", desc := "()I" } : Jvm.MethodName)) ∈ lw_all := lw_g (lw_at lw_m2 146 rfl) rfl
theorem q479 : (Jvm.Cond.selects "SmokeLeans$Needed" ({ cls := "SmokeLeans$Gap", name := "breadth", desc := "([I)I" } : Jvm.MethodName) ({ cls := "SmokeLeans$Gap", name := "breadth", desc := "([I)I" } : Jvm.MethodName)) ∈ lw_all := lw_g (lw_at lw_m2 173 rfl) rfl
theorem q493 : (Jvm.Cond.sameMethod "SmokeLeans$Needed" "SmokeLeans$Gap" "push" "([I)I") ∈ lw_all := lw_g (lw_at lw_m2 187 rfl) rfl
theorem q497 : (Jvm.Cond.selects "SmokeLeans$Needed" ({ cls := "SmokeLeans$Gap", name := "push", desc := "([I)I" } : Jvm.MethodName) ({ cls := "SmokeLeans$Gap", name := "push", desc := "([I)I" } : Jvm.MethodName)) ∈ lw_all := lw_g (lw_at lw_m2 191 rfl) rfl
theorem q505 : (Jvm.Cond.unhidden "SmokeLeans$Needed" "wind" "(III)I") ∈ lw_tbl := lw_at lw_m2 199 rfl
theorem q532 : (Jvm.Cond.instanceMethod ({ cls := "SmokeLeans$Needed", name := "is", desc := "(I)Z" } : Jvm.MethodName)) ∈ lw_all := lw_g (lw_at lw_m2 226 rfl) rfl
theorem q533 : (Jvm.Cond.code ({ cls := "SmokeLeans$Needed", name := "is", desc := "(I)Z" } : Jvm.MethodName) prog_10_method_3_code (2 : Nat) (Option.some Jvm.ClassFile.FieldType.boolean)) ∈ lw_all := lw_g (lw_at lw_m2 227 rfl) rfl
theorem q534 : (Jvm.Cond.methodLink "SmokeLeans$Needed" (11 : Nat) ({ cls := "SmokeLeans$Gap", name := "is", desc := "(I)Z" } : Jvm.MethodName)) ∈ lw_all := lw_g (lw_at lw_m2 228 rfl) rfl
theorem q537 : (Jvm.Cond.selects "SmokeLeans$Needed" ({ cls := "SmokeLeans$Gap", name := "is", desc := "(I)Z" } : Jvm.MethodName) ({ cls := "SmokeLeans$Needed", name := "is", desc := "(I)Z" } : Jvm.MethodName)) ∈ lw_all := lw_g (lw_at lw_m2 231 rfl) rfl
theorem q1428 : (Jvm.Cond.sameMethod "SmokeLeans$Needed" "SmokeLeans$Needed" "kind" "()I") ∈ lw_all := lw_g (lw_at lw_m6 162 rfl) rfl
theorem q1432 : (Jvm.Cond.castable "SmokeLeans$Needed" "SmokeLeans$Gap") ∈ lw_tbl := lw_at lw_m6 166 rfl
theorem in_X7 : ∀ w ∈ wsX70, w ∈ lw_all := lw_in wsX70 [369, 370, 371, 372, 373, 374, 375] (by decide +kernel) (by decide +kernel)

/-! SmokeLeans$Known -/
set_option maxRecDepth 100000
def RX8 : String := "SmokeLeans$Known"
def TX8 : u_T := fun k => match k with
  | 0 => ("SmokeLeans$Gap", "room", "I", true)
  | 1 => ("SmokeLeans$Gap", "to", "I", true)
  | 2 => ("SmokeLeans$Gap", "width", "I", false)
  | 3 => ("SmokeLeans$Gap", "height", "I", true)
  | 4 => ("SmokeLeans$Gap", "side", "I", true)
  | 5 => ("SmokeLeans$Gap", "cost", "I", true)
  | _ => ("SmokeLeans$Gap", "isShut", "Z", false)
def tyX8 : Nat → FieldType := fun k => match k with
  | 0 => .int
  | 1 => .int
  | 2 => .int
  | 3 => .int
  | 4 => .int
  | 5 => .int
  | _ => .boolean
abbrev wsX80 : List Cond := u_ws RX8 TX8 7
theorem nmX8 : ∀ a, a < 7 → ∀ b, b < 7 → a ≠ b → (TX8 a).2.1 ≠ (TX8 b).2.1 := by decide +kernel
theorem tyX8_ok : ∀ k, k < 7 → parseFieldDescriptor (TX8 k).2.2.1 = some (tyX8 k) := by decide +kernel
abbrev cX8_init : ByteArray := prog_9_method_1_code
def yX8_init : MethodName := ⟨RX8, "<init>", "(IIIIII)V"⟩
def dkwX8_init_0 : List UInt8 := [42, 27, 28, 29, 21, 4, 21, 5, 21, 6, 183, 0, 3, 177]
abbrev dktX8_init_0 : List UInt8 := dkwX8_init_0 ++ []
theorem dksX8_init_0 : cX8_init.data.toList.drop 0 = dktX8_init_0 := by decide +kernel
theorem dX8_init_0 : decode cX8_init 0 = .ok (.aload_n 0, 1) := dk_42 (dk_at dksX8_init_0 0 rfl rfl)
theorem dX8_init_1 : decode cX8_init 1 = .ok (.iload_n 1, 1) := dk_27 (dk_at dksX8_init_0 1 rfl rfl)
theorem dX8_init_2 : decode cX8_init 2 = .ok (.iload_n 2, 1) := dk_28 (dk_at dksX8_init_0 2 rfl rfl)
theorem dX8_init_3 : decode cX8_init 3 = .ok (.iload_n 3, 1) := dk_29 (dk_at dksX8_init_0 3 rfl rfl)
theorem dX8_init_4 : decode cX8_init 4 = .ok (.iload 4, 2) := dk_21 4 (dk_at dksX8_init_0 4 rfl rfl)
theorem dX8_init_6 : decode cX8_init 6 = .ok (.iload 5, 2) := dk_21 5 (dk_at dksX8_init_0 6 rfl rfl)
theorem dX8_init_8 : decode cX8_init 8 = .ok (.iload 6, 2) := dk_21 6 (dk_at dksX8_init_0 8 rfl rfl)
theorem dX8_init_10 : decode cX8_init 10 = .ok (.invokespecial 3, 3) := dk_183 0 3 (dk_at dksX8_init_0 10 rfl rfl)
theorem dX8_init_13 : decode cX8_init 13 = .ok (.return_, 1) := dk_177 (dk_at dksX8_init_0 13 rfl rfl)
abbrev cX8_kind : ByteArray := prog_9_method_2_code
def yX8_kind : MethodName := ⟨RX8, "kind", "()I"⟩
def dkwX8_kind_0 : List UInt8 := [42, 183, 0, 9, 6, 96, 172]
abbrev dktX8_kind_0 : List UInt8 := dkwX8_kind_0 ++ []
theorem dksX8_kind_0 : cX8_kind.data.toList.drop 0 = dktX8_kind_0 := by decide +kernel
theorem dX8_kind_0 : decode cX8_kind 0 = .ok (.aload_n 0, 1) := dk_42 (dk_at dksX8_kind_0 0 rfl rfl)
theorem dX8_kind_1 : decode cX8_kind 1 = .ok (.invokespecial 9, 3) := dk_183 0 9 (dk_at dksX8_kind_0 1 rfl rfl)
theorem dX8_kind_4 : decode cX8_kind 4 = .ok (.iconst 3, 1) := dk_6 (dk_at dksX8_kind_0 4 rfl rfl)
theorem dX8_kind_5 : decode cX8_kind 5 = .ok (.iadd, 1) := dk_96 (dk_at dksX8_kind_0 5 rfl rfl)
theorem dX8_kind_6 : decode cX8_kind 6 = .ok (.ireturn, 1) := dk_172 (dk_at dksX8_kind_0 6 rfl rfl)
abbrev cX8_breadth : ByteArray := prog_9_method_3_code
def yX8_breadth : MethodName := ⟨RX8, "breadth", "([I)I"⟩
def dkwX8_breadth_0 : List UInt8 := [42, 180, 0, 13, 153, 0, 7, 3, 167, 0, 6, 43, 7, 46, 172]
abbrev dktX8_breadth_0 : List UInt8 := dkwX8_breadth_0 ++ []
theorem dksX8_breadth_0 : cX8_breadth.data.toList.drop 0 = dktX8_breadth_0 := by decide +kernel
theorem dX8_breadth_0 : decode cX8_breadth 0 = .ok (.aload_n 0, 1) := dk_42 (dk_at dksX8_breadth_0 0 rfl rfl)
theorem dX8_breadth_1 : decode cX8_breadth 1 = .ok (.getfield 13, 3) := dk_180 0 13 (dk_at dksX8_breadth_0 1 rfl rfl)
theorem dX8_breadth_4 : decode cX8_breadth 4 = .ok (.ifCond .eq 7, 3) := dk_153 0 7 (dk_at dksX8_breadth_0 4 rfl rfl)
theorem dX8_breadth_7 : decode cX8_breadth 7 = .ok (.iconst 0, 1) := dk_3 (dk_at dksX8_breadth_0 7 rfl rfl)
theorem dX8_breadth_8 : decode cX8_breadth 8 = .ok (.goto 6, 3) := dk_167 0 6 (dk_at dksX8_breadth_0 8 rfl rfl)
theorem dX8_breadth_11 : decode cX8_breadth 11 = .ok (.aload_n 1, 1) := dk_43 (dk_at dksX8_breadth_0 11 rfl rfl)
theorem dX8_breadth_12 : decode cX8_breadth 12 = .ok (.iconst 4, 1) := dk_7 (dk_at dksX8_breadth_0 12 rfl rfl)
theorem dX8_breadth_13 : decode cX8_breadth 13 = .ok (.iaload, 1) := dk_46 (dk_at dksX8_breadth_0 13 rfl rfl)
theorem dX8_breadth_14 : decode cX8_breadth 14 = .ok (.ireturn, 1) := dk_172 (dk_at dksX8_breadth_0 14 rfl rfl)
theorem q77 : (Jvm.Cond.initialized "SmokeLeans$Known") ∈ lw_all := lw_g (lw_at lw_m1 11 rfl) rfl
theorem q329 : (Jvm.Cond.fieldLink "SmokeLeans$Known" (13 : Nat) "SmokeLeans$Known" "isShut" "Z") ∈ lw_all := lw_g (lw_at lw_m2 23 rfl) rfl
theorem q330 : (Jvm.Cond.sameField "SmokeLeans$Known" "SmokeLeans$Gap" "isShut" "Z") ∈ lw_all := lw_g (lw_at lw_m2 24 rfl) rfl
theorem q378 : (Jvm.Cond.instantiable "SmokeLeans$Known" (7 : Nat)) ∈ lw_all := lw_g (lw_at lw_m2 72 rfl) rfl
theorem q380 : (Jvm.Cond.instanceMethod ({ cls := "SmokeLeans$Known", name := "<init>", desc := "(IIIIII)V" } : Jvm.MethodName)) ∈ lw_all := lw_g (lw_at lw_m2 74 rfl) rfl
theorem q381 : (Jvm.Cond.code ({ cls := "SmokeLeans$Known", name := "<init>", desc := "(IIIIII)V" } : Jvm.MethodName) prog_9_method_1_code (7 : Nat) (Option.none : Option Jvm.ClassFile.FieldType)) ∈ lw_all := lw_g (lw_at lw_m2 75 rfl) rfl
theorem q382 : (Jvm.Cond.methodLink "SmokeLeans$Known" (3 : Nat) ({ cls := "SmokeLeans$Gap", name := "<init>", desc := "(IIIIII)V" } : Jvm.MethodName)) ∈ lw_all := lw_g (lw_at lw_m2 76 rfl) rfl
theorem q383 : (Jvm.Cond.laysFinal "SmokeLeans$Known" "SmokeLeans$Gap" "room" "I") ∈ lw_all := lw_g (lw_at lw_m2 77 rfl) rfl
theorem q384 : (Jvm.Cond.laysFinal "SmokeLeans$Known" "SmokeLeans$Gap" "to" "I") ∈ lw_all := lw_g (lw_at lw_m2 78 rfl) rfl
theorem q385 : (Jvm.Cond.lays "SmokeLeans$Known" "SmokeLeans$Gap" "width" "I") ∈ lw_all := lw_g (lw_at lw_m2 79 rfl) rfl
theorem q386 : (Jvm.Cond.laysFinal "SmokeLeans$Known" "SmokeLeans$Gap" "height" "I") ∈ lw_all := lw_g (lw_at lw_m2 80 rfl) rfl
theorem q387 : (Jvm.Cond.laysFinal "SmokeLeans$Known" "SmokeLeans$Gap" "side" "I") ∈ lw_all := lw_g (lw_at lw_m2 81 rfl) rfl
theorem q388 : (Jvm.Cond.laysFinal "SmokeLeans$Known" "SmokeLeans$Gap" "cost" "I") ∈ lw_all := lw_g (lw_at lw_m2 82 rfl) rfl
theorem q389 : (Jvm.Cond.lays "SmokeLeans$Known" "SmokeLeans$Gap" "isShut" "Z") ∈ lw_all := lw_g (lw_at lw_m2 83 rfl) rfl
theorem q390 : (Jvm.Cond.superclass "SmokeLeans$Known" "SmokeLeans$Gap") ∈ lw_all := lw_g (lw_at lw_m2 84 rfl) rfl
theorem q448 : (Jvm.Cond.selects "SmokeLeans$Known" ({ cls := "SmokeLeans$Gap", name := "kind", desc := "()I" } : Jvm.MethodName) ({ cls := "SmokeLeans$Known", name := "kind", desc := "()I" } : Jvm.MethodName)) ∈ lw_all := lw_g (lw_at lw_m2 142 rfl) rfl
theorem q449 : (Jvm.Cond.instanceMethod ({ cls := "SmokeLeans$Known", name := "kind", desc := "()I" } : Jvm.MethodName)) ∈ lw_all := lw_g (lw_at lw_m2 143 rfl) rfl
theorem q450 : (Jvm.Cond.code ({ cls := "SmokeLeans$Known", name := "kind", desc := "()I" } : Jvm.MethodName) prog_9_method_2_code (1 : Nat) (Option.some Jvm.ClassFile.FieldType.int)) ∈ lw_all := lw_g (lw_at lw_m2 144 rfl) rfl
theorem q451 : (Jvm.Cond.methodLink "SmokeLeans$Known" (9 : Nat) ({ cls := "SmokeLeans$Gap", name := "kind", desc := "()I" } : Jvm.MethodName)) ∈ lw_all := lw_g (lw_at lw_m2 145 rfl) rfl
theorem q476 : (Jvm.Cond.selects "SmokeLeans$Known" ({ cls := "SmokeLeans$Gap", name := "breadth", desc := "([I)I" } : Jvm.MethodName) ({ cls := "SmokeLeans$Known", name := "breadth", desc := "([I)I" } : Jvm.MethodName)) ∈ lw_all := lw_g (lw_at lw_m2 170 rfl) rfl
theorem q477 : (Jvm.Cond.instanceMethod ({ cls := "SmokeLeans$Known", name := "breadth", desc := "([I)I" } : Jvm.MethodName)) ∈ lw_all := lw_g (lw_at lw_m2 171 rfl) rfl
theorem q478 : (Jvm.Cond.code ({ cls := "SmokeLeans$Known", name := "breadth", desc := "([I)I" } : Jvm.MethodName) prog_9_method_3_code (2 : Nat) (Option.some Jvm.ClassFile.FieldType.int)) ∈ lw_all := lw_g (lw_at lw_m2 172 rfl) rfl
theorem q496 : (Jvm.Cond.selects "SmokeLeans$Known" ({ cls := "SmokeLeans$Gap", name := "push", desc := "([I)I" } : Jvm.MethodName) ({ cls := "SmokeLeans$Gap", name := "push", desc := "([I)I" } : Jvm.MethodName)) ∈ lw_all := lw_g (lw_at lw_m2 190 rfl) rfl
theorem q504 : (Jvm.Cond.unhidden "SmokeLeans$Known" "wind" "(III)I") ∈ lw_tbl := lw_at lw_m2 198 rfl
theorem q536 : (Jvm.Cond.selects "SmokeLeans$Known" ({ cls := "SmokeLeans$Gap", name := "is", desc := "(I)Z" } : Jvm.MethodName) ({ cls := "SmokeLeans$Gap", name := "is", desc := "(I)Z" } : Jvm.MethodName)) ∈ lw_all := lw_g (lw_at lw_m2 230 rfl) rfl
theorem q1431 : (Jvm.Cond.castable "SmokeLeans$Known" "SmokeLeans$Gap") ∈ lw_tbl := lw_at lw_m6 165 rfl
theorem in_X8 : ∀ w ∈ wsX80, w ∈ lw_all := lw_in wsX80 [383, 384, 385, 386, 387, 388, 389] (by decide +kernel) (by decide +kernel)

/-! SmokeLeans$Turning -/
set_option maxRecDepth 100000
def RX9 : String := "SmokeLeans$Turning"
def TX9 : u_T := fun k => match k with
  | 0 => ("SmokeLeans$Gap", "room", "I", true)
  | 1 => ("SmokeLeans$Gap", "to", "I", true)
  | 2 => ("SmokeLeans$Gap", "width", "I", false)
  | 3 => ("SmokeLeans$Gap", "height", "I", true)
  | 4 => ("SmokeLeans$Gap", "side", "I", true)
  | 5 => ("SmokeLeans$Gap", "cost", "I", true)
  | _ => ("SmokeLeans$Gap", "isShut", "Z", false)
def tyX9 : Nat → FieldType := fun k => match k with
  | 0 => .int
  | 1 => .int
  | 2 => .int
  | 3 => .int
  | 4 => .int
  | 5 => .int
  | _ => .boolean
abbrev wsX90 : List Cond := u_ws RX9 TX9 7
theorem nmX9 : ∀ a, a < 7 → ∀ b, b < 7 → a ≠ b → (TX9 a).2.1 ≠ (TX9 b).2.1 := by decide +kernel
theorem tyX9_ok : ∀ k, k < 7 → parseFieldDescriptor (TX9 k).2.2.1 = some (tyX9 k) := by decide +kernel
abbrev cX9_init : ByteArray := prog_14_method_1_code
def yX9_init : MethodName := ⟨RX9, "<init>", "(IIIIII)V"⟩
def dkwX9_init_0 : List UInt8 := [42, 27, 28, 29, 21, 4, 21, 5, 21, 6, 183, 0, 3, 177]
abbrev dktX9_init_0 : List UInt8 := dkwX9_init_0 ++ []
theorem dksX9_init_0 : cX9_init.data.toList.drop 0 = dktX9_init_0 := by decide +kernel
theorem dX9_init_0 : decode cX9_init 0 = .ok (.aload_n 0, 1) := dk_42 (dk_at dksX9_init_0 0 rfl rfl)
theorem dX9_init_1 : decode cX9_init 1 = .ok (.iload_n 1, 1) := dk_27 (dk_at dksX9_init_0 1 rfl rfl)
theorem dX9_init_2 : decode cX9_init 2 = .ok (.iload_n 2, 1) := dk_28 (dk_at dksX9_init_0 2 rfl rfl)
theorem dX9_init_3 : decode cX9_init 3 = .ok (.iload_n 3, 1) := dk_29 (dk_at dksX9_init_0 3 rfl rfl)
theorem dX9_init_4 : decode cX9_init 4 = .ok (.iload 4, 2) := dk_21 4 (dk_at dksX9_init_0 4 rfl rfl)
theorem dX9_init_6 : decode cX9_init 6 = .ok (.iload 5, 2) := dk_21 5 (dk_at dksX9_init_0 6 rfl rfl)
theorem dX9_init_8 : decode cX9_init 8 = .ok (.iload 6, 2) := dk_21 6 (dk_at dksX9_init_0 8 rfl rfl)
theorem dX9_init_10 : decode cX9_init 10 = .ok (.invokespecial 3, 3) := dk_183 0 3 (dk_at dksX9_init_0 10 rfl rfl)
theorem dX9_init_13 : decode cX9_init 13 = .ok (.return_, 1) := dk_177 (dk_at dksX9_init_0 13 rfl rfl)
abbrev cX9_kind : ByteArray := prog_14_method_2_code
def yX9_kind : MethodName := ⟨RX9, "kind", "()I"⟩
def dkwX9_kind_0 : List UInt8 := [42, 183, 0, 9, 7, 96, 172]
abbrev dktX9_kind_0 : List UInt8 := dkwX9_kind_0 ++ []
theorem dksX9_kind_0 : cX9_kind.data.toList.drop 0 = dktX9_kind_0 := by decide +kernel
theorem dX9_kind_0 : decode cX9_kind 0 = .ok (.aload_n 0, 1) := dk_42 (dk_at dksX9_kind_0 0 rfl rfl)
theorem dX9_kind_1 : decode cX9_kind 1 = .ok (.invokespecial 9, 3) := dk_183 0 9 (dk_at dksX9_kind_0 1 rfl rfl)
theorem dX9_kind_4 : decode cX9_kind 4 = .ok (.iconst 4, 1) := dk_7 (dk_at dksX9_kind_0 4 rfl rfl)
theorem dX9_kind_5 : decode cX9_kind 5 = .ok (.iadd, 1) := dk_96 (dk_at dksX9_kind_0 5 rfl rfl)
theorem dX9_kind_6 : decode cX9_kind 6 = .ok (.ireturn, 1) := dk_172 (dk_at dksX9_kind_0 6 rfl rfl)
abbrev cX9_breadth : ByteArray := prog_14_method_3_code
def yX9_breadth : MethodName := ⟨RX9, "breadth", "([I)I"⟩
def dkwX9_breadth_1 : List UInt8 := [4, 167, 0, 4, 3, 61, 28, 153, 0, 7, 5, 167, 0, 4, 4, 42, 43, 183, 0, 22, 104, 172]
abbrev dktX9_breadth_1 : List UInt8 := dkwX9_breadth_1 ++ []
def dkwX9_breadth_0 : List UInt8 := [42, 180, 0, 13, 2, 160, 0, 23, 43, 4, 46, 158, 0, 17, 43, 5, 46, 42, 180, 0, 19, 160, 0, 7]
abbrev dktX9_breadth_0 : List UInt8 := dkwX9_breadth_0 ++ dktX9_breadth_1
theorem dksX9_breadth_0 : cX9_breadth.data.toList.drop 0 = dktX9_breadth_0 := by decide +kernel
theorem dksX9_breadth_1 : cX9_breadth.data.toList.drop 24 = dktX9_breadth_1 := dk_seg dksX9_breadth_0 24 rfl rfl
theorem dX9_breadth_0 : decode cX9_breadth 0 = .ok (.aload_n 0, 1) := dk_42 (dk_at dksX9_breadth_0 0 rfl rfl)
theorem dX9_breadth_1 : decode cX9_breadth 1 = .ok (.getfield 13, 3) := dk_180 0 13 (dk_at dksX9_breadth_0 1 rfl rfl)
theorem dX9_breadth_4 : decode cX9_breadth 4 = .ok (.iconst (-1), 1) := dk_2 (dk_at dksX9_breadth_0 4 rfl rfl)
theorem dX9_breadth_5 : decode cX9_breadth 5 = .ok (.if_icmp .ne 23, 3) := dk_160 0 23 (dk_at dksX9_breadth_0 5 rfl rfl)
theorem dX9_breadth_8 : decode cX9_breadth 8 = .ok (.aload_n 1, 1) := dk_43 (dk_at dksX9_breadth_0 8 rfl rfl)
theorem dX9_breadth_9 : decode cX9_breadth 9 = .ok (.iconst 1, 1) := dk_4 (dk_at dksX9_breadth_0 9 rfl rfl)
theorem dX9_breadth_10 : decode cX9_breadth 10 = .ok (.iaload, 1) := dk_46 (dk_at dksX9_breadth_0 10 rfl rfl)
theorem dX9_breadth_11 : decode cX9_breadth 11 = .ok (.ifCond .le 17, 3) := dk_158 0 17 (dk_at dksX9_breadth_0 11 rfl rfl)
theorem dX9_breadth_14 : decode cX9_breadth 14 = .ok (.aload_n 1, 1) := dk_43 (dk_at dksX9_breadth_0 14 rfl rfl)
theorem dX9_breadth_15 : decode cX9_breadth 15 = .ok (.iconst 2, 1) := dk_5 (dk_at dksX9_breadth_0 15 rfl rfl)
theorem dX9_breadth_16 : decode cX9_breadth 16 = .ok (.iaload, 1) := dk_46 (dk_at dksX9_breadth_0 16 rfl rfl)
theorem dX9_breadth_17 : decode cX9_breadth 17 = .ok (.aload_n 0, 1) := dk_42 (dk_at dksX9_breadth_0 17 rfl rfl)
theorem dX9_breadth_18 : decode cX9_breadth 18 = .ok (.getfield 19, 3) := dk_180 0 19 (dk_at dksX9_breadth_0 18 rfl rfl)
theorem dX9_breadth_21 : decode cX9_breadth 21 = .ok (.if_icmp .ne 7, 3) := dk_160 0 7 (dk_at dksX9_breadth_0 21 rfl rfl)
theorem dX9_breadth_24 : decode cX9_breadth 24 = .ok (.iconst 1, 1) := dk_4 (dk_at dksX9_breadth_1 0 rfl rfl)
theorem dX9_breadth_25 : decode cX9_breadth 25 = .ok (.goto 4, 3) := dk_167 0 4 (dk_at dksX9_breadth_1 1 rfl rfl)
theorem dX9_breadth_28 : decode cX9_breadth 28 = .ok (.iconst 0, 1) := dk_3 (dk_at dksX9_breadth_1 4 rfl rfl)
theorem dX9_breadth_29 : decode cX9_breadth 29 = .ok (.istore_n 2, 1) := dk_61 (dk_at dksX9_breadth_1 5 rfl rfl)
theorem dX9_breadth_30 : decode cX9_breadth 30 = .ok (.iload_n 2, 1) := dk_28 (dk_at dksX9_breadth_1 6 rfl rfl)
theorem dX9_breadth_31 : decode cX9_breadth 31 = .ok (.ifCond .eq 7, 3) := dk_153 0 7 (dk_at dksX9_breadth_1 7 rfl rfl)
theorem dX9_breadth_34 : decode cX9_breadth 34 = .ok (.iconst 2, 1) := dk_5 (dk_at dksX9_breadth_1 10 rfl rfl)
theorem dX9_breadth_35 : decode cX9_breadth 35 = .ok (.goto 4, 3) := dk_167 0 4 (dk_at dksX9_breadth_1 11 rfl rfl)
theorem dX9_breadth_38 : decode cX9_breadth 38 = .ok (.iconst 1, 1) := dk_4 (dk_at dksX9_breadth_1 14 rfl rfl)
theorem dX9_breadth_39 : decode cX9_breadth 39 = .ok (.aload_n 0, 1) := dk_42 (dk_at dksX9_breadth_1 15 rfl rfl)
theorem dX9_breadth_40 : decode cX9_breadth 40 = .ok (.aload_n 1, 1) := dk_43 (dk_at dksX9_breadth_1 16 rfl rfl)
theorem dX9_breadth_41 : decode cX9_breadth 41 = .ok (.invokespecial 22, 3) := dk_183 0 22 (dk_at dksX9_breadth_1 17 rfl rfl)
theorem dX9_breadth_44 : decode cX9_breadth 44 = .ok (.imul, 1) := dk_104 (dk_at dksX9_breadth_1 20 rfl rfl)
theorem dX9_breadth_45 : decode cX9_breadth 45 = .ok (.ireturn, 1) := dk_172 (dk_at dksX9_breadth_1 21 rfl rfl)
theorem q78 : (Jvm.Cond.initialized "SmokeLeans$Turning") ∈ lw_all := lw_g (lw_at lw_m1 12 rfl) rfl
theorem q315 : (Jvm.Cond.fieldLink "SmokeLeans$Turning" (13 : Nat) "SmokeLeans$Turning" "to" "I") ∈ lw_all := lw_g (lw_at lw_m2 9 rfl) rfl
theorem q316 : (Jvm.Cond.sameField "SmokeLeans$Turning" "SmokeLeans$Gap" "to" "I") ∈ lw_all := lw_g (lw_at lw_m2 10 rfl) rfl
theorem q324 : (Jvm.Cond.fieldLink "SmokeLeans$Turning" (19 : Nat) "SmokeLeans$Turning" "side" "I") ∈ lw_all := lw_g (lw_at lw_m2 18 rfl) rfl
theorem q325 : (Jvm.Cond.sameField "SmokeLeans$Turning" "SmokeLeans$Gap" "side" "I") ∈ lw_all := lw_g (lw_at lw_m2 19 rfl) rfl
theorem q392 : (Jvm.Cond.instantiable "SmokeLeans$Turning" (7 : Nat)) ∈ lw_all := lw_g (lw_at lw_m2 86 rfl) rfl
theorem q394 : (Jvm.Cond.instanceMethod ({ cls := "SmokeLeans$Turning", name := "<init>", desc := "(IIIIII)V" } : Jvm.MethodName)) ∈ lw_all := lw_g (lw_at lw_m2 88 rfl) rfl
theorem q395 : (Jvm.Cond.code ({ cls := "SmokeLeans$Turning", name := "<init>", desc := "(IIIIII)V" } : Jvm.MethodName) prog_14_method_1_code (7 : Nat) (Option.none : Option Jvm.ClassFile.FieldType)) ∈ lw_all := lw_g (lw_at lw_m2 89 rfl) rfl
theorem q396 : (Jvm.Cond.methodLink "SmokeLeans$Turning" (3 : Nat) ({ cls := "SmokeLeans$Gap", name := "<init>", desc := "(IIIIII)V" } : Jvm.MethodName)) ∈ lw_all := lw_g (lw_at lw_m2 90 rfl) rfl
theorem q397 : (Jvm.Cond.laysFinal "SmokeLeans$Turning" "SmokeLeans$Gap" "room" "I") ∈ lw_all := lw_g (lw_at lw_m2 91 rfl) rfl
theorem q398 : (Jvm.Cond.laysFinal "SmokeLeans$Turning" "SmokeLeans$Gap" "to" "I") ∈ lw_all := lw_g (lw_at lw_m2 92 rfl) rfl
theorem q399 : (Jvm.Cond.lays "SmokeLeans$Turning" "SmokeLeans$Gap" "width" "I") ∈ lw_all := lw_g (lw_at lw_m2 93 rfl) rfl
theorem q400 : (Jvm.Cond.laysFinal "SmokeLeans$Turning" "SmokeLeans$Gap" "height" "I") ∈ lw_all := lw_g (lw_at lw_m2 94 rfl) rfl
theorem q401 : (Jvm.Cond.laysFinal "SmokeLeans$Turning" "SmokeLeans$Gap" "side" "I") ∈ lw_all := lw_g (lw_at lw_m2 95 rfl) rfl
theorem q402 : (Jvm.Cond.laysFinal "SmokeLeans$Turning" "SmokeLeans$Gap" "cost" "I") ∈ lw_all := lw_g (lw_at lw_m2 96 rfl) rfl
theorem q403 : (Jvm.Cond.lays "SmokeLeans$Turning" "SmokeLeans$Gap" "isShut" "Z") ∈ lw_all := lw_g (lw_at lw_m2 97 rfl) rfl
theorem q404 : (Jvm.Cond.superclass "SmokeLeans$Turning" "SmokeLeans$Gap") ∈ lw_all := lw_g (lw_at lw_m2 98 rfl) rfl
theorem q453 : (Jvm.Cond.selects "SmokeLeans$Turning" ({ cls := "SmokeLeans$Gap", name := "kind", desc := "()I" } : Jvm.MethodName) ({ cls := "SmokeLeans$Turning", name := "kind", desc := "()I" } : Jvm.MethodName)) ∈ lw_all := lw_g (lw_at lw_m2 147 rfl) rfl
theorem q454 : (Jvm.Cond.instanceMethod ({ cls := "SmokeLeans$Turning", name := "kind", desc := "()I" } : Jvm.MethodName)) ∈ lw_all := lw_g (lw_at lw_m2 148 rfl) rfl
theorem q455 : (Jvm.Cond.code ({ cls := "SmokeLeans$Turning", name := "kind", desc := "()I" } : Jvm.MethodName) prog_14_method_2_code (1 : Nat) (Option.some Jvm.ClassFile.FieldType.int)) ∈ lw_all := lw_g (lw_at lw_m2 149 rfl) rfl
theorem q456 : (Jvm.Cond.methodLink "SmokeLeans$Turning" (9 : Nat) ({ cls := "SmokeLeans$Gap", name := "kind", desc := "()I" } : Jvm.MethodName)) ∈ lw_all := lw_g (lw_at lw_m2 150 rfl) rfl
theorem q480 : (Jvm.Cond.selects "SmokeLeans$Turning" ({ cls := "SmokeLeans$Gap", name := "breadth", desc := "([I)I" } : Jvm.MethodName) ({ cls := "SmokeLeans$Turning", name := "breadth", desc := "([I)I" } : Jvm.MethodName)) ∈ lw_all := lw_g (lw_at lw_m2 174 rfl) rfl
theorem q481 : (Jvm.Cond.instanceMethod ({ cls := "SmokeLeans$Turning", name := "breadth", desc := "([I)I" } : Jvm.MethodName)) ∈ lw_all := lw_g (lw_at lw_m2 175 rfl) rfl
theorem q482 : (Jvm.Cond.code ({ cls := "SmokeLeans$Turning", name := "breadth", desc := "([I)I" } : Jvm.MethodName) prog_14_method_3_code (3 : Nat) (Option.some Jvm.ClassFile.FieldType.int)) ∈ lw_all := lw_g (lw_at lw_m2 176 rfl) rfl
theorem q483 : (Jvm.Cond.methodLink "SmokeLeans$Turning" (22 : Nat) ({ cls := "SmokeLeans$Gap", name := "breadth", desc := "([I)I" } : Jvm.MethodName)) ∈ lw_all := lw_g (lw_at lw_m2 177 rfl) rfl
theorem q498 : (Jvm.Cond.selects "SmokeLeans$Turning" ({ cls := "SmokeLeans$Gap", name := "push", desc := "([I)I" } : Jvm.MethodName) ({ cls := "SmokeLeans$Gap", name := "push", desc := "([I)I" } : Jvm.MethodName)) ∈ lw_all := lw_g (lw_at lw_m2 192 rfl) rfl
theorem q506 : (Jvm.Cond.unhidden "SmokeLeans$Turning" "wind" "(III)I") ∈ lw_tbl := lw_at lw_m2 200 rfl
theorem q538 : (Jvm.Cond.selects "SmokeLeans$Turning" ({ cls := "SmokeLeans$Gap", name := "is", desc := "(I)Z" } : Jvm.MethodName) ({ cls := "SmokeLeans$Gap", name := "is", desc := "(I)Z" } : Jvm.MethodName)) ∈ lw_all := lw_g (lw_at lw_m2 232 rfl) rfl
theorem q1433 : (Jvm.Cond.castable "SmokeLeans$Turning" "SmokeLeans$Gap") ∈ lw_tbl := lw_at lw_m6 167 rfl
theorem in_X9 : ∀ w ∈ wsX90, w ∈ lw_all := lw_in wsX90 [397, 398, 399, 400, 401, 402, 403] (by decide +kernel) (by decide +kernel)

/-! SmokeLeans$Chimney -/
set_option maxRecDepth 100000
def RX10 : String := "SmokeLeans$Chimney"
def TX10 : u_T := fun k => match k with
  | 0 => ("SmokeLeans$Gap", "room", "I", true)
  | 1 => ("SmokeLeans$Gap", "to", "I", true)
  | 2 => ("SmokeLeans$Gap", "width", "I", false)
  | 3 => ("SmokeLeans$Gap", "height", "I", true)
  | 4 => ("SmokeLeans$Gap", "side", "I", true)
  | 5 => ("SmokeLeans$Gap", "cost", "I", true)
  | _ => ("SmokeLeans$Gap", "isShut", "Z", false)
def tyX10 : Nat → FieldType := fun k => match k with
  | 0 => .int
  | 1 => .int
  | 2 => .int
  | 3 => .int
  | 4 => .int
  | 5 => .int
  | _ => .boolean
abbrev wsX100 : List Cond := u_ws RX10 TX10 7
theorem nmX10 : ∀ a, a < 7 → ∀ b, b < 7 → a ≠ b → (TX10 a).2.1 ≠ (TX10 b).2.1 := by decide +kernel
theorem tyX10_ok : ∀ k, k < 7 → parseFieldDescriptor (TX10 k).2.2.1 = some (tyX10 k) := by decide +kernel
abbrev cX10_init : ByteArray := prog_3_method_1_code
def yX10_init : MethodName := ⟨RX10, "<init>", "(IIIIII)V"⟩
def dkwX10_init_0 : List UInt8 := [42, 27, 28, 29, 21, 4, 21, 5, 21, 6, 183, 0, 3, 177]
abbrev dktX10_init_0 : List UInt8 := dkwX10_init_0 ++ []
theorem dksX10_init_0 : cX10_init.data.toList.drop 0 = dktX10_init_0 := by decide +kernel
theorem dX10_init_0 : decode cX10_init 0 = .ok (.aload_n 0, 1) := dk_42 (dk_at dksX10_init_0 0 rfl rfl)
theorem dX10_init_1 : decode cX10_init 1 = .ok (.iload_n 1, 1) := dk_27 (dk_at dksX10_init_0 1 rfl rfl)
theorem dX10_init_2 : decode cX10_init 2 = .ok (.iload_n 2, 1) := dk_28 (dk_at dksX10_init_0 2 rfl rfl)
theorem dX10_init_3 : decode cX10_init 3 = .ok (.iload_n 3, 1) := dk_29 (dk_at dksX10_init_0 3 rfl rfl)
theorem dX10_init_4 : decode cX10_init 4 = .ok (.iload 4, 2) := dk_21 4 (dk_at dksX10_init_0 4 rfl rfl)
theorem dX10_init_6 : decode cX10_init 6 = .ok (.iload 5, 2) := dk_21 5 (dk_at dksX10_init_0 6 rfl rfl)
theorem dX10_init_8 : decode cX10_init 8 = .ok (.iload 6, 2) := dk_21 6 (dk_at dksX10_init_0 8 rfl rfl)
theorem dX10_init_10 : decode cX10_init 10 = .ok (.invokespecial 3, 3) := dk_183 0 3 (dk_at dksX10_init_0 10 rfl rfl)
theorem dX10_init_13 : decode cX10_init 13 = .ok (.return_, 1) := dk_177 (dk_at dksX10_init_0 13 rfl rfl)
abbrev cX10_kind : ByteArray := prog_3_method_2_code
def yX10_kind : MethodName := ⟨RX10, "kind", "()I"⟩
def dkwX10_kind_0 : List UInt8 := [42, 183, 0, 9, 6, 96, 172]
abbrev dktX10_kind_0 : List UInt8 := dkwX10_kind_0 ++ []
theorem dksX10_kind_0 : cX10_kind.data.toList.drop 0 = dktX10_kind_0 := by decide +kernel
theorem dX10_kind_0 : decode cX10_kind 0 = .ok (.aload_n 0, 1) := dk_42 (dk_at dksX10_kind_0 0 rfl rfl)
theorem dX10_kind_1 : decode cX10_kind 1 = .ok (.invokespecial 9, 3) := dk_183 0 9 (dk_at dksX10_kind_0 1 rfl rfl)
theorem dX10_kind_4 : decode cX10_kind 4 = .ok (.iconst 3, 1) := dk_6 (dk_at dksX10_kind_0 4 rfl rfl)
theorem dX10_kind_5 : decode cX10_kind 5 = .ok (.iadd, 1) := dk_96 (dk_at dksX10_kind_0 5 rfl rfl)
theorem dX10_kind_6 : decode cX10_kind 6 = .ok (.ireturn, 1) := dk_172 (dk_at dksX10_kind_0 6 rfl rfl)
abbrev cX10_push : ByteArray := prog_3_method_3_code
def yX10_push : MethodName := ⟨RX10, "push", "([I)I"⟩
def dkwX10_push_0 : List UInt8 := [42, 43, 183, 0, 13, 6, 43, 3, 46, 104, 100, 172]
abbrev dktX10_push_0 : List UInt8 := dkwX10_push_0 ++ []
theorem dksX10_push_0 : cX10_push.data.toList.drop 0 = dktX10_push_0 := by decide +kernel
theorem dX10_push_0 : decode cX10_push 0 = .ok (.aload_n 0, 1) := dk_42 (dk_at dksX10_push_0 0 rfl rfl)
theorem dX10_push_1 : decode cX10_push 1 = .ok (.aload_n 1, 1) := dk_43 (dk_at dksX10_push_0 1 rfl rfl)
theorem dX10_push_2 : decode cX10_push 2 = .ok (.invokespecial 13, 3) := dk_183 0 13 (dk_at dksX10_push_0 2 rfl rfl)
theorem dX10_push_5 : decode cX10_push 5 = .ok (.iconst 3, 1) := dk_6 (dk_at dksX10_push_0 5 rfl rfl)
theorem dX10_push_6 : decode cX10_push 6 = .ok (.aload_n 1, 1) := dk_43 (dk_at dksX10_push_0 6 rfl rfl)
theorem dX10_push_7 : decode cX10_push 7 = .ok (.iconst 0, 1) := dk_3 (dk_at dksX10_push_0 7 rfl rfl)
theorem dX10_push_8 : decode cX10_push 8 = .ok (.iaload, 1) := dk_46 (dk_at dksX10_push_0 8 rfl rfl)
theorem dX10_push_9 : decode cX10_push 9 = .ok (.imul, 1) := dk_104 (dk_at dksX10_push_0 9 rfl rfl)
theorem dX10_push_10 : decode cX10_push 10 = .ok (.isub, 1) := dk_100 (dk_at dksX10_push_0 10 rfl rfl)
theorem dX10_push_11 : decode cX10_push 11 = .ok (.ireturn, 1) := dk_172 (dk_at dksX10_push_0 11 rfl rfl)
theorem q79 : (Jvm.Cond.initialized "SmokeLeans$Chimney") ∈ lw_all := lw_g (lw_at lw_m1 13 rfl) rfl
theorem q406 : (Jvm.Cond.instantiable "SmokeLeans$Chimney" (7 : Nat)) ∈ lw_all := lw_g (lw_at lw_m2 100 rfl) rfl
theorem q408 : (Jvm.Cond.instanceMethod ({ cls := "SmokeLeans$Chimney", name := "<init>", desc := "(IIIIII)V" } : Jvm.MethodName)) ∈ lw_all := lw_g (lw_at lw_m2 102 rfl) rfl
theorem q409 : (Jvm.Cond.code ({ cls := "SmokeLeans$Chimney", name := "<init>", desc := "(IIIIII)V" } : Jvm.MethodName) prog_3_method_1_code (7 : Nat) (Option.none : Option Jvm.ClassFile.FieldType)) ∈ lw_all := lw_g (lw_at lw_m2 103 rfl) rfl
theorem q410 : (Jvm.Cond.methodLink "SmokeLeans$Chimney" (3 : Nat) ({ cls := "SmokeLeans$Needed", name := "<init>", desc := "(IIIIII)V" } : Jvm.MethodName)) ∈ lw_all := lw_g (lw_at lw_m2 104 rfl) rfl
theorem q411 : (Jvm.Cond.laysFinal "SmokeLeans$Chimney" "SmokeLeans$Gap" "room" "I") ∈ lw_all := lw_g (lw_at lw_m2 105 rfl) rfl
theorem q412 : (Jvm.Cond.laysFinal "SmokeLeans$Chimney" "SmokeLeans$Gap" "to" "I") ∈ lw_all := lw_g (lw_at lw_m2 106 rfl) rfl
theorem q413 : (Jvm.Cond.lays "SmokeLeans$Chimney" "SmokeLeans$Gap" "width" "I") ∈ lw_all := lw_g (lw_at lw_m2 107 rfl) rfl
theorem q414 : (Jvm.Cond.laysFinal "SmokeLeans$Chimney" "SmokeLeans$Gap" "height" "I") ∈ lw_all := lw_g (lw_at lw_m2 108 rfl) rfl
theorem q415 : (Jvm.Cond.laysFinal "SmokeLeans$Chimney" "SmokeLeans$Gap" "side" "I") ∈ lw_all := lw_g (lw_at lw_m2 109 rfl) rfl
theorem q416 : (Jvm.Cond.laysFinal "SmokeLeans$Chimney" "SmokeLeans$Gap" "cost" "I") ∈ lw_all := lw_g (lw_at lw_m2 110 rfl) rfl
theorem q417 : (Jvm.Cond.lays "SmokeLeans$Chimney" "SmokeLeans$Gap" "isShut" "Z") ∈ lw_all := lw_g (lw_at lw_m2 111 rfl) rfl
theorem q418 : (Jvm.Cond.superclass "SmokeLeans$Chimney" "SmokeLeans$Needed") ∈ lw_all := lw_g (lw_at lw_m2 112 rfl) rfl
theorem q437 : (Jvm.Cond.selects "SmokeLeans$Chimney" ({ cls := "SmokeLeans$Gap", name := "kind", desc := "()I" } : Jvm.MethodName) ({ cls := "SmokeLeans$Chimney", name := "kind", desc := "()I" } : Jvm.MethodName)) ∈ lw_all := lw_g (lw_at lw_m2 131 rfl) rfl
theorem q438 : (Jvm.Cond.instanceMethod ({ cls := "SmokeLeans$Chimney", name := "kind", desc := "()I" } : Jvm.MethodName)) ∈ lw_all := lw_g (lw_at lw_m2 132 rfl) rfl
theorem q439 : (Jvm.Cond.code ({ cls := "SmokeLeans$Chimney", name := "kind", desc := "()I" } : Jvm.MethodName) prog_3_method_2_code (1 : Nat) (Option.some Jvm.ClassFile.FieldType.int)) ∈ lw_all := lw_g (lw_at lw_m2 133 rfl) rfl
theorem q440 : (Jvm.Cond.methodLink "SmokeLeans$Chimney" (9 : Nat) ({ cls := "SmokeLeans$Needed", name := "kind", desc := "()I" } : Jvm.MethodName)) ∈ lw_all := lw_g (lw_at lw_m2 134 rfl) rfl
theorem q471 : (Jvm.Cond.selects "SmokeLeans$Chimney" ({ cls := "SmokeLeans$Gap", name := "breadth", desc := "([I)I" } : Jvm.MethodName) ({ cls := "SmokeLeans$Gap", name := "breadth", desc := "([I)I" } : Jvm.MethodName)) ∈ lw_all := lw_g (lw_at lw_m2 165 rfl) rfl
theorem q489 : (Jvm.Cond.selects "SmokeLeans$Chimney" ({ cls := "SmokeLeans$Gap", name := "push", desc := "([I)I" } : Jvm.MethodName) ({ cls := "SmokeLeans$Chimney", name := "push", desc := "([I)I" } : Jvm.MethodName)) ∈ lw_all := lw_g (lw_at lw_m2 183 rfl) rfl
theorem q490 : (Jvm.Cond.instanceMethod ({ cls := "SmokeLeans$Chimney", name := "push", desc := "([I)I" } : Jvm.MethodName)) ∈ lw_all := lw_g (lw_at lw_m2 184 rfl) rfl
theorem q491 : (Jvm.Cond.code ({ cls := "SmokeLeans$Chimney", name := "push", desc := "([I)I" } : Jvm.MethodName) prog_3_method_3_code (2 : Nat) (Option.some Jvm.ClassFile.FieldType.int)) ∈ lw_all := lw_g (lw_at lw_m2 185 rfl) rfl
theorem q492 : (Jvm.Cond.methodLink "SmokeLeans$Chimney" (13 : Nat) ({ cls := "SmokeLeans$Needed", name := "push", desc := "([I)I" } : Jvm.MethodName)) ∈ lw_all := lw_g (lw_at lw_m2 186 rfl) rfl
theorem q501 : (Jvm.Cond.unhidden "SmokeLeans$Chimney" "wind" "(III)I") ∈ lw_tbl := lw_at lw_m2 195 rfl
theorem q531 : (Jvm.Cond.selects "SmokeLeans$Chimney" ({ cls := "SmokeLeans$Gap", name := "is", desc := "(I)Z" } : Jvm.MethodName) ({ cls := "SmokeLeans$Needed", name := "is", desc := "(I)Z" } : Jvm.MethodName)) ∈ lw_all := lw_g (lw_at lw_m2 225 rfl) rfl
theorem q1429 : (Jvm.Cond.castable "SmokeLeans$Chimney" "SmokeLeans$Gap") ∈ lw_tbl := lw_at lw_m6 163 rfl
theorem in_X10 : ∀ w ∈ wsX100, w ∈ lw_all := lw_in wsX100 [411, 412, 413, 414, 415, 416, 417] (by decide +kernel) (by decide +kernel)

/-! SmokeLeans$Fault -/
set_option maxRecDepth 100000
def RX12 : String := "SmokeLeans$Fault"
def TX12 : u_T := fun k => match k with
  | 0 => ("java/lang/Throwable", "cause", "Ljava/lang/Throwable;", false)
  | 1 => ("java/lang/Throwable", "stackTrace", "[Ljava/lang/StackTraceElement;", false)
  | 2 => ("java/lang/Throwable", "suppressedExceptions", "Ljava/util/List;", false)
  | 3 => ("java/lang/Throwable", "detailMessage", "Ljava/lang/String;", false)
  | 4 => ("java/lang/Throwable", "backtrace", "Ljava/lang/Object;", false)
  | 5 => ("java/lang/Throwable", "depth", "I", false)
  | _ => ("SmokeLeans$Fault", "place", "I", true)
def tyX12 : Nat → FieldType := fun k => match k with
  | 0 => .object "java/lang/Throwable"
  | 1 => .array (.object "java/lang/StackTraceElement")
  | 2 => .object "java/util/List"
  | 3 => .object "java/lang/String"
  | 4 => .object "java/lang/Object"
  | 5 => .int
  | _ => .int
abbrev wsX120 : List Cond := u_ws RX12 TX12 7
theorem nmX12 : ∀ a, a < 7 → ∀ b, b < 7 → a ≠ b → (TX12 a).2.1 ≠ (TX12 b).2.1 := by decide +kernel
theorem tyX12_ok : ∀ k, k < 7 → parseFieldDescriptor (TX12 k).2.2.1 = some (tyX12 k) := by decide +kernel
abbrev cX12_init : ByteArray := prog_4_method_1_code
def yX12_init : MethodName := ⟨RX12, "<init>", "(I)V"⟩
def dkwX12_init_0 : List UInt8 := [42, 1, 1, 3, 3, 183, 0, 1, 42, 27, 181, 0, 7, 177]
abbrev dktX12_init_0 : List UInt8 := dkwX12_init_0 ++ []
theorem dksX12_init_0 : cX12_init.data.toList.drop 0 = dktX12_init_0 := by decide +kernel
theorem dX12_init_0 : decode cX12_init 0 = .ok (.aload_n 0, 1) := dk_42 (dk_at dksX12_init_0 0 rfl rfl)
theorem dX12_init_1 : decode cX12_init 1 = .ok (.aconst_null, 1) := dk_1 (dk_at dksX12_init_0 1 rfl rfl)
theorem dX12_init_2 : decode cX12_init 2 = .ok (.aconst_null, 1) := dk_1 (dk_at dksX12_init_0 2 rfl rfl)
theorem dX12_init_3 : decode cX12_init 3 = .ok (.iconst 0, 1) := dk_3 (dk_at dksX12_init_0 3 rfl rfl)
theorem dX12_init_4 : decode cX12_init 4 = .ok (.iconst 0, 1) := dk_3 (dk_at dksX12_init_0 4 rfl rfl)
theorem dX12_init_5 : decode cX12_init 5 = .ok (.invokespecial 1, 3) := dk_183 0 1 (dk_at dksX12_init_0 5 rfl rfl)
theorem dX12_init_8 : decode cX12_init 8 = .ok (.aload_n 0, 1) := dk_42 (dk_at dksX12_init_0 8 rfl rfl)
theorem dX12_init_9 : decode cX12_init 9 = .ok (.iload_n 1, 1) := dk_27 (dk_at dksX12_init_0 9 rfl rfl)
theorem dX12_init_10 : decode cX12_init 10 = .ok (.putfield 7, 3) := dk_181 0 7 (dk_at dksX12_init_0 10 rfl rfl)
theorem dX12_init_13 : decode cX12_init 13 = .ok (.return_, 1) := dk_177 (dk_at dksX12_init_0 13 rfl rfl)
theorem q86 : (Jvm.Cond.initialized "SmokeLeans$Fault") ∈ lw_all := lw_g (lw_at lw_m1 20 rfl) rfl
theorem q240 : (Jvm.Cond.selects "SmokeLeans$Fault" ({ cls := "java/lang/Throwable", name := "fillInStackTrace", desc := "()Ljava/lang/Throwable;" } : Jvm.MethodName) ({ cls := "java/lang/Throwable", name := "fillInStackTrace", desc := "()Ljava/lang/Throwable;" } : Jvm.MethodName)) ∈ lw_all := lw_g (lw_at lw_m1 174 rfl) rfl
theorem q689 : (Jvm.Cond.instantiable "SmokeLeans$Fault" (7 : Nat)) ∈ lw_all := lw_g (lw_at lw_m3 143 rfl) rfl
theorem q690 : (Jvm.Cond.castable "SmokeLeans$Fault" "SmokeLeans$Fault") ∈ lw_tbl := lw_at lw_m3 144 rfl
theorem q691 : (Jvm.Cond.selects "SmokeLeans$Fault" ({ cls := "java/lang/Throwable", name := "fillInStackTrace", desc := "(I)Ljava/lang/Throwable;" } : Jvm.MethodName) ({ cls := "java/lang/Throwable", name := "fillInStackTrace", desc := "(I)Ljava/lang/Throwable;" } : Jvm.MethodName)) ∈ lw_all := lw_g (lw_at lw_m3 145 rfl) rfl
theorem q692 : (Jvm.Cond.lays "SmokeLeans$Fault" "java/lang/Throwable" "cause" "Ljava/lang/Throwable;") ∈ lw_all := lw_g (lw_at lw_m3 146 rfl) rfl
theorem q693 : (Jvm.Cond.lays "SmokeLeans$Fault" "java/lang/Throwable" "stackTrace" "[Ljava/lang/StackTraceElement;") ∈ lw_all := lw_g (lw_at lw_m3 147 rfl) rfl
theorem q694 : (Jvm.Cond.lays "SmokeLeans$Fault" "java/lang/Throwable" "suppressedExceptions" "Ljava/util/List;") ∈ lw_all := lw_g (lw_at lw_m3 148 rfl) rfl
theorem q695 : (Jvm.Cond.lays "SmokeLeans$Fault" "java/lang/Throwable" "detailMessage" "Ljava/lang/String;") ∈ lw_all := lw_g (lw_at lw_m3 149 rfl) rfl
theorem q696 : (Jvm.Cond.lays "SmokeLeans$Fault" "java/lang/Throwable" "backtrace" "Ljava/lang/Object;") ∈ lw_all := lw_g (lw_at lw_m3 150 rfl) rfl
theorem q698 : (Jvm.Cond.instanceMethod ({ cls := "SmokeLeans$Fault", name := "<init>", desc := "(I)V" } : Jvm.MethodName)) ∈ lw_all := lw_g (lw_at lw_m3 152 rfl) rfl
theorem q699 : (Jvm.Cond.code ({ cls := "SmokeLeans$Fault", name := "<init>", desc := "(I)V" } : Jvm.MethodName) prog_4_method_1_code (2 : Nat) (Option.none : Option Jvm.ClassFile.FieldType)) ∈ lw_all := lw_g (lw_at lw_m3 153 rfl) rfl
theorem q700 : (Jvm.Cond.methodLink "SmokeLeans$Fault" (1 : Nat) ({ cls := "java/lang/Exception", name := "<init>", desc := "(Ljava/lang/String;Ljava/lang/Throwable;ZZ)V" } : Jvm.MethodName)) ∈ lw_all := lw_g (lw_at lw_m3 154 rfl) rfl
theorem q701 : (Jvm.Cond.fieldLink "SmokeLeans$Fault" (7 : Nat) "SmokeLeans$Fault" "place" "I") ∈ lw_all := lw_g (lw_at lw_m3 155 rfl) rfl
theorem q703 : (Jvm.Cond.laysFinal "SmokeLeans$Fault" "SmokeLeans$Fault" "place" "I") ∈ lw_all := lw_g (lw_at lw_m3 157 rfl) rfl
theorem q704 : (Jvm.Cond.soleField "SmokeLeans$Fault" "place") ∈ lw_all := lw_g (lw_at lw_m3 158 rfl) rfl
theorem q705 : (Jvm.Cond.lays "SmokeLeans$Fault" "java/lang/Throwable" "depth" "I") ∈ lw_all := lw_g (lw_at lw_m3 159 rfl) rfl
theorem q706 : (Jvm.Cond.superclass "SmokeLeans$Fault" "java/lang/Exception") ∈ lw_all := lw_g (lw_at lw_m3 160 rfl) rfl
theorem in_X12 : ∀ w ∈ wsX120, w ∈ lw_all := lw_in wsX120 [692, 693, 694, 695, 696, 705, 703] (by decide +kernel) (by decide +kernel)

/-! SmokeLeans$Pushed -/
set_option maxRecDepth 100000
def RX13 : String := "SmokeLeans$Pushed"
abbrev cX13_wind : ByteArray := prog_11_method_2_code
def yX13_wind : MethodName := ⟨RX13, "wind", "(III)I"⟩
def dkwX13_wind_1 : List UInt8 := [167, 0, 7, 27, 7, 108, 116, 172]
abbrev dktX13_wind_1 : List UInt8 := dkwX13_wind_1 ++ []
def dkwX13_wind_0 : List UInt8 := [28, 29, 160, 0, 7, 27, 167, 0, 23, 28, 5, 96, 7, 112, 29, 160, 0, 10, 27, 5, 108, 116]
abbrev dktX13_wind_0 : List UInt8 := dkwX13_wind_0 ++ dktX13_wind_1
theorem dksX13_wind_0 : cX13_wind.data.toList.drop 0 = dktX13_wind_0 := by decide +kernel
theorem dksX13_wind_1 : cX13_wind.data.toList.drop 22 = dktX13_wind_1 := dk_seg dksX13_wind_0 22 rfl rfl
theorem dX13_wind_0 : decode cX13_wind 0 = .ok (.iload_n 2, 1) := dk_28 (dk_at dksX13_wind_0 0 rfl rfl)
theorem dX13_wind_1 : decode cX13_wind 1 = .ok (.iload_n 3, 1) := dk_29 (dk_at dksX13_wind_0 1 rfl rfl)
theorem dX13_wind_2 : decode cX13_wind 2 = .ok (.if_icmp .ne 7, 3) := dk_160 0 7 (dk_at dksX13_wind_0 2 rfl rfl)
theorem dX13_wind_5 : decode cX13_wind 5 = .ok (.iload_n 1, 1) := dk_27 (dk_at dksX13_wind_0 5 rfl rfl)
theorem dX13_wind_6 : decode cX13_wind 6 = .ok (.goto 23, 3) := dk_167 0 23 (dk_at dksX13_wind_0 6 rfl rfl)
theorem dX13_wind_9 : decode cX13_wind 9 = .ok (.iload_n 2, 1) := dk_28 (dk_at dksX13_wind_0 9 rfl rfl)
theorem dX13_wind_10 : decode cX13_wind 10 = .ok (.iconst 2, 1) := dk_5 (dk_at dksX13_wind_0 10 rfl rfl)
theorem dX13_wind_11 : decode cX13_wind 11 = .ok (.iadd, 1) := dk_96 (dk_at dksX13_wind_0 11 rfl rfl)
theorem dX13_wind_12 : decode cX13_wind 12 = .ok (.iconst 4, 1) := dk_7 (dk_at dksX13_wind_0 12 rfl rfl)
theorem dX13_wind_13 : decode cX13_wind 13 = .ok (.irem, 1) := dk_112 (dk_at dksX13_wind_0 13 rfl rfl)
theorem dX13_wind_14 : decode cX13_wind 14 = .ok (.iload_n 3, 1) := dk_29 (dk_at dksX13_wind_0 14 rfl rfl)
theorem dX13_wind_15 : decode cX13_wind 15 = .ok (.if_icmp .ne 10, 3) := dk_160 0 10 (dk_at dksX13_wind_0 15 rfl rfl)
theorem dX13_wind_18 : decode cX13_wind 18 = .ok (.iload_n 1, 1) := dk_27 (dk_at dksX13_wind_0 18 rfl rfl)
theorem dX13_wind_19 : decode cX13_wind 19 = .ok (.iconst 2, 1) := dk_5 (dk_at dksX13_wind_0 19 rfl rfl)
theorem dX13_wind_20 : decode cX13_wind 20 = .ok (.idiv, 1) := dk_108 (dk_at dksX13_wind_0 20 rfl rfl)
theorem dX13_wind_21 : decode cX13_wind 21 = .ok (.ineg, 1) := dk_116 (dk_at dksX13_wind_0 21 rfl rfl)
theorem dX13_wind_22 : decode cX13_wind 22 = .ok (.goto 7, 3) := dk_167 0 7 (dk_at dksX13_wind_1 0 rfl rfl)
theorem dX13_wind_25 : decode cX13_wind 25 = .ok (.iload_n 1, 1) := dk_27 (dk_at dksX13_wind_1 3 rfl rfl)
theorem dX13_wind_26 : decode cX13_wind 26 = .ok (.iconst 4, 1) := dk_7 (dk_at dksX13_wind_1 4 rfl rfl)
theorem dX13_wind_27 : decode cX13_wind 27 = .ok (.idiv, 1) := dk_108 (dk_at dksX13_wind_1 5 rfl rfl)
theorem dX13_wind_28 : decode cX13_wind 28 = .ok (.ineg, 1) := dk_116 (dk_at dksX13_wind_1 6 rfl rfl)
theorem dX13_wind_29 : decode cX13_wind 29 = .ok (.ireturn, 1) := dk_172 (dk_at dksX13_wind_1 7 rfl rfl)
theorem q500 : (Jvm.Cond.declares ({ cls := "SmokeLeans$Pushed", name := "wind", desc := "(III)I" } : Jvm.MethodName)) ∈ lw_tbl := lw_at lw_m2 194 rfl
theorem q507 : (Jvm.Cond.instanceMethod ({ cls := "SmokeLeans$Pushed", name := "wind", desc := "(III)I" } : Jvm.MethodName)) ∈ lw_all := lw_g (lw_at lw_m2 201 rfl) rfl
theorem q508 : (Jvm.Cond.publicMethod ({ cls := "SmokeLeans$Pushed", name := "wind", desc := "(III)I" } : Jvm.MethodName)) ∈ lw_tbl := lw_at lw_m2 202 rfl
theorem q509 : (Jvm.Cond.code ({ cls := "SmokeLeans$Pushed", name := "wind", desc := "(III)I" } : Jvm.MethodName) prog_11_method_2_code (4 : Nat) (Option.some Jvm.ClassFile.FieldType.int)) ∈ lw_all := lw_g (lw_at lw_m2 203 rfl) rfl
