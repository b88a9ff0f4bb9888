/-! OwlEars$Refusal -/
set_option maxRecDepth 100000
def RX1 : String := "OwlEars$Refusal"
def TX1 : u_T := fun k => match k with
  | 0 => ("java/lang/Throwable", "cause", "Ljava/lang/Throwable;", false)
  | 1 => ("java/lang/Throwable", "stackTrace", "[Ljava/lang/StackTraceElement;", false)
  | 2 => ("java/lang/Throwable", "suppressedExceptions", "Ljava/util/List;", false)
  | 3 => ("java/lang/Throwable", "detailMessage", "Ljava/lang/String;", false)
  | 4 => ("java/lang/Throwable", "backtrace", "Ljava/lang/Object;", false)
  | 5 => ("java/lang/Throwable", "depth", "I", false)
  | _ => ("OwlEars$Refusal", "finding", "I", false)
def tyX1 : Nat → FieldType := fun k => match k with
  | 0 => .object "java/lang/Throwable"
  | 1 => .array (.object "java/lang/StackTraceElement")
  | 2 => .object "java/util/List"
  | 3 => .object "java/lang/String"
  | 4 => .object "java/lang/Object"
  | 5 => .int
  | _ => .int
abbrev wsX10 : List Cond := u_ws RX1 TX1 7
theorem nmX1 : ∀ a, a < 7 → ∀ b, b < 7 → a ≠ b → (TX1 a).2.1 ≠ (TX1 b).2.1 := by decide +kernel
theorem tyX1_ok : ∀ k, k < 7 → parseFieldDescriptor (TX1 k).2.2.1 = some (tyX1 k) := by decide +kernel
abbrev cX1_init : ByteArray := prog_7_method_1_code
def yX1_init : MethodName := ⟨RX1, "<init>", "()V"⟩
def dkwX1_init_0 : List UInt8 := [42, 1, 1, 3, 3, 183, 0, 1, 177]
abbrev dktX1_init_0 : List UInt8 := dkwX1_init_0 ++ []
theorem dksX1_init_0 : cX1_init.data.toList.drop 0 = dktX1_init_0 := by decide +kernel
theorem dX1_init_0 : decode cX1_init 0 = .ok (.aload_n 0, 1) := dk_42 (dk_at dksX1_init_0 0 rfl rfl)
theorem dX1_init_1 : decode cX1_init 1 = .ok (.aconst_null, 1) := dk_1 (dk_at dksX1_init_0 1 rfl rfl)
theorem dX1_init_2 : decode cX1_init 2 = .ok (.aconst_null, 1) := dk_1 (dk_at dksX1_init_0 2 rfl rfl)
theorem dX1_init_3 : decode cX1_init 3 = .ok (.iconst 0, 1) := dk_3 (dk_at dksX1_init_0 3 rfl rfl)
theorem dX1_init_4 : decode cX1_init 4 = .ok (.iconst 0, 1) := dk_3 (dk_at dksX1_init_0 4 rfl rfl)
theorem dX1_init_5 : decode cX1_init 5 = .ok (.invokespecial 1, 3) := dk_183 0 1 (dk_at dksX1_init_0 5 rfl rfl)
theorem dX1_init_8 : decode cX1_init 8 = .ok (.return_, 1) := dk_177 (dk_at dksX1_init_0 8 rfl rfl)
theorem q112 : (Jvm.Cond.initialized "OwlEars$Refusal") ∈ lw_all := lw_g (lw_at lw_m1 5 rfl) rfl
theorem q142 : (Jvm.Cond.instantiable "OwlEars$Refusal" (7 : Nat)) ∈ lw_all := lw_g (lw_at lw_m1 35 rfl) rfl
theorem q143 : (Jvm.Cond.castable "OwlEars$Refusal" "OwlEars$Refusal") ∈ lw_tbl := lw_at lw_m1 36 rfl
theorem q150 : (Jvm.Cond.selects "OwlEars$Refusal" ({ cls := "java/lang/Throwable", name := "fillInStackTrace", desc := "(I)Ljava/lang/Throwable;" } : Jvm.MethodName) ({ cls := "java/lang/Throwable", name := "fillInStackTrace", desc := "(I)Ljava/lang/Throwable;" } : Jvm.MethodName)) ∈ lw_all := lw_g (lw_at lw_m1 43 rfl) rfl
theorem q151 : (Jvm.Cond.selects "OwlEars$Refusal" ({ cls := "java/lang/Throwable", name := "fillInStackTrace", desc := "()Ljava/lang/Throwable;" } : Jvm.MethodName) ({ cls := "java/lang/Throwable", name := "fillInStackTrace", desc := "()Ljava/lang/Throwable;" } : Jvm.MethodName)) ∈ lw_all := lw_g (lw_at lw_m1 44 rfl) rfl
theorem q152 : (Jvm.Cond.lays "OwlEars$Refusal" "java/lang/Throwable" "cause" "Ljava/lang/Throwable;") ∈ lw_all := lw_g (lw_at lw_m1 45 rfl) rfl
theorem q154 : (Jvm.Cond.lays "OwlEars$Refusal" "java/lang/Throwable" "stackTrace" "[Ljava/lang/StackTraceElement;") ∈ lw_all := lw_g (lw_at lw_m1 47 rfl) rfl
theorem q156 : (Jvm.Cond.lays "OwlEars$Refusal" "java/lang/Throwable" "suppressedExceptions" "Ljava/util/List;") ∈ lw_all := lw_g (lw_at lw_m1 49 rfl) rfl
theorem q158 : (Jvm.Cond.lays "OwlEars$Refusal" "java/lang/Throwable" "detailMessage" "Ljava/lang/String;") ∈ lw_all := lw_g (lw_at lw_m1 51 rfl) rfl
theorem q160 : (Jvm.Cond.lays "OwlEars$Refusal" "java/lang/Throwable" "backtrace" "Ljava/lang/Object;") ∈ lw_all := lw_g (lw_at lw_m1 53 rfl) rfl
theorem q182 : (Jvm.Cond.instanceMethod ({ cls := "OwlEars$Refusal", name := "<init>", desc := "()V" } : Jvm.MethodName)) ∈ lw_all := lw_g (lw_at lw_m1 75 rfl) rfl
theorem q183 : (Jvm.Cond.code ({ cls := "OwlEars$Refusal", name := "<init>", desc := "()V" } : Jvm.MethodName) prog_7_method_1_code (1 : Nat) (Option.none : Option Jvm.ClassFile.FieldType)) ∈ lw_all := lw_g (lw_at lw_m1 76 rfl) rfl
theorem q184 : (Jvm.Cond.methodLink "OwlEars$Refusal" (1 : Nat) ({ cls := "java/lang/RuntimeException", name := "<init>", desc := "(Ljava/lang/String;Ljava/lang/Throwable;ZZ)V" } : Jvm.MethodName)) ∈ lw_all := lw_g (lw_at lw_m1 77 rfl) rfl
theorem q199 : (Jvm.Cond.lays "OwlEars$Refusal" "OwlEars$Refusal" "finding" "I") ∈ lw_all := lw_g (lw_at lw_m1 92 rfl) rfl
theorem q200 : (Jvm.Cond.soleField "OwlEars$Refusal" "finding") ∈ lw_all := lw_g (lw_at lw_m1 93 rfl) rfl
theorem q205 : (Jvm.Cond.lays "OwlEars$Refusal" "java/lang/Throwable" "depth" "I") ∈ lw_all := lw_g (lw_at lw_m1 98 rfl) rfl
theorem q208 : (Jvm.Cond.superclass "OwlEars$Refusal" "java/lang/RuntimeException") ∈ lw_all := lw_g (lw_at lw_m1 101 rfl) rfl
theorem in_X1 : ∀ w ∈ wsX10, w ∈ lw_all := lw_in wsX10 [152, 154, 156, 158, 160, 205, 199] (by decide +kernel) (by decide +kernel)
/-! OwlEars$Reader -/
set_option maxRecDepth 100000
def RX2 : String := "OwlEars$Reader"
def TX2 : u_T := fun k => match k with
  | 0 => ("OwlEars$Reader", "wrong", "LOwlEars$Wrong;", true)
  | 1 => ("OwlEars$Reader", "tape", "[B", true)
  | 2 => ("OwlEars$Reader", "told", "LOwlEars$World;", true)
  | 3 => ("OwlEars$Reader", "length", "I", false)
  | 4 => ("OwlEars$Reader", "at", "I", false)
  | 5 => ("OwlEars$Reader", "begin", "I", false)
  | 6 => ("OwlEars$Reader", "token", "I", false)
  | _ => ("OwlEars$Reader", "value", "I", false)
def tyX2 : Nat → FieldType := fun k => match k with
  | 0 => .object "OwlEars$Wrong"
  | 1 => .array .byte
  | 2 => .object "OwlEars$World"
  | 3 => .int
  | 4 => .int
  | 5 => .int
  | 6 => .int
  | _ => .int
abbrev wsX20 : List Cond := u_ws RX2 TX2 8
theorem nmX2 : ∀ a, a < 8 → ∀ b, b < 8 → a ≠ b → (TX2 a).2.1 ≠ (TX2 b).2.1 := by decide +kernel
theorem tyX2_ok : ∀ k, k < 8 → parseFieldDescriptor (TX2 k).2.2.1 = some (tyX2 k) := by decide +kernel
abbrev cX2_init : ByteArray := prog_6_method_1_code
def yX2_init : MethodName := ⟨RX2, "<init>", "()V"⟩
def dkwX2_init_1 : List UInt8 := [187, 0, 22, 89, 183, 0, 24, 181, 0, 25, 177]
abbrev dktX2_init_1 : List UInt8 := dkwX2_init_1 ++ []
def dkwX2_init_0 : List UInt8 := [42, 183, 0, 3, 42, 187, 0, 9, 89, 183, 0, 11, 181, 0, 12, 42, 16, 120, 188, 8, 181, 0, 18, 42]
abbrev dktX2_init_0 : List UInt8 := dkwX2_init_0 ++ dktX2_init_1
theorem dksX2_init_0 : cX2_init.data.toList.drop 0 = dktX2_init_0 := by decide +kernel
theorem dksX2_init_1 : cX2_init.data.toList.drop 24 = dktX2_init_1 := dk_seg dksX2_init_0 24 rfl rfl
theorem dX2_init_0 : decode cX2_init 0 = .ok (.aload_n 0, 1) := dk_42 (dk_at dksX2_init_0 0 rfl rfl)
theorem dX2_init_1 : decode cX2_init 1 = .ok (.invokespecial 3, 3) := dk_183 0 3 (dk_at dksX2_init_0 1 rfl rfl)
theorem dX2_init_4 : decode cX2_init 4 = .ok (.aload_n 0, 1) := dk_42 (dk_at dksX2_init_0 4 rfl rfl)
theorem dX2_init_5 : decode cX2_init 5 = .ok (.new 9, 3) := dk_187 0 9 (dk_at dksX2_init_0 5 rfl rfl)
theorem dX2_init_8 : decode cX2_init 8 = .ok (.dup, 1) := dk_89 (dk_at dksX2_init_0 8 rfl rfl)
theorem dX2_init_9 : decode cX2_init 9 = .ok (.invokespecial 11, 3) := dk_183 0 11 (dk_at dksX2_init_0 9 rfl rfl)
theorem dX2_init_12 : decode cX2_init 12 = .ok (.putfield 12, 3) := dk_181 0 12 (dk_at dksX2_init_0 12 rfl rfl)
theorem dX2_init_15 : decode cX2_init 15 = .ok (.aload_n 0, 1) := dk_42 (dk_at dksX2_init_0 15 rfl rfl)
theorem dX2_init_16 : decode cX2_init 16 = .ok (.bipush 120, 2) := dk_16 120 (dk_at dksX2_init_0 16 rfl rfl)
theorem dX2_init_18 : decode cX2_init 18 = .ok (.newarray .byte, 2) := dk_188_8 (dk_at dksX2_init_0 18 rfl rfl)
theorem dX2_init_20 : decode cX2_init 20 = .ok (.putfield 18, 3) := dk_181 0 18 (dk_at dksX2_init_0 20 rfl rfl)
theorem dX2_init_23 : decode cX2_init 23 = .ok (.aload_n 0, 1) := dk_42 (dk_at dksX2_init_0 23 rfl rfl)
theorem dX2_init_24 : decode cX2_init 24 = .ok (.new 22, 3) := dk_187 0 22 (dk_at dksX2_init_1 0 rfl rfl)
theorem dX2_init_27 : decode cX2_init 27 = .ok (.dup, 1) := dk_89 (dk_at dksX2_init_1 3 rfl rfl)
theorem dX2_init_28 : decode cX2_init 28 = .ok (.invokespecial 24, 3) := dk_183 0 24 (dk_at dksX2_init_1 4 rfl rfl)
theorem dX2_init_31 : decode cX2_init 31 = .ok (.putfield 25, 3) := dk_181 0 25 (dk_at dksX2_init_1 7 rfl rfl)
theorem dX2_init_34 : decode cX2_init 34 = .ok (.return_, 1) := dk_177 (dk_at dksX2_init_1 10 rfl rfl)
abbrev cX2_whole : ByteArray := prog_6_method_19_code
def yX2_whole : MethodName := ⟨RX2, "whole", "()I"⟩
def dkwX2_whole_2 : List UInt8 := [167, 0, 4, 3, 182, 0, 63, 27, 172]
abbrev dktX2_whole_2 : List UInt8 := dkwX2_whole_2 ++ []
def dkwX2_whole_1 : List UInt8 := [182, 0, 82, 42, 182, 0, 133, 132, 1, 1, 167, 255, 237, 42, 42, 180, 0, 47, 154, 0, 7, 4]
abbrev dktX2_whole_1 : List UInt8 := dkwX2_whole_1 ++ dktX2_whole_2
def dkwX2_whole_0 : List UInt8 := [42, 3, 181, 0, 37, 42, 182, 0, 82, 42, 182, 0, 133, 4, 60, 42, 180, 0, 47, 6, 160, 0, 17, 42]
abbrev dktX2_whole_0 : List UInt8 := dkwX2_whole_0 ++ dktX2_whole_1
theorem dksX2_whole_0 : cX2_whole.data.toList.drop 0 = dktX2_whole_0 := by decide +kernel
theorem dksX2_whole_1 : cX2_whole.data.toList.drop 24 = dktX2_whole_1 := dk_seg dksX2_whole_0 24 rfl rfl
theorem dksX2_whole_2 : cX2_whole.data.toList.drop 46 = dktX2_whole_2 := dk_seg dksX2_whole_1 22 rfl rfl
theorem dX2_whole_0 : decode cX2_whole 0 = .ok (.aload_n 0, 1) := dk_42 (dk_at dksX2_whole_0 0 rfl rfl)
theorem dX2_whole_1 : decode cX2_whole 1 = .ok (.iconst 0, 1) := dk_3 (dk_at dksX2_whole_0 1 rfl rfl)
theorem dX2_whole_2 : decode cX2_whole 2 = .ok (.putfield 37, 3) := dk_181 0 37 (dk_at dksX2_whole_0 2 rfl rfl)
theorem dX2_whole_5 : decode cX2_whole 5 = .ok (.aload_n 0, 1) := dk_42 (dk_at dksX2_whole_0 5 rfl rfl)
theorem dX2_whole_6 : decode cX2_whole 6 = .ok (.invokevirtual 82, 3) := dk_182 0 82 (dk_at dksX2_whole_0 6 rfl rfl)
theorem dX2_whole_9 : decode cX2_whole 9 = .ok (.aload_n 0, 1) := dk_42 (dk_at dksX2_whole_0 9 rfl rfl)
theorem dX2_whole_10 : decode cX2_whole 10 = .ok (.invokevirtual 133, 3) := dk_182 0 133 (dk_at dksX2_whole_0 10 rfl rfl)
theorem dX2_whole_13 : decode cX2_whole 13 = .ok (.iconst 1, 1) := dk_4 (dk_at dksX2_whole_0 13 rfl rfl)
theorem dX2_whole_14 : decode cX2_whole 14 = .ok (.istore_n 1, 1) := dk_60 (dk_at dksX2_whole_0 14 rfl rfl)
theorem dX2_whole_15 : decode cX2_whole 15 = .ok (.aload_n 0, 1) := dk_42 (dk_at dksX2_whole_0 15 rfl rfl)
theorem dX2_whole_16 : decode cX2_whole 16 = .ok (.getfield 47, 3) := dk_180 0 47 (dk_at dksX2_whole_0 16 rfl rfl)
theorem dX2_whole_19 : decode cX2_whole 19 = .ok (.iconst 3, 1) := dk_6 (dk_at dksX2_whole_0 19 rfl rfl)
theorem dX2_whole_20 : decode cX2_whole 20 = .ok (.if_icmp .ne 17, 3) := dk_160 0 17 (dk_at dksX2_whole_0 20 rfl rfl)
theorem dX2_whole_23 : decode cX2_whole 23 = .ok (.aload_n 0, 1) := dk_42 (dk_at dksX2_whole_0 23 rfl rfl)
theorem dX2_whole_24 : decode cX2_whole 24 = .ok (.invokevirtual 82, 3) := dk_182 0 82 (dk_at dksX2_whole_1 0 rfl rfl)
theorem dX2_whole_27 : decode cX2_whole 27 = .ok (.aload_n 0, 1) := dk_42 (dk_at dksX2_whole_1 3 rfl rfl)
theorem dX2_whole_28 : decode cX2_whole 28 = .ok (.invokevirtual 133, 3) := dk_182 0 133 (dk_at dksX2_whole_1 4 rfl rfl)
theorem dX2_whole_31 : decode cX2_whole 31 = .ok (.iinc 1 1, 3) := dk_132 1 1 (dk_at dksX2_whole_1 7 rfl rfl)
theorem dX2_whole_34 : decode cX2_whole 34 = .ok (.goto (-19), 3) := dk_167 255 237 (dk_at dksX2_whole_1 10 rfl rfl)
theorem dX2_whole_37 : decode cX2_whole 37 = .ok (.aload_n 0, 1) := dk_42 (dk_at dksX2_whole_1 13 rfl rfl)
theorem dX2_whole_38 : decode cX2_whole 38 = .ok (.aload_n 0, 1) := dk_42 (dk_at dksX2_whole_1 14 rfl rfl)
theorem dX2_whole_39 : decode cX2_whole 39 = .ok (.getfield 47, 3) := dk_180 0 47 (dk_at dksX2_whole_1 15 rfl rfl)
theorem dX2_whole_42 : decode cX2_whole 42 = .ok (.ifCond .ne 7, 3) := dk_154 0 7 (dk_at dksX2_whole_1 18 rfl rfl)
theorem dX2_whole_45 : decode cX2_whole 45 = .ok (.iconst 1, 1) := dk_4 (dk_at dksX2_whole_1 21 rfl rfl)
theorem dX2_whole_46 : decode cX2_whole 46 = .ok (.goto 4, 3) := dk_167 0 4 (dk_at dksX2_whole_2 0 rfl rfl)
theorem dX2_whole_49 : decode cX2_whole 49 = .ok (.iconst 0, 1) := dk_3 (dk_at dksX2_whole_2 3 rfl rfl)
theorem dX2_whole_50 : decode cX2_whole 50 = .ok (.invokevirtual 63, 3) := dk_182 0 63 (dk_at dksX2_whole_2 4 rfl rfl)
theorem dX2_whole_53 : decode cX2_whole 53 = .ok (.iload_n 1, 1) := dk_27 (dk_at dksX2_whole_2 7 rfl rfl)
theorem dX2_whole_54 : decode cX2_whole 54 = .ok (.ireturn, 1) := dk_172 (dk_at dksX2_whole_2 8 rfl rfl)
abbrev cX2_next : ByteArray := prog_6_method_6_code
def yX2_next : MethodName := ⟨RX2, "next", "()V"⟩
def dkwX2_next_4 : List UInt8 := [3, 182, 0, 63, 42, 6, 181, 0, 47, 42, 89, 180, 0, 37, 4, 96, 181, 0, 37, 177]
abbrev dktX2_next_4 : List UInt8 := dkwX2_next_4 ++ []
def dkwX2_next_3 : List UInt8 := [184, 0, 57, 153, 0, 10, 42, 182, 0, 60, 167, 0, 33, 42, 27, 16, 59, 160, 0, 7, 4, 167, 0, 4]
abbrev dktX2_next_3 : List UInt8 := dkwX2_next_3 ++ dktX2_next_4
def dkwX2_next_2 : List UInt8 := [42, 3, 181, 0, 47, 167, 0, 61, 27, 184, 0, 50, 153, 0, 10, 42, 182, 0, 54, 167, 0, 47, 27]
abbrev dktX2_next_2 : List UInt8 := dkwX2_next_2 ++ dktX2_next_3
def dkwX2_next_1 : List UInt8 := [167, 255, 233, 42, 42, 180, 0, 37, 181, 0, 44, 42, 42, 180, 0, 37, 182, 0, 40, 60, 27, 156, 0, 11]
abbrev dktX2_next_1 : List UInt8 := dkwX2_next_1 ++ dktX2_next_2
def dkwX2_next_0 : List UInt8 := [42, 42, 180, 0, 37, 182, 0, 40, 16, 32, 160, 0, 16, 42, 89, 180, 0, 37, 4, 96, 181, 0, 37]
abbrev dktX2_next_0 : List UInt8 := dkwX2_next_0 ++ dktX2_next_1
theorem dksX2_next_0 : cX2_next.data.toList.drop 0 = dktX2_next_0 := by decide +kernel
theorem dksX2_next_1 : cX2_next.data.toList.drop 23 = dktX2_next_1 := dk_seg dksX2_next_0 23 rfl rfl
theorem dksX2_next_2 : cX2_next.data.toList.drop 47 = dktX2_next_2 := dk_seg dksX2_next_1 24 rfl rfl
theorem dksX2_next_3 : cX2_next.data.toList.drop 70 = dktX2_next_3 := dk_seg dksX2_next_2 23 rfl rfl
theorem dksX2_next_4 : cX2_next.data.toList.drop 94 = dktX2_next_4 := dk_seg dksX2_next_3 24 rfl rfl
theorem dX2_next_0 : decode cX2_next 0 = .ok (.aload_n 0, 1) := dk_42 (dk_at dksX2_next_0 0 rfl rfl)
theorem dX2_next_1 : decode cX2_next 1 = .ok (.aload_n 0, 1) := dk_42 (dk_at dksX2_next_0 1 rfl rfl)
theorem dX2_next_2 : decode cX2_next 2 = .ok (.getfield 37, 3) := dk_180 0 37 (dk_at dksX2_next_0 2 rfl rfl)
theorem dX2_next_5 : decode cX2_next 5 = .ok (.invokevirtual 40, 3) := dk_182 0 40 (dk_at dksX2_next_0 5 rfl rfl)
theorem dX2_next_8 : decode cX2_next 8 = .ok (.bipush 32, 2) := dk_16 32 (dk_at dksX2_next_0 8 rfl rfl)
theorem dX2_next_10 : decode cX2_next 10 = .ok (.if_icmp .ne 16, 3) := dk_160 0 16 (dk_at dksX2_next_0 10 rfl rfl)
theorem dX2_next_13 : decode cX2_next 13 = .ok (.aload_n 0, 1) := dk_42 (dk_at dksX2_next_0 13 rfl rfl)
theorem dX2_next_14 : decode cX2_next 14 = .ok (.dup, 1) := dk_89 (dk_at dksX2_next_0 14 rfl rfl)
theorem dX2_next_15 : decode cX2_next 15 = .ok (.getfield 37, 3) := dk_180 0 37 (dk_at dksX2_next_0 15 rfl rfl)
theorem dX2_next_18 : decode cX2_next 18 = .ok (.iconst 1, 1) := dk_4 (dk_at dksX2_next_0 18 rfl rfl)
theorem dX2_next_19 : decode cX2_next 19 = .ok (.iadd, 1) := dk_96 (dk_at dksX2_next_0 19 rfl rfl)
theorem dX2_next_20 : decode cX2_next 20 = .ok (.putfield 37, 3) := dk_181 0 37 (dk_at dksX2_next_0 20 rfl rfl)
theorem dX2_next_23 : decode cX2_next 23 = .ok (.goto (-23), 3) := dk_167 255 233 (dk_at dksX2_next_1 0 rfl rfl)
theorem dX2_next_26 : decode cX2_next 26 = .ok (.aload_n 0, 1) := dk_42 (dk_at dksX2_next_1 3 rfl rfl)
theorem dX2_next_27 : decode cX2_next 27 = .ok (.aload_n 0, 1) := dk_42 (dk_at dksX2_next_1 4 rfl rfl)
theorem dX2_next_28 : decode cX2_next 28 = .ok (.getfield 37, 3) := dk_180 0 37 (dk_at dksX2_next_1 5 rfl rfl)
theorem dX2_next_31 : decode cX2_next 31 = .ok (.putfield 44, 3) := dk_181 0 44 (dk_at dksX2_next_1 8 rfl rfl)
theorem dX2_next_34 : decode cX2_next 34 = .ok (.aload_n 0, 1) := dk_42 (dk_at dksX2_next_1 11 rfl rfl)
theorem dX2_next_35 : decode cX2_next 35 = .ok (.aload_n 0, 1) := dk_42 (dk_at dksX2_next_1 12 rfl rfl)
theorem dX2_next_36 : decode cX2_next 36 = .ok (.getfield 37, 3) := dk_180 0 37 (dk_at dksX2_next_1 13 rfl rfl)
theorem dX2_next_39 : decode cX2_next 39 = .ok (.invokevirtual 40, 3) := dk_182 0 40 (dk_at dksX2_next_1 16 rfl rfl)
theorem dX2_next_42 : decode cX2_next 42 = .ok (.istore_n 1, 1) := dk_60 (dk_at dksX2_next_1 19 rfl rfl)
theorem dX2_next_43 : decode cX2_next 43 = .ok (.iload_n 1, 1) := dk_27 (dk_at dksX2_next_1 20 rfl rfl)
theorem dX2_next_44 : decode cX2_next 44 = .ok (.ifCond .ge 11, 3) := dk_156 0 11 (dk_at dksX2_next_1 21 rfl rfl)
theorem dX2_next_47 : decode cX2_next 47 = .ok (.aload_n 0, 1) := dk_42 (dk_at dksX2_next_2 0 rfl rfl)
theorem dX2_next_48 : decode cX2_next 48 = .ok (.iconst 0, 1) := dk_3 (dk_at dksX2_next_2 1 rfl rfl)
theorem dX2_next_49 : decode cX2_next 49 = .ok (.putfield 47, 3) := dk_181 0 47 (dk_at dksX2_next_2 2 rfl rfl)
theorem dX2_next_52 : decode cX2_next 52 = .ok (.goto 61, 3) := dk_167 0 61 (dk_at dksX2_next_2 5 rfl rfl)
theorem dX2_next_55 : decode cX2_next 55 = .ok (.iload_n 1, 1) := dk_27 (dk_at dksX2_next_2 8 rfl rfl)
theorem dX2_next_56 : decode cX2_next 56 = .ok (.invokestatic 50, 3) := dk_184 0 50 (dk_at dksX2_next_2 9 rfl rfl)
theorem dX2_next_59 : decode cX2_next 59 = .ok (.ifCond .eq 10, 3) := dk_153 0 10 (dk_at dksX2_next_2 12 rfl rfl)
theorem dX2_next_62 : decode cX2_next 62 = .ok (.aload_n 0, 1) := dk_42 (dk_at dksX2_next_2 15 rfl rfl)
theorem dX2_next_63 : decode cX2_next 63 = .ok (.invokevirtual 54, 3) := dk_182 0 54 (dk_at dksX2_next_2 16 rfl rfl)
theorem dX2_next_66 : decode cX2_next 66 = .ok (.goto 47, 3) := dk_167 0 47 (dk_at dksX2_next_2 19 rfl rfl)
theorem dX2_next_69 : decode cX2_next 69 = .ok (.iload_n 1, 1) := dk_27 (dk_at dksX2_next_2 22 rfl rfl)
theorem dX2_next_70 : decode cX2_next 70 = .ok (.invokestatic 57, 3) := dk_184 0 57 (dk_at dksX2_next_3 0 rfl rfl)
theorem dX2_next_73 : decode cX2_next 73 = .ok (.ifCond .eq 10, 3) := dk_153 0 10 (dk_at dksX2_next_3 3 rfl rfl)
theorem dX2_next_76 : decode cX2_next 76 = .ok (.aload_n 0, 1) := dk_42 (dk_at dksX2_next_3 6 rfl rfl)
theorem dX2_next_77 : decode cX2_next 77 = .ok (.invokevirtual 60, 3) := dk_182 0 60 (dk_at dksX2_next_3 7 rfl rfl)
theorem dX2_next_80 : decode cX2_next 80 = .ok (.goto 33, 3) := dk_167 0 33 (dk_at dksX2_next_3 10 rfl rfl)
theorem dX2_next_83 : decode cX2_next 83 = .ok (.aload_n 0, 1) := dk_42 (dk_at dksX2_next_3 13 rfl rfl)
theorem dX2_next_84 : decode cX2_next 84 = .ok (.iload_n 1, 1) := dk_27 (dk_at dksX2_next_3 14 rfl rfl)
theorem dX2_next_85 : decode cX2_next 85 = .ok (.bipush 59, 2) := dk_16 59 (dk_at dksX2_next_3 15 rfl rfl)
theorem dX2_next_87 : decode cX2_next 87 = .ok (.if_icmp .ne 7, 3) := dk_160 0 7 (dk_at dksX2_next_3 17 rfl rfl)
theorem dX2_next_90 : decode cX2_next 90 = .ok (.iconst 1, 1) := dk_4 (dk_at dksX2_next_3 20 rfl rfl)
theorem dX2_next_91 : decode cX2_next 91 = .ok (.goto 4, 3) := dk_167 0 4 (dk_at dksX2_next_3 21 rfl rfl)
theorem dX2_next_94 : decode cX2_next 94 = .ok (.iconst 0, 1) := dk_3 (dk_at dksX2_next_4 0 rfl rfl)
theorem dX2_next_95 : decode cX2_next 95 = .ok (.invokevirtual 63, 3) := dk_182 0 63 (dk_at dksX2_next_4 1 rfl rfl)
theorem dX2_next_98 : decode cX2_next 98 = .ok (.aload_n 0, 1) := dk_42 (dk_at dksX2_next_4 4 rfl rfl)
theorem dX2_next_99 : decode cX2_next 99 = .ok (.iconst 3, 1) := dk_6 (dk_at dksX2_next_4 5 rfl rfl)
theorem dX2_next_100 : decode cX2_next 100 = .ok (.putfield 47, 3) := dk_181 0 47 (dk_at dksX2_next_4 6 rfl rfl)
theorem dX2_next_103 : decode cX2_next 103 = .ok (.aload_n 0, 1) := dk_42 (dk_at dksX2_next_4 9 rfl rfl)
theorem dX2_next_104 : decode cX2_next 104 = .ok (.dup, 1) := dk_89 (dk_at dksX2_next_4 10 rfl rfl)
theorem dX2_next_105 : decode cX2_next 105 = .ok (.getfield 37, 3) := dk_180 0 37 (dk_at dksX2_next_4 11 rfl rfl)
theorem dX2_next_108 : decode cX2_next 108 = .ok (.iconst 1, 1) := dk_4 (dk_at dksX2_next_4 14 rfl rfl)
theorem dX2_next_109 : decode cX2_next 109 = .ok (.iadd, 1) := dk_96 (dk_at dksX2_next_4 15 rfl rfl)
theorem dX2_next_110 : decode cX2_next 110 = .ok (.putfield 37, 3) := dk_181 0 37 (dk_at dksX2_next_4 16 rfl rfl)
theorem dX2_next_113 : decode cX2_next 113 = .ok (.return_, 1) := dk_177 (dk_at dksX2_next_4 19 rfl rfl)
abbrev cX2_byteAt : ByteArray := prog_6_method_3_code
def yX2_byteAt : MethodName := ⟨RX2, "byteAt", "(I)I"⟩
def dkwX2_byteAt_0 : List UInt8 := [27, 42, 180, 0, 29, 162, 0, 16, 42, 180, 0, 18, 27, 51, 17, 0, 255, 126, 167, 0, 4, 2, 172]
abbrev dktX2_byteAt_0 : List UInt8 := dkwX2_byteAt_0 ++ []
theorem dksX2_byteAt_0 : cX2_byteAt.data.toList.drop 0 = dktX2_byteAt_0 := by decide +kernel
theorem dX2_byteAt_0 : decode cX2_byteAt 0 = .ok (.iload_n 1, 1) := dk_27 (dk_at dksX2_byteAt_0 0 rfl rfl)
theorem dX2_byteAt_1 : decode cX2_byteAt 1 = .ok (.aload_n 0, 1) := dk_42 (dk_at dksX2_byteAt_0 1 rfl rfl)
theorem dX2_byteAt_2 : decode cX2_byteAt 2 = .ok (.getfield 29, 3) := dk_180 0 29 (dk_at dksX2_byteAt_0 2 rfl rfl)
theorem dX2_byteAt_5 : decode cX2_byteAt 5 = .ok (.if_icmp .ge 16, 3) := dk_162 0 16 (dk_at dksX2_byteAt_0 5 rfl rfl)
theorem dX2_byteAt_8 : decode cX2_byteAt 8 = .ok (.aload_n 0, 1) := dk_42 (dk_at dksX2_byteAt_0 8 rfl rfl)
theorem dX2_byteAt_9 : decode cX2_byteAt 9 = .ok (.getfield 18, 3) := dk_180 0 18 (dk_at dksX2_byteAt_0 9 rfl rfl)
theorem dX2_byteAt_12 : decode cX2_byteAt 12 = .ok (.iload_n 1, 1) := dk_27 (dk_at dksX2_byteAt_0 12 rfl rfl)
theorem dX2_byteAt_13 : decode cX2_byteAt 13 = .ok (.baload, 1) := dk_51 (dk_at dksX2_byteAt_0 13 rfl rfl)
theorem dX2_byteAt_14 : decode cX2_byteAt 14 = .ok (.sipush 255, 3) := dk_17 0 255 (dk_at dksX2_byteAt_0 14 rfl rfl)
theorem dX2_byteAt_17 : decode cX2_byteAt 17 = .ok (.iand, 1) := dk_126 (dk_at dksX2_byteAt_0 17 rfl rfl)
theorem dX2_byteAt_18 : decode cX2_byteAt 18 = .ok (.goto 4, 3) := dk_167 0 4 (dk_at dksX2_byteAt_0 18 rfl rfl)
theorem dX2_byteAt_21 : decode cX2_byteAt 21 = .ok (.iconst (-1), 1) := dk_2 (dk_at dksX2_byteAt_0 21 rfl rfl)
theorem dX2_byteAt_22 : decode cX2_byteAt 22 = .ok (.ireturn, 1) := dk_172 (dk_at dksX2_byteAt_0 22 rfl rfl)
abbrev cX2_isLetter : ByteArray := prog_6_method_5_code
def yX2_isLetter : MethodName := ⟨RX2, "isLetter", "(I)Z"⟩
def dkwX2_isLetter_0 : List UInt8 := [26, 16, 97, 16, 122, 184, 0, 33, 172]
abbrev dktX2_isLetter_0 : List UInt8 := dkwX2_isLetter_0 ++ []
theorem dksX2_isLetter_0 : cX2_isLetter.data.toList.drop 0 = dktX2_isLetter_0 := by decide +kernel
theorem dX2_isLetter_0 : decode cX2_isLetter 0 = .ok (.iload_n 0, 1) := dk_26 (dk_at dksX2_isLetter_0 0 rfl rfl)
theorem dX2_isLetter_1 : decode cX2_isLetter 1 = .ok (.bipush 97, 2) := dk_16 97 (dk_at dksX2_isLetter_0 1 rfl rfl)
theorem dX2_isLetter_3 : decode cX2_isLetter 3 = .ok (.bipush 122, 2) := dk_16 122 (dk_at dksX2_isLetter_0 3 rfl rfl)
theorem dX2_isLetter_5 : decode cX2_isLetter 5 = .ok (.invokestatic 33, 3) := dk_184 0 33 (dk_at dksX2_isLetter_0 5 rfl rfl)
theorem dX2_isLetter_8 : decode cX2_isLetter 8 = .ok (.ireturn, 1) := dk_172 (dk_at dksX2_isLetter_0 8 rfl rfl)
abbrev cX2_word : ByteArray := prog_6_method_8_code
def yX2_word : MethodName := ⟨RX2, "word", "()V"⟩
def dkwX2_word_3 : List UInt8 := [182, 0, 63, 42, 5, 181, 0, 47, 42, 27, 181, 0, 67, 177]
abbrev dktX2_word_3 : List UInt8 := dkwX2_word_3 ++ []
def dkwX2_word_2 : List UInt8 := [182, 0, 70, 154, 0, 9, 132, 1, 1, 167, 255, 230, 42, 27, 16, 18, 162, 0, 7, 4, 167, 0, 4, 3]
abbrev dktX2_word_2 : List UInt8 := dkwX2_word_2 ++ dktX2_word_3
def dkwX2_word_1 : List UInt8 := [167, 255, 232, 3, 60, 27, 16, 18, 162, 0, 26, 42, 27, 42, 180, 0, 37, 42, 180, 0, 44, 100]
abbrev dktX2_word_1 : List UInt8 := dkwX2_word_1 ++ dktX2_word_2
def dkwX2_word_0 : List UInt8 := [42, 42, 180, 0, 37, 182, 0, 40, 184, 0, 50, 153, 0, 16, 42, 89, 180, 0, 37, 4, 96, 181, 0, 37]
abbrev dktX2_word_0 : List UInt8 := dkwX2_word_0 ++ dktX2_word_1
theorem dksX2_word_0 : cX2_word.data.toList.drop 0 = dktX2_word_0 := by decide +kernel
theorem dksX2_word_1 : cX2_word.data.toList.drop 24 = dktX2_word_1 := dk_seg dksX2_word_0 24 rfl rfl
theorem dksX2_word_2 : cX2_word.data.toList.drop 46 = dktX2_word_2 := dk_seg dksX2_word_1 22 rfl rfl
theorem dksX2_word_3 : cX2_word.data.toList.drop 70 = dktX2_word_3 := dk_seg dksX2_word_2 24 rfl rfl
theorem dX2_word_0 : decode cX2_word 0 = .ok (.aload_n 0, 1) := dk_42 (dk_at dksX2_word_0 0 rfl rfl)
theorem dX2_word_1 : decode cX2_word 1 = .ok (.aload_n 0, 1) := dk_42 (dk_at dksX2_word_0 1 rfl rfl)
theorem dX2_word_2 : decode cX2_word 2 = .ok (.getfield 37, 3) := dk_180 0 37 (dk_at dksX2_word_0 2 rfl rfl)
theorem dX2_word_5 : decode cX2_word 5 = .ok (.invokevirtual 40, 3) := dk_182 0 40 (dk_at dksX2_word_0 5 rfl rfl)
theorem dX2_word_8 : decode cX2_word 8 = .ok (.invokestatic 50, 3) := dk_184 0 50 (dk_at dksX2_word_0 8 rfl rfl)
theorem dX2_word_11 : decode cX2_word 11 = .ok (.ifCond .eq 16, 3) := dk_153 0 16 (dk_at dksX2_word_0 11 rfl rfl)
theorem dX2_word_14 : decode cX2_word 14 = .ok (.aload_n 0, 1) := dk_42 (dk_at dksX2_word_0 14 rfl rfl)
theorem dX2_word_15 : decode cX2_word 15 = .ok (.dup, 1) := dk_89 (dk_at dksX2_word_0 15 rfl rfl)
theorem dX2_word_16 : decode cX2_word 16 = .ok (.getfield 37, 3) := dk_180 0 37 (dk_at dksX2_word_0 16 rfl rfl)
theorem dX2_word_19 : decode cX2_word 19 = .ok (.iconst 1, 1) := dk_4 (dk_at dksX2_word_0 19 rfl rfl)
theorem dX2_word_20 : decode cX2_word 20 = .ok (.iadd, 1) := dk_96 (dk_at dksX2_word_0 20 rfl rfl)
theorem dX2_word_21 : decode cX2_word 21 = .ok (.putfield 37, 3) := dk_181 0 37 (dk_at dksX2_word_0 21 rfl rfl)
theorem dX2_word_24 : decode cX2_word 24 = .ok (.goto (-24), 3) := dk_167 255 232 (dk_at dksX2_word_1 0 rfl rfl)
theorem dX2_word_27 : decode cX2_word 27 = .ok (.iconst 0, 1) := dk_3 (dk_at dksX2_word_1 3 rfl rfl)
theorem dX2_word_28 : decode cX2_word 28 = .ok (.istore_n 1, 1) := dk_60 (dk_at dksX2_word_1 4 rfl rfl)
theorem dX2_word_29 : decode cX2_word 29 = .ok (.iload_n 1, 1) := dk_27 (dk_at dksX2_word_1 5 rfl rfl)
theorem dX2_word_30 : decode cX2_word 30 = .ok (.bipush 18, 2) := dk_16 18 (dk_at dksX2_word_1 6 rfl rfl)
theorem dX2_word_32 : decode cX2_word 32 = .ok (.if_icmp .ge 26, 3) := dk_162 0 26 (dk_at dksX2_word_1 8 rfl rfl)
theorem dX2_word_35 : decode cX2_word 35 = .ok (.aload_n 0, 1) := dk_42 (dk_at dksX2_word_1 11 rfl rfl)
theorem dX2_word_36 : decode cX2_word 36 = .ok (.iload_n 1, 1) := dk_27 (dk_at dksX2_word_1 12 rfl rfl)
theorem dX2_word_37 : decode cX2_word 37 = .ok (.aload_n 0, 1) := dk_42 (dk_at dksX2_word_1 13 rfl rfl)
theorem dX2_word_38 : decode cX2_word 38 = .ok (.getfield 37, 3) := dk_180 0 37 (dk_at dksX2_word_1 14 rfl rfl)
theorem dX2_word_41 : decode cX2_word 41 = .ok (.aload_n 0, 1) := dk_42 (dk_at dksX2_word_1 17 rfl rfl)
theorem dX2_word_42 : decode cX2_word 42 = .ok (.getfield 44, 3) := dk_180 0 44 (dk_at dksX2_word_1 18 rfl rfl)
theorem dX2_word_45 : decode cX2_word 45 = .ok (.isub, 1) := dk_100 (dk_at dksX2_word_1 21 rfl rfl)
theorem dX2_word_46 : decode cX2_word 46 = .ok (.invokevirtual 70, 3) := dk_182 0 70 (dk_at dksX2_word_2 0 rfl rfl)
theorem dX2_word_49 : decode cX2_word 49 = .ok (.ifCond .ne 9, 3) := dk_154 0 9 (dk_at dksX2_word_2 3 rfl rfl)
theorem dX2_word_52 : decode cX2_word 52 = .ok (.iinc 1 1, 3) := dk_132 1 1 (dk_at dksX2_word_2 6 rfl rfl)
theorem dX2_word_55 : decode cX2_word 55 = .ok (.goto (-26), 3) := dk_167 255 230 (dk_at dksX2_word_2 9 rfl rfl)
theorem dX2_word_58 : decode cX2_word 58 = .ok (.aload_n 0, 1) := dk_42 (dk_at dksX2_word_2 12 rfl rfl)
theorem dX2_word_59 : decode cX2_word 59 = .ok (.iload_n 1, 1) := dk_27 (dk_at dksX2_word_2 13 rfl rfl)
theorem dX2_word_60 : decode cX2_word 60 = .ok (.bipush 18, 2) := dk_16 18 (dk_at dksX2_word_2 14 rfl rfl)
theorem dX2_word_62 : decode cX2_word 62 = .ok (.if_icmp .ge 7, 3) := dk_162 0 7 (dk_at dksX2_word_2 16 rfl rfl)
theorem dX2_word_65 : decode cX2_word 65 = .ok (.iconst 1, 1) := dk_4 (dk_at dksX2_word_2 19 rfl rfl)
theorem dX2_word_66 : decode cX2_word 66 = .ok (.goto 4, 3) := dk_167 0 4 (dk_at dksX2_word_2 20 rfl rfl)
theorem dX2_word_69 : decode cX2_word 69 = .ok (.iconst 0, 1) := dk_3 (dk_at dksX2_word_2 23 rfl rfl)
theorem dX2_word_70 : decode cX2_word 70 = .ok (.invokevirtual 63, 3) := dk_182 0 63 (dk_at dksX2_word_3 0 rfl rfl)
theorem dX2_word_73 : decode cX2_word 73 = .ok (.aload_n 0, 1) := dk_42 (dk_at dksX2_word_3 3 rfl rfl)
theorem dX2_word_74 : decode cX2_word 74 = .ok (.iconst 2, 1) := dk_5 (dk_at dksX2_word_3 4 rfl rfl)
theorem dX2_word_75 : decode cX2_word 75 = .ok (.putfield 47, 3) := dk_181 0 47 (dk_at dksX2_word_3 5 rfl rfl)
theorem dX2_word_78 : decode cX2_word 78 = .ok (.aload_n 0, 1) := dk_42 (dk_at dksX2_word_3 8 rfl rfl)
theorem dX2_word_79 : decode cX2_word 79 = .ok (.iload_n 1, 1) := dk_27 (dk_at dksX2_word_3 9 rfl rfl)
theorem dX2_word_80 : decode cX2_word 80 = .ok (.putfield 67, 3) := dk_181 0 67 (dk_at dksX2_word_3 10 rfl rfl)
theorem dX2_word_83 : decode cX2_word 83 = .ok (.return_, 1) := dk_177 (dk_at dksX2_word_3 13 rfl rfl)
abbrev cX2_isKey : ByteArray := prog_6_method_9_code
def yX2_isKey : MethodName := ⟨RX2, "isKey", "(II)Z"⟩
def dkwX2_isKey_3 : List UInt8 := [160, 0, 7, 4, 167, 0, 4, 3, 62, 132, 4, 1, 167, 255, 211, 29, 172]
abbrev dktX2_isKey_3 : List UInt8 := dkwX2_isKey_3 ++ []
def dkwX2_isKey_2 : List UInt8 := [18, 74, 16, 7, 27, 104, 21, 4, 96, 182, 0, 76, 42, 42, 180, 0, 44, 21, 4, 96, 182, 0, 40]
abbrev dktX2_isKey_2 : List UInt8 := dkwX2_isKey_2 ++ dktX2_isKey_3
def dkwX2_isKey_1 : List UInt8 := [16, 32, 160, 0, 7, 4, 167, 0, 4, 3, 62, 3, 54, 4, 21, 4, 28, 162, 0, 45, 29, 153, 0, 41]
abbrev dktX2_isKey_1 : List UInt8 := dkwX2_isKey_1 ++ dktX2_isKey_2
def dkwX2_isKey_0 : List UInt8 := [28, 16, 7, 163, 0, 29, 28, 16, 7, 159, 0, 19, 18, 74, 16, 7, 27, 104, 28, 96, 182, 0, 76]
abbrev dktX2_isKey_0 : List UInt8 := dkwX2_isKey_0 ++ dktX2_isKey_1
theorem dksX2_isKey_0 : cX2_isKey.data.toList.drop 0 = dktX2_isKey_0 := by decide +kernel
theorem dksX2_isKey_1 : cX2_isKey.data.toList.drop 23 = dktX2_isKey_1 := dk_seg dksX2_isKey_0 23 rfl rfl
theorem dksX2_isKey_2 : cX2_isKey.data.toList.drop 47 = dktX2_isKey_2 := dk_seg dksX2_isKey_1 24 rfl rfl
theorem dksX2_isKey_3 : cX2_isKey.data.toList.drop 70 = dktX2_isKey_3 := dk_seg dksX2_isKey_2 23 rfl rfl
theorem dX2_isKey_0 : decode cX2_isKey 0 = .ok (.iload_n 2, 1) := dk_28 (dk_at dksX2_isKey_0 0 rfl rfl)
theorem dX2_isKey_1 : decode cX2_isKey 1 = .ok (.bipush 7, 2) := dk_16 7 (dk_at dksX2_isKey_0 1 rfl rfl)
theorem dX2_isKey_3 : decode cX2_isKey 3 = .ok (.if_icmp .gt 29, 3) := dk_163 0 29 (dk_at dksX2_isKey_0 3 rfl rfl)
theorem dX2_isKey_6 : decode cX2_isKey 6 = .ok (.iload_n 2, 1) := dk_28 (dk_at dksX2_isKey_0 6 rfl rfl)
theorem dX2_isKey_7 : decode cX2_isKey 7 = .ok (.bipush 7, 2) := dk_16 7 (dk_at dksX2_isKey_0 7 rfl rfl)
theorem dX2_isKey_9 : decode cX2_isKey 9 = .ok (.if_icmp .eq 19, 3) := dk_159 0 19 (dk_at dksX2_isKey_0 9 rfl rfl)
theorem dX2_isKey_12 : decode cX2_isKey 12 = .ok (.ldc 74, 2) := dk_18 74 (dk_at dksX2_isKey_0 12 rfl rfl)
theorem dX2_isKey_14 : decode cX2_isKey 14 = .ok (.bipush 7, 2) := dk_16 7 (dk_at dksX2_isKey_0 14 rfl rfl)
theorem dX2_isKey_16 : decode cX2_isKey 16 = .ok (.iload_n 1, 1) := dk_27 (dk_at dksX2_isKey_0 16 rfl rfl)
theorem dX2_isKey_17 : decode cX2_isKey 17 = .ok (.imul, 1) := dk_104 (dk_at dksX2_isKey_0 17 rfl rfl)
theorem dX2_isKey_18 : decode cX2_isKey 18 = .ok (.iload_n 2, 1) := dk_28 (dk_at dksX2_isKey_0 18 rfl rfl)
theorem dX2_isKey_19 : decode cX2_isKey 19 = .ok (.iadd, 1) := dk_96 (dk_at dksX2_isKey_0 19 rfl rfl)
theorem dX2_isKey_20 : decode cX2_isKey 20 = .ok (.invokevirtual 76, 3) := dk_182 0 76 (dk_at dksX2_isKey_0 20 rfl rfl)
theorem dX2_isKey_23 : decode cX2_isKey 23 = .ok (.bipush 32, 2) := dk_16 32 (dk_at dksX2_isKey_1 0 rfl rfl)
theorem dX2_isKey_25 : decode cX2_isKey 25 = .ok (.if_icmp .ne 7, 3) := dk_160 0 7 (dk_at dksX2_isKey_1 2 rfl rfl)
theorem dX2_isKey_28 : decode cX2_isKey 28 = .ok (.iconst 1, 1) := dk_4 (dk_at dksX2_isKey_1 5 rfl rfl)
theorem dX2_isKey_29 : decode cX2_isKey 29 = .ok (.goto 4, 3) := dk_167 0 4 (dk_at dksX2_isKey_1 6 rfl rfl)
theorem dX2_isKey_32 : decode cX2_isKey 32 = .ok (.iconst 0, 1) := dk_3 (dk_at dksX2_isKey_1 9 rfl rfl)
theorem dX2_isKey_33 : decode cX2_isKey 33 = .ok (.istore_n 3, 1) := dk_62 (dk_at dksX2_isKey_1 10 rfl rfl)
theorem dX2_isKey_34 : decode cX2_isKey 34 = .ok (.iconst 0, 1) := dk_3 (dk_at dksX2_isKey_1 11 rfl rfl)
theorem dX2_isKey_35 : decode cX2_isKey 35 = .ok (.istore 4, 2) := dk_54 4 (dk_at dksX2_isKey_1 12 rfl rfl)
theorem dX2_isKey_37 : decode cX2_isKey 37 = .ok (.iload 4, 2) := dk_21 4 (dk_at dksX2_isKey_1 14 rfl rfl)
theorem dX2_isKey_39 : decode cX2_isKey 39 = .ok (.iload_n 2, 1) := dk_28 (dk_at dksX2_isKey_1 16 rfl rfl)
theorem dX2_isKey_40 : decode cX2_isKey 40 = .ok (.if_icmp .ge 45, 3) := dk_162 0 45 (dk_at dksX2_isKey_1 17 rfl rfl)
theorem dX2_isKey_43 : decode cX2_isKey 43 = .ok (.iload_n 3, 1) := dk_29 (dk_at dksX2_isKey_1 20 rfl rfl)
theorem dX2_isKey_44 : decode cX2_isKey 44 = .ok (.ifCond .eq 41, 3) := dk_153 0 41 (dk_at dksX2_isKey_1 21 rfl rfl)
theorem dX2_isKey_47 : decode cX2_isKey 47 = .ok (.ldc 74, 2) := dk_18 74 (dk_at dksX2_isKey_2 0 rfl rfl)
theorem dX2_isKey_49 : decode cX2_isKey 49 = .ok (.bipush 7, 2) := dk_16 7 (dk_at dksX2_isKey_2 2 rfl rfl)
theorem dX2_isKey_51 : decode cX2_isKey 51 = .ok (.iload_n 1, 1) := dk_27 (dk_at dksX2_isKey_2 4 rfl rfl)
theorem dX2_isKey_52 : decode cX2_isKey 52 = .ok (.imul, 1) := dk_104 (dk_at dksX2_isKey_2 5 rfl rfl)
theorem dX2_isKey_53 : decode cX2_isKey 53 = .ok (.iload 4, 2) := dk_21 4 (dk_at dksX2_isKey_2 6 rfl rfl)
theorem dX2_isKey_55 : decode cX2_isKey 55 = .ok (.iadd, 1) := dk_96 (dk_at dksX2_isKey_2 8 rfl rfl)
theorem dX2_isKey_56 : decode cX2_isKey 56 = .ok (.invokevirtual 76, 3) := dk_182 0 76 (dk_at dksX2_isKey_2 9 rfl rfl)
theorem dX2_isKey_59 : decode cX2_isKey 59 = .ok (.aload_n 0, 1) := dk_42 (dk_at dksX2_isKey_2 12 rfl rfl)
theorem dX2_isKey_60 : decode cX2_isKey 60 = .ok (.aload_n 0, 1) := dk_42 (dk_at dksX2_isKey_2 13 rfl rfl)
theorem dX2_isKey_61 : decode cX2_isKey 61 = .ok (.getfield 44, 3) := dk_180 0 44 (dk_at dksX2_isKey_2 14 rfl rfl)
theorem dX2_isKey_64 : decode cX2_isKey 64 = .ok (.iload 4, 2) := dk_21 4 (dk_at dksX2_isKey_2 17 rfl rfl)
theorem dX2_isKey_66 : decode cX2_isKey 66 = .ok (.iadd, 1) := dk_96 (dk_at dksX2_isKey_2 19 rfl rfl)
theorem dX2_isKey_67 : decode cX2_isKey 67 = .ok (.invokevirtual 40, 3) := dk_182 0 40 (dk_at dksX2_isKey_2 20 rfl rfl)
theorem dX2_isKey_70 : decode cX2_isKey 70 = .ok (.if_icmp .ne 7, 3) := dk_160 0 7 (dk_at dksX2_isKey_3 0 rfl rfl)
theorem dX2_isKey_73 : decode cX2_isKey 73 = .ok (.iconst 1, 1) := dk_4 (dk_at dksX2_isKey_3 3 rfl rfl)
theorem dX2_isKey_74 : decode cX2_isKey 74 = .ok (.goto 4, 3) := dk_167 0 4 (dk_at dksX2_isKey_3 4 rfl rfl)
theorem dX2_isKey_77 : decode cX2_isKey 77 = .ok (.iconst 0, 1) := dk_3 (dk_at dksX2_isKey_3 7 rfl rfl)
theorem dX2_isKey_78 : decode cX2_isKey 78 = .ok (.istore_n 3, 1) := dk_62 (dk_at dksX2_isKey_3 8 rfl rfl)
theorem dX2_isKey_79 : decode cX2_isKey 79 = .ok (.iinc 4 1, 3) := dk_132 4 1 (dk_at dksX2_isKey_3 9 rfl rfl)
theorem dX2_isKey_82 : decode cX2_isKey 82 = .ok (.goto (-45), 3) := dk_167 255 211 (dk_at dksX2_isKey_3 12 rfl rfl)
theorem dX2_isKey_85 : decode cX2_isKey 85 = .ok (.iload_n 3, 1) := dk_29 (dk_at dksX2_isKey_3 15 rfl rfl)
theorem dX2_isKey_86 : decode cX2_isKey 86 = .ok (.ireturn, 1) := dk_172 (dk_at dksX2_isKey_3 16 rfl rfl)
abbrev cX2_need : ByteArray := prog_6_method_2_code
def yX2_need : MethodName := ⟨RX2, "need", "(Z)V"⟩
def dkwX2_need_0 : List UInt8 := [27, 154, 0, 8, 42, 180, 0, 12, 191, 177]
abbrev dktX2_need_0 : List UInt8 := dkwX2_need_0 ++ []
theorem dksX2_need_0 : cX2_need.data.toList.drop 0 = dktX2_need_0 := by decide +kernel
theorem dX2_need_0 : decode cX2_need 0 = .ok (.iload_n 1, 1) := dk_27 (dk_at dksX2_need_0 0 rfl rfl)
theorem dX2_need_1 : decode cX2_need 1 = .ok (.ifCond .ne 8, 3) := dk_154 0 8 (dk_at dksX2_need_0 1 rfl rfl)
theorem dX2_need_4 : decode cX2_need 4 = .ok (.aload_n 0, 1) := dk_42 (dk_at dksX2_need_0 4 rfl rfl)
theorem dX2_need_5 : decode cX2_need 5 = .ok (.getfield 12, 3) := dk_180 0 12 (dk_at dksX2_need_0 5 rfl rfl)
theorem dX2_need_8 : decode cX2_need 8 = .ok (.athrow, 1) := dk_191 (dk_at dksX2_need_0 8 rfl rfl)
theorem dX2_need_9 : decode cX2_need 9 = .ok (.return_, 1) := dk_177 (dk_at dksX2_need_0 9 rfl rfl)
abbrev cX2_isDigit : ByteArray := prog_6_method_4_code
def yX2_isDigit : MethodName := ⟨RX2, "isDigit", "(I)Z"⟩
def dkwX2_isDigit_0 : List UInt8 := [26, 16, 48, 16, 57, 184, 0, 33, 172]
abbrev dktX2_isDigit_0 : List UInt8 := dkwX2_isDigit_0 ++ []
theorem dksX2_isDigit_0 : cX2_isDigit.data.toList.drop 0 = dktX2_isDigit_0 := by decide +kernel
theorem dX2_isDigit_0 : decode cX2_isDigit 0 = .ok (.iload_n 0, 1) := dk_26 (dk_at dksX2_isDigit_0 0 rfl rfl)
theorem dX2_isDigit_1 : decode cX2_isDigit 1 = .ok (.bipush 48, 2) := dk_16 48 (dk_at dksX2_isDigit_0 1 rfl rfl)
theorem dX2_isDigit_3 : decode cX2_isDigit 3 = .ok (.bipush 57, 2) := dk_16 57 (dk_at dksX2_isDigit_0 3 rfl rfl)
theorem dX2_isDigit_5 : decode cX2_isDigit 5 = .ok (.invokestatic 33, 3) := dk_184 0 33 (dk_at dksX2_isDigit_0 5 rfl rfl)
theorem dX2_isDigit_8 : decode cX2_isDigit 8 = .ok (.ireturn, 1) := dk_172 (dk_at dksX2_isDigit_0 8 rfl rfl)
abbrev cX2_digits : ByteArray := prog_6_method_7_code
def yX2_digits : MethodName := ⟨RX2, "digits", "()V"⟩
def dkwX2_digits_3 : List UInt8 := [17, 3, 231, 163, 0, 7, 4, 167, 0, 4, 3, 182, 0, 63, 177]
abbrev dktX2_digits_3 : List UInt8 := dkwX2_digits_3 ++ []
def dkwX2_digits_2 : List UInt8 := [180, 0, 37, 4, 96, 181, 0, 37, 167, 255, 204, 42, 4, 181, 0, 47, 42, 27, 181, 0, 67, 42, 27]
abbrev dktX2_digits_2 : List UInt8 := dkwX2_digits_2 ++ dktX2_digits_3
def dkwX2_digits_1 : List UInt8 := [167, 0, 19, 16, 10, 27, 104, 42, 42, 180, 0, 37, 182, 0, 40, 96, 16, 48, 100, 60, 42, 89]
abbrev dktX2_digits_1 : List UInt8 := dkwX2_digits_1 ++ dktX2_digits_2
def dkwX2_digits_0 : List UInt8 := [3, 60, 42, 42, 180, 0, 37, 182, 0, 40, 184, 0, 57, 153, 0, 44, 27, 17, 3, 231, 164, 0, 7, 27]
abbrev dktX2_digits_0 : List UInt8 := dkwX2_digits_0 ++ dktX2_digits_1
theorem dksX2_digits_0 : cX2_digits.data.toList.drop 0 = dktX2_digits_0 := by decide +kernel
theorem dksX2_digits_1 : cX2_digits.data.toList.drop 24 = dktX2_digits_1 := dk_seg dksX2_digits_0 24 rfl rfl
theorem dksX2_digits_2 : cX2_digits.data.toList.drop 46 = dktX2_digits_2 := dk_seg dksX2_digits_1 22 rfl rfl
theorem dksX2_digits_3 : cX2_digits.data.toList.drop 69 = dktX2_digits_3 := dk_seg dksX2_digits_2 23 rfl rfl
theorem dX2_digits_0 : decode cX2_digits 0 = .ok (.iconst 0, 1) := dk_3 (dk_at dksX2_digits_0 0 rfl rfl)
theorem dX2_digits_1 : decode cX2_digits 1 = .ok (.istore_n 1, 1) := dk_60 (dk_at dksX2_digits_0 1 rfl rfl)
theorem dX2_digits_2 : decode cX2_digits 2 = .ok (.aload_n 0, 1) := dk_42 (dk_at dksX2_digits_0 2 rfl rfl)
theorem dX2_digits_3 : decode cX2_digits 3 = .ok (.aload_n 0, 1) := dk_42 (dk_at dksX2_digits_0 3 rfl rfl)
theorem dX2_digits_4 : decode cX2_digits 4 = .ok (.getfield 37, 3) := dk_180 0 37 (dk_at dksX2_digits_0 4 rfl rfl)
theorem dX2_digits_7 : decode cX2_digits 7 = .ok (.invokevirtual 40, 3) := dk_182 0 40 (dk_at dksX2_digits_0 7 rfl rfl)
theorem dX2_digits_10 : decode cX2_digits 10 = .ok (.invokestatic 57, 3) := dk_184 0 57 (dk_at dksX2_digits_0 10 rfl rfl)
theorem dX2_digits_13 : decode cX2_digits 13 = .ok (.ifCond .eq 44, 3) := dk_153 0 44 (dk_at dksX2_digits_0 13 rfl rfl)
theorem dX2_digits_16 : decode cX2_digits 16 = .ok (.iload_n 1, 1) := dk_27 (dk_at dksX2_digits_0 16 rfl rfl)
theorem dX2_digits_17 : decode cX2_digits 17 = .ok (.sipush 999, 3) := dk_17 3 231 (dk_at dksX2_digits_0 17 rfl rfl)
theorem dX2_digits_20 : decode cX2_digits 20 = .ok (.if_icmp .le 7, 3) := dk_164 0 7 (dk_at dksX2_digits_0 20 rfl rfl)
theorem dX2_digits_23 : decode cX2_digits 23 = .ok (.iload_n 1, 1) := dk_27 (dk_at dksX2_digits_0 23 rfl rfl)
theorem dX2_digits_24 : decode cX2_digits 24 = .ok (.goto 19, 3) := dk_167 0 19 (dk_at dksX2_digits_1 0 rfl rfl)
theorem dX2_digits_27 : decode cX2_digits 27 = .ok (.bipush 10, 2) := dk_16 10 (dk_at dksX2_digits_1 3 rfl rfl)
theorem dX2_digits_29 : decode cX2_digits 29 = .ok (.iload_n 1, 1) := dk_27 (dk_at dksX2_digits_1 5 rfl rfl)
theorem dX2_digits_30 : decode cX2_digits 30 = .ok (.imul, 1) := dk_104 (dk_at dksX2_digits_1 6 rfl rfl)
theorem dX2_digits_31 : decode cX2_digits 31 = .ok (.aload_n 0, 1) := dk_42 (dk_at dksX2_digits_1 7 rfl rfl)
theorem dX2_digits_32 : decode cX2_digits 32 = .ok (.aload_n 0, 1) := dk_42 (dk_at dksX2_digits_1 8 rfl rfl)
theorem dX2_digits_33 : decode cX2_digits 33 = .ok (.getfield 37, 3) := dk_180 0 37 (dk_at dksX2_digits_1 9 rfl rfl)
theorem dX2_digits_36 : decode cX2_digits 36 = .ok (.invokevirtual 40, 3) := dk_182 0 40 (dk_at dksX2_digits_1 12 rfl rfl)
theorem dX2_digits_39 : decode cX2_digits 39 = .ok (.iadd, 1) := dk_96 (dk_at dksX2_digits_1 15 rfl rfl)
theorem dX2_digits_40 : decode cX2_digits 40 = .ok (.bipush 48, 2) := dk_16 48 (dk_at dksX2_digits_1 16 rfl rfl)
theorem dX2_digits_42 : decode cX2_digits 42 = .ok (.isub, 1) := dk_100 (dk_at dksX2_digits_1 18 rfl rfl)
theorem dX2_digits_43 : decode cX2_digits 43 = .ok (.istore_n 1, 1) := dk_60 (dk_at dksX2_digits_1 19 rfl rfl)
theorem dX2_digits_44 : decode cX2_digits 44 = .ok (.aload_n 0, 1) := dk_42 (dk_at dksX2_digits_1 20 rfl rfl)
theorem dX2_digits_45 : decode cX2_digits 45 = .ok (.dup, 1) := dk_89 (dk_at dksX2_digits_1 21 rfl rfl)
theorem dX2_digits_46 : decode cX2_digits 46 = .ok (.getfield 37, 3) := dk_180 0 37 (dk_at dksX2_digits_2 0 rfl rfl)
theorem dX2_digits_49 : decode cX2_digits 49 = .ok (.iconst 1, 1) := dk_4 (dk_at dksX2_digits_2 3 rfl rfl)
theorem dX2_digits_50 : decode cX2_digits 50 = .ok (.iadd, 1) := dk_96 (dk_at dksX2_digits_2 4 rfl rfl)
theorem dX2_digits_51 : decode cX2_digits 51 = .ok (.putfield 37, 3) := dk_181 0 37 (dk_at dksX2_digits_2 5 rfl rfl)
theorem dX2_digits_54 : decode cX2_digits 54 = .ok (.goto (-52), 3) := dk_167 255 204 (dk_at dksX2_digits_2 8 rfl rfl)
theorem dX2_digits_57 : decode cX2_digits 57 = .ok (.aload_n 0, 1) := dk_42 (dk_at dksX2_digits_2 11 rfl rfl)
theorem dX2_digits_58 : decode cX2_digits 58 = .ok (.iconst 1, 1) := dk_4 (dk_at dksX2_digits_2 12 rfl rfl)
theorem dX2_digits_59 : decode cX2_digits 59 = .ok (.putfield 47, 3) := dk_181 0 47 (dk_at dksX2_digits_2 13 rfl rfl)
theorem dX2_digits_62 : decode cX2_digits 62 = .ok (.aload_n 0, 1) := dk_42 (dk_at dksX2_digits_2 16 rfl rfl)
theorem dX2_digits_63 : decode cX2_digits 63 = .ok (.iload_n 1, 1) := dk_27 (dk_at dksX2_digits_2 17 rfl rfl)
theorem dX2_digits_64 : decode cX2_digits 64 = .ok (.putfield 67, 3) := dk_181 0 67 (dk_at dksX2_digits_2 18 rfl rfl)
theorem dX2_digits_67 : decode cX2_digits 67 = .ok (.aload_n 0, 1) := dk_42 (dk_at dksX2_digits_2 21 rfl rfl)
theorem dX2_digits_68 : decode cX2_digits 68 = .ok (.iload_n 1, 1) := dk_27 (dk_at dksX2_digits_2 22 rfl rfl)
theorem dX2_digits_69 : decode cX2_digits 69 = .ok (.sipush 999, 3) := dk_17 3 231 (dk_at dksX2_digits_3 0 rfl rfl)
theorem dX2_digits_72 : decode cX2_digits 72 = .ok (.if_icmp .gt 7, 3) := dk_163 0 7 (dk_at dksX2_digits_3 3 rfl rfl)
theorem dX2_digits_75 : decode cX2_digits 75 = .ok (.iconst 1, 1) := dk_4 (dk_at dksX2_digits_3 6 rfl rfl)
theorem dX2_digits_76 : decode cX2_digits 76 = .ok (.goto 4, 3) := dk_167 0 4 (dk_at dksX2_digits_3 7 rfl rfl)
theorem dX2_digits_79 : decode cX2_digits 79 = .ok (.iconst 0, 1) := dk_3 (dk_at dksX2_digits_3 10 rfl rfl)
theorem dX2_digits_80 : decode cX2_digits 80 = .ok (.invokevirtual 63, 3) := dk_182 0 63 (dk_at dksX2_digits_3 11 rfl rfl)
theorem dX2_digits_83 : decode cX2_digits 83 = .ok (.return_, 1) := dk_177 (dk_at dksX2_digits_3 14 rfl rfl)
abbrev cX2_item : ByteArray := prog_6_method_18_code
def yX2_item : MethodName := ⟨RX2, "item", "()V"⟩
def dkwX2_item_5 : List UInt8 := [180, 0, 67, 182, 0, 130, 177]
abbrev dktX2_item_5 : List UInt8 := dkwX2_item_5 ++ []
def dkwX2_item_4 : List UInt8 := [182, 0, 123, 167, 0, 27, 42, 42, 180, 0, 25, 180, 0, 127, 16, 99, 182, 0, 123, 167, 0, 11, 42, 42]
abbrev dktX2_item_4 : List UInt8 := dkwX2_item_4 ++ dktX2_item_5
def dkwX2_item_3 : List UInt8 := [42, 182, 0, 116, 167, 0, 50, 42, 182, 0, 118, 167, 0, 43, 42, 42, 180, 0, 25, 180, 0, 120, 16, 30]
abbrev dktX2_item_3 : List UInt8 := dkwX2_item_3 ++ dktX2_item_4
def dkwX2_item_2 : List UInt8 := [170, 0, 0, 0, 0, 76, 0, 0, 0, 7, 0, 0, 0, 10, 0, 0, 0, 30, 0, 0, 0, 37, 0, 0, 0, 44, 0, 0, 0, 60]
abbrev dktX2_item_2 : List UInt8 := dkwX2_item_2 ++ dktX2_item_3
def dkwX2_item_1 : List UInt8 := [182, 0, 63, 42, 180, 0, 67]
abbrev dktX2_item_1 : List UInt8 := dkwX2_item_1 ++ dktX2_item_2
def dkwX2_item_0 : List UInt8 := [42, 42, 180, 0, 47, 5, 160, 0, 16, 42, 180, 0, 67, 16, 10, 163, 0, 7, 4, 167, 0, 4, 3]
abbrev dktX2_item_0 : List UInt8 := dkwX2_item_0 ++ dktX2_item_1
theorem dksX2_item_0 : cX2_item.data.toList.drop 0 = dktX2_item_0 := by decide +kernel
theorem dksX2_item_1 : cX2_item.data.toList.drop 23 = dktX2_item_1 := dk_seg dksX2_item_0 23 rfl rfl
theorem dksX2_item_2 : cX2_item.data.toList.drop 30 = dktX2_item_2 := dk_seg dksX2_item_1 7 rfl rfl
theorem dksX2_item_3 : cX2_item.data.toList.drop 60 = dktX2_item_3 := dk_seg dksX2_item_2 30 rfl rfl
theorem dksX2_item_4 : cX2_item.data.toList.drop 84 = dktX2_item_4 := dk_seg dksX2_item_3 24 rfl rfl
theorem dksX2_item_5 : cX2_item.data.toList.drop 108 = dktX2_item_5 := dk_seg dksX2_item_4 24 rfl rfl
theorem dX2_item_0 : decode cX2_item 0 = .ok (.aload_n 0, 1) := dk_42 (dk_at dksX2_item_0 0 rfl rfl)
theorem dX2_item_1 : decode cX2_item 1 = .ok (.aload_n 0, 1) := dk_42 (dk_at dksX2_item_0 1 rfl rfl)
theorem dX2_item_2 : decode cX2_item 2 = .ok (.getfield 47, 3) := dk_180 0 47 (dk_at dksX2_item_0 2 rfl rfl)
theorem dX2_item_5 : decode cX2_item 5 = .ok (.iconst 2, 1) := dk_5 (dk_at dksX2_item_0 5 rfl rfl)
theorem dX2_item_6 : decode cX2_item 6 = .ok (.if_icmp .ne 16, 3) := dk_160 0 16 (dk_at dksX2_item_0 6 rfl rfl)
theorem dX2_item_9 : decode cX2_item 9 = .ok (.aload_n 0, 1) := dk_42 (dk_at dksX2_item_0 9 rfl rfl)
theorem dX2_item_10 : decode cX2_item 10 = .ok (.getfield 67, 3) := dk_180 0 67 (dk_at dksX2_item_0 10 rfl rfl)
theorem dX2_item_13 : decode cX2_item 13 = .ok (.bipush 10, 2) := dk_16 10 (dk_at dksX2_item_0 13 rfl rfl)
theorem dX2_item_15 : decode cX2_item 15 = .ok (.if_icmp .gt 7, 3) := dk_163 0 7 (dk_at dksX2_item_0 15 rfl rfl)
theorem dX2_item_18 : decode cX2_item 18 = .ok (.iconst 1, 1) := dk_4 (dk_at dksX2_item_0 18 rfl rfl)
theorem dX2_item_19 : decode cX2_item 19 = .ok (.goto 4, 3) := dk_167 0 4 (dk_at dksX2_item_0 19 rfl rfl)
theorem dX2_item_22 : decode cX2_item 22 = .ok (.iconst 0, 1) := dk_3 (dk_at dksX2_item_0 22 rfl rfl)
theorem dX2_item_23 : decode cX2_item 23 = .ok (.invokevirtual 63, 3) := dk_182 0 63 (dk_at dksX2_item_1 0 rfl rfl)
theorem dX2_item_26 : decode cX2_item 26 = .ok (.aload_n 0, 1) := dk_42 (dk_at dksX2_item_1 3 rfl rfl)
theorem dX2_item_27 : decode cX2_item 27 = .ok (.getfield 67, 3) := dk_180 0 67 (dk_at dksX2_item_1 4 rfl rfl)
theorem dX2_item_30 : decode cX2_item 30 = .ok (.tableswitch 76 7 10 #[30, 37, 44, 60], 30) := by decide +kernel
theorem dX2_item_60 : decode cX2_item 60 = .ok (.aload_n 0, 1) := dk_42 (dk_at dksX2_item_3 0 rfl rfl)
theorem dX2_item_61 : decode cX2_item 61 = .ok (.invokevirtual 116, 3) := dk_182 0 116 (dk_at dksX2_item_3 1 rfl rfl)
theorem dX2_item_64 : decode cX2_item 64 = .ok (.goto 50, 3) := dk_167 0 50 (dk_at dksX2_item_3 4 rfl rfl)
theorem dX2_item_67 : decode cX2_item 67 = .ok (.aload_n 0, 1) := dk_42 (dk_at dksX2_item_3 7 rfl rfl)
theorem dX2_item_68 : decode cX2_item 68 = .ok (.invokevirtual 118, 3) := dk_182 0 118 (dk_at dksX2_item_3 8 rfl rfl)
theorem dX2_item_71 : decode cX2_item 71 = .ok (.goto 43, 3) := dk_167 0 43 (dk_at dksX2_item_3 11 rfl rfl)
theorem dX2_item_74 : decode cX2_item 74 = .ok (.aload_n 0, 1) := dk_42 (dk_at dksX2_item_3 14 rfl rfl)
theorem dX2_item_75 : decode cX2_item 75 = .ok (.aload_n 0, 1) := dk_42 (dk_at dksX2_item_3 15 rfl rfl)
theorem dX2_item_76 : decode cX2_item 76 = .ok (.getfield 25, 3) := dk_180 0 25 (dk_at dksX2_item_3 16 rfl rfl)
theorem dX2_item_79 : decode cX2_item 79 = .ok (.getfield 120, 3) := dk_180 0 120 (dk_at dksX2_item_3 19 rfl rfl)
theorem dX2_item_82 : decode cX2_item 82 = .ok (.bipush 30, 2) := dk_16 30 (dk_at dksX2_item_3 22 rfl rfl)
theorem dX2_item_84 : decode cX2_item 84 = .ok (.invokevirtual 123, 3) := dk_182 0 123 (dk_at dksX2_item_4 0 rfl rfl)
theorem dX2_item_87 : decode cX2_item 87 = .ok (.goto 27, 3) := dk_167 0 27 (dk_at dksX2_item_4 3 rfl rfl)
theorem dX2_item_90 : decode cX2_item 90 = .ok (.aload_n 0, 1) := dk_42 (dk_at dksX2_item_4 6 rfl rfl)
theorem dX2_item_91 : decode cX2_item 91 = .ok (.aload_n 0, 1) := dk_42 (dk_at dksX2_item_4 7 rfl rfl)
theorem dX2_item_92 : decode cX2_item 92 = .ok (.getfield 25, 3) := dk_180 0 25 (dk_at dksX2_item_4 8 rfl rfl)
theorem dX2_item_95 : decode cX2_item 95 = .ok (.getfield 127, 3) := dk_180 0 127 (dk_at dksX2_item_4 11 rfl rfl)
theorem dX2_item_98 : decode cX2_item 98 = .ok (.bipush 99, 2) := dk_16 99 (dk_at dksX2_item_4 14 rfl rfl)
theorem dX2_item_100 : decode cX2_item 100 = .ok (.invokevirtual 123, 3) := dk_182 0 123 (dk_at dksX2_item_4 16 rfl rfl)
theorem dX2_item_103 : decode cX2_item 103 = .ok (.goto 11, 3) := dk_167 0 11 (dk_at dksX2_item_4 19 rfl rfl)
theorem dX2_item_106 : decode cX2_item 106 = .ok (.aload_n 0, 1) := dk_42 (dk_at dksX2_item_4 22 rfl rfl)
theorem dX2_item_107 : decode cX2_item 107 = .ok (.aload_n 0, 1) := dk_42 (dk_at dksX2_item_4 23 rfl rfl)
theorem dX2_item_108 : decode cX2_item 108 = .ok (.getfield 67, 3) := dk_180 0 67 (dk_at dksX2_item_5 0 rfl rfl)
theorem dX2_item_111 : decode cX2_item 111 = .ok (.invokevirtual 130, 3) := dk_182 0 130 (dk_at dksX2_item_5 3 rfl rfl)
theorem dX2_item_114 : decode cX2_item 114 = .ok (.return_, 1) := dk_177 (dk_at dksX2_item_5 6 rfl rfl)
abbrev cX2_mouse : ByteArray := prog_6_method_15_code
def yX2_mouse : MethodName := ⟨RX2, "mouse", "()V"⟩
def dkwX2_mouse_4 : List UInt8 := [182, 0, 92, 79, 177]
abbrev dktX2_mouse_4 : List UInt8 := dkwX2_mouse_4 ++ []
def dkwX2_mouse_3 : List UInt8 := [79, 42, 16, 17, 182, 0, 99, 153, 0, 19, 42, 180, 0, 25, 180, 0, 106, 6, 42, 3, 16, 9]
abbrev dktX2_mouse_3 : List UInt8 := dkwX2_mouse_3 ++ dktX2_mouse_4
def dkwX2_mouse_2 : List UInt8 := [42, 16, 16, 182, 0, 99, 153, 0, 19, 42, 180, 0, 25, 180, 0, 106, 5, 42, 4, 16, 9, 182, 0, 92]
abbrev dktX2_mouse_2 : List UInt8 := dkwX2_mouse_2 ++ dktX2_mouse_3
def dkwX2_mouse_1 : List UInt8 := [3, 79, 42, 180, 0, 25, 180, 0, 106, 4, 42, 42, 180, 0, 25, 180, 0, 106, 4, 46, 182, 0, 110, 79]
abbrev dktX2_mouse_1 : List UInt8 := dkwX2_mouse_1 ++ dktX2_mouse_2
def dkwX2_mouse_0 : List UInt8 := [42, 180, 0, 25, 180, 0, 106, 3, 42, 3, 16, 35, 182, 0, 92, 79, 42, 180, 0, 25, 180, 0, 106, 7]
abbrev dktX2_mouse_0 : List UInt8 := dkwX2_mouse_0 ++ dktX2_mouse_1
theorem dksX2_mouse_0 : cX2_mouse.data.toList.drop 0 = dktX2_mouse_0 := by decide +kernel
theorem dksX2_mouse_1 : cX2_mouse.data.toList.drop 24 = dktX2_mouse_1 := dk_seg dksX2_mouse_0 24 rfl rfl
theorem dksX2_mouse_2 : cX2_mouse.data.toList.drop 48 = dktX2_mouse_2 := dk_seg dksX2_mouse_1 24 rfl rfl
theorem dksX2_mouse_3 : cX2_mouse.data.toList.drop 72 = dktX2_mouse_3 := dk_seg dksX2_mouse_2 24 rfl rfl
theorem dksX2_mouse_4 : cX2_mouse.data.toList.drop 94 = dktX2_mouse_4 := dk_seg dksX2_mouse_3 22 rfl rfl
theorem dX2_mouse_0 : decode cX2_mouse 0 = .ok (.aload_n 0, 1) := dk_42 (dk_at dksX2_mouse_0 0 rfl rfl)
theorem dX2_mouse_1 : decode cX2_mouse 1 = .ok (.getfield 25, 3) := dk_180 0 25 (dk_at dksX2_mouse_0 1 rfl rfl)
theorem dX2_mouse_4 : decode cX2_mouse 4 = .ok (.getfield 106, 3) := dk_180 0 106 (dk_at dksX2_mouse_0 4 rfl rfl)
theorem dX2_mouse_7 : decode cX2_mouse 7 = .ok (.iconst 0, 1) := dk_3 (dk_at dksX2_mouse_0 7 rfl rfl)
theorem dX2_mouse_8 : decode cX2_mouse 8 = .ok (.aload_n 0, 1) := dk_42 (dk_at dksX2_mouse_0 8 rfl rfl)
theorem dX2_mouse_9 : decode cX2_mouse 9 = .ok (.iconst 0, 1) := dk_3 (dk_at dksX2_mouse_0 9 rfl rfl)
theorem dX2_mouse_10 : decode cX2_mouse 10 = .ok (.bipush 35, 2) := dk_16 35 (dk_at dksX2_mouse_0 10 rfl rfl)
theorem dX2_mouse_12 : decode cX2_mouse 12 = .ok (.invokevirtual 92, 3) := dk_182 0 92 (dk_at dksX2_mouse_0 12 rfl rfl)
theorem dX2_mouse_15 : decode cX2_mouse 15 = .ok (.iastore, 1) := dk_79 (dk_at dksX2_mouse_0 15 rfl rfl)
theorem dX2_mouse_16 : decode cX2_mouse 16 = .ok (.aload_n 0, 1) := dk_42 (dk_at dksX2_mouse_0 16 rfl rfl)
theorem dX2_mouse_17 : decode cX2_mouse 17 = .ok (.getfield 25, 3) := dk_180 0 25 (dk_at dksX2_mouse_0 17 rfl rfl)
theorem dX2_mouse_20 : decode cX2_mouse 20 = .ok (.getfield 106, 3) := dk_180 0 106 (dk_at dksX2_mouse_0 20 rfl rfl)
theorem dX2_mouse_23 : decode cX2_mouse 23 = .ok (.iconst 4, 1) := dk_7 (dk_at dksX2_mouse_0 23 rfl rfl)
theorem dX2_mouse_24 : decode cX2_mouse 24 = .ok (.iconst 0, 1) := dk_3 (dk_at dksX2_mouse_1 0 rfl rfl)
theorem dX2_mouse_25 : decode cX2_mouse 25 = .ok (.iastore, 1) := dk_79 (dk_at dksX2_mouse_1 1 rfl rfl)
theorem dX2_mouse_26 : decode cX2_mouse 26 = .ok (.aload_n 0, 1) := dk_42 (dk_at dksX2_mouse_1 2 rfl rfl)
theorem dX2_mouse_27 : decode cX2_mouse 27 = .ok (.getfield 25, 3) := dk_180 0 25 (dk_at dksX2_mouse_1 3 rfl rfl)
theorem dX2_mouse_30 : decode cX2_mouse 30 = .ok (.getfield 106, 3) := dk_180 0 106 (dk_at dksX2_mouse_1 6 rfl rfl)
theorem dX2_mouse_33 : decode cX2_mouse 33 = .ok (.iconst 1, 1) := dk_4 (dk_at dksX2_mouse_1 9 rfl rfl)
theorem dX2_mouse_34 : decode cX2_mouse 34 = .ok (.aload_n 0, 1) := dk_42 (dk_at dksX2_mouse_1 10 rfl rfl)
theorem dX2_mouse_35 : decode cX2_mouse 35 = .ok (.aload_n 0, 1) := dk_42 (dk_at dksX2_mouse_1 11 rfl rfl)
theorem dX2_mouse_36 : decode cX2_mouse 36 = .ok (.getfield 25, 3) := dk_180 0 25 (dk_at dksX2_mouse_1 12 rfl rfl)
theorem dX2_mouse_39 : decode cX2_mouse 39 = .ok (.getfield 106, 3) := dk_180 0 106 (dk_at dksX2_mouse_1 15 rfl rfl)
theorem dX2_mouse_42 : decode cX2_mouse 42 = .ok (.iconst 1, 1) := dk_4 (dk_at dksX2_mouse_1 18 rfl rfl)
theorem dX2_mouse_43 : decode cX2_mouse 43 = .ok (.iaload, 1) := dk_46 (dk_at dksX2_mouse_1 19 rfl rfl)
theorem dX2_mouse_44 : decode cX2_mouse 44 = .ok (.invokevirtual 110, 3) := dk_182 0 110 (dk_at dksX2_mouse_1 20 rfl rfl)
theorem dX2_mouse_47 : decode cX2_mouse 47 = .ok (.iastore, 1) := dk_79 (dk_at dksX2_mouse_1 23 rfl rfl)
theorem dX2_mouse_48 : decode cX2_mouse 48 = .ok (.aload_n 0, 1) := dk_42 (dk_at dksX2_mouse_2 0 rfl rfl)
theorem dX2_mouse_49 : decode cX2_mouse 49 = .ok (.bipush 16, 2) := dk_16 16 (dk_at dksX2_mouse_2 1 rfl rfl)
theorem dX2_mouse_51 : decode cX2_mouse 51 = .ok (.invokevirtual 99, 3) := dk_182 0 99 (dk_at dksX2_mouse_2 3 rfl rfl)
theorem dX2_mouse_54 : decode cX2_mouse 54 = .ok (.ifCond .eq 19, 3) := dk_153 0 19 (dk_at dksX2_mouse_2 6 rfl rfl)
theorem dX2_mouse_57 : decode cX2_mouse 57 = .ok (.aload_n 0, 1) := dk_42 (dk_at dksX2_mouse_2 9 rfl rfl)
theorem dX2_mouse_58 : decode cX2_mouse 58 = .ok (.getfield 25, 3) := dk_180 0 25 (dk_at dksX2_mouse_2 10 rfl rfl)
theorem dX2_mouse_61 : decode cX2_mouse 61 = .ok (.getfield 106, 3) := dk_180 0 106 (dk_at dksX2_mouse_2 13 rfl rfl)
theorem dX2_mouse_64 : decode cX2_mouse 64 = .ok (.iconst 2, 1) := dk_5 (dk_at dksX2_mouse_2 16 rfl rfl)
theorem dX2_mouse_65 : decode cX2_mouse 65 = .ok (.aload_n 0, 1) := dk_42 (dk_at dksX2_mouse_2 17 rfl rfl)
theorem dX2_mouse_66 : decode cX2_mouse 66 = .ok (.iconst 1, 1) := dk_4 (dk_at dksX2_mouse_2 18 rfl rfl)
theorem dX2_mouse_67 : decode cX2_mouse 67 = .ok (.bipush 9, 2) := dk_16 9 (dk_at dksX2_mouse_2 19 rfl rfl)
theorem dX2_mouse_69 : decode cX2_mouse 69 = .ok (.invokevirtual 92, 3) := dk_182 0 92 (dk_at dksX2_mouse_2 21 rfl rfl)
theorem dX2_mouse_72 : decode cX2_mouse 72 = .ok (.iastore, 1) := dk_79 (dk_at dksX2_mouse_3 0 rfl rfl)
theorem dX2_mouse_73 : decode cX2_mouse 73 = .ok (.aload_n 0, 1) := dk_42 (dk_at dksX2_mouse_3 1 rfl rfl)
theorem dX2_mouse_74 : decode cX2_mouse 74 = .ok (.bipush 17, 2) := dk_16 17 (dk_at dksX2_mouse_3 2 rfl rfl)
theorem dX2_mouse_76 : decode cX2_mouse 76 = .ok (.invokevirtual 99, 3) := dk_182 0 99 (dk_at dksX2_mouse_3 4 rfl rfl)
theorem dX2_mouse_79 : decode cX2_mouse 79 = .ok (.ifCond .eq 19, 3) := dk_153 0 19 (dk_at dksX2_mouse_3 7 rfl rfl)
theorem dX2_mouse_82 : decode cX2_mouse 82 = .ok (.aload_n 0, 1) := dk_42 (dk_at dksX2_mouse_3 10 rfl rfl)
theorem dX2_mouse_83 : decode cX2_mouse 83 = .ok (.getfield 25, 3) := dk_180 0 25 (dk_at dksX2_mouse_3 11 rfl rfl)
theorem dX2_mouse_86 : decode cX2_mouse 86 = .ok (.getfield 106, 3) := dk_180 0 106 (dk_at dksX2_mouse_3 14 rfl rfl)
theorem dX2_mouse_89 : decode cX2_mouse 89 = .ok (.iconst 3, 1) := dk_6 (dk_at dksX2_mouse_3 17 rfl rfl)
theorem dX2_mouse_90 : decode cX2_mouse 90 = .ok (.aload_n 0, 1) := dk_42 (dk_at dksX2_mouse_3 18 rfl rfl)
theorem dX2_mouse_91 : decode cX2_mouse 91 = .ok (.iconst 0, 1) := dk_3 (dk_at dksX2_mouse_3 19 rfl rfl)
theorem dX2_mouse_92 : decode cX2_mouse 92 = .ok (.bipush 9, 2) := dk_16 9 (dk_at dksX2_mouse_3 20 rfl rfl)
theorem dX2_mouse_94 : decode cX2_mouse 94 = .ok (.invokevirtual 92, 3) := dk_182 0 92 (dk_at dksX2_mouse_4 0 rfl rfl)
theorem dX2_mouse_97 : decode cX2_mouse 97 = .ok (.iastore, 1) := dk_79 (dk_at dksX2_mouse_4 3 rfl rfl)
theorem dX2_mouse_98 : decode cX2_mouse 98 = .ok (.return_, 1) := dk_177 (dk_at dksX2_mouse_4 4 rfl rfl)
abbrev cX2_behind : ByteArray := prog_6_method_12_code
def yX2_behind : MethodName := ⟨RX2, "behind", "(II)I"⟩
def dkwX2_behind_0 : List UInt8 := [42, 182, 0, 82, 42, 27, 28, 182, 0, 85, 172]
abbrev dktX2_behind_0 : List UInt8 := dkwX2_behind_0 ++ []
theorem dksX2_behind_0 : cX2_behind.data.toList.drop 0 = dktX2_behind_0 := by decide +kernel
theorem dX2_behind_0 : decode cX2_behind 0 = .ok (.aload_n 0, 1) := dk_42 (dk_at dksX2_behind_0 0 rfl rfl)
theorem dX2_behind_1 : decode cX2_behind 1 = .ok (.invokevirtual 82, 3) := dk_182 0 82 (dk_at dksX2_behind_0 1 rfl rfl)
theorem dX2_behind_4 : decode cX2_behind 4 = .ok (.aload_n 0, 1) := dk_42 (dk_at dksX2_behind_0 4 rfl rfl)
theorem dX2_behind_5 : decode cX2_behind 5 = .ok (.iload_n 1, 1) := dk_27 (dk_at dksX2_behind_0 5 rfl rfl)
theorem dX2_behind_6 : decode cX2_behind 6 = .ok (.iload_n 2, 1) := dk_28 (dk_at dksX2_behind_0 6 rfl rfl)
theorem dX2_behind_7 : decode cX2_behind 7 = .ok (.invokevirtual 85, 3) := dk_182 0 85 (dk_at dksX2_behind_0 7 rfl rfl)
theorem dX2_behind_10 : decode cX2_behind 10 = .ok (.ireturn, 1) := dk_172 (dk_at dksX2_behind_0 10 rfl rfl)
abbrev cX2_number : ByteArray := prog_6_method_11_code
def yX2_number : MethodName := ⟨RX2, "number", "(II)I"⟩
def dkwX2_number_1 : List UInt8 := [167, 0, 4, 3, 182, 0, 63, 42, 180, 0, 67, 62, 42, 182, 0, 82, 29, 172]
abbrev dktX2_number_1 : List UInt8 := dkwX2_number_1 ++ []
def dkwX2_number_0 : List UInt8 := [42, 42, 180, 0, 47, 4, 160, 0, 19, 42, 180, 0, 67, 27, 28, 184, 0, 33, 153, 0, 7, 4]
abbrev dktX2_number_0 : List UInt8 := dkwX2_number_0 ++ dktX2_number_1
theorem dksX2_number_0 : cX2_number.data.toList.drop 0 = dktX2_number_0 := by decide +kernel
theorem dksX2_number_1 : cX2_number.data.toList.drop 22 = dktX2_number_1 := dk_seg dksX2_number_0 22 rfl rfl
theorem dX2_number_0 : decode cX2_number 0 = .ok (.aload_n 0, 1) := dk_42 (dk_at dksX2_number_0 0 rfl rfl)
theorem dX2_number_1 : decode cX2_number 1 = .ok (.aload_n 0, 1) := dk_42 (dk_at dksX2_number_0 1 rfl rfl)
theorem dX2_number_2 : decode cX2_number 2 = .ok (.getfield 47, 3) := dk_180 0 47 (dk_at dksX2_number_0 2 rfl rfl)
theorem dX2_number_5 : decode cX2_number 5 = .ok (.iconst 1, 1) := dk_4 (dk_at dksX2_number_0 5 rfl rfl)
theorem dX2_number_6 : decode cX2_number 6 = .ok (.if_icmp .ne 19, 3) := dk_160 0 19 (dk_at dksX2_number_0 6 rfl rfl)
theorem dX2_number_9 : decode cX2_number 9 = .ok (.aload_n 0, 1) := dk_42 (dk_at dksX2_number_0 9 rfl rfl)
theorem dX2_number_10 : decode cX2_number 10 = .ok (.getfield 67, 3) := dk_180 0 67 (dk_at dksX2_number_0 10 rfl rfl)
theorem dX2_number_13 : decode cX2_number 13 = .ok (.iload_n 1, 1) := dk_27 (dk_at dksX2_number_0 13 rfl rfl)
theorem dX2_number_14 : decode cX2_number 14 = .ok (.iload_n 2, 1) := dk_28 (dk_at dksX2_number_0 14 rfl rfl)
theorem dX2_number_15 : decode cX2_number 15 = .ok (.invokestatic 33, 3) := dk_184 0 33 (dk_at dksX2_number_0 15 rfl rfl)
theorem dX2_number_18 : decode cX2_number 18 = .ok (.ifCond .eq 7, 3) := dk_153 0 7 (dk_at dksX2_number_0 18 rfl rfl)
theorem dX2_number_21 : decode cX2_number 21 = .ok (.iconst 1, 1) := dk_4 (dk_at dksX2_number_0 21 rfl rfl)
theorem dX2_number_22 : decode cX2_number 22 = .ok (.goto 4, 3) := dk_167 0 4 (dk_at dksX2_number_1 0 rfl rfl)
theorem dX2_number_25 : decode cX2_number 25 = .ok (.iconst 0, 1) := dk_3 (dk_at dksX2_number_1 3 rfl rfl)
theorem dX2_number_26 : decode cX2_number 26 = .ok (.invokevirtual 63, 3) := dk_182 0 63 (dk_at dksX2_number_1 4 rfl rfl)
theorem dX2_number_29 : decode cX2_number 29 = .ok (.aload_n 0, 1) := dk_42 (dk_at dksX2_number_1 7 rfl rfl)
theorem dX2_number_30 : decode cX2_number 30 = .ok (.getfield 67, 3) := dk_180 0 67 (dk_at dksX2_number_1 8 rfl rfl)
theorem dX2_number_33 : decode cX2_number 33 = .ok (.istore_n 3, 1) := dk_62 (dk_at dksX2_number_1 11 rfl rfl)
theorem dX2_number_34 : decode cX2_number 34 = .ok (.aload_n 0, 1) := dk_42 (dk_at dksX2_number_1 12 rfl rfl)
theorem dX2_number_35 : decode cX2_number 35 = .ok (.invokevirtual 82, 3) := dk_182 0 82 (dk_at dksX2_number_1 13 rfl rfl)
theorem dX2_number_38 : decode cX2_number 38 = .ok (.iload_n 3, 1) := dk_29 (dk_at dksX2_number_1 16 rfl rfl)
theorem dX2_number_39 : decode cX2_number 39 = .ok (.ireturn, 1) := dk_172 (dk_at dksX2_number_1 17 rfl rfl)
abbrev cX2_heading : ByteArray := prog_6_method_14_code
def yX2_heading : MethodName := ⟨RX2, "heading", "(I)I"⟩
def dkwX2_heading_1 : List UInt8 := [42, 180, 0, 67, 16, 11, 100, 61, 42, 182, 0, 82, 28, 172]
abbrev dktX2_heading_1 : List UInt8 := dkwX2_heading_1 ++ []
def dkwX2_heading_0 : List UInt8 := [42, 180, 0, 47, 5, 160, 0, 17, 42, 180, 0, 67, 16, 11, 16, 14, 184, 0, 33, 154, 0, 5, 27, 172]
abbrev dktX2_heading_0 : List UInt8 := dkwX2_heading_0 ++ dktX2_heading_1
theorem dksX2_heading_0 : cX2_heading.data.toList.drop 0 = dktX2_heading_0 := by decide +kernel
theorem dksX2_heading_1 : cX2_heading.data.toList.drop 24 = dktX2_heading_1 := dk_seg dksX2_heading_0 24 rfl rfl
theorem dX2_heading_0 : decode cX2_heading 0 = .ok (.aload_n 0, 1) := dk_42 (dk_at dksX2_heading_0 0 rfl rfl)
theorem dX2_heading_1 : decode cX2_heading 1 = .ok (.getfield 47, 3) := dk_180 0 47 (dk_at dksX2_heading_0 1 rfl rfl)
theorem dX2_heading_4 : decode cX2_heading 4 = .ok (.iconst 2, 1) := dk_5 (dk_at dksX2_heading_0 4 rfl rfl)
theorem dX2_heading_5 : decode cX2_heading 5 = .ok (.if_icmp .ne 17, 3) := dk_160 0 17 (dk_at dksX2_heading_0 5 rfl rfl)
theorem dX2_heading_8 : decode cX2_heading 8 = .ok (.aload_n 0, 1) := dk_42 (dk_at dksX2_heading_0 8 rfl rfl)
theorem dX2_heading_9 : decode cX2_heading 9 = .ok (.getfield 67, 3) := dk_180 0 67 (dk_at dksX2_heading_0 9 rfl rfl)
theorem dX2_heading_12 : decode cX2_heading 12 = .ok (.bipush 11, 2) := dk_16 11 (dk_at dksX2_heading_0 12 rfl rfl)
theorem dX2_heading_14 : decode cX2_heading 14 = .ok (.bipush 14, 2) := dk_16 14 (dk_at dksX2_heading_0 14 rfl rfl)
theorem dX2_heading_16 : decode cX2_heading 16 = .ok (.invokestatic 33, 3) := dk_184 0 33 (dk_at dksX2_heading_0 16 rfl rfl)
theorem dX2_heading_19 : decode cX2_heading 19 = .ok (.ifCond .ne 5, 3) := dk_154 0 5 (dk_at dksX2_heading_0 19 rfl rfl)
theorem dX2_heading_22 : decode cX2_heading 22 = .ok (.iload_n 1, 1) := dk_27 (dk_at dksX2_heading_0 22 rfl rfl)
theorem dX2_heading_23 : decode cX2_heading 23 = .ok (.ireturn, 1) := dk_172 (dk_at dksX2_heading_0 23 rfl rfl)
theorem dX2_heading_24 : decode cX2_heading 24 = .ok (.aload_n 0, 1) := dk_42 (dk_at dksX2_heading_1 0 rfl rfl)
theorem dX2_heading_25 : decode cX2_heading 25 = .ok (.getfield 67, 3) := dk_180 0 67 (dk_at dksX2_heading_1 1 rfl rfl)
theorem dX2_heading_28 : decode cX2_heading 28 = .ok (.bipush 11, 2) := dk_16 11 (dk_at dksX2_heading_1 4 rfl rfl)
theorem dX2_heading_30 : decode cX2_heading 30 = .ok (.isub, 1) := dk_100 (dk_at dksX2_heading_1 6 rfl rfl)
theorem dX2_heading_31 : decode cX2_heading 31 = .ok (.istore_n 2, 1) := dk_61 (dk_at dksX2_heading_1 7 rfl rfl)
theorem dX2_heading_32 : decode cX2_heading 32 = .ok (.aload_n 0, 1) := dk_42 (dk_at dksX2_heading_1 8 rfl rfl)
theorem dX2_heading_33 : decode cX2_heading 33 = .ok (.invokevirtual 82, 3) := dk_182 0 82 (dk_at dksX2_heading_1 9 rfl rfl)
theorem dX2_heading_36 : decode cX2_heading 36 = .ok (.iload_n 2, 1) := dk_28 (dk_at dksX2_heading_1 12 rfl rfl)
theorem dX2_heading_37 : decode cX2_heading 37 = .ok (.ireturn, 1) := dk_172 (dk_at dksX2_heading_1 13 rfl rfl)
abbrev cX2_isWord : ByteArray := prog_6_method_10_code
def yX2_isWord : MethodName := ⟨RX2, "isWord", "(I)Z"⟩
def dkwX2_isWord_0 : List UInt8 := [42, 180, 0, 47, 5, 160, 0, 15, 42, 180, 0, 67, 27, 160, 0, 7, 4, 167, 0, 4, 3, 172]
abbrev dktX2_isWord_0 : List UInt8 := dkwX2_isWord_0 ++ []
theorem dksX2_isWord_0 : cX2_isWord.data.toList.drop 0 = dktX2_isWord_0 := by decide +kernel
theorem dX2_isWord_0 : decode cX2_isWord 0 = .ok (.aload_n 0, 1) := dk_42 (dk_at dksX2_isWord_0 0 rfl rfl)
theorem dX2_isWord_1 : decode cX2_isWord 1 = .ok (.getfield 47, 3) := dk_180 0 47 (dk_at dksX2_isWord_0 1 rfl rfl)
theorem dX2_isWord_4 : decode cX2_isWord 4 = .ok (.iconst 2, 1) := dk_5 (dk_at dksX2_isWord_0 4 rfl rfl)
theorem dX2_isWord_5 : decode cX2_isWord 5 = .ok (.if_icmp .ne 15, 3) := dk_160 0 15 (dk_at dksX2_isWord_0 5 rfl rfl)
theorem dX2_isWord_8 : decode cX2_isWord 8 = .ok (.aload_n 0, 1) := dk_42 (dk_at dksX2_isWord_0 8 rfl rfl)
theorem dX2_isWord_9 : decode cX2_isWord 9 = .ok (.getfield 67, 3) := dk_180 0 67 (dk_at dksX2_isWord_0 9 rfl rfl)
theorem dX2_isWord_12 : decode cX2_isWord 12 = .ok (.iload_n 1, 1) := dk_27 (dk_at dksX2_isWord_0 12 rfl rfl)
theorem dX2_isWord_13 : decode cX2_isWord 13 = .ok (.if_icmp .ne 7, 3) := dk_160 0 7 (dk_at dksX2_isWord_0 13 rfl rfl)
theorem dX2_isWord_16 : decode cX2_isWord 16 = .ok (.iconst 1, 1) := dk_4 (dk_at dksX2_isWord_0 16 rfl rfl)
theorem dX2_isWord_17 : decode cX2_isWord 17 = .ok (.goto 4, 3) := dk_167 0 4 (dk_at dksX2_isWord_0 17 rfl rfl)
theorem dX2_isWord_20 : decode cX2_isWord 20 = .ok (.iconst 0, 1) := dk_3 (dk_at dksX2_isWord_0 20 rfl rfl)
theorem dX2_isWord_21 : decode cX2_isWord 21 = .ok (.ireturn, 1) := dk_172 (dk_at dksX2_isWord_0 21 rfl rfl)
abbrev cX2_owl : ByteArray := prog_6_method_16_code
def yX2_owl : MethodName := ⟨RX2, "owl", "()V"⟩
def dkwX2_owl_1 : List UInt8 := [42, 42, 180, 0, 25, 180, 0, 113, 4, 46, 182, 0, 110, 79, 177]
abbrev dktX2_owl_1 : List UInt8 := dkwX2_owl_1 ++ []
def dkwX2_owl_0 : List UInt8 := [42, 180, 0, 25, 180, 0, 113, 3, 42, 3, 16, 35, 182, 0, 92, 79, 42, 180, 0, 25, 180, 0, 113, 4]
abbrev dktX2_owl_0 : List UInt8 := dkwX2_owl_0 ++ dktX2_owl_1
theorem dksX2_owl_0 : cX2_owl.data.toList.drop 0 = dktX2_owl_0 := by decide +kernel
theorem dksX2_owl_1 : cX2_owl.data.toList.drop 24 = dktX2_owl_1 := dk_seg dksX2_owl_0 24 rfl rfl
theorem dX2_owl_0 : decode cX2_owl 0 = .ok (.aload_n 0, 1) := dk_42 (dk_at dksX2_owl_0 0 rfl rfl)
theorem dX2_owl_1 : decode cX2_owl 1 = .ok (.getfield 25, 3) := dk_180 0 25 (dk_at dksX2_owl_0 1 rfl rfl)
theorem dX2_owl_4 : decode cX2_owl 4 = .ok (.getfield 113, 3) := dk_180 0 113 (dk_at dksX2_owl_0 4 rfl rfl)
theorem dX2_owl_7 : decode cX2_owl 7 = .ok (.iconst 0, 1) := dk_3 (dk_at dksX2_owl_0 7 rfl rfl)
theorem dX2_owl_8 : decode cX2_owl 8 = .ok (.aload_n 0, 1) := dk_42 (dk_at dksX2_owl_0 8 rfl rfl)
theorem dX2_owl_9 : decode cX2_owl 9 = .ok (.iconst 0, 1) := dk_3 (dk_at dksX2_owl_0 9 rfl rfl)
theorem dX2_owl_10 : decode cX2_owl 10 = .ok (.bipush 35, 2) := dk_16 35 (dk_at dksX2_owl_0 10 rfl rfl)
theorem dX2_owl_12 : decode cX2_owl 12 = .ok (.invokevirtual 92, 3) := dk_182 0 92 (dk_at dksX2_owl_0 12 rfl rfl)
theorem dX2_owl_15 : decode cX2_owl 15 = .ok (.iastore, 1) := dk_79 (dk_at dksX2_owl_0 15 rfl rfl)
theorem dX2_owl_16 : decode cX2_owl 16 = .ok (.aload_n 0, 1) := dk_42 (dk_at dksX2_owl_0 16 rfl rfl)
theorem dX2_owl_17 : decode cX2_owl 17 = .ok (.getfield 25, 3) := dk_180 0 25 (dk_at dksX2_owl_0 17 rfl rfl)
theorem dX2_owl_20 : decode cX2_owl 20 = .ok (.getfield 113, 3) := dk_180 0 113 (dk_at dksX2_owl_0 20 rfl rfl)
theorem dX2_owl_23 : decode cX2_owl 23 = .ok (.iconst 1, 1) := dk_4 (dk_at dksX2_owl_0 23 rfl rfl)
theorem dX2_owl_24 : decode cX2_owl 24 = .ok (.aload_n 0, 1) := dk_42 (dk_at dksX2_owl_1 0 rfl rfl)
theorem dX2_owl_25 : decode cX2_owl 25 = .ok (.aload_n 0, 1) := dk_42 (dk_at dksX2_owl_1 1 rfl rfl)
theorem dX2_owl_26 : decode cX2_owl 26 = .ok (.getfield 25, 3) := dk_180 0 25 (dk_at dksX2_owl_1 2 rfl rfl)
theorem dX2_owl_29 : decode cX2_owl 29 = .ok (.getfield 113, 3) := dk_180 0 113 (dk_at dksX2_owl_1 5 rfl rfl)
theorem dX2_owl_32 : decode cX2_owl 32 = .ok (.iconst 1, 1) := dk_4 (dk_at dksX2_owl_1 8 rfl rfl)
theorem dX2_owl_33 : decode cX2_owl 33 = .ok (.iaload, 1) := dk_46 (dk_at dksX2_owl_1 9 rfl rfl)
theorem dX2_owl_34 : decode cX2_owl 34 = .ok (.invokevirtual 110, 3) := dk_182 0 110 (dk_at dksX2_owl_1 10 rfl rfl)
theorem dX2_owl_37 : decode cX2_owl 37 = .ok (.iastore, 1) := dk_79 (dk_at dksX2_owl_1 13 rfl rfl)
theorem dX2_owl_38 : decode cX2_owl 38 = .ok (.return_, 1) := dk_177 (dk_at dksX2_owl_1 14 rfl rfl)
abbrev cX2_row : ByteArray := prog_6_method_17_code
def yX2_row : MethodName := ⟨RX2, "row", "([II)V"⟩
def dkwX2_row_0 : List UInt8 := [42, 3, 16, 35, 182, 0, 92, 62, 43, 29, 42, 3, 28, 182, 0, 85, 79, 177]
abbrev dktX2_row_0 : List UInt8 := dkwX2_row_0 ++ []
theorem dksX2_row_0 : cX2_row.data.toList.drop 0 = dktX2_row_0 := by decide +kernel
theorem dX2_row_0 : decode cX2_row 0 = .ok (.aload_n 0, 1) := dk_42 (dk_at dksX2_row_0 0 rfl rfl)
theorem dX2_row_1 : decode cX2_row 1 = .ok (.iconst 0, 1) := dk_3 (dk_at dksX2_row_0 1 rfl rfl)
theorem dX2_row_2 : decode cX2_row 2 = .ok (.bipush 35, 2) := dk_16 35 (dk_at dksX2_row_0 2 rfl rfl)
theorem dX2_row_4 : decode cX2_row 4 = .ok (.invokevirtual 92, 3) := dk_182 0 92 (dk_at dksX2_row_0 4 rfl rfl)
theorem dX2_row_7 : decode cX2_row 7 = .ok (.istore_n 3, 1) := dk_62 (dk_at dksX2_row_0 7 rfl rfl)
theorem dX2_row_8 : decode cX2_row 8 = .ok (.aload_n 1, 1) := dk_43 (dk_at dksX2_row_0 8 rfl rfl)
theorem dX2_row_9 : decode cX2_row 9 = .ok (.iload_n 3, 1) := dk_29 (dk_at dksX2_row_0 9 rfl rfl)
theorem dX2_row_10 : decode cX2_row 10 = .ok (.aload_n 0, 1) := dk_42 (dk_at dksX2_row_0 10 rfl rfl)
theorem dX2_row_11 : decode cX2_row 11 = .ok (.iconst 0, 1) := dk_3 (dk_at dksX2_row_0 11 rfl rfl)
theorem dX2_row_12 : decode cX2_row 12 = .ok (.iload_n 2, 1) := dk_28 (dk_at dksX2_row_0 12 rfl rfl)
theorem dX2_row_13 : decode cX2_row 13 = .ok (.invokevirtual 85, 3) := dk_182 0 85 (dk_at dksX2_row_0 13 rfl rfl)
theorem dX2_row_16 : decode cX2_row 16 = .ok (.iastore, 1) := dk_79 (dk_at dksX2_row_0 16 rfl rfl)
theorem dX2_row_17 : decode cX2_row 17 = .ok (.return_, 1) := dk_177 (dk_at dksX2_row_0 17 rfl rfl)
abbrev cX2_strike : ByteArray := prog_6_method_13_code
def yX2_strike : MethodName := ⟨RX2, "strike", "(I)V"⟩
def dkwX2_strike_3 : List UInt8 := [79, 177]
abbrev dktX2_strike_3 : List UInt8 := dkwX2_strike_3 ++ []
def dkwX2_strike_2 : List UInt8 := [180, 0, 25, 180, 0, 102, 5, 50, 42, 180, 0, 25, 180, 0, 89, 4, 100, 42, 3, 16, 9, 182, 0, 92]
abbrev dktX2_strike_2 : List UInt8 := dkwX2_strike_2 ++ dktX2_strike_3
def dkwX2_strike_1 : List UInt8 := [180, 0, 25, 27, 42, 3, 16, 35, 182, 0, 92, 182, 0, 95, 42, 16, 15, 182, 0, 99, 153, 0, 29, 42]
abbrev dktX2_strike_1 : List UInt8 := dkwX2_strike_1 ++ dktX2_strike_2
def dkwX2_strike_0 : List UInt8 := [42, 42, 180, 0, 25, 180, 0, 89, 16, 8, 162, 0, 7, 4, 167, 0, 4, 3, 182, 0, 63, 42]
abbrev dktX2_strike_0 : List UInt8 := dkwX2_strike_0 ++ dktX2_strike_1
theorem dksX2_strike_0 : cX2_strike.data.toList.drop 0 = dktX2_strike_0 := by decide +kernel
theorem dksX2_strike_1 : cX2_strike.data.toList.drop 22 = dktX2_strike_1 := dk_seg dksX2_strike_0 22 rfl rfl
theorem dksX2_strike_2 : cX2_strike.data.toList.drop 46 = dktX2_strike_2 := dk_seg dksX2_strike_1 24 rfl rfl
theorem dksX2_strike_3 : cX2_strike.data.toList.drop 70 = dktX2_strike_3 := dk_seg dksX2_strike_2 24 rfl rfl
theorem dX2_strike_0 : decode cX2_strike 0 = .ok (.aload_n 0, 1) := dk_42 (dk_at dksX2_strike_0 0 rfl rfl)
theorem dX2_strike_1 : decode cX2_strike 1 = .ok (.aload_n 0, 1) := dk_42 (dk_at dksX2_strike_0 1 rfl rfl)
theorem dX2_strike_2 : decode cX2_strike 2 = .ok (.getfield 25, 3) := dk_180 0 25 (dk_at dksX2_strike_0 2 rfl rfl)
theorem dX2_strike_5 : decode cX2_strike 5 = .ok (.getfield 89, 3) := dk_180 0 89 (dk_at dksX2_strike_0 5 rfl rfl)
theorem dX2_strike_8 : decode cX2_strike 8 = .ok (.bipush 8, 2) := dk_16 8 (dk_at dksX2_strike_0 8 rfl rfl)
theorem dX2_strike_10 : decode cX2_strike 10 = .ok (.if_icmp .ge 7, 3) := dk_162 0 7 (dk_at dksX2_strike_0 10 rfl rfl)
theorem dX2_strike_13 : decode cX2_strike 13 = .ok (.iconst 1, 1) := dk_4 (dk_at dksX2_strike_0 13 rfl rfl)
theorem dX2_strike_14 : decode cX2_strike 14 = .ok (.goto 4, 3) := dk_167 0 4 (dk_at dksX2_strike_0 14 rfl rfl)
theorem dX2_strike_17 : decode cX2_strike 17 = .ok (.iconst 0, 1) := dk_3 (dk_at dksX2_strike_0 17 rfl rfl)
theorem dX2_strike_18 : decode cX2_strike 18 = .ok (.invokevirtual 63, 3) := dk_182 0 63 (dk_at dksX2_strike_0 18 rfl rfl)
theorem dX2_strike_21 : decode cX2_strike 21 = .ok (.aload_n 0, 1) := dk_42 (dk_at dksX2_strike_0 21 rfl rfl)
theorem dX2_strike_22 : decode cX2_strike 22 = .ok (.getfield 25, 3) := dk_180 0 25 (dk_at dksX2_strike_1 0 rfl rfl)
theorem dX2_strike_25 : decode cX2_strike 25 = .ok (.iload_n 1, 1) := dk_27 (dk_at dksX2_strike_1 3 rfl rfl)
theorem dX2_strike_26 : decode cX2_strike 26 = .ok (.aload_n 0, 1) := dk_42 (dk_at dksX2_strike_1 4 rfl rfl)
theorem dX2_strike_27 : decode cX2_strike 27 = .ok (.iconst 0, 1) := dk_3 (dk_at dksX2_strike_1 5 rfl rfl)
theorem dX2_strike_28 : decode cX2_strike 28 = .ok (.bipush 35, 2) := dk_16 35 (dk_at dksX2_strike_1 6 rfl rfl)
theorem dX2_strike_30 : decode cX2_strike 30 = .ok (.invokevirtual 92, 3) := dk_182 0 92 (dk_at dksX2_strike_1 8 rfl rfl)
theorem dX2_strike_33 : decode cX2_strike 33 = .ok (.invokevirtual 95, 3) := dk_182 0 95 (dk_at dksX2_strike_1 11 rfl rfl)
theorem dX2_strike_36 : decode cX2_strike 36 = .ok (.aload_n 0, 1) := dk_42 (dk_at dksX2_strike_1 14 rfl rfl)
theorem dX2_strike_37 : decode cX2_strike 37 = .ok (.bipush 15, 2) := dk_16 15 (dk_at dksX2_strike_1 15 rfl rfl)
theorem dX2_strike_39 : decode cX2_strike 39 = .ok (.invokevirtual 99, 3) := dk_182 0 99 (dk_at dksX2_strike_1 17 rfl rfl)
theorem dX2_strike_42 : decode cX2_strike 42 = .ok (.ifCond .eq 29, 3) := dk_153 0 29 (dk_at dksX2_strike_1 20 rfl rfl)
theorem dX2_strike_45 : decode cX2_strike 45 = .ok (.aload_n 0, 1) := dk_42 (dk_at dksX2_strike_1 23 rfl rfl)
theorem dX2_strike_46 : decode cX2_strike 46 = .ok (.getfield 25, 3) := dk_180 0 25 (dk_at dksX2_strike_2 0 rfl rfl)
theorem dX2_strike_49 : decode cX2_strike 49 = .ok (.getfield 102, 3) := dk_180 0 102 (dk_at dksX2_strike_2 3 rfl rfl)
theorem dX2_strike_52 : decode cX2_strike 52 = .ok (.iconst 2, 1) := dk_5 (dk_at dksX2_strike_2 6 rfl rfl)
theorem dX2_strike_53 : decode cX2_strike 53 = .ok (.aaload, 1) := dk_50 (dk_at dksX2_strike_2 7 rfl rfl)
theorem dX2_strike_54 : decode cX2_strike 54 = .ok (.aload_n 0, 1) := dk_42 (dk_at dksX2_strike_2 8 rfl rfl)
theorem dX2_strike_55 : decode cX2_strike 55 = .ok (.getfield 25, 3) := dk_180 0 25 (dk_at dksX2_strike_2 9 rfl rfl)
theorem dX2_strike_58 : decode cX2_strike 58 = .ok (.getfield 89, 3) := dk_180 0 89 (dk_at dksX2_strike_2 12 rfl rfl)
theorem dX2_strike_61 : decode cX2_strike 61 = .ok (.iconst 1, 1) := dk_4 (dk_at dksX2_strike_2 15 rfl rfl)
theorem dX2_strike_62 : decode cX2_strike 62 = .ok (.isub, 1) := dk_100 (dk_at dksX2_strike_2 16 rfl rfl)
theorem dX2_strike_63 : decode cX2_strike 63 = .ok (.aload_n 0, 1) := dk_42 (dk_at dksX2_strike_2 17 rfl rfl)
theorem dX2_strike_64 : decode cX2_strike 64 = .ok (.iconst 0, 1) := dk_3 (dk_at dksX2_strike_2 18 rfl rfl)
theorem dX2_strike_65 : decode cX2_strike 65 = .ok (.bipush 9, 2) := dk_16 9 (dk_at dksX2_strike_2 19 rfl rfl)
theorem dX2_strike_67 : decode cX2_strike 67 = .ok (.invokevirtual 92, 3) := dk_182 0 92 (dk_at dksX2_strike_2 21 rfl rfl)
theorem dX2_strike_70 : decode cX2_strike 70 = .ok (.iastore, 1) := dk_79 (dk_at dksX2_strike_3 0 rfl rfl)
theorem dX2_strike_71 : decode cX2_strike 71 = .ok (.return_, 1) := dk_177 (dk_at dksX2_strike_3 1 rfl rfl)
theorem q113 : (Jvm.Cond.initialized "OwlEars$Reader") ∈ lw_all := lw_g (lw_at lw_m1 6 rfl) rfl
theorem q210 : (Jvm.Cond.instantiable "OwlEars$Reader" (8 : Nat)) ∈ lw_all := lw_g (lw_at lw_m1 103 rfl) rfl
theorem q212 : (Jvm.Cond.instanceMethod ({ cls := "OwlEars$Reader", name := "<init>", desc := "()V" } : Jvm.MethodName)) ∈ lw_all := lw_g (lw_at lw_m1 105 rfl) rfl
theorem q213 : (Jvm.Cond.code ({ cls := "OwlEars$Reader", name := "<init>", desc := "()V" } : Jvm.MethodName) prog_6_method_1_code (1 : Nat) (Option.none : Option Jvm.ClassFile.FieldType)) ∈ lw_all := lw_g (lw_at lw_m1 106 rfl) rfl
theorem q214 : (Jvm.Cond.methodLink "OwlEars$Reader" (3 : Nat) ({ cls := "java/lang/Object", name := "<init>", desc := "()V" } : Jvm.MethodName)) ∈ lw_all := lw_g (lw_at lw_m1 107 rfl) rfl
theorem q215 : (Jvm.Cond.classLink "OwlEars$Reader" (9 : Nat) "OwlEars$Wrong") ∈ lw_all := lw_g (lw_at lw_m1 108 rfl) rfl
theorem q224 : (Jvm.Cond.methodLink "OwlEars$Reader" (11 : Nat) ({ cls := "OwlEars$Wrong", name := "<init>", desc := "()V" } : Jvm.MethodName)) ∈ lw_all := lw_g (lw_at lw_m1 117 rfl) rfl
theorem q230 : (Jvm.Cond.classLink "OwlEars$Reader" (22 : Nat) "OwlEars$World") ∈ lw_all := lw_g (lw_at lw_m1 123 rfl) rfl
theorem q232 : (Jvm.Cond.methodLink "OwlEars$Reader" (24 : Nat) ({ cls := "OwlEars$World", name := "<init>", desc := "()V" } : Jvm.MethodName)) ∈ lw_all := lw_g (lw_at lw_m1 125 rfl) rfl
theorem q239 : (Jvm.Cond.fieldLinkNest "OwlEars$Reader" (120 : Nat) "OwlEars$World" "snow" "[I" "OwlEars") ∈ lw_tbl := lw_at lw_m1 132 rfl
theorem q242 : (Jvm.Cond.fieldLinkNest "OwlEars$Reader" (127 : Nat) "OwlEars$World" "noise" "[I" "OwlEars") ∈ lw_tbl := lw_at lw_m1 135 rfl
theorem q245 : (Jvm.Cond.fieldLinkNest "OwlEars$Reader" (106 : Nat) "OwlEars$World" "mouse" "[I" "OwlEars") ∈ lw_tbl := lw_at lw_m1 138 rfl
theorem q249 : (Jvm.Cond.fieldLinkNest "OwlEars$Reader" (113 : Nat) "OwlEars$World" "owl" "[I" "OwlEars") ∈ lw_tbl := lw_at lw_m1 142 rfl
theorem q252 : (Jvm.Cond.fieldLinkNest "OwlEars$Reader" (89 : Nat) "OwlEars$World" "strikes" "I" "OwlEars") ∈ lw_tbl := lw_at lw_m1 145 rfl
theorem q256 : (Jvm.Cond.fieldLinkNest "OwlEars$Reader" (102 : Nat) "OwlEars$World" "strike" "[[I" "OwlEars") ∈ lw_tbl := lw_at lw_m1 149 rfl
theorem q285 : (Jvm.Cond.fieldLink "OwlEars$Reader" (12 : Nat) "OwlEars$Reader" "wrong" "LOwlEars$Wrong;") ∈ lw_all := lw_g (lw_at lw_m1 178 rfl) rfl
theorem q286 : (Jvm.Cond.fieldLink "OwlEars$Reader" (18 : Nat) "OwlEars$Reader" "tape" "[B") ∈ lw_all := lw_g (lw_at lw_m1 179 rfl) rfl
theorem q288 : (Jvm.Cond.fieldLink "OwlEars$Reader" (25 : Nat) "OwlEars$Reader" "told" "LOwlEars$World;") ∈ lw_all := lw_g (lw_at lw_m1 181 rfl) rfl
theorem q290 : (Jvm.Cond.fieldLink "OwlEars$Reader" (29 : Nat) "OwlEars$Reader" "length" "I") ∈ lw_all := lw_g (lw_at lw_m1 183 rfl) rfl
theorem q292 : (Jvm.Cond.fieldLink "OwlEars$Reader" (37 : Nat) "OwlEars$Reader" "at" "I") ∈ lw_all := lw_g (lw_at lw_m1 185 rfl) rfl
theorem q293 : (Jvm.Cond.fieldLink "OwlEars$Reader" (44 : Nat) "OwlEars$Reader" "begin" "I") ∈ lw_all := lw_g (lw_at lw_m1 186 rfl) rfl
theorem q295 : (Jvm.Cond.fieldLink "OwlEars$Reader" (47 : Nat) "OwlEars$Reader" "token" "I") ∈ lw_all := lw_g (lw_at lw_m1 188 rfl) rfl
theorem q296 : (Jvm.Cond.fieldLink "OwlEars$Reader" (67 : Nat) "OwlEars$Reader" "value" "I") ∈ lw_all := lw_g (lw_at lw_m1 189 rfl) rfl
theorem q297 : (Jvm.Cond.laysFinal "OwlEars$Reader" "OwlEars$Reader" "wrong" "LOwlEars$Wrong;") ∈ lw_all := lw_g (lw_at lw_m1 190 rfl) rfl
theorem q298 : (Jvm.Cond.soleField "OwlEars$Reader" "wrong") ∈ lw_all := lw_g (lw_at lw_m1 191 rfl) rfl
theorem q299 : (Jvm.Cond.laysFinal "OwlEars$Reader" "OwlEars$Reader" "tape" "[B") ∈ lw_all := lw_g (lw_at lw_m1 192 rfl) rfl
theorem q300 : (Jvm.Cond.soleField "OwlEars$Reader" "tape") ∈ lw_all := lw_g (lw_at lw_m1 193 rfl) rfl
theorem q301 : (Jvm.Cond.laysFinal "OwlEars$Reader" "OwlEars$Reader" "told" "LOwlEars$World;") ∈ lw_all := lw_g (lw_at lw_m1 194 rfl) rfl
theorem q302 : (Jvm.Cond.soleField "OwlEars$Reader" "told") ∈ lw_all := lw_g (lw_at lw_m1 195 rfl) rfl
theorem q303 : (Jvm.Cond.lays "OwlEars$Reader" "OwlEars$Reader" "length" "I") ∈ lw_all := lw_g (lw_at lw_m1 196 rfl) rfl
theorem q304 : (Jvm.Cond.soleField "OwlEars$Reader" "length") ∈ lw_all := lw_g (lw_at lw_m1 197 rfl) rfl
theorem q305 : (Jvm.Cond.lays "OwlEars$Reader" "OwlEars$Reader" "at" "I") ∈ lw_all := lw_g (lw_at lw_m1 198 rfl) rfl
theorem q306 : (Jvm.Cond.soleField "OwlEars$Reader" "at") ∈ lw_all := lw_g (lw_at lw_m1 199 rfl) rfl
theorem q307 : (Jvm.Cond.lays "OwlEars$Reader" "OwlEars$Reader" "begin" "I") ∈ lw_all := lw_g (lw_at lw_m1 200 rfl) rfl
theorem q308 : (Jvm.Cond.soleField "OwlEars$Reader" "begin") ∈ lw_all := lw_g (lw_at lw_m1 201 rfl) rfl
theorem q309 : (Jvm.Cond.lays "OwlEars$Reader" "OwlEars$Reader" "token" "I") ∈ lw_all := lw_g (lw_at lw_m1 202 rfl) rfl
theorem q310 : (Jvm.Cond.soleField "OwlEars$Reader" "token") ∈ lw_all := lw_g (lw_at lw_m1 203 rfl) rfl
theorem q311 : (Jvm.Cond.lays "OwlEars$Reader" "OwlEars$Reader" "value" "I") ∈ lw_all := lw_g (lw_at lw_m1 204 rfl) rfl
theorem q312 : (Jvm.Cond.soleField "OwlEars$Reader" "value") ∈ lw_all := lw_g (lw_at lw_m1 205 rfl) rfl
theorem q313 : (Jvm.Cond.superclass "OwlEars$Reader" "java/lang/Object") ∈ lw_all := lw_g (lw_at lw_m1 206 rfl) rfl
theorem q1068 : (Jvm.Cond.instanceMethod ({ cls := "OwlEars$Reader", name := "whole", desc := "()I" } : Jvm.MethodName)) ∈ lw_all := lw_g (lw_at lw_m5 1 rfl) rfl
theorem q1069 : (Jvm.Cond.selects "OwlEars$Reader" ({ cls := "OwlEars$Reader", name := "whole", desc := "()I" } : Jvm.MethodName) ({ cls := "OwlEars$Reader", name := "whole", desc := "()I" } : Jvm.MethodName)) ∈ lw_all := lw_g (lw_at lw_m5 2 rfl) rfl
theorem q1070 : (Jvm.Cond.code ({ cls := "OwlEars$Reader", name := "whole", desc := "()I" } : Jvm.MethodName) prog_6_method_19_code (2 : Nat) (Option.some Jvm.ClassFile.FieldType.int)) ∈ lw_all := lw_g (lw_at lw_m5 3 rfl) rfl
theorem q1071 : (Jvm.Cond.methodLink "OwlEars$Reader" (82 : Nat) ({ cls := "OwlEars$Reader", name := "next", desc := "()V" } : Jvm.MethodName)) ∈ lw_all := lw_g (lw_at lw_m5 4 rfl) rfl
theorem q1072 : (Jvm.Cond.privateMethod ({ cls := "OwlEars$Reader", name := "next", desc := "()V" } : Jvm.MethodName)) ∈ lw_tbl := lw_at lw_m5 5 rfl
theorem q1073 : (Jvm.Cond.instanceMethod ({ cls := "OwlEars$Reader", name := "next", desc := "()V" } : Jvm.MethodName)) ∈ lw_all := lw_g (lw_at lw_m5 6 rfl) rfl
theorem q1074 : (Jvm.Cond.code ({ cls := "OwlEars$Reader", name := "next", desc := "()V" } : Jvm.MethodName) prog_6_method_6_code (2 : Nat) (Option.none : Option Jvm.ClassFile.FieldType)) ∈ lw_all := lw_g (lw_at lw_m5 7 rfl) rfl
theorem q1075 : (Jvm.Cond.methodLink "OwlEars$Reader" (40 : Nat) ({ cls := "OwlEars$Reader", name := "byteAt", desc := "(I)I" } : Jvm.MethodName)) ∈ lw_all := lw_g (lw_at lw_m5 8 rfl) rfl
theorem q1076 : (Jvm.Cond.privateMethod ({ cls := "OwlEars$Reader", name := "byteAt", desc := "(I)I" } : Jvm.MethodName)) ∈ lw_tbl := lw_at lw_m5 9 rfl
theorem q1077 : (Jvm.Cond.instanceMethod ({ cls := "OwlEars$Reader", name := "byteAt", desc := "(I)I" } : Jvm.MethodName)) ∈ lw_all := lw_g (lw_at lw_m5 10 rfl) rfl
theorem q1078 : (Jvm.Cond.code ({ cls := "OwlEars$Reader", name := "byteAt", desc := "(I)I" } : Jvm.MethodName) prog_6_method_3_code (2 : Nat) (Option.some Jvm.ClassFile.FieldType.int)) ∈ lw_all := lw_g (lw_at lw_m5 11 rfl) rfl
theorem q1079 : (Jvm.Cond.methodLink "OwlEars$Reader" (50 : Nat) ({ cls := "OwlEars$Reader", name := "isLetter", desc := "(I)Z" } : Jvm.MethodName)) ∈ lw_all := lw_g (lw_at lw_m5 12 rfl) rfl
theorem q1080 : (Jvm.Cond.static ({ cls := "OwlEars$Reader", name := "isLetter", desc := "(I)Z" } : Jvm.MethodName)) ∈ lw_all := lw_g (lw_at lw_m5 13 rfl) rfl
theorem q1081 : (Jvm.Cond.code ({ cls := "OwlEars$Reader", name := "isLetter", desc := "(I)Z" } : Jvm.MethodName) prog_6_method_5_code (1 : Nat) (Option.some Jvm.ClassFile.FieldType.boolean)) ∈ lw_all := lw_g (lw_at lw_m5 14 rfl) rfl
theorem q1082 : (Jvm.Cond.methodLinkNest "OwlEars$Reader" (33 : Nat) ({ cls := "OwlEars", name := "in", desc := "(III)Z" } : Jvm.MethodName) "OwlEars") ∈ lw_tbl := lw_at lw_m5 15 rfl
theorem q1083 : (Jvm.Cond.methodLink "OwlEars$Reader" (54 : Nat) ({ cls := "OwlEars$Reader", name := "word", desc := "()V" } : Jvm.MethodName)) ∈ lw_all := lw_g (lw_at lw_m5 16 rfl) rfl
theorem q1084 : (Jvm.Cond.privateMethod ({ cls := "OwlEars$Reader", name := "word", desc := "()V" } : Jvm.MethodName)) ∈ lw_tbl := lw_at lw_m5 17 rfl
theorem q1085 : (Jvm.Cond.instanceMethod ({ cls := "OwlEars$Reader", name := "word", desc := "()V" } : Jvm.MethodName)) ∈ lw_all := lw_g (lw_at lw_m5 18 rfl) rfl
theorem q1086 : (Jvm.Cond.code ({ cls := "OwlEars$Reader", name := "word", desc := "()V" } : Jvm.MethodName) prog_6_method_8_code (2 : Nat) (Option.none : Option Jvm.ClassFile.FieldType)) ∈ lw_all := lw_g (lw_at lw_m5 19 rfl) rfl
theorem q1087 : (Jvm.Cond.methodLink "OwlEars$Reader" (70 : Nat) ({ cls := "OwlEars$Reader", name := "isKey", desc := "(II)Z" } : Jvm.MethodName)) ∈ lw_all := lw_g (lw_at lw_m5 20 rfl) rfl
theorem q1088 : (Jvm.Cond.privateMethod ({ cls := "OwlEars$Reader", name := "isKey", desc := "(II)Z" } : Jvm.MethodName)) ∈ lw_tbl := lw_at lw_m5 21 rfl
theorem q1089 : (Jvm.Cond.instanceMethod ({ cls := "OwlEars$Reader", name := "isKey", desc := "(II)Z" } : Jvm.MethodName)) ∈ lw_all := lw_g (lw_at lw_m5 22 rfl) rfl
theorem q1090 : (Jvm.Cond.code ({ cls := "OwlEars$Reader", name := "isKey", desc := "(II)Z" } : Jvm.MethodName) prog_6_method_9_code (5 : Nat) (Option.some Jvm.ClassFile.FieldType.boolean)) ∈ lw_all := lw_g (lw_at lw_m5 23 rfl) rfl
theorem q1091 : (Jvm.Cond.stringRef "OwlEars$Reader" (74 : Nat) "strike sure   aslant late   waited leafs  crustedmouse  owl    snow   noise  up     right  down   left   waits  runs   pauses ") ∈ lw_tbl := lw_at lw_m5 24 rfl
theorem q1092 : (Jvm.Cond.methodLink "OwlEars$Reader" (76 : Nat) ({ cls := "java/lang/String", name := "charAt", desc := "(I)C" } : Jvm.MethodName)) ∈ lw_all := lw_g (lw_at lw_m5 25 rfl) rfl
theorem q1132 : (Jvm.Cond.methodLink "OwlEars$Reader" (63 : Nat) ({ cls := "OwlEars$Reader", name := "need", desc := "(Z)V" } : Jvm.MethodName)) ∈ lw_all := lw_g (lw_at lw_m5 65 rfl) rfl
theorem q1133 : (Jvm.Cond.privateMethod ({ cls := "OwlEars$Reader", name := "need", desc := "(Z)V" } : Jvm.MethodName)) ∈ lw_tbl := lw_at lw_m5 66 rfl
theorem q1134 : (Jvm.Cond.instanceMethod ({ cls := "OwlEars$Reader", name := "need", desc := "(Z)V" } : Jvm.MethodName)) ∈ lw_all := lw_g (lw_at lw_m5 67 rfl) rfl
theorem q1135 : (Jvm.Cond.code ({ cls := "OwlEars$Reader", name := "need", desc := "(Z)V" } : Jvm.MethodName) prog_6_method_2_code (2 : Nat) (Option.none : Option Jvm.ClassFile.FieldType)) ∈ lw_all := lw_g (lw_at lw_m5 68 rfl) rfl
theorem q1136 : (Jvm.Cond.methodLink "OwlEars$Reader" (57 : Nat) ({ cls := "OwlEars$Reader", name := "isDigit", desc := "(I)Z" } : Jvm.MethodName)) ∈ lw_all := lw_g (lw_at lw_m5 69 rfl) rfl
theorem q1137 : (Jvm.Cond.static ({ cls := "OwlEars$Reader", name := "isDigit", desc := "(I)Z" } : Jvm.MethodName)) ∈ lw_all := lw_g (lw_at lw_m5 70 rfl) rfl
theorem q1138 : (Jvm.Cond.code ({ cls := "OwlEars$Reader", name := "isDigit", desc := "(I)Z" } : Jvm.MethodName) prog_6_method_4_code (1 : Nat) (Option.some Jvm.ClassFile.FieldType.boolean)) ∈ lw_all := lw_g (lw_at lw_m5 71 rfl) rfl
theorem q1139 : (Jvm.Cond.methodLink "OwlEars$Reader" (60 : Nat) ({ cls := "OwlEars$Reader", name := "digits", desc := "()V" } : Jvm.MethodName)) ∈ lw_all := lw_g (lw_at lw_m5 72 rfl) rfl
theorem q1140 : (Jvm.Cond.privateMethod ({ cls := "OwlEars$Reader", name := "digits", desc := "()V" } : Jvm.MethodName)) ∈ lw_tbl := lw_at lw_m5 73 rfl
theorem q1141 : (Jvm.Cond.instanceMethod ({ cls := "OwlEars$Reader", name := "digits", desc := "()V" } : Jvm.MethodName)) ∈ lw_all := lw_g (lw_at lw_m5 74 rfl) rfl
theorem q1142 : (Jvm.Cond.code ({ cls := "OwlEars$Reader", name := "digits", desc := "()V" } : Jvm.MethodName) prog_6_method_7_code (2 : Nat) (Option.none : Option Jvm.ClassFile.FieldType)) ∈ lw_all := lw_g (lw_at lw_m5 75 rfl) rfl
theorem q1143 : (Jvm.Cond.methodLink "OwlEars$Reader" (133 : Nat) ({ cls := "OwlEars$Reader", name := "item", desc := "()V" } : Jvm.MethodName)) ∈ lw_all := lw_g (lw_at lw_m5 76 rfl) rfl
theorem q1144 : (Jvm.Cond.privateMethod ({ cls := "OwlEars$Reader", name := "item", desc := "()V" } : Jvm.MethodName)) ∈ lw_tbl := lw_at lw_m5 77 rfl
theorem q1145 : (Jvm.Cond.instanceMethod ({ cls := "OwlEars$Reader", name := "item", desc := "()V" } : Jvm.MethodName)) ∈ lw_all := lw_g (lw_at lw_m5 78 rfl) rfl
theorem q1146 : (Jvm.Cond.code ({ cls := "OwlEars$Reader", name := "item", desc := "()V" } : Jvm.MethodName) prog_6_method_18_code (1 : Nat) (Option.none : Option Jvm.ClassFile.FieldType)) ∈ lw_all := lw_g (lw_at lw_m5 79 rfl) rfl
theorem q1147 : (Jvm.Cond.methodLink "OwlEars$Reader" (116 : Nat) ({ cls := "OwlEars$Reader", name := "mouse", desc := "()V" } : Jvm.MethodName)) ∈ lw_all := lw_g (lw_at lw_m5 80 rfl) rfl
theorem q1148 : (Jvm.Cond.privateMethod ({ cls := "OwlEars$Reader", name := "mouse", desc := "()V" } : Jvm.MethodName)) ∈ lw_tbl := lw_at lw_m5 81 rfl
theorem q1149 : (Jvm.Cond.instanceMethod ({ cls := "OwlEars$Reader", name := "mouse", desc := "()V" } : Jvm.MethodName)) ∈ lw_all := lw_g (lw_at lw_m5 82 rfl) rfl
theorem q1150 : (Jvm.Cond.code ({ cls := "OwlEars$Reader", name := "mouse", desc := "()V" } : Jvm.MethodName) prog_6_method_15_code (1 : Nat) (Option.none : Option Jvm.ClassFile.FieldType)) ∈ lw_all := lw_g (lw_at lw_m5 83 rfl) rfl
theorem q1151 : (Jvm.Cond.methodLink "OwlEars$Reader" (92 : Nat) ({ cls := "OwlEars$Reader", name := "behind", desc := "(II)I" } : Jvm.MethodName)) ∈ lw_all := lw_g (lw_at lw_m5 84 rfl) rfl
theorem q1152 : (Jvm.Cond.privateMethod ({ cls := "OwlEars$Reader", name := "behind", desc := "(II)I" } : Jvm.MethodName)) ∈ lw_tbl := lw_at lw_m5 85 rfl
theorem q1153 : (Jvm.Cond.instanceMethod ({ cls := "OwlEars$Reader", name := "behind", desc := "(II)I" } : Jvm.MethodName)) ∈ lw_all := lw_g (lw_at lw_m5 86 rfl) rfl
theorem q1154 : (Jvm.Cond.code ({ cls := "OwlEars$Reader", name := "behind", desc := "(II)I" } : Jvm.MethodName) prog_6_method_12_code (3 : Nat) (Option.some Jvm.ClassFile.FieldType.int)) ∈ lw_all := lw_g (lw_at lw_m5 87 rfl) rfl
theorem q1155 : (Jvm.Cond.methodLink "OwlEars$Reader" (85 : Nat) ({ cls := "OwlEars$Reader", name := "number", desc := "(II)I" } : Jvm.MethodName)) ∈ lw_all := lw_g (lw_at lw_m5 88 rfl) rfl
theorem q1156 : (Jvm.Cond.privateMethod ({ cls := "OwlEars$Reader", name := "number", desc := "(II)I" } : Jvm.MethodName)) ∈ lw_tbl := lw_at lw_m5 89 rfl
theorem q1157 : (Jvm.Cond.instanceMethod ({ cls := "OwlEars$Reader", name := "number", desc := "(II)I" } : Jvm.MethodName)) ∈ lw_all := lw_g (lw_at lw_m5 90 rfl) rfl
theorem q1158 : (Jvm.Cond.code ({ cls := "OwlEars$Reader", name := "number", desc := "(II)I" } : Jvm.MethodName) prog_6_method_11_code (4 : Nat) (Option.some Jvm.ClassFile.FieldType.int)) ∈ lw_all := lw_g (lw_at lw_m5 91 rfl) rfl
theorem q1159 : (Jvm.Cond.methodLink "OwlEars$Reader" (110 : Nat) ({ cls := "OwlEars$Reader", name := "heading", desc := "(I)I" } : Jvm.MethodName)) ∈ lw_all := lw_g (lw_at lw_m5 92 rfl) rfl
theorem q1160 : (Jvm.Cond.privateMethod ({ cls := "OwlEars$Reader", name := "heading", desc := "(I)I" } : Jvm.MethodName)) ∈ lw_tbl := lw_at lw_m5 93 rfl
theorem q1161 : (Jvm.Cond.instanceMethod ({ cls := "OwlEars$Reader", name := "heading", desc := "(I)I" } : Jvm.MethodName)) ∈ lw_all := lw_g (lw_at lw_m5 94 rfl) rfl
theorem q1162 : (Jvm.Cond.code ({ cls := "OwlEars$Reader", name := "heading", desc := "(I)I" } : Jvm.MethodName) prog_6_method_14_code (3 : Nat) (Option.some Jvm.ClassFile.FieldType.int)) ∈ lw_all := lw_g (lw_at lw_m5 95 rfl) rfl
theorem q1163 : (Jvm.Cond.methodLink "OwlEars$Reader" (99 : Nat) ({ cls := "OwlEars$Reader", name := "isWord", desc := "(I)Z" } : Jvm.MethodName)) ∈ lw_all := lw_g (lw_at lw_m5 96 rfl) rfl
theorem q1164 : (Jvm.Cond.privateMethod ({ cls := "OwlEars$Reader", name := "isWord", desc := "(I)Z" } : Jvm.MethodName)) ∈ lw_tbl := lw_at lw_m5 97 rfl
theorem q1165 : (Jvm.Cond.instanceMethod ({ cls := "OwlEars$Reader", name := "isWord", desc := "(I)Z" } : Jvm.MethodName)) ∈ lw_all := lw_g (lw_at lw_m5 98 rfl) rfl
theorem q1166 : (Jvm.Cond.code ({ cls := "OwlEars$Reader", name := "isWord", desc := "(I)Z" } : Jvm.MethodName) prog_6_method_10_code (2 : Nat) (Option.some Jvm.ClassFile.FieldType.boolean)) ∈ lw_all := lw_g (lw_at lw_m5 99 rfl) rfl
theorem q1167 : (Jvm.Cond.methodLink "OwlEars$Reader" (118 : Nat) ({ cls := "OwlEars$Reader", name := "owl", desc := "()V" } : Jvm.MethodName)) ∈ lw_all := lw_g (lw_at lw_m5 100 rfl) rfl
theorem q1168 : (Jvm.Cond.privateMethod ({ cls := "OwlEars$Reader", name := "owl", desc := "()V" } : Jvm.MethodName)) ∈ lw_tbl := lw_at lw_m5 101 rfl
theorem q1169 : (Jvm.Cond.instanceMethod ({ cls := "OwlEars$Reader", name := "owl", desc := "()V" } : Jvm.MethodName)) ∈ lw_all := lw_g (lw_at lw_m5 102 rfl) rfl
theorem q1170 : (Jvm.Cond.code ({ cls := "OwlEars$Reader", name := "owl", desc := "()V" } : Jvm.MethodName) prog_6_method_16_code (1 : Nat) (Option.none : Option Jvm.ClassFile.FieldType)) ∈ lw_all := lw_g (lw_at lw_m5 103 rfl) rfl
theorem q1171 : (Jvm.Cond.methodLink "OwlEars$Reader" (123 : Nat) ({ cls := "OwlEars$Reader", name := "row", desc := "([II)V" } : Jvm.MethodName)) ∈ lw_all := lw_g (lw_at lw_m5 104 rfl) rfl
theorem q1172 : (Jvm.Cond.privateMethod ({ cls := "OwlEars$Reader", name := "row", desc := "([II)V" } : Jvm.MethodName)) ∈ lw_tbl := lw_at lw_m5 105 rfl
theorem q1173 : (Jvm.Cond.instanceMethod ({ cls := "OwlEars$Reader", name := "row", desc := "([II)V" } : Jvm.MethodName)) ∈ lw_all := lw_g (lw_at lw_m5 106 rfl) rfl
theorem q1174 : (Jvm.Cond.code ({ cls := "OwlEars$Reader", name := "row", desc := "([II)V" } : Jvm.MethodName) prog_6_method_17_code (4 : Nat) (Option.none : Option Jvm.ClassFile.FieldType)) ∈ lw_all := lw_g (lw_at lw_m5 107 rfl) rfl
theorem q1175 : (Jvm.Cond.methodLink "OwlEars$Reader" (130 : Nat) ({ cls := "OwlEars$Reader", name := "strike", desc := "(I)V" } : Jvm.MethodName)) ∈ lw_all := lw_g (lw_at lw_m5 108 rfl) rfl
theorem q1176 : (Jvm.Cond.privateMethod ({ cls := "OwlEars$Reader", name := "strike", desc := "(I)V" } : Jvm.MethodName)) ∈ lw_tbl := lw_at lw_m5 109 rfl
theorem q1177 : (Jvm.Cond.instanceMethod ({ cls := "OwlEars$Reader", name := "strike", desc := "(I)V" } : Jvm.MethodName)) ∈ lw_all := lw_g (lw_at lw_m5 110 rfl) rfl
theorem q1178 : (Jvm.Cond.code ({ cls := "OwlEars$Reader", name := "strike", desc := "(I)V" } : Jvm.MethodName) prog_6_method_13_code (2 : Nat) (Option.none : Option Jvm.ClassFile.FieldType)) ∈ lw_all := lw_g (lw_at lw_m5 111 rfl) rfl
theorem q1179 : (Jvm.Cond.methodLink "OwlEars$Reader" (95 : Nat) ({ cls := "OwlEars$World", name := "add", desc := "(II)V" } : Jvm.MethodName)) ∈ lw_all := lw_g (lw_at lw_m5 112 rfl) rfl
theorem in_X2 : ∀ w ∈ wsX20, w ∈ lw_all := lw_in wsX20 [297, 299, 301, 303, 305, 307, 309, 311] (by decide +kernel) (by decide +kernel)
/-! OwlEars$Wrong -/
set_option maxRecDepth 100000
def RX3 : String := "OwlEars$Wrong"
def TX3 : u_T := fun k => match k with
  | 0 => ("java/lang/Throwable", "cause", "Ljava/lang/Throwable;", false)
  | 1 => ("java/lang/Throwable", "stackTrace", "[Ljava/lang/StackTraceElement;", false)
  | 2 => ("java/lang/Throwable", "suppressedExceptions", "Ljava/util/List;", false)
  | 3 => ("java/lang/Throwable", "detailMessage", "Ljava/lang/String;", false)
  | 4 => ("java/lang/Throwable", "backtrace", "Ljava/lang/Object;", false)
  | _ => ("java/lang/Throwable", "depth", "I", false)
def tyX3 : Nat → FieldType := fun k => match k with
  | 0 => .object "java/lang/Throwable"
  | 1 => .array (.object "java/lang/StackTraceElement")
  | 2 => .object "java/util/List"
  | 3 => .object "java/lang/String"
  | 4 => .object "java/lang/Object"
  | _ => .int
abbrev wsX30 : List Cond := u_ws RX3 TX3 6
theorem nmX3 : ∀ a, a < 6 → ∀ b, b < 6 → a ≠ b → (TX3 a).2.1 ≠ (TX3 b).2.1 := by decide +kernel
theorem tyX3_ok : ∀ k, k < 6 → parseFieldDescriptor (TX3 k).2.2.1 = some (tyX3 k) := by decide +kernel
abbrev cX3_init : ByteArray := prog_14_method_1_code
def yX3_init : MethodName := ⟨RX3, "<init>", "()V"⟩
def dkwX3_init_0 : List UInt8 := [42, 1, 1, 3, 3, 183, 0, 1, 177]
abbrev dktX3_init_0 : List UInt8 := dkwX3_init_0 ++ []
theorem dksX3_init_0 : cX3_init.data.toList.drop 0 = dktX3_init_0 := by decide +kernel
theorem dX3_init_0 : decode cX3_init 0 = .ok (.aload_n 0, 1) := dk_42 (dk_at dksX3_init_0 0 rfl rfl)
theorem dX3_init_1 : decode cX3_init 1 = .ok (.aconst_null, 1) := dk_1 (dk_at dksX3_init_0 1 rfl rfl)
theorem dX3_init_2 : decode cX3_init 2 = .ok (.aconst_null, 1) := dk_1 (dk_at dksX3_init_0 2 rfl rfl)
theorem dX3_init_3 : decode cX3_init 3 = .ok (.iconst 0, 1) := dk_3 (dk_at dksX3_init_0 3 rfl rfl)
theorem dX3_init_4 : decode cX3_init 4 = .ok (.iconst 0, 1) := dk_3 (dk_at dksX3_init_0 4 rfl rfl)
theorem dX3_init_5 : decode cX3_init 5 = .ok (.invokespecial 1, 3) := dk_183 0 1 (dk_at dksX3_init_0 5 rfl rfl)
theorem dX3_init_8 : decode cX3_init 8 = .ok (.return_, 1) := dk_177 (dk_at dksX3_init_0 8 rfl rfl)
theorem q114 : (Jvm.Cond.initialized "OwlEars$Wrong") ∈ lw_all := lw_g (lw_at lw_m1 7 rfl) rfl
theorem q174 : (Jvm.Cond.selects "OwlEars$Wrong" ({ cls := "java/lang/Throwable", name := "fillInStackTrace", desc := "()Ljava/lang/Throwable;" } : Jvm.MethodName) ({ cls := "java/lang/Throwable", name := "fillInStackTrace", desc := "()Ljava/lang/Throwable;" } : Jvm.MethodName)) ∈ lw_all := lw_g (lw_at lw_m1 67 rfl) rfl
theorem q216 : (Jvm.Cond.instantiable "OwlEars$Wrong" (6 : Nat)) ∈ lw_all := lw_g (lw_at lw_m1 109 rfl) rfl
theorem q217 : (Jvm.Cond.castable "OwlEars$Wrong" "OwlEars$Wrong") ∈ lw_tbl := lw_at lw_m1 110 rfl
theorem q218 : (Jvm.Cond.selects "OwlEars$Wrong" ({ cls := "java/lang/Throwable", name := "fillInStackTrace", desc := "(I)Ljava/lang/Throwable;" } : Jvm.MethodName) ({ cls := "java/lang/Throwable", name := "fillInStackTrace", desc := "(I)Ljava/lang/Throwable;" } : Jvm.MethodName)) ∈ lw_all := lw_g (lw_at lw_m1 111 rfl) rfl
theorem q219 : (Jvm.Cond.lays "OwlEars$Wrong" "java/lang/Throwable" "cause" "Ljava/lang/Throwable;") ∈ lw_all := lw_g (lw_at lw_m1 112 rfl) rfl
theorem q220 : (Jvm.Cond.lays "OwlEars$Wrong" "java/lang/Throwable" "stackTrace" "[Ljava/lang/StackTraceElement;") ∈ lw_all := lw_g (lw_at lw_m1 113 rfl) rfl
theorem q221 : (Jvm.Cond.lays "OwlEars$Wrong" "java/lang/Throwable" "suppressedExceptions" "Ljava/util/List;") ∈ lw_all := lw_g (lw_at lw_m1 114 rfl) rfl
theorem q222 : (Jvm.Cond.lays "OwlEars$Wrong" "java/lang/Throwable" "detailMessage" "Ljava/lang/String;") ∈ lw_all := lw_g (lw_at lw_m1 115 rfl) rfl
theorem q223 : (Jvm.Cond.lays "OwlEars$Wrong" "java/lang/Throwable" "backtrace" "Ljava/lang/Object;") ∈ lw_all := lw_g (lw_at lw_m1 116 rfl) rfl
theorem q225 : (Jvm.Cond.instanceMethod ({ cls := "OwlEars$Wrong", name := "<init>", desc := "()V" } : Jvm.MethodName)) ∈ lw_all := lw_g (lw_at lw_m1 118 rfl) rfl
theorem q226 : (Jvm.Cond.code ({ cls := "OwlEars$Wrong", name := "<init>", desc := "()V" } : Jvm.MethodName) prog_14_method_1_code (1 : Nat) (Option.none : Option Jvm.ClassFile.FieldType)) ∈ lw_all := lw_g (lw_at lw_m1 119 rfl) rfl
theorem q227 : (Jvm.Cond.methodLink "OwlEars$Wrong" (1 : Nat) ({ cls := "java/lang/RuntimeException", name := "<init>", desc := "(Ljava/lang/String;Ljava/lang/Throwable;ZZ)V" } : Jvm.MethodName)) ∈ lw_all := lw_g (lw_at lw_m1 120 rfl) rfl
theorem q228 : (Jvm.Cond.lays "OwlEars$Wrong" "java/lang/Throwable" "depth" "I") ∈ lw_all := lw_g (lw_at lw_m1 121 rfl) rfl
theorem q229 : (Jvm.Cond.superclass "OwlEars$Wrong" "java/lang/RuntimeException") ∈ lw_all := lw_g (lw_at lw_m1 122 rfl) rfl
theorem in_X3 : ∀ w ∈ wsX30, w ∈ lw_all := lw_in wsX30 [219, 220, 221, 222, 223, 228] (by decide +kernel) (by decide +kernel)
/-! OwlEars$World -/
set_option maxRecDepth 100000
def RX4 : String := "OwlEars$World"
def TX4 : u_T := fun k => match k with
  | 0 => ("OwlEars$World", "snow", "[I", true)
  | 1 => ("OwlEars$World", "noise", "[I", true)
  | 2 => ("OwlEars$World", "mouse", "[I", true)
  | 3 => ("OwlEars$World", "owl", "[I", true)
  | 4 => ("OwlEars$World", "strikes", "I", false)
  | 5 => ("OwlEars$World", "strike", "[[I", true)
  | 6 => ("OwlEars$World", "tick", "I", false)
  | 7 => ("OwlEars$World", "z", "I", false)
  | _ => ("OwlEars$World", "holds", "[I", true)
def tyX4 : Nat → FieldType := fun k => match k with
  | 0 => .array .int
  | 1 => .array .int
  | 2 => .array .int
  | 3 => .array .int
  | 4 => .int
  | 5 => .array (.array .int)
  | 6 => .int
  | 7 => .int
  | _ => .array .int
abbrev wsX40 : List Cond := u_ws RX4 TX4 9
theorem nmX4 : ∀ a, a < 9 → ∀ b, b < 9 → a ≠ b → (TX4 a).2.1 ≠ (TX4 b).2.1 := by decide +kernel
theorem tyX4_ok : ∀ k, k < 9 → parseFieldDescriptor (TX4 k).2.2.1 = some (tyX4 k) := by decide +kernel
abbrev cX4_init : ByteArray := prog_13_method_1_code
def yX4_init : MethodName := ⟨RX4, "<init>", "()V"⟩
def dkwX4_init_4 : List UInt8 := [42, 180, 0, 33, 27, 2, 79, 132, 1, 1, 167, 255, 240, 177]
abbrev dktX4_init_4 : List UInt8 := dkwX4_init_4 ++ []
def dkwX4_init_3 : List UInt8 := [181, 0, 26, 42, 4, 181, 0, 29, 42, 16, 10, 188, 10, 181, 0, 33, 3, 60, 27, 16, 10, 162, 0, 16]
abbrev dktX4_init_3 : List UInt8 := dkwX4_init_3 ++ dktX4_init_4
def dkwX4_init_2 : List UInt8 := [5, 188, 10, 89, 3, 16, 14, 79, 89, 4, 3, 79, 181, 0, 21, 42, 7, 16, 8, 197, 0, 24, 2]
abbrev dktX4_init_2 : List UInt8 := dkwX4_init_2 ++ dktX4_init_3
def dkwX4_init_1 : List UInt8 := [89, 3, 3, 79, 89, 4, 4, 79, 89, 5, 6, 79, 89, 6, 5, 79, 89, 7, 3, 79, 181, 0, 18, 42]
abbrev dktX4_init_1 : List UInt8 := dkwX4_init_1 ++ dktX4_init_2
def dkwX4_init_0 : List UInt8 := [42, 183, 0, 3, 42, 16, 36, 188, 10, 181, 0, 9, 42, 16, 36, 188, 10, 181, 0, 15, 42, 8, 188, 10]
abbrev dktX4_init_0 : List UInt8 := dkwX4_init_0 ++ dktX4_init_1
theorem dksX4_init_0 : cX4_init.data.toList.drop 0 = dktX4_init_0 := by decide +kernel
theorem dksX4_init_1 : cX4_init.data.toList.drop 24 = dktX4_init_1 := dk_seg dksX4_init_0 24 rfl rfl
theorem dksX4_init_2 : cX4_init.data.toList.drop 48 = dktX4_init_2 := dk_seg dksX4_init_1 24 rfl rfl
theorem dksX4_init_3 : cX4_init.data.toList.drop 71 = dktX4_init_3 := dk_seg dksX4_init_2 23 rfl rfl
theorem dksX4_init_4 : cX4_init.data.toList.drop 95 = dktX4_init_4 := dk_seg dksX4_init_3 24 rfl rfl
theorem dX4_init_0 : decode cX4_init 0 = .ok (.aload_n 0, 1) := dk_42 (dk_at dksX4_init_0 0 rfl rfl)
theorem dX4_init_1 : decode cX4_init 1 = .ok (.invokespecial 3, 3) := dk_183 0 3 (dk_at dksX4_init_0 1 rfl rfl)
theorem dX4_init_4 : decode cX4_init 4 = .ok (.aload_n 0, 1) := dk_42 (dk_at dksX4_init_0 4 rfl rfl)
theorem dX4_init_5 : decode cX4_init 5 = .ok (.bipush 36, 2) := dk_16 36 (dk_at dksX4_init_0 5 rfl rfl)
theorem dX4_init_7 : decode cX4_init 7 = .ok (.newarray .int, 2) := dk_188_10 (dk_at dksX4_init_0 7 rfl rfl)
theorem dX4_init_9 : decode cX4_init 9 = .ok (.putfield 9, 3) := dk_181 0 9 (dk_at dksX4_init_0 9 rfl rfl)
theorem dX4_init_12 : decode cX4_init 12 = .ok (.aload_n 0, 1) := dk_42 (dk_at dksX4_init_0 12 rfl rfl)
theorem dX4_init_13 : decode cX4_init 13 = .ok (.bipush 36, 2) := dk_16 36 (dk_at dksX4_init_0 13 rfl rfl)
theorem dX4_init_15 : decode cX4_init 15 = .ok (.newarray .int, 2) := dk_188_10 (dk_at dksX4_init_0 15 rfl rfl)
theorem dX4_init_17 : decode cX4_init 17 = .ok (.putfield 15, 3) := dk_181 0 15 (dk_at dksX4_init_0 17 rfl rfl)
theorem dX4_init_20 : decode cX4_init 20 = .ok (.aload_n 0, 1) := dk_42 (dk_at dksX4_init_0 20 rfl rfl)
theorem dX4_init_21 : decode cX4_init 21 = .ok (.iconst 5, 1) := dk_8 (dk_at dksX4_init_0 21 rfl rfl)
theorem dX4_init_22 : decode cX4_init 22 = .ok (.newarray .int, 2) := dk_188_10 (dk_at dksX4_init_0 22 rfl rfl)
theorem dX4_init_24 : decode cX4_init 24 = .ok (.dup, 1) := dk_89 (dk_at dksX4_init_1 0 rfl rfl)
theorem dX4_init_25 : decode cX4_init 25 = .ok (.iconst 0, 1) := dk_3 (dk_at dksX4_init_1 1 rfl rfl)
theorem dX4_init_26 : decode cX4_init 26 = .ok (.iconst 0, 1) := dk_3 (dk_at dksX4_init_1 2 rfl rfl)
theorem dX4_init_27 : decode cX4_init 27 = .ok (.iastore, 1) := dk_79 (dk_at dksX4_init_1 3 rfl rfl)
theorem dX4_init_28 : decode cX4_init 28 = .ok (.dup, 1) := dk_89 (dk_at dksX4_init_1 4 rfl rfl)
theorem dX4_init_29 : decode cX4_init 29 = .ok (.iconst 1, 1) := dk_4 (dk_at dksX4_init_1 5 rfl rfl)
theorem dX4_init_30 : decode cX4_init 30 = .ok (.iconst 1, 1) := dk_4 (dk_at dksX4_init_1 6 rfl rfl)
theorem dX4_init_31 : decode cX4_init 31 = .ok (.iastore, 1) := dk_79 (dk_at dksX4_init_1 7 rfl rfl)
theorem dX4_init_32 : decode cX4_init 32 = .ok (.dup, 1) := dk_89 (dk_at dksX4_init_1 8 rfl rfl)
theorem dX4_init_33 : decode cX4_init 33 = .ok (.iconst 2, 1) := dk_5 (dk_at dksX4_init_1 9 rfl rfl)
theorem dX4_init_34 : decode cX4_init 34 = .ok (.iconst 3, 1) := dk_6 (dk_at dksX4_init_1 10 rfl rfl)
theorem dX4_init_35 : decode cX4_init 35 = .ok (.iastore, 1) := dk_79 (dk_at dksX4_init_1 11 rfl rfl)
theorem dX4_init_36 : decode cX4_init 36 = .ok (.dup, 1) := dk_89 (dk_at dksX4_init_1 12 rfl rfl)
theorem dX4_init_37 : decode cX4_init 37 = .ok (.iconst 3, 1) := dk_6 (dk_at dksX4_init_1 13 rfl rfl)
theorem dX4_init_38 : decode cX4_init 38 = .ok (.iconst 2, 1) := dk_5 (dk_at dksX4_init_1 14 rfl rfl)
theorem dX4_init_39 : decode cX4_init 39 = .ok (.iastore, 1) := dk_79 (dk_at dksX4_init_1 15 rfl rfl)
theorem dX4_init_40 : decode cX4_init 40 = .ok (.dup, 1) := dk_89 (dk_at dksX4_init_1 16 rfl rfl)
theorem dX4_init_41 : decode cX4_init 41 = .ok (.iconst 4, 1) := dk_7 (dk_at dksX4_init_1 17 rfl rfl)
theorem dX4_init_42 : decode cX4_init 42 = .ok (.iconst 0, 1) := dk_3 (dk_at dksX4_init_1 18 rfl rfl)
theorem dX4_init_43 : decode cX4_init 43 = .ok (.iastore, 1) := dk_79 (dk_at dksX4_init_1 19 rfl rfl)
theorem dX4_init_44 : decode cX4_init 44 = .ok (.putfield 18, 3) := dk_181 0 18 (dk_at dksX4_init_1 20 rfl rfl)
theorem dX4_init_47 : decode cX4_init 47 = .ok (.aload_n 0, 1) := dk_42 (dk_at dksX4_init_1 23 rfl rfl)
theorem dX4_init_48 : decode cX4_init 48 = .ok (.iconst 2, 1) := dk_5 (dk_at dksX4_init_2 0 rfl rfl)
theorem dX4_init_49 : decode cX4_init 49 = .ok (.newarray .int, 2) := dk_188_10 (dk_at dksX4_init_2 1 rfl rfl)
theorem dX4_init_51 : decode cX4_init 51 = .ok (.dup, 1) := dk_89 (dk_at dksX4_init_2 3 rfl rfl)
theorem dX4_init_52 : decode cX4_init 52 = .ok (.iconst 0, 1) := dk_3 (dk_at dksX4_init_2 4 rfl rfl)
theorem dX4_init_53 : decode cX4_init 53 = .ok (.bipush 14, 2) := dk_16 14 (dk_at dksX4_init_2 5 rfl rfl)
theorem dX4_init_55 : decode cX4_init 55 = .ok (.iastore, 1) := dk_79 (dk_at dksX4_init_2 7 rfl rfl)
theorem dX4_init_56 : decode cX4_init 56 = .ok (.dup, 1) := dk_89 (dk_at dksX4_init_2 8 rfl rfl)
theorem dX4_init_57 : decode cX4_init 57 = .ok (.iconst 1, 1) := dk_4 (dk_at dksX4_init_2 9 rfl rfl)
theorem dX4_init_58 : decode cX4_init 58 = .ok (.iconst 0, 1) := dk_3 (dk_at dksX4_init_2 10 rfl rfl)
theorem dX4_init_59 : decode cX4_init 59 = .ok (.iastore, 1) := dk_79 (dk_at dksX4_init_2 11 rfl rfl)
theorem dX4_init_60 : decode cX4_init 60 = .ok (.putfield 21, 3) := dk_181 0 21 (dk_at dksX4_init_2 12 rfl rfl)
theorem dX4_init_63 : decode cX4_init 63 = .ok (.aload_n 0, 1) := dk_42 (dk_at dksX4_init_2 15 rfl rfl)
theorem dX4_init_64 : decode cX4_init 64 = .ok (.iconst 4, 1) := dk_7 (dk_at dksX4_init_2 16 rfl rfl)
theorem dX4_init_65 : decode cX4_init 65 = .ok (.bipush 8, 2) := dk_16 8 (dk_at dksX4_init_2 17 rfl rfl)
theorem dX4_init_67 : decode cX4_init 67 = .ok (.multianewarray 24 2, 4) := by decide +kernel
theorem dX4_init_71 : decode cX4_init 71 = .ok (.putfield 26, 3) := dk_181 0 26 (dk_at dksX4_init_3 0 rfl rfl)
theorem dX4_init_74 : decode cX4_init 74 = .ok (.aload_n 0, 1) := dk_42 (dk_at dksX4_init_3 3 rfl rfl)
theorem dX4_init_75 : decode cX4_init 75 = .ok (.iconst 1, 1) := dk_4 (dk_at dksX4_init_3 4 rfl rfl)
theorem dX4_init_76 : decode cX4_init 76 = .ok (.putfield 29, 3) := dk_181 0 29 (dk_at dksX4_init_3 5 rfl rfl)
theorem dX4_init_79 : decode cX4_init 79 = .ok (.aload_n 0, 1) := dk_42 (dk_at dksX4_init_3 8 rfl rfl)
theorem dX4_init_80 : decode cX4_init 80 = .ok (.bipush 10, 2) := dk_16 10 (dk_at dksX4_init_3 9 rfl rfl)
theorem dX4_init_82 : decode cX4_init 82 = .ok (.newarray .int, 2) := dk_188_10 (dk_at dksX4_init_3 11 rfl rfl)
theorem dX4_init_84 : decode cX4_init 84 = .ok (.putfield 33, 3) := dk_181 0 33 (dk_at dksX4_init_3 13 rfl rfl)
theorem dX4_init_87 : decode cX4_init 87 = .ok (.iconst 0, 1) := dk_3 (dk_at dksX4_init_3 16 rfl rfl)
theorem dX4_init_88 : decode cX4_init 88 = .ok (.istore_n 1, 1) := dk_60 (dk_at dksX4_init_3 17 rfl rfl)
theorem dX4_init_89 : decode cX4_init 89 = .ok (.iload_n 1, 1) := dk_27 (dk_at dksX4_init_3 18 rfl rfl)
theorem dX4_init_90 : decode cX4_init 90 = .ok (.bipush 10, 2) := dk_16 10 (dk_at dksX4_init_3 19 rfl rfl)
theorem dX4_init_92 : decode cX4_init 92 = .ok (.if_icmp .ge 16, 3) := dk_162 0 16 (dk_at dksX4_init_3 21 rfl rfl)
theorem dX4_init_95 : decode cX4_init 95 = .ok (.aload_n 0, 1) := dk_42 (dk_at dksX4_init_4 0 rfl rfl)
theorem dX4_init_96 : decode cX4_init 96 = .ok (.getfield 33, 3) := dk_180 0 33 (dk_at dksX4_init_4 1 rfl rfl)
theorem dX4_init_99 : decode cX4_init 99 = .ok (.iload_n 1, 1) := dk_27 (dk_at dksX4_init_4 4 rfl rfl)
theorem dX4_init_100 : decode cX4_init 100 = .ok (.iconst (-1), 1) := dk_2 (dk_at dksX4_init_4 5 rfl rfl)
theorem dX4_init_101 : decode cX4_init 101 = .ok (.iastore, 1) := dk_79 (dk_at dksX4_init_4 6 rfl rfl)
theorem dX4_init_102 : decode cX4_init 102 = .ok (.iinc 1 1, 3) := dk_132 1 1 (dk_at dksX4_init_4 7 rfl rfl)
theorem dX4_init_105 : decode cX4_init 105 = .ok (.goto (-16), 3) := dk_167 255 240 (dk_at dksX4_init_4 10 rfl rfl)
theorem dX4_init_108 : decode cX4_init 108 = .ok (.return_, 1) := dk_177 (dk_at dksX4_init_4 13 rfl rfl)
abbrev cX4_loudAt : ByteArray := prog_13_method_8_code
def yX4_loudAt : MethodName := ⟨RX4, "loudAt", "(I)I"⟩
def dkwX4_loudAt_0 : List UInt8 := [42, 182, 0, 63, 6, 27, 42, 180, 0, 18, 3, 46, 184, 0, 67, 104, 100, 172]
abbrev dktX4_loudAt_0 : List UInt8 := dkwX4_loudAt_0 ++ []
theorem dksX4_loudAt_0 : cX4_loudAt.data.toList.drop 0 = dktX4_loudAt_0 := by decide +kernel
theorem dX4_loudAt_0 : decode cX4_loudAt 0 = .ok (.aload_n 0, 1) := dk_42 (dk_at dksX4_loudAt_0 0 rfl rfl)
theorem dX4_loudAt_1 : decode cX4_loudAt 1 = .ok (.invokevirtual 63, 3) := dk_182 0 63 (dk_at dksX4_loudAt_0 1 rfl rfl)
theorem dX4_loudAt_4 : decode cX4_loudAt 4 = .ok (.iconst 3, 1) := dk_6 (dk_at dksX4_loudAt_0 4 rfl rfl)
theorem dX4_loudAt_5 : decode cX4_loudAt 5 = .ok (.iload_n 1, 1) := dk_27 (dk_at dksX4_loudAt_0 5 rfl rfl)
theorem dX4_loudAt_6 : decode cX4_loudAt 6 = .ok (.aload_n 0, 1) := dk_42 (dk_at dksX4_loudAt_0 6 rfl rfl)
theorem dX4_loudAt_7 : decode cX4_loudAt 7 = .ok (.getfield 18, 3) := dk_180 0 18 (dk_at dksX4_loudAt_0 7 rfl rfl)
theorem dX4_loudAt_10 : decode cX4_loudAt 10 = .ok (.iconst 0, 1) := dk_3 (dk_at dksX4_loudAt_0 10 rfl rfl)
theorem dX4_loudAt_11 : decode cX4_loudAt 11 = .ok (.iaload, 1) := dk_46 (dk_at dksX4_loudAt_0 11 rfl rfl)
theorem dX4_loudAt_12 : decode cX4_loudAt 12 = .ok (.invokestatic 67, 3) := dk_184 0 67 (dk_at dksX4_loudAt_0 12 rfl rfl)
theorem dX4_loudAt_15 : decode cX4_loudAt 15 = .ok (.imul, 1) := dk_104 (dk_at dksX4_loudAt_0 15 rfl rfl)
theorem dX4_loudAt_16 : decode cX4_loudAt 16 = .ok (.isub, 1) := dk_100 (dk_at dksX4_loudAt_0 16 rfl rfl)
theorem dX4_loudAt_17 : decode cX4_loudAt 17 = .ok (.ireturn, 1) := dk_172 (dk_at dksX4_loudAt_0 17 rfl rfl)
abbrev cX4_loud : ByteArray := prog_13_method_7_code
def yX4_loud : MethodName := ⟨RX4, "loud", "()I"⟩
def dkwX4_loud_1 : List UInt8 := [46, 100, 184, 0, 57, 172]
abbrev dktX4_loud_1 : List UInt8 := dkwX4_loud_1 ++ []
def dkwX4_loud_0 : List UInt8 := [3, 42, 182, 0, 53, 153, 0, 8, 16, 30, 167, 0, 4, 5, 42, 180, 0, 9, 42, 180, 0, 18, 3, 46]
abbrev dktX4_loud_0 : List UInt8 := dkwX4_loud_0 ++ dktX4_loud_1
theorem dksX4_loud_0 : cX4_loud.data.toList.drop 0 = dktX4_loud_0 := by decide +kernel
theorem dksX4_loud_1 : cX4_loud.data.toList.drop 24 = dktX4_loud_1 := dk_seg dksX4_loud_0 24 rfl rfl
theorem dX4_loud_0 : decode cX4_loud 0 = .ok (.iconst 0, 1) := dk_3 (dk_at dksX4_loud_0 0 rfl rfl)
theorem dX4_loud_1 : decode cX4_loud 1 = .ok (.aload_n 0, 1) := dk_42 (dk_at dksX4_loud_0 1 rfl rfl)
theorem dX4_loud_2 : decode cX4_loud 2 = .ok (.invokevirtual 53, 3) := dk_182 0 53 (dk_at dksX4_loud_0 2 rfl rfl)
theorem dX4_loud_5 : decode cX4_loud 5 = .ok (.ifCond .eq 8, 3) := dk_153 0 8 (dk_at dksX4_loud_0 5 rfl rfl)
theorem dX4_loud_8 : decode cX4_loud 8 = .ok (.bipush 30, 2) := dk_16 30 (dk_at dksX4_loud_0 8 rfl rfl)
theorem dX4_loud_10 : decode cX4_loud 10 = .ok (.goto 4, 3) := dk_167 0 4 (dk_at dksX4_loud_0 10 rfl rfl)
theorem dX4_loud_13 : decode cX4_loud 13 = .ok (.iconst 2, 1) := dk_5 (dk_at dksX4_loud_0 13 rfl rfl)
theorem dX4_loud_14 : decode cX4_loud 14 = .ok (.aload_n 0, 1) := dk_42 (dk_at dksX4_loud_0 14 rfl rfl)
theorem dX4_loud_15 : decode cX4_loud 15 = .ok (.getfield 9, 3) := dk_180 0 9 (dk_at dksX4_loud_0 15 rfl rfl)
theorem dX4_loud_18 : decode cX4_loud 18 = .ok (.aload_n 0, 1) := dk_42 (dk_at dksX4_loud_0 18 rfl rfl)
theorem dX4_loud_19 : decode cX4_loud 19 = .ok (.getfield 18, 3) := dk_180 0 18 (dk_at dksX4_loud_0 19 rfl rfl)
theorem dX4_loud_22 : decode cX4_loud 22 = .ok (.iconst 0, 1) := dk_3 (dk_at dksX4_loud_0 22 rfl rfl)
theorem dX4_loud_23 : decode cX4_loud 23 = .ok (.iaload, 1) := dk_46 (dk_at dksX4_loud_0 23 rfl rfl)
theorem dX4_loud_24 : decode cX4_loud 24 = .ok (.iaload, 1) := dk_46 (dk_at dksX4_loud_1 0 rfl rfl)
theorem dX4_loud_25 : decode cX4_loud 25 = .ok (.isub, 1) := dk_100 (dk_at dksX4_loud_1 1 rfl rfl)
theorem dX4_loud_26 : decode cX4_loud 26 = .ok (.invokestatic 57, 3) := dk_184 0 57 (dk_at dksX4_loud_1 2 rfl rfl)
theorem dX4_loud_29 : decode cX4_loud 29 = .ok (.ireturn, 1) := dk_172 (dk_at dksX4_loud_1 5 rfl rfl)
abbrev cX4_isRunning : ByteArray := prog_13_method_6_code
def yX4_isRunning : MethodName := ⟨RX4, "isRunning", "()Z"⟩
def dkwX4_isRunning_0 : List UInt8 := [42, 180, 0, 18, 7, 46, 42, 180, 0, 18, 5, 46, 162, 0, 7, 4, 167, 0, 4, 3, 172]
abbrev dktX4_isRunning_0 : List UInt8 := dkwX4_isRunning_0 ++ []
theorem dksX4_isRunning_0 : cX4_isRunning.data.toList.drop 0 = dktX4_isRunning_0 := by decide +kernel
theorem dX4_isRunning_0 : decode cX4_isRunning 0 = .ok (.aload_n 0, 1) := dk_42 (dk_at dksX4_isRunning_0 0 rfl rfl)
theorem dX4_isRunning_1 : decode cX4_isRunning 1 = .ok (.getfield 18, 3) := dk_180 0 18 (dk_at dksX4_isRunning_0 1 rfl rfl)
theorem dX4_isRunning_4 : decode cX4_isRunning 4 = .ok (.iconst 4, 1) := dk_7 (dk_at dksX4_isRunning_0 4 rfl rfl)
theorem dX4_isRunning_5 : decode cX4_isRunning 5 = .ok (.iaload, 1) := dk_46 (dk_at dksX4_isRunning_0 5 rfl rfl)
theorem dX4_isRunning_6 : decode cX4_isRunning 6 = .ok (.aload_n 0, 1) := dk_42 (dk_at dksX4_isRunning_0 6 rfl rfl)
theorem dX4_isRunning_7 : decode cX4_isRunning 7 = .ok (.getfield 18, 3) := dk_180 0 18 (dk_at dksX4_isRunning_0 7 rfl rfl)
theorem dX4_isRunning_10 : decode cX4_isRunning 10 = .ok (.iconst 2, 1) := dk_5 (dk_at dksX4_isRunning_0 10 rfl rfl)
theorem dX4_isRunning_11 : decode cX4_isRunning 11 = .ok (.iaload, 1) := dk_46 (dk_at dksX4_isRunning_0 11 rfl rfl)
theorem dX4_isRunning_12 : decode cX4_isRunning 12 = .ok (.if_icmp .ge 7, 3) := dk_162 0 7 (dk_at dksX4_isRunning_0 12 rfl rfl)
theorem dX4_isRunning_15 : decode cX4_isRunning 15 = .ok (.iconst 1, 1) := dk_4 (dk_at dksX4_isRunning_0 15 rfl rfl)
theorem dX4_isRunning_16 : decode cX4_isRunning 16 = .ok (.goto 4, 3) := dk_167 0 4 (dk_at dksX4_isRunning_0 16 rfl rfl)
theorem dX4_isRunning_19 : decode cX4_isRunning 19 = .ok (.iconst 0, 1) := dk_3 (dk_at dksX4_isRunning_0 19 rfl rfl)
theorem dX4_isRunning_20 : decode cX4_isRunning 20 = .ok (.ireturn, 1) := dk_172 (dk_at dksX4_isRunning_0 20 rfl rfl)
abbrev cX4_add : ByteArray := prog_13_method_5_code
def yX4_add : MethodName := ⟨RX4, "add", "(II)V"⟩
def dkwX4_add_2 : List UInt8 := [42, 89, 180, 0, 46, 4, 96, 181, 0, 46, 177]
abbrev dktX4_add_2 : List UInt8 := dkwX4_add_2 ++ []
def dkwX4_add_1 : List UInt8 := [42, 180, 0, 26, 5, 50, 42, 180, 0, 46, 3, 79, 42, 180, 0, 26, 6, 50, 42, 180, 0, 46, 3, 79]
abbrev dktX4_add_1 : List UInt8 := dkwX4_add_1 ++ dktX4_add_2
def dkwX4_add_0 : List UInt8 := [42, 180, 0, 26, 3, 50, 42, 180, 0, 46, 27, 79, 42, 180, 0, 26, 4, 50, 42, 180, 0, 46, 28, 79]
abbrev dktX4_add_0 : List UInt8 := dkwX4_add_0 ++ dktX4_add_1
theorem dksX4_add_0 : cX4_add.data.toList.drop 0 = dktX4_add_0 := by decide +kernel
theorem dksX4_add_1 : cX4_add.data.toList.drop 24 = dktX4_add_1 := dk_seg dksX4_add_0 24 rfl rfl
theorem dksX4_add_2 : cX4_add.data.toList.drop 48 = dktX4_add_2 := dk_seg dksX4_add_1 24 rfl rfl
theorem dX4_add_0 : decode cX4_add 0 = .ok (.aload_n 0, 1) := dk_42 (dk_at dksX4_add_0 0 rfl rfl)
theorem dX4_add_1 : decode cX4_add 1 = .ok (.getfield 26, 3) := dk_180 0 26 (dk_at dksX4_add_0 1 rfl rfl)
theorem dX4_add_4 : decode cX4_add 4 = .ok (.iconst 0, 1) := dk_3 (dk_at dksX4_add_0 4 rfl rfl)
theorem dX4_add_5 : decode cX4_add 5 = .ok (.aaload, 1) := dk_50 (dk_at dksX4_add_0 5 rfl rfl)
theorem dX4_add_6 : decode cX4_add 6 = .ok (.aload_n 0, 1) := dk_42 (dk_at dksX4_add_0 6 rfl rfl)
theorem dX4_add_7 : decode cX4_add 7 = .ok (.getfield 46, 3) := dk_180 0 46 (dk_at dksX4_add_0 7 rfl rfl)
theorem dX4_add_10 : decode cX4_add 10 = .ok (.iload_n 1, 1) := dk_27 (dk_at dksX4_add_0 10 rfl rfl)
theorem dX4_add_11 : decode cX4_add 11 = .ok (.iastore, 1) := dk_79 (dk_at dksX4_add_0 11 rfl rfl)
theorem dX4_add_12 : decode cX4_add 12 = .ok (.aload_n 0, 1) := dk_42 (dk_at dksX4_add_0 12 rfl rfl)
theorem dX4_add_13 : decode cX4_add 13 = .ok (.getfield 26, 3) := dk_180 0 26 (dk_at dksX4_add_0 13 rfl rfl)
theorem dX4_add_16 : decode cX4_add 16 = .ok (.iconst 1, 1) := dk_4 (dk_at dksX4_add_0 16 rfl rfl)
theorem dX4_add_17 : decode cX4_add 17 = .ok (.aaload, 1) := dk_50 (dk_at dksX4_add_0 17 rfl rfl)
theorem dX4_add_18 : decode cX4_add 18 = .ok (.aload_n 0, 1) := dk_42 (dk_at dksX4_add_0 18 rfl rfl)
theorem dX4_add_19 : decode cX4_add 19 = .ok (.getfield 46, 3) := dk_180 0 46 (dk_at dksX4_add_0 19 rfl rfl)
theorem dX4_add_22 : decode cX4_add 22 = .ok (.iload_n 2, 1) := dk_28 (dk_at dksX4_add_0 22 rfl rfl)
theorem dX4_add_23 : decode cX4_add 23 = .ok (.iastore, 1) := dk_79 (dk_at dksX4_add_0 23 rfl rfl)
theorem dX4_add_24 : decode cX4_add 24 = .ok (.aload_n 0, 1) := dk_42 (dk_at dksX4_add_1 0 rfl rfl)
theorem dX4_add_25 : decode cX4_add 25 = .ok (.getfield 26, 3) := dk_180 0 26 (dk_at dksX4_add_1 1 rfl rfl)
theorem dX4_add_28 : decode cX4_add 28 = .ok (.iconst 2, 1) := dk_5 (dk_at dksX4_add_1 4 rfl rfl)
theorem dX4_add_29 : decode cX4_add 29 = .ok (.aaload, 1) := dk_50 (dk_at dksX4_add_1 5 rfl rfl)
theorem dX4_add_30 : decode cX4_add 30 = .ok (.aload_n 0, 1) := dk_42 (dk_at dksX4_add_1 6 rfl rfl)
theorem dX4_add_31 : decode cX4_add 31 = .ok (.getfield 46, 3) := dk_180 0 46 (dk_at dksX4_add_1 7 rfl rfl)
theorem dX4_add_34 : decode cX4_add 34 = .ok (.iconst 0, 1) := dk_3 (dk_at dksX4_add_1 10 rfl rfl)
theorem dX4_add_35 : decode cX4_add 35 = .ok (.iastore, 1) := dk_79 (dk_at dksX4_add_1 11 rfl rfl)
theorem dX4_add_36 : decode cX4_add 36 = .ok (.aload_n 0, 1) := dk_42 (dk_at dksX4_add_1 12 rfl rfl)
theorem dX4_add_37 : decode cX4_add 37 = .ok (.getfield 26, 3) := dk_180 0 26 (dk_at dksX4_add_1 13 rfl rfl)
theorem dX4_add_40 : decode cX4_add 40 = .ok (.iconst 3, 1) := dk_6 (dk_at dksX4_add_1 16 rfl rfl)
theorem dX4_add_41 : decode cX4_add 41 = .ok (.aaload, 1) := dk_50 (dk_at dksX4_add_1 17 rfl rfl)
theorem dX4_add_42 : decode cX4_add 42 = .ok (.aload_n 0, 1) := dk_42 (dk_at dksX4_add_1 18 rfl rfl)
theorem dX4_add_43 : decode cX4_add 43 = .ok (.getfield 46, 3) := dk_180 0 46 (dk_at dksX4_add_1 19 rfl rfl)
theorem dX4_add_46 : decode cX4_add 46 = .ok (.iconst 0, 1) := dk_3 (dk_at dksX4_add_1 22 rfl rfl)
theorem dX4_add_47 : decode cX4_add 47 = .ok (.iastore, 1) := dk_79 (dk_at dksX4_add_1 23 rfl rfl)
theorem dX4_add_48 : decode cX4_add 48 = .ok (.aload_n 0, 1) := dk_42 (dk_at dksX4_add_2 0 rfl rfl)
theorem dX4_add_49 : decode cX4_add 49 = .ok (.dup, 1) := dk_89 (dk_at dksX4_add_2 1 rfl rfl)
theorem dX4_add_50 : decode cX4_add 50 = .ok (.getfield 46, 3) := dk_180 0 46 (dk_at dksX4_add_2 2 rfl rfl)
theorem dX4_add_53 : decode cX4_add 53 = .ok (.iconst 1, 1) := dk_4 (dk_at dksX4_add_2 5 rfl rfl)
theorem dX4_add_54 : decode cX4_add 54 = .ok (.iadd, 1) := dk_96 (dk_at dksX4_add_2 6 rfl rfl)
theorem dX4_add_55 : decode cX4_add 55 = .ok (.putfield 46, 3) := dk_181 0 46 (dk_at dksX4_add_2 7 rfl rfl)
theorem dX4_add_58 : decode cX4_add 58 = .ok (.return_, 1) := dk_177 (dk_at dksX4_add_2 10 rfl rfl)
abbrev cX4_become : ByteArray := prog_13_method_3_code
def yX4_become : MethodName := ⟨RX4, "become", "(LOwlEars$World;)V"⟩
def dkwX4_become_4 : List UInt8 := [181, 0, 29, 43, 180, 0, 33, 42, 180, 0, 33, 184, 0, 42, 177]
abbrev dktX4_become_4 : List UInt8 := dkwX4_become_4 ++ []
def dkwX4_become_3 : List UInt8 := [50, 184, 0, 42, 132, 2, 1, 167, 255, 233, 42, 43, 180, 0, 49, 181, 0, 49, 42, 43, 180, 0, 29]
abbrev dktX4_become_3 : List UInt8 := dkwX4_become_3 ++ dktX4_become_4
def dkwX4_become_2 : List UInt8 := [180, 0, 46, 181, 0, 46, 3, 61, 28, 7, 162, 0, 24, 43, 180, 0, 26, 28, 50, 42, 180, 0, 26, 28]
abbrev dktX4_become_2 : List UInt8 := dkwX4_become_2 ++ dktX4_become_3
def dkwX4_become_1 : List UInt8 := [180, 0, 18, 42, 180, 0, 18, 184, 0, 42, 43, 180, 0, 21, 42, 180, 0, 21, 184, 0, 42, 42, 43]
abbrev dktX4_become_1 : List UInt8 := dkwX4_become_1 ++ dktX4_become_2
def dkwX4_become_0 : List UInt8 := [43, 180, 0, 9, 42, 180, 0, 9, 184, 0, 42, 43, 180, 0, 15, 42, 180, 0, 15, 184, 0, 42, 43]
abbrev dktX4_become_0 : List UInt8 := dkwX4_become_0 ++ dktX4_become_1
theorem dksX4_become_0 : cX4_become.data.toList.drop 0 = dktX4_become_0 := by decide +kernel
theorem dksX4_become_1 : cX4_become.data.toList.drop 23 = dktX4_become_1 := dk_seg dksX4_become_0 23 rfl rfl
theorem dksX4_become_2 : cX4_become.data.toList.drop 46 = dktX4_become_2 := dk_seg dksX4_become_1 23 rfl rfl
theorem dksX4_become_3 : cX4_become.data.toList.drop 70 = dktX4_become_3 := dk_seg dksX4_become_2 24 rfl rfl
theorem dksX4_become_4 : cX4_become.data.toList.drop 93 = dktX4_become_4 := dk_seg dksX4_become_3 23 rfl rfl
theorem dX4_become_0 : decode cX4_become 0 = .ok (.aload_n 1, 1) := dk_43 (dk_at dksX4_become_0 0 rfl rfl)
theorem dX4_become_1 : decode cX4_become 1 = .ok (.getfield 9, 3) := dk_180 0 9 (dk_at dksX4_become_0 1 rfl rfl)
theorem dX4_become_4 : decode cX4_become 4 = .ok (.aload_n 0, 1) := dk_42 (dk_at dksX4_become_0 4 rfl rfl)
theorem dX4_become_5 : decode cX4_become 5 = .ok (.getfield 9, 3) := dk_180 0 9 (dk_at dksX4_become_0 5 rfl rfl)
theorem dX4_become_8 : decode cX4_become 8 = .ok (.invokestatic 42, 3) := dk_184 0 42 (dk_at dksX4_become_0 8 rfl rfl)
theorem dX4_become_11 : decode cX4_become 11 = .ok (.aload_n 1, 1) := dk_43 (dk_at dksX4_become_0 11 rfl rfl)
theorem dX4_become_12 : decode cX4_become 12 = .ok (.getfield 15, 3) := dk_180 0 15 (dk_at dksX4_become_0 12 rfl rfl)
theorem dX4_become_15 : decode cX4_become 15 = .ok (.aload_n 0, 1) := dk_42 (dk_at dksX4_become_0 15 rfl rfl)
theorem dX4_become_16 : decode cX4_become 16 = .ok (.getfield 15, 3) := dk_180 0 15 (dk_at dksX4_become_0 16 rfl rfl)
theorem dX4_become_19 : decode cX4_become 19 = .ok (.invokestatic 42, 3) := dk_184 0 42 (dk_at dksX4_become_0 19 rfl rfl)
theorem dX4_become_22 : decode cX4_become 22 = .ok (.aload_n 1, 1) := dk_43 (dk_at dksX4_become_0 22 rfl rfl)
theorem dX4_become_23 : decode cX4_become 23 = .ok (.getfield 18, 3) := dk_180 0 18 (dk_at dksX4_become_1 0 rfl rfl)
theorem dX4_become_26 : decode cX4_become 26 = .ok (.aload_n 0, 1) := dk_42 (dk_at dksX4_become_1 3 rfl rfl)
theorem dX4_become_27 : decode cX4_become 27 = .ok (.getfield 18, 3) := dk_180 0 18 (dk_at dksX4_become_1 4 rfl rfl)
theorem dX4_become_30 : decode cX4_become 30 = .ok (.invokestatic 42, 3) := dk_184 0 42 (dk_at dksX4_become_1 7 rfl rfl)
theorem dX4_become_33 : decode cX4_become 33 = .ok (.aload_n 1, 1) := dk_43 (dk_at dksX4_become_1 10 rfl rfl)
theorem dX4_become_34 : decode cX4_become 34 = .ok (.getfield 21, 3) := dk_180 0 21 (dk_at dksX4_become_1 11 rfl rfl)
theorem dX4_become_37 : decode cX4_become 37 = .ok (.aload_n 0, 1) := dk_42 (dk_at dksX4_become_1 14 rfl rfl)
theorem dX4_become_38 : decode cX4_become 38 = .ok (.getfield 21, 3) := dk_180 0 21 (dk_at dksX4_become_1 15 rfl rfl)
theorem dX4_become_41 : decode cX4_become 41 = .ok (.invokestatic 42, 3) := dk_184 0 42 (dk_at dksX4_become_1 18 rfl rfl)
theorem dX4_become_44 : decode cX4_become 44 = .ok (.aload_n 0, 1) := dk_42 (dk_at dksX4_become_1 21 rfl rfl)
theorem dX4_become_45 : decode cX4_become 45 = .ok (.aload_n 1, 1) := dk_43 (dk_at dksX4_become_1 22 rfl rfl)
theorem dX4_become_46 : decode cX4_become 46 = .ok (.getfield 46, 3) := dk_180 0 46 (dk_at dksX4_become_2 0 rfl rfl)
theorem dX4_become_49 : decode cX4_become 49 = .ok (.putfield 46, 3) := dk_181 0 46 (dk_at dksX4_become_2 3 rfl rfl)
theorem dX4_become_52 : decode cX4_become 52 = .ok (.iconst 0, 1) := dk_3 (dk_at dksX4_become_2 6 rfl rfl)
theorem dX4_become_53 : decode cX4_become 53 = .ok (.istore_n 2, 1) := dk_61 (dk_at dksX4_become_2 7 rfl rfl)
theorem dX4_become_54 : decode cX4_become 54 = .ok (.iload_n 2, 1) := dk_28 (dk_at dksX4_become_2 8 rfl rfl)
theorem dX4_become_55 : decode cX4_become 55 = .ok (.iconst 4, 1) := dk_7 (dk_at dksX4_become_2 9 rfl rfl)
theorem dX4_become_56 : decode cX4_become 56 = .ok (.if_icmp .ge 24, 3) := dk_162 0 24 (dk_at dksX4_become_2 10 rfl rfl)
theorem dX4_become_59 : decode cX4_become 59 = .ok (.aload_n 1, 1) := dk_43 (dk_at dksX4_become_2 13 rfl rfl)
theorem dX4_become_60 : decode cX4_become 60 = .ok (.getfield 26, 3) := dk_180 0 26 (dk_at dksX4_become_2 14 rfl rfl)
theorem dX4_become_63 : decode cX4_become 63 = .ok (.iload_n 2, 1) := dk_28 (dk_at dksX4_become_2 17 rfl rfl)
theorem dX4_become_64 : decode cX4_become 64 = .ok (.aaload, 1) := dk_50 (dk_at dksX4_become_2 18 rfl rfl)
theorem dX4_become_65 : decode cX4_become 65 = .ok (.aload_n 0, 1) := dk_42 (dk_at dksX4_become_2 19 rfl rfl)
theorem dX4_become_66 : decode cX4_become 66 = .ok (.getfield 26, 3) := dk_180 0 26 (dk_at dksX4_become_2 20 rfl rfl)
theorem dX4_become_69 : decode cX4_become 69 = .ok (.iload_n 2, 1) := dk_28 (dk_at dksX4_become_2 23 rfl rfl)
theorem dX4_become_70 : decode cX4_become 70 = .ok (.aaload, 1) := dk_50 (dk_at dksX4_become_3 0 rfl rfl)
theorem dX4_become_71 : decode cX4_become 71 = .ok (.invokestatic 42, 3) := dk_184 0 42 (dk_at dksX4_become_3 1 rfl rfl)
theorem dX4_become_74 : decode cX4_become 74 = .ok (.iinc 2 1, 3) := dk_132 2 1 (dk_at dksX4_become_3 4 rfl rfl)
theorem dX4_become_77 : decode cX4_become 77 = .ok (.goto (-23), 3) := dk_167 255 233 (dk_at dksX4_become_3 7 rfl rfl)
theorem dX4_become_80 : decode cX4_become 80 = .ok (.aload_n 0, 1) := dk_42 (dk_at dksX4_become_3 10 rfl rfl)
theorem dX4_become_81 : decode cX4_become 81 = .ok (.aload_n 1, 1) := dk_43 (dk_at dksX4_become_3 11 rfl rfl)
theorem dX4_become_82 : decode cX4_become 82 = .ok (.getfield 49, 3) := dk_180 0 49 (dk_at dksX4_become_3 12 rfl rfl)
theorem dX4_become_85 : decode cX4_become 85 = .ok (.putfield 49, 3) := dk_181 0 49 (dk_at dksX4_become_3 15 rfl rfl)
theorem dX4_become_88 : decode cX4_become 88 = .ok (.aload_n 0, 1) := dk_42 (dk_at dksX4_become_3 18 rfl rfl)
theorem dX4_become_89 : decode cX4_become 89 = .ok (.aload_n 1, 1) := dk_43 (dk_at dksX4_become_3 19 rfl rfl)
theorem dX4_become_90 : decode cX4_become 90 = .ok (.getfield 29, 3) := dk_180 0 29 (dk_at dksX4_become_3 20 rfl rfl)
theorem dX4_become_93 : decode cX4_become 93 = .ok (.putfield 29, 3) := dk_181 0 29 (dk_at dksX4_become_4 0 rfl rfl)
theorem dX4_become_96 : decode cX4_become 96 = .ok (.aload_n 1, 1) := dk_43 (dk_at dksX4_become_4 3 rfl rfl)
theorem dX4_become_97 : decode cX4_become 97 = .ok (.getfield 33, 3) := dk_180 0 33 (dk_at dksX4_become_4 4 rfl rfl)
theorem dX4_become_100 : decode cX4_become 100 = .ok (.aload_n 0, 1) := dk_42 (dk_at dksX4_become_4 7 rfl rfl)
theorem dX4_become_101 : decode cX4_become 101 = .ok (.getfield 33, 3) := dk_180 0 33 (dk_at dksX4_become_4 8 rfl rfl)
theorem dX4_become_104 : decode cX4_become 104 = .ok (.invokestatic 42, 3) := dk_184 0 42 (dk_at dksX4_become_4 11 rfl rfl)
theorem dX4_become_107 : decode cX4_become 107 = .ok (.return_, 1) := dk_177 (dk_at dksX4_become_4 14 rfl rfl)
abbrev cX4_copy : ByteArray := prog_13_method_2_code
def yX4_copy : MethodName := ⟨RX4, "copy", "([I[I)V"⟩
def dkwX4_copy_0 : List UInt8 := [42, 3, 43, 3, 43, 190, 184, 0, 36, 177]
abbrev dktX4_copy_0 : List UInt8 := dkwX4_copy_0 ++ []
theorem dksX4_copy_0 : cX4_copy.data.toList.drop 0 = dktX4_copy_0 := by decide +kernel
theorem dX4_copy_0 : decode cX4_copy 0 = .ok (.aload_n 0, 1) := dk_42 (dk_at dksX4_copy_0 0 rfl rfl)
theorem dX4_copy_1 : decode cX4_copy 1 = .ok (.iconst 0, 1) := dk_3 (dk_at dksX4_copy_0 1 rfl rfl)
theorem dX4_copy_2 : decode cX4_copy 2 = .ok (.aload_n 1, 1) := dk_43 (dk_at dksX4_copy_0 2 rfl rfl)
theorem dX4_copy_3 : decode cX4_copy 3 = .ok (.iconst 0, 1) := dk_3 (dk_at dksX4_copy_0 3 rfl rfl)
theorem dX4_copy_4 : decode cX4_copy 4 = .ok (.aload_n 1, 1) := dk_43 (dk_at dksX4_copy_0 4 rfl rfl)
theorem dX4_copy_5 : decode cX4_copy 5 = .ok (.arraylength, 1) := dk_190 (dk_at dksX4_copy_0 5 rfl rfl)
theorem dX4_copy_6 : decode cX4_copy 6 = .ok (.invokestatic 36, 3) := dk_184 0 36 (dk_at dksX4_copy_0 6 rfl rfl)
theorem dX4_copy_9 : decode cX4_copy 9 = .ok (.return_, 1) := dk_177 (dk_at dksX4_copy_0 9 rfl rfl)
abbrev cX4_passes : ByteArray := prog_13_method_13_code
def yX4_passes : MethodName := ⟨RX4, "passes", "()V"⟩
def dkwX4_passes_4 : List UInt8 := [42, 180, 0, 18, 6, 46, 96, 112, 79, 42, 89, 180, 0, 49, 4, 96, 181, 0, 49, 177]
abbrev dktX4_passes_4 : List UInt8 := dkwX4_passes_4 ++ []
def dkwX4_passes_3 : List UInt8 := [167, 0, 4, 27, 79, 42, 180, 0, 18, 7, 42, 180, 0, 18, 7, 46, 4, 96, 42, 180, 0, 18, 5, 46]
abbrev dktX4_passes_3 : List UInt8 := dkwX4_passes_3 ++ dktX4_passes_4
def dkwX4_passes_2 : List UInt8 := [180, 0, 18, 4, 46, 79, 42, 180, 0, 18, 3, 27, 2, 160, 0, 12, 42, 180, 0, 18, 3, 46]
abbrev dktX4_passes_2 : List UInt8 := dkwX4_passes_2 ++ dktX4_passes_3
def dkwX4_passes_1 : List UInt8 := [180, 0, 18, 4, 27, 2, 160, 0, 16, 42, 180, 0, 18, 4, 46, 4, 96, 7, 112, 167, 0, 9, 42]
abbrev dktX4_passes_1 : List UInt8 := dkwX4_passes_1 ++ dktX4_passes_2
def dkwX4_passes_0 : List UInt8 := [42, 180, 0, 18, 3, 46, 42, 180, 0, 18, 4, 46, 184, 0, 88, 60, 42, 182, 0, 53, 153, 0, 54, 42]
abbrev dktX4_passes_0 : List UInt8 := dkwX4_passes_0 ++ dktX4_passes_1
theorem dksX4_passes_0 : cX4_passes.data.toList.drop 0 = dktX4_passes_0 := by decide +kernel
theorem dksX4_passes_1 : cX4_passes.data.toList.drop 24 = dktX4_passes_1 := dk_seg dksX4_passes_0 24 rfl rfl
theorem dksX4_passes_2 : cX4_passes.data.toList.drop 47 = dktX4_passes_2 := dk_seg dksX4_passes_1 23 rfl rfl
theorem dksX4_passes_3 : cX4_passes.data.toList.drop 69 = dktX4_passes_3 := dk_seg dksX4_passes_2 22 rfl rfl
theorem dksX4_passes_4 : cX4_passes.data.toList.drop 93 = dktX4_passes_4 := dk_seg dksX4_passes_3 24 rfl rfl
theorem dX4_passes_0 : decode cX4_passes 0 = .ok (.aload_n 0, 1) := dk_42 (dk_at dksX4_passes_0 0 rfl rfl)
theorem dX4_passes_1 : decode cX4_passes 1 = .ok (.getfield 18, 3) := dk_180 0 18 (dk_at dksX4_passes_0 1 rfl rfl)
theorem dX4_passes_4 : decode cX4_passes 4 = .ok (.iconst 0, 1) := dk_3 (dk_at dksX4_passes_0 4 rfl rfl)
theorem dX4_passes_5 : decode cX4_passes 5 = .ok (.iaload, 1) := dk_46 (dk_at dksX4_passes_0 5 rfl rfl)
theorem dX4_passes_6 : decode cX4_passes 6 = .ok (.aload_n 0, 1) := dk_42 (dk_at dksX4_passes_0 6 rfl rfl)
theorem dX4_passes_7 : decode cX4_passes 7 = .ok (.getfield 18, 3) := dk_180 0 18 (dk_at dksX4_passes_0 7 rfl rfl)
theorem dX4_passes_10 : decode cX4_passes 10 = .ok (.iconst 1, 1) := dk_4 (dk_at dksX4_passes_0 10 rfl rfl)
theorem dX4_passes_11 : decode cX4_passes 11 = .ok (.iaload, 1) := dk_46 (dk_at dksX4_passes_0 11 rfl rfl)
theorem dX4_passes_12 : decode cX4_passes 12 = .ok (.invokestatic 88, 3) := dk_184 0 88 (dk_at dksX4_passes_0 12 rfl rfl)
theorem dX4_passes_15 : decode cX4_passes 15 = .ok (.istore_n 1, 1) := dk_60 (dk_at dksX4_passes_0 15 rfl rfl)
theorem dX4_passes_16 : decode cX4_passes 16 = .ok (.aload_n 0, 1) := dk_42 (dk_at dksX4_passes_0 16 rfl rfl)
theorem dX4_passes_17 : decode cX4_passes 17 = .ok (.invokevirtual 53, 3) := dk_182 0 53 (dk_at dksX4_passes_0 17 rfl rfl)
theorem dX4_passes_20 : decode cX4_passes 20 = .ok (.ifCond .eq 54, 3) := dk_153 0 54 (dk_at dksX4_passes_0 20 rfl rfl)
theorem dX4_passes_23 : decode cX4_passes 23 = .ok (.aload_n 0, 1) := dk_42 (dk_at dksX4_passes_0 23 rfl rfl)
theorem dX4_passes_24 : decode cX4_passes 24 = .ok (.getfield 18, 3) := dk_180 0 18 (dk_at dksX4_passes_1 0 rfl rfl)
theorem dX4_passes_27 : decode cX4_passes 27 = .ok (.iconst 1, 1) := dk_4 (dk_at dksX4_passes_1 3 rfl rfl)
theorem dX4_passes_28 : decode cX4_passes 28 = .ok (.iload_n 1, 1) := dk_27 (dk_at dksX4_passes_1 4 rfl rfl)
theorem dX4_passes_29 : decode cX4_passes 29 = .ok (.iconst (-1), 1) := dk_2 (dk_at dksX4_passes_1 5 rfl rfl)
theorem dX4_passes_30 : decode cX4_passes 30 = .ok (.if_icmp .ne 16, 3) := dk_160 0 16 (dk_at dksX4_passes_1 6 rfl rfl)
theorem dX4_passes_33 : decode cX4_passes 33 = .ok (.aload_n 0, 1) := dk_42 (dk_at dksX4_passes_1 9 rfl rfl)
theorem dX4_passes_34 : decode cX4_passes 34 = .ok (.getfield 18, 3) := dk_180 0 18 (dk_at dksX4_passes_1 10 rfl rfl)
theorem dX4_passes_37 : decode cX4_passes 37 = .ok (.iconst 1, 1) := dk_4 (dk_at dksX4_passes_1 13 rfl rfl)
theorem dX4_passes_38 : decode cX4_passes 38 = .ok (.iaload, 1) := dk_46 (dk_at dksX4_passes_1 14 rfl rfl)
theorem dX4_passes_39 : decode cX4_passes 39 = .ok (.iconst 1, 1) := dk_4 (dk_at dksX4_passes_1 15 rfl rfl)
theorem dX4_passes_40 : decode cX4_passes 40 = .ok (.iadd, 1) := dk_96 (dk_at dksX4_passes_1 16 rfl rfl)
theorem dX4_passes_41 : decode cX4_passes 41 = .ok (.iconst 4, 1) := dk_7 (dk_at dksX4_passes_1 17 rfl rfl)
theorem dX4_passes_42 : decode cX4_passes 42 = .ok (.irem, 1) := dk_112 (dk_at dksX4_passes_1 18 rfl rfl)
theorem dX4_passes_43 : decode cX4_passes 43 = .ok (.goto 9, 3) := dk_167 0 9 (dk_at dksX4_passes_1 19 rfl rfl)
theorem dX4_passes_46 : decode cX4_passes 46 = .ok (.aload_n 0, 1) := dk_42 (dk_at dksX4_passes_1 22 rfl rfl)
theorem dX4_passes_47 : decode cX4_passes 47 = .ok (.getfield 18, 3) := dk_180 0 18 (dk_at dksX4_passes_2 0 rfl rfl)
theorem dX4_passes_50 : decode cX4_passes 50 = .ok (.iconst 1, 1) := dk_4 (dk_at dksX4_passes_2 3 rfl rfl)
theorem dX4_passes_51 : decode cX4_passes 51 = .ok (.iaload, 1) := dk_46 (dk_at dksX4_passes_2 4 rfl rfl)
theorem dX4_passes_52 : decode cX4_passes 52 = .ok (.iastore, 1) := dk_79 (dk_at dksX4_passes_2 5 rfl rfl)
theorem dX4_passes_53 : decode cX4_passes 53 = .ok (.aload_n 0, 1) := dk_42 (dk_at dksX4_passes_2 6 rfl rfl)
theorem dX4_passes_54 : decode cX4_passes 54 = .ok (.getfield 18, 3) := dk_180 0 18 (dk_at dksX4_passes_2 7 rfl rfl)
theorem dX4_passes_57 : decode cX4_passes 57 = .ok (.iconst 0, 1) := dk_3 (dk_at dksX4_passes_2 10 rfl rfl)
theorem dX4_passes_58 : decode cX4_passes 58 = .ok (.iload_n 1, 1) := dk_27 (dk_at dksX4_passes_2 11 rfl rfl)
theorem dX4_passes_59 : decode cX4_passes 59 = .ok (.iconst (-1), 1) := dk_2 (dk_at dksX4_passes_2 12 rfl rfl)
theorem dX4_passes_60 : decode cX4_passes 60 = .ok (.if_icmp .ne 12, 3) := dk_160 0 12 (dk_at dksX4_passes_2 13 rfl rfl)
theorem dX4_passes_63 : decode cX4_passes 63 = .ok (.aload_n 0, 1) := dk_42 (dk_at dksX4_passes_2 16 rfl rfl)
theorem dX4_passes_64 : decode cX4_passes 64 = .ok (.getfield 18, 3) := dk_180 0 18 (dk_at dksX4_passes_2 17 rfl rfl)
theorem dX4_passes_67 : decode cX4_passes 67 = .ok (.iconst 0, 1) := dk_3 (dk_at dksX4_passes_2 20 rfl rfl)
theorem dX4_passes_68 : decode cX4_passes 68 = .ok (.iaload, 1) := dk_46 (dk_at dksX4_passes_2 21 rfl rfl)
theorem dX4_passes_69 : decode cX4_passes 69 = .ok (.goto 4, 3) := dk_167 0 4 (dk_at dksX4_passes_3 0 rfl rfl)
theorem dX4_passes_72 : decode cX4_passes 72 = .ok (.iload_n 1, 1) := dk_27 (dk_at dksX4_passes_3 3 rfl rfl)
theorem dX4_passes_73 : decode cX4_passes 73 = .ok (.iastore, 1) := dk_79 (dk_at dksX4_passes_3 4 rfl rfl)
theorem dX4_passes_74 : decode cX4_passes 74 = .ok (.aload_n 0, 1) := dk_42 (dk_at dksX4_passes_3 5 rfl rfl)
theorem dX4_passes_75 : decode cX4_passes 75 = .ok (.getfield 18, 3) := dk_180 0 18 (dk_at dksX4_passes_3 6 rfl rfl)
theorem dX4_passes_78 : decode cX4_passes 78 = .ok (.iconst 4, 1) := dk_7 (dk_at dksX4_passes_3 9 rfl rfl)
theorem dX4_passes_79 : decode cX4_passes 79 = .ok (.aload_n 0, 1) := dk_42 (dk_at dksX4_passes_3 10 rfl rfl)
theorem dX4_passes_80 : decode cX4_passes 80 = .ok (.getfield 18, 3) := dk_180 0 18 (dk_at dksX4_passes_3 11 rfl rfl)
theorem dX4_passes_83 : decode cX4_passes 83 = .ok (.iconst 4, 1) := dk_7 (dk_at dksX4_passes_3 14 rfl rfl)
theorem dX4_passes_84 : decode cX4_passes 84 = .ok (.iaload, 1) := dk_46 (dk_at dksX4_passes_3 15 rfl rfl)
theorem dX4_passes_85 : decode cX4_passes 85 = .ok (.iconst 1, 1) := dk_4 (dk_at dksX4_passes_3 16 rfl rfl)
theorem dX4_passes_86 : decode cX4_passes 86 = .ok (.iadd, 1) := dk_96 (dk_at dksX4_passes_3 17 rfl rfl)
theorem dX4_passes_87 : decode cX4_passes 87 = .ok (.aload_n 0, 1) := dk_42 (dk_at dksX4_passes_3 18 rfl rfl)
theorem dX4_passes_88 : decode cX4_passes 88 = .ok (.getfield 18, 3) := dk_180 0 18 (dk_at dksX4_passes_3 19 rfl rfl)
theorem dX4_passes_91 : decode cX4_passes 91 = .ok (.iconst 2, 1) := dk_5 (dk_at dksX4_passes_3 22 rfl rfl)
theorem dX4_passes_92 : decode cX4_passes 92 = .ok (.iaload, 1) := dk_46 (dk_at dksX4_passes_3 23 rfl rfl)
theorem dX4_passes_93 : decode cX4_passes 93 = .ok (.aload_n 0, 1) := dk_42 (dk_at dksX4_passes_4 0 rfl rfl)
theorem dX4_passes_94 : decode cX4_passes 94 = .ok (.getfield 18, 3) := dk_180 0 18 (dk_at dksX4_passes_4 1 rfl rfl)
theorem dX4_passes_97 : decode cX4_passes 97 = .ok (.iconst 3, 1) := dk_6 (dk_at dksX4_passes_4 4 rfl rfl)
theorem dX4_passes_98 : decode cX4_passes 98 = .ok (.iaload, 1) := dk_46 (dk_at dksX4_passes_4 5 rfl rfl)
theorem dX4_passes_99 : decode cX4_passes 99 = .ok (.iadd, 1) := dk_96 (dk_at dksX4_passes_4 6 rfl rfl)
theorem dX4_passes_100 : decode cX4_passes 100 = .ok (.irem, 1) := dk_112 (dk_at dksX4_passes_4 7 rfl rfl)
theorem dX4_passes_101 : decode cX4_passes 101 = .ok (.iastore, 1) := dk_79 (dk_at dksX4_passes_4 8 rfl rfl)
theorem dX4_passes_102 : decode cX4_passes 102 = .ok (.aload_n 0, 1) := dk_42 (dk_at dksX4_passes_4 9 rfl rfl)
theorem dX4_passes_103 : decode cX4_passes 103 = .ok (.dup, 1) := dk_89 (dk_at dksX4_passes_4 10 rfl rfl)
theorem dX4_passes_104 : decode cX4_passes 104 = .ok (.getfield 49, 3) := dk_180 0 49 (dk_at dksX4_passes_4 11 rfl rfl)
theorem dX4_passes_107 : decode cX4_passes 107 = .ok (.iconst 1, 1) := dk_4 (dk_at dksX4_passes_4 14 rfl rfl)
theorem dX4_passes_108 : decode cX4_passes 108 = .ok (.iadd, 1) := dk_96 (dk_at dksX4_passes_4 15 rfl rfl)
theorem dX4_passes_109 : decode cX4_passes 109 = .ok (.putfield 49, 3) := dk_181 0 49 (dk_at dksX4_passes_4 16 rfl rfl)
theorem dX4_passes_112 : decode cX4_passes 112 = .ok (.return_, 1) := dk_177 (dk_at dksX4_passes_4 19 rfl rfl)
abbrev cX4_isLate : ByteArray := prog_13_method_17_code
def yX4_isLate : MethodName := ⟨RX4, "isLate", "(I)Z"⟩
def dkwX4_isLate_0 : List UInt8 := [42, 180, 0, 49, 27, 96, 18, 91, 164, 0, 7, 4, 167, 0, 4, 3, 172]
abbrev dktX4_isLate_0 : List UInt8 := dkwX4_isLate_0 ++ []
theorem dksX4_isLate_0 : cX4_isLate.data.toList.drop 0 = dktX4_isLate_0 := by decide +kernel
theorem dX4_isLate_0 : decode cX4_isLate 0 = .ok (.aload_n 0, 1) := dk_42 (dk_at dksX4_isLate_0 0 rfl rfl)
theorem dX4_isLate_1 : decode cX4_isLate 1 = .ok (.getfield 49, 3) := dk_180 0 49 (dk_at dksX4_isLate_0 1 rfl rfl)
theorem dX4_isLate_4 : decode cX4_isLate 4 = .ok (.iload_n 1, 1) := dk_27 (dk_at dksX4_isLate_0 4 rfl rfl)
theorem dX4_isLate_5 : decode cX4_isLate 5 = .ok (.iadd, 1) := dk_96 (dk_at dksX4_isLate_0 5 rfl rfl)
theorem dX4_isLate_6 : decode cX4_isLate 6 = .ok (.ldc 91, 2) := dk_18 91 (dk_at dksX4_isLate_0 6 rfl rfl)
theorem dX4_isLate_8 : decode cX4_isLate 8 = .ok (.if_icmp .le 7, 3) := dk_164 0 7 (dk_at dksX4_isLate_0 8 rfl rfl)
theorem dX4_isLate_11 : decode cX4_isLate 11 = .ok (.iconst 1, 1) := dk_4 (dk_at dksX4_isLate_0 11 rfl rfl)
theorem dX4_isLate_12 : decode cX4_isLate 12 = .ok (.goto 4, 3) := dk_167 0 4 (dk_at dksX4_isLate_0 12 rfl rfl)
theorem dX4_isLate_15 : decode cX4_isLate 15 = .ok (.iconst 0, 1) := dk_3 (dk_at dksX4_isLate_0 15 rfl rfl)
theorem dX4_isLate_16 : decode cX4_isLate 16 = .ok (.ireturn, 1) := dk_172 (dk_at dksX4_isLate_0 16 rfl rfl)
abbrev cX4_hears : ByteArray := prog_13_method_12_code
def yX4_hears : MethodName := ⟨RX4, "hears", "()Z"⟩
def dkwX4_hears_1 : List UInt8 := [180, 0, 15, 42, 180, 0, 21, 3, 46, 46, 164, 0, 7, 4, 167, 0, 4, 3, 172]
abbrev dktX4_hears_1 : List UInt8 := dkwX4_hears_1 ++ []
def dkwX4_hears_0 : List UInt8 := [42, 42, 180, 0, 21, 3, 46, 182, 0, 82, 42, 182, 0, 85, 153, 0, 7, 8, 167, 0, 4, 3, 96, 42]
abbrev dktX4_hears_0 : List UInt8 := dkwX4_hears_0 ++ dktX4_hears_1
theorem dksX4_hears_0 : cX4_hears.data.toList.drop 0 = dktX4_hears_0 := by decide +kernel
theorem dksX4_hears_1 : cX4_hears.data.toList.drop 24 = dktX4_hears_1 := dk_seg dksX4_hears_0 24 rfl rfl
theorem dX4_hears_0 : decode cX4_hears 0 = .ok (.aload_n 0, 1) := dk_42 (dk_at dksX4_hears_0 0 rfl rfl)
theorem dX4_hears_1 : decode cX4_hears 1 = .ok (.aload_n 0, 1) := dk_42 (dk_at dksX4_hears_0 1 rfl rfl)
theorem dX4_hears_2 : decode cX4_hears 2 = .ok (.getfield 21, 3) := dk_180 0 21 (dk_at dksX4_hears_0 2 rfl rfl)
theorem dX4_hears_5 : decode cX4_hears 5 = .ok (.iconst 0, 1) := dk_3 (dk_at dksX4_hears_0 5 rfl rfl)
theorem dX4_hears_6 : decode cX4_hears 6 = .ok (.iaload, 1) := dk_46 (dk_at dksX4_hears_0 6 rfl rfl)
theorem dX4_hears_7 : decode cX4_hears 7 = .ok (.invokevirtual 82, 3) := dk_182 0 82 (dk_at dksX4_hears_0 7 rfl rfl)
theorem dX4_hears_10 : decode cX4_hears 10 = .ok (.aload_n 0, 1) := dk_42 (dk_at dksX4_hears_0 10 rfl rfl)
theorem dX4_hears_11 : decode cX4_hears 11 = .ok (.invokevirtual 85, 3) := dk_182 0 85 (dk_at dksX4_hears_0 11 rfl rfl)
theorem dX4_hears_14 : decode cX4_hears 14 = .ok (.ifCond .eq 7, 3) := dk_153 0 7 (dk_at dksX4_hears_0 14 rfl rfl)
theorem dX4_hears_17 : decode cX4_hears 17 = .ok (.iconst 5, 1) := dk_8 (dk_at dksX4_hears_0 17 rfl rfl)
theorem dX4_hears_18 : decode cX4_hears 18 = .ok (.goto 4, 3) := dk_167 0 4 (dk_at dksX4_hears_0 18 rfl rfl)
theorem dX4_hears_21 : decode cX4_hears 21 = .ok (.iconst 0, 1) := dk_3 (dk_at dksX4_hears_0 21 rfl rfl)
theorem dX4_hears_22 : decode cX4_hears 22 = .ok (.iadd, 1) := dk_96 (dk_at dksX4_hears_0 22 rfl rfl)
theorem dX4_hears_23 : decode cX4_hears 23 = .ok (.aload_n 0, 1) := dk_42 (dk_at dksX4_hears_0 23 rfl rfl)
theorem dX4_hears_24 : decode cX4_hears 24 = .ok (.getfield 15, 3) := dk_180 0 15 (dk_at dksX4_hears_1 0 rfl rfl)
theorem dX4_hears_27 : decode cX4_hears 27 = .ok (.aload_n 0, 1) := dk_42 (dk_at dksX4_hears_1 3 rfl rfl)
theorem dX4_hears_28 : decode cX4_hears 28 = .ok (.getfield 21, 3) := dk_180 0 21 (dk_at dksX4_hears_1 4 rfl rfl)
theorem dX4_hears_31 : decode cX4_hears 31 = .ok (.iconst 0, 1) := dk_3 (dk_at dksX4_hears_1 7 rfl rfl)
theorem dX4_hears_32 : decode cX4_hears 32 = .ok (.iaload, 1) := dk_46 (dk_at dksX4_hears_1 8 rfl rfl)
theorem dX4_hears_33 : decode cX4_hears 33 = .ok (.iaload, 1) := dk_46 (dk_at dksX4_hears_1 9 rfl rfl)
theorem dX4_hears_34 : decode cX4_hears 34 = .ok (.if_icmp .le 7, 3) := dk_164 0 7 (dk_at dksX4_hears_1 10 rfl rfl)
theorem dX4_hears_37 : decode cX4_hears 37 = .ok (.iconst 1, 1) := dk_4 (dk_at dksX4_hears_1 13 rfl rfl)
theorem dX4_hears_38 : decode cX4_hears 38 = .ok (.goto 4, 3) := dk_167 0 4 (dk_at dksX4_hears_1 14 rfl rfl)
theorem dX4_hears_41 : decode cX4_hears 41 = .ok (.iconst 0, 1) := dk_3 (dk_at dksX4_hears_1 17 rfl rfl)
theorem dX4_hears_42 : decode cX4_hears 42 = .ok (.ireturn, 1) := dk_172 (dk_at dksX4_hears_1 18 rfl rfl)
abbrev cX4_isAhead : ByteArray := prog_13_method_11_code
def yX4_isAhead : MethodName := ⟨RX4, "isAhead", "()Z"⟩
def dkwX4_isAhead_4 : List UInt8 := [167, 0, 4, 3, 172]
abbrev dktX4_isAhead_4 : List UInt8 := dkwX4_isAhead_4 ++ []
def dkwX4_isAhead_3 : List UInt8 := [3, 172, 42, 182, 0, 76, 158, 0, 7, 4, 167, 0, 4, 3, 172, 42, 182, 0, 79, 156, 0, 7, 4]
abbrev dktX4_isAhead_3 : List UInt8 := dkwX4_isAhead_3 ++ dktX4_isAhead_4
def dkwX4_isAhead_2 : List UInt8 := [42, 182, 0, 76, 156, 0, 7, 4, 167, 0, 4, 3, 172, 42, 182, 0, 79, 158, 0, 7, 4, 167, 0, 4]
abbrev dktX4_isAhead_2 : List UInt8 := dkwX4_isAhead_2 ++ dktX4_isAhead_3
def dkwX4_isAhead_1 : List UInt8 := [170, 0, 0, 0, 0, 65, 0, 0, 0, 0, 0, 0, 0, 2, 0, 0, 0, 26, 0, 0, 0, 39, 0, 0, 0, 52]
abbrev dktX4_isAhead_1 : List UInt8 := dkwX4_isAhead_1 ++ dktX4_isAhead_2
def dkwX4_isAhead_0 : List UInt8 := [42, 180, 0, 21, 4, 46]
abbrev dktX4_isAhead_0 : List UInt8 := dkwX4_isAhead_0 ++ dktX4_isAhead_1
theorem dksX4_isAhead_0 : cX4_isAhead.data.toList.drop 0 = dktX4_isAhead_0 := by decide +kernel
theorem dksX4_isAhead_1 : cX4_isAhead.data.toList.drop 6 = dktX4_isAhead_1 := dk_seg dksX4_isAhead_0 6 rfl rfl
theorem dksX4_isAhead_2 : cX4_isAhead.data.toList.drop 32 = dktX4_isAhead_2 := dk_seg dksX4_isAhead_1 26 rfl rfl
theorem dksX4_isAhead_3 : cX4_isAhead.data.toList.drop 56 = dktX4_isAhead_3 := dk_seg dksX4_isAhead_2 24 rfl rfl
theorem dksX4_isAhead_4 : cX4_isAhead.data.toList.drop 79 = dktX4_isAhead_4 := dk_seg dksX4_isAhead_3 23 rfl rfl
theorem dX4_isAhead_0 : decode cX4_isAhead 0 = .ok (.aload_n 0, 1) := dk_42 (dk_at dksX4_isAhead_0 0 rfl rfl)
theorem dX4_isAhead_1 : decode cX4_isAhead 1 = .ok (.getfield 21, 3) := dk_180 0 21 (dk_at dksX4_isAhead_0 1 rfl rfl)
theorem dX4_isAhead_4 : decode cX4_isAhead 4 = .ok (.iconst 1, 1) := dk_4 (dk_at dksX4_isAhead_0 4 rfl rfl)
theorem dX4_isAhead_5 : decode cX4_isAhead 5 = .ok (.iaload, 1) := dk_46 (dk_at dksX4_isAhead_0 5 rfl rfl)
theorem dX4_isAhead_6 : decode cX4_isAhead 6 = .ok (.tableswitch 65 0 2 #[26, 39, 52], 26) := by decide +kernel
theorem dX4_isAhead_32 : decode cX4_isAhead 32 = .ok (.aload_n 0, 1) := dk_42 (dk_at dksX4_isAhead_2 0 rfl rfl)
theorem dX4_isAhead_33 : decode cX4_isAhead 33 = .ok (.invokevirtual 76, 3) := dk_182 0 76 (dk_at dksX4_isAhead_2 1 rfl rfl)
theorem dX4_isAhead_36 : decode cX4_isAhead 36 = .ok (.ifCond .ge 7, 3) := dk_156 0 7 (dk_at dksX4_isAhead_2 4 rfl rfl)
theorem dX4_isAhead_39 : decode cX4_isAhead 39 = .ok (.iconst 1, 1) := dk_4 (dk_at dksX4_isAhead_2 7 rfl rfl)
theorem dX4_isAhead_40 : decode cX4_isAhead 40 = .ok (.goto 4, 3) := dk_167 0 4 (dk_at dksX4_isAhead_2 8 rfl rfl)
theorem dX4_isAhead_43 : decode cX4_isAhead 43 = .ok (.iconst 0, 1) := dk_3 (dk_at dksX4_isAhead_2 11 rfl rfl)
theorem dX4_isAhead_44 : decode cX4_isAhead 44 = .ok (.ireturn, 1) := dk_172 (dk_at dksX4_isAhead_2 12 rfl rfl)
theorem dX4_isAhead_45 : decode cX4_isAhead 45 = .ok (.aload_n 0, 1) := dk_42 (dk_at dksX4_isAhead_2 13 rfl rfl)
theorem dX4_isAhead_46 : decode cX4_isAhead 46 = .ok (.invokevirtual 79, 3) := dk_182 0 79 (dk_at dksX4_isAhead_2 14 rfl rfl)
theorem dX4_isAhead_49 : decode cX4_isAhead 49 = .ok (.ifCond .le 7, 3) := dk_158 0 7 (dk_at dksX4_isAhead_2 17 rfl rfl)
theorem dX4_isAhead_52 : decode cX4_isAhead 52 = .ok (.iconst 1, 1) := dk_4 (dk_at dksX4_isAhead_2 20 rfl rfl)
theorem dX4_isAhead_53 : decode cX4_isAhead 53 = .ok (.goto 4, 3) := dk_167 0 4 (dk_at dksX4_isAhead_2 21 rfl rfl)
theorem dX4_isAhead_56 : decode cX4_isAhead 56 = .ok (.iconst 0, 1) := dk_3 (dk_at dksX4_isAhead_3 0 rfl rfl)
theorem dX4_isAhead_57 : decode cX4_isAhead 57 = .ok (.ireturn, 1) := dk_172 (dk_at dksX4_isAhead_3 1 rfl rfl)
theorem dX4_isAhead_58 : decode cX4_isAhead 58 = .ok (.aload_n 0, 1) := dk_42 (dk_at dksX4_isAhead_3 2 rfl rfl)
theorem dX4_isAhead_59 : decode cX4_isAhead 59 = .ok (.invokevirtual 76, 3) := dk_182 0 76 (dk_at dksX4_isAhead_3 3 rfl rfl)
theorem dX4_isAhead_62 : decode cX4_isAhead 62 = .ok (.ifCond .le 7, 3) := dk_158 0 7 (dk_at dksX4_isAhead_3 6 rfl rfl)
theorem dX4_isAhead_65 : decode cX4_isAhead 65 = .ok (.iconst 1, 1) := dk_4 (dk_at dksX4_isAhead_3 9 rfl rfl)
theorem dX4_isAhead_66 : decode cX4_isAhead 66 = .ok (.goto 4, 3) := dk_167 0 4 (dk_at dksX4_isAhead_3 10 rfl rfl)
theorem dX4_isAhead_69 : decode cX4_isAhead 69 = .ok (.iconst 0, 1) := dk_3 (dk_at dksX4_isAhead_3 13 rfl rfl)
theorem dX4_isAhead_70 : decode cX4_isAhead 70 = .ok (.ireturn, 1) := dk_172 (dk_at dksX4_isAhead_3 14 rfl rfl)
theorem dX4_isAhead_71 : decode cX4_isAhead 71 = .ok (.aload_n 0, 1) := dk_42 (dk_at dksX4_isAhead_3 15 rfl rfl)
theorem dX4_isAhead_72 : decode cX4_isAhead 72 = .ok (.invokevirtual 79, 3) := dk_182 0 79 (dk_at dksX4_isAhead_3 16 rfl rfl)
theorem dX4_isAhead_75 : decode cX4_isAhead 75 = .ok (.ifCond .ge 7, 3) := dk_156 0 7 (dk_at dksX4_isAhead_3 19 rfl rfl)
theorem dX4_isAhead_78 : decode cX4_isAhead 78 = .ok (.iconst 1, 1) := dk_4 (dk_at dksX4_isAhead_3 22 rfl rfl)
theorem dX4_isAhead_79 : decode cX4_isAhead 79 = .ok (.goto 4, 3) := dk_167 0 4 (dk_at dksX4_isAhead_4 0 rfl rfl)
theorem dX4_isAhead_82 : decode cX4_isAhead 82 = .ok (.iconst 0, 1) := dk_3 (dk_at dksX4_isAhead_4 3 rfl rfl)
theorem dX4_isAhead_83 : decode cX4_isAhead 83 = .ok (.ireturn, 1) := dk_172 (dk_at dksX4_isAhead_4 4 rfl rfl)
abbrev cX4_high : ByteArray := prog_13_method_10_code
def yX4_high : MethodName := ⟨RX4, "high", "()I"⟩
def dkwX4_high_0 : List UInt8 := [42, 180, 0, 18, 3, 46, 16, 6, 108, 42, 180, 0, 21, 3, 46, 16, 6, 108, 100, 184, 0, 70, 172]
abbrev dktX4_high_0 : List UInt8 := dkwX4_high_0 ++ []
theorem dksX4_high_0 : cX4_high.data.toList.drop 0 = dktX4_high_0 := by decide +kernel
theorem dX4_high_0 : decode cX4_high 0 = .ok (.aload_n 0, 1) := dk_42 (dk_at dksX4_high_0 0 rfl rfl)
theorem dX4_high_1 : decode cX4_high 1 = .ok (.getfield 18, 3) := dk_180 0 18 (dk_at dksX4_high_0 1 rfl rfl)
theorem dX4_high_4 : decode cX4_high 4 = .ok (.iconst 0, 1) := dk_3 (dk_at dksX4_high_0 4 rfl rfl)
theorem dX4_high_5 : decode cX4_high 5 = .ok (.iaload, 1) := dk_46 (dk_at dksX4_high_0 5 rfl rfl)
theorem dX4_high_6 : decode cX4_high 6 = .ok (.bipush 6, 2) := dk_16 6 (dk_at dksX4_high_0 6 rfl rfl)
theorem dX4_high_8 : decode cX4_high 8 = .ok (.idiv, 1) := dk_108 (dk_at dksX4_high_0 8 rfl rfl)
theorem dX4_high_9 : decode cX4_high 9 = .ok (.aload_n 0, 1) := dk_42 (dk_at dksX4_high_0 9 rfl rfl)
theorem dX4_high_10 : decode cX4_high 10 = .ok (.getfield 21, 3) := dk_180 0 21 (dk_at dksX4_high_0 10 rfl rfl)
theorem dX4_high_13 : decode cX4_high 13 = .ok (.iconst 0, 1) := dk_3 (dk_at dksX4_high_0 13 rfl rfl)
theorem dX4_high_14 : decode cX4_high 14 = .ok (.iaload, 1) := dk_46 (dk_at dksX4_high_0 14 rfl rfl)
theorem dX4_high_15 : decode cX4_high 15 = .ok (.bipush 6, 2) := dk_16 6 (dk_at dksX4_high_0 15 rfl rfl)
theorem dX4_high_17 : decode cX4_high 17 = .ok (.idiv, 1) := dk_108 (dk_at dksX4_high_0 17 rfl rfl)
theorem dX4_high_18 : decode cX4_high 18 = .ok (.isub, 1) := dk_100 (dk_at dksX4_high_0 18 rfl rfl)
theorem dX4_high_19 : decode cX4_high 19 = .ok (.invokestatic 70, 3) := dk_184 0 70 (dk_at dksX4_high_0 19 rfl rfl)
theorem dX4_high_22 : decode cX4_high 22 = .ok (.ireturn, 1) := dk_172 (dk_at dksX4_high_0 22 rfl rfl)
abbrev cX4_side : ByteArray := prog_13_method_9_code
def yX4_side : MethodName := ⟨RX4, "side", "()I"⟩
def dkwX4_side_0 : List UInt8 := [42, 180, 0, 18, 3, 46, 16, 6, 112, 42, 180, 0, 21, 3, 46, 16, 6, 112, 100, 184, 0, 70, 172]
abbrev dktX4_side_0 : List UInt8 := dkwX4_side_0 ++ []
theorem dksX4_side_0 : cX4_side.data.toList.drop 0 = dktX4_side_0 := by decide +kernel
theorem dX4_side_0 : decode cX4_side 0 = .ok (.aload_n 0, 1) := dk_42 (dk_at dksX4_side_0 0 rfl rfl)
theorem dX4_side_1 : decode cX4_side 1 = .ok (.getfield 18, 3) := dk_180 0 18 (dk_at dksX4_side_0 1 rfl rfl)
theorem dX4_side_4 : decode cX4_side 4 = .ok (.iconst 0, 1) := dk_3 (dk_at dksX4_side_0 4 rfl rfl)
theorem dX4_side_5 : decode cX4_side 5 = .ok (.iaload, 1) := dk_46 (dk_at dksX4_side_0 5 rfl rfl)
theorem dX4_side_6 : decode cX4_side 6 = .ok (.bipush 6, 2) := dk_16 6 (dk_at dksX4_side_0 6 rfl rfl)
theorem dX4_side_8 : decode cX4_side 8 = .ok (.irem, 1) := dk_112 (dk_at dksX4_side_0 8 rfl rfl)
theorem dX4_side_9 : decode cX4_side 9 = .ok (.aload_n 0, 1) := dk_42 (dk_at dksX4_side_0 9 rfl rfl)
theorem dX4_side_10 : decode cX4_side 10 = .ok (.getfield 21, 3) := dk_180 0 21 (dk_at dksX4_side_0 10 rfl rfl)
theorem dX4_side_13 : decode cX4_side 13 = .ok (.iconst 0, 1) := dk_3 (dk_at dksX4_side_0 13 rfl rfl)
theorem dX4_side_14 : decode cX4_side 14 = .ok (.iaload, 1) := dk_46 (dk_at dksX4_side_0 14 rfl rfl)
theorem dX4_side_15 : decode cX4_side 15 = .ok (.bipush 6, 2) := dk_16 6 (dk_at dksX4_side_0 15 rfl rfl)
theorem dX4_side_17 : decode cX4_side 17 = .ok (.irem, 1) := dk_112 (dk_at dksX4_side_0 17 rfl rfl)
theorem dX4_side_18 : decode cX4_side 18 = .ok (.isub, 1) := dk_100 (dk_at dksX4_side_0 18 rfl rfl)
theorem dX4_side_19 : decode cX4_side 19 = .ok (.invokestatic 70, 3) := dk_184 0 70 (dk_at dksX4_side_0 19 rfl rfl)
theorem dX4_side_22 : decode cX4_side 22 = .ok (.ireturn, 1) := dk_172 (dk_at dksX4_side_0 22 rfl rfl)
abbrev cX4_had : ByteArray := prog_13_method_15_code
def yX4_had : MethodName := ⟨RX4, "had", "()I"⟩
def dkwX4_had_1 : List UInt8 := [132, 2, 1, 167, 255, 234, 27, 172]
abbrev dktX4_had_1 : List UInt8 := dkwX4_had_1 ++ []
def dkwX4_had_0 : List UInt8 := [3, 60, 3, 61, 28, 42, 180, 0, 46, 162, 0, 20, 27, 42, 180, 0, 26, 6, 50, 28, 46, 96, 60]
abbrev dktX4_had_0 : List UInt8 := dkwX4_had_0 ++ dktX4_had_1
theorem dksX4_had_0 : cX4_had.data.toList.drop 0 = dktX4_had_0 := by decide +kernel
theorem dksX4_had_1 : cX4_had.data.toList.drop 23 = dktX4_had_1 := dk_seg dksX4_had_0 23 rfl rfl
theorem dX4_had_0 : decode cX4_had 0 = .ok (.iconst 0, 1) := dk_3 (dk_at dksX4_had_0 0 rfl rfl)
theorem dX4_had_1 : decode cX4_had 1 = .ok (.istore_n 1, 1) := dk_60 (dk_at dksX4_had_0 1 rfl rfl)
theorem dX4_had_2 : decode cX4_had 2 = .ok (.iconst 0, 1) := dk_3 (dk_at dksX4_had_0 2 rfl rfl)
theorem dX4_had_3 : decode cX4_had 3 = .ok (.istore_n 2, 1) := dk_61 (dk_at dksX4_had_0 3 rfl rfl)
theorem dX4_had_4 : decode cX4_had 4 = .ok (.iload_n 2, 1) := dk_28 (dk_at dksX4_had_0 4 rfl rfl)
theorem dX4_had_5 : decode cX4_had 5 = .ok (.aload_n 0, 1) := dk_42 (dk_at dksX4_had_0 5 rfl rfl)
theorem dX4_had_6 : decode cX4_had 6 = .ok (.getfield 46, 3) := dk_180 0 46 (dk_at dksX4_had_0 6 rfl rfl)
theorem dX4_had_9 : decode cX4_had 9 = .ok (.if_icmp .ge 20, 3) := dk_162 0 20 (dk_at dksX4_had_0 9 rfl rfl)
theorem dX4_had_12 : decode cX4_had 12 = .ok (.iload_n 1, 1) := dk_27 (dk_at dksX4_had_0 12 rfl rfl)
theorem dX4_had_13 : decode cX4_had 13 = .ok (.aload_n 0, 1) := dk_42 (dk_at dksX4_had_0 13 rfl rfl)
theorem dX4_had_14 : decode cX4_had 14 = .ok (.getfield 26, 3) := dk_180 0 26 (dk_at dksX4_had_0 14 rfl rfl)
theorem dX4_had_17 : decode cX4_had 17 = .ok (.iconst 3, 1) := dk_6 (dk_at dksX4_had_0 17 rfl rfl)
theorem dX4_had_18 : decode cX4_had 18 = .ok (.aaload, 1) := dk_50 (dk_at dksX4_had_0 18 rfl rfl)
theorem dX4_had_19 : decode cX4_had 19 = .ok (.iload_n 2, 1) := dk_28 (dk_at dksX4_had_0 19 rfl rfl)
theorem dX4_had_20 : decode cX4_had 20 = .ok (.iaload, 1) := dk_46 (dk_at dksX4_had_0 20 rfl rfl)
theorem dX4_had_21 : decode cX4_had 21 = .ok (.iadd, 1) := dk_96 (dk_at dksX4_had_0 21 rfl rfl)
theorem dX4_had_22 : decode cX4_had 22 = .ok (.istore_n 1, 1) := dk_60 (dk_at dksX4_had_0 22 rfl rfl)
theorem dX4_had_23 : decode cX4_had 23 = .ok (.iinc 2 1, 3) := dk_132 2 1 (dk_at dksX4_had_1 0 rfl rfl)
theorem dX4_had_26 : decode cX4_had 26 = .ok (.goto (-22), 3) := dk_167 255 234 (dk_at dksX4_had_1 3 rfl rfl)
theorem dX4_had_29 : decode cX4_had 29 = .ok (.iload_n 1, 1) := dk_27 (dk_at dksX4_had_1 6 rfl rfl)
theorem dX4_had_30 : decode cX4_had 30 = .ok (.ireturn, 1) := dk_172 (dk_at dksX4_had_1 7 rfl rfl)
abbrev cX4_snows : ByteArray := prog_13_method_14_code
def yX4_snows : MethodName := ⟨RX4, "snows", "()I"⟩
def dkwX4_snows_1 : List UInt8 := [54, 5, 27, 21, 5, 96, 60, 132, 4, 1, 167, 255, 236, 27, 172]
abbrev dktX4_snows_1 : List UInt8 := dkwX4_snows_1 ++ []
def dkwX4_snows_0 : List UInt8 := [3, 60, 42, 180, 0, 9, 77, 44, 190, 62, 3, 54, 4, 21, 4, 29, 162, 0, 20, 44, 21, 4, 46]
abbrev dktX4_snows_0 : List UInt8 := dkwX4_snows_0 ++ dktX4_snows_1
theorem dksX4_snows_0 : cX4_snows.data.toList.drop 0 = dktX4_snows_0 := by decide +kernel
theorem dksX4_snows_1 : cX4_snows.data.toList.drop 23 = dktX4_snows_1 := dk_seg dksX4_snows_0 23 rfl rfl
theorem dX4_snows_0 : decode cX4_snows 0 = .ok (.iconst 0, 1) := dk_3 (dk_at dksX4_snows_0 0 rfl rfl)
theorem dX4_snows_1 : decode cX4_snows 1 = .ok (.istore_n 1, 1) := dk_60 (dk_at dksX4_snows_0 1 rfl rfl)
theorem dX4_snows_2 : decode cX4_snows 2 = .ok (.aload_n 0, 1) := dk_42 (dk_at dksX4_snows_0 2 rfl rfl)
theorem dX4_snows_3 : decode cX4_snows 3 = .ok (.getfield 9, 3) := dk_180 0 9 (dk_at dksX4_snows_0 3 rfl rfl)
theorem dX4_snows_6 : decode cX4_snows 6 = .ok (.astore_n 2, 1) := dk_77 (dk_at dksX4_snows_0 6 rfl rfl)
theorem dX4_snows_7 : decode cX4_snows 7 = .ok (.aload_n 2, 1) := dk_44 (dk_at dksX4_snows_0 7 rfl rfl)
theorem dX4_snows_8 : decode cX4_snows 8 = .ok (.arraylength, 1) := dk_190 (dk_at dksX4_snows_0 8 rfl rfl)
theorem dX4_snows_9 : decode cX4_snows 9 = .ok (.istore_n 3, 1) := dk_62 (dk_at dksX4_snows_0 9 rfl rfl)
theorem dX4_snows_10 : decode cX4_snows 10 = .ok (.iconst 0, 1) := dk_3 (dk_at dksX4_snows_0 10 rfl rfl)
theorem dX4_snows_11 : decode cX4_snows 11 = .ok (.istore 4, 2) := dk_54 4 (dk_at dksX4_snows_0 11 rfl rfl)
theorem dX4_snows_13 : decode cX4_snows 13 = .ok (.iload 4, 2) := dk_21 4 (dk_at dksX4_snows_0 13 rfl rfl)
theorem dX4_snows_15 : decode cX4_snows 15 = .ok (.iload_n 3, 1) := dk_29 (dk_at dksX4_snows_0 15 rfl rfl)
theorem dX4_snows_16 : decode cX4_snows 16 = .ok (.if_icmp .ge 20, 3) := dk_162 0 20 (dk_at dksX4_snows_0 16 rfl rfl)
theorem dX4_snows_19 : decode cX4_snows 19 = .ok (.aload_n 2, 1) := dk_44 (dk_at dksX4_snows_0 19 rfl rfl)
theorem dX4_snows_20 : decode cX4_snows 20 = .ok (.iload 4, 2) := dk_21 4 (dk_at dksX4_snows_0 20 rfl rfl)
theorem dX4_snows_22 : decode cX4_snows 22 = .ok (.iaload, 1) := dk_46 (dk_at dksX4_snows_0 22 rfl rfl)
theorem dX4_snows_23 : decode cX4_snows 23 = .ok (.istore 5, 2) := dk_54 5 (dk_at dksX4_snows_1 0 rfl rfl)
theorem dX4_snows_25 : decode cX4_snows 25 = .ok (.iload_n 1, 1) := dk_27 (dk_at dksX4_snows_1 2 rfl rfl)
theorem dX4_snows_26 : decode cX4_snows 26 = .ok (.iload 5, 2) := dk_21 5 (dk_at dksX4_snows_1 3 rfl rfl)
theorem dX4_snows_28 : decode cX4_snows 28 = .ok (.iadd, 1) := dk_96 (dk_at dksX4_snows_1 5 rfl rfl)
theorem dX4_snows_29 : decode cX4_snows 29 = .ok (.istore_n 1, 1) := dk_60 (dk_at dksX4_snows_1 6 rfl rfl)
theorem dX4_snows_30 : decode cX4_snows 30 = .ok (.iinc 4 1, 3) := dk_132 4 1 (dk_at dksX4_snows_1 7 rfl rfl)
theorem dX4_snows_33 : decode cX4_snows 33 = .ok (.goto (-20), 3) := dk_167 255 236 (dk_at dksX4_snows_1 10 rfl rfl)
theorem dX4_snows_36 : decode cX4_snows 36 = .ok (.iload_n 1, 1) := dk_27 (dk_at dksX4_snows_1 13 rfl rfl)
theorem dX4_snows_37 : decode cX4_snows 37 = .ok (.ireturn, 1) := dk_172 (dk_at dksX4_snows_1 14 rfl rfl)
abbrev cX4_draw : ByteArray := prog_13_method_4_code
def yX4_draw : MethodName := ⟨RX4, "draw", "()I"⟩
def dkwX4_draw_0 : List UInt8 := [42, 42, 180, 0, 29, 18, 52, 104, 17, 48, 57, 96, 181, 0, 29, 42, 180, 0, 29, 16, 8, 124, 172]
abbrev dktX4_draw_0 : List UInt8 := dkwX4_draw_0 ++ []
theorem dksX4_draw_0 : cX4_draw.data.toList.drop 0 = dktX4_draw_0 := by decide +kernel
theorem dX4_draw_0 : decode cX4_draw 0 = .ok (.aload_n 0, 1) := dk_42 (dk_at dksX4_draw_0 0 rfl rfl)
theorem dX4_draw_1 : decode cX4_draw 1 = .ok (.aload_n 0, 1) := dk_42 (dk_at dksX4_draw_0 1 rfl rfl)
theorem dX4_draw_2 : decode cX4_draw 2 = .ok (.getfield 29, 3) := dk_180 0 29 (dk_at dksX4_draw_0 2 rfl rfl)
theorem dX4_draw_5 : decode cX4_draw 5 = .ok (.ldc 52, 2) := dk_18 52 (dk_at dksX4_draw_0 5 rfl rfl)
theorem dX4_draw_7 : decode cX4_draw 7 = .ok (.imul, 1) := dk_104 (dk_at dksX4_draw_0 7 rfl rfl)
theorem dX4_draw_8 : decode cX4_draw 8 = .ok (.sipush 12345, 3) := dk_17 48 57 (dk_at dksX4_draw_0 8 rfl rfl)
theorem dX4_draw_11 : decode cX4_draw 11 = .ok (.iadd, 1) := dk_96 (dk_at dksX4_draw_0 11 rfl rfl)
theorem dX4_draw_12 : decode cX4_draw 12 = .ok (.putfield 29, 3) := dk_181 0 29 (dk_at dksX4_draw_0 12 rfl rfl)
theorem dX4_draw_15 : decode cX4_draw 15 = .ok (.aload_n 0, 1) := dk_42 (dk_at dksX4_draw_0 15 rfl rfl)
theorem dX4_draw_16 : decode cX4_draw 16 = .ok (.getfield 29, 3) := dk_180 0 29 (dk_at dksX4_draw_0 16 rfl rfl)
theorem dX4_draw_19 : decode cX4_draw 19 = .ok (.bipush 8, 2) := dk_16 8 (dk_at dksX4_draw_0 19 rfl rfl)
theorem dX4_draw_21 : decode cX4_draw 21 = .ok (.iushr, 1) := dk_124 (dk_at dksX4_draw_0 21 rfl rfl)
theorem dX4_draw_22 : decode cX4_draw 22 = .ok (.ireturn, 1) := dk_172 (dk_at dksX4_draw_0 22 rfl rfl)
abbrev cX4_noisy : ByteArray := prog_13_method_16_code
def yX4_noisy : MethodName := ⟨RX4, "noisy", "()I"⟩
def dkwX4_noisy_1 : List UInt8 := [54, 5, 27, 21, 5, 158, 0, 7, 4, 167, 0, 4, 3, 96, 60, 132, 4, 1, 167, 255, 228, 27, 172]
abbrev dktX4_noisy_1 : List UInt8 := dkwX4_noisy_1 ++ []
def dkwX4_noisy_0 : List UInt8 := [3, 60, 42, 180, 0, 15, 77, 44, 190, 62, 3, 54, 4, 21, 4, 29, 162, 0, 28, 44, 21, 4, 46]
abbrev dktX4_noisy_0 : List UInt8 := dkwX4_noisy_0 ++ dktX4_noisy_1
theorem dksX4_noisy_0 : cX4_noisy.data.toList.drop 0 = dktX4_noisy_0 := by decide +kernel
theorem dksX4_noisy_1 : cX4_noisy.data.toList.drop 23 = dktX4_noisy_1 := dk_seg dksX4_noisy_0 23 rfl rfl
theorem dX4_noisy_0 : decode cX4_noisy 0 = .ok (.iconst 0, 1) := dk_3 (dk_at dksX4_noisy_0 0 rfl rfl)
theorem dX4_noisy_1 : decode cX4_noisy 1 = .ok (.istore_n 1, 1) := dk_60 (dk_at dksX4_noisy_0 1 rfl rfl)
theorem dX4_noisy_2 : decode cX4_noisy 2 = .ok (.aload_n 0, 1) := dk_42 (dk_at dksX4_noisy_0 2 rfl rfl)
theorem dX4_noisy_3 : decode cX4_noisy 3 = .ok (.getfield 15, 3) := dk_180 0 15 (dk_at dksX4_noisy_0 3 rfl rfl)
theorem dX4_noisy_6 : decode cX4_noisy 6 = .ok (.astore_n 2, 1) := dk_77 (dk_at dksX4_noisy_0 6 rfl rfl)
theorem dX4_noisy_7 : decode cX4_noisy 7 = .ok (.aload_n 2, 1) := dk_44 (dk_at dksX4_noisy_0 7 rfl rfl)
theorem dX4_noisy_8 : decode cX4_noisy 8 = .ok (.arraylength, 1) := dk_190 (dk_at dksX4_noisy_0 8 rfl rfl)
theorem dX4_noisy_9 : decode cX4_noisy 9 = .ok (.istore_n 3, 1) := dk_62 (dk_at dksX4_noisy_0 9 rfl rfl)
theorem dX4_noisy_10 : decode cX4_noisy 10 = .ok (.iconst 0, 1) := dk_3 (dk_at dksX4_noisy_0 10 rfl rfl)
theorem dX4_noisy_11 : decode cX4_noisy 11 = .ok (.istore 4, 2) := dk_54 4 (dk_at dksX4_noisy_0 11 rfl rfl)
theorem dX4_noisy_13 : decode cX4_noisy 13 = .ok (.iload 4, 2) := dk_21 4 (dk_at dksX4_noisy_0 13 rfl rfl)
theorem dX4_noisy_15 : decode cX4_noisy 15 = .ok (.iload_n 3, 1) := dk_29 (dk_at dksX4_noisy_0 15 rfl rfl)
theorem dX4_noisy_16 : decode cX4_noisy 16 = .ok (.if_icmp .ge 28, 3) := dk_162 0 28 (dk_at dksX4_noisy_0 16 rfl rfl)
theorem dX4_noisy_19 : decode cX4_noisy 19 = .ok (.aload_n 2, 1) := dk_44 (dk_at dksX4_noisy_0 19 rfl rfl)
theorem dX4_noisy_20 : decode cX4_noisy 20 = .ok (.iload 4, 2) := dk_21 4 (dk_at dksX4_noisy_0 20 rfl rfl)
theorem dX4_noisy_22 : decode cX4_noisy 22 = .ok (.iaload, 1) := dk_46 (dk_at dksX4_noisy_0 22 rfl rfl)
theorem dX4_noisy_23 : decode cX4_noisy 23 = .ok (.istore 5, 2) := dk_54 5 (dk_at dksX4_noisy_1 0 rfl rfl)
theorem dX4_noisy_25 : decode cX4_noisy 25 = .ok (.iload_n 1, 1) := dk_27 (dk_at dksX4_noisy_1 2 rfl rfl)
theorem dX4_noisy_26 : decode cX4_noisy 26 = .ok (.iload 5, 2) := dk_21 5 (dk_at dksX4_noisy_1 3 rfl rfl)
theorem dX4_noisy_28 : decode cX4_noisy 28 = .ok (.ifCond .le 7, 3) := dk_158 0 7 (dk_at dksX4_noisy_1 5 rfl rfl)
theorem dX4_noisy_31 : decode cX4_noisy 31 = .ok (.iconst 1, 1) := dk_4 (dk_at dksX4_noisy_1 8 rfl rfl)
theorem dX4_noisy_32 : decode cX4_noisy 32 = .ok (.goto 4, 3) := dk_167 0 4 (dk_at dksX4_noisy_1 9 rfl rfl)
theorem dX4_noisy_35 : decode cX4_noisy 35 = .ok (.iconst 0, 1) := dk_3 (dk_at dksX4_noisy_1 12 rfl rfl)
theorem dX4_noisy_36 : decode cX4_noisy 36 = .ok (.iadd, 1) := dk_96 (dk_at dksX4_noisy_1 13 rfl rfl)
theorem dX4_noisy_37 : decode cX4_noisy 37 = .ok (.istore_n 1, 1) := dk_60 (dk_at dksX4_noisy_1 14 rfl rfl)
theorem dX4_noisy_38 : decode cX4_noisy 38 = .ok (.iinc 4 1, 3) := dk_132 4 1 (dk_at dksX4_noisy_1 15 rfl rfl)
theorem dX4_noisy_41 : decode cX4_noisy 41 = .ok (.goto (-28), 3) := dk_167 255 228 (dk_at dksX4_noisy_1 18 rfl rfl)
theorem dX4_noisy_44 : decode cX4_noisy 44 = .ok (.iload_n 1, 1) := dk_27 (dk_at dksX4_noisy_1 21 rfl rfl)
theorem dX4_noisy_45 : decode cX4_noisy 45 = .ok (.ireturn, 1) := dk_172 (dk_at dksX4_noisy_1 22 rfl rfl)
theorem q115 : (Jvm.Cond.initialized "OwlEars$World") ∈ lw_all := lw_g (lw_at lw_m1 8 rfl) rfl
theorem q231 : (Jvm.Cond.instantiable "OwlEars$World" (9 : Nat)) ∈ lw_all := lw_g (lw_at lw_m1 124 rfl) rfl
theorem q233 : (Jvm.Cond.instanceMethod ({ cls := "OwlEars$World", name := "<init>", desc := "()V" } : Jvm.MethodName)) ∈ lw_all := lw_g (lw_at lw_m1 126 rfl) rfl
theorem q234 : (Jvm.Cond.code ({ cls := "OwlEars$World", name := "<init>", desc := "()V" } : Jvm.MethodName) prog_13_method_1_code (2 : Nat) (Option.none : Option Jvm.ClassFile.FieldType)) ∈ lw_all := lw_g (lw_at lw_m1 127 rfl) rfl
theorem q235 : (Jvm.Cond.methodLink "OwlEars$World" (3 : Nat) ({ cls := "java/lang/Object", name := "<init>", desc := "()V" } : Jvm.MethodName)) ∈ lw_all := lw_g (lw_at lw_m1 128 rfl) rfl
theorem q236 : (Jvm.Cond.classLink "OwlEars$World" (24 : Nat) "[[I") ∈ lw_all := lw_g (lw_at lw_m1 129 rfl) rfl
theorem q238 : (Jvm.Cond.fieldLink "OwlEars$World" (9 : Nat) "OwlEars$World" "snow" "[I") ∈ lw_all := lw_g (lw_at lw_m1 131 rfl) rfl
theorem q241 : (Jvm.Cond.fieldLink "OwlEars$World" (15 : Nat) "OwlEars$World" "noise" "[I") ∈ lw_all := lw_g (lw_at lw_m1 134 rfl) rfl
theorem q244 : (Jvm.Cond.fieldLink "OwlEars$World" (18 : Nat) "OwlEars$World" "mouse" "[I") ∈ lw_all := lw_g (lw_at lw_m1 137 rfl) rfl
theorem q247 : (Jvm.Cond.fieldLink "OwlEars$World" (21 : Nat) "OwlEars$World" "owl" "[I") ∈ lw_all := lw_g (lw_at lw_m1 140 rfl) rfl
theorem q251 : (Jvm.Cond.fieldLink "OwlEars$World" (46 : Nat) "OwlEars$World" "strikes" "I") ∈ lw_all := lw_g (lw_at lw_m1 144 rfl) rfl
theorem q254 : (Jvm.Cond.fieldLink "OwlEars$World" (26 : Nat) "OwlEars$World" "strike" "[[I") ∈ lw_all := lw_g (lw_at lw_m1 147 rfl) rfl
theorem q258 : (Jvm.Cond.fieldLink "OwlEars$World" (49 : Nat) "OwlEars$World" "tick" "I") ∈ lw_all := lw_g (lw_at lw_m1 151 rfl) rfl
theorem q260 : (Jvm.Cond.fieldLink "OwlEars$World" (29 : Nat) "OwlEars$World" "z" "I") ∈ lw_all := lw_g (lw_at lw_m1 153 rfl) rfl
theorem q262 : (Jvm.Cond.fieldLink "OwlEars$World" (33 : Nat) "OwlEars$World" "holds" "[I") ∈ lw_all := lw_g (lw_at lw_m1 155 rfl) rfl
theorem q264 : (Jvm.Cond.laysFinal "OwlEars$World" "OwlEars$World" "snow" "[I") ∈ lw_all := lw_g (lw_at lw_m1 157 rfl) rfl
theorem q265 : (Jvm.Cond.soleField "OwlEars$World" "snow") ∈ lw_all := lw_g (lw_at lw_m1 158 rfl) rfl
theorem q266 : (Jvm.Cond.laysFinal "OwlEars$World" "OwlEars$World" "noise" "[I") ∈ lw_all := lw_g (lw_at lw_m1 159 rfl) rfl
theorem q267 : (Jvm.Cond.soleField "OwlEars$World" "noise") ∈ lw_all := lw_g (lw_at lw_m1 160 rfl) rfl
theorem q268 : (Jvm.Cond.laysFinal "OwlEars$World" "OwlEars$World" "mouse" "[I") ∈ lw_all := lw_g (lw_at lw_m1 161 rfl) rfl
theorem q269 : (Jvm.Cond.soleField "OwlEars$World" "mouse") ∈ lw_all := lw_g (lw_at lw_m1 162 rfl) rfl
theorem q270 : (Jvm.Cond.laysFinal "OwlEars$World" "OwlEars$World" "owl" "[I") ∈ lw_all := lw_g (lw_at lw_m1 163 rfl) rfl
theorem q271 : (Jvm.Cond.soleField "OwlEars$World" "owl") ∈ lw_all := lw_g (lw_at lw_m1 164 rfl) rfl
theorem q272 : (Jvm.Cond.lays "OwlEars$World" "OwlEars$World" "strikes" "I") ∈ lw_all := lw_g (lw_at lw_m1 165 rfl) rfl
theorem q273 : (Jvm.Cond.soleField "OwlEars$World" "strikes") ∈ lw_all := lw_g (lw_at lw_m1 166 rfl) rfl
theorem q274 : (Jvm.Cond.laysFinal "OwlEars$World" "OwlEars$World" "strike" "[[I") ∈ lw_all := lw_g (lw_at lw_m1 167 rfl) rfl
theorem q275 : (Jvm.Cond.soleField "OwlEars$World" "strike") ∈ lw_all := lw_g (lw_at lw_m1 168 rfl) rfl
theorem q276 : (Jvm.Cond.lays "OwlEars$World" "OwlEars$World" "tick" "I") ∈ lw_all := lw_g (lw_at lw_m1 169 rfl) rfl
theorem q277 : (Jvm.Cond.soleField "OwlEars$World" "tick") ∈ lw_all := lw_g (lw_at lw_m1 170 rfl) rfl
theorem q278 : (Jvm.Cond.lays "OwlEars$World" "OwlEars$World" "z" "I") ∈ lw_all := lw_g (lw_at lw_m1 171 rfl) rfl
theorem q279 : (Jvm.Cond.soleField "OwlEars$World" "z") ∈ lw_all := lw_g (lw_at lw_m1 172 rfl) rfl
theorem q280 : (Jvm.Cond.laysFinal "OwlEars$World" "OwlEars$World" "holds" "[I") ∈ lw_all := lw_g (lw_at lw_m1 173 rfl) rfl
theorem q281 : (Jvm.Cond.soleField "OwlEars$World" "holds") ∈ lw_all := lw_g (lw_at lw_m1 174 rfl) rfl
theorem q282 : (Jvm.Cond.superclass "OwlEars$World" "java/lang/Object") ∈ lw_all := lw_g (lw_at lw_m1 175 rfl) rfl
theorem q482 : (Jvm.Cond.instanceMethod ({ cls := "OwlEars$World", name := "loudAt", desc := "(I)I" } : Jvm.MethodName)) ∈ lw_all := lw_g (lw_at lw_m2 135 rfl) rfl
theorem q483 : (Jvm.Cond.selects "OwlEars$World" ({ cls := "OwlEars$World", name := "loudAt", desc := "(I)I" } : Jvm.MethodName) ({ cls := "OwlEars$World", name := "loudAt", desc := "(I)I" } : Jvm.MethodName)) ∈ lw_all := lw_g (lw_at lw_m2 136 rfl) rfl
theorem q484 : (Jvm.Cond.code ({ cls := "OwlEars$World", name := "loudAt", desc := "(I)I" } : Jvm.MethodName) prog_13_method_8_code (2 : Nat) (Option.some Jvm.ClassFile.FieldType.int)) ∈ lw_all := lw_g (lw_at lw_m2 137 rfl) rfl
theorem q485 : (Jvm.Cond.methodLink "OwlEars$World" (63 : Nat) ({ cls := "OwlEars$World", name := "loud", desc := "()I" } : Jvm.MethodName)) ∈ lw_all := lw_g (lw_at lw_m2 138 rfl) rfl
theorem q486 : (Jvm.Cond.instanceMethod ({ cls := "OwlEars$World", name := "loud", desc := "()I" } : Jvm.MethodName)) ∈ lw_all := lw_g (lw_at lw_m2 139 rfl) rfl
theorem q487 : (Jvm.Cond.selects "OwlEars$World" ({ cls := "OwlEars$World", name := "loud", desc := "()I" } : Jvm.MethodName) ({ cls := "OwlEars$World", name := "loud", desc := "()I" } : Jvm.MethodName)) ∈ lw_all := lw_g (lw_at lw_m2 140 rfl) rfl
theorem q488 : (Jvm.Cond.code ({ cls := "OwlEars$World", name := "loud", desc := "()I" } : Jvm.MethodName) prog_13_method_7_code (1 : Nat) (Option.some Jvm.ClassFile.FieldType.int)) ∈ lw_all := lw_g (lw_at lw_m2 141 rfl) rfl
theorem q489 : (Jvm.Cond.methodLink "OwlEars$World" (53 : Nat) ({ cls := "OwlEars$World", name := "isRunning", desc := "()Z" } : Jvm.MethodName)) ∈ lw_all := lw_g (lw_at lw_m2 142 rfl) rfl
theorem q490 : (Jvm.Cond.instanceMethod ({ cls := "OwlEars$World", name := "isRunning", desc := "()Z" } : Jvm.MethodName)) ∈ lw_all := lw_g (lw_at lw_m2 143 rfl) rfl
theorem q491 : (Jvm.Cond.selects "OwlEars$World" ({ cls := "OwlEars$World", name := "isRunning", desc := "()Z" } : Jvm.MethodName) ({ cls := "OwlEars$World", name := "isRunning", desc := "()Z" } : Jvm.MethodName)) ∈ lw_all := lw_g (lw_at lw_m2 144 rfl) rfl
theorem q492 : (Jvm.Cond.code ({ cls := "OwlEars$World", name := "isRunning", desc := "()Z" } : Jvm.MethodName) prog_13_method_6_code (1 : Nat) (Option.some Jvm.ClassFile.FieldType.boolean)) ∈ lw_all := lw_g (lw_at lw_m2 145 rfl) rfl
theorem q493 : (Jvm.Cond.methodLink "OwlEars$World" (57 : Nat) ({ cls := "java/lang/Math", name := "max", desc := "(II)I" } : Jvm.MethodName)) ∈ lw_all := lw_g (lw_at lw_m2 146 rfl) rfl
theorem q496 : (Jvm.Cond.methodLinkNest "OwlEars$World" (67 : Nat) ({ cls := "OwlEars", name := "apart", desc := "(II)I" } : Jvm.MethodName) "OwlEars") ∈ lw_tbl := lw_at lw_m2 149 rfl
theorem q531 : (Jvm.Cond.instanceMethod ({ cls := "OwlEars$World", name := "add", desc := "(II)V" } : Jvm.MethodName)) ∈ lw_all := lw_g (lw_at lw_m2 184 rfl) rfl
theorem q532 : (Jvm.Cond.selects "OwlEars$World" ({ cls := "OwlEars$World", name := "add", desc := "(II)V" } : Jvm.MethodName) ({ cls := "OwlEars$World", name := "add", desc := "(II)V" } : Jvm.MethodName)) ∈ lw_all := lw_g (lw_at lw_m2 185 rfl) rfl
theorem q533 : (Jvm.Cond.code ({ cls := "OwlEars$World", name := "add", desc := "(II)V" } : Jvm.MethodName) prog_13_method_5_code (3 : Nat) (Option.none : Option Jvm.ClassFile.FieldType)) ∈ lw_all := lw_g (lw_at lw_m2 186 rfl) rfl
theorem q701 : (Jvm.Cond.instanceMethod ({ cls := "OwlEars$World", name := "become", desc := "(LOwlEars$World;)V" } : Jvm.MethodName)) ∈ lw_all := lw_g (lw_at lw_m3 114 rfl) rfl
theorem q702 : (Jvm.Cond.selects "OwlEars$World" ({ cls := "OwlEars$World", name := "become", desc := "(LOwlEars$World;)V" } : Jvm.MethodName) ({ cls := "OwlEars$World", name := "become", desc := "(LOwlEars$World;)V" } : Jvm.MethodName)) ∈ lw_all := lw_g (lw_at lw_m3 115 rfl) rfl
theorem q703 : (Jvm.Cond.code ({ cls := "OwlEars$World", name := "become", desc := "(LOwlEars$World;)V" } : Jvm.MethodName) prog_13_method_3_code (3 : Nat) (Option.none : Option Jvm.ClassFile.FieldType)) ∈ lw_all := lw_g (lw_at lw_m3 116 rfl) rfl
theorem q704 : (Jvm.Cond.methodLink "OwlEars$World" (42 : Nat) ({ cls := "OwlEars$World", name := "copy", desc := "([I[I)V" } : Jvm.MethodName)) ∈ lw_all := lw_g (lw_at lw_m3 117 rfl) rfl
theorem q705 : (Jvm.Cond.static ({ cls := "OwlEars$World", name := "copy", desc := "([I[I)V" } : Jvm.MethodName)) ∈ lw_all := lw_g (lw_at lw_m3 118 rfl) rfl
theorem q706 : (Jvm.Cond.code ({ cls := "OwlEars$World", name := "copy", desc := "([I[I)V" } : Jvm.MethodName) prog_13_method_2_code (2 : Nat) (Option.none : Option Jvm.ClassFile.FieldType)) ∈ lw_all := lw_g (lw_at lw_m3 119 rfl) rfl
theorem q707 : (Jvm.Cond.methodLink "OwlEars$World" (36 : Nat) ({ cls := "java/lang/System", name := "arraycopy", desc := "(Ljava/lang/Object;ILjava/lang/Object;II)V" } : Jvm.MethodName)) ∈ lw_all := lw_g (lw_at lw_m3 120 rfl) rfl
theorem q715 : (Jvm.Cond.instanceMethod ({ cls := "OwlEars$World", name := "passes", desc := "()V" } : Jvm.MethodName)) ∈ lw_all := lw_g (lw_at lw_m3 128 rfl) rfl
theorem q716 : (Jvm.Cond.selects "OwlEars$World" ({ cls := "OwlEars$World", name := "passes", desc := "()V" } : Jvm.MethodName) ({ cls := "OwlEars$World", name := "passes", desc := "()V" } : Jvm.MethodName)) ∈ lw_all := lw_g (lw_at lw_m3 129 rfl) rfl
theorem q717 : (Jvm.Cond.code ({ cls := "OwlEars$World", name := "passes", desc := "()V" } : Jvm.MethodName) prog_13_method_13_code (2 : Nat) (Option.none : Option Jvm.ClassFile.FieldType)) ∈ lw_all := lw_g (lw_at lw_m3 130 rfl) rfl
theorem q718 : (Jvm.Cond.methodLinkNest "OwlEars$World" (88 : Nat) ({ cls := "OwlEars", name := "neighbour", desc := "(II)I" } : Jvm.MethodName) "OwlEars") ∈ lw_tbl := lw_at lw_m3 131 rfl
theorem q783 : (Jvm.Cond.instanceMethod ({ cls := "OwlEars$World", name := "isLate", desc := "(I)Z" } : Jvm.MethodName)) ∈ lw_all := lw_g (lw_at lw_m3 196 rfl) rfl
theorem q784 : (Jvm.Cond.selects "OwlEars$World" ({ cls := "OwlEars$World", name := "isLate", desc := "(I)Z" } : Jvm.MethodName) ({ cls := "OwlEars$World", name := "isLate", desc := "(I)Z" } : Jvm.MethodName)) ∈ lw_all := lw_g (lw_at lw_m3 197 rfl) rfl
theorem q785 : (Jvm.Cond.code ({ cls := "OwlEars$World", name := "isLate", desc := "(I)Z" } : Jvm.MethodName) prog_13_method_17_code (2 : Nat) (Option.some Jvm.ClassFile.FieldType.boolean)) ∈ lw_all := lw_g (lw_at lw_m3 198 rfl) rfl
theorem q786 : (Jvm.Cond.constant "OwlEars$World" (91 : Nat) (99999 : Int32)) ∈ lw_all := lw_g (lw_at lw_m3 199 rfl) rfl
theorem q807 : (Jvm.Cond.instanceMethod ({ cls := "OwlEars$World", name := "hears", desc := "()Z" } : Jvm.MethodName)) ∈ lw_all := lw_g (lw_at lw_m3 220 rfl) rfl
theorem q808 : (Jvm.Cond.selects "OwlEars$World" ({ cls := "OwlEars$World", name := "hears", desc := "()Z" } : Jvm.MethodName) ({ cls := "OwlEars$World", name := "hears", desc := "()Z" } : Jvm.MethodName)) ∈ lw_all := lw_g (lw_at lw_m3 221 rfl) rfl
theorem q809 : (Jvm.Cond.code ({ cls := "OwlEars$World", name := "hears", desc := "()Z" } : Jvm.MethodName) prog_13_method_12_code (1 : Nat) (Option.some Jvm.ClassFile.FieldType.boolean)) ∈ lw_all := lw_g (lw_at lw_m3 222 rfl) rfl
theorem q810 : (Jvm.Cond.methodLink "OwlEars$World" (82 : Nat) ({ cls := "OwlEars$World", name := "loudAt", desc := "(I)I" } : Jvm.MethodName)) ∈ lw_all := lw_g (lw_at lw_m3 223 rfl) rfl
theorem q811 : (Jvm.Cond.methodLink "OwlEars$World" (85 : Nat) ({ cls := "OwlEars$World", name := "isAhead", desc := "()Z" } : Jvm.MethodName)) ∈ lw_all := lw_g (lw_at lw_m3 224 rfl) rfl
theorem q812 : (Jvm.Cond.privateMethod ({ cls := "OwlEars$World", name := "isAhead", desc := "()Z" } : Jvm.MethodName)) ∈ lw_tbl := lw_at lw_m3 225 rfl
theorem q813 : (Jvm.Cond.instanceMethod ({ cls := "OwlEars$World", name := "isAhead", desc := "()Z" } : Jvm.MethodName)) ∈ lw_all := lw_g (lw_at lw_m3 226 rfl) rfl
theorem q814 : (Jvm.Cond.code ({ cls := "OwlEars$World", name := "isAhead", desc := "()Z" } : Jvm.MethodName) prog_13_method_11_code (1 : Nat) (Option.some Jvm.ClassFile.FieldType.boolean)) ∈ lw_all := lw_g (lw_at lw_m3 227 rfl) rfl
theorem q815 : (Jvm.Cond.methodLink "OwlEars$World" (76 : Nat) ({ cls := "OwlEars$World", name := "high", desc := "()I" } : Jvm.MethodName)) ∈ lw_all := lw_g (lw_at lw_m3 228 rfl) rfl
theorem q816 : (Jvm.Cond.instanceMethod ({ cls := "OwlEars$World", name := "high", desc := "()I" } : Jvm.MethodName)) ∈ lw_all := lw_g (lw_at lw_m3 229 rfl) rfl
theorem q817 : (Jvm.Cond.selects "OwlEars$World" ({ cls := "OwlEars$World", name := "high", desc := "()I" } : Jvm.MethodName) ({ cls := "OwlEars$World", name := "high", desc := "()I" } : Jvm.MethodName)) ∈ lw_all := lw_g (lw_at lw_m3 230 rfl) rfl
theorem q818 : (Jvm.Cond.code ({ cls := "OwlEars$World", name := "high", desc := "()I" } : Jvm.MethodName) prog_13_method_10_code (1 : Nat) (Option.some Jvm.ClassFile.FieldType.int)) ∈ lw_all := lw_g (lw_at lw_m3 231 rfl) rfl
theorem q819 : (Jvm.Cond.methodLink "OwlEars$World" (70 : Nat) ({ cls := "java/lang/Integer", name := "signum", desc := "(I)I" } : Jvm.MethodName)) ∈ lw_all := lw_g (lw_at lw_m3 232 rfl) rfl
theorem q822 : (Jvm.Cond.methodLink "OwlEars$World" (79 : Nat) ({ cls := "OwlEars$World", name := "side", desc := "()I" } : Jvm.MethodName)) ∈ lw_all := lw_g (lw_at lw_m3 235 rfl) rfl
theorem q823 : (Jvm.Cond.instanceMethod ({ cls := "OwlEars$World", name := "side", desc := "()I" } : Jvm.MethodName)) ∈ lw_all := lw_g (lw_at lw_m3 236 rfl) rfl
theorem q824 : (Jvm.Cond.selects "OwlEars$World" ({ cls := "OwlEars$World", name := "side", desc := "()I" } : Jvm.MethodName) ({ cls := "OwlEars$World", name := "side", desc := "()I" } : Jvm.MethodName)) ∈ lw_all := lw_g (lw_at lw_m3 237 rfl) rfl
theorem q825 : (Jvm.Cond.code ({ cls := "OwlEars$World", name := "side", desc := "()I" } : Jvm.MethodName) prog_13_method_9_code (1 : Nat) (Option.some Jvm.ClassFile.FieldType.int)) ∈ lw_all := lw_g (lw_at lw_m3 238 rfl) rfl
theorem q831 : (Jvm.Cond.instanceMethod ({ cls := "OwlEars$World", name := "had", desc := "()I" } : Jvm.MethodName)) ∈ lw_all := lw_g (lw_at lw_m4 4 rfl) rfl
theorem q832 : (Jvm.Cond.selects "OwlEars$World" ({ cls := "OwlEars$World", name := "had", desc := "()I" } : Jvm.MethodName) ({ cls := "OwlEars$World", name := "had", desc := "()I" } : Jvm.MethodName)) ∈ lw_all := lw_g (lw_at lw_m4 5 rfl) rfl
theorem q833 : (Jvm.Cond.code ({ cls := "OwlEars$World", name := "had", desc := "()I" } : Jvm.MethodName) prog_13_method_15_code (3 : Nat) (Option.some Jvm.ClassFile.FieldType.int)) ∈ lw_all := lw_g (lw_at lw_m4 6 rfl) rfl
theorem q835 : (Jvm.Cond.instanceMethod ({ cls := "OwlEars$World", name := "snows", desc := "()I" } : Jvm.MethodName)) ∈ lw_all := lw_g (lw_at lw_m4 8 rfl) rfl
theorem q836 : (Jvm.Cond.selects "OwlEars$World" ({ cls := "OwlEars$World", name := "snows", desc := "()I" } : Jvm.MethodName) ({ cls := "OwlEars$World", name := "snows", desc := "()I" } : Jvm.MethodName)) ∈ lw_all := lw_g (lw_at lw_m4 9 rfl) rfl
theorem q837 : (Jvm.Cond.code ({ cls := "OwlEars$World", name := "snows", desc := "()I" } : Jvm.MethodName) prog_13_method_14_code (6 : Nat) (Option.some Jvm.ClassFile.FieldType.int)) ∈ lw_all := lw_g (lw_at lw_m4 10 rfl) rfl
theorem q1035 : (Jvm.Cond.instanceMethod ({ cls := "OwlEars$World", name := "draw", desc := "()I" } : Jvm.MethodName)) ∈ lw_all := lw_g (lw_at lw_m4 208 rfl) rfl
theorem q1036 : (Jvm.Cond.selects "OwlEars$World" ({ cls := "OwlEars$World", name := "draw", desc := "()I" } : Jvm.MethodName) ({ cls := "OwlEars$World", name := "draw", desc := "()I" } : Jvm.MethodName)) ∈ lw_all := lw_g (lw_at lw_m4 209 rfl) rfl
theorem q1037 : (Jvm.Cond.code ({ cls := "OwlEars$World", name := "draw", desc := "()I" } : Jvm.MethodName) prog_13_method_4_code (1 : Nat) (Option.some Jvm.ClassFile.FieldType.int)) ∈ lw_all := lw_g (lw_at lw_m4 210 rfl) rfl
theorem q1038 : (Jvm.Cond.constant "OwlEars$World" (52 : Nat) (1103515245 : Int32)) ∈ lw_all := lw_g (lw_at lw_m4 211 rfl) rfl
theorem q1044 : (Jvm.Cond.instanceMethod ({ cls := "OwlEars$World", name := "noisy", desc := "()I" } : Jvm.MethodName)) ∈ lw_all := lw_g (lw_at lw_m4 217 rfl) rfl
theorem q1045 : (Jvm.Cond.selects "OwlEars$World" ({ cls := "OwlEars$World", name := "noisy", desc := "()I" } : Jvm.MethodName) ({ cls := "OwlEars$World", name := "noisy", desc := "()I" } : Jvm.MethodName)) ∈ lw_all := lw_g (lw_at lw_m4 218 rfl) rfl
theorem q1046 : (Jvm.Cond.code ({ cls := "OwlEars$World", name := "noisy", desc := "()I" } : Jvm.MethodName) prog_13_method_16_code (6 : Nat) (Option.some Jvm.ClassFile.FieldType.int)) ∈ lw_all := lw_g (lw_at lw_m4 219 rfl) rfl
theorem in_X4 : ∀ w ∈ wsX40, w ∈ lw_all := lw_in wsX40 [264, 266, 268, 270, 272, 274, 276, 278, 280] (by decide +kernel) (by decide +kernel)
/-! OwlEars$Slot -/
set_option maxRecDepth 100000
def RX5 : String := "OwlEars$Slot"
def TX5 : u_T := fun k => match k with
  | _ => ("OwlEars$Slot", "thing", "Ljava/lang/Object;", false)
def tyX5 : Nat → FieldType := fun k => match k with
  | _ => .object "java/lang/Object"
abbrev wsX50 : List Cond := u_ws RX5 TX5 1
theorem nmX5 : ∀ a, a < 1 → ∀ b, b < 1 → a ≠ b → (TX5 a).2.1 ≠ (TX5 b).2.1 := by decide +kernel
theorem tyX5_ok : ∀ k, k < 1 → parseFieldDescriptor (TX5 k).2.2.1 = some (tyX5 k) := by decide +kernel
abbrev cX5_init : ByteArray := prog_8_method_1_code
def yX5_init : MethodName := ⟨RX5, "<init>", "()V"⟩
theorem dX5_init_0 : decode cX5_init 0 = .ok (.aload_n 0, 1) := by decide +kernel
theorem dX5_init_1 : decode cX5_init 1 = .ok (.invokespecial 1, 3) := by decide +kernel
theorem dX5_init_4 : decode cX5_init 4 = .ok (.return_, 1) := by decide +kernel
theorem q116 : (Jvm.Cond.initialized "OwlEars$Slot") ∈ lw_all := lw_g (lw_at lw_m1 9 rfl) rfl
theorem q318 : (Jvm.Cond.instantiable "OwlEars$Slot" (1 : Nat)) ∈ lw_all := lw_g (lw_at lw_m1 211 rfl) rfl
theorem q320 : (Jvm.Cond.instanceMethod ({ cls := "OwlEars$Slot", name := "<init>", desc := "()V" } : Jvm.MethodName)) ∈ lw_all := lw_g (lw_at lw_m1 213 rfl) rfl
theorem q321 : (Jvm.Cond.code ({ cls := "OwlEars$Slot", name := "<init>", desc := "()V" } : Jvm.MethodName) prog_8_method_1_code (1 : Nat) (Option.none : Option Jvm.ClassFile.FieldType)) ∈ lw_all := lw_g (lw_at lw_m1 214 rfl) rfl
theorem q322 : (Jvm.Cond.methodLink "OwlEars$Slot" (1 : Nat) ({ cls := "java/lang/Object", name := "<init>", desc := "()V" } : Jvm.MethodName)) ∈ lw_all := lw_g (lw_at lw_m1 215 rfl) rfl
theorem q324 : (Jvm.Cond.lays "OwlEars$Slot" "OwlEars$Slot" "thing" "Ljava/lang/Object;") ∈ lw_all := lw_g (lw_at lw_m1 217 rfl) rfl
theorem q325 : (Jvm.Cond.soleField "OwlEars$Slot" "thing") ∈ lw_all := lw_g (lw_at lw_m1 218 rfl) rfl
theorem q326 : (Jvm.Cond.superclass "OwlEars$Slot" "java/lang/Object") ∈ lw_all := lw_g (lw_at lw_m1 219 rfl) rfl
theorem in_X5 : ∀ w ∈ wsX50, w ∈ lw_all := lw_in wsX50 [324] (by decide +kernel) (by decide +kernel)
/-! OwlEars$Strike -/
set_option maxRecDepth 100000
def RX6 : String := "OwlEars$Strike"
def TX6 : u_T := fun k => match k with
  | 0 => ("OwlEars$Strike", "number", "I", true)
  | _ => ("OwlEars$Strike", "this$0", "LOwlEars;", true)
def tyX6 : Nat → FieldType := fun k => match k with
  | 0 => .int
  | _ => .object "OwlEars"
abbrev wsX60 : List Cond := u_ws RX6 TX6 2
theorem nmX6 : ∀ a, a < 2 → ∀ b, b < 2 → a ≠ b → (TX6 a).2.1 ≠ (TX6 b).2.1 := by decide +kernel
theorem tyX6_ok : ∀ k, k < 2 → parseFieldDescriptor (TX6 k).2.2.1 = some (tyX6 k) := by decide +kernel
abbrev cX6_init : ByteArray := prog_9_method_1_code
def yX6_init : MethodName := ⟨RX6, "<init>", "(LOwlEars;I)V"⟩
def dkwX6_init_0 : List UInt8 := [42, 43, 181, 0, 3, 42, 183, 0, 9, 42, 28, 181, 0, 15, 177]
abbrev dktX6_init_0 : List UInt8 := dkwX6_init_0 ++ []
theorem dksX6_init_0 : cX6_init.data.toList.drop 0 = dktX6_init_0 := by decide +kernel
theorem dX6_init_0 : decode cX6_init 0 = .ok (.aload_n 0, 1) := dk_42 (dk_at dksX6_init_0 0 rfl rfl)
theorem dX6_init_1 : decode cX6_init 1 = .ok (.aload_n 1, 1) := dk_43 (dk_at dksX6_init_0 1 rfl rfl)
theorem dX6_init_2 : decode cX6_init 2 = .ok (.putfield 3, 3) := dk_181 0 3 (dk_at dksX6_init_0 2 rfl rfl)
theorem dX6_init_5 : decode cX6_init 5 = .ok (.aload_n 0, 1) := dk_42 (dk_at dksX6_init_0 5 rfl rfl)
theorem dX6_init_6 : decode cX6_init 6 = .ok (.invokespecial 9, 3) := dk_183 0 9 (dk_at dksX6_init_0 6 rfl rfl)
theorem dX6_init_9 : decode cX6_init 9 = .ok (.aload_n 0, 1) := dk_42 (dk_at dksX6_init_0 9 rfl rfl)
theorem dX6_init_10 : decode cX6_init 10 = .ok (.iload_n 2, 1) := dk_28 (dk_at dksX6_init_0 10 rfl rfl)
theorem dX6_init_11 : decode cX6_init 11 = .ok (.putfield 15, 3) := dk_181 0 15 (dk_at dksX6_init_0 11 rfl rfl)
theorem dX6_init_14 : decode cX6_init 14 = .ok (.return_, 1) := dk_177 (dk_at dksX6_init_0 14 rfl rfl)
abbrev cX6_kind : ByteArray := prog_9_method_2_code
def yX6_kind : MethodName := ⟨RX6, "kind", "()I"⟩
theorem dX6_kind_0 : decode cX6_kind 0 = .ok (.iconst 0, 1) := by decide +kernel
theorem dX6_kind_1 : decode cX6_kind 1 = .ok (.ireturn, 1) := by decide +kernel
abbrev cX6_takes : ByteArray := prog_9_method_5_code
def yX6_takes : MethodName := ⟨RX6, "takes", "()I"⟩
def dkwX6_takes_0 : List UInt8 := [42, 4, 182, 0, 33, 42, 180, 0, 3, 180, 0, 23, 180, 0, 37, 3, 46, 184, 0, 41, 4, 96, 172]
abbrev dktX6_takes_0 : List UInt8 := dkwX6_takes_0 ++ []
theorem dksX6_takes_0 : cX6_takes.data.toList.drop 0 = dktX6_takes_0 := by decide +kernel
theorem dX6_takes_0 : decode cX6_takes 0 = .ok (.aload_n 0, 1) := dk_42 (dk_at dksX6_takes_0 0 rfl rfl)
theorem dX6_takes_1 : decode cX6_takes 1 = .ok (.iconst 1, 1) := dk_4 (dk_at dksX6_takes_0 1 rfl rfl)
theorem dX6_takes_2 : decode cX6_takes 2 = .ok (.invokevirtual 33, 3) := dk_182 0 33 (dk_at dksX6_takes_0 2 rfl rfl)
theorem dX6_takes_5 : decode cX6_takes 5 = .ok (.aload_n 0, 1) := dk_42 (dk_at dksX6_takes_0 5 rfl rfl)
theorem dX6_takes_6 : decode cX6_takes 6 = .ok (.getfield 3, 3) := dk_180 0 3 (dk_at dksX6_takes_0 6 rfl rfl)
theorem dX6_takes_9 : decode cX6_takes 9 = .ok (.getfield 23, 3) := dk_180 0 23 (dk_at dksX6_takes_0 9 rfl rfl)
theorem dX6_takes_12 : decode cX6_takes 12 = .ok (.getfield 37, 3) := dk_180 0 37 (dk_at dksX6_takes_0 12 rfl rfl)
theorem dX6_takes_15 : decode cX6_takes 15 = .ok (.iconst 0, 1) := dk_3 (dk_at dksX6_takes_0 15 rfl rfl)
theorem dX6_takes_16 : decode cX6_takes 16 = .ok (.iaload, 1) := dk_46 (dk_at dksX6_takes_0 16 rfl rfl)
theorem dX6_takes_17 : decode cX6_takes 17 = .ok (.invokestatic 41, 3) := dk_184 0 41 (dk_at dksX6_takes_0 17 rfl rfl)
theorem dX6_takes_20 : decode cX6_takes 20 = .ok (.iconst 1, 1) := dk_4 (dk_at dksX6_takes_0 20 rfl rfl)
theorem dX6_takes_21 : decode cX6_takes 21 = .ok (.iadd, 1) := dk_96 (dk_at dksX6_takes_0 21 rfl rfl)
theorem dX6_takes_22 : decode cX6_takes 22 = .ok (.ireturn, 1) := dk_172 (dk_at dksX6_takes_0 22 rfl rfl)
abbrev cX6_told : ByteArray := prog_9_method_4_code
def yX6_told : MethodName := ⟨RX6, "told", "(I)I"⟩
def dkwX6_told_0 : List UInt8 := [42, 180, 0, 3, 180, 0, 23, 180, 0, 27, 27, 50, 42, 180, 0, 15, 46, 172]
abbrev dktX6_told_0 : List UInt8 := dkwX6_told_0 ++ []
theorem dksX6_told_0 : cX6_told.data.toList.drop 0 = dktX6_told_0 := by decide +kernel
theorem dX6_told_0 : decode cX6_told 0 = .ok (.aload_n 0, 1) := dk_42 (dk_at dksX6_told_0 0 rfl rfl)
theorem dX6_told_1 : decode cX6_told 1 = .ok (.getfield 3, 3) := dk_180 0 3 (dk_at dksX6_told_0 1 rfl rfl)
theorem dX6_told_4 : decode cX6_told 4 = .ok (.getfield 23, 3) := dk_180 0 23 (dk_at dksX6_told_0 4 rfl rfl)
theorem dX6_told_7 : decode cX6_told 7 = .ok (.getfield 27, 3) := dk_180 0 27 (dk_at dksX6_told_0 7 rfl rfl)
theorem dX6_told_10 : decode cX6_told 10 = .ok (.iload_n 1, 1) := dk_27 (dk_at dksX6_told_0 10 rfl rfl)
theorem dX6_told_11 : decode cX6_told 11 = .ok (.aaload, 1) := dk_50 (dk_at dksX6_told_0 11 rfl rfl)
theorem dX6_told_12 : decode cX6_told 12 = .ok (.aload_n 0, 1) := dk_42 (dk_at dksX6_told_0 12 rfl rfl)
theorem dX6_told_13 : decode cX6_told 13 = .ok (.getfield 15, 3) := dk_180 0 15 (dk_at dksX6_told_0 13 rfl rfl)
theorem dX6_told_16 : decode cX6_told 16 = .ok (.iaload, 1) := dk_46 (dk_at dksX6_told_0 16 rfl rfl)
theorem dX6_told_17 : decode cX6_told 17 = .ok (.ireturn, 1) := dk_172 (dk_at dksX6_told_0 17 rfl rfl)
abbrev cX6_deep : ByteArray := prog_9_method_6_code
def yX6_deep : MethodName := ⟨RX6, "deep", "()I"⟩
theorem dX6_deep_0 : decode cX6_deep 0 = .ok (.bipush 8, 2) := by decide +kernel
theorem dX6_deep_2 : decode cX6_deep 2 = .ok (.ireturn, 1) := by decide +kernel
abbrev cX6_wide : ByteArray := prog_9_method_7_code
def yX6_wide : MethodName := ⟨RX6, "wide", "()I"⟩
theorem dX6_wide_0 : decode cX6_wide 0 = .ok (.iconst 0, 1) := by decide +kernel
theorem dX6_wide_1 : decode cX6_wide 1 = .ok (.ireturn, 1) := by decide +kernel
abbrev cX6_isUnder : ByteArray := prog_9_method_3_code
def yX6_isUnder : MethodName := ⟨RX6, "isUnder", "(I)Z"⟩
def dkwX6_isUnder_0 : List UInt8 := [27, 153, 0, 11, 27, 42, 182, 0, 19, 160, 0, 7, 4, 167, 0, 4, 3, 172]
abbrev dktX6_isUnder_0 : List UInt8 := dkwX6_isUnder_0 ++ []
theorem dksX6_isUnder_0 : cX6_isUnder.data.toList.drop 0 = dktX6_isUnder_0 := by decide +kernel
theorem dX6_isUnder_0 : decode cX6_isUnder 0 = .ok (.iload_n 1, 1) := dk_27 (dk_at dksX6_isUnder_0 0 rfl rfl)
theorem dX6_isUnder_1 : decode cX6_isUnder 1 = .ok (.ifCond .eq 11, 3) := dk_153 0 11 (dk_at dksX6_isUnder_0 1 rfl rfl)
theorem dX6_isUnder_4 : decode cX6_isUnder 4 = .ok (.iload_n 1, 1) := dk_27 (dk_at dksX6_isUnder_0 4 rfl rfl)
theorem dX6_isUnder_5 : decode cX6_isUnder 5 = .ok (.aload_n 0, 1) := dk_42 (dk_at dksX6_isUnder_0 5 rfl rfl)
theorem dX6_isUnder_6 : decode cX6_isUnder 6 = .ok (.invokevirtual 19, 3) := dk_182 0 19 (dk_at dksX6_isUnder_0 6 rfl rfl)
theorem dX6_isUnder_9 : decode cX6_isUnder 9 = .ok (.if_icmp .ne 7, 3) := dk_160 0 7 (dk_at dksX6_isUnder_0 9 rfl rfl)
theorem dX6_isUnder_12 : decode cX6_isUnder 12 = .ok (.iconst 1, 1) := dk_4 (dk_at dksX6_isUnder_0 12 rfl rfl)
theorem dX6_isUnder_13 : decode cX6_isUnder 13 = .ok (.goto 4, 3) := dk_167 0 4 (dk_at dksX6_isUnder_0 13 rfl rfl)
theorem dX6_isUnder_16 : decode cX6_isUnder 16 = .ok (.iconst 0, 1) := dk_3 (dk_at dksX6_isUnder_0 16 rfl rfl)
theorem dX6_isUnder_17 : decode cX6_isUnder 17 = .ok (.ireturn, 1) := dk_172 (dk_at dksX6_isUnder_0 17 rfl rfl)
theorem q117 : (Jvm.Cond.initialized "OwlEars$Strike") ∈ lw_all := lw_g (lw_at lw_m1 10 rfl) rfl
theorem q248 : (Jvm.Cond.fieldLinkNest "OwlEars$Strike" (37 : Nat) "OwlEars$World" "owl" "[I" "OwlEars") ∈ lw_tbl := lw_at lw_m1 141 rfl
theorem q255 : (Jvm.Cond.fieldLinkNest "OwlEars$Strike" (27 : Nat) "OwlEars$World" "strike" "[[I" "OwlEars") ∈ lw_tbl := lw_at lw_m1 148 rfl
theorem q337 : (Jvm.Cond.instanceMethod ({ cls := "OwlEars$Strike", name := "<init>", desc := "(LOwlEars;I)V" } : Jvm.MethodName)) ∈ lw_all := lw_g (lw_at lw_m1 230 rfl) rfl
theorem q338 : (Jvm.Cond.code ({ cls := "OwlEars$Strike", name := "<init>", desc := "(LOwlEars;I)V" } : Jvm.MethodName) prog_9_method_1_code (3 : Nat) (Option.none : Option Jvm.ClassFile.FieldType)) ∈ lw_all := lw_g (lw_at lw_m1 231 rfl) rfl
theorem q339 : (Jvm.Cond.methodLink "OwlEars$Strike" (9 : Nat) ({ cls := "java/lang/Object", name := "<init>", desc := "()V" } : Jvm.MethodName)) ∈ lw_all := lw_g (lw_at lw_m1 232 rfl) rfl
theorem q341 : (Jvm.Cond.fieldLink "OwlEars$Strike" (15 : Nat) "OwlEars$Strike" "number" "I") ∈ lw_all := lw_g (lw_at lw_m1 234 rfl) rfl
theorem q343 : (Jvm.Cond.fieldLink "OwlEars$Strike" (3 : Nat) "OwlEars$Strike" "this$0" "LOwlEars;") ∈ lw_all := lw_g (lw_at lw_m1 236 rfl) rfl
theorem q347 : (Jvm.Cond.soleField "OwlEars$Strike" "number") ∈ lw_all := lw_g (lw_at lw_m2 0 rfl) rfl
theorem q349 : (Jvm.Cond.soleField "OwlEars$Strike" "this$0") ∈ lw_all := lw_g (lw_at lw_m2 2 rfl) rfl
theorem q416 : (Jvm.Cond.instantiable "OwlEars$Strike" (2 : Nat)) ∈ lw_all := lw_g (lw_at lw_m2 69 rfl) rfl
theorem q418 : (Jvm.Cond.laysFinal "OwlEars$Strike" "OwlEars$Strike" "number" "I") ∈ lw_all := lw_g (lw_at lw_m2 71 rfl) rfl
theorem q419 : (Jvm.Cond.laysFinal "OwlEars$Strike" "OwlEars$Strike" "this$0" "LOwlEars;") ∈ lw_all := lw_g (lw_at lw_m2 72 rfl) rfl
theorem q420 : (Jvm.Cond.superclass "OwlEars$Strike" "java/lang/Object") ∈ lw_all := lw_g (lw_at lw_m2 73 rfl) rfl
theorem q424 : (Jvm.Cond.fieldLinkNest "OwlEars$Strike" (23 : Nat) "OwlEars" "d" "LOwlEars$World;" "OwlEars") ∈ lw_tbl := lw_at lw_m2 77 rfl
theorem q547 : (Jvm.Cond.instanceMethod ({ cls := "OwlEars$Strike", name := "kind", desc := "()I" } : Jvm.MethodName)) ∈ lw_all := lw_g (lw_at lw_m2 200 rfl) rfl
theorem q548 : (Jvm.Cond.selects "OwlEars$Strike" ({ cls := "OwlEars$Strike", name := "kind", desc := "()I" } : Jvm.MethodName) ({ cls := "OwlEars$Strike", name := "kind", desc := "()I" } : Jvm.MethodName)) ∈ lw_all := lw_g (lw_at lw_m2 201 rfl) rfl
theorem q549 : (Jvm.Cond.sameMethod "OwlEars$Strike" "OwlEars$Strike" "kind" "()I") ∈ lw_all := lw_g (lw_at lw_m2 202 rfl) rfl
theorem q574 : (Jvm.Cond.code ({ cls := "OwlEars$Strike", name := "kind", desc := "()I" } : Jvm.MethodName) prog_9_method_2_code (1 : Nat) (Option.some Jvm.ClassFile.FieldType.int)) ∈ lw_all := lw_g (lw_at lw_m2 227 rfl) rfl
theorem q590 : (Jvm.Cond.instanceMethod ({ cls := "OwlEars$Strike", name := "takes", desc := "()I" } : Jvm.MethodName)) ∈ lw_all := lw_g (lw_at lw_m3 3 rfl) rfl
theorem q591 : (Jvm.Cond.code ({ cls := "OwlEars$Strike", name := "takes", desc := "()I" } : Jvm.MethodName) prog_9_method_5_code (1 : Nat) (Option.some Jvm.ClassFile.FieldType.int)) ∈ lw_all := lw_g (lw_at lw_m3 4 rfl) rfl
theorem q592 : (Jvm.Cond.methodLink "OwlEars$Strike" (33 : Nat) ({ cls := "OwlEars$Strike", name := "told", desc := "(I)I" } : Jvm.MethodName)) ∈ lw_all := lw_g (lw_at lw_m3 5 rfl) rfl
theorem q593 : (Jvm.Cond.instanceMethod ({ cls := "OwlEars$Strike", name := "told", desc := "(I)I" } : Jvm.MethodName)) ∈ lw_all := lw_g (lw_at lw_m3 6 rfl) rfl
theorem q594 : (Jvm.Cond.selects "OwlEars$Strike" ({ cls := "OwlEars$Strike", name := "told", desc := "(I)I" } : Jvm.MethodName) ({ cls := "OwlEars$Strike", name := "told", desc := "(I)I" } : Jvm.MethodName)) ∈ lw_all := lw_g (lw_at lw_m3 7 rfl) rfl
theorem q595 : (Jvm.Cond.sameMethod "OwlEars$Strike" "OwlEars$Strike" "told" "(I)I") ∈ lw_all := lw_g (lw_at lw_m3 8 rfl) rfl
theorem q602 : (Jvm.Cond.code ({ cls := "OwlEars$Strike", name := "told", desc := "(I)I" } : Jvm.MethodName) prog_9_method_4_code (2 : Nat) (Option.some Jvm.ClassFile.FieldType.int)) ∈ lw_all := lw_g (lw_at lw_m3 15 rfl) rfl
theorem q603 : (Jvm.Cond.methodLinkNest "OwlEars$Strike" (41 : Nat) ({ cls := "OwlEars", name := "apart", desc := "(II)I" } : Jvm.MethodName) "OwlEars") ∈ lw_tbl := lw_at lw_m3 16 rfl
theorem q633 : (Jvm.Cond.castable "OwlEars$Strike" "OwlEars$Strikes") ∈ lw_tbl := lw_at lw_m3 46 rfl
theorem q634 : (Jvm.Cond.selects "OwlEars$Strike" ({ cls := "OwlEars$Strikes", name := "takes", desc := "()I" } : Jvm.MethodName) ({ cls := "OwlEars$Strike", name := "takes", desc := "()I" } : Jvm.MethodName)) ∈ lw_all := lw_g (lw_at lw_m3 47 rfl) rfl
theorem q635 : (Jvm.Cond.unhidden "OwlEars$Strike" "takes" "()I") ∈ lw_tbl := lw_at lw_m3 48 rfl
theorem q636 : (Jvm.Cond.publicMethod ({ cls := "OwlEars$Strike", name := "takes", desc := "()I" } : Jvm.MethodName)) ∈ lw_tbl := lw_at lw_m3 49 rfl
theorem q650 : (Jvm.Cond.declares ({ cls := "OwlEars$Strike", name := "told", desc := "(I)I" } : Jvm.MethodName)) ∈ lw_tbl := lw_at lw_m3 63 rfl
theorem q653 : (Jvm.Cond.instanceMethod ({ cls := "OwlEars$Strike", name := "deep", desc := "()I" } : Jvm.MethodName)) ∈ lw_all := lw_g (lw_at lw_m3 66 rfl) rfl
theorem q654 : (Jvm.Cond.selects "OwlEars$Strike" ({ cls := "OwlEars$Strike", name := "deep", desc := "()I" } : Jvm.MethodName) ({ cls := "OwlEars$Strike", name := "deep", desc := "()I" } : Jvm.MethodName)) ∈ lw_all := lw_g (lw_at lw_m3 67 rfl) rfl
theorem q655 : (Jvm.Cond.sameMethod "OwlEars$Strike" "OwlEars$Strike" "deep" "()I") ∈ lw_all := lw_g (lw_at lw_m3 68 rfl) rfl
theorem q678 : (Jvm.Cond.code ({ cls := "OwlEars$Strike", name := "deep", desc := "()I" } : Jvm.MethodName) prog_9_method_6_code (1 : Nat) (Option.some Jvm.ClassFile.FieldType.int)) ∈ lw_all := lw_g (lw_at lw_m3 91 rfl) rfl
theorem q680 : (Jvm.Cond.instanceMethod ({ cls := "OwlEars$Strike", name := "wide", desc := "()I" } : Jvm.MethodName)) ∈ lw_all := lw_g (lw_at lw_m3 93 rfl) rfl
theorem q681 : (Jvm.Cond.selects "OwlEars$Strike" ({ cls := "OwlEars$Strike", name := "wide", desc := "()I" } : Jvm.MethodName) ({ cls := "OwlEars$Strike", name := "wide", desc := "()I" } : Jvm.MethodName)) ∈ lw_all := lw_g (lw_at lw_m3 94 rfl) rfl
theorem q682 : (Jvm.Cond.sameMethod "OwlEars$Strike" "OwlEars$Strike" "wide" "()I") ∈ lw_all := lw_g (lw_at lw_m3 95 rfl) rfl
theorem q695 : (Jvm.Cond.code ({ cls := "OwlEars$Strike", name := "wide", desc := "()I" } : Jvm.MethodName) prog_9_method_7_code (1 : Nat) (Option.some Jvm.ClassFile.FieldType.int)) ∈ lw_all := lw_g (lw_at lw_m3 108 rfl) rfl
theorem q735 : (Jvm.Cond.publicMethod ({ cls := "OwlEars$Strike", name := "wide", desc := "()I" } : Jvm.MethodName)) ∈ lw_tbl := lw_at lw_m3 148 rfl
theorem q741 : (Jvm.Cond.selects "OwlEars$Strike" ({ cls := "OwlEars$Strikes", name := "wide", desc := "()I" } : Jvm.MethodName) ({ cls := "OwlEars$Strike", name := "wide", desc := "()I" } : Jvm.MethodName)) ∈ lw_all := lw_g (lw_at lw_m3 154 rfl) rfl
theorem q742 : (Jvm.Cond.unhidden "OwlEars$Strike" "wide" "()I") ∈ lw_tbl := lw_at lw_m3 155 rfl
theorem q762 : (Jvm.Cond.selects "OwlEars$Strike" ({ cls := "OwlEars$Strikes", name := "deep", desc := "()I" } : Jvm.MethodName) ({ cls := "OwlEars$Strike", name := "deep", desc := "()I" } : Jvm.MethodName)) ∈ lw_all := lw_g (lw_at lw_m3 175 rfl) rfl
theorem q763 : (Jvm.Cond.unhidden "OwlEars$Strike" "deep" "()I") ∈ lw_tbl := lw_at lw_m3 176 rfl
theorem q764 : (Jvm.Cond.publicMethod ({ cls := "OwlEars$Strike", name := "deep", desc := "()I" } : Jvm.MethodName)) ∈ lw_tbl := lw_at lw_m3 177 rfl
theorem q1196 : (Jvm.Cond.instanceMethod ({ cls := "OwlEars$Strike", name := "isUnder", desc := "(I)Z" } : Jvm.MethodName)) ∈ lw_all := lw_g (lw_at lw_m5 129 rfl) rfl
theorem q1197 : (Jvm.Cond.selects "OwlEars$Strike" ({ cls := "OwlEars$Strike", name := "isUnder", desc := "(I)Z" } : Jvm.MethodName) ({ cls := "OwlEars$Strike", name := "isUnder", desc := "(I)Z" } : Jvm.MethodName)) ∈ lw_all := lw_g (lw_at lw_m5 130 rfl) rfl
theorem q1198 : (Jvm.Cond.sameMethod "OwlEars$Strike" "OwlEars$Strike" "isUnder" "(I)Z") ∈ lw_all := lw_g (lw_at lw_m5 131 rfl) rfl
theorem q1214 : (Jvm.Cond.code ({ cls := "OwlEars$Strike", name := "isUnder", desc := "(I)Z" } : Jvm.MethodName) prog_9_method_3_code (2 : Nat) (Option.some Jvm.ClassFile.FieldType.boolean)) ∈ lw_all := lw_g (lw_at lw_m5 147 rfl) rfl
theorem q1215 : (Jvm.Cond.methodLink "OwlEars$Strike" (19 : Nat) ({ cls := "OwlEars$Strike", name := "kind", desc := "()I" } : Jvm.MethodName)) ∈ lw_all := lw_g (lw_at lw_m5 148 rfl) rfl
theorem q1878 : (Jvm.Cond.sameMethod "OwlEars$Strike" "OwlEars$Strike" "takes" "()I") ∈ lw_all := lw_g (lw_at lw_m8 91 rfl) rfl
theorem in_X6 : ∀ w ∈ wsX60, w ∈ lw_all := lw_in wsX60 [418, 419] (by decide +kernel) (by decide +kernel)
/-! OwlEars$Sure -/
set_option maxRecDepth 100000
def RX7 : String := "OwlEars$Sure"
def TX7 : u_T := fun k => match k with
  | 0 => ("OwlEars$Strike", "number", "I", true)
  | 1 => ("OwlEars$Strike", "this$0", "LOwlEars;", true)
  | _ => ("OwlEars$Sure", "this$0", "LOwlEars;", true)
def tyX7 : Nat → FieldType := fun k => match k with
  | 0 => .int
  | 1 => .object "OwlEars"
  | _ => .object "OwlEars"
abbrev wsX70 : List Cond := u_ws RX7 TX7 3
-- two fields of one name: no nmX7
theorem tyX7_ok : ∀ k, k < 3 → parseFieldDescriptor (TX7 k).2.2.1 = some (tyX7 k) := by decide +kernel
abbrev cX7_init : ByteArray := prog_11_method_1_code
def yX7_init : MethodName := ⟨RX7, "<init>", "(LOwlEars;I)V"⟩
def dkwX7_init_0 : List UInt8 := [42, 43, 181, 0, 3, 42, 43, 28, 183, 0, 9, 177]
abbrev dktX7_init_0 : List UInt8 := dkwX7_init_0 ++ []
theorem dksX7_init_0 : cX7_init.data.toList.drop 0 = dktX7_init_0 := by decide +kernel
theorem dX7_init_0 : decode cX7_init 0 = .ok (.aload_n 0, 1) := dk_42 (dk_at dksX7_init_0 0 rfl rfl)
theorem dX7_init_1 : decode cX7_init 1 = .ok (.aload_n 1, 1) := dk_43 (dk_at dksX7_init_0 1 rfl rfl)
theorem dX7_init_2 : decode cX7_init 2 = .ok (.putfield 3, 3) := dk_181 0 3 (dk_at dksX7_init_0 2 rfl rfl)
theorem dX7_init_5 : decode cX7_init 5 = .ok (.aload_n 0, 1) := dk_42 (dk_at dksX7_init_0 5 rfl rfl)
theorem dX7_init_6 : decode cX7_init 6 = .ok (.aload_n 1, 1) := dk_43 (dk_at dksX7_init_0 6 rfl rfl)
theorem dX7_init_7 : decode cX7_init 7 = .ok (.iload_n 2, 1) := dk_28 (dk_at dksX7_init_0 7 rfl rfl)
theorem dX7_init_8 : decode cX7_init 8 = .ok (.invokespecial 9, 3) := dk_183 0 9 (dk_at dksX7_init_0 8 rfl rfl)
theorem dX7_init_11 : decode cX7_init 11 = .ok (.return_, 1) := dk_177 (dk_at dksX7_init_0 11 rfl rfl)
abbrev cX7_kind : ByteArray := prog_11_method_2_code
def yX7_kind : MethodName := ⟨RX7, "kind", "()I"⟩
def dkwX7_kind_0 : List UInt8 := [4, 42, 183, 0, 15, 96, 172]
abbrev dktX7_kind_0 : List UInt8 := dkwX7_kind_0 ++ []
theorem dksX7_kind_0 : cX7_kind.data.toList.drop 0 = dktX7_kind_0 := by decide +kernel
theorem dX7_kind_0 : decode cX7_kind 0 = .ok (.iconst 1, 1) := dk_4 (dk_at dksX7_kind_0 0 rfl rfl)
theorem dX7_kind_1 : decode cX7_kind 1 = .ok (.aload_n 0, 1) := dk_42 (dk_at dksX7_kind_0 1 rfl rfl)
theorem dX7_kind_2 : decode cX7_kind 2 = .ok (.invokespecial 15, 3) := dk_183 0 15 (dk_at dksX7_kind_0 2 rfl rfl)
theorem dX7_kind_5 : decode cX7_kind 5 = .ok (.iadd, 1) := dk_96 (dk_at dksX7_kind_0 5 rfl rfl)
theorem dX7_kind_6 : decode cX7_kind 6 = .ok (.ireturn, 1) := dk_172 (dk_at dksX7_kind_0 6 rfl rfl)
abbrev cX7_takes : ByteArray := prog_11_method_4_code
def yX7_takes : MethodName := ⟨RX7, "takes", "()I"⟩
def dkwX7_takes_0 : List UInt8 := [42, 42, 183, 0, 23, 4, 100, 182, 0, 26, 4, 96, 172]
abbrev dktX7_takes_0 : List UInt8 := dkwX7_takes_0 ++ []
theorem dksX7_takes_0 : cX7_takes.data.toList.drop 0 = dktX7_takes_0 := by decide +kernel
theorem dX7_takes_0 : decode cX7_takes 0 = .ok (.aload_n 0, 1) := dk_42 (dk_at dksX7_takes_0 0 rfl rfl)
theorem dX7_takes_1 : decode cX7_takes 1 = .ok (.aload_n 0, 1) := dk_42 (dk_at dksX7_takes_0 1 rfl rfl)
theorem dX7_takes_2 : decode cX7_takes 2 = .ok (.invokespecial 23, 3) := dk_183 0 23 (dk_at dksX7_takes_0 2 rfl rfl)
theorem dX7_takes_5 : decode cX7_takes 5 = .ok (.iconst 1, 1) := dk_4 (dk_at dksX7_takes_0 5 rfl rfl)
theorem dX7_takes_6 : decode cX7_takes 6 = .ok (.isub, 1) := dk_100 (dk_at dksX7_takes_0 6 rfl rfl)
theorem dX7_takes_7 : decode cX7_takes 7 = .ok (.invokevirtual 26, 3) := dk_182 0 26 (dk_at dksX7_takes_0 7 rfl rfl)
theorem dX7_takes_10 : decode cX7_takes 10 = .ok (.iconst 1, 1) := dk_4 (dk_at dksX7_takes_0 10 rfl rfl)
theorem dX7_takes_11 : decode cX7_takes 11 = .ok (.iadd, 1) := dk_96 (dk_at dksX7_takes_0 11 rfl rfl)
theorem dX7_takes_12 : decode cX7_takes 12 = .ok (.ireturn, 1) := dk_172 (dk_at dksX7_takes_0 12 rfl rfl)
abbrev cX7_deep : ByteArray := prog_11_method_5_code
def yX7_deep : MethodName := ⟨RX7, "deep", "()I"⟩
def dkwX7_deep_0 : List UInt8 := [42, 183, 0, 30, 7, 96, 172]
abbrev dktX7_deep_0 : List UInt8 := dkwX7_deep_0 ++ []
theorem dksX7_deep_0 : cX7_deep.data.toList.drop 0 = dktX7_deep_0 := by decide +kernel
theorem dX7_deep_0 : decode cX7_deep 0 = .ok (.aload_n 0, 1) := dk_42 (dk_at dksX7_deep_0 0 rfl rfl)
theorem dX7_deep_1 : decode cX7_deep 1 = .ok (.invokespecial 30, 3) := dk_183 0 30 (dk_at dksX7_deep_0 1 rfl rfl)
theorem dX7_deep_4 : decode cX7_deep 4 = .ok (.iconst 4, 1) := dk_7 (dk_at dksX7_deep_0 4 rfl rfl)
theorem dX7_deep_5 : decode cX7_deep 5 = .ok (.iadd, 1) := dk_96 (dk_at dksX7_deep_0 5 rfl rfl)
theorem dX7_deep_6 : decode cX7_deep 6 = .ok (.ireturn, 1) := dk_172 (dk_at dksX7_deep_0 6 rfl rfl)
abbrev cX7_isUnder : ByteArray := prog_11_method_3_code
def yX7_isUnder : MethodName := ⟨RX7, "isUnder", "(I)Z"⟩
def dkwX7_isUnder_0 : List UInt8 := [27, 4, 159, 0, 11, 42, 27, 183, 0, 19, 153, 0, 7, 4, 167, 0, 4, 3, 172]
abbrev dktX7_isUnder_0 : List UInt8 := dkwX7_isUnder_0 ++ []
theorem dksX7_isUnder_0 : cX7_isUnder.data.toList.drop 0 = dktX7_isUnder_0 := by decide +kernel
theorem dX7_isUnder_0 : decode cX7_isUnder 0 = .ok (.iload_n 1, 1) := dk_27 (dk_at dksX7_isUnder_0 0 rfl rfl)
theorem dX7_isUnder_1 : decode cX7_isUnder 1 = .ok (.iconst 1, 1) := dk_4 (dk_at dksX7_isUnder_0 1 rfl rfl)
theorem dX7_isUnder_2 : decode cX7_isUnder 2 = .ok (.if_icmp .eq 11, 3) := dk_159 0 11 (dk_at dksX7_isUnder_0 2 rfl rfl)
theorem dX7_isUnder_5 : decode cX7_isUnder 5 = .ok (.aload_n 0, 1) := dk_42 (dk_at dksX7_isUnder_0 5 rfl rfl)
theorem dX7_isUnder_6 : decode cX7_isUnder 6 = .ok (.iload_n 1, 1) := dk_27 (dk_at dksX7_isUnder_0 6 rfl rfl)
theorem dX7_isUnder_7 : decode cX7_isUnder 7 = .ok (.invokespecial 19, 3) := dk_183 0 19 (dk_at dksX7_isUnder_0 7 rfl rfl)
theorem dX7_isUnder_10 : decode cX7_isUnder 10 = .ok (.ifCond .eq 7, 3) := dk_153 0 7 (dk_at dksX7_isUnder_0 10 rfl rfl)
theorem dX7_isUnder_13 : decode cX7_isUnder 13 = .ok (.iconst 1, 1) := dk_4 (dk_at dksX7_isUnder_0 13 rfl rfl)
theorem dX7_isUnder_14 : decode cX7_isUnder 14 = .ok (.goto 4, 3) := dk_167 0 4 (dk_at dksX7_isUnder_0 14 rfl rfl)
theorem dX7_isUnder_17 : decode cX7_isUnder 17 = .ok (.iconst 0, 1) := dk_3 (dk_at dksX7_isUnder_0 17 rfl rfl)
theorem dX7_isUnder_18 : decode cX7_isUnder 18 = .ok (.ireturn, 1) := dk_172 (dk_at dksX7_isUnder_0 18 rfl rfl)
theorem q118 : (Jvm.Cond.initialized "OwlEars$Sure") ∈ lw_all := lw_g (lw_at lw_m1 11 rfl) rfl
theorem q332 : (Jvm.Cond.instantiable "OwlEars$Sure" (3 : Nat)) ∈ lw_all := lw_g (lw_at lw_m1 225 rfl) rfl
theorem q334 : (Jvm.Cond.instanceMethod ({ cls := "OwlEars$Sure", name := "<init>", desc := "(LOwlEars;I)V" } : Jvm.MethodName)) ∈ lw_all := lw_g (lw_at lw_m1 227 rfl) rfl
theorem q335 : (Jvm.Cond.code ({ cls := "OwlEars$Sure", name := "<init>", desc := "(LOwlEars;I)V" } : Jvm.MethodName) prog_11_method_1_code (3 : Nat) (Option.none : Option Jvm.ClassFile.FieldType)) ∈ lw_all := lw_g (lw_at lw_m1 228 rfl) rfl
theorem q336 : (Jvm.Cond.methodLink "OwlEars$Sure" (9 : Nat) ({ cls := "OwlEars$Strike", name := "<init>", desc := "(LOwlEars;I)V" } : Jvm.MethodName)) ∈ lw_all := lw_g (lw_at lw_m1 229 rfl) rfl
theorem q340 : (Jvm.Cond.fieldLink "OwlEars$Sure" (3 : Nat) "OwlEars$Sure" "this$0" "LOwlEars;") ∈ lw_all := lw_g (lw_at lw_m1 233 rfl) rfl
theorem q344 : (Jvm.Cond.laysFinal "OwlEars$Sure" "OwlEars$Sure" "this$0" "LOwlEars;") ∈ lw_all := lw_g (lw_at lw_m1 237 rfl) rfl
theorem q345 : (Jvm.Cond.soleField "OwlEars$Sure" "this$0") ∈ lw_all := lw_g (lw_at lw_m1 238 rfl) rfl
theorem q346 : (Jvm.Cond.laysFinal "OwlEars$Sure" "OwlEars$Strike" "number" "I") ∈ lw_all := lw_g (lw_at lw_m1 239 rfl) rfl
theorem q348 : (Jvm.Cond.laysFinal "OwlEars$Sure" "OwlEars$Strike" "this$0" "LOwlEars;") ∈ lw_all := lw_g (lw_at lw_m2 1 rfl) rfl
theorem q350 : (Jvm.Cond.superclass "OwlEars$Sure" "OwlEars$Strike") ∈ lw_all := lw_g (lw_at lw_m2 3 rfl) rfl
theorem q558 : (Jvm.Cond.instanceMethod ({ cls := "OwlEars$Sure", name := "kind", desc := "()I" } : Jvm.MethodName)) ∈ lw_all := lw_g (lw_at lw_m2 211 rfl) rfl
theorem q559 : (Jvm.Cond.code ({ cls := "OwlEars$Sure", name := "kind", desc := "()I" } : Jvm.MethodName) prog_11_method_2_code (1 : Nat) (Option.some Jvm.ClassFile.FieldType.int)) ∈ lw_all := lw_g (lw_at lw_m2 212 rfl) rfl
theorem q560 : (Jvm.Cond.methodLink "OwlEars$Sure" (15 : Nat) ({ cls := "OwlEars$Strike", name := "kind", desc := "()I" } : Jvm.MethodName)) ∈ lw_all := lw_g (lw_at lw_m2 213 rfl) rfl
theorem q569 : (Jvm.Cond.selects "OwlEars$Sure" ({ cls := "OwlEars$Strike", name := "kind", desc := "()I" } : Jvm.MethodName) ({ cls := "OwlEars$Sure", name := "kind", desc := "()I" } : Jvm.MethodName)) ∈ lw_all := lw_g (lw_at lw_m2 222 rfl) rfl
theorem q600 : (Jvm.Cond.selects "OwlEars$Sure" ({ cls := "OwlEars$Strike", name := "told", desc := "(I)I" } : Jvm.MethodName) ({ cls := "OwlEars$Strike", name := "told", desc := "(I)I" } : Jvm.MethodName)) ∈ lw_all := lw_g (lw_at lw_m3 13 rfl) rfl
theorem q611 : (Jvm.Cond.instanceMethod ({ cls := "OwlEars$Sure", name := "takes", desc := "()I" } : Jvm.MethodName)) ∈ lw_all := lw_g (lw_at lw_m3 24 rfl) rfl
theorem q612 : (Jvm.Cond.code ({ cls := "OwlEars$Sure", name := "takes", desc := "()I" } : Jvm.MethodName) prog_11_method_4_code (1 : Nat) (Option.some Jvm.ClassFile.FieldType.int)) ∈ lw_all := lw_g (lw_at lw_m3 25 rfl) rfl
theorem q613 : (Jvm.Cond.methodLink "OwlEars$Sure" (23 : Nat) ({ cls := "OwlEars$Strike", name := "takes", desc := "()I" } : Jvm.MethodName)) ∈ lw_all := lw_g (lw_at lw_m3 26 rfl) rfl
theorem q616 : (Jvm.Cond.unhidden "OwlEars$Sure" "half" "(I)I") ∈ lw_tbl := lw_at lw_m3 29 rfl
theorem q637 : (Jvm.Cond.castable "OwlEars$Sure" "OwlEars$Strikes") ∈ lw_tbl := lw_at lw_m3 50 rfl
theorem q638 : (Jvm.Cond.selects "OwlEars$Sure" ({ cls := "OwlEars$Strikes", name := "takes", desc := "()I" } : Jvm.MethodName) ({ cls := "OwlEars$Sure", name := "takes", desc := "()I" } : Jvm.MethodName)) ∈ lw_all := lw_g (lw_at lw_m3 51 rfl) rfl
theorem q639 : (Jvm.Cond.unhidden "OwlEars$Sure" "takes" "()I") ∈ lw_tbl := lw_at lw_m3 52 rfl
theorem q640 : (Jvm.Cond.publicMethod ({ cls := "OwlEars$Sure", name := "takes", desc := "()I" } : Jvm.MethodName)) ∈ lw_tbl := lw_at lw_m3 53 rfl
theorem q664 : (Jvm.Cond.instanceMethod ({ cls := "OwlEars$Sure", name := "deep", desc := "()I" } : Jvm.MethodName)) ∈ lw_all := lw_g (lw_at lw_m3 77 rfl) rfl
theorem q665 : (Jvm.Cond.code ({ cls := "OwlEars$Sure", name := "deep", desc := "()I" } : Jvm.MethodName) prog_11_method_5_code (1 : Nat) (Option.some Jvm.ClassFile.FieldType.int)) ∈ lw_all := lw_g (lw_at lw_m3 78 rfl) rfl
theorem q666 : (Jvm.Cond.methodLink "OwlEars$Sure" (30 : Nat) ({ cls := "OwlEars$Strike", name := "deep", desc := "()I" } : Jvm.MethodName)) ∈ lw_all := lw_g (lw_at lw_m3 79 rfl) rfl
theorem q671 : (Jvm.Cond.selects "OwlEars$Sure" ({ cls := "OwlEars$Strike", name := "deep", desc := "()I" } : Jvm.MethodName) ({ cls := "OwlEars$Sure", name := "deep", desc := "()I" } : Jvm.MethodName)) ∈ lw_all := lw_g (lw_at lw_m3 84 rfl) rfl
theorem q693 : (Jvm.Cond.selects "OwlEars$Sure" ({ cls := "OwlEars$Strike", name := "wide", desc := "()I" } : Jvm.MethodName) ({ cls := "OwlEars$Strike", name := "wide", desc := "()I" } : Jvm.MethodName)) ∈ lw_all := lw_g (lw_at lw_m3 106 rfl) rfl
theorem q743 : (Jvm.Cond.selects "OwlEars$Sure" ({ cls := "OwlEars$Strikes", name := "wide", desc := "()I" } : Jvm.MethodName) ({ cls := "OwlEars$Strike", name := "wide", desc := "()I" } : Jvm.MethodName)) ∈ lw_all := lw_g (lw_at lw_m3 156 rfl) rfl
theorem q744 : (Jvm.Cond.unhidden "OwlEars$Sure" "wide" "()I") ∈ lw_tbl := lw_at lw_m3 157 rfl
theorem q765 : (Jvm.Cond.selects "OwlEars$Sure" ({ cls := "OwlEars$Strikes", name := "deep", desc := "()I" } : Jvm.MethodName) ({ cls := "OwlEars$Sure", name := "deep", desc := "()I" } : Jvm.MethodName)) ∈ lw_all := lw_g (lw_at lw_m3 178 rfl) rfl
theorem q766 : (Jvm.Cond.unhidden "OwlEars$Sure" "deep" "()I") ∈ lw_tbl := lw_at lw_m3 179 rfl
theorem q767 : (Jvm.Cond.publicMethod ({ cls := "OwlEars$Sure", name := "deep", desc := "()I" } : Jvm.MethodName)) ∈ lw_tbl := lw_at lw_m3 180 rfl
theorem q1204 : (Jvm.Cond.instanceMethod ({ cls := "OwlEars$Sure", name := "isUnder", desc := "(I)Z" } : Jvm.MethodName)) ∈ lw_all := lw_g (lw_at lw_m5 137 rfl) rfl
theorem q1205 : (Jvm.Cond.code ({ cls := "OwlEars$Sure", name := "isUnder", desc := "(I)Z" } : Jvm.MethodName) prog_11_method_3_code (2 : Nat) (Option.some Jvm.ClassFile.FieldType.boolean)) ∈ lw_all := lw_g (lw_at lw_m5 138 rfl) rfl
theorem q1206 : (Jvm.Cond.methodLink "OwlEars$Sure" (19 : Nat) ({ cls := "OwlEars$Strike", name := "isUnder", desc := "(I)Z" } : Jvm.MethodName)) ∈ lw_all := lw_g (lw_at lw_m5 139 rfl) rfl
theorem q1212 : (Jvm.Cond.selects "OwlEars$Sure" ({ cls := "OwlEars$Strike", name := "isUnder", desc := "(I)Z" } : Jvm.MethodName) ({ cls := "OwlEars$Sure", name := "isUnder", desc := "(I)Z" } : Jvm.MethodName)) ∈ lw_all := lw_g (lw_at lw_m5 145 rfl) rfl
theorem q1875 : (Jvm.Cond.sameMethod "OwlEars$Sure" "OwlEars$Sure" "kind" "()I") ∈ lw_all := lw_g (lw_at lw_m8 88 rfl) rfl
theorem q1879 : (Jvm.Cond.sameMethod "OwlEars$Sure" "OwlEars$Sure" "takes" "()I") ∈ lw_all := lw_g (lw_at lw_m8 92 rfl) rfl
theorem q1882 : (Jvm.Cond.sameMethod "OwlEars$Sure" "OwlEars$Sure" "deep" "()I") ∈ lw_all := lw_g (lw_at lw_m8 95 rfl) rfl
theorem q1888 : (Jvm.Cond.castable "OwlEars$Sure" "OwlEars$Strike") ∈ lw_tbl := lw_at lw_m8 101 rfl
theorem in_X7 : ∀ w ∈ wsX70, w ∈ lw_all := lw_in wsX70 [346, 348, 344] (by decide +kernel) (by decide +kernel)
/-! OwlEars$Aslant -/
set_option maxRecDepth 100000
def RX8 : String := "OwlEars$Aslant"
def TX8 : u_T := fun k => match k with
  | 0 => ("OwlEars$Strike", "number", "I", true)
  | 1 => ("OwlEars$Strike", "this$0", "LOwlEars;", true)
  | _ => ("OwlEars$Aslant", "this$0", "LOwlEars;", true)
def tyX8 : Nat → FieldType := fun k => match k with
  | 0 => .int
  | 1 => .object "OwlEars"
  | _ => .object "OwlEars"
abbrev wsX80 : List Cond := u_ws RX8 TX8 3
-- two fields of one name: no nmX8
theorem tyX8_ok : ∀ k, k < 3 → parseFieldDescriptor (TX8 k).2.2.1 = some (tyX8 k) := by decide +kernel
abbrev cX8_init : ByteArray := prog_2_method_1_code
def yX8_init : MethodName := ⟨RX8, "<init>", "(LOwlEars;I)V"⟩
def dkwX8_init_0 : List UInt8 := [42, 43, 181, 0, 3, 42, 43, 28, 183, 0, 9, 177]
abbrev dktX8_init_0 : List UInt8 := dkwX8_init_0 ++ []
theorem dksX8_init_0 : cX8_init.data.toList.drop 0 = dktX8_init_0 := by decide +kernel
theorem dX8_init_0 : decode cX8_init 0 = .ok (.aload_n 0, 1) := dk_42 (dk_at dksX8_init_0 0 rfl rfl)
theorem dX8_init_1 : decode cX8_init 1 = .ok (.aload_n 1, 1) := dk_43 (dk_at dksX8_init_0 1 rfl rfl)
theorem dX8_init_2 : decode cX8_init 2 = .ok (.putfield 3, 3) := dk_181 0 3 (dk_at dksX8_init_0 2 rfl rfl)
theorem dX8_init_5 : decode cX8_init 5 = .ok (.aload_n 0, 1) := dk_42 (dk_at dksX8_init_0 5 rfl rfl)
theorem dX8_init_6 : decode cX8_init 6 = .ok (.aload_n 1, 1) := dk_43 (dk_at dksX8_init_0 6 rfl rfl)
theorem dX8_init_7 : decode cX8_init 7 = .ok (.iload_n 2, 1) := dk_28 (dk_at dksX8_init_0 7 rfl rfl)
theorem dX8_init_8 : decode cX8_init 8 = .ok (.invokespecial 9, 3) := dk_183 0 9 (dk_at dksX8_init_0 8 rfl rfl)
theorem dX8_init_11 : decode cX8_init 11 = .ok (.return_, 1) := dk_177 (dk_at dksX8_init_0 11 rfl rfl)
abbrev cX8_kind : ByteArray := prog_2_method_2_code
def yX8_kind : MethodName := ⟨RX8, "kind", "()I"⟩
def dkwX8_kind_0 : List UInt8 := [5, 42, 183, 0, 15, 96, 172]
abbrev dktX8_kind_0 : List UInt8 := dkwX8_kind_0 ++ []
theorem dksX8_kind_0 : cX8_kind.data.toList.drop 0 = dktX8_kind_0 := by decide +kernel
theorem dX8_kind_0 : decode cX8_kind 0 = .ok (.iconst 2, 1) := dk_5 (dk_at dksX8_kind_0 0 rfl rfl)
theorem dX8_kind_1 : decode cX8_kind 1 = .ok (.aload_n 0, 1) := dk_42 (dk_at dksX8_kind_0 1 rfl rfl)
theorem dX8_kind_2 : decode cX8_kind 2 = .ok (.invokespecial 15, 3) := dk_183 0 15 (dk_at dksX8_kind_0 2 rfl rfl)
theorem dX8_kind_5 : decode cX8_kind 5 = .ok (.iadd, 1) := dk_96 (dk_at dksX8_kind_0 5 rfl rfl)
theorem dX8_kind_6 : decode cX8_kind 6 = .ok (.ireturn, 1) := dk_172 (dk_at dksX8_kind_0 6 rfl rfl)
abbrev cX8_takes : ByteArray := prog_2_method_4_code
def yX8_takes : MethodName := ⟨RX8, "takes", "()I"⟩
def dkwX8_takes_0 : List UInt8 := [42, 183, 0, 23, 4, 96, 172]
abbrev dktX8_takes_0 : List UInt8 := dkwX8_takes_0 ++ []
theorem dksX8_takes_0 : cX8_takes.data.toList.drop 0 = dktX8_takes_0 := by decide +kernel
theorem dX8_takes_0 : decode cX8_takes 0 = .ok (.aload_n 0, 1) := dk_42 (dk_at dksX8_takes_0 0 rfl rfl)
theorem dX8_takes_1 : decode cX8_takes 1 = .ok (.invokespecial 23, 3) := dk_183 0 23 (dk_at dksX8_takes_0 1 rfl rfl)
theorem dX8_takes_4 : decode cX8_takes 4 = .ok (.iconst 1, 1) := dk_4 (dk_at dksX8_takes_0 4 rfl rfl)
theorem dX8_takes_5 : decode cX8_takes 5 = .ok (.iadd, 1) := dk_96 (dk_at dksX8_takes_0 5 rfl rfl)
theorem dX8_takes_6 : decode cX8_takes 6 = .ok (.ireturn, 1) := dk_172 (dk_at dksX8_takes_0 6 rfl rfl)
abbrev cX8_deep : ByteArray := prog_2_method_5_code
def yX8_deep : MethodName := ⟨RX8, "deep", "()I"⟩
def dkwX8_deep_0 : List UInt8 := [42, 183, 0, 26, 5, 100, 172]
abbrev dktX8_deep_0 : List UInt8 := dkwX8_deep_0 ++ []
theorem dksX8_deep_0 : cX8_deep.data.toList.drop 0 = dktX8_deep_0 := by decide +kernel
theorem dX8_deep_0 : decode cX8_deep 0 = .ok (.aload_n 0, 1) := dk_42 (dk_at dksX8_deep_0 0 rfl rfl)
theorem dX8_deep_1 : decode cX8_deep 1 = .ok (.invokespecial 26, 3) := dk_183 0 26 (dk_at dksX8_deep_0 1 rfl rfl)
theorem dX8_deep_4 : decode cX8_deep 4 = .ok (.iconst 2, 1) := dk_5 (dk_at dksX8_deep_0 4 rfl rfl)
theorem dX8_deep_5 : decode cX8_deep 5 = .ok (.isub, 1) := dk_100 (dk_at dksX8_deep_0 5 rfl rfl)
theorem dX8_deep_6 : decode cX8_deep 6 = .ok (.ireturn, 1) := dk_172 (dk_at dksX8_deep_0 6 rfl rfl)
abbrev cX8_wide : ByteArray := prog_2_method_6_code
def yX8_wide : MethodName := ⟨RX8, "wide", "()I"⟩
def dkwX8_wide_0 : List UInt8 := [4, 42, 183, 0, 29, 96, 172]
abbrev dktX8_wide_0 : List UInt8 := dkwX8_wide_0 ++ []
theorem dksX8_wide_0 : cX8_wide.data.toList.drop 0 = dktX8_wide_0 := by decide +kernel
theorem dX8_wide_0 : decode cX8_wide 0 = .ok (.iconst 1, 1) := dk_4 (dk_at dksX8_wide_0 0 rfl rfl)
theorem dX8_wide_1 : decode cX8_wide 1 = .ok (.aload_n 0, 1) := dk_42 (dk_at dksX8_wide_0 1 rfl rfl)
theorem dX8_wide_2 : decode cX8_wide 2 = .ok (.invokespecial 29, 3) := dk_183 0 29 (dk_at dksX8_wide_0 2 rfl rfl)
theorem dX8_wide_5 : decode cX8_wide 5 = .ok (.iadd, 1) := dk_96 (dk_at dksX8_wide_0 5 rfl rfl)
theorem dX8_wide_6 : decode cX8_wide 6 = .ok (.ireturn, 1) := dk_172 (dk_at dksX8_wide_0 6 rfl rfl)
abbrev cX8_isUnder : ByteArray := prog_2_method_3_code
def yX8_isUnder : MethodName := ⟨RX8, "isUnder", "(I)Z"⟩
def dkwX8_isUnder_0 : List UInt8 := [27, 5, 159, 0, 11, 42, 27, 183, 0, 19, 153, 0, 7, 4, 167, 0, 4, 3, 172]
abbrev dktX8_isUnder_0 : List UInt8 := dkwX8_isUnder_0 ++ []
theorem dksX8_isUnder_0 : cX8_isUnder.data.toList.drop 0 = dktX8_isUnder_0 := by decide +kernel
theorem dX8_isUnder_0 : decode cX8_isUnder 0 = .ok (.iload_n 1, 1) := dk_27 (dk_at dksX8_isUnder_0 0 rfl rfl)
theorem dX8_isUnder_1 : decode cX8_isUnder 1 = .ok (.iconst 2, 1) := dk_5 (dk_at dksX8_isUnder_0 1 rfl rfl)
theorem dX8_isUnder_2 : decode cX8_isUnder 2 = .ok (.if_icmp .eq 11, 3) := dk_159 0 11 (dk_at dksX8_isUnder_0 2 rfl rfl)
theorem dX8_isUnder_5 : decode cX8_isUnder 5 = .ok (.aload_n 0, 1) := dk_42 (dk_at dksX8_isUnder_0 5 rfl rfl)
theorem dX8_isUnder_6 : decode cX8_isUnder 6 = .ok (.iload_n 1, 1) := dk_27 (dk_at dksX8_isUnder_0 6 rfl rfl)
theorem dX8_isUnder_7 : decode cX8_isUnder 7 = .ok (.invokespecial 19, 3) := dk_183 0 19 (dk_at dksX8_isUnder_0 7 rfl rfl)
theorem dX8_isUnder_10 : decode cX8_isUnder 10 = .ok (.ifCond .eq 7, 3) := dk_153 0 7 (dk_at dksX8_isUnder_0 10 rfl rfl)
theorem dX8_isUnder_13 : decode cX8_isUnder 13 = .ok (.iconst 1, 1) := dk_4 (dk_at dksX8_isUnder_0 13 rfl rfl)
theorem dX8_isUnder_14 : decode cX8_isUnder 14 = .ok (.goto 4, 3) := dk_167 0 4 (dk_at dksX8_isUnder_0 14 rfl rfl)
theorem dX8_isUnder_17 : decode cX8_isUnder 17 = .ok (.iconst 0, 1) := dk_3 (dk_at dksX8_isUnder_0 17 rfl rfl)
theorem dX8_isUnder_18 : decode cX8_isUnder 18 = .ok (.ireturn, 1) := dk_172 (dk_at dksX8_isUnder_0 18 rfl rfl)
theorem q119 : (Jvm.Cond.initialized "OwlEars$Aslant") ∈ lw_all := lw_g (lw_at lw_m1 12 rfl) rfl
theorem q352 : (Jvm.Cond.instantiable "OwlEars$Aslant" (3 : Nat)) ∈ lw_all := lw_g (lw_at lw_m2 5 rfl) rfl
theorem q354 : (Jvm.Cond.instanceMethod ({ cls := "OwlEars$Aslant", name := "<init>", desc := "(LOwlEars;I)V" } : Jvm.MethodName)) ∈ lw_all := lw_g (lw_at lw_m2 7 rfl) rfl
theorem q355 : (Jvm.Cond.code ({ cls := "OwlEars$Aslant", name := "<init>", desc := "(LOwlEars;I)V" } : Jvm.MethodName) prog_2_method_1_code (3 : Nat) (Option.none : Option Jvm.ClassFile.FieldType)) ∈ lw_all := lw_g (lw_at lw_m2 8 rfl) rfl
theorem q356 : (Jvm.Cond.methodLink "OwlEars$Aslant" (9 : Nat) ({ cls := "OwlEars$Strike", name := "<init>", desc := "(LOwlEars;I)V" } : Jvm.MethodName)) ∈ lw_all := lw_g (lw_at lw_m2 9 rfl) rfl
theorem q357 : (Jvm.Cond.fieldLink "OwlEars$Aslant" (3 : Nat) "OwlEars$Aslant" "this$0" "LOwlEars;") ∈ lw_all := lw_g (lw_at lw_m2 10 rfl) rfl
theorem q358 : (Jvm.Cond.laysFinal "OwlEars$Aslant" "OwlEars$Aslant" "this$0" "LOwlEars;") ∈ lw_all := lw_g (lw_at lw_m2 11 rfl) rfl
theorem q359 : (Jvm.Cond.soleField "OwlEars$Aslant" "this$0") ∈ lw_all := lw_g (lw_at lw_m2 12 rfl) rfl
theorem q360 : (Jvm.Cond.laysFinal "OwlEars$Aslant" "OwlEars$Strike" "number" "I") ∈ lw_all := lw_g (lw_at lw_m2 13 rfl) rfl
theorem q361 : (Jvm.Cond.laysFinal "OwlEars$Aslant" "OwlEars$Strike" "this$0" "LOwlEars;") ∈ lw_all := lw_g (lw_at lw_m2 14 rfl) rfl
theorem q362 : (Jvm.Cond.superclass "OwlEars$Aslant" "OwlEars$Strike") ∈ lw_all := lw_g (lw_at lw_m2 15 rfl) rfl
theorem q550 : (Jvm.Cond.selects "OwlEars$Aslant" ({ cls := "OwlEars$Strike", name := "kind", desc := "()I" } : Jvm.MethodName) ({ cls := "OwlEars$Aslant", name := "kind", desc := "()I" } : Jvm.MethodName)) ∈ lw_all := lw_g (lw_at lw_m2 203 rfl) rfl
theorem q551 : (Jvm.Cond.instanceMethod ({ cls := "OwlEars$Aslant", name := "kind", desc := "()I" } : Jvm.MethodName)) ∈ lw_all := lw_g (lw_at lw_m2 204 rfl) rfl
theorem q552 : (Jvm.Cond.code ({ cls := "OwlEars$Aslant", name := "kind", desc := "()I" } : Jvm.MethodName) prog_2_method_2_code (1 : Nat) (Option.some Jvm.ClassFile.FieldType.int)) ∈ lw_all := lw_g (lw_at lw_m2 205 rfl) rfl
theorem q553 : (Jvm.Cond.methodLink "OwlEars$Aslant" (15 : Nat) ({ cls := "OwlEars$Strike", name := "kind", desc := "()I" } : Jvm.MethodName)) ∈ lw_all := lw_g (lw_at lw_m2 206 rfl) rfl
theorem q583 : (Jvm.Cond.castable "OwlEars$Aslant" "OwlEars$Strikes") ∈ lw_tbl := lw_at lw_m2 236 rfl
theorem q584 : (Jvm.Cond.selects "OwlEars$Aslant" ({ cls := "OwlEars$Strikes", name := "takes", desc := "()I" } : Jvm.MethodName) ({ cls := "OwlEars$Aslant", name := "takes", desc := "()I" } : Jvm.MethodName)) ∈ lw_all := lw_g (lw_at lw_m2 237 rfl) rfl
theorem q585 : (Jvm.Cond.unhidden "OwlEars$Aslant" "takes" "()I") ∈ lw_tbl := lw_at lw_m2 238 rfl
theorem q586 : (Jvm.Cond.instanceMethod ({ cls := "OwlEars$Aslant", name := "takes", desc := "()I" } : Jvm.MethodName)) ∈ lw_all := lw_g (lw_at lw_m2 239 rfl) rfl
theorem q587 : (Jvm.Cond.publicMethod ({ cls := "OwlEars$Aslant", name := "takes", desc := "()I" } : Jvm.MethodName)) ∈ lw_tbl := lw_at lw_m3 0 rfl
theorem q588 : (Jvm.Cond.code ({ cls := "OwlEars$Aslant", name := "takes", desc := "()I" } : Jvm.MethodName) prog_2_method_4_code (1 : Nat) (Option.some Jvm.ClassFile.FieldType.int)) ∈ lw_all := lw_g (lw_at lw_m3 1 rfl) rfl
theorem q589 : (Jvm.Cond.methodLink "OwlEars$Aslant" (23 : Nat) ({ cls := "OwlEars$Strike", name := "takes", desc := "()I" } : Jvm.MethodName)) ∈ lw_all := lw_g (lw_at lw_m3 2 rfl) rfl
theorem q596 : (Jvm.Cond.selects "OwlEars$Aslant" ({ cls := "OwlEars$Strike", name := "told", desc := "(I)I" } : Jvm.MethodName) ({ cls := "OwlEars$Strike", name := "told", desc := "(I)I" } : Jvm.MethodName)) ∈ lw_all := lw_g (lw_at lw_m3 9 rfl) rfl
theorem q656 : (Jvm.Cond.selects "OwlEars$Aslant" ({ cls := "OwlEars$Strike", name := "deep", desc := "()I" } : Jvm.MethodName) ({ cls := "OwlEars$Aslant", name := "deep", desc := "()I" } : Jvm.MethodName)) ∈ lw_all := lw_g (lw_at lw_m3 69 rfl) rfl
theorem q657 : (Jvm.Cond.instanceMethod ({ cls := "OwlEars$Aslant", name := "deep", desc := "()I" } : Jvm.MethodName)) ∈ lw_all := lw_g (lw_at lw_m3 70 rfl) rfl
theorem q658 : (Jvm.Cond.code ({ cls := "OwlEars$Aslant", name := "deep", desc := "()I" } : Jvm.MethodName) prog_2_method_5_code (1 : Nat) (Option.some Jvm.ClassFile.FieldType.int)) ∈ lw_all := lw_g (lw_at lw_m3 71 rfl) rfl
theorem q659 : (Jvm.Cond.methodLink "OwlEars$Aslant" (26 : Nat) ({ cls := "OwlEars$Strike", name := "deep", desc := "()I" } : Jvm.MethodName)) ∈ lw_all := lw_g (lw_at lw_m3 72 rfl) rfl
theorem q677 : (Jvm.Cond.declares ({ cls := "OwlEars$Aslant", name := "deep", desc := "()I" } : Jvm.MethodName)) ∈ lw_tbl := lw_at lw_m3 90 rfl
theorem q683 : (Jvm.Cond.selects "OwlEars$Aslant" ({ cls := "OwlEars$Strike", name := "wide", desc := "()I" } : Jvm.MethodName) ({ cls := "OwlEars$Aslant", name := "wide", desc := "()I" } : Jvm.MethodName)) ∈ lw_all := lw_g (lw_at lw_m3 96 rfl) rfl
theorem q684 : (Jvm.Cond.instanceMethod ({ cls := "OwlEars$Aslant", name := "wide", desc := "()I" } : Jvm.MethodName)) ∈ lw_all := lw_g (lw_at lw_m3 97 rfl) rfl
theorem q685 : (Jvm.Cond.code ({ cls := "OwlEars$Aslant", name := "wide", desc := "()I" } : Jvm.MethodName) prog_2_method_6_code (1 : Nat) (Option.some Jvm.ClassFile.FieldType.int)) ∈ lw_all := lw_g (lw_at lw_m3 98 rfl) rfl
theorem q686 : (Jvm.Cond.methodLink "OwlEars$Aslant" (29 : Nat) ({ cls := "OwlEars$Strike", name := "wide", desc := "()I" } : Jvm.MethodName)) ∈ lw_all := lw_g (lw_at lw_m3 99 rfl) rfl
theorem q730 : (Jvm.Cond.selects "OwlEars$Aslant" ({ cls := "OwlEars$Strikes", name := "wide", desc := "()I" } : Jvm.MethodName) ({ cls := "OwlEars$Aslant", name := "wide", desc := "()I" } : Jvm.MethodName)) ∈ lw_all := lw_g (lw_at lw_m3 143 rfl) rfl
theorem q731 : (Jvm.Cond.unhidden "OwlEars$Aslant" "wide" "()I") ∈ lw_tbl := lw_at lw_m3 144 rfl
theorem q732 : (Jvm.Cond.publicMethod ({ cls := "OwlEars$Aslant", name := "wide", desc := "()I" } : Jvm.MethodName)) ∈ lw_tbl := lw_at lw_m3 145 rfl
theorem q751 : (Jvm.Cond.selects "OwlEars$Aslant" ({ cls := "OwlEars$Strikes", name := "deep", desc := "()I" } : Jvm.MethodName) ({ cls := "OwlEars$Aslant", name := "deep", desc := "()I" } : Jvm.MethodName)) ∈ lw_all := lw_g (lw_at lw_m3 164 rfl) rfl
theorem q752 : (Jvm.Cond.unhidden "OwlEars$Aslant" "deep" "()I") ∈ lw_tbl := lw_at lw_m3 165 rfl
theorem q753 : (Jvm.Cond.publicMethod ({ cls := "OwlEars$Aslant", name := "deep", desc := "()I" } : Jvm.MethodName)) ∈ lw_tbl := lw_at lw_m3 166 rfl
theorem q1199 : (Jvm.Cond.selects "OwlEars$Aslant" ({ cls := "OwlEars$Strike", name := "isUnder", desc := "(I)Z" } : Jvm.MethodName) ({ cls := "OwlEars$Aslant", name := "isUnder", desc := "(I)Z" } : Jvm.MethodName)) ∈ lw_all := lw_g (lw_at lw_m5 132 rfl) rfl
theorem q1200 : (Jvm.Cond.instanceMethod ({ cls := "OwlEars$Aslant", name := "isUnder", desc := "(I)Z" } : Jvm.MethodName)) ∈ lw_all := lw_g (lw_at lw_m5 133 rfl) rfl
theorem q1201 : (Jvm.Cond.code ({ cls := "OwlEars$Aslant", name := "isUnder", desc := "(I)Z" } : Jvm.MethodName) prog_2_method_3_code (2 : Nat) (Option.some Jvm.ClassFile.FieldType.boolean)) ∈ lw_all := lw_g (lw_at lw_m5 134 rfl) rfl
theorem q1202 : (Jvm.Cond.methodLink "OwlEars$Aslant" (19 : Nat) ({ cls := "OwlEars$Strike", name := "isUnder", desc := "(I)Z" } : Jvm.MethodName)) ∈ lw_all := lw_g (lw_at lw_m5 135 rfl) rfl
theorem q1876 : (Jvm.Cond.sameMethod "OwlEars$Aslant" "OwlEars$Aslant" "kind" "()I") ∈ lw_all := lw_g (lw_at lw_m8 89 rfl) rfl
theorem q1880 : (Jvm.Cond.sameMethod "OwlEars$Aslant" "OwlEars$Aslant" "takes" "()I") ∈ lw_all := lw_g (lw_at lw_m8 93 rfl) rfl
theorem q1883 : (Jvm.Cond.sameMethod "OwlEars$Aslant" "OwlEars$Aslant" "isUnder" "(I)Z") ∈ lw_all := lw_g (lw_at lw_m8 96 rfl) rfl
theorem q1884 : (Jvm.Cond.castable "OwlEars$Aslant" "OwlEars$Strike") ∈ lw_tbl := lw_at lw_m8 97 rfl
theorem in_X8 : ∀ w ∈ wsX80, w ∈ lw_all := lw_in wsX80 [360, 361, 358] (by decide +kernel) (by decide +kernel)
/-! OwlEars$Late -/
set_option maxRecDepth 100000
def RX9 : String := "OwlEars$Late"
def TX9 : u_T := fun k => match k with
  | 0 => ("OwlEars$Strike", "number", "I", true)
  | 1 => ("OwlEars$Strike", "this$0", "LOwlEars;", true)
  | 2 => ("OwlEars$Aslant", "this$0", "LOwlEars;", true)
  | _ => ("OwlEars$Late", "this$0", "LOwlEars;", true)
def tyX9 : Nat → FieldType := fun k => match k with
  | 0 => .int
  | 1 => .object "OwlEars"
  | 2 => .object "OwlEars"
  | _ => .object "OwlEars"
abbrev wsX90 : List Cond := u_ws RX9 TX9 4
-- two fields of one name: no nmX9
theorem tyX9_ok : ∀ k, k < 4 → parseFieldDescriptor (TX9 k).2.2.1 = some (tyX9 k) := by decide +kernel
abbrev cX9_init : ByteArray := prog_4_method_1_code
def yX9_init : MethodName := ⟨RX9, "<init>", "(LOwlEars;I)V"⟩
def dkwX9_init_0 : List UInt8 := [42, 43, 181, 0, 3, 42, 43, 28, 183, 0, 9, 177]
abbrev dktX9_init_0 : List UInt8 := dkwX9_init_0 ++ []
theorem dksX9_init_0 : cX9_init.data.toList.drop 0 = dktX9_init_0 := by decide +kernel
theorem dX9_init_0 : decode cX9_init 0 = .ok (.aload_n 0, 1) := dk_42 (dk_at dksX9_init_0 0 rfl rfl)
theorem dX9_init_1 : decode cX9_init 1 = .ok (.aload_n 1, 1) := dk_43 (dk_at dksX9_init_0 1 rfl rfl)
theorem dX9_init_2 : decode cX9_init 2 = .ok (.putfield 3, 3) := dk_181 0 3 (dk_at dksX9_init_0 2 rfl rfl)
theorem dX9_init_5 : decode cX9_init 5 = .ok (.aload_n 0, 1) := dk_42 (dk_at dksX9_init_0 5 rfl rfl)
theorem dX9_init_6 : decode cX9_init 6 = .ok (.aload_n 1, 1) := dk_43 (dk_at dksX9_init_0 6 rfl rfl)
theorem dX9_init_7 : decode cX9_init 7 = .ok (.iload_n 2, 1) := dk_28 (dk_at dksX9_init_0 7 rfl rfl)
theorem dX9_init_8 : decode cX9_init 8 = .ok (.invokespecial 9, 3) := dk_183 0 9 (dk_at dksX9_init_0 8 rfl rfl)
theorem dX9_init_11 : decode cX9_init 11 = .ok (.return_, 1) := dk_177 (dk_at dksX9_init_0 11 rfl rfl)
abbrev cX9_kind : ByteArray := prog_4_method_2_code
def yX9_kind : MethodName := ⟨RX9, "kind", "()I"⟩
def dkwX9_kind_0 : List UInt8 := [4, 42, 183, 0, 15, 96, 172]
abbrev dktX9_kind_0 : List UInt8 := dkwX9_kind_0 ++ []
theorem dksX9_kind_0 : cX9_kind.data.toList.drop 0 = dktX9_kind_0 := by decide +kernel
theorem dX9_kind_0 : decode cX9_kind 0 = .ok (.iconst 1, 1) := dk_4 (dk_at dksX9_kind_0 0 rfl rfl)
theorem dX9_kind_1 : decode cX9_kind 1 = .ok (.aload_n 0, 1) := dk_42 (dk_at dksX9_kind_0 1 rfl rfl)
theorem dX9_kind_2 : decode cX9_kind 2 = .ok (.invokespecial 15, 3) := dk_183 0 15 (dk_at dksX9_kind_0 2 rfl rfl)
theorem dX9_kind_5 : decode cX9_kind 5 = .ok (.iadd, 1) := dk_96 (dk_at dksX9_kind_0 5 rfl rfl)
theorem dX9_kind_6 : decode cX9_kind 6 = .ok (.ireturn, 1) := dk_172 (dk_at dksX9_kind_0 6 rfl rfl)
abbrev cX9_takes : ByteArray := prog_4_method_4_code
def yX9_takes : MethodName := ⟨RX9, "takes", "()I"⟩
def dkwX9_takes_0 : List UInt8 := [42, 183, 0, 23, 5, 96, 172]
abbrev dktX9_takes_0 : List UInt8 := dkwX9_takes_0 ++ []
theorem dksX9_takes_0 : cX9_takes.data.toList.drop 0 = dktX9_takes_0 := by decide +kernel
theorem dX9_takes_0 : decode cX9_takes 0 = .ok (.aload_n 0, 1) := dk_42 (dk_at dksX9_takes_0 0 rfl rfl)
theorem dX9_takes_1 : decode cX9_takes 1 = .ok (.invokespecial 23, 3) := dk_183 0 23 (dk_at dksX9_takes_0 1 rfl rfl)
theorem dX9_takes_4 : decode cX9_takes 4 = .ok (.iconst 2, 1) := dk_5 (dk_at dksX9_takes_0 4 rfl rfl)
theorem dX9_takes_5 : decode cX9_takes 5 = .ok (.iadd, 1) := dk_96 (dk_at dksX9_takes_0 5 rfl rfl)
theorem dX9_takes_6 : decode cX9_takes 6 = .ok (.ireturn, 1) := dk_172 (dk_at dksX9_takes_0 6 rfl rfl)
abbrev cX9_isUnder : ByteArray := prog_4_method_3_code
def yX9_isUnder : MethodName := ⟨RX9, "isUnder", "(I)Z"⟩
def dkwX9_isUnder_0 : List UInt8 := [27, 6, 159, 0, 11, 42, 27, 183, 0, 19, 153, 0, 7, 4, 167, 0, 4, 3, 172]
abbrev dktX9_isUnder_0 : List UInt8 := dkwX9_isUnder_0 ++ []
theorem dksX9_isUnder_0 : cX9_isUnder.data.toList.drop 0 = dktX9_isUnder_0 := by decide +kernel
theorem dX9_isUnder_0 : decode cX9_isUnder 0 = .ok (.iload_n 1, 1) := dk_27 (dk_at dksX9_isUnder_0 0 rfl rfl)
theorem dX9_isUnder_1 : decode cX9_isUnder 1 = .ok (.iconst 3, 1) := dk_6 (dk_at dksX9_isUnder_0 1 rfl rfl)
theorem dX9_isUnder_2 : decode cX9_isUnder 2 = .ok (.if_icmp .eq 11, 3) := dk_159 0 11 (dk_at dksX9_isUnder_0 2 rfl rfl)
theorem dX9_isUnder_5 : decode cX9_isUnder 5 = .ok (.aload_n 0, 1) := dk_42 (dk_at dksX9_isUnder_0 5 rfl rfl)
theorem dX9_isUnder_6 : decode cX9_isUnder 6 = .ok (.iload_n 1, 1) := dk_27 (dk_at dksX9_isUnder_0 6 rfl rfl)
theorem dX9_isUnder_7 : decode cX9_isUnder 7 = .ok (.invokespecial 19, 3) := dk_183 0 19 (dk_at dksX9_isUnder_0 7 rfl rfl)
theorem dX9_isUnder_10 : decode cX9_isUnder 10 = .ok (.ifCond .eq 7, 3) := dk_153 0 7 (dk_at dksX9_isUnder_0 10 rfl rfl)
theorem dX9_isUnder_13 : decode cX9_isUnder 13 = .ok (.iconst 1, 1) := dk_4 (dk_at dksX9_isUnder_0 13 rfl rfl)
theorem dX9_isUnder_14 : decode cX9_isUnder 14 = .ok (.goto 4, 3) := dk_167 0 4 (dk_at dksX9_isUnder_0 14 rfl rfl)
theorem dX9_isUnder_17 : decode cX9_isUnder 17 = .ok (.iconst 0, 1) := dk_3 (dk_at dksX9_isUnder_0 17 rfl rfl)
theorem dX9_isUnder_18 : decode cX9_isUnder 18 = .ok (.ireturn, 1) := dk_172 (dk_at dksX9_isUnder_0 18 rfl rfl)
theorem q120 : (Jvm.Cond.initialized "OwlEars$Late") ∈ lw_all := lw_g (lw_at lw_m1 13 rfl) rfl
theorem q364 : (Jvm.Cond.instantiable "OwlEars$Late" (4 : Nat)) ∈ lw_all := lw_g (lw_at lw_m2 17 rfl) rfl
theorem q366 : (Jvm.Cond.instanceMethod ({ cls := "OwlEars$Late", name := "<init>", desc := "(LOwlEars;I)V" } : Jvm.MethodName)) ∈ lw_all := lw_g (lw_at lw_m2 19 rfl) rfl
theorem q367 : (Jvm.Cond.code ({ cls := "OwlEars$Late", name := "<init>", desc := "(LOwlEars;I)V" } : Jvm.MethodName) prog_4_method_1_code (3 : Nat) (Option.none : Option Jvm.ClassFile.FieldType)) ∈ lw_all := lw_g (lw_at lw_m2 20 rfl) rfl
theorem q368 : (Jvm.Cond.methodLink "OwlEars$Late" (9 : Nat) ({ cls := "OwlEars$Aslant", name := "<init>", desc := "(LOwlEars;I)V" } : Jvm.MethodName)) ∈ lw_all := lw_g (lw_at lw_m2 21 rfl) rfl
theorem q369 : (Jvm.Cond.fieldLink "OwlEars$Late" (3 : Nat) "OwlEars$Late" "this$0" "LOwlEars;") ∈ lw_all := lw_g (lw_at lw_m2 22 rfl) rfl
theorem q370 : (Jvm.Cond.laysFinal "OwlEars$Late" "OwlEars$Late" "this$0" "LOwlEars;") ∈ lw_all := lw_g (lw_at lw_m2 23 rfl) rfl
theorem q371 : (Jvm.Cond.soleField "OwlEars$Late" "this$0") ∈ lw_all := lw_g (lw_at lw_m2 24 rfl) rfl
theorem q372 : (Jvm.Cond.laysFinal "OwlEars$Late" "OwlEars$Aslant" "this$0" "LOwlEars;") ∈ lw_all := lw_g (lw_at lw_m2 25 rfl) rfl
theorem q373 : (Jvm.Cond.laysFinal "OwlEars$Late" "OwlEars$Strike" "number" "I") ∈ lw_all := lw_g (lw_at lw_m2 26 rfl) rfl
theorem q374 : (Jvm.Cond.laysFinal "OwlEars$Late" "OwlEars$Strike" "this$0" "LOwlEars;") ∈ lw_all := lw_g (lw_at lw_m2 27 rfl) rfl
theorem q375 : (Jvm.Cond.superclass "OwlEars$Late" "OwlEars$Aslant") ∈ lw_all := lw_g (lw_at lw_m2 28 rfl) rfl
theorem q561 : (Jvm.Cond.selects "OwlEars$Late" ({ cls := "OwlEars$Strike", name := "kind", desc := "()I" } : Jvm.MethodName) ({ cls := "OwlEars$Late", name := "kind", desc := "()I" } : Jvm.MethodName)) ∈ lw_all := lw_g (lw_at lw_m2 214 rfl) rfl
theorem q562 : (Jvm.Cond.instanceMethod ({ cls := "OwlEars$Late", name := "kind", desc := "()I" } : Jvm.MethodName)) ∈ lw_all := lw_g (lw_at lw_m2 215 rfl) rfl
theorem q563 : (Jvm.Cond.code ({ cls := "OwlEars$Late", name := "kind", desc := "()I" } : Jvm.MethodName) prog_4_method_2_code (1 : Nat) (Option.some Jvm.ClassFile.FieldType.int)) ∈ lw_all := lw_g (lw_at lw_m2 216 rfl) rfl
theorem q564 : (Jvm.Cond.methodLink "OwlEars$Late" (15 : Nat) ({ cls := "OwlEars$Aslant", name := "kind", desc := "()I" } : Jvm.MethodName)) ∈ lw_all := lw_g (lw_at lw_m2 217 rfl) rfl
theorem q598 : (Jvm.Cond.selects "OwlEars$Late" ({ cls := "OwlEars$Strike", name := "told", desc := "(I)I" } : Jvm.MethodName) ({ cls := "OwlEars$Strike", name := "told", desc := "(I)I" } : Jvm.MethodName)) ∈ lw_all := lw_g (lw_at lw_m3 11 rfl) rfl
theorem q620 : (Jvm.Cond.castable "OwlEars$Late" "OwlEars$Strikes") ∈ lw_tbl := lw_at lw_m3 33 rfl
theorem q621 : (Jvm.Cond.selects "OwlEars$Late" ({ cls := "OwlEars$Strikes", name := "takes", desc := "()I" } : Jvm.MethodName) ({ cls := "OwlEars$Late", name := "takes", desc := "()I" } : Jvm.MethodName)) ∈ lw_all := lw_g (lw_at lw_m3 34 rfl) rfl
theorem q622 : (Jvm.Cond.unhidden "OwlEars$Late" "takes" "()I") ∈ lw_tbl := lw_at lw_m3 35 rfl
theorem q623 : (Jvm.Cond.instanceMethod ({ cls := "OwlEars$Late", name := "takes", desc := "()I" } : Jvm.MethodName)) ∈ lw_all := lw_g (lw_at lw_m3 36 rfl) rfl
theorem q624 : (Jvm.Cond.publicMethod ({ cls := "OwlEars$Late", name := "takes", desc := "()I" } : Jvm.MethodName)) ∈ lw_tbl := lw_at lw_m3 37 rfl
theorem q625 : (Jvm.Cond.code ({ cls := "OwlEars$Late", name := "takes", desc := "()I" } : Jvm.MethodName) prog_4_method_4_code (1 : Nat) (Option.some Jvm.ClassFile.FieldType.int)) ∈ lw_all := lw_g (lw_at lw_m3 38 rfl) rfl
theorem q626 : (Jvm.Cond.methodLink "OwlEars$Late" (23 : Nat) ({ cls := "OwlEars$Aslant", name := "takes", desc := "()I" } : Jvm.MethodName)) ∈ lw_all := lw_g (lw_at lw_m3 39 rfl) rfl
theorem q667 : (Jvm.Cond.selects "OwlEars$Late" ({ cls := "OwlEars$Strike", name := "deep", desc := "()I" } : Jvm.MethodName) ({ cls := "OwlEars$Aslant", name := "deep", desc := "()I" } : Jvm.MethodName)) ∈ lw_all := lw_g (lw_at lw_m3 80 rfl) rfl
theorem q676 : (Jvm.Cond.sameMethod "OwlEars$Late" "OwlEars$Aslant" "deep" "()I") ∈ lw_all := lw_g (lw_at lw_m3 89 rfl) rfl
theorem q688 : (Jvm.Cond.selects "OwlEars$Late" ({ cls := "OwlEars$Strike", name := "wide", desc := "()I" } : Jvm.MethodName) ({ cls := "OwlEars$Aslant", name := "wide", desc := "()I" } : Jvm.MethodName)) ∈ lw_all := lw_g (lw_at lw_m3 101 rfl) rfl
theorem q736 : (Jvm.Cond.selects "OwlEars$Late" ({ cls := "OwlEars$Strikes", name := "wide", desc := "()I" } : Jvm.MethodName) ({ cls := "OwlEars$Aslant", name := "wide", desc := "()I" } : Jvm.MethodName)) ∈ lw_all := lw_g (lw_at lw_m3 149 rfl) rfl
theorem q737 : (Jvm.Cond.unhidden "OwlEars$Late" "wide" "()I") ∈ lw_tbl := lw_at lw_m3 150 rfl
theorem q757 : (Jvm.Cond.selects "OwlEars$Late" ({ cls := "OwlEars$Strikes", name := "deep", desc := "()I" } : Jvm.MethodName) ({ cls := "OwlEars$Aslant", name := "deep", desc := "()I" } : Jvm.MethodName)) ∈ lw_all := lw_g (lw_at lw_m3 170 rfl) rfl
theorem q758 : (Jvm.Cond.unhidden "OwlEars$Late" "deep" "()I") ∈ lw_tbl := lw_at lw_m3 171 rfl
theorem q1207 : (Jvm.Cond.selects "OwlEars$Late" ({ cls := "OwlEars$Strike", name := "isUnder", desc := "(I)Z" } : Jvm.MethodName) ({ cls := "OwlEars$Late", name := "isUnder", desc := "(I)Z" } : Jvm.MethodName)) ∈ lw_all := lw_g (lw_at lw_m5 140 rfl) rfl
theorem q1208 : (Jvm.Cond.instanceMethod ({ cls := "OwlEars$Late", name := "isUnder", desc := "(I)Z" } : Jvm.MethodName)) ∈ lw_all := lw_g (lw_at lw_m5 141 rfl) rfl
theorem q1209 : (Jvm.Cond.code ({ cls := "OwlEars$Late", name := "isUnder", desc := "(I)Z" } : Jvm.MethodName) prog_4_method_3_code (2 : Nat) (Option.some Jvm.ClassFile.FieldType.boolean)) ∈ lw_all := lw_g (lw_at lw_m5 142 rfl) rfl
theorem q1210 : (Jvm.Cond.methodLink "OwlEars$Late" (19 : Nat) ({ cls := "OwlEars$Aslant", name := "isUnder", desc := "(I)Z" } : Jvm.MethodName)) ∈ lw_all := lw_g (lw_at lw_m5 143 rfl) rfl
theorem q1877 : (Jvm.Cond.sameMethod "OwlEars$Late" "OwlEars$Late" "kind" "()I") ∈ lw_all := lw_g (lw_at lw_m8 90 rfl) rfl
theorem q1881 : (Jvm.Cond.sameMethod "OwlEars$Late" "OwlEars$Late" "takes" "()I") ∈ lw_all := lw_g (lw_at lw_m8 94 rfl) rfl
theorem q1886 : (Jvm.Cond.castable "OwlEars$Late" "OwlEars$Strike") ∈ lw_tbl := lw_at lw_m8 99 rfl
theorem q1891 : (Jvm.Cond.castable "OwlEars$Late" "OwlEars$Aslant") ∈ lw_tbl := lw_at lw_m8 104 rfl
theorem in_X9 : ∀ w ∈ wsX90, w ∈ lw_all := lw_in wsX90 [373, 374, 372, 370] (by decide +kernel) (by decide +kernel)
/-! OwlEars$Waited -/
set_option maxRecDepth 100000
def RX10 : String := "OwlEars$Waited"
def TX10 : u_T := fun k => match k with
  | 0 => ("OwlEars$Strike", "number", "I", true)
  | 1 => ("OwlEars$Strike", "this$0", "LOwlEars;", true)
  | 2 => ("OwlEars$Aslant", "this$0", "LOwlEars;", true)
  | 3 => ("OwlEars$Late", "this$0", "LOwlEars;", true)
  | _ => ("OwlEars$Waited", "this$0", "LOwlEars;", true)
def tyX10 : Nat → FieldType := fun k => match k with
  | 0 => .int
  | 1 => .object "OwlEars"
  | 2 => .object "OwlEars"
  | 3 => .object "OwlEars"
  | _ => .object "OwlEars"
abbrev wsX100 : List Cond := u_ws RX10 TX10 5
-- two fields of one name: no nmX10
theorem tyX10_ok : ∀ k, k < 5 → parseFieldDescriptor (TX10 k).2.2.1 = some (tyX10 k) := by decide +kernel
abbrev cX10_init : ByteArray := prog_12_method_1_code
def yX10_init : MethodName := ⟨RX10, "<init>", "(LOwlEars;I)V"⟩
def dkwX10_init_0 : List UInt8 := [42, 43, 181, 0, 3, 42, 43, 28, 183, 0, 9, 177]
abbrev dktX10_init_0 : List UInt8 := dkwX10_init_0 ++ []
theorem dksX10_init_0 : cX10_init.data.toList.drop 0 = dktX10_init_0 := by decide +kernel
theorem dX10_init_0 : decode cX10_init 0 = .ok (.aload_n 0, 1) := dk_42 (dk_at dksX10_init_0 0 rfl rfl)
theorem dX10_init_1 : decode cX10_init 1 = .ok (.aload_n 1, 1) := dk_43 (dk_at dksX10_init_0 1 rfl rfl)
theorem dX10_init_2 : decode cX10_init 2 = .ok (.putfield 3, 3) := dk_181 0 3 (dk_at dksX10_init_0 2 rfl rfl)
theorem dX10_init_5 : decode cX10_init 5 = .ok (.aload_n 0, 1) := dk_42 (dk_at dksX10_init_0 5 rfl rfl)
theorem dX10_init_6 : decode cX10_init 6 = .ok (.aload_n 1, 1) := dk_43 (dk_at dksX10_init_0 6 rfl rfl)
theorem dX10_init_7 : decode cX10_init 7 = .ok (.iload_n 2, 1) := dk_28 (dk_at dksX10_init_0 7 rfl rfl)
theorem dX10_init_8 : decode cX10_init 8 = .ok (.invokespecial 9, 3) := dk_183 0 9 (dk_at dksX10_init_0 8 rfl rfl)
theorem dX10_init_11 : decode cX10_init 11 = .ok (.return_, 1) := dk_177 (dk_at dksX10_init_0 11 rfl rfl)
abbrev cX10_kind : ByteArray := prog_12_method_2_code
def yX10_kind : MethodName := ⟨RX10, "kind", "()I"⟩
def dkwX10_kind_0 : List UInt8 := [4, 42, 183, 0, 15, 96, 172]
abbrev dktX10_kind_0 : List UInt8 := dkwX10_kind_0 ++ []
theorem dksX10_kind_0 : cX10_kind.data.toList.drop 0 = dktX10_kind_0 := by decide +kernel
theorem dX10_kind_0 : decode cX10_kind 0 = .ok (.iconst 1, 1) := dk_4 (dk_at dksX10_kind_0 0 rfl rfl)
theorem dX10_kind_1 : decode cX10_kind 1 = .ok (.aload_n 0, 1) := dk_42 (dk_at dksX10_kind_0 1 rfl rfl)
theorem dX10_kind_2 : decode cX10_kind 2 = .ok (.invokespecial 15, 3) := dk_183 0 15 (dk_at dksX10_kind_0 2 rfl rfl)
theorem dX10_kind_5 : decode cX10_kind 5 = .ok (.iadd, 1) := dk_96 (dk_at dksX10_kind_0 5 rfl rfl)
theorem dX10_kind_6 : decode cX10_kind 6 = .ok (.ireturn, 1) := dk_172 (dk_at dksX10_kind_0 6 rfl rfl)
abbrev cX10_takes : ByteArray := prog_12_method_3_code
def yX10_takes : MethodName := ⟨RX10, "takes", "()I"⟩
def dkwX10_takes_0 : List UInt8 := [42, 183, 0, 19, 42, 5, 182, 0, 22, 96, 172]
abbrev dktX10_takes_0 : List UInt8 := dkwX10_takes_0 ++ []
theorem dksX10_takes_0 : cX10_takes.data.toList.drop 0 = dktX10_takes_0 := by decide +kernel
theorem dX10_takes_0 : decode cX10_takes 0 = .ok (.aload_n 0, 1) := dk_42 (dk_at dksX10_takes_0 0 rfl rfl)
theorem dX10_takes_1 : decode cX10_takes 1 = .ok (.invokespecial 19, 3) := dk_183 0 19 (dk_at dksX10_takes_0 1 rfl rfl)
theorem dX10_takes_4 : decode cX10_takes 4 = .ok (.aload_n 0, 1) := dk_42 (dk_at dksX10_takes_0 4 rfl rfl)
theorem dX10_takes_5 : decode cX10_takes 5 = .ok (.iconst 2, 1) := dk_5 (dk_at dksX10_takes_0 5 rfl rfl)
theorem dX10_takes_6 : decode cX10_takes 6 = .ok (.invokevirtual 22, 3) := dk_182 0 22 (dk_at dksX10_takes_0 6 rfl rfl)
theorem dX10_takes_9 : decode cX10_takes 9 = .ok (.iadd, 1) := dk_96 (dk_at dksX10_takes_0 9 rfl rfl)
theorem dX10_takes_10 : decode cX10_takes 10 = .ok (.ireturn, 1) := dk_172 (dk_at dksX10_takes_0 10 rfl rfl)
abbrev cX10_deep : ByteArray := prog_12_method_4_code
def yX10_deep : MethodName := ⟨RX10, "deep", "()I"⟩
def dkwX10_deep_0 : List UInt8 := [42, 183, 0, 26, 42, 5, 182, 0, 22, 96, 172]
abbrev dktX10_deep_0 : List UInt8 := dkwX10_deep_0 ++ []
theorem dksX10_deep_0 : cX10_deep.data.toList.drop 0 = dktX10_deep_0 := by decide +kernel
theorem dX10_deep_0 : decode cX10_deep 0 = .ok (.aload_n 0, 1) := dk_42 (dk_at dksX10_deep_0 0 rfl rfl)
theorem dX10_deep_1 : decode cX10_deep 1 = .ok (.invokespecial 26, 3) := dk_183 0 26 (dk_at dksX10_deep_0 1 rfl rfl)
theorem dX10_deep_4 : decode cX10_deep 4 = .ok (.aload_n 0, 1) := dk_42 (dk_at dksX10_deep_0 4 rfl rfl)
theorem dX10_deep_5 : decode cX10_deep 5 = .ok (.iconst 2, 1) := dk_5 (dk_at dksX10_deep_0 5 rfl rfl)
theorem dX10_deep_6 : decode cX10_deep 6 = .ok (.invokevirtual 22, 3) := dk_182 0 22 (dk_at dksX10_deep_0 6 rfl rfl)
theorem dX10_deep_9 : decode cX10_deep 9 = .ok (.iadd, 1) := dk_96 (dk_at dksX10_deep_0 9 rfl rfl)
theorem dX10_deep_10 : decode cX10_deep 10 = .ok (.ireturn, 1) := dk_172 (dk_at dksX10_deep_0 10 rfl rfl)
theorem q121 : (Jvm.Cond.initialized "OwlEars$Waited") ∈ lw_all := lw_g (lw_at lw_m1 14 rfl) rfl
theorem q377 : (Jvm.Cond.instantiable "OwlEars$Waited" (5 : Nat)) ∈ lw_all := lw_g (lw_at lw_m2 30 rfl) rfl
theorem q379 : (Jvm.Cond.instanceMethod ({ cls := "OwlEars$Waited", name := "<init>", desc := "(LOwlEars;I)V" } : Jvm.MethodName)) ∈ lw_all := lw_g (lw_at lw_m2 32 rfl) rfl
theorem q380 : (Jvm.Cond.code ({ cls := "OwlEars$Waited", name := "<init>", desc := "(LOwlEars;I)V" } : Jvm.MethodName) prog_12_method_1_code (3 : Nat) (Option.none : Option Jvm.ClassFile.FieldType)) ∈ lw_all := lw_g (lw_at lw_m2 33 rfl) rfl
theorem q381 : (Jvm.Cond.methodLink "OwlEars$Waited" (9 : Nat) ({ cls := "OwlEars$Late", name := "<init>", desc := "(LOwlEars;I)V" } : Jvm.MethodName)) ∈ lw_all := lw_g (lw_at lw_m2 34 rfl) rfl
theorem q382 : (Jvm.Cond.fieldLink "OwlEars$Waited" (3 : Nat) "OwlEars$Waited" "this$0" "LOwlEars;") ∈ lw_all := lw_g (lw_at lw_m2 35 rfl) rfl
theorem q383 : (Jvm.Cond.laysFinal "OwlEars$Waited" "OwlEars$Waited" "this$0" "LOwlEars;") ∈ lw_all := lw_g (lw_at lw_m2 36 rfl) rfl
theorem q384 : (Jvm.Cond.soleField "OwlEars$Waited" "this$0") ∈ lw_all := lw_g (lw_at lw_m2 37 rfl) rfl
theorem q385 : (Jvm.Cond.laysFinal "OwlEars$Waited" "OwlEars$Late" "this$0" "LOwlEars;") ∈ lw_all := lw_g (lw_at lw_m2 38 rfl) rfl
theorem q386 : (Jvm.Cond.laysFinal "OwlEars$Waited" "OwlEars$Aslant" "this$0" "LOwlEars;") ∈ lw_all := lw_g (lw_at lw_m2 39 rfl) rfl
theorem q387 : (Jvm.Cond.laysFinal "OwlEars$Waited" "OwlEars$Strike" "number" "I") ∈ lw_all := lw_g (lw_at lw_m2 40 rfl) rfl
theorem q388 : (Jvm.Cond.laysFinal "OwlEars$Waited" "OwlEars$Strike" "this$0" "LOwlEars;") ∈ lw_all := lw_g (lw_at lw_m2 41 rfl) rfl
theorem q389 : (Jvm.Cond.superclass "OwlEars$Waited" "OwlEars$Late") ∈ lw_all := lw_g (lw_at lw_m2 42 rfl) rfl
theorem q570 : (Jvm.Cond.selects "OwlEars$Waited" ({ cls := "OwlEars$Strike", name := "kind", desc := "()I" } : Jvm.MethodName) ({ cls := "OwlEars$Waited", name := "kind", desc := "()I" } : Jvm.MethodName)) ∈ lw_all := lw_g (lw_at lw_m2 223 rfl) rfl
theorem q571 : (Jvm.Cond.instanceMethod ({ cls := "OwlEars$Waited", name := "kind", desc := "()I" } : Jvm.MethodName)) ∈ lw_all := lw_g (lw_at lw_m2 224 rfl) rfl
theorem q572 : (Jvm.Cond.code ({ cls := "OwlEars$Waited", name := "kind", desc := "()I" } : Jvm.MethodName) prog_12_method_2_code (1 : Nat) (Option.some Jvm.ClassFile.FieldType.int)) ∈ lw_all := lw_g (lw_at lw_m2 225 rfl) rfl
theorem q573 : (Jvm.Cond.methodLink "OwlEars$Waited" (15 : Nat) ({ cls := "OwlEars$Late", name := "kind", desc := "()I" } : Jvm.MethodName)) ∈ lw_all := lw_g (lw_at lw_m2 226 rfl) rfl
theorem q601 : (Jvm.Cond.selects "OwlEars$Waited" ({ cls := "OwlEars$Strike", name := "told", desc := "(I)I" } : Jvm.MethodName) ({ cls := "OwlEars$Strike", name := "told", desc := "(I)I" } : Jvm.MethodName)) ∈ lw_all := lw_g (lw_at lw_m3 14 rfl) rfl
theorem q641 : (Jvm.Cond.castable "OwlEars$Waited" "OwlEars$Strikes") ∈ lw_tbl := lw_at lw_m3 54 rfl
theorem q642 : (Jvm.Cond.selects "OwlEars$Waited" ({ cls := "OwlEars$Strikes", name := "takes", desc := "()I" } : Jvm.MethodName) ({ cls := "OwlEars$Waited", name := "takes", desc := "()I" } : Jvm.MethodName)) ∈ lw_all := lw_g (lw_at lw_m3 55 rfl) rfl
theorem q643 : (Jvm.Cond.unhidden "OwlEars$Waited" "takes" "()I") ∈ lw_tbl := lw_at lw_m3 56 rfl
theorem q644 : (Jvm.Cond.instanceMethod ({ cls := "OwlEars$Waited", name := "takes", desc := "()I" } : Jvm.MethodName)) ∈ lw_all := lw_g (lw_at lw_m3 57 rfl) rfl
theorem q645 : (Jvm.Cond.publicMethod ({ cls := "OwlEars$Waited", name := "takes", desc := "()I" } : Jvm.MethodName)) ∈ lw_tbl := lw_at lw_m3 58 rfl
theorem q646 : (Jvm.Cond.code ({ cls := "OwlEars$Waited", name := "takes", desc := "()I" } : Jvm.MethodName) prog_12_method_3_code (1 : Nat) (Option.some Jvm.ClassFile.FieldType.int)) ∈ lw_all := lw_g (lw_at lw_m3 59 rfl) rfl
theorem q647 : (Jvm.Cond.methodLink "OwlEars$Waited" (19 : Nat) ({ cls := "OwlEars$Late", name := "takes", desc := "()I" } : Jvm.MethodName)) ∈ lw_all := lw_g (lw_at lw_m3 60 rfl) rfl
theorem q648 : (Jvm.Cond.methodLink "OwlEars$Waited" (22 : Nat) ({ cls := "OwlEars$Waited", name := "told", desc := "(I)I" } : Jvm.MethodName)) ∈ lw_all := lw_g (lw_at lw_m3 61 rfl) rfl
theorem q649 : (Jvm.Cond.sameMethod "OwlEars$Waited" "OwlEars$Strike" "told" "(I)I") ∈ lw_all := lw_g (lw_at lw_m3 62 rfl) rfl
theorem q651 : (Jvm.Cond.selects "OwlEars$Waited" ({ cls := "OwlEars$Waited", name := "told", desc := "(I)I" } : Jvm.MethodName) ({ cls := "OwlEars$Strike", name := "told", desc := "(I)I" } : Jvm.MethodName)) ∈ lw_all := lw_g (lw_at lw_m3 64 rfl) rfl
theorem q672 : (Jvm.Cond.selects "OwlEars$Waited" ({ cls := "OwlEars$Strike", name := "deep", desc := "()I" } : Jvm.MethodName) ({ cls := "OwlEars$Waited", name := "deep", desc := "()I" } : Jvm.MethodName)) ∈ lw_all := lw_g (lw_at lw_m3 85 rfl) rfl
theorem q673 : (Jvm.Cond.instanceMethod ({ cls := "OwlEars$Waited", name := "deep", desc := "()I" } : Jvm.MethodName)) ∈ lw_all := lw_g (lw_at lw_m3 86 rfl) rfl
theorem q674 : (Jvm.Cond.code ({ cls := "OwlEars$Waited", name := "deep", desc := "()I" } : Jvm.MethodName) prog_12_method_4_code (1 : Nat) (Option.some Jvm.ClassFile.FieldType.int)) ∈ lw_all := lw_g (lw_at lw_m3 87 rfl) rfl
theorem q675 : (Jvm.Cond.methodLink "OwlEars$Waited" (26 : Nat) ({ cls := "OwlEars$Late", name := "deep", desc := "()I" } : Jvm.MethodName)) ∈ lw_all := lw_g (lw_at lw_m3 88 rfl) rfl
theorem q694 : (Jvm.Cond.selects "OwlEars$Waited" ({ cls := "OwlEars$Strike", name := "wide", desc := "()I" } : Jvm.MethodName) ({ cls := "OwlEars$Aslant", name := "wide", desc := "()I" } : Jvm.MethodName)) ∈ lw_all := lw_g (lw_at lw_m3 107 rfl) rfl
theorem q745 : (Jvm.Cond.selects "OwlEars$Waited" ({ cls := "OwlEars$Strikes", name := "wide", desc := "()I" } : Jvm.MethodName) ({ cls := "OwlEars$Aslant", name := "wide", desc := "()I" } : Jvm.MethodName)) ∈ lw_all := lw_g (lw_at lw_m3 158 rfl) rfl
theorem q746 : (Jvm.Cond.unhidden "OwlEars$Waited" "wide" "()I") ∈ lw_tbl := lw_at lw_m3 159 rfl
theorem q768 : (Jvm.Cond.selects "OwlEars$Waited" ({ cls := "OwlEars$Strikes", name := "deep", desc := "()I" } : Jvm.MethodName) ({ cls := "OwlEars$Waited", name := "deep", desc := "()I" } : Jvm.MethodName)) ∈ lw_all := lw_g (lw_at lw_m3 181 rfl) rfl
theorem q769 : (Jvm.Cond.unhidden "OwlEars$Waited" "deep" "()I") ∈ lw_tbl := lw_at lw_m3 182 rfl
theorem q770 : (Jvm.Cond.publicMethod ({ cls := "OwlEars$Waited", name := "deep", desc := "()I" } : Jvm.MethodName)) ∈ lw_tbl := lw_at lw_m3 183 rfl
theorem q1213 : (Jvm.Cond.selects "OwlEars$Waited" ({ cls := "OwlEars$Strike", name := "isUnder", desc := "(I)Z" } : Jvm.MethodName) ({ cls := "OwlEars$Late", name := "isUnder", desc := "(I)Z" } : Jvm.MethodName)) ∈ lw_all := lw_g (lw_at lw_m5 146 rfl) rfl
theorem q1889 : (Jvm.Cond.castable "OwlEars$Waited" "OwlEars$Strike") ∈ lw_tbl := lw_at lw_m8 102 rfl
theorem q1892 : (Jvm.Cond.castable "OwlEars$Waited" "OwlEars$Aslant") ∈ lw_tbl := lw_at lw_m8 105 rfl
theorem q1893 : (Jvm.Cond.castable "OwlEars$Waited" "OwlEars$Late") ∈ lw_tbl := lw_at lw_m8 106 rfl
theorem in_X10 : ∀ w ∈ wsX100, w ∈ lw_all := lw_in wsX100 [387, 388, 386, 385, 383] (by decide +kernel) (by decide +kernel)
/-! OwlEars$Leafs -/
set_option maxRecDepth 100000
def RX11 : String := "OwlEars$Leafs"
def TX11 : u_T := fun k => match k with
  | 0 => ("OwlEars$Strike", "number", "I", true)
  | 1 => ("OwlEars$Strike", "this$0", "LOwlEars;", true)
  | _ => ("OwlEars$Leafs", "this$0", "LOwlEars;", true)
def tyX11 : Nat → FieldType := fun k => match k with
  | 0 => .int
  | 1 => .object "OwlEars"
  | _ => .object "OwlEars"
abbrev wsX110 : List Cond := u_ws RX11 TX11 3
-- two fields of one name: no nmX11
theorem tyX11_ok : ∀ k, k < 3 → parseFieldDescriptor (TX11 k).2.2.1 = some (tyX11 k) := by decide +kernel
abbrev cX11_init : ByteArray := prog_5_method_1_code
def yX11_init : MethodName := ⟨RX11, "<init>", "(LOwlEars;I)V"⟩
def dkwX11_init_0 : List UInt8 := [42, 43, 181, 0, 1, 42, 43, 28, 183, 0, 7, 177]
abbrev dktX11_init_0 : List UInt8 := dkwX11_init_0 ++ []
theorem dksX11_init_0 : cX11_init.data.toList.drop 0 = dktX11_init_0 := by decide +kernel
theorem dX11_init_0 : decode cX11_init 0 = .ok (.aload_n 0, 1) := dk_42 (dk_at dksX11_init_0 0 rfl rfl)
theorem dX11_init_1 : decode cX11_init 1 = .ok (.aload_n 1, 1) := dk_43 (dk_at dksX11_init_0 1 rfl rfl)
theorem dX11_init_2 : decode cX11_init 2 = .ok (.putfield 1, 3) := dk_181 0 1 (dk_at dksX11_init_0 2 rfl rfl)
theorem dX11_init_5 : decode cX11_init 5 = .ok (.aload_n 0, 1) := dk_42 (dk_at dksX11_init_0 5 rfl rfl)
theorem dX11_init_6 : decode cX11_init 6 = .ok (.aload_n 1, 1) := dk_43 (dk_at dksX11_init_0 6 rfl rfl)
theorem dX11_init_7 : decode cX11_init 7 = .ok (.iload_n 2, 1) := dk_28 (dk_at dksX11_init_0 7 rfl rfl)
theorem dX11_init_8 : decode cX11_init 8 = .ok (.invokespecial 7, 3) := dk_183 0 7 (dk_at dksX11_init_0 8 rfl rfl)
theorem dX11_init_11 : decode cX11_init 11 = .ok (.return_, 1) := dk_177 (dk_at dksX11_init_0 11 rfl rfl)
abbrev cX11_kind : ByteArray := prog_5_method_2_code
def yX11_kind : MethodName := ⟨RX11, "kind", "()I"⟩
def dkwX11_kind_0 : List UInt8 := [8, 42, 183, 0, 13, 96, 172]
abbrev dktX11_kind_0 : List UInt8 := dkwX11_kind_0 ++ []
theorem dksX11_kind_0 : cX11_kind.data.toList.drop 0 = dktX11_kind_0 := by decide +kernel
theorem dX11_kind_0 : decode cX11_kind 0 = .ok (.iconst 5, 1) := dk_8 (dk_at dksX11_kind_0 0 rfl rfl)
theorem dX11_kind_1 : decode cX11_kind 1 = .ok (.aload_n 0, 1) := dk_42 (dk_at dksX11_kind_0 1 rfl rfl)
theorem dX11_kind_2 : decode cX11_kind 2 = .ok (.invokespecial 13, 3) := dk_183 0 13 (dk_at dksX11_kind_0 2 rfl rfl)
theorem dX11_kind_5 : decode cX11_kind 5 = .ok (.iadd, 1) := dk_96 (dk_at dksX11_kind_0 5 rfl rfl)
theorem dX11_kind_6 : decode cX11_kind 6 = .ok (.ireturn, 1) := dk_172 (dk_at dksX11_kind_0 6 rfl rfl)
abbrev cX11_takes : ByteArray := prog_5_method_3_code
def yX11_takes : MethodName := ⟨RX11, "takes", "()I"⟩
theorem dX11_takes_0 : decode cX11_takes 0 = .ok (.iconst 1, 1) := by decide +kernel
theorem dX11_takes_1 : decode cX11_takes 1 = .ok (.ireturn, 1) := by decide +kernel
abbrev cX11_deep : ByteArray := prog_5_method_4_code
def yX11_deep : MethodName := ⟨RX11, "deep", "()I"⟩
theorem dX11_deep_0 : decode cX11_deep 0 = .ok (.iconst 0, 1) := by decide +kernel
theorem dX11_deep_1 : decode cX11_deep 1 = .ok (.ireturn, 1) := by decide +kernel
abbrev cX11_wide : ByteArray := prog_5_method_5_code
def yX11_wide : MethodName := ⟨RX11, "wide", "()I"⟩
def dkwX11_wide_0 : List UInt8 := [5, 42, 183, 0, 17, 96, 172]
abbrev dktX11_wide_0 : List UInt8 := dkwX11_wide_0 ++ []
theorem dksX11_wide_0 : cX11_wide.data.toList.drop 0 = dktX11_wide_0 := by decide +kernel
theorem dX11_wide_0 : decode cX11_wide 0 = .ok (.iconst 2, 1) := dk_5 (dk_at dksX11_wide_0 0 rfl rfl)
theorem dX11_wide_1 : decode cX11_wide 1 = .ok (.aload_n 0, 1) := dk_42 (dk_at dksX11_wide_0 1 rfl rfl)
theorem dX11_wide_2 : decode cX11_wide 2 = .ok (.invokespecial 17, 3) := dk_183 0 17 (dk_at dksX11_wide_0 2 rfl rfl)
theorem dX11_wide_5 : decode cX11_wide 5 = .ok (.iadd, 1) := dk_96 (dk_at dksX11_wide_0 5 rfl rfl)
theorem dX11_wide_6 : decode cX11_wide 6 = .ok (.ireturn, 1) := dk_172 (dk_at dksX11_wide_0 6 rfl rfl)
theorem q122 : (Jvm.Cond.initialized "OwlEars$Leafs") ∈ lw_all := lw_g (lw_at lw_m1 15 rfl) rfl
theorem q391 : (Jvm.Cond.instantiable "OwlEars$Leafs" (3 : Nat)) ∈ lw_all := lw_g (lw_at lw_m2 44 rfl) rfl
theorem q393 : (Jvm.Cond.instanceMethod ({ cls := "OwlEars$Leafs", name := "<init>", desc := "(LOwlEars;I)V" } : Jvm.MethodName)) ∈ lw_all := lw_g (lw_at lw_m2 46 rfl) rfl
theorem q394 : (Jvm.Cond.code ({ cls := "OwlEars$Leafs", name := "<init>", desc := "(LOwlEars;I)V" } : Jvm.MethodName) prog_5_method_1_code (3 : Nat) (Option.none : Option Jvm.ClassFile.FieldType)) ∈ lw_all := lw_g (lw_at lw_m2 47 rfl) rfl
theorem q395 : (Jvm.Cond.methodLink "OwlEars$Leafs" (7 : Nat) ({ cls := "OwlEars$Strike", name := "<init>", desc := "(LOwlEars;I)V" } : Jvm.MethodName)) ∈ lw_all := lw_g (lw_at lw_m2 48 rfl) rfl
theorem q396 : (Jvm.Cond.fieldLink "OwlEars$Leafs" (1 : Nat) "OwlEars$Leafs" "this$0" "LOwlEars;") ∈ lw_all := lw_g (lw_at lw_m2 49 rfl) rfl
theorem q397 : (Jvm.Cond.laysFinal "OwlEars$Leafs" "OwlEars$Leafs" "this$0" "LOwlEars;") ∈ lw_all := lw_g (lw_at lw_m2 50 rfl) rfl
theorem q398 : (Jvm.Cond.soleField "OwlEars$Leafs" "this$0") ∈ lw_all := lw_g (lw_at lw_m2 51 rfl) rfl
theorem q399 : (Jvm.Cond.laysFinal "OwlEars$Leafs" "OwlEars$Strike" "number" "I") ∈ lw_all := lw_g (lw_at lw_m2 52 rfl) rfl
theorem q400 : (Jvm.Cond.laysFinal "OwlEars$Leafs" "OwlEars$Strike" "this$0" "LOwlEars;") ∈ lw_all := lw_g (lw_at lw_m2 53 rfl) rfl
theorem q401 : (Jvm.Cond.superclass "OwlEars$Leafs" "OwlEars$Strike") ∈ lw_all := lw_g (lw_at lw_m2 54 rfl) rfl
theorem q565 : (Jvm.Cond.selects "OwlEars$Leafs" ({ cls := "OwlEars$Strike", name := "kind", desc := "()I" } : Jvm.MethodName) ({ cls := "OwlEars$Leafs", name := "kind", desc := "()I" } : Jvm.MethodName)) ∈ lw_all := lw_g (lw_at lw_m2 218 rfl) rfl
theorem q566 : (Jvm.Cond.instanceMethod ({ cls := "OwlEars$Leafs", name := "kind", desc := "()I" } : Jvm.MethodName)) ∈ lw_all := lw_g (lw_at lw_m2 219 rfl) rfl
theorem q567 : (Jvm.Cond.code ({ cls := "OwlEars$Leafs", name := "kind", desc := "()I" } : Jvm.MethodName) prog_5_method_2_code (1 : Nat) (Option.some Jvm.ClassFile.FieldType.int)) ∈ lw_all := lw_g (lw_at lw_m2 220 rfl) rfl
theorem q568 : (Jvm.Cond.methodLink "OwlEars$Leafs" (13 : Nat) ({ cls := "OwlEars$Strike", name := "kind", desc := "()I" } : Jvm.MethodName)) ∈ lw_all := lw_g (lw_at lw_m2 221 rfl) rfl
theorem q599 : (Jvm.Cond.selects "OwlEars$Leafs" ({ cls := "OwlEars$Strike", name := "told", desc := "(I)I" } : Jvm.MethodName) ({ cls := "OwlEars$Strike", name := "told", desc := "(I)I" } : Jvm.MethodName)) ∈ lw_all := lw_g (lw_at lw_m3 12 rfl) rfl
theorem q627 : (Jvm.Cond.castable "OwlEars$Leafs" "OwlEars$Strikes") ∈ lw_tbl := lw_at lw_m3 40 rfl
theorem q628 : (Jvm.Cond.selects "OwlEars$Leafs" ({ cls := "OwlEars$Strikes", name := "takes", desc := "()I" } : Jvm.MethodName) ({ cls := "OwlEars$Leafs", name := "takes", desc := "()I" } : Jvm.MethodName)) ∈ lw_all := lw_g (lw_at lw_m3 41 rfl) rfl
theorem q629 : (Jvm.Cond.unhidden "OwlEars$Leafs" "takes" "()I") ∈ lw_tbl := lw_at lw_m3 42 rfl
theorem q630 : (Jvm.Cond.instanceMethod ({ cls := "OwlEars$Leafs", name := "takes", desc := "()I" } : Jvm.MethodName)) ∈ lw_all := lw_g (lw_at lw_m3 43 rfl) rfl
theorem q631 : (Jvm.Cond.publicMethod ({ cls := "OwlEars$Leafs", name := "takes", desc := "()I" } : Jvm.MethodName)) ∈ lw_tbl := lw_at lw_m3 44 rfl
theorem q632 : (Jvm.Cond.code ({ cls := "OwlEars$Leafs", name := "takes", desc := "()I" } : Jvm.MethodName) prog_5_method_3_code (1 : Nat) (Option.some Jvm.ClassFile.FieldType.int)) ∈ lw_all := lw_g (lw_at lw_m3 45 rfl) rfl
theorem q668 : (Jvm.Cond.selects "OwlEars$Leafs" ({ cls := "OwlEars$Strike", name := "deep", desc := "()I" } : Jvm.MethodName) ({ cls := "OwlEars$Leafs", name := "deep", desc := "()I" } : Jvm.MethodName)) ∈ lw_all := lw_g (lw_at lw_m3 81 rfl) rfl
theorem q669 : (Jvm.Cond.instanceMethod ({ cls := "OwlEars$Leafs", name := "deep", desc := "()I" } : Jvm.MethodName)) ∈ lw_all := lw_g (lw_at lw_m3 82 rfl) rfl
theorem q670 : (Jvm.Cond.code ({ cls := "OwlEars$Leafs", name := "deep", desc := "()I" } : Jvm.MethodName) prog_5_method_4_code (1 : Nat) (Option.some Jvm.ClassFile.FieldType.int)) ∈ lw_all := lw_g (lw_at lw_m3 83 rfl) rfl
theorem q689 : (Jvm.Cond.selects "OwlEars$Leafs" ({ cls := "OwlEars$Strike", name := "wide", desc := "()I" } : Jvm.MethodName) ({ cls := "OwlEars$Leafs", name := "wide", desc := "()I" } : Jvm.MethodName)) ∈ lw_all := lw_g (lw_at lw_m3 102 rfl) rfl
theorem q690 : (Jvm.Cond.instanceMethod ({ cls := "OwlEars$Leafs", name := "wide", desc := "()I" } : Jvm.MethodName)) ∈ lw_all := lw_g (lw_at lw_m3 103 rfl) rfl
theorem q691 : (Jvm.Cond.code ({ cls := "OwlEars$Leafs", name := "wide", desc := "()I" } : Jvm.MethodName) prog_5_method_5_code (1 : Nat) (Option.some Jvm.ClassFile.FieldType.int)) ∈ lw_all := lw_g (lw_at lw_m3 104 rfl) rfl
theorem q692 : (Jvm.Cond.methodLink "OwlEars$Leafs" (17 : Nat) ({ cls := "OwlEars$Strike", name := "wide", desc := "()I" } : Jvm.MethodName)) ∈ lw_all := lw_g (lw_at lw_m3 105 rfl) rfl
theorem q738 : (Jvm.Cond.selects "OwlEars$Leafs" ({ cls := "OwlEars$Strikes", name := "wide", desc := "()I" } : Jvm.MethodName) ({ cls := "OwlEars$Leafs", name := "wide", desc := "()I" } : Jvm.MethodName)) ∈ lw_all := lw_g (lw_at lw_m3 151 rfl) rfl
theorem q739 : (Jvm.Cond.unhidden "OwlEars$Leafs" "wide" "()I") ∈ lw_tbl := lw_at lw_m3 152 rfl
theorem q740 : (Jvm.Cond.publicMethod ({ cls := "OwlEars$Leafs", name := "wide", desc := "()I" } : Jvm.MethodName)) ∈ lw_tbl := lw_at lw_m3 153 rfl
theorem q759 : (Jvm.Cond.selects "OwlEars$Leafs" ({ cls := "OwlEars$Strikes", name := "deep", desc := "()I" } : Jvm.MethodName) ({ cls := "OwlEars$Leafs", name := "deep", desc := "()I" } : Jvm.MethodName)) ∈ lw_all := lw_g (lw_at lw_m3 172 rfl) rfl
theorem q760 : (Jvm.Cond.unhidden "OwlEars$Leafs" "deep" "()I") ∈ lw_tbl := lw_at lw_m3 173 rfl
theorem q761 : (Jvm.Cond.publicMethod ({ cls := "OwlEars$Leafs", name := "deep", desc := "()I" } : Jvm.MethodName)) ∈ lw_tbl := lw_at lw_m3 174 rfl
theorem q1211 : (Jvm.Cond.selects "OwlEars$Leafs" ({ cls := "OwlEars$Strike", name := "isUnder", desc := "(I)Z" } : Jvm.MethodName) ({ cls := "OwlEars$Strike", name := "isUnder", desc := "(I)Z" } : Jvm.MethodName)) ∈ lw_all := lw_g (lw_at lw_m5 144 rfl) rfl
theorem q1887 : (Jvm.Cond.castable "OwlEars$Leafs" "OwlEars$Strike") ∈ lw_tbl := lw_at lw_m8 100 rfl
theorem in_X11 : ∀ w ∈ wsX110, w ∈ lw_all := lw_in wsX110 [399, 400, 397] (by decide +kernel) (by decide +kernel)
/-! OwlEars$Crusted -/
set_option maxRecDepth 100000
def RX12 : String := "OwlEars$Crusted"
def TX12 : u_T := fun k => match k with
  | 0 => ("OwlEars$Strike", "number", "I", true)
  | 1 => ("OwlEars$Strike", "this$0", "LOwlEars;", true)
  | 2 => ("OwlEars$Sure", "this$0", "LOwlEars;", true)
  | _ => ("OwlEars$Crusted", "this$0", "LOwlEars;", true)
def tyX12 : Nat → FieldType := fun k => match k with
  | 0 => .int
  | 1 => .object "OwlEars"
  | 2 => .object "OwlEars"
  | _ => .object "OwlEars"
abbrev wsX120 : List Cond := u_ws RX12 TX12 4
-- two fields of one name: no nmX12
theorem tyX12_ok : ∀ k, k < 4 → parseFieldDescriptor (TX12 k).2.2.1 = some (tyX12 k) := by decide +kernel
abbrev cX12_init : ByteArray := prog_3_method_1_code
def yX12_init : MethodName := ⟨RX12, "<init>", "(LOwlEars;I)V"⟩
def dkwX12_init_0 : List UInt8 := [42, 43, 181, 0, 1, 42, 43, 28, 183, 0, 7, 177]
abbrev dktX12_init_0 : List UInt8 := dkwX12_init_0 ++ []
theorem dksX12_init_0 : cX12_init.data.toList.drop 0 = dktX12_init_0 := by decide +kernel
theorem dX12_init_0 : decode cX12_init 0 = .ok (.aload_n 0, 1) := dk_42 (dk_at dksX12_init_0 0 rfl rfl)
theorem dX12_init_1 : decode cX12_init 1 = .ok (.aload_n 1, 1) := dk_43 (dk_at dksX12_init_0 1 rfl rfl)
theorem dX12_init_2 : decode cX12_init 2 = .ok (.putfield 1, 3) := dk_181 0 1 (dk_at dksX12_init_0 2 rfl rfl)
theorem dX12_init_5 : decode cX12_init 5 = .ok (.aload_n 0, 1) := dk_42 (dk_at dksX12_init_0 5 rfl rfl)
theorem dX12_init_6 : decode cX12_init 6 = .ok (.aload_n 1, 1) := dk_43 (dk_at dksX12_init_0 6 rfl rfl)
theorem dX12_init_7 : decode cX12_init 7 = .ok (.iload_n 2, 1) := dk_28 (dk_at dksX12_init_0 7 rfl rfl)
theorem dX12_init_8 : decode cX12_init 8 = .ok (.invokespecial 7, 3) := dk_183 0 7 (dk_at dksX12_init_0 8 rfl rfl)
theorem dX12_init_11 : decode cX12_init 11 = .ok (.return_, 1) := dk_177 (dk_at dksX12_init_0 11 rfl rfl)
abbrev cX12_kind : ByteArray := prog_3_method_2_code
def yX12_kind : MethodName := ⟨RX12, "kind", "()I"⟩
def dkwX12_kind_0 : List UInt8 := [8, 42, 183, 0, 13, 96, 172]
abbrev dktX12_kind_0 : List UInt8 := dkwX12_kind_0 ++ []
theorem dksX12_kind_0 : cX12_kind.data.toList.drop 0 = dktX12_kind_0 := by decide +kernel
theorem dX12_kind_0 : decode cX12_kind 0 = .ok (.iconst 5, 1) := dk_8 (dk_at dksX12_kind_0 0 rfl rfl)
theorem dX12_kind_1 : decode cX12_kind 1 = .ok (.aload_n 0, 1) := dk_42 (dk_at dksX12_kind_0 1 rfl rfl)
theorem dX12_kind_2 : decode cX12_kind 2 = .ok (.invokespecial 13, 3) := dk_183 0 13 (dk_at dksX12_kind_0 2 rfl rfl)
theorem dX12_kind_5 : decode cX12_kind 5 = .ok (.iadd, 1) := dk_96 (dk_at dksX12_kind_0 5 rfl rfl)
theorem dX12_kind_6 : decode cX12_kind 6 = .ok (.ireturn, 1) := dk_172 (dk_at dksX12_kind_0 6 rfl rfl)
abbrev cX12_takes : ByteArray := prog_3_method_3_code
def yX12_takes : MethodName := ⟨RX12, "takes", "()I"⟩
def dkwX12_takes_0 : List UInt8 := [42, 183, 0, 17, 4, 96, 172]
abbrev dktX12_takes_0 : List UInt8 := dkwX12_takes_0 ++ []
theorem dksX12_takes_0 : cX12_takes.data.toList.drop 0 = dktX12_takes_0 := by decide +kernel
theorem dX12_takes_0 : decode cX12_takes 0 = .ok (.aload_n 0, 1) := dk_42 (dk_at dksX12_takes_0 0 rfl rfl)
theorem dX12_takes_1 : decode cX12_takes 1 = .ok (.invokespecial 17, 3) := dk_183 0 17 (dk_at dksX12_takes_0 1 rfl rfl)
theorem dX12_takes_4 : decode cX12_takes 4 = .ok (.iconst 1, 1) := dk_4 (dk_at dksX12_takes_0 4 rfl rfl)
theorem dX12_takes_5 : decode cX12_takes 5 = .ok (.iadd, 1) := dk_96 (dk_at dksX12_takes_0 5 rfl rfl)
theorem dX12_takes_6 : decode cX12_takes 6 = .ok (.ireturn, 1) := dk_172 (dk_at dksX12_takes_0 6 rfl rfl)
abbrev cX12_deep : ByteArray := prog_3_method_4_code
def yX12_deep : MethodName := ⟨RX12, "deep", "()I"⟩
def dkwX12_deep_0 : List UInt8 := [42, 42, 183, 0, 20, 182, 0, 23, 172]
abbrev dktX12_deep_0 : List UInt8 := dkwX12_deep_0 ++ []
theorem dksX12_deep_0 : cX12_deep.data.toList.drop 0 = dktX12_deep_0 := by decide +kernel
theorem dX12_deep_0 : decode cX12_deep 0 = .ok (.aload_n 0, 1) := dk_42 (dk_at dksX12_deep_0 0 rfl rfl)
theorem dX12_deep_1 : decode cX12_deep 1 = .ok (.aload_n 0, 1) := dk_42 (dk_at dksX12_deep_0 1 rfl rfl)
theorem dX12_deep_2 : decode cX12_deep 2 = .ok (.invokespecial 20, 3) := dk_183 0 20 (dk_at dksX12_deep_0 2 rfl rfl)
theorem dX12_deep_5 : decode cX12_deep 5 = .ok (.invokevirtual 23, 3) := dk_182 0 23 (dk_at dksX12_deep_0 5 rfl rfl)
theorem dX12_deep_8 : decode cX12_deep 8 = .ok (.ireturn, 1) := dk_172 (dk_at dksX12_deep_0 8 rfl rfl)
theorem q123 : (Jvm.Cond.initialized "OwlEars$Crusted") ∈ lw_all := lw_g (lw_at lw_m1 16 rfl) rfl
theorem q403 : (Jvm.Cond.instantiable "OwlEars$Crusted" (4 : Nat)) ∈ lw_all := lw_g (lw_at lw_m2 56 rfl) rfl
theorem q405 : (Jvm.Cond.instanceMethod ({ cls := "OwlEars$Crusted", name := "<init>", desc := "(LOwlEars;I)V" } : Jvm.MethodName)) ∈ lw_all := lw_g (lw_at lw_m2 58 rfl) rfl
theorem q406 : (Jvm.Cond.code ({ cls := "OwlEars$Crusted", name := "<init>", desc := "(LOwlEars;I)V" } : Jvm.MethodName) prog_3_method_1_code (3 : Nat) (Option.none : Option Jvm.ClassFile.FieldType)) ∈ lw_all := lw_g (lw_at lw_m2 59 rfl) rfl
theorem q407 : (Jvm.Cond.methodLink "OwlEars$Crusted" (7 : Nat) ({ cls := "OwlEars$Sure", name := "<init>", desc := "(LOwlEars;I)V" } : Jvm.MethodName)) ∈ lw_all := lw_g (lw_at lw_m2 60 rfl) rfl
theorem q408 : (Jvm.Cond.fieldLink "OwlEars$Crusted" (1 : Nat) "OwlEars$Crusted" "this$0" "LOwlEars;") ∈ lw_all := lw_g (lw_at lw_m2 61 rfl) rfl
theorem q409 : (Jvm.Cond.laysFinal "OwlEars$Crusted" "OwlEars$Crusted" "this$0" "LOwlEars;") ∈ lw_all := lw_g (lw_at lw_m2 62 rfl) rfl
theorem q410 : (Jvm.Cond.soleField "OwlEars$Crusted" "this$0") ∈ lw_all := lw_g (lw_at lw_m2 63 rfl) rfl
theorem q411 : (Jvm.Cond.laysFinal "OwlEars$Crusted" "OwlEars$Sure" "this$0" "LOwlEars;") ∈ lw_all := lw_g (lw_at lw_m2 64 rfl) rfl
theorem q412 : (Jvm.Cond.laysFinal "OwlEars$Crusted" "OwlEars$Strike" "number" "I") ∈ lw_all := lw_g (lw_at lw_m2 65 rfl) rfl
theorem q413 : (Jvm.Cond.laysFinal "OwlEars$Crusted" "OwlEars$Strike" "this$0" "LOwlEars;") ∈ lw_all := lw_g (lw_at lw_m2 66 rfl) rfl
theorem q414 : (Jvm.Cond.superclass "OwlEars$Crusted" "OwlEars$Sure") ∈ lw_all := lw_g (lw_at lw_m2 67 rfl) rfl
theorem q554 : (Jvm.Cond.selects "OwlEars$Crusted" ({ cls := "OwlEars$Strike", name := "kind", desc := "()I" } : Jvm.MethodName) ({ cls := "OwlEars$Crusted", name := "kind", desc := "()I" } : Jvm.MethodName)) ∈ lw_all := lw_g (lw_at lw_m2 207 rfl) rfl
theorem q555 : (Jvm.Cond.instanceMethod ({ cls := "OwlEars$Crusted", name := "kind", desc := "()I" } : Jvm.MethodName)) ∈ lw_all := lw_g (lw_at lw_m2 208 rfl) rfl
theorem q556 : (Jvm.Cond.code ({ cls := "OwlEars$Crusted", name := "kind", desc := "()I" } : Jvm.MethodName) prog_3_method_2_code (1 : Nat) (Option.some Jvm.ClassFile.FieldType.int)) ∈ lw_all := lw_g (lw_at lw_m2 209 rfl) rfl
theorem q557 : (Jvm.Cond.methodLink "OwlEars$Crusted" (13 : Nat) ({ cls := "OwlEars$Sure", name := "kind", desc := "()I" } : Jvm.MethodName)) ∈ lw_all := lw_g (lw_at lw_m2 210 rfl) rfl
theorem q597 : (Jvm.Cond.selects "OwlEars$Crusted" ({ cls := "OwlEars$Strike", name := "told", desc := "(I)I" } : Jvm.MethodName) ({ cls := "OwlEars$Strike", name := "told", desc := "(I)I" } : Jvm.MethodName)) ∈ lw_all := lw_g (lw_at lw_m3 10 rfl) rfl
theorem q604 : (Jvm.Cond.castable "OwlEars$Crusted" "OwlEars$Strikes") ∈ lw_tbl := lw_at lw_m3 17 rfl
theorem q605 : (Jvm.Cond.selects "OwlEars$Crusted" ({ cls := "OwlEars$Strikes", name := "takes", desc := "()I" } : Jvm.MethodName) ({ cls := "OwlEars$Crusted", name := "takes", desc := "()I" } : Jvm.MethodName)) ∈ lw_all := lw_g (lw_at lw_m3 18 rfl) rfl
theorem q606 : (Jvm.Cond.unhidden "OwlEars$Crusted" "takes" "()I") ∈ lw_tbl := lw_at lw_m3 19 rfl
theorem q607 : (Jvm.Cond.instanceMethod ({ cls := "OwlEars$Crusted", name := "takes", desc := "()I" } : Jvm.MethodName)) ∈ lw_all := lw_g (lw_at lw_m3 20 rfl) rfl
theorem q608 : (Jvm.Cond.publicMethod ({ cls := "OwlEars$Crusted", name := "takes", desc := "()I" } : Jvm.MethodName)) ∈ lw_tbl := lw_at lw_m3 21 rfl
theorem q609 : (Jvm.Cond.code ({ cls := "OwlEars$Crusted", name := "takes", desc := "()I" } : Jvm.MethodName) prog_3_method_3_code (1 : Nat) (Option.some Jvm.ClassFile.FieldType.int)) ∈ lw_all := lw_g (lw_at lw_m3 22 rfl) rfl
theorem q610 : (Jvm.Cond.methodLink "OwlEars$Crusted" (17 : Nat) ({ cls := "OwlEars$Sure", name := "takes", desc := "()I" } : Jvm.MethodName)) ∈ lw_all := lw_g (lw_at lw_m3 23 rfl) rfl
theorem q615 : (Jvm.Cond.unhidden "OwlEars$Crusted" "half" "(I)I") ∈ lw_tbl := lw_at lw_m3 28 rfl
theorem q660 : (Jvm.Cond.selects "OwlEars$Crusted" ({ cls := "OwlEars$Strike", name := "deep", desc := "()I" } : Jvm.MethodName) ({ cls := "OwlEars$Crusted", name := "deep", desc := "()I" } : Jvm.MethodName)) ∈ lw_all := lw_g (lw_at lw_m3 73 rfl) rfl
theorem q661 : (Jvm.Cond.instanceMethod ({ cls := "OwlEars$Crusted", name := "deep", desc := "()I" } : Jvm.MethodName)) ∈ lw_all := lw_g (lw_at lw_m3 74 rfl) rfl
theorem q662 : (Jvm.Cond.code ({ cls := "OwlEars$Crusted", name := "deep", desc := "()I" } : Jvm.MethodName) prog_3_method_4_code (1 : Nat) (Option.some Jvm.ClassFile.FieldType.int)) ∈ lw_all := lw_g (lw_at lw_m3 75 rfl) rfl
theorem q663 : (Jvm.Cond.methodLink "OwlEars$Crusted" (20 : Nat) ({ cls := "OwlEars$Sure", name := "deep", desc := "()I" } : Jvm.MethodName)) ∈ lw_all := lw_g (lw_at lw_m3 76 rfl) rfl
theorem q687 : (Jvm.Cond.selects "OwlEars$Crusted" ({ cls := "OwlEars$Strike", name := "wide", desc := "()I" } : Jvm.MethodName) ({ cls := "OwlEars$Strike", name := "wide", desc := "()I" } : Jvm.MethodName)) ∈ lw_all := lw_g (lw_at lw_m3 100 rfl) rfl
theorem q733 : (Jvm.Cond.selects "OwlEars$Crusted" ({ cls := "OwlEars$Strikes", name := "wide", desc := "()I" } : Jvm.MethodName) ({ cls := "OwlEars$Strike", name := "wide", desc := "()I" } : Jvm.MethodName)) ∈ lw_all := lw_g (lw_at lw_m3 146 rfl) rfl
theorem q734 : (Jvm.Cond.unhidden "OwlEars$Crusted" "wide" "()I") ∈ lw_tbl := lw_at lw_m3 147 rfl
theorem q754 : (Jvm.Cond.selects "OwlEars$Crusted" ({ cls := "OwlEars$Strikes", name := "deep", desc := "()I" } : Jvm.MethodName) ({ cls := "OwlEars$Crusted", name := "deep", desc := "()I" } : Jvm.MethodName)) ∈ lw_all := lw_g (lw_at lw_m3 167 rfl) rfl
theorem q755 : (Jvm.Cond.unhidden "OwlEars$Crusted" "deep" "()I") ∈ lw_tbl := lw_at lw_m3 168 rfl
theorem q756 : (Jvm.Cond.publicMethod ({ cls := "OwlEars$Crusted", name := "deep", desc := "()I" } : Jvm.MethodName)) ∈ lw_tbl := lw_at lw_m3 169 rfl
theorem q1203 : (Jvm.Cond.selects "OwlEars$Crusted" ({ cls := "OwlEars$Strike", name := "isUnder", desc := "(I)Z" } : Jvm.MethodName) ({ cls := "OwlEars$Sure", name := "isUnder", desc := "(I)Z" } : Jvm.MethodName)) ∈ lw_all := lw_g (lw_at lw_m5 136 rfl) rfl
theorem q1885 : (Jvm.Cond.castable "OwlEars$Crusted" "OwlEars$Strike") ∈ lw_tbl := lw_at lw_m8 98 rfl
theorem q1890 : (Jvm.Cond.castable "OwlEars$Crusted" "OwlEars$Sure") ∈ lw_tbl := lw_at lw_m8 103 rfl
theorem in_X12 : ∀ w ∈ wsX120, w ∈ lw_all := lw_in wsX120 [412, 413, 411, 409] (by decide +kernel) (by decide +kernel)
/-! OwlEars$Strikes -/
set_option maxRecDepth 100000
def RX14 : String := "OwlEars$Strikes"
abbrev cX14_half : ByteArray := prog_10_method_4_code
def yX14_half : MethodName := ⟨RX14, "half", "(I)I"⟩
def dkwX14_half_0 : List UInt8 := [27, 5, 108, 172]
abbrev dktX14_half_0 : List UInt8 := dkwX14_half_0 ++ []
theorem dksX14_half_0 : cX14_half.data.toList.drop 0 = dktX14_half_0 := by decide +kernel
theorem dX14_half_0 : decode cX14_half 0 = .ok (.iload_n 1, 1) := dk_27 (dk_at dksX14_half_0 0 rfl rfl)
theorem dX14_half_1 : decode cX14_half 1 = .ok (.iconst 2, 1) := dk_5 (dk_at dksX14_half_0 1 rfl rfl)
theorem dX14_half_2 : decode cX14_half 2 = .ok (.idiv, 1) := dk_108 (dk_at dksX14_half_0 2 rfl rfl)
theorem dX14_half_3 : decode cX14_half 3 = .ok (.ireturn, 1) := dk_172 (dk_at dksX14_half_0 3 rfl rfl)
theorem q581 : (Jvm.Cond.interfaceMethod "OwlEars$Strikes" "OwlEars$Strikes" "takes" "()I") ∈ lw_tbl := lw_at lw_m2 234 rfl
theorem q582 : (Jvm.Cond.declares ({ cls := "OwlEars$Strikes", name := "takes", desc := "()I" } : Jvm.MethodName)) ∈ lw_tbl := lw_at lw_m2 235 rfl
theorem q614 : (Jvm.Cond.declares ({ cls := "OwlEars$Strikes", name := "half", desc := "(I)I" } : Jvm.MethodName)) ∈ lw_tbl := lw_at lw_m3 27 rfl
theorem q617 : (Jvm.Cond.instanceMethod ({ cls := "OwlEars$Strikes", name := "half", desc := "(I)I" } : Jvm.MethodName)) ∈ lw_all := lw_g (lw_at lw_m3 30 rfl) rfl
theorem q618 : (Jvm.Cond.publicMethod ({ cls := "OwlEars$Strikes", name := "half", desc := "(I)I" } : Jvm.MethodName)) ∈ lw_tbl := lw_at lw_m3 31 rfl
theorem q619 : (Jvm.Cond.code ({ cls := "OwlEars$Strikes", name := "half", desc := "(I)I" } : Jvm.MethodName) prog_10_method_4_code (2 : Nat) (Option.some Jvm.ClassFile.FieldType.int)) ∈ lw_all := lw_g (lw_at lw_m3 32 rfl) rfl
theorem q728 : (Jvm.Cond.interfaceMethod "OwlEars$Strikes" "OwlEars$Strikes" "wide" "()I") ∈ lw_tbl := lw_at lw_m3 141 rfl
theorem q729 : (Jvm.Cond.declares ({ cls := "OwlEars$Strikes", name := "wide", desc := "()I" } : Jvm.MethodName)) ∈ lw_tbl := lw_at lw_m3 142 rfl
theorem q749 : (Jvm.Cond.interfaceMethod "OwlEars$Strikes" "OwlEars$Strikes" "deep" "()I") ∈ lw_tbl := lw_at lw_m3 162 rfl
theorem q750 : (Jvm.Cond.declares ({ cls := "OwlEars$Strikes", name := "deep", desc := "()I" } : Jvm.MethodName)) ∈ lw_tbl := lw_at lw_m3 163 rfl
