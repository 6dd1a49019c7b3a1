/-! PartedSide$Fault -/
set_option maxRecDepth 100000
def RX1 : String := "PartedSide$Fault"
def TX1 : u_T := fun k => match k with
  | 0 => ("java/lang/Throwable", "cause", "Ljava/lang/Throwable;", false)
  | 1 => ("java/lang/Throwable", "stackTrace", "[Ljava/lang/StackTraceElement;", false)
  | 2 => ("java/lang/Throwable", "suppressedExceptions", "Ljava/util/List;", false)
  | 3 => ("java/lang/Throwable", "detailMessage", "Ljava/lang/String;", false)
  | 4 => ("java/lang/Throwable", "backtrace", "Ljava/lang/Object;", false)
  | 5 => ("java/lang/Throwable", "depth", "I", false)
  | 6 => ("PartedSide$Fault", "number", "I", false)
  | _ => ("PartedSide$Fault", "place", "I", false)
def tyX1 : Nat → FieldType := fun k => match k with
  | 0 => .object "java/lang/Throwable"
  | 1 => .array (.object "java/lang/StackTraceElement")
  | 2 => .object "java/util/List"
  | 3 => .object "java/lang/String"
  | 4 => .object "java/lang/Object"
  | 5 => .int
  | 6 => .int
  | _ => .int
abbrev wsX10 : List Cond := u_ws RX1 TX1 8
theorem nmX1 : ∀ a, a < 8 → ∀ b, b < 8 → a ≠ b → (TX1 a).2.1 ≠ (TX1 b).2.1 := by decide +kernel
theorem tyX1_ok : ∀ k, k < 8 → parseFieldDescriptor (TX1 k).2.2.1 = some (tyX1 k) := by decide +kernel
abbrev cX1_init : ByteArray := prog_7_method_1_code
def yX1_init : MethodName := ⟨RX1, "<init>", "()V"⟩
def dkwX1_init_0 : List UInt8 := [42, 18, 1, 1, 3, 3, 183, 0, 3, 177]
abbrev dktX1_init_0 : List UInt8 := dkwX1_init_0 ++ []
theorem dksX1_init_0 : cX1_init.data.toList.drop 0 = dktX1_init_0 := by decide +kernel
theorem dX1_init_0 : decode cX1_init 0 = .ok (.aload_n 0, 1) := dk_42 (dk_at dksX1_init_0 0 rfl rfl)
theorem dX1_init_1 : decode cX1_init 1 = .ok (.ldc 1, 2) := dk_18 1 (dk_at dksX1_init_0 1 rfl rfl)
theorem dX1_init_3 : decode cX1_init 3 = .ok (.aconst_null, 1) := dk_1 (dk_at dksX1_init_0 3 rfl rfl)
theorem dX1_init_4 : decode cX1_init 4 = .ok (.iconst 0, 1) := dk_3 (dk_at dksX1_init_0 4 rfl rfl)
theorem dX1_init_5 : decode cX1_init 5 = .ok (.iconst 0, 1) := dk_3 (dk_at dksX1_init_0 5 rfl rfl)
theorem dX1_init_6 : decode cX1_init 6 = .ok (.invokespecial 3, 3) := dk_183 0 3 (dk_at dksX1_init_0 6 rfl rfl)
theorem dX1_init_9 : decode cX1_init 9 = .ok (.return_, 1) := dk_177 (dk_at dksX1_init_0 9 rfl rfl)
abbrev cX1_of : ByteArray := prog_7_method_2_code
def yX1_of : MethodName := ⟨RX1, "of", "(II)LPartedSide$Fault;"⟩
def dkwX1_of_0 : List UInt8 := [42, 27, 181, 0, 9, 42, 28, 181, 0, 15, 42, 176]
abbrev dktX1_of_0 : List UInt8 := dkwX1_of_0 ++ []
theorem dksX1_of_0 : cX1_of.data.toList.drop 0 = dktX1_of_0 := by decide +kernel
theorem dX1_of_0 : decode cX1_of 0 = .ok (.aload_n 0, 1) := dk_42 (dk_at dksX1_of_0 0 rfl rfl)
theorem dX1_of_1 : decode cX1_of 1 = .ok (.iload_n 1, 1) := dk_27 (dk_at dksX1_of_0 1 rfl rfl)
theorem dX1_of_2 : decode cX1_of 2 = .ok (.putfield 9, 3) := dk_181 0 9 (dk_at dksX1_of_0 2 rfl rfl)
theorem dX1_of_5 : decode cX1_of 5 = .ok (.aload_n 0, 1) := dk_42 (dk_at dksX1_of_0 5 rfl rfl)
theorem dX1_of_6 : decode cX1_of 6 = .ok (.iload_n 2, 1) := dk_28 (dk_at dksX1_of_0 6 rfl rfl)
theorem dX1_of_7 : decode cX1_of 7 = .ok (.putfield 15, 3) := dk_181 0 15 (dk_at dksX1_of_0 7 rfl rfl)
theorem dX1_of_10 : decode cX1_of 10 = .ok (.aload_n 0, 1) := dk_42 (dk_at dksX1_of_0 10 rfl rfl)
theorem dX1_of_11 : decode cX1_of 11 = .ok (.areturn, 1) := dk_176 (dk_at dksX1_of_0 11 rfl rfl)
theorem q112 : (Jvm.Cond.initialized "PartedSide$Fault") ∈ lw_all := lw_g (lw_at lw_m1 5 rfl) rfl
theorem q155 : (Jvm.Cond.instantiable "PartedSide$Fault" (8 : Nat)) ∈ lw_all := lw_g (lw_at lw_m1 48 rfl) rfl
theorem q156 : (Jvm.Cond.castable "PartedSide$Fault" "PartedSide$Fault") ∈ lw_tbl := lw_at lw_m1 49 rfl
theorem q163 : (Jvm.Cond.selects "PartedSide$Fault" ({ cls := "java/lang/Throwable", name := "fillInStackTrace", desc := "(I)Ljava/lang/Throwable;" } : Jvm.MethodName) ({ cls := "java/lang/Throwable", name := "fillInStackTrace", desc := "(I)Ljava/lang/Throwable;" } : Jvm.MethodName)) ∈ lw_all := lw_g (lw_at lw_m1 56 rfl) rfl
theorem q164 : (Jvm.Cond.selects "PartedSide$Fault" ({ cls := "java/lang/Throwable", name := "fillInStackTrace", desc := "()Ljava/lang/Throwable;" } : Jvm.MethodName) ({ cls := "java/lang/Throwable", name := "fillInStackTrace", desc := "()Ljava/lang/Throwable;" } : Jvm.MethodName)) ∈ lw_all := lw_g (lw_at lw_m1 57 rfl) rfl
theorem q165 : (Jvm.Cond.lays "PartedSide$Fault" "java/lang/Throwable" "cause" "Ljava/lang/Throwable;") ∈ lw_all := lw_g (lw_at lw_m1 58 rfl) rfl
theorem q167 : (Jvm.Cond.lays "PartedSide$Fault" "java/lang/Throwable" "stackTrace" "[Ljava/lang/StackTraceElement;") ∈ lw_all := lw_g (lw_at lw_m1 60 rfl) rfl
theorem q169 : (Jvm.Cond.lays "PartedSide$Fault" "java/lang/Throwable" "suppressedExceptions" "Ljava/util/List;") ∈ lw_all := lw_g (lw_at lw_m1 62 rfl) rfl
theorem q171 : (Jvm.Cond.lays "PartedSide$Fault" "java/lang/Throwable" "detailMessage" "Ljava/lang/String;") ∈ lw_all := lw_g (lw_at lw_m1 64 rfl) rfl
theorem q173 : (Jvm.Cond.lays "PartedSide$Fault" "java/lang/Throwable" "backtrace" "Ljava/lang/Object;") ∈ lw_all := lw_g (lw_at lw_m1 66 rfl) rfl
theorem q194 : (Jvm.Cond.instanceMethod ({ cls := "PartedSide$Fault", name := "<init>", desc := "()V" } : Jvm.MethodName)) ∈ lw_all := lw_g (lw_at lw_m1 87 rfl) rfl
theorem q195 : (Jvm.Cond.code ({ cls := "PartedSide$Fault", name := "<init>", desc := "()V" } : Jvm.MethodName) prog_7_method_1_code (1 : Nat) (Option.none : Option Jvm.ClassFile.FieldType)) ∈ lw_all := lw_g (lw_at lw_m1 88 rfl) rfl
theorem q196 : (Jvm.Cond.stringRef "PartedSide$Fault" (1 : Nat) "") ∈ lw_tbl := lw_at lw_m1 89 rfl
theorem q197 : (Jvm.Cond.methodLink "PartedSide$Fault" (3 : Nat) ({ cls := "java/lang/RuntimeException", name := "<init>", desc := "(Ljava/lang/String;Ljava/lang/Throwable;ZZ)V" } : Jvm.MethodName)) ∈ lw_all := lw_g (lw_at lw_m1 90 rfl) rfl
theorem q206 : (Jvm.Cond.fieldLink "PartedSide$Fault" (9 : Nat) "PartedSide$Fault" "number" "I") ∈ lw_all := lw_g (lw_at lw_m1 99 rfl) rfl
theorem q208 : (Jvm.Cond.fieldLink "PartedSide$Fault" (15 : Nat) "PartedSide$Fault" "place" "I") ∈ lw_all := lw_g (lw_at lw_m1 101 rfl) rfl
theorem q215 : (Jvm.Cond.lays "PartedSide$Fault" "PartedSide$Fault" "number" "I") ∈ lw_all := lw_g (lw_at lw_m1 108 rfl) rfl
theorem q216 : (Jvm.Cond.soleField "PartedSide$Fault" "number") ∈ lw_all := lw_g (lw_at lw_m1 109 rfl) rfl
theorem q217 : (Jvm.Cond.lays "PartedSide$Fault" "PartedSide$Fault" "place" "I") ∈ lw_all := lw_g (lw_at lw_m1 110 rfl) rfl
theorem q218 : (Jvm.Cond.soleField "PartedSide$Fault" "place") ∈ lw_all := lw_g (lw_at lw_m1 111 rfl) rfl
theorem q223 : (Jvm.Cond.lays "PartedSide$Fault" "java/lang/Throwable" "depth" "I") ∈ lw_all := lw_g (lw_at lw_m1 116 rfl) rfl
theorem q226 : (Jvm.Cond.superclass "PartedSide$Fault" "java/lang/RuntimeException") ∈ lw_all := lw_g (lw_at lw_m1 119 rfl) rfl
theorem q711 : (Jvm.Cond.instanceMethod ({ cls := "PartedSide$Fault", name := "of", desc := "(II)LPartedSide$Fault;" } : Jvm.MethodName)) ∈ lw_all := lw_g (lw_at lw_m3 124 rfl) rfl
theorem q712 : (Jvm.Cond.selects "PartedSide$Fault" ({ cls := "PartedSide$Fault", name := "of", desc := "(II)LPartedSide$Fault;" } : Jvm.MethodName) ({ cls := "PartedSide$Fault", name := "of", desc := "(II)LPartedSide$Fault;" } : Jvm.MethodName)) ∈ lw_all := lw_g (lw_at lw_m3 125 rfl) rfl
theorem q713 : (Jvm.Cond.code ({ cls := "PartedSide$Fault", name := "of", desc := "(II)LPartedSide$Fault;" } : Jvm.MethodName) prog_7_method_2_code (3 : Nat) (Option.some (Jvm.ClassFile.FieldType.object "PartedSide$Fault"))) ∈ lw_all := lw_g (lw_at lw_m3 126 rfl) rfl
theorem q1071 : (Jvm.Cond.selects "PartedSide$Fault" ({ cls := "java/lang/Object", name := "getClass", desc := "()Ljava/lang/Class;" } : Jvm.MethodName) ({ cls := "java/lang/Object", name := "getClass", desc := "()Ljava/lang/Class;" } : Jvm.MethodName)) ∈ lw_all := lw_g (lw_at lw_m5 4 rfl) rfl
theorem q2090 : (Jvm.Cond.castable "PartedSide$Fault" "java/lang/Object") ∈ lw_tbl := lw_at lw_m9 63 rfl
theorem in_X1 : ∀ w ∈ wsX10, w ∈ lw_all := lw_in wsX10 [165, 167, 169, 171, 173, 223, 215, 217] (by decide +kernel) (by decide +kernel)
/-! PartedSide$Tokens -/
set_option maxRecDepth 100000
def RX2 : String := "PartedSide$Tokens"
def TX2 : u_T := fun k => match k with
  | 0 => ("PartedSide$Tokens", "words", "[Ljava/lang/String;", true)
  | 1 => ("PartedSide$Tokens", "tape", "[B", true)
  | 2 => ("PartedSide$Tokens", "taped", "I", false)
  | 3 => ("PartedSide$Tokens", "sort", "[B", true)
  | 4 => ("PartedSide$Tokens", "from", "[S", true)
  | 5 => ("PartedSide$Tokens", "to", "[S", true)
  | 6 => ("PartedSide$Tokens", "what", "[S", true)
  | _ => ("PartedSide$Tokens", "many", "I", false)
def tyX2 : Nat → FieldType := fun k => match k with
  | 0 => .array (.object "java/lang/String")
  | 1 => .array .byte
  | 2 => .int
  | 3 => .array .byte
  | 4 => .array .short
  | 5 => .array .short
  | 6 => .array .short
  | _ => .int
abbrev wsX20 : List Cond := u_ws RX2 TX2 8
theorem nmX2 : ∀ a, a < 8 → ∀ b, b < 8 → a ≠ b → (TX2 a).2.1 ≠ (TX2 b).2.1 := by decide +kernel
theorem tyX2_ok : ∀ k, k < 8 → parseFieldDescriptor (TX2 k).2.2.1 = some (tyX2 k) := by decide +kernel
abbrev cX2_init : ByteArray := prog_18_method_1_code
def yX2_init : MethodName := ⟨RX2, "<init>", "()V"⟩
def dkwX2_init_7 : List UInt8 := [181, 0, 70, 42, 17, 7, 209, 188, 9, 181, 0, 73, 177]
abbrev dktX2_init_7 : List UInt8 := dkwX2_init_7 ++ []
def dkwX2_init_6 : List UInt8 := [17, 7, 209, 188, 8, 181, 0, 63, 42, 17, 7, 209, 188, 9, 181, 0, 66, 42, 17, 7, 209, 188, 9]
abbrev dktX2_init_6 : List UInt8 := dkwX2_init_6 ++ dktX2_init_7
def dkwX2_init_5 : List UInt8 := [16, 19, 18, 49, 83, 89, 16, 20, 18, 51, 83, 181, 0, 53, 42, 17, 7, 208, 188, 8, 181, 0, 59, 42]
abbrev dktX2_init_5 : List UInt8 := dkwX2_init_5 ++ dktX2_init_6
def dkwX2_init_4 : List UInt8 := [16, 15, 18, 41, 83, 89, 16, 16, 18, 43, 83, 89, 16, 17, 18, 45, 83, 89, 16, 18, 18, 47, 83, 89]
abbrev dktX2_init_4 : List UInt8 := dkwX2_init_4 ++ dktX2_init_5
def dkwX2_init_3 : List UInt8 := [16, 11, 18, 33, 83, 89, 16, 12, 18, 35, 83, 89, 16, 13, 18, 37, 83, 89, 16, 14, 18, 39, 83, 89]
abbrev dktX2_init_3 : List UInt8 := dkwX2_init_3 ++ dktX2_init_4
def dkwX2_init_2 : List UInt8 := [16, 7, 18, 25, 83, 89, 16, 8, 18, 27, 83, 89, 16, 9, 18, 29, 83, 89, 16, 10, 18, 31, 83, 89]
abbrev dktX2_init_2 : List UInt8 := dkwX2_init_2 ++ dktX2_init_3
def dkwX2_init_1 : List UInt8 := [83, 89, 6, 18, 17, 83, 89, 7, 18, 19, 83, 89, 8, 18, 21, 83, 89, 16, 6, 18, 23, 83, 89]
abbrev dktX2_init_1 : List UInt8 := dkwX2_init_1 ++ dktX2_init_2
def dkwX2_init_0 : List UInt8 := [42, 183, 0, 3, 42, 16, 21, 189, 0, 9, 89, 3, 18, 11, 83, 89, 4, 18, 13, 83, 89, 5, 18, 15]
abbrev dktX2_init_0 : List UInt8 := dkwX2_init_0 ++ dktX2_init_1
theorem dksX2_init_0 : cX2_init.data.toList.drop 0 = dktX2_init_0 := by decide +kernel
theorem dksX2_init_1 : cX2_init.data.toList.drop 24 = dktX2_init_1 := dk_seg dksX2_init_0 24 rfl rfl
theorem dksX2_init_2 : cX2_init.data.toList.drop 47 = dktX2_init_2 := dk_seg dksX2_init_1 23 rfl rfl
theorem dksX2_init_3 : cX2_init.data.toList.drop 71 = dktX2_init_3 := dk_seg dksX2_init_2 24 rfl rfl
theorem dksX2_init_4 : cX2_init.data.toList.drop 95 = dktX2_init_4 := dk_seg dksX2_init_3 24 rfl rfl
theorem dksX2_init_5 : cX2_init.data.toList.drop 119 = dktX2_init_5 := dk_seg dksX2_init_4 24 rfl rfl
theorem dksX2_init_6 : cX2_init.data.toList.drop 143 = dktX2_init_6 := dk_seg dksX2_init_5 24 rfl rfl
theorem dksX2_init_7 : cX2_init.data.toList.drop 166 = dktX2_init_7 := dk_seg dksX2_init_6 23 rfl rfl
theorem dX2_init_0 : decode cX2_init 0 = .ok (.aload_n 0, 1) := dk_42 (dk_at dksX2_init_0 0 rfl rfl)
theorem dX2_init_1 : decode cX2_init 1 = .ok (.invokespecial 3, 3) := dk_183 0 3 (dk_at dksX2_init_0 1 rfl rfl)
theorem dX2_init_4 : decode cX2_init 4 = .ok (.aload_n 0, 1) := dk_42 (dk_at dksX2_init_0 4 rfl rfl)
theorem dX2_init_5 : decode cX2_init 5 = .ok (.bipush 21, 2) := dk_16 21 (dk_at dksX2_init_0 5 rfl rfl)
theorem dX2_init_7 : decode cX2_init 7 = .ok (.anewarray 9, 3) := dk_189 0 9 (dk_at dksX2_init_0 7 rfl rfl)
theorem dX2_init_10 : decode cX2_init 10 = .ok (.dup, 1) := dk_89 (dk_at dksX2_init_0 10 rfl rfl)
theorem dX2_init_11 : decode cX2_init 11 = .ok (.iconst 0, 1) := dk_3 (dk_at dksX2_init_0 11 rfl rfl)
theorem dX2_init_12 : decode cX2_init 12 = .ok (.ldc 11, 2) := dk_18 11 (dk_at dksX2_init_0 12 rfl rfl)
theorem dX2_init_14 : decode cX2_init 14 = .ok (.aastore, 1) := dk_83 (dk_at dksX2_init_0 14 rfl rfl)
theorem dX2_init_15 : decode cX2_init 15 = .ok (.dup, 1) := dk_89 (dk_at dksX2_init_0 15 rfl rfl)
theorem dX2_init_16 : decode cX2_init 16 = .ok (.iconst 1, 1) := dk_4 (dk_at dksX2_init_0 16 rfl rfl)
theorem dX2_init_17 : decode cX2_init 17 = .ok (.ldc 13, 2) := dk_18 13 (dk_at dksX2_init_0 17 rfl rfl)
theorem dX2_init_19 : decode cX2_init 19 = .ok (.aastore, 1) := dk_83 (dk_at dksX2_init_0 19 rfl rfl)
theorem dX2_init_20 : decode cX2_init 20 = .ok (.dup, 1) := dk_89 (dk_at dksX2_init_0 20 rfl rfl)
theorem dX2_init_21 : decode cX2_init 21 = .ok (.iconst 2, 1) := dk_5 (dk_at dksX2_init_0 21 rfl rfl)
theorem dX2_init_22 : decode cX2_init 22 = .ok (.ldc 15, 2) := dk_18 15 (dk_at dksX2_init_0 22 rfl rfl)
theorem dX2_init_24 : decode cX2_init 24 = .ok (.aastore, 1) := dk_83 (dk_at dksX2_init_1 0 rfl rfl)
theorem dX2_init_25 : decode cX2_init 25 = .ok (.dup, 1) := dk_89 (dk_at dksX2_init_1 1 rfl rfl)
theorem dX2_init_26 : decode cX2_init 26 = .ok (.iconst 3, 1) := dk_6 (dk_at dksX2_init_1 2 rfl rfl)
theorem dX2_init_27 : decode cX2_init 27 = .ok (.ldc 17, 2) := dk_18 17 (dk_at dksX2_init_1 3 rfl rfl)
theorem dX2_init_29 : decode cX2_init 29 = .ok (.aastore, 1) := dk_83 (dk_at dksX2_init_1 5 rfl rfl)
theorem dX2_init_30 : decode cX2_init 30 = .ok (.dup, 1) := dk_89 (dk_at dksX2_init_1 6 rfl rfl)
theorem dX2_init_31 : decode cX2_init 31 = .ok (.iconst 4, 1) := dk_7 (dk_at dksX2_init_1 7 rfl rfl)
theorem dX2_init_32 : decode cX2_init 32 = .ok (.ldc 19, 2) := dk_18 19 (dk_at dksX2_init_1 8 rfl rfl)
theorem dX2_init_34 : decode cX2_init 34 = .ok (.aastore, 1) := dk_83 (dk_at dksX2_init_1 10 rfl rfl)
theorem dX2_init_35 : decode cX2_init 35 = .ok (.dup, 1) := dk_89 (dk_at dksX2_init_1 11 rfl rfl)
theorem dX2_init_36 : decode cX2_init 36 = .ok (.iconst 5, 1) := dk_8 (dk_at dksX2_init_1 12 rfl rfl)
theorem dX2_init_37 : decode cX2_init 37 = .ok (.ldc 21, 2) := dk_18 21 (dk_at dksX2_init_1 13 rfl rfl)
theorem dX2_init_39 : decode cX2_init 39 = .ok (.aastore, 1) := dk_83 (dk_at dksX2_init_1 15 rfl rfl)
theorem dX2_init_40 : decode cX2_init 40 = .ok (.dup, 1) := dk_89 (dk_at dksX2_init_1 16 rfl rfl)
theorem dX2_init_41 : decode cX2_init 41 = .ok (.bipush 6, 2) := dk_16 6 (dk_at dksX2_init_1 17 rfl rfl)
theorem dX2_init_43 : decode cX2_init 43 = .ok (.ldc 23, 2) := dk_18 23 (dk_at dksX2_init_1 19 rfl rfl)
theorem dX2_init_45 : decode cX2_init 45 = .ok (.aastore, 1) := dk_83 (dk_at dksX2_init_1 21 rfl rfl)
theorem dX2_init_46 : decode cX2_init 46 = .ok (.dup, 1) := dk_89 (dk_at dksX2_init_1 22 rfl rfl)
theorem dX2_init_47 : decode cX2_init 47 = .ok (.bipush 7, 2) := dk_16 7 (dk_at dksX2_init_2 0 rfl rfl)
theorem dX2_init_49 : decode cX2_init 49 = .ok (.ldc 25, 2) := dk_18 25 (dk_at dksX2_init_2 2 rfl rfl)
theorem dX2_init_51 : decode cX2_init 51 = .ok (.aastore, 1) := dk_83 (dk_at dksX2_init_2 4 rfl rfl)
theorem dX2_init_52 : decode cX2_init 52 = .ok (.dup, 1) := dk_89 (dk_at dksX2_init_2 5 rfl rfl)
theorem dX2_init_53 : decode cX2_init 53 = .ok (.bipush 8, 2) := dk_16 8 (dk_at dksX2_init_2 6 rfl rfl)
theorem dX2_init_55 : decode cX2_init 55 = .ok (.ldc 27, 2) := dk_18 27 (dk_at dksX2_init_2 8 rfl rfl)
theorem dX2_init_57 : decode cX2_init 57 = .ok (.aastore, 1) := dk_83 (dk_at dksX2_init_2 10 rfl rfl)
theorem dX2_init_58 : decode cX2_init 58 = .ok (.dup, 1) := dk_89 (dk_at dksX2_init_2 11 rfl rfl)
theorem dX2_init_59 : decode cX2_init 59 = .ok (.bipush 9, 2) := dk_16 9 (dk_at dksX2_init_2 12 rfl rfl)
theorem dX2_init_61 : decode cX2_init 61 = .ok (.ldc 29, 2) := dk_18 29 (dk_at dksX2_init_2 14 rfl rfl)
theorem dX2_init_63 : decode cX2_init 63 = .ok (.aastore, 1) := dk_83 (dk_at dksX2_init_2 16 rfl rfl)
theorem dX2_init_64 : decode cX2_init 64 = .ok (.dup, 1) := dk_89 (dk_at dksX2_init_2 17 rfl rfl)
theorem dX2_init_65 : decode cX2_init 65 = .ok (.bipush 10, 2) := dk_16 10 (dk_at dksX2_init_2 18 rfl rfl)
theorem dX2_init_67 : decode cX2_init 67 = .ok (.ldc 31, 2) := dk_18 31 (dk_at dksX2_init_2 20 rfl rfl)
theorem dX2_init_69 : decode cX2_init 69 = .ok (.aastore, 1) := dk_83 (dk_at dksX2_init_2 22 rfl rfl)
theorem dX2_init_70 : decode cX2_init 70 = .ok (.dup, 1) := dk_89 (dk_at dksX2_init_2 23 rfl rfl)
theorem dX2_init_71 : decode cX2_init 71 = .ok (.bipush 11, 2) := dk_16 11 (dk_at dksX2_init_3 0 rfl rfl)
theorem dX2_init_73 : decode cX2_init 73 = .ok (.ldc 33, 2) := dk_18 33 (dk_at dksX2_init_3 2 rfl rfl)
theorem dX2_init_75 : decode cX2_init 75 = .ok (.aastore, 1) := dk_83 (dk_at dksX2_init_3 4 rfl rfl)
theorem dX2_init_76 : decode cX2_init 76 = .ok (.dup, 1) := dk_89 (dk_at dksX2_init_3 5 rfl rfl)
theorem dX2_init_77 : decode cX2_init 77 = .ok (.bipush 12, 2) := dk_16 12 (dk_at dksX2_init_3 6 rfl rfl)
theorem dX2_init_79 : decode cX2_init 79 = .ok (.ldc 35, 2) := dk_18 35 (dk_at dksX2_init_3 8 rfl rfl)
theorem dX2_init_81 : decode cX2_init 81 = .ok (.aastore, 1) := dk_83 (dk_at dksX2_init_3 10 rfl rfl)
theorem dX2_init_82 : decode cX2_init 82 = .ok (.dup, 1) := dk_89 (dk_at dksX2_init_3 11 rfl rfl)
theorem dX2_init_83 : decode cX2_init 83 = .ok (.bipush 13, 2) := dk_16 13 (dk_at dksX2_init_3 12 rfl rfl)
theorem dX2_init_85 : decode cX2_init 85 = .ok (.ldc 37, 2) := dk_18 37 (dk_at dksX2_init_3 14 rfl rfl)
theorem dX2_init_87 : decode cX2_init 87 = .ok (.aastore, 1) := dk_83 (dk_at dksX2_init_3 16 rfl rfl)
theorem dX2_init_88 : decode cX2_init 88 = .ok (.dup, 1) := dk_89 (dk_at dksX2_init_3 17 rfl rfl)
theorem dX2_init_89 : decode cX2_init 89 = .ok (.bipush 14, 2) := dk_16 14 (dk_at dksX2_init_3 18 rfl rfl)
theorem dX2_init_91 : decode cX2_init 91 = .ok (.ldc 39, 2) := dk_18 39 (dk_at dksX2_init_3 20 rfl rfl)
theorem dX2_init_93 : decode cX2_init 93 = .ok (.aastore, 1) := dk_83 (dk_at dksX2_init_3 22 rfl rfl)
theorem dX2_init_94 : decode cX2_init 94 = .ok (.dup, 1) := dk_89 (dk_at dksX2_init_3 23 rfl rfl)
theorem dX2_init_95 : decode cX2_init 95 = .ok (.bipush 15, 2) := dk_16 15 (dk_at dksX2_init_4 0 rfl rfl)
theorem dX2_init_97 : decode cX2_init 97 = .ok (.ldc 41, 2) := dk_18 41 (dk_at dksX2_init_4 2 rfl rfl)
theorem dX2_init_99 : decode cX2_init 99 = .ok (.aastore, 1) := dk_83 (dk_at dksX2_init_4 4 rfl rfl)
theorem dX2_init_100 : decode cX2_init 100 = .ok (.dup, 1) := dk_89 (dk_at dksX2_init_4 5 rfl rfl)
theorem dX2_init_101 : decode cX2_init 101 = .ok (.bipush 16, 2) := dk_16 16 (dk_at dksX2_init_4 6 rfl rfl)
theorem dX2_init_103 : decode cX2_init 103 = .ok (.ldc 43, 2) := dk_18 43 (dk_at dksX2_init_4 8 rfl rfl)
theorem dX2_init_105 : decode cX2_init 105 = .ok (.aastore, 1) := dk_83 (dk_at dksX2_init_4 10 rfl rfl)
theorem dX2_init_106 : decode cX2_init 106 = .ok (.dup, 1) := dk_89 (dk_at dksX2_init_4 11 rfl rfl)
theorem dX2_init_107 : decode cX2_init 107 = .ok (.bipush 17, 2) := dk_16 17 (dk_at dksX2_init_4 12 rfl rfl)
theorem dX2_init_109 : decode cX2_init 109 = .ok (.ldc 45, 2) := dk_18 45 (dk_at dksX2_init_4 14 rfl rfl)
theorem dX2_init_111 : decode cX2_init 111 = .ok (.aastore, 1) := dk_83 (dk_at dksX2_init_4 16 rfl rfl)
theorem dX2_init_112 : decode cX2_init 112 = .ok (.dup, 1) := dk_89 (dk_at dksX2_init_4 17 rfl rfl)
theorem dX2_init_113 : decode cX2_init 113 = .ok (.bipush 18, 2) := dk_16 18 (dk_at dksX2_init_4 18 rfl rfl)
theorem dX2_init_115 : decode cX2_init 115 = .ok (.ldc 47, 2) := dk_18 47 (dk_at dksX2_init_4 20 rfl rfl)
theorem dX2_init_117 : decode cX2_init 117 = .ok (.aastore, 1) := dk_83 (dk_at dksX2_init_4 22 rfl rfl)
theorem dX2_init_118 : decode cX2_init 118 = .ok (.dup, 1) := dk_89 (dk_at dksX2_init_4 23 rfl rfl)
theorem dX2_init_119 : decode cX2_init 119 = .ok (.bipush 19, 2) := dk_16 19 (dk_at dksX2_init_5 0 rfl rfl)
theorem dX2_init_121 : decode cX2_init 121 = .ok (.ldc 49, 2) := dk_18 49 (dk_at dksX2_init_5 2 rfl rfl)
theorem dX2_init_123 : decode cX2_init 123 = .ok (.aastore, 1) := dk_83 (dk_at dksX2_init_5 4 rfl rfl)
theorem dX2_init_124 : decode cX2_init 124 = .ok (.dup, 1) := dk_89 (dk_at dksX2_init_5 5 rfl rfl)
theorem dX2_init_125 : decode cX2_init 125 = .ok (.bipush 20, 2) := dk_16 20 (dk_at dksX2_init_5 6 rfl rfl)
theorem dX2_init_127 : decode cX2_init 127 = .ok (.ldc 51, 2) := dk_18 51 (dk_at dksX2_init_5 8 rfl rfl)
theorem dX2_init_129 : decode cX2_init 129 = .ok (.aastore, 1) := dk_83 (dk_at dksX2_init_5 10 rfl rfl)
theorem dX2_init_130 : decode cX2_init 130 = .ok (.putfield 53, 3) := dk_181 0 53 (dk_at dksX2_init_5 11 rfl rfl)
theorem dX2_init_133 : decode cX2_init 133 = .ok (.aload_n 0, 1) := dk_42 (dk_at dksX2_init_5 14 rfl rfl)
theorem dX2_init_134 : decode cX2_init 134 = .ok (.sipush 2000, 3) := dk_17 7 208 (dk_at dksX2_init_5 15 rfl rfl)
theorem dX2_init_137 : decode cX2_init 137 = .ok (.newarray .byte, 2) := dk_188_8 (dk_at dksX2_init_5 18 rfl rfl)
theorem dX2_init_139 : decode cX2_init 139 = .ok (.putfield 59, 3) := dk_181 0 59 (dk_at dksX2_init_5 20 rfl rfl)
theorem dX2_init_142 : decode cX2_init 142 = .ok (.aload_n 0, 1) := dk_42 (dk_at dksX2_init_5 23 rfl rfl)
theorem dX2_init_143 : decode cX2_init 143 = .ok (.sipush 2001, 3) := dk_17 7 209 (dk_at dksX2_init_6 0 rfl rfl)
theorem dX2_init_146 : decode cX2_init 146 = .ok (.newarray .byte, 2) := dk_188_8 (dk_at dksX2_init_6 3 rfl rfl)
theorem dX2_init_148 : decode cX2_init 148 = .ok (.putfield 63, 3) := dk_181 0 63 (dk_at dksX2_init_6 5 rfl rfl)
theorem dX2_init_151 : decode cX2_init 151 = .ok (.aload_n 0, 1) := dk_42 (dk_at dksX2_init_6 8 rfl rfl)
theorem dX2_init_152 : decode cX2_init 152 = .ok (.sipush 2001, 3) := dk_17 7 209 (dk_at dksX2_init_6 9 rfl rfl)
theorem dX2_init_155 : decode cX2_init 155 = .ok (.newarray .short, 2) := dk_188_9 (dk_at dksX2_init_6 12 rfl rfl)
theorem dX2_init_157 : decode cX2_init 157 = .ok (.putfield 66, 3) := dk_181 0 66 (dk_at dksX2_init_6 14 rfl rfl)
theorem dX2_init_160 : decode cX2_init 160 = .ok (.aload_n 0, 1) := dk_42 (dk_at dksX2_init_6 17 rfl rfl)
theorem dX2_init_161 : decode cX2_init 161 = .ok (.sipush 2001, 3) := dk_17 7 209 (dk_at dksX2_init_6 18 rfl rfl)
theorem dX2_init_164 : decode cX2_init 164 = .ok (.newarray .short, 2) := dk_188_9 (dk_at dksX2_init_6 21 rfl rfl)
theorem dX2_init_166 : decode cX2_init 166 = .ok (.putfield 70, 3) := dk_181 0 70 (dk_at dksX2_init_7 0 rfl rfl)
theorem dX2_init_169 : decode cX2_init 169 = .ok (.aload_n 0, 1) := dk_42 (dk_at dksX2_init_7 3 rfl rfl)
theorem dX2_init_170 : decode cX2_init 170 = .ok (.sipush 2001, 3) := dk_17 7 209 (dk_at dksX2_init_7 4 rfl rfl)
theorem dX2_init_173 : decode cX2_init 173 = .ok (.newarray .short, 2) := dk_188_9 (dk_at dksX2_init_7 7 rfl rfl)
theorem dX2_init_175 : decode cX2_init 175 = .ok (.putfield 73, 3) := dk_181 0 73 (dk_at dksX2_init_7 9 rfl rfl)
theorem dX2_init_178 : decode cX2_init 178 = .ok (.return_, 1) := dk_177 (dk_at dksX2_init_7 12 rfl rfl)
abbrev cX2_read : ByteArray := prog_18_method_8_code
def yX2_read : MethodName := ⟨RX2, "read", "()V"⟩
def dkwX2_read_9 : List UInt8 := [61, 21, 4, 60, 167, 255, 53, 28, 153, 0, 11, 42, 7, 27, 27, 3, 182, 0, 108, 177]
abbrev dktX2_read_9 : List UInt8 := dkwX2_read_9 ++ []
def dkwX2_read_8 : List UInt8 := [54, 5, 42, 21, 5, 27, 21, 4, 21, 6, 182, 0, 108, 21, 5, 8, 159, 0, 7, 4, 167, 0, 4, 3]
abbrev dktX2_read_8 : List UInt8 := dkwX2_read_8 ++ dktX2_read_9
def dkwX2_read_7 : List UInt8 := [4, 54, 5, 167, 0, 22, 42, 27, 182, 0, 105, 54, 6, 21, 6, 154, 0, 7, 8, 167, 0, 4, 5]
abbrev dktX2_read_7 : List UInt8 := dkwX2_read_7 ++ dktX2_read_8
def dkwX2_read_6 : List UInt8 := [182, 0, 102, 153, 0, 9, 132, 4, 1, 167, 255, 244, 21, 4, 27, 100, 7, 164, 0, 7, 8, 167, 0, 4]
abbrev dktX2_read_6 : List UInt8 := dkwX2_read_6 ++ dktX2_read_7
def dkwX2_read_5 : List UInt8 := [164, 0, 7, 8, 167, 0, 4, 3, 54, 5, 167, 0, 63, 42, 27, 182, 0, 102, 153, 0, 36, 42, 21, 4]
abbrev dktX2_read_5 : List UInt8 := dkwX2_read_5 ++ dktX2_read_6
def dkwX2_read_4 : List UInt8 := [21, 4, 182, 0, 98, 54, 6, 21, 6, 155, 0, 7, 6, 167, 0, 17, 21, 4, 27, 100, 16, 8]
abbrev dktX2_read_4 : List UInt8 := dkwX2_read_4 ++ dktX2_read_5
def dkwX2_read_3 : List UInt8 := [182, 0, 94, 153, 0, 55, 42, 21, 4, 182, 0, 94, 153, 0, 9, 132, 4, 1, 167, 255, 244, 42, 27]
abbrev dktX2_read_3 : List UInt8 := dkwX2_read_3 ++ dktX2_read_4
def dkwX2_read_2 : List UInt8 := [16, 10, 159, 0, 9, 29, 16, 13, 160, 0, 9, 132, 1, 1, 167, 255, 205, 3, 54, 6, 42, 27]
abbrev dktX2_read_2 : List UInt8 := dkwX2_read_2 ++ dktX2_read_3
def dkwX2_read_1 : List UInt8 := [180, 0, 59, 27, 51, 62, 27, 4, 96, 54, 4, 29, 16, 32, 159, 0, 21, 29, 16, 9, 159, 0, 15, 29]
abbrev dktX2_read_1 : List UInt8 := dkwX2_read_1 ++ dktX2_read_2
def dkwX2_read_0 : List UInt8 := [42, 3, 181, 0, 84, 3, 60, 4, 61, 27, 42, 180, 0, 76, 162, 0, 201, 28, 153, 0, 197, 42]
abbrev dktX2_read_0 : List UInt8 := dkwX2_read_0 ++ dktX2_read_1
theorem dksX2_read_0 : cX2_read.data.toList.drop 0 = dktX2_read_0 := by decide +kernel
theorem dksX2_read_1 : cX2_read.data.toList.drop 22 = dktX2_read_1 := dk_seg dksX2_read_0 22 rfl rfl
theorem dksX2_read_2 : cX2_read.data.toList.drop 46 = dktX2_read_2 := dk_seg dksX2_read_1 24 rfl rfl
theorem dksX2_read_3 : cX2_read.data.toList.drop 68 = dktX2_read_3 := dk_seg dksX2_read_2 22 rfl rfl
theorem dksX2_read_4 : cX2_read.data.toList.drop 91 = dktX2_read_4 := dk_seg dksX2_read_3 23 rfl rfl
theorem dksX2_read_5 : cX2_read.data.toList.drop 113 = dktX2_read_5 := dk_seg dksX2_read_4 22 rfl rfl
theorem dksX2_read_6 : cX2_read.data.toList.drop 137 = dktX2_read_6 := dk_seg dksX2_read_5 24 rfl rfl
theorem dksX2_read_7 : cX2_read.data.toList.drop 161 = dktX2_read_7 := dk_seg dksX2_read_6 24 rfl rfl
theorem dksX2_read_8 : cX2_read.data.toList.drop 184 = dktX2_read_8 := dk_seg dksX2_read_7 23 rfl rfl
theorem dksX2_read_9 : cX2_read.data.toList.drop 208 = dktX2_read_9 := dk_seg dksX2_read_8 24 rfl rfl
theorem dX2_read_0 : decode cX2_read 0 = .ok (.aload_n 0, 1) := dk_42 (dk_at dksX2_read_0 0 rfl rfl)
theorem dX2_read_1 : decode cX2_read 1 = .ok (.iconst 0, 1) := dk_3 (dk_at dksX2_read_0 1 rfl rfl)
theorem dX2_read_2 : decode cX2_read 2 = .ok (.putfield 84, 3) := dk_181 0 84 (dk_at dksX2_read_0 2 rfl rfl)
theorem dX2_read_5 : decode cX2_read 5 = .ok (.iconst 0, 1) := dk_3 (dk_at dksX2_read_0 5 rfl rfl)
theorem dX2_read_6 : decode cX2_read 6 = .ok (.istore_n 1, 1) := dk_60 (dk_at dksX2_read_0 6 rfl rfl)
theorem dX2_read_7 : decode cX2_read 7 = .ok (.iconst 1, 1) := dk_4 (dk_at dksX2_read_0 7 rfl rfl)
theorem dX2_read_8 : decode cX2_read 8 = .ok (.istore_n 2, 1) := dk_61 (dk_at dksX2_read_0 8 rfl rfl)
theorem dX2_read_9 : decode cX2_read 9 = .ok (.iload_n 1, 1) := dk_27 (dk_at dksX2_read_0 9 rfl rfl)
theorem dX2_read_10 : decode cX2_read 10 = .ok (.aload_n 0, 1) := dk_42 (dk_at dksX2_read_0 10 rfl rfl)
theorem dX2_read_11 : decode cX2_read 11 = .ok (.getfield 76, 3) := dk_180 0 76 (dk_at dksX2_read_0 11 rfl rfl)
theorem dX2_read_14 : decode cX2_read 14 = .ok (.if_icmp .ge 201, 3) := dk_162 0 201 (dk_at dksX2_read_0 14 rfl rfl)
theorem dX2_read_17 : decode cX2_read 17 = .ok (.iload_n 2, 1) := dk_28 (dk_at dksX2_read_0 17 rfl rfl)
theorem dX2_read_18 : decode cX2_read 18 = .ok (.ifCond .eq 197, 3) := dk_153 0 197 (dk_at dksX2_read_0 18 rfl rfl)
theorem dX2_read_21 : decode cX2_read 21 = .ok (.aload_n 0, 1) := dk_42 (dk_at dksX2_read_0 21 rfl rfl)
theorem dX2_read_22 : decode cX2_read 22 = .ok (.getfield 59, 3) := dk_180 0 59 (dk_at dksX2_read_1 0 rfl rfl)
theorem dX2_read_25 : decode cX2_read 25 = .ok (.iload_n 1, 1) := dk_27 (dk_at dksX2_read_1 3 rfl rfl)
theorem dX2_read_26 : decode cX2_read 26 = .ok (.baload, 1) := dk_51 (dk_at dksX2_read_1 4 rfl rfl)
theorem dX2_read_27 : decode cX2_read 27 = .ok (.istore_n 3, 1) := dk_62 (dk_at dksX2_read_1 5 rfl rfl)
theorem dX2_read_28 : decode cX2_read 28 = .ok (.iload_n 1, 1) := dk_27 (dk_at dksX2_read_1 6 rfl rfl)
theorem dX2_read_29 : decode cX2_read 29 = .ok (.iconst 1, 1) := dk_4 (dk_at dksX2_read_1 7 rfl rfl)
theorem dX2_read_30 : decode cX2_read 30 = .ok (.iadd, 1) := dk_96 (dk_at dksX2_read_1 8 rfl rfl)
theorem dX2_read_31 : decode cX2_read 31 = .ok (.istore 4, 2) := dk_54 4 (dk_at dksX2_read_1 9 rfl rfl)
theorem dX2_read_33 : decode cX2_read 33 = .ok (.iload_n 3, 1) := dk_29 (dk_at dksX2_read_1 11 rfl rfl)
theorem dX2_read_34 : decode cX2_read 34 = .ok (.bipush 32, 2) := dk_16 32 (dk_at dksX2_read_1 12 rfl rfl)
theorem dX2_read_36 : decode cX2_read 36 = .ok (.if_icmp .eq 21, 3) := dk_159 0 21 (dk_at dksX2_read_1 14 rfl rfl)
theorem dX2_read_39 : decode cX2_read 39 = .ok (.iload_n 3, 1) := dk_29 (dk_at dksX2_read_1 17 rfl rfl)
theorem dX2_read_40 : decode cX2_read 40 = .ok (.bipush 9, 2) := dk_16 9 (dk_at dksX2_read_1 18 rfl rfl)
theorem dX2_read_42 : decode cX2_read 42 = .ok (.if_icmp .eq 15, 3) := dk_159 0 15 (dk_at dksX2_read_1 20 rfl rfl)
theorem dX2_read_45 : decode cX2_read 45 = .ok (.iload_n 3, 1) := dk_29 (dk_at dksX2_read_1 23 rfl rfl)
theorem dX2_read_46 : decode cX2_read 46 = .ok (.bipush 10, 2) := dk_16 10 (dk_at dksX2_read_2 0 rfl rfl)
theorem dX2_read_48 : decode cX2_read 48 = .ok (.if_icmp .eq 9, 3) := dk_159 0 9 (dk_at dksX2_read_2 2 rfl rfl)
theorem dX2_read_51 : decode cX2_read 51 = .ok (.iload_n 3, 1) := dk_29 (dk_at dksX2_read_2 5 rfl rfl)
theorem dX2_read_52 : decode cX2_read 52 = .ok (.bipush 13, 2) := dk_16 13 (dk_at dksX2_read_2 6 rfl rfl)
theorem dX2_read_54 : decode cX2_read 54 = .ok (.if_icmp .ne 9, 3) := dk_160 0 9 (dk_at dksX2_read_2 8 rfl rfl)
theorem dX2_read_57 : decode cX2_read 57 = .ok (.iinc 1 1, 3) := dk_132 1 1 (dk_at dksX2_read_2 11 rfl rfl)
theorem dX2_read_60 : decode cX2_read 60 = .ok (.goto (-51), 3) := dk_167 255 205 (dk_at dksX2_read_2 14 rfl rfl)
theorem dX2_read_63 : decode cX2_read 63 = .ok (.iconst 0, 1) := dk_3 (dk_at dksX2_read_2 17 rfl rfl)
theorem dX2_read_64 : decode cX2_read 64 = .ok (.istore 6, 2) := dk_54 6 (dk_at dksX2_read_2 18 rfl rfl)
theorem dX2_read_66 : decode cX2_read 66 = .ok (.aload_n 0, 1) := dk_42 (dk_at dksX2_read_2 20 rfl rfl)
theorem dX2_read_67 : decode cX2_read 67 = .ok (.iload_n 1, 1) := dk_27 (dk_at dksX2_read_2 21 rfl rfl)
theorem dX2_read_68 : decode cX2_read 68 = .ok (.invokevirtual 94, 3) := dk_182 0 94 (dk_at dksX2_read_3 0 rfl rfl)
theorem dX2_read_71 : decode cX2_read 71 = .ok (.ifCond .eq 55, 3) := dk_153 0 55 (dk_at dksX2_read_3 3 rfl rfl)
theorem dX2_read_74 : decode cX2_read 74 = .ok (.aload_n 0, 1) := dk_42 (dk_at dksX2_read_3 6 rfl rfl)
theorem dX2_read_75 : decode cX2_read 75 = .ok (.iload 4, 2) := dk_21 4 (dk_at dksX2_read_3 7 rfl rfl)
theorem dX2_read_77 : decode cX2_read 77 = .ok (.invokevirtual 94, 3) := dk_182 0 94 (dk_at dksX2_read_3 9 rfl rfl)
theorem dX2_read_80 : decode cX2_read 80 = .ok (.ifCond .eq 9, 3) := dk_153 0 9 (dk_at dksX2_read_3 12 rfl rfl)
theorem dX2_read_83 : decode cX2_read 83 = .ok (.iinc 4 1, 3) := dk_132 4 1 (dk_at dksX2_read_3 15 rfl rfl)
theorem dX2_read_86 : decode cX2_read 86 = .ok (.goto (-12), 3) := dk_167 255 244 (dk_at dksX2_read_3 18 rfl rfl)
theorem dX2_read_89 : decode cX2_read 89 = .ok (.aload_n 0, 1) := dk_42 (dk_at dksX2_read_3 21 rfl rfl)
theorem dX2_read_90 : decode cX2_read 90 = .ok (.iload_n 1, 1) := dk_27 (dk_at dksX2_read_3 22 rfl rfl)
theorem dX2_read_91 : decode cX2_read 91 = .ok (.iload 4, 2) := dk_21 4 (dk_at dksX2_read_4 0 rfl rfl)
theorem dX2_read_93 : decode cX2_read 93 = .ok (.invokevirtual 98, 3) := dk_182 0 98 (dk_at dksX2_read_4 2 rfl rfl)
theorem dX2_read_96 : decode cX2_read 96 = .ok (.istore 6, 2) := dk_54 6 (dk_at dksX2_read_4 5 rfl rfl)
theorem dX2_read_98 : decode cX2_read 98 = .ok (.iload 6, 2) := dk_21 6 (dk_at dksX2_read_4 7 rfl rfl)
theorem dX2_read_100 : decode cX2_read 100 = .ok (.ifCond .lt 7, 3) := dk_155 0 7 (dk_at dksX2_read_4 9 rfl rfl)
theorem dX2_read_103 : decode cX2_read 103 = .ok (.iconst 3, 1) := dk_6 (dk_at dksX2_read_4 12 rfl rfl)
theorem dX2_read_104 : decode cX2_read 104 = .ok (.goto 17, 3) := dk_167 0 17 (dk_at dksX2_read_4 13 rfl rfl)
theorem dX2_read_107 : decode cX2_read 107 = .ok (.iload 4, 2) := dk_21 4 (dk_at dksX2_read_4 16 rfl rfl)
theorem dX2_read_109 : decode cX2_read 109 = .ok (.iload_n 1, 1) := dk_27 (dk_at dksX2_read_4 18 rfl rfl)
theorem dX2_read_110 : decode cX2_read 110 = .ok (.isub, 1) := dk_100 (dk_at dksX2_read_4 19 rfl rfl)
theorem dX2_read_111 : decode cX2_read 111 = .ok (.bipush 8, 2) := dk_16 8 (dk_at dksX2_read_4 20 rfl rfl)
theorem dX2_read_113 : decode cX2_read 113 = .ok (.if_icmp .le 7, 3) := dk_164 0 7 (dk_at dksX2_read_5 0 rfl rfl)
theorem dX2_read_116 : decode cX2_read 116 = .ok (.iconst 5, 1) := dk_8 (dk_at dksX2_read_5 3 rfl rfl)
theorem dX2_read_117 : decode cX2_read 117 = .ok (.goto 4, 3) := dk_167 0 4 (dk_at dksX2_read_5 4 rfl rfl)
theorem dX2_read_120 : decode cX2_read 120 = .ok (.iconst 0, 1) := dk_3 (dk_at dksX2_read_5 7 rfl rfl)
theorem dX2_read_121 : decode cX2_read 121 = .ok (.istore 5, 2) := dk_54 5 (dk_at dksX2_read_5 8 rfl rfl)
theorem dX2_read_123 : decode cX2_read 123 = .ok (.goto 63, 3) := dk_167 0 63 (dk_at dksX2_read_5 10 rfl rfl)
theorem dX2_read_126 : decode cX2_read 126 = .ok (.aload_n 0, 1) := dk_42 (dk_at dksX2_read_5 13 rfl rfl)
theorem dX2_read_127 : decode cX2_read 127 = .ok (.iload_n 1, 1) := dk_27 (dk_at dksX2_read_5 14 rfl rfl)
theorem dX2_read_128 : decode cX2_read 128 = .ok (.invokevirtual 102, 3) := dk_182 0 102 (dk_at dksX2_read_5 15 rfl rfl)
theorem dX2_read_131 : decode cX2_read 131 = .ok (.ifCond .eq 36, 3) := dk_153 0 36 (dk_at dksX2_read_5 18 rfl rfl)
theorem dX2_read_134 : decode cX2_read 134 = .ok (.aload_n 0, 1) := dk_42 (dk_at dksX2_read_5 21 rfl rfl)
theorem dX2_read_135 : decode cX2_read 135 = .ok (.iload 4, 2) := dk_21 4 (dk_at dksX2_read_5 22 rfl rfl)
theorem dX2_read_137 : decode cX2_read 137 = .ok (.invokevirtual 102, 3) := dk_182 0 102 (dk_at dksX2_read_6 0 rfl rfl)
theorem dX2_read_140 : decode cX2_read 140 = .ok (.ifCond .eq 9, 3) := dk_153 0 9 (dk_at dksX2_read_6 3 rfl rfl)
theorem dX2_read_143 : decode cX2_read 143 = .ok (.iinc 4 1, 3) := dk_132 4 1 (dk_at dksX2_read_6 6 rfl rfl)
theorem dX2_read_146 : decode cX2_read 146 = .ok (.goto (-12), 3) := dk_167 255 244 (dk_at dksX2_read_6 9 rfl rfl)
theorem dX2_read_149 : decode cX2_read 149 = .ok (.iload 4, 2) := dk_21 4 (dk_at dksX2_read_6 12 rfl rfl)
theorem dX2_read_151 : decode cX2_read 151 = .ok (.iload_n 1, 1) := dk_27 (dk_at dksX2_read_6 14 rfl rfl)
theorem dX2_read_152 : decode cX2_read 152 = .ok (.isub, 1) := dk_100 (dk_at dksX2_read_6 15 rfl rfl)
theorem dX2_read_153 : decode cX2_read 153 = .ok (.iconst 4, 1) := dk_7 (dk_at dksX2_read_6 16 rfl rfl)
theorem dX2_read_154 : decode cX2_read 154 = .ok (.if_icmp .le 7, 3) := dk_164 0 7 (dk_at dksX2_read_6 17 rfl rfl)
theorem dX2_read_157 : decode cX2_read 157 = .ok (.iconst 5, 1) := dk_8 (dk_at dksX2_read_6 20 rfl rfl)
theorem dX2_read_158 : decode cX2_read 158 = .ok (.goto 4, 3) := dk_167 0 4 (dk_at dksX2_read_6 21 rfl rfl)
theorem dX2_read_161 : decode cX2_read 161 = .ok (.iconst 1, 1) := dk_4 (dk_at dksX2_read_7 0 rfl rfl)
theorem dX2_read_162 : decode cX2_read 162 = .ok (.istore 5, 2) := dk_54 5 (dk_at dksX2_read_7 1 rfl rfl)
theorem dX2_read_164 : decode cX2_read 164 = .ok (.goto 22, 3) := dk_167 0 22 (dk_at dksX2_read_7 3 rfl rfl)
theorem dX2_read_167 : decode cX2_read 167 = .ok (.aload_n 0, 1) := dk_42 (dk_at dksX2_read_7 6 rfl rfl)
theorem dX2_read_168 : decode cX2_read 168 = .ok (.iload_n 1, 1) := dk_27 (dk_at dksX2_read_7 7 rfl rfl)
theorem dX2_read_169 : decode cX2_read 169 = .ok (.invokevirtual 105, 3) := dk_182 0 105 (dk_at dksX2_read_7 8 rfl rfl)
theorem dX2_read_172 : decode cX2_read 172 = .ok (.istore 6, 2) := dk_54 6 (dk_at dksX2_read_7 11 rfl rfl)
theorem dX2_read_174 : decode cX2_read 174 = .ok (.iload 6, 2) := dk_21 6 (dk_at dksX2_read_7 13 rfl rfl)
theorem dX2_read_176 : decode cX2_read 176 = .ok (.ifCond .ne 7, 3) := dk_154 0 7 (dk_at dksX2_read_7 15 rfl rfl)
theorem dX2_read_179 : decode cX2_read 179 = .ok (.iconst 5, 1) := dk_8 (dk_at dksX2_read_7 18 rfl rfl)
theorem dX2_read_180 : decode cX2_read 180 = .ok (.goto 4, 3) := dk_167 0 4 (dk_at dksX2_read_7 19 rfl rfl)
theorem dX2_read_183 : decode cX2_read 183 = .ok (.iconst 2, 1) := dk_5 (dk_at dksX2_read_7 22 rfl rfl)
theorem dX2_read_184 : decode cX2_read 184 = .ok (.istore 5, 2) := dk_54 5 (dk_at dksX2_read_8 0 rfl rfl)
theorem dX2_read_186 : decode cX2_read 186 = .ok (.aload_n 0, 1) := dk_42 (dk_at dksX2_read_8 2 rfl rfl)
theorem dX2_read_187 : decode cX2_read 187 = .ok (.iload 5, 2) := dk_21 5 (dk_at dksX2_read_8 3 rfl rfl)
theorem dX2_read_189 : decode cX2_read 189 = .ok (.iload_n 1, 1) := dk_27 (dk_at dksX2_read_8 5 rfl rfl)
theorem dX2_read_190 : decode cX2_read 190 = .ok (.iload 4, 2) := dk_21 4 (dk_at dksX2_read_8 6 rfl rfl)
theorem dX2_read_192 : decode cX2_read 192 = .ok (.iload 6, 2) := dk_21 6 (dk_at dksX2_read_8 8 rfl rfl)
theorem dX2_read_194 : decode cX2_read 194 = .ok (.invokevirtual 108, 3) := dk_182 0 108 (dk_at dksX2_read_8 10 rfl rfl)
theorem dX2_read_197 : decode cX2_read 197 = .ok (.iload 5, 2) := dk_21 5 (dk_at dksX2_read_8 13 rfl rfl)
theorem dX2_read_199 : decode cX2_read 199 = .ok (.iconst 5, 1) := dk_8 (dk_at dksX2_read_8 15 rfl rfl)
theorem dX2_read_200 : decode cX2_read 200 = .ok (.if_icmp .eq 7, 3) := dk_159 0 7 (dk_at dksX2_read_8 16 rfl rfl)
theorem dX2_read_203 : decode cX2_read 203 = .ok (.iconst 1, 1) := dk_4 (dk_at dksX2_read_8 19 rfl rfl)
theorem dX2_read_204 : decode cX2_read 204 = .ok (.goto 4, 3) := dk_167 0 4 (dk_at dksX2_read_8 20 rfl rfl)
theorem dX2_read_207 : decode cX2_read 207 = .ok (.iconst 0, 1) := dk_3 (dk_at dksX2_read_8 23 rfl rfl)
theorem dX2_read_208 : decode cX2_read 208 = .ok (.istore_n 2, 1) := dk_61 (dk_at dksX2_read_9 0 rfl rfl)
theorem dX2_read_209 : decode cX2_read 209 = .ok (.iload 4, 2) := dk_21 4 (dk_at dksX2_read_9 1 rfl rfl)
theorem dX2_read_211 : decode cX2_read 211 = .ok (.istore_n 1, 1) := dk_60 (dk_at dksX2_read_9 3 rfl rfl)
theorem dX2_read_212 : decode cX2_read 212 = .ok (.goto (-203), 3) := dk_167 255 53 (dk_at dksX2_read_9 4 rfl rfl)
theorem dX2_read_215 : decode cX2_read 215 = .ok (.iload_n 2, 1) := dk_28 (dk_at dksX2_read_9 7 rfl rfl)
theorem dX2_read_216 : decode cX2_read 216 = .ok (.ifCond .eq 11, 3) := dk_153 0 11 (dk_at dksX2_read_9 8 rfl rfl)
theorem dX2_read_219 : decode cX2_read 219 = .ok (.aload_n 0, 1) := dk_42 (dk_at dksX2_read_9 11 rfl rfl)
theorem dX2_read_220 : decode cX2_read 220 = .ok (.iconst 4, 1) := dk_7 (dk_at dksX2_read_9 12 rfl rfl)
theorem dX2_read_221 : decode cX2_read 221 = .ok (.iload_n 1, 1) := dk_27 (dk_at dksX2_read_9 13 rfl rfl)
theorem dX2_read_222 : decode cX2_read 222 = .ok (.iload_n 1, 1) := dk_27 (dk_at dksX2_read_9 14 rfl rfl)
theorem dX2_read_223 : decode cX2_read 223 = .ok (.iconst 0, 1) := dk_3 (dk_at dksX2_read_9 15 rfl rfl)
theorem dX2_read_224 : decode cX2_read 224 = .ok (.invokevirtual 108, 3) := dk_182 0 108 (dk_at dksX2_read_9 16 rfl rfl)
theorem dX2_read_227 : decode cX2_read 227 = .ok (.return_, 1) := dk_177 (dk_at dksX2_read_9 19 rfl rfl)
abbrev cX2_isLetter : ByteArray := prog_18_method_4_code
def yX2_isLetter : MethodName := ⟨RX2, "isLetter", "(I)Z"⟩
def dkwX2_isLetter_1 : List UInt8 := [3, 172]
abbrev dktX2_isLetter_1 : List UInt8 := dkwX2_isLetter_1 ++ []
def dkwX2_isLetter_0 : List UInt8 := [42, 27, 182, 0, 80, 16, 97, 161, 0, 17, 42, 27, 182, 0, 80, 16, 122, 163, 0, 7, 4, 167, 0, 4]
abbrev dktX2_isLetter_0 : List UInt8 := dkwX2_isLetter_0 ++ dktX2_isLetter_1
theorem dksX2_isLetter_0 : cX2_isLetter.data.toList.drop 0 = dktX2_isLetter_0 := by decide +kernel
theorem dksX2_isLetter_1 : cX2_isLetter.data.toList.drop 24 = dktX2_isLetter_1 := dk_seg dksX2_isLetter_0 24 rfl rfl
theorem dX2_isLetter_0 : decode cX2_isLetter 0 = .ok (.aload_n 0, 1) := dk_42 (dk_at dksX2_isLetter_0 0 rfl rfl)
theorem dX2_isLetter_1 : decode cX2_isLetter 1 = .ok (.iload_n 1, 1) := dk_27 (dk_at dksX2_isLetter_0 1 rfl rfl)
theorem dX2_isLetter_2 : decode cX2_isLetter 2 = .ok (.invokevirtual 80, 3) := dk_182 0 80 (dk_at dksX2_isLetter_0 2 rfl rfl)
theorem dX2_isLetter_5 : decode cX2_isLetter 5 = .ok (.bipush 97, 2) := dk_16 97 (dk_at dksX2_isLetter_0 5 rfl rfl)
theorem dX2_isLetter_7 : decode cX2_isLetter 7 = .ok (.if_icmp .lt 17, 3) := dk_161 0 17 (dk_at dksX2_isLetter_0 7 rfl rfl)
theorem dX2_isLetter_10 : decode cX2_isLetter 10 = .ok (.aload_n 0, 1) := dk_42 (dk_at dksX2_isLetter_0 10 rfl rfl)
theorem dX2_isLetter_11 : decode cX2_isLetter 11 = .ok (.iload_n 1, 1) := dk_27 (dk_at dksX2_isLetter_0 11 rfl rfl)
theorem dX2_isLetter_12 : decode cX2_isLetter 12 = .ok (.invokevirtual 80, 3) := dk_182 0 80 (dk_at dksX2_isLetter_0 12 rfl rfl)
theorem dX2_isLetter_15 : decode cX2_isLetter 15 = .ok (.bipush 122, 2) := dk_16 122 (dk_at dksX2_isLetter_0 15 rfl rfl)
theorem dX2_isLetter_17 : decode cX2_isLetter 17 = .ok (.if_icmp .gt 7, 3) := dk_163 0 7 (dk_at dksX2_isLetter_0 17 rfl rfl)
theorem dX2_isLetter_20 : decode cX2_isLetter 20 = .ok (.iconst 1, 1) := dk_4 (dk_at dksX2_isLetter_0 20 rfl rfl)
theorem dX2_isLetter_21 : decode cX2_isLetter 21 = .ok (.goto 4, 3) := dk_167 0 4 (dk_at dksX2_isLetter_0 21 rfl rfl)
theorem dX2_isLetter_24 : decode cX2_isLetter 24 = .ok (.iconst 0, 1) := dk_3 (dk_at dksX2_isLetter_1 0 rfl rfl)
theorem dX2_isLetter_25 : decode cX2_isLetter 25 = .ok (.ireturn, 1) := dk_172 (dk_at dksX2_isLetter_1 1 rfl rfl)
abbrev cX2_at : ByteArray := prog_18_method_2_code
def yX2_at : MethodName := ⟨RX2, "at", "(I)I"⟩
def dkwX2_at_0 : List UInt8 := [27, 42, 180, 0, 76, 162, 0, 12, 42, 180, 0, 59, 27, 51, 167, 0, 4, 3, 172]
abbrev dktX2_at_0 : List UInt8 := dkwX2_at_0 ++ []
theorem dksX2_at_0 : cX2_at.data.toList.drop 0 = dktX2_at_0 := by decide +kernel
theorem dX2_at_0 : decode cX2_at 0 = .ok (.iload_n 1, 1) := dk_27 (dk_at dksX2_at_0 0 rfl rfl)
theorem dX2_at_1 : decode cX2_at 1 = .ok (.aload_n 0, 1) := dk_42 (dk_at dksX2_at_0 1 rfl rfl)
theorem dX2_at_2 : decode cX2_at 2 = .ok (.getfield 76, 3) := dk_180 0 76 (dk_at dksX2_at_0 2 rfl rfl)
theorem dX2_at_5 : decode cX2_at 5 = .ok (.if_icmp .ge 12, 3) := dk_162 0 12 (dk_at dksX2_at_0 5 rfl rfl)
theorem dX2_at_8 : decode cX2_at 8 = .ok (.aload_n 0, 1) := dk_42 (dk_at dksX2_at_0 8 rfl rfl)
theorem dX2_at_9 : decode cX2_at 9 = .ok (.getfield 59, 3) := dk_180 0 59 (dk_at dksX2_at_0 9 rfl rfl)
theorem dX2_at_12 : decode cX2_at 12 = .ok (.iload_n 1, 1) := dk_27 (dk_at dksX2_at_0 12 rfl rfl)
theorem dX2_at_13 : decode cX2_at 13 = .ok (.baload, 1) := dk_51 (dk_at dksX2_at_0 13 rfl rfl)
theorem dX2_at_14 : decode cX2_at 14 = .ok (.goto 4, 3) := dk_167 0 4 (dk_at dksX2_at_0 14 rfl rfl)
theorem dX2_at_17 : decode cX2_at 17 = .ok (.iconst 0, 1) := dk_3 (dk_at dksX2_at_0 17 rfl rfl)
theorem dX2_at_18 : decode cX2_at 18 = .ok (.ireturn, 1) := dk_172 (dk_at dksX2_at_0 18 rfl rfl)
abbrev cX2_word : ByteArray := prog_18_method_6_code
def yX2_word : MethodName := ⟨RX2, "word", "(II)I"⟩
def dkwX2_word_4 : List UInt8 := [167, 255, 165, 2, 172]
abbrev dktX2_word_4 : List UInt8 := dkwX2_word_4 ++ []
def dkwX2_word_3 : List UInt8 := [167, 0, 4, 3, 54, 4, 132, 5, 1, 167, 255, 212, 21, 4, 153, 0, 5, 29, 172, 132, 3, 1]
abbrev dktX2_word_3 : List UInt8 := dkwX2_word_3 ++ dktX2_word_4
def dkwX2_word_2 : List UInt8 := [42, 180, 0, 53, 29, 50, 21, 5, 27, 100, 182, 0, 90, 42, 180, 0, 59, 21, 5, 51, 160, 0, 7, 4]
abbrev dktX2_word_2 : List UInt8 := dkwX2_word_2 ++ dktX2_word_3
def dkwX2_word_1 : List UInt8 := [160, 0, 7, 4, 167, 0, 4, 3, 54, 4, 27, 54, 5, 21, 5, 28, 162, 0, 44, 21, 4, 153, 0, 39]
abbrev dktX2_word_1 : List UInt8 := dkwX2_word_1 ++ dktX2_word_2
def dkwX2_word_0 : List UInt8 := [3, 62, 29, 42, 180, 0, 53, 190, 162, 0, 88, 42, 180, 0, 53, 29, 50, 182, 0, 86, 28, 27, 100]
abbrev dktX2_word_0 : List UInt8 := dkwX2_word_0 ++ dktX2_word_1
theorem dksX2_word_0 : cX2_word.data.toList.drop 0 = dktX2_word_0 := by decide +kernel
theorem dksX2_word_1 : cX2_word.data.toList.drop 23 = dktX2_word_1 := dk_seg dksX2_word_0 23 rfl rfl
theorem dksX2_word_2 : cX2_word.data.toList.drop 47 = dktX2_word_2 := dk_seg dksX2_word_1 24 rfl rfl
theorem dksX2_word_3 : cX2_word.data.toList.drop 71 = dktX2_word_3 := dk_seg dksX2_word_2 24 rfl rfl
theorem dksX2_word_4 : cX2_word.data.toList.drop 93 = dktX2_word_4 := dk_seg dksX2_word_3 22 rfl rfl
theorem dX2_word_0 : decode cX2_word 0 = .ok (.iconst 0, 1) := dk_3 (dk_at dksX2_word_0 0 rfl rfl)
theorem dX2_word_1 : decode cX2_word 1 = .ok (.istore_n 3, 1) := dk_62 (dk_at dksX2_word_0 1 rfl rfl)
theorem dX2_word_2 : decode cX2_word 2 = .ok (.iload_n 3, 1) := dk_29 (dk_at dksX2_word_0 2 rfl rfl)
theorem dX2_word_3 : decode cX2_word 3 = .ok (.aload_n 0, 1) := dk_42 (dk_at dksX2_word_0 3 rfl rfl)
theorem dX2_word_4 : decode cX2_word 4 = .ok (.getfield 53, 3) := dk_180 0 53 (dk_at dksX2_word_0 4 rfl rfl)
theorem dX2_word_7 : decode cX2_word 7 = .ok (.arraylength, 1) := dk_190 (dk_at dksX2_word_0 7 rfl rfl)
theorem dX2_word_8 : decode cX2_word 8 = .ok (.if_icmp .ge 88, 3) := dk_162 0 88 (dk_at dksX2_word_0 8 rfl rfl)
theorem dX2_word_11 : decode cX2_word 11 = .ok (.aload_n 0, 1) := dk_42 (dk_at dksX2_word_0 11 rfl rfl)
theorem dX2_word_12 : decode cX2_word 12 = .ok (.getfield 53, 3) := dk_180 0 53 (dk_at dksX2_word_0 12 rfl rfl)
theorem dX2_word_15 : decode cX2_word 15 = .ok (.iload_n 3, 1) := dk_29 (dk_at dksX2_word_0 15 rfl rfl)
theorem dX2_word_16 : decode cX2_word 16 = .ok (.aaload, 1) := dk_50 (dk_at dksX2_word_0 16 rfl rfl)
theorem dX2_word_17 : decode cX2_word 17 = .ok (.invokevirtual 86, 3) := dk_182 0 86 (dk_at dksX2_word_0 17 rfl rfl)
theorem dX2_word_20 : decode cX2_word 20 = .ok (.iload_n 2, 1) := dk_28 (dk_at dksX2_word_0 20 rfl rfl)
theorem dX2_word_21 : decode cX2_word 21 = .ok (.iload_n 1, 1) := dk_27 (dk_at dksX2_word_0 21 rfl rfl)
theorem dX2_word_22 : decode cX2_word 22 = .ok (.isub, 1) := dk_100 (dk_at dksX2_word_0 22 rfl rfl)
theorem dX2_word_23 : decode cX2_word 23 = .ok (.if_icmp .ne 7, 3) := dk_160 0 7 (dk_at dksX2_word_1 0 rfl rfl)
theorem dX2_word_26 : decode cX2_word 26 = .ok (.iconst 1, 1) := dk_4 (dk_at dksX2_word_1 3 rfl rfl)
theorem dX2_word_27 : decode cX2_word 27 = .ok (.goto 4, 3) := dk_167 0 4 (dk_at dksX2_word_1 4 rfl rfl)
theorem dX2_word_30 : decode cX2_word 30 = .ok (.iconst 0, 1) := dk_3 (dk_at dksX2_word_1 7 rfl rfl)
theorem dX2_word_31 : decode cX2_word 31 = .ok (.istore 4, 2) := dk_54 4 (dk_at dksX2_word_1 8 rfl rfl)
theorem dX2_word_33 : decode cX2_word 33 = .ok (.iload_n 1, 1) := dk_27 (dk_at dksX2_word_1 10 rfl rfl)
theorem dX2_word_34 : decode cX2_word 34 = .ok (.istore 5, 2) := dk_54 5 (dk_at dksX2_word_1 11 rfl rfl)
theorem dX2_word_36 : decode cX2_word 36 = .ok (.iload 5, 2) := dk_21 5 (dk_at dksX2_word_1 13 rfl rfl)
theorem dX2_word_38 : decode cX2_word 38 = .ok (.iload_n 2, 1) := dk_28 (dk_at dksX2_word_1 15 rfl rfl)
theorem dX2_word_39 : decode cX2_word 39 = .ok (.if_icmp .ge 44, 3) := dk_162 0 44 (dk_at dksX2_word_1 16 rfl rfl)
theorem dX2_word_42 : decode cX2_word 42 = .ok (.iload 4, 2) := dk_21 4 (dk_at dksX2_word_1 19 rfl rfl)
theorem dX2_word_44 : decode cX2_word 44 = .ok (.ifCond .eq 39, 3) := dk_153 0 39 (dk_at dksX2_word_1 21 rfl rfl)
theorem dX2_word_47 : decode cX2_word 47 = .ok (.aload_n 0, 1) := dk_42 (dk_at dksX2_word_2 0 rfl rfl)
theorem dX2_word_48 : decode cX2_word 48 = .ok (.getfield 53, 3) := dk_180 0 53 (dk_at dksX2_word_2 1 rfl rfl)
theorem dX2_word_51 : decode cX2_word 51 = .ok (.iload_n 3, 1) := dk_29 (dk_at dksX2_word_2 4 rfl rfl)
theorem dX2_word_52 : decode cX2_word 52 = .ok (.aaload, 1) := dk_50 (dk_at dksX2_word_2 5 rfl rfl)
theorem dX2_word_53 : decode cX2_word 53 = .ok (.iload 5, 2) := dk_21 5 (dk_at dksX2_word_2 6 rfl rfl)
theorem dX2_word_55 : decode cX2_word 55 = .ok (.iload_n 1, 1) := dk_27 (dk_at dksX2_word_2 8 rfl rfl)
theorem dX2_word_56 : decode cX2_word 56 = .ok (.isub, 1) := dk_100 (dk_at dksX2_word_2 9 rfl rfl)
theorem dX2_word_57 : decode cX2_word 57 = .ok (.invokevirtual 90, 3) := dk_182 0 90 (dk_at dksX2_word_2 10 rfl rfl)
theorem dX2_word_60 : decode cX2_word 60 = .ok (.aload_n 0, 1) := dk_42 (dk_at dksX2_word_2 13 rfl rfl)
theorem dX2_word_61 : decode cX2_word 61 = .ok (.getfield 59, 3) := dk_180 0 59 (dk_at dksX2_word_2 14 rfl rfl)
theorem dX2_word_64 : decode cX2_word 64 = .ok (.iload 5, 2) := dk_21 5 (dk_at dksX2_word_2 17 rfl rfl)
theorem dX2_word_66 : decode cX2_word 66 = .ok (.baload, 1) := dk_51 (dk_at dksX2_word_2 19 rfl rfl)
theorem dX2_word_67 : decode cX2_word 67 = .ok (.if_icmp .ne 7, 3) := dk_160 0 7 (dk_at dksX2_word_2 20 rfl rfl)
theorem dX2_word_70 : decode cX2_word 70 = .ok (.iconst 1, 1) := dk_4 (dk_at dksX2_word_2 23 rfl rfl)
theorem dX2_word_71 : decode cX2_word 71 = .ok (.goto 4, 3) := dk_167 0 4 (dk_at dksX2_word_3 0 rfl rfl)
theorem dX2_word_74 : decode cX2_word 74 = .ok (.iconst 0, 1) := dk_3 (dk_at dksX2_word_3 3 rfl rfl)
theorem dX2_word_75 : decode cX2_word 75 = .ok (.istore 4, 2) := dk_54 4 (dk_at dksX2_word_3 4 rfl rfl)
theorem dX2_word_77 : decode cX2_word 77 = .ok (.iinc 5 1, 3) := dk_132 5 1 (dk_at dksX2_word_3 6 rfl rfl)
theorem dX2_word_80 : decode cX2_word 80 = .ok (.goto (-44), 3) := dk_167 255 212 (dk_at dksX2_word_3 9 rfl rfl)
theorem dX2_word_83 : decode cX2_word 83 = .ok (.iload 4, 2) := dk_21 4 (dk_at dksX2_word_3 12 rfl rfl)
theorem dX2_word_85 : decode cX2_word 85 = .ok (.ifCond .eq 5, 3) := dk_153 0 5 (dk_at dksX2_word_3 14 rfl rfl)
theorem dX2_word_88 : decode cX2_word 88 = .ok (.iload_n 3, 1) := dk_29 (dk_at dksX2_word_3 17 rfl rfl)
theorem dX2_word_89 : decode cX2_word 89 = .ok (.ireturn, 1) := dk_172 (dk_at dksX2_word_3 18 rfl rfl)
theorem dX2_word_90 : decode cX2_word 90 = .ok (.iinc 3 1, 3) := dk_132 3 1 (dk_at dksX2_word_3 19 rfl rfl)
theorem dX2_word_93 : decode cX2_word 93 = .ok (.goto (-91), 3) := dk_167 255 165 (dk_at dksX2_word_4 0 rfl rfl)
theorem dX2_word_96 : decode cX2_word 96 = .ok (.iconst (-1), 1) := dk_2 (dk_at dksX2_word_4 3 rfl rfl)
theorem dX2_word_97 : decode cX2_word 97 = .ok (.ireturn, 1) := dk_172 (dk_at dksX2_word_4 4 rfl rfl)
abbrev cX2_isDigit : ByteArray := prog_18_method_3_code
def yX2_isDigit : MethodName := ⟨RX2, "isDigit", "(I)Z"⟩
def dkwX2_isDigit_1 : List UInt8 := [3, 172]
abbrev dktX2_isDigit_1 : List UInt8 := dkwX2_isDigit_1 ++ []
def dkwX2_isDigit_0 : List UInt8 := [42, 27, 182, 0, 80, 16, 48, 161, 0, 17, 42, 27, 182, 0, 80, 16, 57, 163, 0, 7, 4, 167, 0, 4]
abbrev dktX2_isDigit_0 : List UInt8 := dkwX2_isDigit_0 ++ dktX2_isDigit_1
theorem dksX2_isDigit_0 : cX2_isDigit.data.toList.drop 0 = dktX2_isDigit_0 := by decide +kernel
theorem dksX2_isDigit_1 : cX2_isDigit.data.toList.drop 24 = dktX2_isDigit_1 := dk_seg dksX2_isDigit_0 24 rfl rfl
theorem dX2_isDigit_0 : decode cX2_isDigit 0 = .ok (.aload_n 0, 1) := dk_42 (dk_at dksX2_isDigit_0 0 rfl rfl)
theorem dX2_isDigit_1 : decode cX2_isDigit 1 = .ok (.iload_n 1, 1) := dk_27 (dk_at dksX2_isDigit_0 1 rfl rfl)
theorem dX2_isDigit_2 : decode cX2_isDigit 2 = .ok (.invokevirtual 80, 3) := dk_182 0 80 (dk_at dksX2_isDigit_0 2 rfl rfl)
theorem dX2_isDigit_5 : decode cX2_isDigit 5 = .ok (.bipush 48, 2) := dk_16 48 (dk_at dksX2_isDigit_0 5 rfl rfl)
theorem dX2_isDigit_7 : decode cX2_isDigit 7 = .ok (.if_icmp .lt 17, 3) := dk_161 0 17 (dk_at dksX2_isDigit_0 7 rfl rfl)
theorem dX2_isDigit_10 : decode cX2_isDigit 10 = .ok (.aload_n 0, 1) := dk_42 (dk_at dksX2_isDigit_0 10 rfl rfl)
theorem dX2_isDigit_11 : decode cX2_isDigit 11 = .ok (.iload_n 1, 1) := dk_27 (dk_at dksX2_isDigit_0 11 rfl rfl)
theorem dX2_isDigit_12 : decode cX2_isDigit 12 = .ok (.invokevirtual 80, 3) := dk_182 0 80 (dk_at dksX2_isDigit_0 12 rfl rfl)
theorem dX2_isDigit_15 : decode cX2_isDigit 15 = .ok (.bipush 57, 2) := dk_16 57 (dk_at dksX2_isDigit_0 15 rfl rfl)
theorem dX2_isDigit_17 : decode cX2_isDigit 17 = .ok (.if_icmp .gt 7, 3) := dk_163 0 7 (dk_at dksX2_isDigit_0 17 rfl rfl)
theorem dX2_isDigit_20 : decode cX2_isDigit 20 = .ok (.iconst 1, 1) := dk_4 (dk_at dksX2_isDigit_0 20 rfl rfl)
theorem dX2_isDigit_21 : decode cX2_isDigit 21 = .ok (.goto 4, 3) := dk_167 0 4 (dk_at dksX2_isDigit_0 21 rfl rfl)
theorem dX2_isDigit_24 : decode cX2_isDigit 24 = .ok (.iconst 0, 1) := dk_3 (dk_at dksX2_isDigit_1 0 rfl rfl)
theorem dX2_isDigit_25 : decode cX2_isDigit 25 = .ok (.ireturn, 1) := dk_172 (dk_at dksX2_isDigit_1 1 rfl rfl)
abbrev cX2_sign : ByteArray := prog_18_method_7_code
def yX2_sign : MethodName := ⟨RX2, "sign", "(I)I"⟩
def dkwX2_sign_2 : List UInt8 := [28, 172, 3, 172]
abbrev dktX2_sign_2 : List UInt8 := dkwX2_sign_2 ++ []
def dkwX2_sign_1 : List UInt8 := [170, 0, 0, 0, 103, 0, 0, 0, 40, 0, 0, 0, 61, 0, 0, 0, 101, 0, 0, 0, 101, 0, 0, 0, 101, 0, 0, 0, 101, 0, 0, 0, 103, 0, 0, 0, 101, 0, 0, 0, 103, 0, 0, 0, 101, 0, 0, 0, 103, 0, 0, 0, 103, 0, 0, 0, 103, 0, 0, 0, 103, 0, 0, 0, 103, 0, 0, 0, 103, 0, 0, 0, 103, 0, 0, 0, 103, 0, 0, 0, 103, 0, 0, 0, 103, 0, 0, 0, 103, 0, 0, 0, 101, 0, 0, 0, 101, 0, 0, 0, 101]
abbrev dktX2_sign_1 : List UInt8 := dkwX2_sign_1 ++ dktX2_sign_2
def dkwX2_sign_0 : List UInt8 := [42, 27, 182, 0, 80, 61, 28]
abbrev dktX2_sign_0 : List UInt8 := dkwX2_sign_0 ++ dktX2_sign_1
theorem dksX2_sign_0 : cX2_sign.data.toList.drop 0 = dktX2_sign_0 := by decide +kernel
theorem dksX2_sign_1 : cX2_sign.data.toList.drop 7 = dktX2_sign_1 := dk_seg dksX2_sign_0 7 rfl rfl
theorem dksX2_sign_2 : cX2_sign.data.toList.drop 108 = dktX2_sign_2 := dk_seg dksX2_sign_1 101 rfl rfl
theorem dX2_sign_0 : decode cX2_sign 0 = .ok (.aload_n 0, 1) := dk_42 (dk_at dksX2_sign_0 0 rfl rfl)
theorem dX2_sign_1 : decode cX2_sign 1 = .ok (.iload_n 1, 1) := dk_27 (dk_at dksX2_sign_0 1 rfl rfl)
theorem dX2_sign_2 : decode cX2_sign 2 = .ok (.invokevirtual 80, 3) := dk_182 0 80 (dk_at dksX2_sign_0 2 rfl rfl)
theorem dX2_sign_5 : decode cX2_sign 5 = .ok (.istore_n 2, 1) := dk_61 (dk_at dksX2_sign_0 5 rfl rfl)
theorem dX2_sign_6 : decode cX2_sign 6 = .ok (.iload_n 2, 1) := dk_28 (dk_at dksX2_sign_0 6 rfl rfl)
theorem dX2_sign_7 : decode cX2_sign 7 = .ok (.tableswitch 103 40 61 #[101, 101, 101, 101, 103, 101, 103, 101, 103, 103, 103, 103, 103, 103, 103, 103, 103, 103, 103, 101, 101, 101], 101) := by decide +kernel
theorem dX2_sign_108 : decode cX2_sign 108 = .ok (.iload_n 2, 1) := dk_28 (dk_at dksX2_sign_2 0 rfl rfl)
theorem dX2_sign_109 : decode cX2_sign 109 = .ok (.ireturn, 1) := dk_172 (dk_at dksX2_sign_2 1 rfl rfl)
theorem dX2_sign_110 : decode cX2_sign 110 = .ok (.iconst 0, 1) := dk_3 (dk_at dksX2_sign_2 2 rfl rfl)
theorem dX2_sign_111 : decode cX2_sign 111 = .ok (.ireturn, 1) := dk_172 (dk_at dksX2_sign_2 3 rfl rfl)
abbrev cX2_add : ByteArray := prog_18_method_5_code
def yX2_add : MethodName := ⟨RX2, "add", "(IIII)V"⟩
def dkwX2_add_2 : List UInt8 := [180, 0, 84, 4, 96, 181, 0, 84, 177]
abbrev dktX2_add_2 : List UInt8 := dkwX2_add_2 ++ []
def dkwX2_add_1 : List UInt8 := [180, 0, 70, 42, 180, 0, 84, 29, 147, 86, 42, 180, 0, 73, 42, 180, 0, 84, 21, 4, 147, 86, 42, 89]
abbrev dktX2_add_1 : List UInt8 := dkwX2_add_1 ++ dktX2_add_2
def dkwX2_add_0 : List UInt8 := [42, 180, 0, 63, 42, 180, 0, 84, 27, 145, 84, 42, 180, 0, 66, 42, 180, 0, 84, 28, 147, 86, 42]
abbrev dktX2_add_0 : List UInt8 := dkwX2_add_0 ++ dktX2_add_1
theorem dksX2_add_0 : cX2_add.data.toList.drop 0 = dktX2_add_0 := by decide +kernel
theorem dksX2_add_1 : cX2_add.data.toList.drop 23 = dktX2_add_1 := dk_seg dksX2_add_0 23 rfl rfl
theorem dksX2_add_2 : cX2_add.data.toList.drop 47 = dktX2_add_2 := dk_seg dksX2_add_1 24 rfl rfl
theorem dX2_add_0 : decode cX2_add 0 = .ok (.aload_n 0, 1) := dk_42 (dk_at dksX2_add_0 0 rfl rfl)
theorem dX2_add_1 : decode cX2_add 1 = .ok (.getfield 63, 3) := dk_180 0 63 (dk_at dksX2_add_0 1 rfl rfl)
theorem dX2_add_4 : decode cX2_add 4 = .ok (.aload_n 0, 1) := dk_42 (dk_at dksX2_add_0 4 rfl rfl)
theorem dX2_add_5 : decode cX2_add 5 = .ok (.getfield 84, 3) := dk_180 0 84 (dk_at dksX2_add_0 5 rfl rfl)
theorem dX2_add_8 : decode cX2_add 8 = .ok (.iload_n 1, 1) := dk_27 (dk_at dksX2_add_0 8 rfl rfl)
theorem dX2_add_9 : decode cX2_add 9 = .ok (.i2b, 1) := dk_145 (dk_at dksX2_add_0 9 rfl rfl)
theorem dX2_add_10 : decode cX2_add 10 = .ok (.bastore, 1) := dk_84 (dk_at dksX2_add_0 10 rfl rfl)
theorem dX2_add_11 : decode cX2_add 11 = .ok (.aload_n 0, 1) := dk_42 (dk_at dksX2_add_0 11 rfl rfl)
theorem dX2_add_12 : decode cX2_add 12 = .ok (.getfield 66, 3) := dk_180 0 66 (dk_at dksX2_add_0 12 rfl rfl)
theorem dX2_add_15 : decode cX2_add 15 = .ok (.aload_n 0, 1) := dk_42 (dk_at dksX2_add_0 15 rfl rfl)
theorem dX2_add_16 : decode cX2_add 16 = .ok (.getfield 84, 3) := dk_180 0 84 (dk_at dksX2_add_0 16 rfl rfl)
theorem dX2_add_19 : decode cX2_add 19 = .ok (.iload_n 2, 1) := dk_28 (dk_at dksX2_add_0 19 rfl rfl)
theorem dX2_add_20 : decode cX2_add 20 = .ok (.i2s, 1) := dk_147 (dk_at dksX2_add_0 20 rfl rfl)
theorem dX2_add_21 : decode cX2_add 21 = .ok (.sastore, 1) := dk_86 (dk_at dksX2_add_0 21 rfl rfl)
theorem dX2_add_22 : decode cX2_add 22 = .ok (.aload_n 0, 1) := dk_42 (dk_at dksX2_add_0 22 rfl rfl)
theorem dX2_add_23 : decode cX2_add 23 = .ok (.getfield 70, 3) := dk_180 0 70 (dk_at dksX2_add_1 0 rfl rfl)
theorem dX2_add_26 : decode cX2_add 26 = .ok (.aload_n 0, 1) := dk_42 (dk_at dksX2_add_1 3 rfl rfl)
theorem dX2_add_27 : decode cX2_add 27 = .ok (.getfield 84, 3) := dk_180 0 84 (dk_at dksX2_add_1 4 rfl rfl)
theorem dX2_add_30 : decode cX2_add 30 = .ok (.iload_n 3, 1) := dk_29 (dk_at dksX2_add_1 7 rfl rfl)
theorem dX2_add_31 : decode cX2_add 31 = .ok (.i2s, 1) := dk_147 (dk_at dksX2_add_1 8 rfl rfl)
theorem dX2_add_32 : decode cX2_add 32 = .ok (.sastore, 1) := dk_86 (dk_at dksX2_add_1 9 rfl rfl)
theorem dX2_add_33 : decode cX2_add 33 = .ok (.aload_n 0, 1) := dk_42 (dk_at dksX2_add_1 10 rfl rfl)
theorem dX2_add_34 : decode cX2_add 34 = .ok (.getfield 73, 3) := dk_180 0 73 (dk_at dksX2_add_1 11 rfl rfl)
theorem dX2_add_37 : decode cX2_add 37 = .ok (.aload_n 0, 1) := dk_42 (dk_at dksX2_add_1 14 rfl rfl)
theorem dX2_add_38 : decode cX2_add 38 = .ok (.getfield 84, 3) := dk_180 0 84 (dk_at dksX2_add_1 15 rfl rfl)
theorem dX2_add_41 : decode cX2_add 41 = .ok (.iload 4, 2) := dk_21 4 (dk_at dksX2_add_1 18 rfl rfl)
theorem dX2_add_43 : decode cX2_add 43 = .ok (.i2s, 1) := dk_147 (dk_at dksX2_add_1 20 rfl rfl)
theorem dX2_add_44 : decode cX2_add 44 = .ok (.sastore, 1) := dk_86 (dk_at dksX2_add_1 21 rfl rfl)
theorem dX2_add_45 : decode cX2_add 45 = .ok (.aload_n 0, 1) := dk_42 (dk_at dksX2_add_1 22 rfl rfl)
theorem dX2_add_46 : decode cX2_add 46 = .ok (.dup, 1) := dk_89 (dk_at dksX2_add_1 23 rfl rfl)
theorem dX2_add_47 : decode cX2_add 47 = .ok (.getfield 84, 3) := dk_180 0 84 (dk_at dksX2_add_2 0 rfl rfl)
theorem dX2_add_50 : decode cX2_add 50 = .ok (.iconst 1, 1) := dk_4 (dk_at dksX2_add_2 3 rfl rfl)
theorem dX2_add_51 : decode cX2_add 51 = .ok (.iadd, 1) := dk_96 (dk_at dksX2_add_2 4 rfl rfl)
theorem dX2_add_52 : decode cX2_add 52 = .ok (.putfield 84, 3) := dk_181 0 84 (dk_at dksX2_add_2 5 rfl rfl)
theorem dX2_add_55 : decode cX2_add 55 = .ok (.return_, 1) := dk_177 (dk_at dksX2_add_2 8 rfl rfl)
abbrev cX2_number : ByteArray := prog_18_method_10_code
def yX2_number : MethodName := ⟨RX2, "number", "(I)I"⟩
def dkwX2_number_1 : List UInt8 := [180, 0, 59, 29, 51, 96, 16, 48, 100, 61, 132, 3, 1, 167, 255, 228, 28, 172]
abbrev dktX2_number_1 : List UInt8 := dkwX2_number_1 ++ []
def dkwX2_number_0 : List UInt8 := [3, 61, 42, 180, 0, 66, 27, 53, 62, 29, 42, 180, 0, 70, 27, 53, 162, 0, 24, 16, 10, 28, 104, 42]
abbrev dktX2_number_0 : List UInt8 := dkwX2_number_0 ++ dktX2_number_1
theorem dksX2_number_0 : cX2_number.data.toList.drop 0 = dktX2_number_0 := by decide +kernel
theorem dksX2_number_1 : cX2_number.data.toList.drop 24 = dktX2_number_1 := dk_seg dksX2_number_0 24 rfl rfl
theorem dX2_number_0 : decode cX2_number 0 = .ok (.iconst 0, 1) := dk_3 (dk_at dksX2_number_0 0 rfl rfl)
theorem dX2_number_1 : decode cX2_number 1 = .ok (.istore_n 2, 1) := dk_61 (dk_at dksX2_number_0 1 rfl rfl)
theorem dX2_number_2 : decode cX2_number 2 = .ok (.aload_n 0, 1) := dk_42 (dk_at dksX2_number_0 2 rfl rfl)
theorem dX2_number_3 : decode cX2_number 3 = .ok (.getfield 66, 3) := dk_180 0 66 (dk_at dksX2_number_0 3 rfl rfl)
theorem dX2_number_6 : decode cX2_number 6 = .ok (.iload_n 1, 1) := dk_27 (dk_at dksX2_number_0 6 rfl rfl)
theorem dX2_number_7 : decode cX2_number 7 = .ok (.saload, 1) := dk_53 (dk_at dksX2_number_0 7 rfl rfl)
theorem dX2_number_8 : decode cX2_number 8 = .ok (.istore_n 3, 1) := dk_62 (dk_at dksX2_number_0 8 rfl rfl)
theorem dX2_number_9 : decode cX2_number 9 = .ok (.iload_n 3, 1) := dk_29 (dk_at dksX2_number_0 9 rfl rfl)
theorem dX2_number_10 : decode cX2_number 10 = .ok (.aload_n 0, 1) := dk_42 (dk_at dksX2_number_0 10 rfl rfl)
theorem dX2_number_11 : decode cX2_number 11 = .ok (.getfield 70, 3) := dk_180 0 70 (dk_at dksX2_number_0 11 rfl rfl)
theorem dX2_number_14 : decode cX2_number 14 = .ok (.iload_n 1, 1) := dk_27 (dk_at dksX2_number_0 14 rfl rfl)
theorem dX2_number_15 : decode cX2_number 15 = .ok (.saload, 1) := dk_53 (dk_at dksX2_number_0 15 rfl rfl)
theorem dX2_number_16 : decode cX2_number 16 = .ok (.if_icmp .ge 24, 3) := dk_162 0 24 (dk_at dksX2_number_0 16 rfl rfl)
theorem dX2_number_19 : decode cX2_number 19 = .ok (.bipush 10, 2) := dk_16 10 (dk_at dksX2_number_0 19 rfl rfl)
theorem dX2_number_21 : decode cX2_number 21 = .ok (.iload_n 2, 1) := dk_28 (dk_at dksX2_number_0 21 rfl rfl)
theorem dX2_number_22 : decode cX2_number 22 = .ok (.imul, 1) := dk_104 (dk_at dksX2_number_0 22 rfl rfl)
theorem dX2_number_23 : decode cX2_number 23 = .ok (.aload_n 0, 1) := dk_42 (dk_at dksX2_number_0 23 rfl rfl)
theorem dX2_number_24 : decode cX2_number 24 = .ok (.getfield 59, 3) := dk_180 0 59 (dk_at dksX2_number_1 0 rfl rfl)
theorem dX2_number_27 : decode cX2_number 27 = .ok (.iload_n 3, 1) := dk_29 (dk_at dksX2_number_1 3 rfl rfl)
theorem dX2_number_28 : decode cX2_number 28 = .ok (.baload, 1) := dk_51 (dk_at dksX2_number_1 4 rfl rfl)
theorem dX2_number_29 : decode cX2_number 29 = .ok (.iadd, 1) := dk_96 (dk_at dksX2_number_1 5 rfl rfl)
theorem dX2_number_30 : decode cX2_number 30 = .ok (.bipush 48, 2) := dk_16 48 (dk_at dksX2_number_1 6 rfl rfl)
theorem dX2_number_32 : decode cX2_number 32 = .ok (.isub, 1) := dk_100 (dk_at dksX2_number_1 8 rfl rfl)
theorem dX2_number_33 : decode cX2_number 33 = .ok (.istore_n 2, 1) := dk_61 (dk_at dksX2_number_1 9 rfl rfl)
theorem dX2_number_34 : decode cX2_number 34 = .ok (.iinc 3 1, 3) := dk_132 3 1 (dk_at dksX2_number_1 10 rfl rfl)
theorem dX2_number_37 : decode cX2_number 37 = .ok (.goto (-28), 3) := dk_167 255 228 (dk_at dksX2_number_1 13 rfl rfl)
theorem dX2_number_40 : decode cX2_number 40 = .ok (.iload_n 2, 1) := dk_28 (dk_at dksX2_number_1 16 rfl rfl)
theorem dX2_number_41 : decode cX2_number 41 = .ok (.ireturn, 1) := dk_172 (dk_at dksX2_number_1 17 rfl rfl)
abbrev cX2_text : ByteArray := prog_18_method_9_code
def yX2_text : MethodName := ⟨RX2, "text", "(I)Ljava/lang/String;"⟩
def dkwX2_text_2 : List UInt8 := [182, 0, 119, 176]
abbrev dktX2_text_2 : List UInt8 := dkwX2_text_2 ++ []
def dkwX2_text_1 : List UInt8 := [162, 0, 21, 44, 42, 180, 0, 59, 29, 51, 146, 182, 0, 115, 87, 132, 3, 1, 167, 255, 231, 44]
abbrev dktX2_text_1 : List UInt8 := dkwX2_text_1 ++ dktX2_text_2
def dkwX2_text_0 : List UInt8 := [187, 0, 112, 89, 183, 0, 114, 77, 42, 180, 0, 66, 27, 53, 62, 29, 42, 180, 0, 70, 27, 53]
abbrev dktX2_text_0 : List UInt8 := dkwX2_text_0 ++ dktX2_text_1
theorem dksX2_text_0 : cX2_text.data.toList.drop 0 = dktX2_text_0 := by decide +kernel
theorem dksX2_text_1 : cX2_text.data.toList.drop 22 = dktX2_text_1 := dk_seg dksX2_text_0 22 rfl rfl
theorem dksX2_text_2 : cX2_text.data.toList.drop 44 = dktX2_text_2 := dk_seg dksX2_text_1 22 rfl rfl
theorem dX2_text_0 : decode cX2_text 0 = .ok (.new 112, 3) := dk_187 0 112 (dk_at dksX2_text_0 0 rfl rfl)
theorem dX2_text_3 : decode cX2_text 3 = .ok (.dup, 1) := dk_89 (dk_at dksX2_text_0 3 rfl rfl)
theorem dX2_text_4 : decode cX2_text 4 = .ok (.invokespecial 114, 3) := dk_183 0 114 (dk_at dksX2_text_0 4 rfl rfl)
theorem dX2_text_7 : decode cX2_text 7 = .ok (.astore_n 2, 1) := dk_77 (dk_at dksX2_text_0 7 rfl rfl)
theorem dX2_text_8 : decode cX2_text 8 = .ok (.aload_n 0, 1) := dk_42 (dk_at dksX2_text_0 8 rfl rfl)
theorem dX2_text_9 : decode cX2_text 9 = .ok (.getfield 66, 3) := dk_180 0 66 (dk_at dksX2_text_0 9 rfl rfl)
theorem dX2_text_12 : decode cX2_text 12 = .ok (.iload_n 1, 1) := dk_27 (dk_at dksX2_text_0 12 rfl rfl)
theorem dX2_text_13 : decode cX2_text 13 = .ok (.saload, 1) := dk_53 (dk_at dksX2_text_0 13 rfl rfl)
theorem dX2_text_14 : decode cX2_text 14 = .ok (.istore_n 3, 1) := dk_62 (dk_at dksX2_text_0 14 rfl rfl)
theorem dX2_text_15 : decode cX2_text 15 = .ok (.iload_n 3, 1) := dk_29 (dk_at dksX2_text_0 15 rfl rfl)
theorem dX2_text_16 : decode cX2_text 16 = .ok (.aload_n 0, 1) := dk_42 (dk_at dksX2_text_0 16 rfl rfl)
theorem dX2_text_17 : decode cX2_text 17 = .ok (.getfield 70, 3) := dk_180 0 70 (dk_at dksX2_text_0 17 rfl rfl)
theorem dX2_text_20 : decode cX2_text 20 = .ok (.iload_n 1, 1) := dk_27 (dk_at dksX2_text_0 20 rfl rfl)
theorem dX2_text_21 : decode cX2_text 21 = .ok (.saload, 1) := dk_53 (dk_at dksX2_text_0 21 rfl rfl)
theorem dX2_text_22 : decode cX2_text 22 = .ok (.if_icmp .ge 21, 3) := dk_162 0 21 (dk_at dksX2_text_1 0 rfl rfl)
theorem dX2_text_25 : decode cX2_text 25 = .ok (.aload_n 2, 1) := dk_44 (dk_at dksX2_text_1 3 rfl rfl)
theorem dX2_text_26 : decode cX2_text 26 = .ok (.aload_n 0, 1) := dk_42 (dk_at dksX2_text_1 4 rfl rfl)
theorem dX2_text_27 : decode cX2_text 27 = .ok (.getfield 59, 3) := dk_180 0 59 (dk_at dksX2_text_1 5 rfl rfl)
theorem dX2_text_30 : decode cX2_text 30 = .ok (.iload_n 3, 1) := dk_29 (dk_at dksX2_text_1 8 rfl rfl)
theorem dX2_text_31 : decode cX2_text 31 = .ok (.baload, 1) := dk_51 (dk_at dksX2_text_1 9 rfl rfl)
theorem dX2_text_32 : decode cX2_text 32 = .ok (.i2c, 1) := dk_146 (dk_at dksX2_text_1 10 rfl rfl)
theorem dX2_text_33 : decode cX2_text 33 = .ok (.invokevirtual 115, 3) := dk_182 0 115 (dk_at dksX2_text_1 11 rfl rfl)
theorem dX2_text_36 : decode cX2_text 36 = .ok (.pop, 1) := dk_87 (dk_at dksX2_text_1 14 rfl rfl)
theorem dX2_text_37 : decode cX2_text 37 = .ok (.iinc 3 1, 3) := dk_132 3 1 (dk_at dksX2_text_1 15 rfl rfl)
theorem dX2_text_40 : decode cX2_text 40 = .ok (.goto (-25), 3) := dk_167 255 231 (dk_at dksX2_text_1 18 rfl rfl)
theorem dX2_text_43 : decode cX2_text 43 = .ok (.aload_n 2, 1) := dk_44 (dk_at dksX2_text_1 21 rfl rfl)
theorem dX2_text_44 : decode cX2_text 44 = .ok (.invokevirtual 119, 3) := dk_182 0 119 (dk_at dksX2_text_2 0 rfl rfl)
theorem dX2_text_47 : decode cX2_text 47 = .ok (.areturn, 1) := dk_176 (dk_at dksX2_text_2 3 rfl rfl)
theorem q113 : (Jvm.Cond.initialized "PartedSide$Tokens") ∈ lw_all := lw_g (lw_at lw_m1 6 rfl) rfl
theorem q229 : (Jvm.Cond.instantiable "PartedSide$Tokens" (8 : Nat)) ∈ lw_all := lw_g (lw_at lw_m1 122 rfl) rfl
theorem q231 : (Jvm.Cond.instanceMethod ({ cls := "PartedSide$Tokens", name := "<init>", desc := "()V" } : Jvm.MethodName)) ∈ lw_all := lw_g (lw_at lw_m1 124 rfl) rfl
theorem q232 : (Jvm.Cond.code ({ cls := "PartedSide$Tokens", name := "<init>", desc := "()V" } : Jvm.MethodName) prog_18_method_1_code (1 : Nat) (Option.none : Option Jvm.ClassFile.FieldType)) ∈ lw_all := lw_g (lw_at lw_m1 125 rfl) rfl
theorem q233 : (Jvm.Cond.methodLink "PartedSide$Tokens" (3 : Nat) ({ cls := "java/lang/Object", name := "<init>", desc := "()V" } : Jvm.MethodName)) ∈ lw_all := lw_g (lw_at lw_m1 126 rfl) rfl
theorem q234 : (Jvm.Cond.classLink "PartedSide$Tokens" (9 : Nat) "java/lang/String") ∈ lw_all := lw_g (lw_at lw_m1 127 rfl) rfl
theorem q236 : (Jvm.Cond.stringRef "PartedSide$Tokens" (11 : Nat) "sleeper") ∈ lw_tbl := lw_at lw_m1 129 rfl
theorem q237 : (Jvm.Cond.stringRef "PartedSide$Tokens" (13 : Nat) "cold") ∈ lw_tbl := lw_at lw_m1 130 rfl
theorem q238 : (Jvm.Cond.stringRef "PartedSide$Tokens" (15 : Nat) "lies") ∈ lw_tbl := lw_at lw_m1 131 rfl
theorem q239 : (Jvm.Cond.stringRef "PartedSide$Tokens" (17 : Nat) "parts") ∈ lw_tbl := lw_at lw_m1 132 rfl
theorem q240 : (Jvm.Cond.stringRef "PartedSide$Tokens" (19 : Nat) "chills") ∈ lw_tbl := lw_at lw_m1 133 rfl
theorem q241 : (Jvm.Cond.stringRef "PartedSide$Tokens" (21 : Nat) "costs") ∈ lw_tbl := lw_at lw_m1 134 rfl
theorem q242 : (Jvm.Cond.stringRef "PartedSide$Tokens" (23 : Nat) "ring") ∈ lw_tbl := lw_at lw_m1 135 rfl
theorem q243 : (Jvm.Cond.stringRef "PartedSide$Tokens" (25 : Nat) "begins") ∈ lw_tbl := lw_at lw_m1 136 rfl
theorem q244 : (Jvm.Cond.stringRef "PartedSide$Tokens" (27 : Nat) "seed") ∈ lw_tbl := lw_at lw_m1 137 rfl
theorem q245 : (Jvm.Cond.stringRef "PartedSide$Tokens" (29 : Nat) "if") ∈ lw_tbl := lw_at lw_m1 138 rfl
theorem q246 : (Jvm.Cond.stringRef "PartedSide$Tokens" (31 : Nat) "then") ∈ lw_tbl := lw_at lw_m1 139 rfl
theorem q247 : (Jvm.Cond.stringRef "PartedSide$Tokens" (33 : Nat) "else") ∈ lw_tbl := lw_at lw_m1 140 rfl
theorem q248 : (Jvm.Cond.stringRef "PartedSide$Tokens" (35 : Nat) "own") ∈ lw_tbl := lw_at lw_m1 141 rfl
theorem q249 : (Jvm.Cond.stringRef "PartedSide$Tokens" (37 : Nat) "before") ∈ lw_tbl := lw_at lw_m1 142 rfl
theorem q250 : (Jvm.Cond.stringRef "PartedSide$Tokens" (39 : Nat) "behind") ∈ lw_tbl := lw_at lw_m1 143 rfl
theorem q251 : (Jvm.Cond.stringRef "PartedSide$Tokens" (41 : Nat) "habit") ∈ lw_tbl := lw_at lw_m1 144 rfl
theorem q252 : (Jvm.Cond.stringRef "PartedSide$Tokens" (43 : Nat) "draft") ∈ lw_tbl := lw_at lw_m1 145 rfl
theorem q253 : (Jvm.Cond.stringRef "PartedSide$Tokens" (45 : Nat) "hour") ∈ lw_tbl := lw_at lw_m1 146 rfl
theorem q254 : (Jvm.Cond.stringRef "PartedSide$Tokens" (47 : Nat) "bed") ∈ lw_tbl := lw_at lw_m1 147 rfl
theorem q255 : (Jvm.Cond.stringRef "PartedSide$Tokens" (49 : Nat) "many") ∈ lw_tbl := lw_at lw_m1 148 rfl
theorem q256 : (Jvm.Cond.stringRef "PartedSide$Tokens" (51 : Nat) "parted") ∈ lw_tbl := lw_at lw_m1 149 rfl
theorem q257 : (Jvm.Cond.fieldLink "PartedSide$Tokens" (53 : Nat) "PartedSide$Tokens" "words" "[Ljava/lang/String;") ∈ lw_all := lw_g (lw_at lw_m1 150 rfl) rfl
theorem q258 : (Jvm.Cond.fieldLink "PartedSide$Tokens" (59 : Nat) "PartedSide$Tokens" "tape" "[B") ∈ lw_all := lw_g (lw_at lw_m1 151 rfl) rfl
theorem q260 : (Jvm.Cond.fieldLink "PartedSide$Tokens" (76 : Nat) "PartedSide$Tokens" "taped" "I") ∈ lw_all := lw_g (lw_at lw_m1 153 rfl) rfl
theorem q262 : (Jvm.Cond.fieldLink "PartedSide$Tokens" (63 : Nat) "PartedSide$Tokens" "sort" "[B") ∈ lw_all := lw_g (lw_at lw_m1 155 rfl) rfl
theorem q264 : (Jvm.Cond.fieldLink "PartedSide$Tokens" (66 : Nat) "PartedSide$Tokens" "from" "[S") ∈ lw_all := lw_g (lw_at lw_m1 157 rfl) rfl
theorem q266 : (Jvm.Cond.fieldLink "PartedSide$Tokens" (70 : Nat) "PartedSide$Tokens" "to" "[S") ∈ lw_all := lw_g (lw_at lw_m1 159 rfl) rfl
theorem q267 : (Jvm.Cond.fieldLink "PartedSide$Tokens" (73 : Nat) "PartedSide$Tokens" "what" "[S") ∈ lw_all := lw_g (lw_at lw_m1 160 rfl) rfl
theorem q269 : (Jvm.Cond.fieldLink "PartedSide$Tokens" (84 : Nat) "PartedSide$Tokens" "many" "I") ∈ lw_all := lw_g (lw_at lw_m1 162 rfl) rfl
theorem q270 : (Jvm.Cond.laysFinal "PartedSide$Tokens" "PartedSide$Tokens" "words" "[Ljava/lang/String;") ∈ lw_all := lw_g (lw_at lw_m1 163 rfl) rfl
theorem q271 : (Jvm.Cond.soleField "PartedSide$Tokens" "words") ∈ lw_all := lw_g (lw_at lw_m1 164 rfl) rfl
theorem q272 : (Jvm.Cond.laysFinal "PartedSide$Tokens" "PartedSide$Tokens" "tape" "[B") ∈ lw_all := lw_g (lw_at lw_m1 165 rfl) rfl
theorem q273 : (Jvm.Cond.soleField "PartedSide$Tokens" "tape") ∈ lw_all := lw_g (lw_at lw_m1 166 rfl) rfl
theorem q274 : (Jvm.Cond.lays "PartedSide$Tokens" "PartedSide$Tokens" "taped" "I") ∈ lw_all := lw_g (lw_at lw_m1 167 rfl) rfl
theorem q275 : (Jvm.Cond.soleField "PartedSide$Tokens" "taped") ∈ lw_all := lw_g (lw_at lw_m1 168 rfl) rfl
theorem q276 : (Jvm.Cond.laysFinal "PartedSide$Tokens" "PartedSide$Tokens" "sort" "[B") ∈ lw_all := lw_g (lw_at lw_m1 169 rfl) rfl
theorem q277 : (Jvm.Cond.soleField "PartedSide$Tokens" "sort") ∈ lw_all := lw_g (lw_at lw_m1 170 rfl) rfl
theorem q278 : (Jvm.Cond.laysFinal "PartedSide$Tokens" "PartedSide$Tokens" "from" "[S") ∈ lw_all := lw_g (lw_at lw_m1 171 rfl) rfl
theorem q279 : (Jvm.Cond.soleField "PartedSide$Tokens" "from") ∈ lw_all := lw_g (lw_at lw_m1 172 rfl) rfl
theorem q280 : (Jvm.Cond.laysFinal "PartedSide$Tokens" "PartedSide$Tokens" "to" "[S") ∈ lw_all := lw_g (lw_at lw_m1 173 rfl) rfl
theorem q281 : (Jvm.Cond.soleField "PartedSide$Tokens" "to") ∈ lw_all := lw_g (lw_at lw_m1 174 rfl) rfl
theorem q282 : (Jvm.Cond.laysFinal "PartedSide$Tokens" "PartedSide$Tokens" "what" "[S") ∈ lw_all := lw_g (lw_at lw_m1 175 rfl) rfl
theorem q283 : (Jvm.Cond.soleField "PartedSide$Tokens" "what") ∈ lw_all := lw_g (lw_at lw_m1 176 rfl) rfl
theorem q284 : (Jvm.Cond.lays "PartedSide$Tokens" "PartedSide$Tokens" "many" "I") ∈ lw_all := lw_g (lw_at lw_m1 177 rfl) rfl
theorem q285 : (Jvm.Cond.soleField "PartedSide$Tokens" "many") ∈ lw_all := lw_g (lw_at lw_m1 178 rfl) rfl
theorem q286 : (Jvm.Cond.superclass "PartedSide$Tokens" "java/lang/Object") ∈ lw_all := lw_g (lw_at lw_m1 179 rfl) rfl
theorem q623 : (Jvm.Cond.instanceMethod ({ cls := "PartedSide$Tokens", name := "read", desc := "()V" } : Jvm.MethodName)) ∈ lw_all := lw_g (lw_at lw_m3 36 rfl) rfl
theorem q624 : (Jvm.Cond.selects "PartedSide$Tokens" ({ cls := "PartedSide$Tokens", name := "read", desc := "()V" } : Jvm.MethodName) ({ cls := "PartedSide$Tokens", name := "read", desc := "()V" } : Jvm.MethodName)) ∈ lw_all := lw_g (lw_at lw_m3 37 rfl) rfl
theorem q625 : (Jvm.Cond.code ({ cls := "PartedSide$Tokens", name := "read", desc := "()V" } : Jvm.MethodName) prog_18_method_8_code (7 : Nat) (Option.none : Option Jvm.ClassFile.FieldType)) ∈ lw_all := lw_g (lw_at lw_m3 38 rfl) rfl
theorem q626 : (Jvm.Cond.methodLink "PartedSide$Tokens" (94 : Nat) ({ cls := "PartedSide$Tokens", name := "isLetter", desc := "(I)Z" } : Jvm.MethodName)) ∈ lw_all := lw_g (lw_at lw_m3 39 rfl) rfl
theorem q627 : (Jvm.Cond.privateMethod ({ cls := "PartedSide$Tokens", name := "isLetter", desc := "(I)Z" } : Jvm.MethodName)) ∈ lw_tbl := lw_at lw_m3 40 rfl
theorem q628 : (Jvm.Cond.instanceMethod ({ cls := "PartedSide$Tokens", name := "isLetter", desc := "(I)Z" } : Jvm.MethodName)) ∈ lw_all := lw_g (lw_at lw_m3 41 rfl) rfl
theorem q629 : (Jvm.Cond.code ({ cls := "PartedSide$Tokens", name := "isLetter", desc := "(I)Z" } : Jvm.MethodName) prog_18_method_4_code (2 : Nat) (Option.some Jvm.ClassFile.FieldType.boolean)) ∈ lw_all := lw_g (lw_at lw_m3 42 rfl) rfl
theorem q630 : (Jvm.Cond.methodLink "PartedSide$Tokens" (80 : Nat) ({ cls := "PartedSide$Tokens", name := "at", desc := "(I)I" } : Jvm.MethodName)) ∈ lw_all := lw_g (lw_at lw_m3 43 rfl) rfl
theorem q631 : (Jvm.Cond.privateMethod ({ cls := "PartedSide$Tokens", name := "at", desc := "(I)I" } : Jvm.MethodName)) ∈ lw_tbl := lw_at lw_m3 44 rfl
theorem q632 : (Jvm.Cond.instanceMethod ({ cls := "PartedSide$Tokens", name := "at", desc := "(I)I" } : Jvm.MethodName)) ∈ lw_all := lw_g (lw_at lw_m3 45 rfl) rfl
theorem q633 : (Jvm.Cond.code ({ cls := "PartedSide$Tokens", name := "at", desc := "(I)I" } : Jvm.MethodName) prog_18_method_2_code (2 : Nat) (Option.some Jvm.ClassFile.FieldType.int)) ∈ lw_all := lw_g (lw_at lw_m3 46 rfl) rfl
theorem q634 : (Jvm.Cond.methodLink "PartedSide$Tokens" (98 : Nat) ({ cls := "PartedSide$Tokens", name := "word", desc := "(II)I" } : Jvm.MethodName)) ∈ lw_all := lw_g (lw_at lw_m3 47 rfl) rfl
theorem q635 : (Jvm.Cond.privateMethod ({ cls := "PartedSide$Tokens", name := "word", desc := "(II)I" } : Jvm.MethodName)) ∈ lw_tbl := lw_at lw_m3 48 rfl
theorem q636 : (Jvm.Cond.instanceMethod ({ cls := "PartedSide$Tokens", name := "word", desc := "(II)I" } : Jvm.MethodName)) ∈ lw_all := lw_g (lw_at lw_m3 49 rfl) rfl
theorem q637 : (Jvm.Cond.code ({ cls := "PartedSide$Tokens", name := "word", desc := "(II)I" } : Jvm.MethodName) prog_18_method_6_code (6 : Nat) (Option.some Jvm.ClassFile.FieldType.int)) ∈ lw_all := lw_g (lw_at lw_m3 50 rfl) rfl
theorem q638 : (Jvm.Cond.methodLink "PartedSide$Tokens" (86 : Nat) ({ cls := "java/lang/String", name := "length", desc := "()I" } : Jvm.MethodName)) ∈ lw_all := lw_g (lw_at lw_m3 51 rfl) rfl
theorem q648 : (Jvm.Cond.methodLink "PartedSide$Tokens" (90 : Nat) ({ cls := "java/lang/String", name := "charAt", desc := "(I)C" } : Jvm.MethodName)) ∈ lw_all := lw_g (lw_at lw_m3 61 rfl) rfl
theorem q684 : (Jvm.Cond.methodLink "PartedSide$Tokens" (102 : Nat) ({ cls := "PartedSide$Tokens", name := "isDigit", desc := "(I)Z" } : Jvm.MethodName)) ∈ lw_all := lw_g (lw_at lw_m3 97 rfl) rfl
theorem q685 : (Jvm.Cond.privateMethod ({ cls := "PartedSide$Tokens", name := "isDigit", desc := "(I)Z" } : Jvm.MethodName)) ∈ lw_tbl := lw_at lw_m3 98 rfl
theorem q686 : (Jvm.Cond.instanceMethod ({ cls := "PartedSide$Tokens", name := "isDigit", desc := "(I)Z" } : Jvm.MethodName)) ∈ lw_all := lw_g (lw_at lw_m3 99 rfl) rfl
theorem q687 : (Jvm.Cond.code ({ cls := "PartedSide$Tokens", name := "isDigit", desc := "(I)Z" } : Jvm.MethodName) prog_18_method_3_code (2 : Nat) (Option.some Jvm.ClassFile.FieldType.boolean)) ∈ lw_all := lw_g (lw_at lw_m3 100 rfl) rfl
theorem q688 : (Jvm.Cond.methodLink "PartedSide$Tokens" (105 : Nat) ({ cls := "PartedSide$Tokens", name := "sign", desc := "(I)I" } : Jvm.MethodName)) ∈ lw_all := lw_g (lw_at lw_m3 101 rfl) rfl
theorem q689 : (Jvm.Cond.privateMethod ({ cls := "PartedSide$Tokens", name := "sign", desc := "(I)I" } : Jvm.MethodName)) ∈ lw_tbl := lw_at lw_m3 102 rfl
theorem q690 : (Jvm.Cond.instanceMethod ({ cls := "PartedSide$Tokens", name := "sign", desc := "(I)I" } : Jvm.MethodName)) ∈ lw_all := lw_g (lw_at lw_m3 103 rfl) rfl
theorem q691 : (Jvm.Cond.code ({ cls := "PartedSide$Tokens", name := "sign", desc := "(I)I" } : Jvm.MethodName) prog_18_method_7_code (3 : Nat) (Option.some Jvm.ClassFile.FieldType.int)) ∈ lw_all := lw_g (lw_at lw_m3 104 rfl) rfl
theorem q692 : (Jvm.Cond.methodLink "PartedSide$Tokens" (108 : Nat) ({ cls := "PartedSide$Tokens", name := "add", desc := "(IIII)V" } : Jvm.MethodName)) ∈ lw_all := lw_g (lw_at lw_m3 105 rfl) rfl
theorem q693 : (Jvm.Cond.privateMethod ({ cls := "PartedSide$Tokens", name := "add", desc := "(IIII)V" } : Jvm.MethodName)) ∈ lw_tbl := lw_at lw_m3 106 rfl
theorem q694 : (Jvm.Cond.instanceMethod ({ cls := "PartedSide$Tokens", name := "add", desc := "(IIII)V" } : Jvm.MethodName)) ∈ lw_all := lw_g (lw_at lw_m3 107 rfl) rfl
theorem q695 : (Jvm.Cond.code ({ cls := "PartedSide$Tokens", name := "add", desc := "(IIII)V" } : Jvm.MethodName) prog_18_method_5_code (5 : Nat) (Option.none : Option Jvm.ClassFile.FieldType)) ∈ lw_all := lw_g (lw_at lw_m3 108 rfl) rfl
theorem q782 : (Jvm.Cond.instanceMethod ({ cls := "PartedSide$Tokens", name := "number", desc := "(I)I" } : Jvm.MethodName)) ∈ lw_all := lw_g (lw_at lw_m3 195 rfl) rfl
theorem q783 : (Jvm.Cond.selects "PartedSide$Tokens" ({ cls := "PartedSide$Tokens", name := "number", desc := "(I)I" } : Jvm.MethodName) ({ cls := "PartedSide$Tokens", name := "number", desc := "(I)I" } : Jvm.MethodName)) ∈ lw_all := lw_g (lw_at lw_m3 196 rfl) rfl
theorem q784 : (Jvm.Cond.code ({ cls := "PartedSide$Tokens", name := "number", desc := "(I)I" } : Jvm.MethodName) prog_18_method_10_code (4 : Nat) (Option.some Jvm.ClassFile.FieldType.int)) ∈ lw_all := lw_g (lw_at lw_m3 197 rfl) rfl
theorem q838 : (Jvm.Cond.instanceMethod ({ cls := "PartedSide$Tokens", name := "text", desc := "(I)Ljava/lang/String;" } : Jvm.MethodName)) ∈ lw_all := lw_g (lw_at lw_m4 11 rfl) rfl
theorem q839 : (Jvm.Cond.selects "PartedSide$Tokens" ({ cls := "PartedSide$Tokens", name := "text", desc := "(I)Ljava/lang/String;" } : Jvm.MethodName) ({ cls := "PartedSide$Tokens", name := "text", desc := "(I)Ljava/lang/String;" } : Jvm.MethodName)) ∈ lw_all := lw_g (lw_at lw_m4 12 rfl) rfl
theorem q840 : (Jvm.Cond.code ({ cls := "PartedSide$Tokens", name := "text", desc := "(I)Ljava/lang/String;" } : Jvm.MethodName) prog_18_method_9_code (4 : Nat) (Option.some (Jvm.ClassFile.FieldType.object "java/lang/String"))) ∈ lw_all := lw_g (lw_at lw_m4 13 rfl) rfl
theorem q841 : (Jvm.Cond.classLink "PartedSide$Tokens" (112 : Nat) "java/lang/StringBuilder") ∈ lw_all := lw_g (lw_at lw_m4 14 rfl) rfl
theorem q843 : (Jvm.Cond.methodLink "PartedSide$Tokens" (114 : Nat) ({ cls := "java/lang/StringBuilder", name := "<init>", desc := "()V" } : Jvm.MethodName)) ∈ lw_all := lw_g (lw_at lw_m4 16 rfl) rfl
theorem q871 : (Jvm.Cond.methodLink "PartedSide$Tokens" (115 : Nat) ({ cls := "java/lang/StringBuilder", name := "append", desc := "(C)Ljava/lang/StringBuilder;" } : Jvm.MethodName)) ∈ lw_all := lw_g (lw_at lw_m4 44 rfl) rfl
theorem q946 : (Jvm.Cond.methodLink "PartedSide$Tokens" (119 : Nat) ({ cls := "java/lang/StringBuilder", name := "toString", desc := "()Ljava/lang/String;" } : Jvm.MethodName)) ∈ lw_all := lw_g (lw_at lw_m4 119 rfl) rfl
theorem q1079 : (Jvm.Cond.selects "PartedSide$Tokens" ({ cls := "java/lang/Object", name := "getClass", desc := "()Ljava/lang/Class;" } : Jvm.MethodName) ({ cls := "java/lang/Object", name := "getClass", desc := "()Ljava/lang/Class;" } : Jvm.MethodName)) ∈ lw_all := lw_g (lw_at lw_m5 12 rfl) rfl
theorem q2091 : (Jvm.Cond.castable "PartedSide$Tokens" "java/lang/Object") ∈ lw_tbl := lw_at lw_m9 64 rfl
theorem in_X2 : ∀ w ∈ wsX20, w ∈ lw_all := lw_in wsX20 [270, 272, 274, 276, 278, 280, 282, 284] (by decide +kernel) (by decide +kernel)
/-! PartedSide$Parser -/
set_option maxRecDepth 100000
def RX3 : String := "PartedSide$Parser"
def TX3 : u_T := fun k => match k with
  | 0 => ("PartedSide$Parser", "t", "LPartedSide$Tokens;", true)
  | 1 => ("PartedSide$Parser", "fault", "LPartedSide$Fault;", true)
  | 2 => ("PartedSide$Parser", "text", "LPartedSide$Text;", false)
  | 3 => ("PartedSide$Parser", "at", "I", false)
  | 4 => ("PartedSide$Parser", "open", "I", false)
  | 5 => ("PartedSide$Parser", "worst", "I", false)
  | _ => ("PartedSide$Parser", "worstToken", "I", false)
def tyX3 : Nat → FieldType := fun k => match k with
  | 0 => .object "PartedSide$Tokens"
  | 1 => .object "PartedSide$Fault"
  | 2 => .object "PartedSide$Text"
  | 3 => .int
  | 4 => .int
  | 5 => .int
  | _ => .int
abbrev wsX30 : List Cond := u_ws RX3 TX3 7
theorem nmX3 : ∀ a, a < 7 → ∀ b, b < 7 → a ≠ b → (TX3 a).2.1 ≠ (TX3 b).2.1 := by decide +kernel
theorem tyX3_ok : ∀ k, k < 7 → parseFieldDescriptor (TX3 k).2.2.1 = some (tyX3 k) := by decide +kernel
abbrev cX3_init : ByteArray := prog_13_method_1_code
def yX3_init : MethodName := ⟨RX3, "<init>", "(LPartedSide$Tokens;LPartedSide$Fault;)V"⟩
def dkwX3_init_0 : List UInt8 := [42, 183, 0, 3, 42, 43, 181, 0, 9, 42, 44, 181, 0, 15, 177]
abbrev dktX3_init_0 : List UInt8 := dkwX3_init_0 ++ []
theorem dksX3_init_0 : cX3_init.data.toList.drop 0 = dktX3_init_0 := by decide +kernel
theorem dX3_init_0 : decode cX3_init 0 = .ok (.aload_n 0, 1) := dk_42 (dk_at dksX3_init_0 0 rfl rfl)
theorem dX3_init_1 : decode cX3_init 1 = .ok (.invokespecial 3, 3) := dk_183 0 3 (dk_at dksX3_init_0 1 rfl rfl)
theorem dX3_init_4 : decode cX3_init 4 = .ok (.aload_n 0, 1) := dk_42 (dk_at dksX3_init_0 4 rfl rfl)
theorem dX3_init_5 : decode cX3_init 5 = .ok (.aload_n 1, 1) := dk_43 (dk_at dksX3_init_0 5 rfl rfl)
theorem dX3_init_6 : decode cX3_init 6 = .ok (.putfield 9, 3) := dk_181 0 9 (dk_at dksX3_init_0 6 rfl rfl)
theorem dX3_init_9 : decode cX3_init 9 = .ok (.aload_n 0, 1) := dk_42 (dk_at dksX3_init_0 9 rfl rfl)
theorem dX3_init_10 : decode cX3_init 10 = .ok (.aload_n 2, 1) := dk_44 (dk_at dksX3_init_0 10 rfl rfl)
theorem dX3_init_11 : decode cX3_init 11 = .ok (.putfield 15, 3) := dk_181 0 15 (dk_at dksX3_init_0 11 rfl rfl)
theorem dX3_init_14 : decode cX3_init 14 = .ok (.return_, 1) := dk_177 (dk_at dksX3_init_0 14 rfl rfl)
abbrev cX3_read : ByteArray := prog_13_method_15_code
def yX3_read : MethodName := ⟨RX3, "read", "()LPartedSide$Text;"⟩
def dkwX3_read_4 : List UInt8 := [191, 42, 180, 0, 83, 176]
abbrev dktX3_read_4 : List UInt8 := dkwX3_read_4 ++ []
def dkwX3_read_3 : List UInt8 := [182, 0, 35, 191, 42, 180, 0, 83, 182, 0, 106, 154, 0, 14, 42, 16, 6, 42, 180, 0, 31, 182, 0, 35]
abbrev dktX3_read_3 : List UInt8 := dkwX3_read_3 ++ dktX3_read_4
def dkwX3_read_2 : List UInt8 := [182, 0, 102, 167, 255, 238, 42, 180, 0, 38, 153, 0, 16, 42, 42, 180, 0, 38, 42, 180, 0, 41]
abbrev dktX3_read_2 : List UInt8 := dkwX3_read_2 ++ dktX3_read_3
def dkwX3_read_1 : List UInt8 := [3, 181, 0, 96, 42, 3, 181, 0, 38, 42, 182, 0, 65, 7, 159, 0, 16, 42, 182, 0, 99, 42, 16, 59]
abbrev dktX3_read_1 : List UInt8 := dkwX3_read_1 ++ dktX3_read_2
def dkwX3_read_0 : List UInt8 := [42, 180, 0, 9, 182, 0, 92, 42, 187, 0, 87, 89, 183, 0, 95, 181, 0, 83, 42, 3, 181, 0, 31, 42]
abbrev dktX3_read_0 : List UInt8 := dkwX3_read_0 ++ dktX3_read_1
theorem dksX3_read_0 : cX3_read.data.toList.drop 0 = dktX3_read_0 := by decide +kernel
theorem dksX3_read_1 : cX3_read.data.toList.drop 24 = dktX3_read_1 := dk_seg dksX3_read_0 24 rfl rfl
theorem dksX3_read_2 : cX3_read.data.toList.drop 48 = dktX3_read_2 := dk_seg dksX3_read_1 24 rfl rfl
theorem dksX3_read_3 : cX3_read.data.toList.drop 70 = dktX3_read_3 := dk_seg dksX3_read_2 22 rfl rfl
theorem dksX3_read_4 : cX3_read.data.toList.drop 94 = dktX3_read_4 := dk_seg dksX3_read_3 24 rfl rfl
theorem dX3_read_0 : decode cX3_read 0 = .ok (.aload_n 0, 1) := dk_42 (dk_at dksX3_read_0 0 rfl rfl)
theorem dX3_read_1 : decode cX3_read 1 = .ok (.getfield 9, 3) := dk_180 0 9 (dk_at dksX3_read_0 1 rfl rfl)
theorem dX3_read_4 : decode cX3_read 4 = .ok (.invokevirtual 92, 3) := dk_182 0 92 (dk_at dksX3_read_0 4 rfl rfl)
theorem dX3_read_7 : decode cX3_read 7 = .ok (.aload_n 0, 1) := dk_42 (dk_at dksX3_read_0 7 rfl rfl)
theorem dX3_read_8 : decode cX3_read 8 = .ok (.new 87, 3) := dk_187 0 87 (dk_at dksX3_read_0 8 rfl rfl)
theorem dX3_read_11 : decode cX3_read 11 = .ok (.dup, 1) := dk_89 (dk_at dksX3_read_0 11 rfl rfl)
theorem dX3_read_12 : decode cX3_read 12 = .ok (.invokespecial 95, 3) := dk_183 0 95 (dk_at dksX3_read_0 12 rfl rfl)
theorem dX3_read_15 : decode cX3_read 15 = .ok (.putfield 83, 3) := dk_181 0 83 (dk_at dksX3_read_0 15 rfl rfl)
theorem dX3_read_18 : decode cX3_read 18 = .ok (.aload_n 0, 1) := dk_42 (dk_at dksX3_read_0 18 rfl rfl)
theorem dX3_read_19 : decode cX3_read 19 = .ok (.iconst 0, 1) := dk_3 (dk_at dksX3_read_0 19 rfl rfl)
theorem dX3_read_20 : decode cX3_read 20 = .ok (.putfield 31, 3) := dk_181 0 31 (dk_at dksX3_read_0 20 rfl rfl)
theorem dX3_read_23 : decode cX3_read 23 = .ok (.aload_n 0, 1) := dk_42 (dk_at dksX3_read_0 23 rfl rfl)
theorem dX3_read_24 : decode cX3_read 24 = .ok (.iconst 0, 1) := dk_3 (dk_at dksX3_read_1 0 rfl rfl)
theorem dX3_read_25 : decode cX3_read 25 = .ok (.putfield 96, 3) := dk_181 0 96 (dk_at dksX3_read_1 1 rfl rfl)
theorem dX3_read_28 : decode cX3_read 28 = .ok (.aload_n 0, 1) := dk_42 (dk_at dksX3_read_1 4 rfl rfl)
theorem dX3_read_29 : decode cX3_read 29 = .ok (.iconst 0, 1) := dk_3 (dk_at dksX3_read_1 5 rfl rfl)
theorem dX3_read_30 : decode cX3_read 30 = .ok (.putfield 38, 3) := dk_181 0 38 (dk_at dksX3_read_1 6 rfl rfl)
theorem dX3_read_33 : decode cX3_read 33 = .ok (.aload_n 0, 1) := dk_42 (dk_at dksX3_read_1 9 rfl rfl)
theorem dX3_read_34 : decode cX3_read 34 = .ok (.invokevirtual 65, 3) := dk_182 0 65 (dk_at dksX3_read_1 10 rfl rfl)
theorem dX3_read_37 : decode cX3_read 37 = .ok (.iconst 4, 1) := dk_7 (dk_at dksX3_read_1 13 rfl rfl)
theorem dX3_read_38 : decode cX3_read 38 = .ok (.if_icmp .eq 16, 3) := dk_159 0 16 (dk_at dksX3_read_1 14 rfl rfl)
theorem dX3_read_41 : decode cX3_read 41 = .ok (.aload_n 0, 1) := dk_42 (dk_at dksX3_read_1 17 rfl rfl)
theorem dX3_read_42 : decode cX3_read 42 = .ok (.invokevirtual 99, 3) := dk_182 0 99 (dk_at dksX3_read_1 18 rfl rfl)
theorem dX3_read_45 : decode cX3_read 45 = .ok (.aload_n 0, 1) := dk_42 (dk_at dksX3_read_1 21 rfl rfl)
theorem dX3_read_46 : decode cX3_read 46 = .ok (.bipush 59, 2) := dk_16 59 (dk_at dksX3_read_1 22 rfl rfl)
theorem dX3_read_48 : decode cX3_read 48 = .ok (.invokevirtual 102, 3) := dk_182 0 102 (dk_at dksX3_read_2 0 rfl rfl)
theorem dX3_read_51 : decode cX3_read 51 = .ok (.goto (-18), 3) := dk_167 255 238 (dk_at dksX3_read_2 3 rfl rfl)
theorem dX3_read_54 : decode cX3_read 54 = .ok (.aload_n 0, 1) := dk_42 (dk_at dksX3_read_2 6 rfl rfl)
theorem dX3_read_55 : decode cX3_read 55 = .ok (.getfield 38, 3) := dk_180 0 38 (dk_at dksX3_read_2 7 rfl rfl)
theorem dX3_read_58 : decode cX3_read 58 = .ok (.ifCond .eq 16, 3) := dk_153 0 16 (dk_at dksX3_read_2 10 rfl rfl)
theorem dX3_read_61 : decode cX3_read 61 = .ok (.aload_n 0, 1) := dk_42 (dk_at dksX3_read_2 13 rfl rfl)
theorem dX3_read_62 : decode cX3_read 62 = .ok (.aload_n 0, 1) := dk_42 (dk_at dksX3_read_2 14 rfl rfl)
theorem dX3_read_63 : decode cX3_read 63 = .ok (.getfield 38, 3) := dk_180 0 38 (dk_at dksX3_read_2 15 rfl rfl)
theorem dX3_read_66 : decode cX3_read 66 = .ok (.aload_n 0, 1) := dk_42 (dk_at dksX3_read_2 18 rfl rfl)
theorem dX3_read_67 : decode cX3_read 67 = .ok (.getfield 41, 3) := dk_180 0 41 (dk_at dksX3_read_2 19 rfl rfl)
theorem dX3_read_70 : decode cX3_read 70 = .ok (.invokevirtual 35, 3) := dk_182 0 35 (dk_at dksX3_read_3 0 rfl rfl)
theorem dX3_read_73 : decode cX3_read 73 = .ok (.athrow, 1) := dk_191 (dk_at dksX3_read_3 3 rfl rfl)
theorem dX3_read_74 : decode cX3_read 74 = .ok (.aload_n 0, 1) := dk_42 (dk_at dksX3_read_3 4 rfl rfl)
theorem dX3_read_75 : decode cX3_read 75 = .ok (.getfield 83, 3) := dk_180 0 83 (dk_at dksX3_read_3 5 rfl rfl)
theorem dX3_read_78 : decode cX3_read 78 = .ok (.invokevirtual 106, 3) := dk_182 0 106 (dk_at dksX3_read_3 8 rfl rfl)
theorem dX3_read_81 : decode cX3_read 81 = .ok (.ifCond .ne 14, 3) := dk_154 0 14 (dk_at dksX3_read_3 11 rfl rfl)
theorem dX3_read_84 : decode cX3_read 84 = .ok (.aload_n 0, 1) := dk_42 (dk_at dksX3_read_3 14 rfl rfl)
theorem dX3_read_85 : decode cX3_read 85 = .ok (.bipush 6, 2) := dk_16 6 (dk_at dksX3_read_3 15 rfl rfl)
theorem dX3_read_87 : decode cX3_read 87 = .ok (.aload_n 0, 1) := dk_42 (dk_at dksX3_read_3 17 rfl rfl)
theorem dX3_read_88 : decode cX3_read 88 = .ok (.getfield 31, 3) := dk_180 0 31 (dk_at dksX3_read_3 18 rfl rfl)
theorem dX3_read_91 : decode cX3_read 91 = .ok (.invokevirtual 35, 3) := dk_182 0 35 (dk_at dksX3_read_3 21 rfl rfl)
theorem dX3_read_94 : decode cX3_read 94 = .ok (.athrow, 1) := dk_191 (dk_at dksX3_read_4 0 rfl rfl)
theorem dX3_read_95 : decode cX3_read 95 = .ok (.aload_n 0, 1) := dk_42 (dk_at dksX3_read_4 1 rfl rfl)
theorem dX3_read_96 : decode cX3_read 96 = .ok (.getfield 83, 3) := dk_180 0 83 (dk_at dksX3_read_4 2 rfl rfl)
theorem dX3_read_99 : decode cX3_read 99 = .ok (.areturn, 1) := dk_176 (dk_at dksX3_read_4 5 rfl rfl)
abbrev cX3_sort : ByteArray := prog_13_method_5_code
def yX3_sort : MethodName := ⟨RX3, "sort", "()I"⟩
def dkwX3_sort_1 : List UInt8 := [180, 0, 9, 180, 0, 44, 42, 180, 0, 31, 51, 172]
abbrev dktX3_sort_1 : List UInt8 := dkwX3_sort_1 ++ []
def dkwX3_sort_0 : List UInt8 := [42, 180, 0, 9, 180, 0, 44, 42, 180, 0, 31, 51, 8, 160, 0, 9, 42, 4, 182, 0, 48, 191, 42]
abbrev dktX3_sort_0 : List UInt8 := dkwX3_sort_0 ++ dktX3_sort_1
theorem dksX3_sort_0 : cX3_sort.data.toList.drop 0 = dktX3_sort_0 := by decide +kernel
theorem dksX3_sort_1 : cX3_sort.data.toList.drop 23 = dktX3_sort_1 := dk_seg dksX3_sort_0 23 rfl rfl
theorem dX3_sort_0 : decode cX3_sort 0 = .ok (.aload_n 0, 1) := dk_42 (dk_at dksX3_sort_0 0 rfl rfl)
theorem dX3_sort_1 : decode cX3_sort 1 = .ok (.getfield 9, 3) := dk_180 0 9 (dk_at dksX3_sort_0 1 rfl rfl)
theorem dX3_sort_4 : decode cX3_sort 4 = .ok (.getfield 44, 3) := dk_180 0 44 (dk_at dksX3_sort_0 4 rfl rfl)
theorem dX3_sort_7 : decode cX3_sort 7 = .ok (.aload_n 0, 1) := dk_42 (dk_at dksX3_sort_0 7 rfl rfl)
theorem dX3_sort_8 : decode cX3_sort 8 = .ok (.getfield 31, 3) := dk_180 0 31 (dk_at dksX3_sort_0 8 rfl rfl)
theorem dX3_sort_11 : decode cX3_sort 11 = .ok (.baload, 1) := dk_51 (dk_at dksX3_sort_0 11 rfl rfl)
theorem dX3_sort_12 : decode cX3_sort 12 = .ok (.iconst 5, 1) := dk_8 (dk_at dksX3_sort_0 12 rfl rfl)
theorem dX3_sort_13 : decode cX3_sort 13 = .ok (.if_icmp .ne 9, 3) := dk_160 0 9 (dk_at dksX3_sort_0 13 rfl rfl)
theorem dX3_sort_16 : decode cX3_sort 16 = .ok (.aload_n 0, 1) := dk_42 (dk_at dksX3_sort_0 16 rfl rfl)
theorem dX3_sort_17 : decode cX3_sort 17 = .ok (.iconst 1, 1) := dk_4 (dk_at dksX3_sort_0 17 rfl rfl)
theorem dX3_sort_18 : decode cX3_sort 18 = .ok (.invokevirtual 48, 3) := dk_182 0 48 (dk_at dksX3_sort_0 18 rfl rfl)
theorem dX3_sort_21 : decode cX3_sort 21 = .ok (.athrow, 1) := dk_191 (dk_at dksX3_sort_0 21 rfl rfl)
theorem dX3_sort_22 : decode cX3_sort 22 = .ok (.aload_n 0, 1) := dk_42 (dk_at dksX3_sort_0 22 rfl rfl)
theorem dX3_sort_23 : decode cX3_sort 23 = .ok (.getfield 9, 3) := dk_180 0 9 (dk_at dksX3_sort_1 0 rfl rfl)
theorem dX3_sort_26 : decode cX3_sort 26 = .ok (.getfield 44, 3) := dk_180 0 44 (dk_at dksX3_sort_1 3 rfl rfl)
theorem dX3_sort_29 : decode cX3_sort 29 = .ok (.aload_n 0, 1) := dk_42 (dk_at dksX3_sort_1 6 rfl rfl)
theorem dX3_sort_30 : decode cX3_sort 30 = .ok (.getfield 31, 3) := dk_180 0 31 (dk_at dksX3_sort_1 7 rfl rfl)
theorem dX3_sort_33 : decode cX3_sort 33 = .ok (.baload, 1) := dk_51 (dk_at dksX3_sort_1 10 rfl rfl)
theorem dX3_sort_34 : decode cX3_sort 34 = .ok (.ireturn, 1) := dk_172 (dk_at dksX3_sort_1 11 rfl rfl)
abbrev cX3_wrong : ByteArray := prog_13_method_3_code
def yX3_wrong : MethodName := ⟨RX3, "wrong", "(I)LPartedSide$Fault;"⟩
def dkwX3_wrong_0 : List UInt8 := [42, 27, 42, 180, 0, 31, 182, 0, 35, 176]
abbrev dktX3_wrong_0 : List UInt8 := dkwX3_wrong_0 ++ []
theorem dksX3_wrong_0 : cX3_wrong.data.toList.drop 0 = dktX3_wrong_0 := by decide +kernel
theorem dX3_wrong_0 : decode cX3_wrong 0 = .ok (.aload_n 0, 1) := dk_42 (dk_at dksX3_wrong_0 0 rfl rfl)
theorem dX3_wrong_1 : decode cX3_wrong 1 = .ok (.iload_n 1, 1) := dk_27 (dk_at dksX3_wrong_0 1 rfl rfl)
theorem dX3_wrong_2 : decode cX3_wrong 2 = .ok (.aload_n 0, 1) := dk_42 (dk_at dksX3_wrong_0 2 rfl rfl)
theorem dX3_wrong_3 : decode cX3_wrong 3 = .ok (.getfield 31, 3) := dk_180 0 31 (dk_at dksX3_wrong_0 3 rfl rfl)
theorem dX3_wrong_6 : decode cX3_wrong 6 = .ok (.invokevirtual 35, 3) := dk_182 0 35 (dk_at dksX3_wrong_0 6 rfl rfl)
theorem dX3_wrong_9 : decode cX3_wrong 9 = .ok (.areturn, 1) := dk_176 (dk_at dksX3_wrong_0 9 rfl rfl)
abbrev cX3_wrongAt : ByteArray := prog_13_method_2_code
def yX3_wrongAt : MethodName := ⟨RX3, "wrongAt", "(II)LPartedSide$Fault;"⟩
def dkwX3_wrongAt_0 : List UInt8 := [42, 180, 0, 15, 27, 42, 180, 0, 9, 180, 0, 19, 28, 53, 182, 0, 25, 176]
abbrev dktX3_wrongAt_0 : List UInt8 := dkwX3_wrongAt_0 ++ []
theorem dksX3_wrongAt_0 : cX3_wrongAt.data.toList.drop 0 = dktX3_wrongAt_0 := by decide +kernel
theorem dX3_wrongAt_0 : decode cX3_wrongAt 0 = .ok (.aload_n 0, 1) := dk_42 (dk_at dksX3_wrongAt_0 0 rfl rfl)
theorem dX3_wrongAt_1 : decode cX3_wrongAt 1 = .ok (.getfield 15, 3) := dk_180 0 15 (dk_at dksX3_wrongAt_0 1 rfl rfl)
theorem dX3_wrongAt_4 : decode cX3_wrongAt 4 = .ok (.iload_n 1, 1) := dk_27 (dk_at dksX3_wrongAt_0 4 rfl rfl)
theorem dX3_wrongAt_5 : decode cX3_wrongAt 5 = .ok (.aload_n 0, 1) := dk_42 (dk_at dksX3_wrongAt_0 5 rfl rfl)
theorem dX3_wrongAt_6 : decode cX3_wrongAt 6 = .ok (.getfield 9, 3) := dk_180 0 9 (dk_at dksX3_wrongAt_0 6 rfl rfl)
theorem dX3_wrongAt_9 : decode cX3_wrongAt 9 = .ok (.getfield 19, 3) := dk_180 0 19 (dk_at dksX3_wrongAt_0 9 rfl rfl)
theorem dX3_wrongAt_12 : decode cX3_wrongAt 12 = .ok (.iload_n 2, 1) := dk_28 (dk_at dksX3_wrongAt_0 12 rfl rfl)
theorem dX3_wrongAt_13 : decode cX3_wrongAt 13 = .ok (.saload, 1) := dk_53 (dk_at dksX3_wrongAt_0 13 rfl rfl)
theorem dX3_wrongAt_14 : decode cX3_wrongAt 14 = .ok (.invokevirtual 25, 3) := dk_182 0 25 (dk_at dksX3_wrongAt_0 14 rfl rfl)
theorem dX3_wrongAt_17 : decode cX3_wrongAt 17 = .ok (.areturn, 1) := dk_176 (dk_at dksX3_wrongAt_0 17 rfl rfl)
abbrev cX3_told : ByteArray := prog_13_method_16_code
def yX3_told : MethodName := ⟨RX3, "told", "()V"⟩
def dkwX3_told_12 : List UInt8 := [180, 0, 83, 42, 3, 17, 39, 15, 182, 0, 139, 181, 0, 167, 167, 0, 9, 42, 4, 182, 0, 48, 191, 177]
abbrev dktX3_told_12 : List UInt8 := dkwX3_told_12 ++ []
def dkwX3_told_11 : List UInt8 := [42, 180, 0, 83, 42, 3, 16, 23, 182, 0, 139, 181, 0, 165, 167, 0, 31, 42, 182, 0, 59, 42]
abbrev dktX3_told_11 : List UInt8 := dkwX3_told_11 ++ dktX3_told_12
def dkwX3_told_10 : List UInt8 := [42, 182, 0, 59, 42, 180, 0, 83, 42, 3, 4, 182, 0, 139, 181, 0, 162, 167, 0, 52, 42, 182, 0, 59]
abbrev dktX3_told_10 : List UInt8 := dkwX3_told_10 ++ dktX3_told_11
def dkwX3_told_9 : List UInt8 := [4, 96, 181, 0, 152, 28, 16, 9, 162, 0, 85, 42, 180, 0, 83, 180, 0, 159, 28, 29, 79, 167, 0, 72]
abbrev dktX3_told_9 : List UInt8 := dkwX3_told_9 ++ dktX3_told_10
def dkwX3_told_8 : List UInt8 := [42, 180, 0, 83, 180, 0, 155, 42, 180, 0, 83, 180, 0, 152, 28, 79, 42, 180, 0, 83, 89, 180, 0, 152]
abbrev dktX3_told_8 : List UInt8 := dkwX3_told_8 ++ dktX3_told_9
def dkwX3_told_7 : List UInt8 := [180, 0, 152, 16, 9, 182, 0, 127, 42, 3, 16, 8, 182, 0, 139, 61, 42, 3, 16, 99, 182, 0, 139, 62]
abbrev dktX3_told_7 : List UInt8 := dkwX3_told_7 ++ dktX3_told_8
def dkwX3_told_6 : List UInt8 := [181, 0, 145, 42, 180, 0, 83, 180, 0, 118, 44, 182, 0, 148, 87, 167, 0, 149, 42, 42, 180, 0, 83]
abbrev dktX3_told_6 : List UInt8 := dkwX3_told_6 ++ dktX3_told_7
def dkwX3_told_5 : List UInt8 := [183, 0, 136, 77, 44, 42, 3, 4, 182, 0, 139, 181, 0, 142, 44, 42, 3, 16, 9, 182, 0, 139]
abbrev dktX3_told_5 : List UInt8 := dkwX3_told_5 ++ dktX3_told_6
def dkwX3_told_4 : List UInt8 := [42, 42, 180, 0, 83, 180, 0, 118, 182, 0, 122, 16, 9, 182, 0, 127, 187, 0, 130, 89, 42, 182, 0, 132]
abbrev dktX3_told_4 : List UInt8 := dkwX3_told_4 ++ dktX3_told_5
def dkwX3_told_3 : List UInt8 := [170, 0, 0, 0, 0, 0, 1, 0, 0, 0, 0, 0, 0, 0, 0, 8, 0, 0, 0, 52, 0, 0, 0, 116, 0, 0, 1, 0, 0, 0, 1, 0, 0, 0, 1, 0, 0, 0, 1, 0, 0, 0, 0, 193, 0, 0, 0, 213, 0, 0, 0, 234]
abbrev dktX3_told_3 : List UInt8 := dkwX3_told_3 ++ dktX3_told_4
def dkwX3_told_2 : List UInt8 := [100, 42, 182, 0, 114, 83, 177, 27]
abbrev dktX3_told_2 : List UInt8 := dkwX3_told_2 ++ dktX3_told_3
def dkwX3_told_1 : List UInt8 := [60, 27, 5, 161, 0, 28, 27, 8, 163, 0, 23, 42, 182, 0, 59, 42, 180, 0, 83, 180, 0, 110, 27, 5]
abbrev dktX3_told_1 : List UInt8 := dkwX3_told_1 ++ dktX3_told_2
def dkwX3_told_0 : List UInt8 := [42, 182, 0, 65, 6, 160, 0, 18, 42, 180, 0, 9, 180, 0, 52, 42, 180, 0, 31, 53, 167, 0, 4, 2]
abbrev dktX3_told_0 : List UInt8 := dkwX3_told_0 ++ dktX3_told_1
theorem dksX3_told_0 : cX3_told.data.toList.drop 0 = dktX3_told_0 := by decide +kernel
theorem dksX3_told_1 : cX3_told.data.toList.drop 24 = dktX3_told_1 := dk_seg dksX3_told_0 24 rfl rfl
theorem dksX3_told_2 : cX3_told.data.toList.drop 48 = dktX3_told_2 := dk_seg dksX3_told_1 24 rfl rfl
theorem dksX3_told_3 : cX3_told.data.toList.drop 56 = dktX3_told_3 := dk_seg dksX3_told_2 8 rfl rfl
theorem dksX3_told_4 : cX3_told.data.toList.drop 108 = dktX3_told_4 := dk_seg dksX3_told_3 52 rfl rfl
theorem dksX3_told_5 : cX3_told.data.toList.drop 132 = dktX3_told_5 := dk_seg dksX3_told_4 24 rfl rfl
theorem dksX3_told_6 : cX3_told.data.toList.drop 154 = dktX3_told_6 := dk_seg dksX3_told_5 22 rfl rfl
theorem dksX3_told_7 : cX3_told.data.toList.drop 177 = dktX3_told_7 := dk_seg dksX3_told_6 23 rfl rfl
theorem dksX3_told_8 : cX3_told.data.toList.drop 201 = dktX3_told_8 := dk_seg dksX3_told_7 24 rfl rfl
theorem dksX3_told_9 : cX3_told.data.toList.drop 225 = dktX3_told_9 := dk_seg dksX3_told_8 24 rfl rfl
theorem dksX3_told_10 : cX3_told.data.toList.drop 249 = dktX3_told_10 := dk_seg dksX3_told_9 24 rfl rfl
theorem dksX3_told_11 : cX3_told.data.toList.drop 273 = dktX3_told_11 := dk_seg dksX3_told_10 24 rfl rfl
theorem dksX3_told_12 : cX3_told.data.toList.drop 295 = dktX3_told_12 := dk_seg dksX3_told_11 22 rfl rfl
theorem dX3_told_0 : decode cX3_told 0 = .ok (.aload_n 0, 1) := dk_42 (dk_at dksX3_told_0 0 rfl rfl)
theorem dX3_told_1 : decode cX3_told 1 = .ok (.invokevirtual 65, 3) := dk_182 0 65 (dk_at dksX3_told_0 1 rfl rfl)
theorem dX3_told_4 : decode cX3_told 4 = .ok (.iconst 3, 1) := dk_6 (dk_at dksX3_told_0 4 rfl rfl)
theorem dX3_told_5 : decode cX3_told 5 = .ok (.if_icmp .ne 18, 3) := dk_160 0 18 (dk_at dksX3_told_0 5 rfl rfl)
theorem dX3_told_8 : decode cX3_told 8 = .ok (.aload_n 0, 1) := dk_42 (dk_at dksX3_told_0 8 rfl rfl)
theorem dX3_told_9 : decode cX3_told 9 = .ok (.getfield 9, 3) := dk_180 0 9 (dk_at dksX3_told_0 9 rfl rfl)
theorem dX3_told_12 : decode cX3_told 12 = .ok (.getfield 52, 3) := dk_180 0 52 (dk_at dksX3_told_0 12 rfl rfl)
theorem dX3_told_15 : decode cX3_told 15 = .ok (.aload_n 0, 1) := dk_42 (dk_at dksX3_told_0 15 rfl rfl)
theorem dX3_told_16 : decode cX3_told 16 = .ok (.getfield 31, 3) := dk_180 0 31 (dk_at dksX3_told_0 16 rfl rfl)
theorem dX3_told_19 : decode cX3_told 19 = .ok (.saload, 1) := dk_53 (dk_at dksX3_told_0 19 rfl rfl)
theorem dX3_told_20 : decode cX3_told 20 = .ok (.goto 4, 3) := dk_167 0 4 (dk_at dksX3_told_0 20 rfl rfl)
theorem dX3_told_23 : decode cX3_told 23 = .ok (.iconst (-1), 1) := dk_2 (dk_at dksX3_told_0 23 rfl rfl)
theorem dX3_told_24 : decode cX3_told 24 = .ok (.istore_n 1, 1) := dk_60 (dk_at dksX3_told_1 0 rfl rfl)
theorem dX3_told_25 : decode cX3_told 25 = .ok (.iload_n 1, 1) := dk_27 (dk_at dksX3_told_1 1 rfl rfl)
theorem dX3_told_26 : decode cX3_told 26 = .ok (.iconst 2, 1) := dk_5 (dk_at dksX3_told_1 2 rfl rfl)
theorem dX3_told_27 : decode cX3_told 27 = .ok (.if_icmp .lt 28, 3) := dk_161 0 28 (dk_at dksX3_told_1 3 rfl rfl)
theorem dX3_told_30 : decode cX3_told 30 = .ok (.iload_n 1, 1) := dk_27 (dk_at dksX3_told_1 6 rfl rfl)
theorem dX3_told_31 : decode cX3_told 31 = .ok (.iconst 5, 1) := dk_8 (dk_at dksX3_told_1 7 rfl rfl)
theorem dX3_told_32 : decode cX3_told 32 = .ok (.if_icmp .gt 23, 3) := dk_163 0 23 (dk_at dksX3_told_1 8 rfl rfl)
theorem dX3_told_35 : decode cX3_told 35 = .ok (.aload_n 0, 1) := dk_42 (dk_at dksX3_told_1 11 rfl rfl)
theorem dX3_told_36 : decode cX3_told 36 = .ok (.invokevirtual 59, 3) := dk_182 0 59 (dk_at dksX3_told_1 12 rfl rfl)
theorem dX3_told_39 : decode cX3_told 39 = .ok (.aload_n 0, 1) := dk_42 (dk_at dksX3_told_1 15 rfl rfl)
theorem dX3_told_40 : decode cX3_told 40 = .ok (.getfield 83, 3) := dk_180 0 83 (dk_at dksX3_told_1 16 rfl rfl)
theorem dX3_told_43 : decode cX3_told 43 = .ok (.getfield 110, 3) := dk_180 0 110 (dk_at dksX3_told_1 19 rfl rfl)
theorem dX3_told_46 : decode cX3_told 46 = .ok (.iload_n 1, 1) := dk_27 (dk_at dksX3_told_1 22 rfl rfl)
theorem dX3_told_47 : decode cX3_told 47 = .ok (.iconst 2, 1) := dk_5 (dk_at dksX3_told_1 23 rfl rfl)
theorem dX3_told_48 : decode cX3_told 48 = .ok (.isub, 1) := dk_100 (dk_at dksX3_told_2 0 rfl rfl)
theorem dX3_told_49 : decode cX3_told 49 = .ok (.aload_n 0, 1) := dk_42 (dk_at dksX3_told_2 1 rfl rfl)
theorem dX3_told_50 : decode cX3_told 50 = .ok (.invokevirtual 114, 3) := dk_182 0 114 (dk_at dksX3_told_2 2 rfl rfl)
theorem dX3_told_53 : decode cX3_told 53 = .ok (.aastore, 1) := dk_83 (dk_at dksX3_told_2 5 rfl rfl)
theorem dX3_told_54 : decode cX3_told 54 = .ok (.return_, 1) := dk_177 (dk_at dksX3_told_2 6 rfl rfl)
theorem dX3_told_55 : decode cX3_told 55 = .ok (.iload_n 1, 1) := dk_27 (dk_at dksX3_told_2 7 rfl rfl)
theorem dX3_told_56 : decode cX3_told 56 = .ok (.tableswitch 256 0 8 #[52, 116, 256, 256, 256, 256, 193, 213, 234], 52) := by decide +kernel
theorem dX3_told_108 : decode cX3_told 108 = .ok (.aload_n 0, 1) := dk_42 (dk_at dksX3_told_4 0 rfl rfl)
theorem dX3_told_109 : decode cX3_told 109 = .ok (.aload_n 0, 1) := dk_42 (dk_at dksX3_told_4 1 rfl rfl)
theorem dX3_told_110 : decode cX3_told 110 = .ok (.getfield 83, 3) := dk_180 0 83 (dk_at dksX3_told_4 2 rfl rfl)
theorem dX3_told_113 : decode cX3_told 113 = .ok (.getfield 118, 3) := dk_180 0 118 (dk_at dksX3_told_4 5 rfl rfl)
theorem dX3_told_116 : decode cX3_told 116 = .ok (.invokevirtual 122, 3) := dk_182 0 122 (dk_at dksX3_told_4 8 rfl rfl)
theorem dX3_told_119 : decode cX3_told 119 = .ok (.bipush 9, 2) := dk_16 9 (dk_at dksX3_told_4 11 rfl rfl)
theorem dX3_told_121 : decode cX3_told 121 = .ok (.invokevirtual 127, 3) := dk_182 0 127 (dk_at dksX3_told_4 13 rfl rfl)
theorem dX3_told_124 : decode cX3_told 124 = .ok (.new 130, 3) := dk_187 0 130 (dk_at dksX3_told_4 16 rfl rfl)
theorem dX3_told_127 : decode cX3_told 127 = .ok (.dup, 1) := dk_89 (dk_at dksX3_told_4 19 rfl rfl)
theorem dX3_told_128 : decode cX3_told 128 = .ok (.aload_n 0, 1) := dk_42 (dk_at dksX3_told_4 20 rfl rfl)
theorem dX3_told_129 : decode cX3_told 129 = .ok (.invokevirtual 132, 3) := dk_182 0 132 (dk_at dksX3_told_4 21 rfl rfl)
theorem dX3_told_132 : decode cX3_told 132 = .ok (.invokespecial 136, 3) := dk_183 0 136 (dk_at dksX3_told_5 0 rfl rfl)
theorem dX3_told_135 : decode cX3_told 135 = .ok (.astore_n 2, 1) := dk_77 (dk_at dksX3_told_5 3 rfl rfl)
theorem dX3_told_136 : decode cX3_told 136 = .ok (.aload_n 2, 1) := dk_44 (dk_at dksX3_told_5 4 rfl rfl)
theorem dX3_told_137 : decode cX3_told 137 = .ok (.aload_n 0, 1) := dk_42 (dk_at dksX3_told_5 5 rfl rfl)
theorem dX3_told_138 : decode cX3_told 138 = .ok (.iconst 0, 1) := dk_3 (dk_at dksX3_told_5 6 rfl rfl)
theorem dX3_told_139 : decode cX3_told 139 = .ok (.iconst 1, 1) := dk_4 (dk_at dksX3_told_5 7 rfl rfl)
theorem dX3_told_140 : decode cX3_told 140 = .ok (.invokevirtual 139, 3) := dk_182 0 139 (dk_at dksX3_told_5 8 rfl rfl)
theorem dX3_told_143 : decode cX3_told 143 = .ok (.putfield 142, 3) := dk_181 0 142 (dk_at dksX3_told_5 11 rfl rfl)
theorem dX3_told_146 : decode cX3_told 146 = .ok (.aload_n 2, 1) := dk_44 (dk_at dksX3_told_5 14 rfl rfl)
theorem dX3_told_147 : decode cX3_told 147 = .ok (.aload_n 0, 1) := dk_42 (dk_at dksX3_told_5 15 rfl rfl)
theorem dX3_told_148 : decode cX3_told 148 = .ok (.iconst 0, 1) := dk_3 (dk_at dksX3_told_5 16 rfl rfl)
theorem dX3_told_149 : decode cX3_told 149 = .ok (.bipush 9, 2) := dk_16 9 (dk_at dksX3_told_5 17 rfl rfl)
theorem dX3_told_151 : decode cX3_told 151 = .ok (.invokevirtual 139, 3) := dk_182 0 139 (dk_at dksX3_told_5 19 rfl rfl)
theorem dX3_told_154 : decode cX3_told 154 = .ok (.putfield 145, 3) := dk_181 0 145 (dk_at dksX3_told_6 0 rfl rfl)
theorem dX3_told_157 : decode cX3_told 157 = .ok (.aload_n 0, 1) := dk_42 (dk_at dksX3_told_6 3 rfl rfl)
theorem dX3_told_158 : decode cX3_told 158 = .ok (.getfield 83, 3) := dk_180 0 83 (dk_at dksX3_told_6 4 rfl rfl)
theorem dX3_told_161 : decode cX3_told 161 = .ok (.getfield 118, 3) := dk_180 0 118 (dk_at dksX3_told_6 7 rfl rfl)
theorem dX3_told_164 : decode cX3_told 164 = .ok (.aload_n 2, 1) := dk_44 (dk_at dksX3_told_6 10 rfl rfl)
theorem dX3_told_165 : decode cX3_told 165 = .ok (.invokevirtual 148, 3) := dk_182 0 148 (dk_at dksX3_told_6 11 rfl rfl)
theorem dX3_told_168 : decode cX3_told 168 = .ok (.pop, 1) := dk_87 (dk_at dksX3_told_6 14 rfl rfl)
theorem dX3_told_169 : decode cX3_told 169 = .ok (.goto 149, 3) := dk_167 0 149 (dk_at dksX3_told_6 15 rfl rfl)
theorem dX3_told_172 : decode cX3_told 172 = .ok (.aload_n 0, 1) := dk_42 (dk_at dksX3_told_6 18 rfl rfl)
theorem dX3_told_173 : decode cX3_told 173 = .ok (.aload_n 0, 1) := dk_42 (dk_at dksX3_told_6 19 rfl rfl)
theorem dX3_told_174 : decode cX3_told 174 = .ok (.getfield 83, 3) := dk_180 0 83 (dk_at dksX3_told_6 20 rfl rfl)
theorem dX3_told_177 : decode cX3_told 177 = .ok (.getfield 152, 3) := dk_180 0 152 (dk_at dksX3_told_7 0 rfl rfl)
theorem dX3_told_180 : decode cX3_told 180 = .ok (.bipush 9, 2) := dk_16 9 (dk_at dksX3_told_7 3 rfl rfl)
theorem dX3_told_182 : decode cX3_told 182 = .ok (.invokevirtual 127, 3) := dk_182 0 127 (dk_at dksX3_told_7 5 rfl rfl)
theorem dX3_told_185 : decode cX3_told 185 = .ok (.aload_n 0, 1) := dk_42 (dk_at dksX3_told_7 8 rfl rfl)
theorem dX3_told_186 : decode cX3_told 186 = .ok (.iconst 0, 1) := dk_3 (dk_at dksX3_told_7 9 rfl rfl)
theorem dX3_told_187 : decode cX3_told 187 = .ok (.bipush 8, 2) := dk_16 8 (dk_at dksX3_told_7 10 rfl rfl)
theorem dX3_told_189 : decode cX3_told 189 = .ok (.invokevirtual 139, 3) := dk_182 0 139 (dk_at dksX3_told_7 12 rfl rfl)
theorem dX3_told_192 : decode cX3_told 192 = .ok (.istore_n 2, 1) := dk_61 (dk_at dksX3_told_7 15 rfl rfl)
theorem dX3_told_193 : decode cX3_told 193 = .ok (.aload_n 0, 1) := dk_42 (dk_at dksX3_told_7 16 rfl rfl)
theorem dX3_told_194 : decode cX3_told 194 = .ok (.iconst 0, 1) := dk_3 (dk_at dksX3_told_7 17 rfl rfl)
theorem dX3_told_195 : decode cX3_told 195 = .ok (.bipush 99, 2) := dk_16 99 (dk_at dksX3_told_7 18 rfl rfl)
theorem dX3_told_197 : decode cX3_told 197 = .ok (.invokevirtual 139, 3) := dk_182 0 139 (dk_at dksX3_told_7 20 rfl rfl)
theorem dX3_told_200 : decode cX3_told 200 = .ok (.istore_n 3, 1) := dk_62 (dk_at dksX3_told_7 23 rfl rfl)
theorem dX3_told_201 : decode cX3_told 201 = .ok (.aload_n 0, 1) := dk_42 (dk_at dksX3_told_8 0 rfl rfl)
theorem dX3_told_202 : decode cX3_told 202 = .ok (.getfield 83, 3) := dk_180 0 83 (dk_at dksX3_told_8 1 rfl rfl)
theorem dX3_told_205 : decode cX3_told 205 = .ok (.getfield 155, 3) := dk_180 0 155 (dk_at dksX3_told_8 4 rfl rfl)
theorem dX3_told_208 : decode cX3_told 208 = .ok (.aload_n 0, 1) := dk_42 (dk_at dksX3_told_8 7 rfl rfl)
theorem dX3_told_209 : decode cX3_told 209 = .ok (.getfield 83, 3) := dk_180 0 83 (dk_at dksX3_told_8 8 rfl rfl)
theorem dX3_told_212 : decode cX3_told 212 = .ok (.getfield 152, 3) := dk_180 0 152 (dk_at dksX3_told_8 11 rfl rfl)
theorem dX3_told_215 : decode cX3_told 215 = .ok (.iload_n 2, 1) := dk_28 (dk_at dksX3_told_8 14 rfl rfl)
theorem dX3_told_216 : decode cX3_told 216 = .ok (.iastore, 1) := dk_79 (dk_at dksX3_told_8 15 rfl rfl)
theorem dX3_told_217 : decode cX3_told 217 = .ok (.aload_n 0, 1) := dk_42 (dk_at dksX3_told_8 16 rfl rfl)
theorem dX3_told_218 : decode cX3_told 218 = .ok (.getfield 83, 3) := dk_180 0 83 (dk_at dksX3_told_8 17 rfl rfl)
theorem dX3_told_221 : decode cX3_told 221 = .ok (.dup, 1) := dk_89 (dk_at dksX3_told_8 20 rfl rfl)
theorem dX3_told_222 : decode cX3_told 222 = .ok (.getfield 152, 3) := dk_180 0 152 (dk_at dksX3_told_8 21 rfl rfl)
theorem dX3_told_225 : decode cX3_told 225 = .ok (.iconst 1, 1) := dk_4 (dk_at dksX3_told_9 0 rfl rfl)
theorem dX3_told_226 : decode cX3_told 226 = .ok (.iadd, 1) := dk_96 (dk_at dksX3_told_9 1 rfl rfl)
theorem dX3_told_227 : decode cX3_told 227 = .ok (.putfield 152, 3) := dk_181 0 152 (dk_at dksX3_told_9 2 rfl rfl)
theorem dX3_told_230 : decode cX3_told 230 = .ok (.iload_n 2, 1) := dk_28 (dk_at dksX3_told_9 5 rfl rfl)
theorem dX3_told_231 : decode cX3_told 231 = .ok (.bipush 9, 2) := dk_16 9 (dk_at dksX3_told_9 6 rfl rfl)
theorem dX3_told_233 : decode cX3_told 233 = .ok (.if_icmp .ge 85, 3) := dk_162 0 85 (dk_at dksX3_told_9 8 rfl rfl)
theorem dX3_told_236 : decode cX3_told 236 = .ok (.aload_n 0, 1) := dk_42 (dk_at dksX3_told_9 11 rfl rfl)
theorem dX3_told_237 : decode cX3_told 237 = .ok (.getfield 83, 3) := dk_180 0 83 (dk_at dksX3_told_9 12 rfl rfl)
theorem dX3_told_240 : decode cX3_told 240 = .ok (.getfield 159, 3) := dk_180 0 159 (dk_at dksX3_told_9 15 rfl rfl)
theorem dX3_told_243 : decode cX3_told 243 = .ok (.iload_n 2, 1) := dk_28 (dk_at dksX3_told_9 18 rfl rfl)
theorem dX3_told_244 : decode cX3_told 244 = .ok (.iload_n 3, 1) := dk_29 (dk_at dksX3_told_9 19 rfl rfl)
theorem dX3_told_245 : decode cX3_told 245 = .ok (.iastore, 1) := dk_79 (dk_at dksX3_told_9 20 rfl rfl)
theorem dX3_told_246 : decode cX3_told 246 = .ok (.goto 72, 3) := dk_167 0 72 (dk_at dksX3_told_9 21 rfl rfl)
theorem dX3_told_249 : decode cX3_told 249 = .ok (.aload_n 0, 1) := dk_42 (dk_at dksX3_told_10 0 rfl rfl)
theorem dX3_told_250 : decode cX3_told 250 = .ok (.invokevirtual 59, 3) := dk_182 0 59 (dk_at dksX3_told_10 1 rfl rfl)
theorem dX3_told_253 : decode cX3_told 253 = .ok (.aload_n 0, 1) := dk_42 (dk_at dksX3_told_10 4 rfl rfl)
theorem dX3_told_254 : decode cX3_told 254 = .ok (.getfield 83, 3) := dk_180 0 83 (dk_at dksX3_told_10 5 rfl rfl)
theorem dX3_told_257 : decode cX3_told 257 = .ok (.aload_n 0, 1) := dk_42 (dk_at dksX3_told_10 8 rfl rfl)
theorem dX3_told_258 : decode cX3_told 258 = .ok (.iconst 0, 1) := dk_3 (dk_at dksX3_told_10 9 rfl rfl)
theorem dX3_told_259 : decode cX3_told 259 = .ok (.iconst 1, 1) := dk_4 (dk_at dksX3_told_10 10 rfl rfl)
theorem dX3_told_260 : decode cX3_told 260 = .ok (.invokevirtual 139, 3) := dk_182 0 139 (dk_at dksX3_told_10 11 rfl rfl)
theorem dX3_told_263 : decode cX3_told 263 = .ok (.putfield 162, 3) := dk_181 0 162 (dk_at dksX3_told_10 14 rfl rfl)
theorem dX3_told_266 : decode cX3_told 266 = .ok (.goto 52, 3) := dk_167 0 52 (dk_at dksX3_told_10 17 rfl rfl)
theorem dX3_told_269 : decode cX3_told 269 = .ok (.aload_n 0, 1) := dk_42 (dk_at dksX3_told_10 20 rfl rfl)
theorem dX3_told_270 : decode cX3_told 270 = .ok (.invokevirtual 59, 3) := dk_182 0 59 (dk_at dksX3_told_10 21 rfl rfl)
theorem dX3_told_273 : decode cX3_told 273 = .ok (.aload_n 0, 1) := dk_42 (dk_at dksX3_told_11 0 rfl rfl)
theorem dX3_told_274 : decode cX3_told 274 = .ok (.getfield 83, 3) := dk_180 0 83 (dk_at dksX3_told_11 1 rfl rfl)
theorem dX3_told_277 : decode cX3_told 277 = .ok (.aload_n 0, 1) := dk_42 (dk_at dksX3_told_11 4 rfl rfl)
theorem dX3_told_278 : decode cX3_told 278 = .ok (.iconst 0, 1) := dk_3 (dk_at dksX3_told_11 5 rfl rfl)
theorem dX3_told_279 : decode cX3_told 279 = .ok (.bipush 23, 2) := dk_16 23 (dk_at dksX3_told_11 6 rfl rfl)
theorem dX3_told_281 : decode cX3_told 281 = .ok (.invokevirtual 139, 3) := dk_182 0 139 (dk_at dksX3_told_11 8 rfl rfl)
theorem dX3_told_284 : decode cX3_told 284 = .ok (.putfield 165, 3) := dk_181 0 165 (dk_at dksX3_told_11 11 rfl rfl)
theorem dX3_told_287 : decode cX3_told 287 = .ok (.goto 31, 3) := dk_167 0 31 (dk_at dksX3_told_11 14 rfl rfl)
theorem dX3_told_290 : decode cX3_told 290 = .ok (.aload_n 0, 1) := dk_42 (dk_at dksX3_told_11 17 rfl rfl)
theorem dX3_told_291 : decode cX3_told 291 = .ok (.invokevirtual 59, 3) := dk_182 0 59 (dk_at dksX3_told_11 18 rfl rfl)
theorem dX3_told_294 : decode cX3_told 294 = .ok (.aload_n 0, 1) := dk_42 (dk_at dksX3_told_11 21 rfl rfl)
theorem dX3_told_295 : decode cX3_told 295 = .ok (.getfield 83, 3) := dk_180 0 83 (dk_at dksX3_told_12 0 rfl rfl)
theorem dX3_told_298 : decode cX3_told 298 = .ok (.aload_n 0, 1) := dk_42 (dk_at dksX3_told_12 3 rfl rfl)
theorem dX3_told_299 : decode cX3_told 299 = .ok (.iconst 0, 1) := dk_3 (dk_at dksX3_told_12 4 rfl rfl)
theorem dX3_told_300 : decode cX3_told 300 = .ok (.sipush 9999, 3) := dk_17 39 15 (dk_at dksX3_told_12 5 rfl rfl)
theorem dX3_told_303 : decode cX3_told 303 = .ok (.invokevirtual 139, 3) := dk_182 0 139 (dk_at dksX3_told_12 8 rfl rfl)
theorem dX3_told_306 : decode cX3_told 306 = .ok (.putfield 167, 3) := dk_181 0 167 (dk_at dksX3_told_12 11 rfl rfl)
theorem dX3_told_309 : decode cX3_told 309 = .ok (.goto 9, 3) := dk_167 0 9 (dk_at dksX3_told_12 14 rfl rfl)
theorem dX3_told_312 : decode cX3_told 312 = .ok (.aload_n 0, 1) := dk_42 (dk_at dksX3_told_12 17 rfl rfl)
theorem dX3_told_313 : decode cX3_told 313 = .ok (.iconst 1, 1) := dk_4 (dk_at dksX3_told_12 18 rfl rfl)
theorem dX3_told_314 : decode cX3_told 314 = .ok (.invokevirtual 48, 3) := dk_182 0 48 (dk_at dksX3_told_12 19 rfl rfl)
theorem dX3_told_317 : decode cX3_told 317 = .ok (.athrow, 1) := dk_191 (dk_at dksX3_told_12 22 rfl rfl)
theorem dX3_told_318 : decode cX3_told 318 = .ok (.return_, 1) := dk_177 (dk_at dksX3_told_12 23 rfl rfl)
abbrev cX3_pass : ByteArray := prog_13_method_6_code
def yX3_pass : MethodName := ⟨RX3, "pass", "()V"⟩
def dkwX3_pass_1 : List UInt8 := [181, 0, 31, 177]
abbrev dktX3_pass_1 : List UInt8 := dkwX3_pass_1 ++ []
def dkwX3_pass_0 : List UInt8 := [42, 180, 0, 31, 17, 1, 144, 161, 0, 9, 42, 5, 182, 0, 48, 191, 42, 89, 180, 0, 31, 4, 96]
abbrev dktX3_pass_0 : List UInt8 := dkwX3_pass_0 ++ dktX3_pass_1
theorem dksX3_pass_0 : cX3_pass.data.toList.drop 0 = dktX3_pass_0 := by decide +kernel
theorem dksX3_pass_1 : cX3_pass.data.toList.drop 23 = dktX3_pass_1 := dk_seg dksX3_pass_0 23 rfl rfl
theorem dX3_pass_0 : decode cX3_pass 0 = .ok (.aload_n 0, 1) := dk_42 (dk_at dksX3_pass_0 0 rfl rfl)
theorem dX3_pass_1 : decode cX3_pass 1 = .ok (.getfield 31, 3) := dk_180 0 31 (dk_at dksX3_pass_0 1 rfl rfl)
theorem dX3_pass_4 : decode cX3_pass 4 = .ok (.sipush 400, 3) := dk_17 1 144 (dk_at dksX3_pass_0 4 rfl rfl)
theorem dX3_pass_7 : decode cX3_pass 7 = .ok (.if_icmp .lt 9, 3) := dk_161 0 9 (dk_at dksX3_pass_0 7 rfl rfl)
theorem dX3_pass_10 : decode cX3_pass 10 = .ok (.aload_n 0, 1) := dk_42 (dk_at dksX3_pass_0 10 rfl rfl)
theorem dX3_pass_11 : decode cX3_pass 11 = .ok (.iconst 2, 1) := dk_5 (dk_at dksX3_pass_0 11 rfl rfl)
theorem dX3_pass_12 : decode cX3_pass 12 = .ok (.invokevirtual 48, 3) := dk_182 0 48 (dk_at dksX3_pass_0 12 rfl rfl)
theorem dX3_pass_15 : decode cX3_pass 15 = .ok (.athrow, 1) := dk_191 (dk_at dksX3_pass_0 15 rfl rfl)
theorem dX3_pass_16 : decode cX3_pass 16 = .ok (.aload_n 0, 1) := dk_42 (dk_at dksX3_pass_0 16 rfl rfl)
theorem dX3_pass_17 : decode cX3_pass 17 = .ok (.dup, 1) := dk_89 (dk_at dksX3_pass_0 17 rfl rfl)
theorem dX3_pass_18 : decode cX3_pass 18 = .ok (.getfield 31, 3) := dk_180 0 31 (dk_at dksX3_pass_0 18 rfl rfl)
theorem dX3_pass_21 : decode cX3_pass 21 = .ok (.iconst 1, 1) := dk_4 (dk_at dksX3_pass_0 21 rfl rfl)
theorem dX3_pass_22 : decode cX3_pass 22 = .ok (.iadd, 1) := dk_96 (dk_at dksX3_pass_0 22 rfl rfl)
theorem dX3_pass_23 : decode cX3_pass 23 = .ok (.putfield 31, 3) := dk_181 0 31 (dk_at dksX3_pass_1 0 rfl rfl)
theorem dX3_pass_26 : decode cX3_pass 26 = .ok (.return_, 1) := dk_177 (dk_at dksX3_pass_1 3 rfl rfl)
abbrev cX3_law : ByteArray := prog_13_method_17_code
def yX3_law : MethodName := ⟨RX3, "law", "()LPartedSide$Law;"⟩
def dkwX3_law_4 : List UInt8 := [96, 181, 0, 173, 167, 255, 171, 43, 180, 0, 190, 43, 180, 0, 173, 42, 182, 0, 180, 83, 43, 176]
abbrev dktX3_law_4 : List UInt8 := dkwX3_law_4 ++ []
def dkwX3_law_3 : List UInt8 := [180, 0, 190, 43, 180, 0, 173, 42, 182, 0, 180, 83, 42, 16, 11, 182, 0, 187, 43, 89, 180, 0, 173, 4]
abbrev dktX3_law_3 : List UInt8 := dkwX3_law_3 ++ dktX3_law_4
def dkwX3_law_2 : List UInt8 := [182, 0, 102, 43, 180, 0, 184, 43, 180, 0, 173, 42, 182, 0, 180, 83, 42, 16, 10, 182, 0, 187, 43]
abbrev dktX3_law_2 : List UInt8 := dkwX3_law_2 ++ dktX3_law_3
def dkwX3_law_1 : List UInt8 := [43, 180, 0, 173, 7, 182, 0, 127, 43, 180, 0, 176, 43, 180, 0, 173, 42, 182, 0, 180, 83, 42, 16, 60]
abbrev dktX3_law_1 : List UInt8 := dkwX3_law_1 ++ dktX3_law_2
def dkwX3_law_0 : List UInt8 := [187, 0, 170, 89, 183, 0, 172, 76, 42, 16, 61, 182, 0, 102, 42, 16, 9, 182, 0, 62, 153, 0, 82, 42]
abbrev dktX3_law_0 : List UInt8 := dkwX3_law_0 ++ dktX3_law_1
theorem dksX3_law_0 : cX3_law.data.toList.drop 0 = dktX3_law_0 := by decide +kernel
theorem dksX3_law_1 : cX3_law.data.toList.drop 24 = dktX3_law_1 := dk_seg dksX3_law_0 24 rfl rfl
theorem dksX3_law_2 : cX3_law.data.toList.drop 48 = dktX3_law_2 := dk_seg dksX3_law_1 24 rfl rfl
theorem dksX3_law_3 : cX3_law.data.toList.drop 71 = dktX3_law_3 := dk_seg dksX3_law_2 23 rfl rfl
theorem dksX3_law_4 : cX3_law.data.toList.drop 95 = dktX3_law_4 := dk_seg dksX3_law_3 24 rfl rfl
theorem dX3_law_0 : decode cX3_law 0 = .ok (.new 170, 3) := dk_187 0 170 (dk_at dksX3_law_0 0 rfl rfl)
theorem dX3_law_3 : decode cX3_law 3 = .ok (.dup, 1) := dk_89 (dk_at dksX3_law_0 3 rfl rfl)
theorem dX3_law_4 : decode cX3_law 4 = .ok (.invokespecial 172, 3) := dk_183 0 172 (dk_at dksX3_law_0 4 rfl rfl)
theorem dX3_law_7 : decode cX3_law 7 = .ok (.astore_n 1, 1) := dk_76 (dk_at dksX3_law_0 7 rfl rfl)
theorem dX3_law_8 : decode cX3_law 8 = .ok (.aload_n 0, 1) := dk_42 (dk_at dksX3_law_0 8 rfl rfl)
theorem dX3_law_9 : decode cX3_law 9 = .ok (.bipush 61, 2) := dk_16 61 (dk_at dksX3_law_0 9 rfl rfl)
theorem dX3_law_11 : decode cX3_law 11 = .ok (.invokevirtual 102, 3) := dk_182 0 102 (dk_at dksX3_law_0 11 rfl rfl)
theorem dX3_law_14 : decode cX3_law 14 = .ok (.aload_n 0, 1) := dk_42 (dk_at dksX3_law_0 14 rfl rfl)
theorem dX3_law_15 : decode cX3_law 15 = .ok (.bipush 9, 2) := dk_16 9 (dk_at dksX3_law_0 15 rfl rfl)
theorem dX3_law_17 : decode cX3_law 17 = .ok (.invokevirtual 62, 3) := dk_182 0 62 (dk_at dksX3_law_0 17 rfl rfl)
theorem dX3_law_20 : decode cX3_law 20 = .ok (.ifCond .eq 82, 3) := dk_153 0 82 (dk_at dksX3_law_0 20 rfl rfl)
theorem dX3_law_23 : decode cX3_law 23 = .ok (.aload_n 0, 1) := dk_42 (dk_at dksX3_law_0 23 rfl rfl)
theorem dX3_law_24 : decode cX3_law 24 = .ok (.aload_n 1, 1) := dk_43 (dk_at dksX3_law_1 0 rfl rfl)
theorem dX3_law_25 : decode cX3_law 25 = .ok (.getfield 173, 3) := dk_180 0 173 (dk_at dksX3_law_1 1 rfl rfl)
theorem dX3_law_28 : decode cX3_law 28 = .ok (.iconst 4, 1) := dk_7 (dk_at dksX3_law_1 4 rfl rfl)
theorem dX3_law_29 : decode cX3_law 29 = .ok (.invokevirtual 127, 3) := dk_182 0 127 (dk_at dksX3_law_1 5 rfl rfl)
theorem dX3_law_32 : decode cX3_law 32 = .ok (.aload_n 1, 1) := dk_43 (dk_at dksX3_law_1 8 rfl rfl)
theorem dX3_law_33 : decode cX3_law 33 = .ok (.getfield 176, 3) := dk_180 0 176 (dk_at dksX3_law_1 9 rfl rfl)
theorem dX3_law_36 : decode cX3_law 36 = .ok (.aload_n 1, 1) := dk_43 (dk_at dksX3_law_1 12 rfl rfl)
theorem dX3_law_37 : decode cX3_law 37 = .ok (.getfield 173, 3) := dk_180 0 173 (dk_at dksX3_law_1 13 rfl rfl)
theorem dX3_law_40 : decode cX3_law 40 = .ok (.aload_n 0, 1) := dk_42 (dk_at dksX3_law_1 16 rfl rfl)
theorem dX3_law_41 : decode cX3_law 41 = .ok (.invokevirtual 180, 3) := dk_182 0 180 (dk_at dksX3_law_1 17 rfl rfl)
theorem dX3_law_44 : decode cX3_law 44 = .ok (.aastore, 1) := dk_83 (dk_at dksX3_law_1 20 rfl rfl)
theorem dX3_law_45 : decode cX3_law 45 = .ok (.aload_n 0, 1) := dk_42 (dk_at dksX3_law_1 21 rfl rfl)
theorem dX3_law_46 : decode cX3_law 46 = .ok (.bipush 60, 2) := dk_16 60 (dk_at dksX3_law_1 22 rfl rfl)
theorem dX3_law_48 : decode cX3_law 48 = .ok (.invokevirtual 102, 3) := dk_182 0 102 (dk_at dksX3_law_2 0 rfl rfl)
theorem dX3_law_51 : decode cX3_law 51 = .ok (.aload_n 1, 1) := dk_43 (dk_at dksX3_law_2 3 rfl rfl)
theorem dX3_law_52 : decode cX3_law 52 = .ok (.getfield 184, 3) := dk_180 0 184 (dk_at dksX3_law_2 4 rfl rfl)
theorem dX3_law_55 : decode cX3_law 55 = .ok (.aload_n 1, 1) := dk_43 (dk_at dksX3_law_2 7 rfl rfl)
theorem dX3_law_56 : decode cX3_law 56 = .ok (.getfield 173, 3) := dk_180 0 173 (dk_at dksX3_law_2 8 rfl rfl)
theorem dX3_law_59 : decode cX3_law 59 = .ok (.aload_n 0, 1) := dk_42 (dk_at dksX3_law_2 11 rfl rfl)
theorem dX3_law_60 : decode cX3_law 60 = .ok (.invokevirtual 180, 3) := dk_182 0 180 (dk_at dksX3_law_2 12 rfl rfl)
theorem dX3_law_63 : decode cX3_law 63 = .ok (.aastore, 1) := dk_83 (dk_at dksX3_law_2 15 rfl rfl)
theorem dX3_law_64 : decode cX3_law 64 = .ok (.aload_n 0, 1) := dk_42 (dk_at dksX3_law_2 16 rfl rfl)
theorem dX3_law_65 : decode cX3_law 65 = .ok (.bipush 10, 2) := dk_16 10 (dk_at dksX3_law_2 17 rfl rfl)
theorem dX3_law_67 : decode cX3_law 67 = .ok (.invokevirtual 187, 3) := dk_182 0 187 (dk_at dksX3_law_2 19 rfl rfl)
theorem dX3_law_70 : decode cX3_law 70 = .ok (.aload_n 1, 1) := dk_43 (dk_at dksX3_law_2 22 rfl rfl)
theorem dX3_law_71 : decode cX3_law 71 = .ok (.getfield 190, 3) := dk_180 0 190 (dk_at dksX3_law_3 0 rfl rfl)
theorem dX3_law_74 : decode cX3_law 74 = .ok (.aload_n 1, 1) := dk_43 (dk_at dksX3_law_3 3 rfl rfl)
theorem dX3_law_75 : decode cX3_law 75 = .ok (.getfield 173, 3) := dk_180 0 173 (dk_at dksX3_law_3 4 rfl rfl)
theorem dX3_law_78 : decode cX3_law 78 = .ok (.aload_n 0, 1) := dk_42 (dk_at dksX3_law_3 7 rfl rfl)
theorem dX3_law_79 : decode cX3_law 79 = .ok (.invokevirtual 180, 3) := dk_182 0 180 (dk_at dksX3_law_3 8 rfl rfl)
theorem dX3_law_82 : decode cX3_law 82 = .ok (.aastore, 1) := dk_83 (dk_at dksX3_law_3 11 rfl rfl)
theorem dX3_law_83 : decode cX3_law 83 = .ok (.aload_n 0, 1) := dk_42 (dk_at dksX3_law_3 12 rfl rfl)
theorem dX3_law_84 : decode cX3_law 84 = .ok (.bipush 11, 2) := dk_16 11 (dk_at dksX3_law_3 13 rfl rfl)
theorem dX3_law_86 : decode cX3_law 86 = .ok (.invokevirtual 187, 3) := dk_182 0 187 (dk_at dksX3_law_3 15 rfl rfl)
theorem dX3_law_89 : decode cX3_law 89 = .ok (.aload_n 1, 1) := dk_43 (dk_at dksX3_law_3 18 rfl rfl)
theorem dX3_law_90 : decode cX3_law 90 = .ok (.dup, 1) := dk_89 (dk_at dksX3_law_3 19 rfl rfl)
theorem dX3_law_91 : decode cX3_law 91 = .ok (.getfield 173, 3) := dk_180 0 173 (dk_at dksX3_law_3 20 rfl rfl)
theorem dX3_law_94 : decode cX3_law 94 = .ok (.iconst 1, 1) := dk_4 (dk_at dksX3_law_3 23 rfl rfl)
theorem dX3_law_95 : decode cX3_law 95 = .ok (.iadd, 1) := dk_96 (dk_at dksX3_law_4 0 rfl rfl)
theorem dX3_law_96 : decode cX3_law 96 = .ok (.putfield 173, 3) := dk_181 0 173 (dk_at dksX3_law_4 1 rfl rfl)
theorem dX3_law_99 : decode cX3_law 99 = .ok (.goto (-85), 3) := dk_167 255 171 (dk_at dksX3_law_4 4 rfl rfl)
theorem dX3_law_102 : decode cX3_law 102 = .ok (.aload_n 1, 1) := dk_43 (dk_at dksX3_law_4 7 rfl rfl)
theorem dX3_law_103 : decode cX3_law 103 = .ok (.getfield 190, 3) := dk_180 0 190 (dk_at dksX3_law_4 8 rfl rfl)
theorem dX3_law_106 : decode cX3_law 106 = .ok (.aload_n 1, 1) := dk_43 (dk_at dksX3_law_4 11 rfl rfl)
theorem dX3_law_107 : decode cX3_law 107 = .ok (.getfield 173, 3) := dk_180 0 173 (dk_at dksX3_law_4 12 rfl rfl)
theorem dX3_law_110 : decode cX3_law 110 = .ok (.aload_n 0, 1) := dk_42 (dk_at dksX3_law_4 15 rfl rfl)
theorem dX3_law_111 : decode cX3_law 111 = .ok (.invokevirtual 180, 3) := dk_182 0 180 (dk_at dksX3_law_4 16 rfl rfl)
theorem dX3_law_114 : decode cX3_law 114 = .ok (.aastore, 1) := dk_83 (dk_at dksX3_law_4 19 rfl rfl)
theorem dX3_law_115 : decode cX3_law 115 = .ok (.aload_n 1, 1) := dk_43 (dk_at dksX3_law_4 20 rfl rfl)
theorem dX3_law_116 : decode cX3_law 116 = .ok (.areturn, 1) := dk_176 (dk_at dksX3_law_4 21 rfl rfl)
abbrev cX3_sign : ByteArray := prog_13_method_9_code
def yX3_sign : MethodName := ⟨RX3, "sign", "(I)V"⟩
def dkwX3_sign_0 : List UInt8 := [42, 27, 182, 0, 55, 154, 0, 9, 42, 4, 182, 0, 48, 191, 42, 182, 0, 59, 177]
abbrev dktX3_sign_0 : List UInt8 := dkwX3_sign_0 ++ []
theorem dksX3_sign_0 : cX3_sign.data.toList.drop 0 = dktX3_sign_0 := by decide +kernel
theorem dX3_sign_0 : decode cX3_sign 0 = .ok (.aload_n 0, 1) := dk_42 (dk_at dksX3_sign_0 0 rfl rfl)
theorem dX3_sign_1 : decode cX3_sign 1 = .ok (.iload_n 1, 1) := dk_27 (dk_at dksX3_sign_0 1 rfl rfl)
theorem dX3_sign_2 : decode cX3_sign 2 = .ok (.invokevirtual 55, 3) := dk_182 0 55 (dk_at dksX3_sign_0 2 rfl rfl)
theorem dX3_sign_5 : decode cX3_sign 5 = .ok (.ifCond .ne 9, 3) := dk_154 0 9 (dk_at dksX3_sign_0 5 rfl rfl)
theorem dX3_sign_8 : decode cX3_sign 8 = .ok (.aload_n 0, 1) := dk_42 (dk_at dksX3_sign_0 8 rfl rfl)
theorem dX3_sign_9 : decode cX3_sign 9 = .ok (.iconst 1, 1) := dk_4 (dk_at dksX3_sign_0 9 rfl rfl)
theorem dX3_sign_10 : decode cX3_sign 10 = .ok (.invokevirtual 48, 3) := dk_182 0 48 (dk_at dksX3_sign_0 10 rfl rfl)
theorem dX3_sign_13 : decode cX3_sign 13 = .ok (.athrow, 1) := dk_191 (dk_at dksX3_sign_0 13 rfl rfl)
theorem dX3_sign_14 : decode cX3_sign 14 = .ok (.aload_n 0, 1) := dk_42 (dk_at dksX3_sign_0 14 rfl rfl)
theorem dX3_sign_15 : decode cX3_sign 15 = .ok (.invokevirtual 59, 3) := dk_182 0 59 (dk_at dksX3_sign_0 15 rfl rfl)
theorem dX3_sign_18 : decode cX3_sign 18 = .ok (.return_, 1) := dk_177 (dk_at dksX3_sign_0 18 rfl rfl)
abbrev cX3_isSign : ByteArray := prog_13_method_7_code
def yX3_isSign : MethodName := ⟨RX3, "isSign", "(I)Z"⟩
def dkwX3_isSign_1 : List UInt8 := [180, 0, 31, 53, 27, 160, 0, 7, 4, 167, 0, 4, 3, 172]
abbrev dktX3_isSign_1 : List UInt8 := dkwX3_isSign_1 ++ []
def dkwX3_isSign_0 : List UInt8 := [42, 180, 0, 9, 180, 0, 44, 42, 180, 0, 31, 51, 5, 160, 0, 23, 42, 180, 0, 9, 180, 0, 52, 42]
abbrev dktX3_isSign_0 : List UInt8 := dkwX3_isSign_0 ++ dktX3_isSign_1
theorem dksX3_isSign_0 : cX3_isSign.data.toList.drop 0 = dktX3_isSign_0 := by decide +kernel
theorem dksX3_isSign_1 : cX3_isSign.data.toList.drop 24 = dktX3_isSign_1 := dk_seg dksX3_isSign_0 24 rfl rfl
theorem dX3_isSign_0 : decode cX3_isSign 0 = .ok (.aload_n 0, 1) := dk_42 (dk_at dksX3_isSign_0 0 rfl rfl)
theorem dX3_isSign_1 : decode cX3_isSign 1 = .ok (.getfield 9, 3) := dk_180 0 9 (dk_at dksX3_isSign_0 1 rfl rfl)
theorem dX3_isSign_4 : decode cX3_isSign 4 = .ok (.getfield 44, 3) := dk_180 0 44 (dk_at dksX3_isSign_0 4 rfl rfl)
theorem dX3_isSign_7 : decode cX3_isSign 7 = .ok (.aload_n 0, 1) := dk_42 (dk_at dksX3_isSign_0 7 rfl rfl)
theorem dX3_isSign_8 : decode cX3_isSign 8 = .ok (.getfield 31, 3) := dk_180 0 31 (dk_at dksX3_isSign_0 8 rfl rfl)
theorem dX3_isSign_11 : decode cX3_isSign 11 = .ok (.baload, 1) := dk_51 (dk_at dksX3_isSign_0 11 rfl rfl)
theorem dX3_isSign_12 : decode cX3_isSign 12 = .ok (.iconst 2, 1) := dk_5 (dk_at dksX3_isSign_0 12 rfl rfl)
theorem dX3_isSign_13 : decode cX3_isSign 13 = .ok (.if_icmp .ne 23, 3) := dk_160 0 23 (dk_at dksX3_isSign_0 13 rfl rfl)
theorem dX3_isSign_16 : decode cX3_isSign 16 = .ok (.aload_n 0, 1) := dk_42 (dk_at dksX3_isSign_0 16 rfl rfl)
theorem dX3_isSign_17 : decode cX3_isSign 17 = .ok (.getfield 9, 3) := dk_180 0 9 (dk_at dksX3_isSign_0 17 rfl rfl)
theorem dX3_isSign_20 : decode cX3_isSign 20 = .ok (.getfield 52, 3) := dk_180 0 52 (dk_at dksX3_isSign_0 20 rfl rfl)
theorem dX3_isSign_23 : decode cX3_isSign 23 = .ok (.aload_n 0, 1) := dk_42 (dk_at dksX3_isSign_0 23 rfl rfl)
theorem dX3_isSign_24 : decode cX3_isSign 24 = .ok (.getfield 31, 3) := dk_180 0 31 (dk_at dksX3_isSign_1 0 rfl rfl)
theorem dX3_isSign_27 : decode cX3_isSign 27 = .ok (.saload, 1) := dk_53 (dk_at dksX3_isSign_1 3 rfl rfl)
theorem dX3_isSign_28 : decode cX3_isSign 28 = .ok (.iload_n 1, 1) := dk_27 (dk_at dksX3_isSign_1 4 rfl rfl)
theorem dX3_isSign_29 : decode cX3_isSign 29 = .ok (.if_icmp .ne 7, 3) := dk_160 0 7 (dk_at dksX3_isSign_1 5 rfl rfl)
theorem dX3_isSign_32 : decode cX3_isSign 32 = .ok (.iconst 1, 1) := dk_4 (dk_at dksX3_isSign_1 8 rfl rfl)
theorem dX3_isSign_33 : decode cX3_isSign 33 = .ok (.goto 4, 3) := dk_167 0 4 (dk_at dksX3_isSign_1 9 rfl rfl)
theorem dX3_isSign_36 : decode cX3_isSign 36 = .ok (.iconst 0, 1) := dk_3 (dk_at dksX3_isSign_1 12 rfl rfl)
theorem dX3_isSign_37 : decode cX3_isSign 37 = .ok (.ireturn, 1) := dk_172 (dk_at dksX3_isSign_1 13 rfl rfl)
abbrev cX3_isWord : ByteArray := prog_13_method_8_code
def yX3_isWord : MethodName := ⟨RX3, "isWord", "(I)Z"⟩
def dkwX3_isWord_1 : List UInt8 := [180, 0, 31, 53, 27, 160, 0, 7, 4, 167, 0, 4, 3, 172]
abbrev dktX3_isWord_1 : List UInt8 := dkwX3_isWord_1 ++ []
def dkwX3_isWord_0 : List UInt8 := [42, 180, 0, 9, 180, 0, 44, 42, 180, 0, 31, 51, 6, 160, 0, 23, 42, 180, 0, 9, 180, 0, 52, 42]
abbrev dktX3_isWord_0 : List UInt8 := dkwX3_isWord_0 ++ dktX3_isWord_1
theorem dksX3_isWord_0 : cX3_isWord.data.toList.drop 0 = dktX3_isWord_0 := by decide +kernel
theorem dksX3_isWord_1 : cX3_isWord.data.toList.drop 24 = dktX3_isWord_1 := dk_seg dksX3_isWord_0 24 rfl rfl
theorem dX3_isWord_0 : decode cX3_isWord 0 = .ok (.aload_n 0, 1) := dk_42 (dk_at dksX3_isWord_0 0 rfl rfl)
theorem dX3_isWord_1 : decode cX3_isWord 1 = .ok (.getfield 9, 3) := dk_180 0 9 (dk_at dksX3_isWord_0 1 rfl rfl)
theorem dX3_isWord_4 : decode cX3_isWord 4 = .ok (.getfield 44, 3) := dk_180 0 44 (dk_at dksX3_isWord_0 4 rfl rfl)
theorem dX3_isWord_7 : decode cX3_isWord 7 = .ok (.aload_n 0, 1) := dk_42 (dk_at dksX3_isWord_0 7 rfl rfl)
theorem dX3_isWord_8 : decode cX3_isWord 8 = .ok (.getfield 31, 3) := dk_180 0 31 (dk_at dksX3_isWord_0 8 rfl rfl)
theorem dX3_isWord_11 : decode cX3_isWord 11 = .ok (.baload, 1) := dk_51 (dk_at dksX3_isWord_0 11 rfl rfl)
theorem dX3_isWord_12 : decode cX3_isWord 12 = .ok (.iconst 3, 1) := dk_6 (dk_at dksX3_isWord_0 12 rfl rfl)
theorem dX3_isWord_13 : decode cX3_isWord 13 = .ok (.if_icmp .ne 23, 3) := dk_160 0 23 (dk_at dksX3_isWord_0 13 rfl rfl)
theorem dX3_isWord_16 : decode cX3_isWord 16 = .ok (.aload_n 0, 1) := dk_42 (dk_at dksX3_isWord_0 16 rfl rfl)
theorem dX3_isWord_17 : decode cX3_isWord 17 = .ok (.getfield 9, 3) := dk_180 0 9 (dk_at dksX3_isWord_0 17 rfl rfl)
theorem dX3_isWord_20 : decode cX3_isWord 20 = .ok (.getfield 52, 3) := dk_180 0 52 (dk_at dksX3_isWord_0 20 rfl rfl)
theorem dX3_isWord_23 : decode cX3_isWord 23 = .ok (.aload_n 0, 1) := dk_42 (dk_at dksX3_isWord_0 23 rfl rfl)
theorem dX3_isWord_24 : decode cX3_isWord 24 = .ok (.getfield 31, 3) := dk_180 0 31 (dk_at dksX3_isWord_1 0 rfl rfl)
theorem dX3_isWord_27 : decode cX3_isWord 27 = .ok (.saload, 1) := dk_53 (dk_at dksX3_isWord_1 3 rfl rfl)
theorem dX3_isWord_28 : decode cX3_isWord 28 = .ok (.iload_n 1, 1) := dk_27 (dk_at dksX3_isWord_1 4 rfl rfl)
theorem dX3_isWord_29 : decode cX3_isWord 29 = .ok (.if_icmp .ne 7, 3) := dk_160 0 7 (dk_at dksX3_isWord_1 5 rfl rfl)
theorem dX3_isWord_32 : decode cX3_isWord 32 = .ok (.iconst 1, 1) := dk_4 (dk_at dksX3_isWord_1 8 rfl rfl)
theorem dX3_isWord_33 : decode cX3_isWord 33 = .ok (.goto 4, 3) := dk_167 0 4 (dk_at dksX3_isWord_1 9 rfl rfl)
theorem dX3_isWord_36 : decode cX3_isWord 36 = .ok (.iconst 0, 1) := dk_3 (dk_at dksX3_isWord_1 12 rfl rfl)
theorem dX3_isWord_37 : decode cX3_isWord 37 = .ok (.ireturn, 1) := dk_172 (dk_at dksX3_isWord_1 13 rfl rfl)
abbrev cX3_begins : ByteArray := prog_13_method_14_code
def yX3_begins : MethodName := ⟨RX3, "begins", "(II)V"⟩
def dkwX3_begins_0 : List UInt8 := [27, 28, 160, 0, 9, 42, 5, 182, 0, 48, 191, 42, 182, 0, 59, 177]
abbrev dktX3_begins_0 : List UInt8 := dkwX3_begins_0 ++ []
theorem dksX3_begins_0 : cX3_begins.data.toList.drop 0 = dktX3_begins_0 := by decide +kernel
theorem dX3_begins_0 : decode cX3_begins 0 = .ok (.iload_n 1, 1) := dk_27 (dk_at dksX3_begins_0 0 rfl rfl)
theorem dX3_begins_1 : decode cX3_begins 1 = .ok (.iload_n 2, 1) := dk_28 (dk_at dksX3_begins_0 1 rfl rfl)
theorem dX3_begins_2 : decode cX3_begins 2 = .ok (.if_icmp .ne 9, 3) := dk_160 0 9 (dk_at dksX3_begins_0 2 rfl rfl)
theorem dX3_begins_5 : decode cX3_begins 5 = .ok (.aload_n 0, 1) := dk_42 (dk_at dksX3_begins_0 5 rfl rfl)
theorem dX3_begins_6 : decode cX3_begins 6 = .ok (.iconst 2, 1) := dk_5 (dk_at dksX3_begins_0 6 rfl rfl)
theorem dX3_begins_7 : decode cX3_begins 7 = .ok (.invokevirtual 48, 3) := dk_182 0 48 (dk_at dksX3_begins_0 7 rfl rfl)
theorem dX3_begins_10 : decode cX3_begins 10 = .ok (.athrow, 1) := dk_191 (dk_at dksX3_begins_0 10 rfl rfl)
theorem dX3_begins_11 : decode cX3_begins 11 = .ok (.aload_n 0, 1) := dk_42 (dk_at dksX3_begins_0 11 rfl rfl)
theorem dX3_begins_12 : decode cX3_begins 12 = .ok (.invokevirtual 59, 3) := dk_182 0 59 (dk_at dksX3_begins_0 12 rfl rfl)
theorem dX3_begins_15 : decode cX3_begins 15 = .ok (.return_, 1) := dk_177 (dk_at dksX3_begins_0 15 rfl rfl)
abbrev cX3_sum : ByteArray := prog_13_method_18_code
def yX3_sum : MethodName := ⟨RX3, "sum", "()LPartedSide$Sum;"⟩
def dkwX3_sum_2 : List UInt8 := [182, 0, 193, 183, 0, 198, 76, 167, 255, 207, 43, 176]
abbrev dktX3_sum_2 : List UInt8 := dkwX3_sum_2 ++ []
def dkwX3_sum_1 : List UInt8 := [180, 0, 9, 180, 0, 52, 42, 180, 0, 31, 53, 61, 42, 182, 0, 59, 187, 0, 196, 89, 28, 43, 42]
abbrev dktX3_sum_1 : List UInt8 := dkwX3_sum_1 ++ dktX3_sum_2
def dkwX3_sum_0 : List UInt8 := [42, 182, 0, 193, 76, 42, 16, 43, 182, 0, 55, 154, 0, 12, 42, 16, 45, 182, 0, 55, 153, 0, 37, 42]
abbrev dktX3_sum_0 : List UInt8 := dkwX3_sum_0 ++ dktX3_sum_1
theorem dksX3_sum_0 : cX3_sum.data.toList.drop 0 = dktX3_sum_0 := by decide +kernel
theorem dksX3_sum_1 : cX3_sum.data.toList.drop 24 = dktX3_sum_1 := dk_seg dksX3_sum_0 24 rfl rfl
theorem dksX3_sum_2 : cX3_sum.data.toList.drop 47 = dktX3_sum_2 := dk_seg dksX3_sum_1 23 rfl rfl
theorem dX3_sum_0 : decode cX3_sum 0 = .ok (.aload_n 0, 1) := dk_42 (dk_at dksX3_sum_0 0 rfl rfl)
theorem dX3_sum_1 : decode cX3_sum 1 = .ok (.invokevirtual 193, 3) := dk_182 0 193 (dk_at dksX3_sum_0 1 rfl rfl)
theorem dX3_sum_4 : decode cX3_sum 4 = .ok (.astore_n 1, 1) := dk_76 (dk_at dksX3_sum_0 4 rfl rfl)
theorem dX3_sum_5 : decode cX3_sum 5 = .ok (.aload_n 0, 1) := dk_42 (dk_at dksX3_sum_0 5 rfl rfl)
theorem dX3_sum_6 : decode cX3_sum 6 = .ok (.bipush 43, 2) := dk_16 43 (dk_at dksX3_sum_0 6 rfl rfl)
theorem dX3_sum_8 : decode cX3_sum 8 = .ok (.invokevirtual 55, 3) := dk_182 0 55 (dk_at dksX3_sum_0 8 rfl rfl)
theorem dX3_sum_11 : decode cX3_sum 11 = .ok (.ifCond .ne 12, 3) := dk_154 0 12 (dk_at dksX3_sum_0 11 rfl rfl)
theorem dX3_sum_14 : decode cX3_sum 14 = .ok (.aload_n 0, 1) := dk_42 (dk_at dksX3_sum_0 14 rfl rfl)
theorem dX3_sum_15 : decode cX3_sum 15 = .ok (.bipush 45, 2) := dk_16 45 (dk_at dksX3_sum_0 15 rfl rfl)
theorem dX3_sum_17 : decode cX3_sum 17 = .ok (.invokevirtual 55, 3) := dk_182 0 55 (dk_at dksX3_sum_0 17 rfl rfl)
theorem dX3_sum_20 : decode cX3_sum 20 = .ok (.ifCond .eq 37, 3) := dk_153 0 37 (dk_at dksX3_sum_0 20 rfl rfl)
theorem dX3_sum_23 : decode cX3_sum 23 = .ok (.aload_n 0, 1) := dk_42 (dk_at dksX3_sum_0 23 rfl rfl)
theorem dX3_sum_24 : decode cX3_sum 24 = .ok (.getfield 9, 3) := dk_180 0 9 (dk_at dksX3_sum_1 0 rfl rfl)
theorem dX3_sum_27 : decode cX3_sum 27 = .ok (.getfield 52, 3) := dk_180 0 52 (dk_at dksX3_sum_1 3 rfl rfl)
theorem dX3_sum_30 : decode cX3_sum 30 = .ok (.aload_n 0, 1) := dk_42 (dk_at dksX3_sum_1 6 rfl rfl)
theorem dX3_sum_31 : decode cX3_sum 31 = .ok (.getfield 31, 3) := dk_180 0 31 (dk_at dksX3_sum_1 7 rfl rfl)
theorem dX3_sum_34 : decode cX3_sum 34 = .ok (.saload, 1) := dk_53 (dk_at dksX3_sum_1 10 rfl rfl)
theorem dX3_sum_35 : decode cX3_sum 35 = .ok (.istore_n 2, 1) := dk_61 (dk_at dksX3_sum_1 11 rfl rfl)
theorem dX3_sum_36 : decode cX3_sum 36 = .ok (.aload_n 0, 1) := dk_42 (dk_at dksX3_sum_1 12 rfl rfl)
theorem dX3_sum_37 : decode cX3_sum 37 = .ok (.invokevirtual 59, 3) := dk_182 0 59 (dk_at dksX3_sum_1 13 rfl rfl)
theorem dX3_sum_40 : decode cX3_sum 40 = .ok (.new 196, 3) := dk_187 0 196 (dk_at dksX3_sum_1 16 rfl rfl)
theorem dX3_sum_43 : decode cX3_sum 43 = .ok (.dup, 1) := dk_89 (dk_at dksX3_sum_1 19 rfl rfl)
theorem dX3_sum_44 : decode cX3_sum 44 = .ok (.iload_n 2, 1) := dk_28 (dk_at dksX3_sum_1 20 rfl rfl)
theorem dX3_sum_45 : decode cX3_sum 45 = .ok (.aload_n 1, 1) := dk_43 (dk_at dksX3_sum_1 21 rfl rfl)
theorem dX3_sum_46 : decode cX3_sum 46 = .ok (.aload_n 0, 1) := dk_42 (dk_at dksX3_sum_1 22 rfl rfl)
theorem dX3_sum_47 : decode cX3_sum 47 = .ok (.invokevirtual 193, 3) := dk_182 0 193 (dk_at dksX3_sum_2 0 rfl rfl)
theorem dX3_sum_50 : decode cX3_sum 50 = .ok (.invokespecial 198, 3) := dk_183 0 198 (dk_at dksX3_sum_2 3 rfl rfl)
theorem dX3_sum_53 : decode cX3_sum 53 = .ok (.astore_n 1, 1) := dk_76 (dk_at dksX3_sum_2 6 rfl rfl)
theorem dX3_sum_54 : decode cX3_sum 54 = .ok (.goto (-49), 3) := dk_167 255 207 (dk_at dksX3_sum_2 7 rfl rfl)
theorem dX3_sum_57 : decode cX3_sum 57 = .ok (.aload_n 1, 1) := dk_43 (dk_at dksX3_sum_2 10 rfl rfl)
theorem dX3_sum_58 : decode cX3_sum 58 = .ok (.areturn, 1) := dk_176 (dk_at dksX3_sum_2 11 rfl rfl)
abbrev cX3_part : ByteArray := prog_13_method_19_code
def yX3_part : MethodName := ⟨RX3, "part", "()LPartedSide$Sum;"⟩
def dkwX3_part_2 : List UInt8 := [182, 0, 201, 183, 0, 198, 76, 167, 255, 207, 43, 176]
abbrev dktX3_part_2 : List UInt8 := dkwX3_part_2 ++ []
def dkwX3_part_1 : List UInt8 := [180, 0, 9, 180, 0, 52, 42, 180, 0, 31, 53, 61, 42, 182, 0, 59, 187, 0, 196, 89, 28, 43, 42]
abbrev dktX3_part_1 : List UInt8 := dkwX3_part_1 ++ dktX3_part_2
def dkwX3_part_0 : List UInt8 := [42, 182, 0, 201, 76, 42, 16, 42, 182, 0, 55, 154, 0, 12, 42, 16, 47, 182, 0, 55, 153, 0, 37, 42]
abbrev dktX3_part_0 : List UInt8 := dkwX3_part_0 ++ dktX3_part_1
theorem dksX3_part_0 : cX3_part.data.toList.drop 0 = dktX3_part_0 := by decide +kernel
theorem dksX3_part_1 : cX3_part.data.toList.drop 24 = dktX3_part_1 := dk_seg dksX3_part_0 24 rfl rfl
theorem dksX3_part_2 : cX3_part.data.toList.drop 47 = dktX3_part_2 := dk_seg dksX3_part_1 23 rfl rfl
theorem dX3_part_0 : decode cX3_part 0 = .ok (.aload_n 0, 1) := dk_42 (dk_at dksX3_part_0 0 rfl rfl)
theorem dX3_part_1 : decode cX3_part 1 = .ok (.invokevirtual 201, 3) := dk_182 0 201 (dk_at dksX3_part_0 1 rfl rfl)
theorem dX3_part_4 : decode cX3_part 4 = .ok (.astore_n 1, 1) := dk_76 (dk_at dksX3_part_0 4 rfl rfl)
theorem dX3_part_5 : decode cX3_part 5 = .ok (.aload_n 0, 1) := dk_42 (dk_at dksX3_part_0 5 rfl rfl)
theorem dX3_part_6 : decode cX3_part 6 = .ok (.bipush 42, 2) := dk_16 42 (dk_at dksX3_part_0 6 rfl rfl)
theorem dX3_part_8 : decode cX3_part 8 = .ok (.invokevirtual 55, 3) := dk_182 0 55 (dk_at dksX3_part_0 8 rfl rfl)
theorem dX3_part_11 : decode cX3_part 11 = .ok (.ifCond .ne 12, 3) := dk_154 0 12 (dk_at dksX3_part_0 11 rfl rfl)
theorem dX3_part_14 : decode cX3_part 14 = .ok (.aload_n 0, 1) := dk_42 (dk_at dksX3_part_0 14 rfl rfl)
theorem dX3_part_15 : decode cX3_part 15 = .ok (.bipush 47, 2) := dk_16 47 (dk_at dksX3_part_0 15 rfl rfl)
theorem dX3_part_17 : decode cX3_part 17 = .ok (.invokevirtual 55, 3) := dk_182 0 55 (dk_at dksX3_part_0 17 rfl rfl)
theorem dX3_part_20 : decode cX3_part 20 = .ok (.ifCond .eq 37, 3) := dk_153 0 37 (dk_at dksX3_part_0 20 rfl rfl)
theorem dX3_part_23 : decode cX3_part 23 = .ok (.aload_n 0, 1) := dk_42 (dk_at dksX3_part_0 23 rfl rfl)
theorem dX3_part_24 : decode cX3_part 24 = .ok (.getfield 9, 3) := dk_180 0 9 (dk_at dksX3_part_1 0 rfl rfl)
theorem dX3_part_27 : decode cX3_part 27 = .ok (.getfield 52, 3) := dk_180 0 52 (dk_at dksX3_part_1 3 rfl rfl)
theorem dX3_part_30 : decode cX3_part 30 = .ok (.aload_n 0, 1) := dk_42 (dk_at dksX3_part_1 6 rfl rfl)
theorem dX3_part_31 : decode cX3_part 31 = .ok (.getfield 31, 3) := dk_180 0 31 (dk_at dksX3_part_1 7 rfl rfl)
theorem dX3_part_34 : decode cX3_part 34 = .ok (.saload, 1) := dk_53 (dk_at dksX3_part_1 10 rfl rfl)
theorem dX3_part_35 : decode cX3_part 35 = .ok (.istore_n 2, 1) := dk_61 (dk_at dksX3_part_1 11 rfl rfl)
theorem dX3_part_36 : decode cX3_part 36 = .ok (.aload_n 0, 1) := dk_42 (dk_at dksX3_part_1 12 rfl rfl)
theorem dX3_part_37 : decode cX3_part 37 = .ok (.invokevirtual 59, 3) := dk_182 0 59 (dk_at dksX3_part_1 13 rfl rfl)
theorem dX3_part_40 : decode cX3_part 40 = .ok (.new 196, 3) := dk_187 0 196 (dk_at dksX3_part_1 16 rfl rfl)
theorem dX3_part_43 : decode cX3_part 43 = .ok (.dup, 1) := dk_89 (dk_at dksX3_part_1 19 rfl rfl)
theorem dX3_part_44 : decode cX3_part 44 = .ok (.iload_n 2, 1) := dk_28 (dk_at dksX3_part_1 20 rfl rfl)
theorem dX3_part_45 : decode cX3_part 45 = .ok (.aload_n 1, 1) := dk_43 (dk_at dksX3_part_1 21 rfl rfl)
theorem dX3_part_46 : decode cX3_part 46 = .ok (.aload_n 0, 1) := dk_42 (dk_at dksX3_part_1 22 rfl rfl)
theorem dX3_part_47 : decode cX3_part 47 = .ok (.invokevirtual 201, 3) := dk_182 0 201 (dk_at dksX3_part_2 0 rfl rfl)
theorem dX3_part_50 : decode cX3_part 50 = .ok (.invokespecial 198, 3) := dk_183 0 198 (dk_at dksX3_part_2 3 rfl rfl)
theorem dX3_part_53 : decode cX3_part 53 = .ok (.astore_n 1, 1) := dk_76 (dk_at dksX3_part_2 6 rfl rfl)
theorem dX3_part_54 : decode cX3_part 54 = .ok (.goto (-49), 3) := dk_167 255 207 (dk_at dksX3_part_2 7 rfl rfl)
theorem dX3_part_57 : decode cX3_part 57 = .ok (.aload_n 1, 1) := dk_43 (dk_at dksX3_part_2 10 rfl rfl)
theorem dX3_part_58 : decode cX3_part 58 = .ok (.areturn, 1) := dk_176 (dk_at dksX3_part_2 11 rfl rfl)
abbrev cX3_unit : ByteArray := prog_13_method_20_code
def yX3_unit : MethodName := ⟨RX3, "unit", "()LPartedSide$Sum;"⟩
def dkwX3_unit_6 : List UInt8 := [182, 0, 102, 42, 89, 180, 0, 96, 4, 100, 181, 0, 96, 43, 176]
abbrev dktX3_unit_6 : List UInt8 := dkwX3_unit_6 ++ []
def dkwX3_unit_5 : List UInt8 := [42, 89, 180, 0, 96, 4, 96, 181, 0, 96, 42, 182, 0, 59, 42, 182, 0, 180, 76, 42, 16, 41]
abbrev dktX3_unit_5 : List UInt8 := dkwX3_unit_5 ++ dktX3_unit_6
def dkwX3_unit_4 : List UInt8 := [154, 0, 9, 42, 4, 182, 0, 48, 191, 42, 180, 0, 96, 16, 6, 160, 0, 9, 42, 5, 182, 0, 48, 191]
abbrev dktX3_unit_4 : List UInt8 := dkwX3_unit_4 ++ dktX3_unit_5
def dkwX3_unit_3 : List UInt8 := [180, 0, 52, 42, 180, 0, 31, 4, 100, 53, 16, 12, 100, 183, 0, 210, 176, 42, 16, 40, 182, 0, 55]
abbrev dktX3_unit_3 : List UInt8 := dkwX3_unit_3 ++ dktX3_unit_4
def dkwX3_unit_2 : List UInt8 := [42, 180, 0, 31, 53, 16, 12, 161, 0, 32, 42, 182, 0, 59, 187, 0, 208, 89, 42, 180, 0, 9]
abbrev dktX3_unit_2 : List UInt8 := dkwX3_unit_2 ++ dktX3_unit_3
def dkwX3_unit_1 : List UInt8 := [4, 100, 182, 0, 72, 183, 0, 206, 176, 42, 182, 0, 65, 6, 160, 0, 49, 42, 180, 0, 9, 180, 0, 52]
abbrev dktX3_unit_1 : List UInt8 := dkwX3_unit_1 ++ dktX3_unit_2
def dkwX3_unit_0 : List UInt8 := [42, 182, 0, 65, 4, 160, 0, 28, 42, 182, 0, 59, 187, 0, 204, 89, 42, 180, 0, 9, 42, 180, 0, 31]
abbrev dktX3_unit_0 : List UInt8 := dkwX3_unit_0 ++ dktX3_unit_1
theorem dksX3_unit_0 : cX3_unit.data.toList.drop 0 = dktX3_unit_0 := by decide +kernel
theorem dksX3_unit_1 : cX3_unit.data.toList.drop 24 = dktX3_unit_1 := dk_seg dksX3_unit_0 24 rfl rfl
theorem dksX3_unit_2 : cX3_unit.data.toList.drop 48 = dktX3_unit_2 := dk_seg dksX3_unit_1 24 rfl rfl
theorem dksX3_unit_3 : cX3_unit.data.toList.drop 70 = dktX3_unit_3 := dk_seg dksX3_unit_2 22 rfl rfl
theorem dksX3_unit_4 : cX3_unit.data.toList.drop 93 = dktX3_unit_4 := dk_seg dksX3_unit_3 23 rfl rfl
theorem dksX3_unit_5 : cX3_unit.data.toList.drop 117 = dktX3_unit_5 := dk_seg dksX3_unit_4 24 rfl rfl
theorem dksX3_unit_6 : cX3_unit.data.toList.drop 139 = dktX3_unit_6 := dk_seg dksX3_unit_5 22 rfl rfl
theorem dX3_unit_0 : decode cX3_unit 0 = .ok (.aload_n 0, 1) := dk_42 (dk_at dksX3_unit_0 0 rfl rfl)
theorem dX3_unit_1 : decode cX3_unit 1 = .ok (.invokevirtual 65, 3) := dk_182 0 65 (dk_at dksX3_unit_0 1 rfl rfl)
theorem dX3_unit_4 : decode cX3_unit 4 = .ok (.iconst 1, 1) := dk_4 (dk_at dksX3_unit_0 4 rfl rfl)
theorem dX3_unit_5 : decode cX3_unit 5 = .ok (.if_icmp .ne 28, 3) := dk_160 0 28 (dk_at dksX3_unit_0 5 rfl rfl)
theorem dX3_unit_8 : decode cX3_unit 8 = .ok (.aload_n 0, 1) := dk_42 (dk_at dksX3_unit_0 8 rfl rfl)
theorem dX3_unit_9 : decode cX3_unit 9 = .ok (.invokevirtual 59, 3) := dk_182 0 59 (dk_at dksX3_unit_0 9 rfl rfl)
theorem dX3_unit_12 : decode cX3_unit 12 = .ok (.new 204, 3) := dk_187 0 204 (dk_at dksX3_unit_0 12 rfl rfl)
theorem dX3_unit_15 : decode cX3_unit 15 = .ok (.dup, 1) := dk_89 (dk_at dksX3_unit_0 15 rfl rfl)
theorem dX3_unit_16 : decode cX3_unit 16 = .ok (.aload_n 0, 1) := dk_42 (dk_at dksX3_unit_0 16 rfl rfl)
theorem dX3_unit_17 : decode cX3_unit 17 = .ok (.getfield 9, 3) := dk_180 0 9 (dk_at dksX3_unit_0 17 rfl rfl)
theorem dX3_unit_20 : decode cX3_unit 20 = .ok (.aload_n 0, 1) := dk_42 (dk_at dksX3_unit_0 20 rfl rfl)
theorem dX3_unit_21 : decode cX3_unit 21 = .ok (.getfield 31, 3) := dk_180 0 31 (dk_at dksX3_unit_0 21 rfl rfl)
theorem dX3_unit_24 : decode cX3_unit 24 = .ok (.iconst 1, 1) := dk_4 (dk_at dksX3_unit_1 0 rfl rfl)
theorem dX3_unit_25 : decode cX3_unit 25 = .ok (.isub, 1) := dk_100 (dk_at dksX3_unit_1 1 rfl rfl)
theorem dX3_unit_26 : decode cX3_unit 26 = .ok (.invokevirtual 72, 3) := dk_182 0 72 (dk_at dksX3_unit_1 2 rfl rfl)
theorem dX3_unit_29 : decode cX3_unit 29 = .ok (.invokespecial 206, 3) := dk_183 0 206 (dk_at dksX3_unit_1 5 rfl rfl)
theorem dX3_unit_32 : decode cX3_unit 32 = .ok (.areturn, 1) := dk_176 (dk_at dksX3_unit_1 8 rfl rfl)
theorem dX3_unit_33 : decode cX3_unit 33 = .ok (.aload_n 0, 1) := dk_42 (dk_at dksX3_unit_1 9 rfl rfl)
theorem dX3_unit_34 : decode cX3_unit 34 = .ok (.invokevirtual 65, 3) := dk_182 0 65 (dk_at dksX3_unit_1 10 rfl rfl)
theorem dX3_unit_37 : decode cX3_unit 37 = .ok (.iconst 3, 1) := dk_6 (dk_at dksX3_unit_1 13 rfl rfl)
theorem dX3_unit_38 : decode cX3_unit 38 = .ok (.if_icmp .ne 49, 3) := dk_160 0 49 (dk_at dksX3_unit_1 14 rfl rfl)
theorem dX3_unit_41 : decode cX3_unit 41 = .ok (.aload_n 0, 1) := dk_42 (dk_at dksX3_unit_1 17 rfl rfl)
theorem dX3_unit_42 : decode cX3_unit 42 = .ok (.getfield 9, 3) := dk_180 0 9 (dk_at dksX3_unit_1 18 rfl rfl)
theorem dX3_unit_45 : decode cX3_unit 45 = .ok (.getfield 52, 3) := dk_180 0 52 (dk_at dksX3_unit_1 21 rfl rfl)
theorem dX3_unit_48 : decode cX3_unit 48 = .ok (.aload_n 0, 1) := dk_42 (dk_at dksX3_unit_2 0 rfl rfl)
theorem dX3_unit_49 : decode cX3_unit 49 = .ok (.getfield 31, 3) := dk_180 0 31 (dk_at dksX3_unit_2 1 rfl rfl)
theorem dX3_unit_52 : decode cX3_unit 52 = .ok (.saload, 1) := dk_53 (dk_at dksX3_unit_2 4 rfl rfl)
theorem dX3_unit_53 : decode cX3_unit 53 = .ok (.bipush 12, 2) := dk_16 12 (dk_at dksX3_unit_2 5 rfl rfl)
theorem dX3_unit_55 : decode cX3_unit 55 = .ok (.if_icmp .lt 32, 3) := dk_161 0 32 (dk_at dksX3_unit_2 7 rfl rfl)
theorem dX3_unit_58 : decode cX3_unit 58 = .ok (.aload_n 0, 1) := dk_42 (dk_at dksX3_unit_2 10 rfl rfl)
theorem dX3_unit_59 : decode cX3_unit 59 = .ok (.invokevirtual 59, 3) := dk_182 0 59 (dk_at dksX3_unit_2 11 rfl rfl)
theorem dX3_unit_62 : decode cX3_unit 62 = .ok (.new 208, 3) := dk_187 0 208 (dk_at dksX3_unit_2 14 rfl rfl)
theorem dX3_unit_65 : decode cX3_unit 65 = .ok (.dup, 1) := dk_89 (dk_at dksX3_unit_2 17 rfl rfl)
theorem dX3_unit_66 : decode cX3_unit 66 = .ok (.aload_n 0, 1) := dk_42 (dk_at dksX3_unit_2 18 rfl rfl)
theorem dX3_unit_67 : decode cX3_unit 67 = .ok (.getfield 9, 3) := dk_180 0 9 (dk_at dksX3_unit_2 19 rfl rfl)
theorem dX3_unit_70 : decode cX3_unit 70 = .ok (.getfield 52, 3) := dk_180 0 52 (dk_at dksX3_unit_3 0 rfl rfl)
theorem dX3_unit_73 : decode cX3_unit 73 = .ok (.aload_n 0, 1) := dk_42 (dk_at dksX3_unit_3 3 rfl rfl)
theorem dX3_unit_74 : decode cX3_unit 74 = .ok (.getfield 31, 3) := dk_180 0 31 (dk_at dksX3_unit_3 4 rfl rfl)
theorem dX3_unit_77 : decode cX3_unit 77 = .ok (.iconst 1, 1) := dk_4 (dk_at dksX3_unit_3 7 rfl rfl)
theorem dX3_unit_78 : decode cX3_unit 78 = .ok (.isub, 1) := dk_100 (dk_at dksX3_unit_3 8 rfl rfl)
theorem dX3_unit_79 : decode cX3_unit 79 = .ok (.saload, 1) := dk_53 (dk_at dksX3_unit_3 9 rfl rfl)
theorem dX3_unit_80 : decode cX3_unit 80 = .ok (.bipush 12, 2) := dk_16 12 (dk_at dksX3_unit_3 10 rfl rfl)
theorem dX3_unit_82 : decode cX3_unit 82 = .ok (.isub, 1) := dk_100 (dk_at dksX3_unit_3 12 rfl rfl)
theorem dX3_unit_83 : decode cX3_unit 83 = .ok (.invokespecial 210, 3) := dk_183 0 210 (dk_at dksX3_unit_3 13 rfl rfl)
theorem dX3_unit_86 : decode cX3_unit 86 = .ok (.areturn, 1) := dk_176 (dk_at dksX3_unit_3 16 rfl rfl)
theorem dX3_unit_87 : decode cX3_unit 87 = .ok (.aload_n 0, 1) := dk_42 (dk_at dksX3_unit_3 17 rfl rfl)
theorem dX3_unit_88 : decode cX3_unit 88 = .ok (.bipush 40, 2) := dk_16 40 (dk_at dksX3_unit_3 18 rfl rfl)
theorem dX3_unit_90 : decode cX3_unit 90 = .ok (.invokevirtual 55, 3) := dk_182 0 55 (dk_at dksX3_unit_3 20 rfl rfl)
theorem dX3_unit_93 : decode cX3_unit 93 = .ok (.ifCond .ne 9, 3) := dk_154 0 9 (dk_at dksX3_unit_4 0 rfl rfl)
theorem dX3_unit_96 : decode cX3_unit 96 = .ok (.aload_n 0, 1) := dk_42 (dk_at dksX3_unit_4 3 rfl rfl)
theorem dX3_unit_97 : decode cX3_unit 97 = .ok (.iconst 1, 1) := dk_4 (dk_at dksX3_unit_4 4 rfl rfl)
theorem dX3_unit_98 : decode cX3_unit 98 = .ok (.invokevirtual 48, 3) := dk_182 0 48 (dk_at dksX3_unit_4 5 rfl rfl)
theorem dX3_unit_101 : decode cX3_unit 101 = .ok (.athrow, 1) := dk_191 (dk_at dksX3_unit_4 8 rfl rfl)
theorem dX3_unit_102 : decode cX3_unit 102 = .ok (.aload_n 0, 1) := dk_42 (dk_at dksX3_unit_4 9 rfl rfl)
theorem dX3_unit_103 : decode cX3_unit 103 = .ok (.getfield 96, 3) := dk_180 0 96 (dk_at dksX3_unit_4 10 rfl rfl)
theorem dX3_unit_106 : decode cX3_unit 106 = .ok (.bipush 6, 2) := dk_16 6 (dk_at dksX3_unit_4 13 rfl rfl)
theorem dX3_unit_108 : decode cX3_unit 108 = .ok (.if_icmp .ne 9, 3) := dk_160 0 9 (dk_at dksX3_unit_4 15 rfl rfl)
theorem dX3_unit_111 : decode cX3_unit 111 = .ok (.aload_n 0, 1) := dk_42 (dk_at dksX3_unit_4 18 rfl rfl)
theorem dX3_unit_112 : decode cX3_unit 112 = .ok (.iconst 2, 1) := dk_5 (dk_at dksX3_unit_4 19 rfl rfl)
theorem dX3_unit_113 : decode cX3_unit 113 = .ok (.invokevirtual 48, 3) := dk_182 0 48 (dk_at dksX3_unit_4 20 rfl rfl)
theorem dX3_unit_116 : decode cX3_unit 116 = .ok (.athrow, 1) := dk_191 (dk_at dksX3_unit_4 23 rfl rfl)
theorem dX3_unit_117 : decode cX3_unit 117 = .ok (.aload_n 0, 1) := dk_42 (dk_at dksX3_unit_5 0 rfl rfl)
theorem dX3_unit_118 : decode cX3_unit 118 = .ok (.dup, 1) := dk_89 (dk_at dksX3_unit_5 1 rfl rfl)
theorem dX3_unit_119 : decode cX3_unit 119 = .ok (.getfield 96, 3) := dk_180 0 96 (dk_at dksX3_unit_5 2 rfl rfl)
theorem dX3_unit_122 : decode cX3_unit 122 = .ok (.iconst 1, 1) := dk_4 (dk_at dksX3_unit_5 5 rfl rfl)
theorem dX3_unit_123 : decode cX3_unit 123 = .ok (.iadd, 1) := dk_96 (dk_at dksX3_unit_5 6 rfl rfl)
theorem dX3_unit_124 : decode cX3_unit 124 = .ok (.putfield 96, 3) := dk_181 0 96 (dk_at dksX3_unit_5 7 rfl rfl)
theorem dX3_unit_127 : decode cX3_unit 127 = .ok (.aload_n 0, 1) := dk_42 (dk_at dksX3_unit_5 10 rfl rfl)
theorem dX3_unit_128 : decode cX3_unit 128 = .ok (.invokevirtual 59, 3) := dk_182 0 59 (dk_at dksX3_unit_5 11 rfl rfl)
theorem dX3_unit_131 : decode cX3_unit 131 = .ok (.aload_n 0, 1) := dk_42 (dk_at dksX3_unit_5 14 rfl rfl)
theorem dX3_unit_132 : decode cX3_unit 132 = .ok (.invokevirtual 180, 3) := dk_182 0 180 (dk_at dksX3_unit_5 15 rfl rfl)
theorem dX3_unit_135 : decode cX3_unit 135 = .ok (.astore_n 1, 1) := dk_76 (dk_at dksX3_unit_5 18 rfl rfl)
theorem dX3_unit_136 : decode cX3_unit 136 = .ok (.aload_n 0, 1) := dk_42 (dk_at dksX3_unit_5 19 rfl rfl)
theorem dX3_unit_137 : decode cX3_unit 137 = .ok (.bipush 41, 2) := dk_16 41 (dk_at dksX3_unit_5 20 rfl rfl)
theorem dX3_unit_139 : decode cX3_unit 139 = .ok (.invokevirtual 102, 3) := dk_182 0 102 (dk_at dksX3_unit_6 0 rfl rfl)
theorem dX3_unit_142 : decode cX3_unit 142 = .ok (.aload_n 0, 1) := dk_42 (dk_at dksX3_unit_6 3 rfl rfl)
theorem dX3_unit_143 : decode cX3_unit 143 = .ok (.dup, 1) := dk_89 (dk_at dksX3_unit_6 4 rfl rfl)
theorem dX3_unit_144 : decode cX3_unit 144 = .ok (.getfield 96, 3) := dk_180 0 96 (dk_at dksX3_unit_6 5 rfl rfl)
theorem dX3_unit_147 : decode cX3_unit 147 = .ok (.iconst 1, 1) := dk_4 (dk_at dksX3_unit_6 8 rfl rfl)
theorem dX3_unit_148 : decode cX3_unit 148 = .ok (.isub, 1) := dk_100 (dk_at dksX3_unit_6 9 rfl rfl)
theorem dX3_unit_149 : decode cX3_unit 149 = .ok (.putfield 96, 3) := dk_181 0 96 (dk_at dksX3_unit_6 10 rfl rfl)
theorem dX3_unit_152 : decode cX3_unit 152 = .ok (.aload_n 1, 1) := dk_43 (dk_at dksX3_unit_6 13 rfl rfl)
theorem dX3_unit_153 : decode cX3_unit 153 = .ok (.areturn, 1) := dk_176 (dk_at dksX3_unit_6 14 rfl rfl)
abbrev cX3_word : ByteArray := prog_13_method_10_code
def yX3_word : MethodName := ⟨RX3, "word", "(I)V"⟩
def dkwX3_word_0 : List UInt8 := [42, 27, 182, 0, 62, 154, 0, 9, 42, 4, 182, 0, 48, 191, 42, 182, 0, 59, 177]
abbrev dktX3_word_0 : List UInt8 := dkwX3_word_0 ++ []
theorem dksX3_word_0 : cX3_word.data.toList.drop 0 = dktX3_word_0 := by decide +kernel
theorem dX3_word_0 : decode cX3_word 0 = .ok (.aload_n 0, 1) := dk_42 (dk_at dksX3_word_0 0 rfl rfl)
theorem dX3_word_1 : decode cX3_word 1 = .ok (.iload_n 1, 1) := dk_27 (dk_at dksX3_word_0 1 rfl rfl)
theorem dX3_word_2 : decode cX3_word 2 = .ok (.invokevirtual 62, 3) := dk_182 0 62 (dk_at dksX3_word_0 2 rfl rfl)
theorem dX3_word_5 : decode cX3_word 5 = .ok (.ifCond .ne 9, 3) := dk_154 0 9 (dk_at dksX3_word_0 5 rfl rfl)
theorem dX3_word_8 : decode cX3_word 8 = .ok (.aload_n 0, 1) := dk_42 (dk_at dksX3_word_0 8 rfl rfl)
theorem dX3_word_9 : decode cX3_word 9 = .ok (.iconst 1, 1) := dk_4 (dk_at dksX3_word_0 9 rfl rfl)
theorem dX3_word_10 : decode cX3_word 10 = .ok (.invokevirtual 48, 3) := dk_182 0 48 (dk_at dksX3_word_0 10 rfl rfl)
theorem dX3_word_13 : decode cX3_word 13 = .ok (.athrow, 1) := dk_191 (dk_at dksX3_word_0 13 rfl rfl)
theorem dX3_word_14 : decode cX3_word 14 = .ok (.aload_n 0, 1) := dk_42 (dk_at dksX3_word_0 14 rfl rfl)
theorem dX3_word_15 : decode cX3_word 15 = .ok (.invokevirtual 59, 3) := dk_182 0 59 (dk_at dksX3_word_0 15 rfl rfl)
theorem dX3_word_18 : decode cX3_word 18 = .ok (.return_, 1) := dk_177 (dk_at dksX3_word_0 18 rfl rfl)
abbrev cX3_name : ByteArray := prog_13_method_13_code
def yX3_name : MethodName := ⟨RX3, "name", "()Ljava/lang/String;"⟩
def dkwX3_name_1 : List UInt8 := [153, 0, 9, 42, 6, 27, 182, 0, 75, 44, 176]
abbrev dktX3_name_1 : List UInt8 := dkwX3_name_1 ++ []
def dkwX3_name_0 : List UInt8 := [42, 3, 182, 0, 68, 60, 42, 180, 0, 9, 27, 182, 0, 79, 77, 42, 180, 0, 83, 44, 182, 0, 86]
abbrev dktX3_name_0 : List UInt8 := dkwX3_name_0 ++ dktX3_name_1
theorem dksX3_name_0 : cX3_name.data.toList.drop 0 = dktX3_name_0 := by decide +kernel
theorem dksX3_name_1 : cX3_name.data.toList.drop 23 = dktX3_name_1 := dk_seg dksX3_name_0 23 rfl rfl
theorem dX3_name_0 : decode cX3_name 0 = .ok (.aload_n 0, 1) := dk_42 (dk_at dksX3_name_0 0 rfl rfl)
theorem dX3_name_1 : decode cX3_name 1 = .ok (.iconst 0, 1) := dk_3 (dk_at dksX3_name_0 1 rfl rfl)
theorem dX3_name_2 : decode cX3_name 2 = .ok (.invokevirtual 68, 3) := dk_182 0 68 (dk_at dksX3_name_0 2 rfl rfl)
theorem dX3_name_5 : decode cX3_name 5 = .ok (.istore_n 1, 1) := dk_60 (dk_at dksX3_name_0 5 rfl rfl)
theorem dX3_name_6 : decode cX3_name 6 = .ok (.aload_n 0, 1) := dk_42 (dk_at dksX3_name_0 6 rfl rfl)
theorem dX3_name_7 : decode cX3_name 7 = .ok (.getfield 9, 3) := dk_180 0 9 (dk_at dksX3_name_0 7 rfl rfl)
theorem dX3_name_10 : decode cX3_name 10 = .ok (.iload_n 1, 1) := dk_27 (dk_at dksX3_name_0 10 rfl rfl)
theorem dX3_name_11 : decode cX3_name 11 = .ok (.invokevirtual 79, 3) := dk_182 0 79 (dk_at dksX3_name_0 11 rfl rfl)
theorem dX3_name_14 : decode cX3_name 14 = .ok (.astore_n 2, 1) := dk_77 (dk_at dksX3_name_0 14 rfl rfl)
theorem dX3_name_15 : decode cX3_name 15 = .ok (.aload_n 0, 1) := dk_42 (dk_at dksX3_name_0 15 rfl rfl)
theorem dX3_name_16 : decode cX3_name 16 = .ok (.getfield 83, 3) := dk_180 0 83 (dk_at dksX3_name_0 16 rfl rfl)
theorem dX3_name_19 : decode cX3_name 19 = .ok (.aload_n 2, 1) := dk_44 (dk_at dksX3_name_0 19 rfl rfl)
theorem dX3_name_20 : decode cX3_name 20 = .ok (.invokevirtual 86, 3) := dk_182 0 86 (dk_at dksX3_name_0 20 rfl rfl)
theorem dX3_name_23 : decode cX3_name 23 = .ok (.ifCond .eq 9, 3) := dk_153 0 9 (dk_at dksX3_name_1 0 rfl rfl)
theorem dX3_name_26 : decode cX3_name 26 = .ok (.aload_n 0, 1) := dk_42 (dk_at dksX3_name_1 3 rfl rfl)
theorem dX3_name_27 : decode cX3_name 27 = .ok (.iconst 3, 1) := dk_6 (dk_at dksX3_name_1 4 rfl rfl)
theorem dX3_name_28 : decode cX3_name 28 = .ok (.iload_n 1, 1) := dk_27 (dk_at dksX3_name_1 5 rfl rfl)
theorem dX3_name_29 : decode cX3_name 29 = .ok (.invokevirtual 75, 3) := dk_182 0 75 (dk_at dksX3_name_1 6 rfl rfl)
theorem dX3_name_32 : decode cX3_name 32 = .ok (.aload_n 2, 1) := dk_44 (dk_at dksX3_name_1 9 rfl rfl)
theorem dX3_name_33 : decode cX3_name 33 = .ok (.areturn, 1) := dk_176 (dk_at dksX3_name_1 10 rfl rfl)
abbrev cX3_take : ByteArray := prog_13_method_11_code
def yX3_take : MethodName := ⟨RX3, "take", "(I)I"⟩
def dkwX3_take_1 : List UInt8 := [172]
abbrev dktX3_take_1 : List UInt8 := dkwX3_take_1 ++ []
def dkwX3_take_0 : List UInt8 := [42, 182, 0, 65, 27, 159, 0, 9, 42, 4, 182, 0, 48, 191, 42, 182, 0, 59, 42, 180, 0, 31, 4, 100]
abbrev dktX3_take_0 : List UInt8 := dkwX3_take_0 ++ dktX3_take_1
theorem dksX3_take_0 : cX3_take.data.toList.drop 0 = dktX3_take_0 := by decide +kernel
theorem dksX3_take_1 : cX3_take.data.toList.drop 24 = dktX3_take_1 := dk_seg dksX3_take_0 24 rfl rfl
theorem dX3_take_0 : decode cX3_take 0 = .ok (.aload_n 0, 1) := dk_42 (dk_at dksX3_take_0 0 rfl rfl)
theorem dX3_take_1 : decode cX3_take 1 = .ok (.invokevirtual 65, 3) := dk_182 0 65 (dk_at dksX3_take_0 1 rfl rfl)
theorem dX3_take_4 : decode cX3_take 4 = .ok (.iload_n 1, 1) := dk_27 (dk_at dksX3_take_0 4 rfl rfl)
theorem dX3_take_5 : decode cX3_take 5 = .ok (.if_icmp .eq 9, 3) := dk_159 0 9 (dk_at dksX3_take_0 5 rfl rfl)
theorem dX3_take_8 : decode cX3_take 8 = .ok (.aload_n 0, 1) := dk_42 (dk_at dksX3_take_0 8 rfl rfl)
theorem dX3_take_9 : decode cX3_take 9 = .ok (.iconst 1, 1) := dk_4 (dk_at dksX3_take_0 9 rfl rfl)
theorem dX3_take_10 : decode cX3_take 10 = .ok (.invokevirtual 48, 3) := dk_182 0 48 (dk_at dksX3_take_0 10 rfl rfl)
theorem dX3_take_13 : decode cX3_take 13 = .ok (.athrow, 1) := dk_191 (dk_at dksX3_take_0 13 rfl rfl)
theorem dX3_take_14 : decode cX3_take 14 = .ok (.aload_n 0, 1) := dk_42 (dk_at dksX3_take_0 14 rfl rfl)
theorem dX3_take_15 : decode cX3_take 15 = .ok (.invokevirtual 59, 3) := dk_182 0 59 (dk_at dksX3_take_0 15 rfl rfl)
theorem dX3_take_18 : decode cX3_take 18 = .ok (.aload_n 0, 1) := dk_42 (dk_at dksX3_take_0 18 rfl rfl)
theorem dX3_take_19 : decode cX3_take 19 = .ok (.getfield 31, 3) := dk_180 0 31 (dk_at dksX3_take_0 19 rfl rfl)
theorem dX3_take_22 : decode cX3_take 22 = .ok (.iconst 1, 1) := dk_4 (dk_at dksX3_take_0 22 rfl rfl)
theorem dX3_take_23 : decode cX3_take 23 = .ok (.isub, 1) := dk_100 (dk_at dksX3_take_0 23 rfl rfl)
theorem dX3_take_24 : decode cX3_take 24 = .ok (.ireturn, 1) := dk_172 (dk_at dksX3_take_1 0 rfl rfl)
abbrev cX3_tell : ByteArray := prog_13_method_4_code
def yX3_tell : MethodName := ⟨RX3, "tell", "(II)V"⟩
def dkwX3_tell_1 : List UInt8 := [42, 180, 0, 38, 161, 0, 4, 177, 42, 27, 181, 0, 38, 42, 28, 181, 0, 41, 177]
abbrev dktX3_tell_1 : List UInt8 := dkwX3_tell_1 ++ []
def dkwX3_tell_0 : List UInt8 := [42, 180, 0, 38, 153, 0, 28, 28, 42, 180, 0, 41, 163, 0, 19, 28, 42, 180, 0, 41, 160, 0, 12, 27]
abbrev dktX3_tell_0 : List UInt8 := dkwX3_tell_0 ++ dktX3_tell_1
theorem dksX3_tell_0 : cX3_tell.data.toList.drop 0 = dktX3_tell_0 := by decide +kernel
theorem dksX3_tell_1 : cX3_tell.data.toList.drop 24 = dktX3_tell_1 := dk_seg dksX3_tell_0 24 rfl rfl
theorem dX3_tell_0 : decode cX3_tell 0 = .ok (.aload_n 0, 1) := dk_42 (dk_at dksX3_tell_0 0 rfl rfl)
theorem dX3_tell_1 : decode cX3_tell 1 = .ok (.getfield 38, 3) := dk_180 0 38 (dk_at dksX3_tell_0 1 rfl rfl)
theorem dX3_tell_4 : decode cX3_tell 4 = .ok (.ifCond .eq 28, 3) := dk_153 0 28 (dk_at dksX3_tell_0 4 rfl rfl)
theorem dX3_tell_7 : decode cX3_tell 7 = .ok (.iload_n 2, 1) := dk_28 (dk_at dksX3_tell_0 7 rfl rfl)
theorem dX3_tell_8 : decode cX3_tell 8 = .ok (.aload_n 0, 1) := dk_42 (dk_at dksX3_tell_0 8 rfl rfl)
theorem dX3_tell_9 : decode cX3_tell 9 = .ok (.getfield 41, 3) := dk_180 0 41 (dk_at dksX3_tell_0 9 rfl rfl)
theorem dX3_tell_12 : decode cX3_tell 12 = .ok (.if_icmp .gt 19, 3) := dk_163 0 19 (dk_at dksX3_tell_0 12 rfl rfl)
theorem dX3_tell_15 : decode cX3_tell 15 = .ok (.iload_n 2, 1) := dk_28 (dk_at dksX3_tell_0 15 rfl rfl)
theorem dX3_tell_16 : decode cX3_tell 16 = .ok (.aload_n 0, 1) := dk_42 (dk_at dksX3_tell_0 16 rfl rfl)
theorem dX3_tell_17 : decode cX3_tell 17 = .ok (.getfield 41, 3) := dk_180 0 41 (dk_at dksX3_tell_0 17 rfl rfl)
theorem dX3_tell_20 : decode cX3_tell 20 = .ok (.if_icmp .ne 12, 3) := dk_160 0 12 (dk_at dksX3_tell_0 20 rfl rfl)
theorem dX3_tell_23 : decode cX3_tell 23 = .ok (.iload_n 1, 1) := dk_27 (dk_at dksX3_tell_0 23 rfl rfl)
theorem dX3_tell_24 : decode cX3_tell 24 = .ok (.aload_n 0, 1) := dk_42 (dk_at dksX3_tell_1 0 rfl rfl)
theorem dX3_tell_25 : decode cX3_tell 25 = .ok (.getfield 38, 3) := dk_180 0 38 (dk_at dksX3_tell_1 1 rfl rfl)
theorem dX3_tell_28 : decode cX3_tell 28 = .ok (.if_icmp .lt 4, 3) := dk_161 0 4 (dk_at dksX3_tell_1 4 rfl rfl)
theorem dX3_tell_31 : decode cX3_tell 31 = .ok (.return_, 1) := dk_177 (dk_at dksX3_tell_1 7 rfl rfl)
theorem dX3_tell_32 : decode cX3_tell 32 = .ok (.aload_n 0, 1) := dk_42 (dk_at dksX3_tell_1 8 rfl rfl)
theorem dX3_tell_33 : decode cX3_tell 33 = .ok (.iload_n 1, 1) := dk_27 (dk_at dksX3_tell_1 9 rfl rfl)
theorem dX3_tell_34 : decode cX3_tell 34 = .ok (.putfield 38, 3) := dk_181 0 38 (dk_at dksX3_tell_1 10 rfl rfl)
theorem dX3_tell_37 : decode cX3_tell 37 = .ok (.aload_n 0, 1) := dk_42 (dk_at dksX3_tell_1 13 rfl rfl)
theorem dX3_tell_38 : decode cX3_tell 38 = .ok (.iload_n 2, 1) := dk_28 (dk_at dksX3_tell_1 14 rfl rfl)
theorem dX3_tell_39 : decode cX3_tell 39 = .ok (.putfield 41, 3) := dk_181 0 41 (dk_at dksX3_tell_1 15 rfl rfl)
theorem dX3_tell_42 : decode cX3_tell 42 = .ok (.return_, 1) := dk_177 (dk_at dksX3_tell_1 18 rfl rfl)
abbrev cX3_number : ByteArray := prog_13_method_12_code
def yX3_number : MethodName := ⟨RX3, "number", "(II)I"⟩
def dkwX3_number_1 : List UInt8 := [28, 164, 0, 9, 42, 8, 29, 182, 0, 75, 21, 4, 172]
abbrev dktX3_number_1 : List UInt8 := dkwX3_number_1 ++ []
def dkwX3_number_0 : List UInt8 := [42, 4, 182, 0, 68, 62, 42, 180, 0, 9, 29, 182, 0, 72, 54, 4, 21, 4, 27, 161, 0, 9, 21, 4]
abbrev dktX3_number_0 : List UInt8 := dkwX3_number_0 ++ dktX3_number_1
theorem dksX3_number_0 : cX3_number.data.toList.drop 0 = dktX3_number_0 := by decide +kernel
theorem dksX3_number_1 : cX3_number.data.toList.drop 24 = dktX3_number_1 := dk_seg dksX3_number_0 24 rfl rfl
theorem dX3_number_0 : decode cX3_number 0 = .ok (.aload_n 0, 1) := dk_42 (dk_at dksX3_number_0 0 rfl rfl)
theorem dX3_number_1 : decode cX3_number 1 = .ok (.iconst 1, 1) := dk_4 (dk_at dksX3_number_0 1 rfl rfl)
theorem dX3_number_2 : decode cX3_number 2 = .ok (.invokevirtual 68, 3) := dk_182 0 68 (dk_at dksX3_number_0 2 rfl rfl)
theorem dX3_number_5 : decode cX3_number 5 = .ok (.istore_n 3, 1) := dk_62 (dk_at dksX3_number_0 5 rfl rfl)
theorem dX3_number_6 : decode cX3_number 6 = .ok (.aload_n 0, 1) := dk_42 (dk_at dksX3_number_0 6 rfl rfl)
theorem dX3_number_7 : decode cX3_number 7 = .ok (.getfield 9, 3) := dk_180 0 9 (dk_at dksX3_number_0 7 rfl rfl)
theorem dX3_number_10 : decode cX3_number 10 = .ok (.iload_n 3, 1) := dk_29 (dk_at dksX3_number_0 10 rfl rfl)
theorem dX3_number_11 : decode cX3_number 11 = .ok (.invokevirtual 72, 3) := dk_182 0 72 (dk_at dksX3_number_0 11 rfl rfl)
theorem dX3_number_14 : decode cX3_number 14 = .ok (.istore 4, 2) := dk_54 4 (dk_at dksX3_number_0 14 rfl rfl)
theorem dX3_number_16 : decode cX3_number 16 = .ok (.iload 4, 2) := dk_21 4 (dk_at dksX3_number_0 16 rfl rfl)
theorem dX3_number_18 : decode cX3_number 18 = .ok (.iload_n 1, 1) := dk_27 (dk_at dksX3_number_0 18 rfl rfl)
theorem dX3_number_19 : decode cX3_number 19 = .ok (.if_icmp .lt 9, 3) := dk_161 0 9 (dk_at dksX3_number_0 19 rfl rfl)
theorem dX3_number_22 : decode cX3_number 22 = .ok (.iload 4, 2) := dk_21 4 (dk_at dksX3_number_0 22 rfl rfl)
theorem dX3_number_24 : decode cX3_number 24 = .ok (.iload_n 2, 1) := dk_28 (dk_at dksX3_number_1 0 rfl rfl)
theorem dX3_number_25 : decode cX3_number 25 = .ok (.if_icmp .le 9, 3) := dk_164 0 9 (dk_at dksX3_number_1 1 rfl rfl)
theorem dX3_number_28 : decode cX3_number 28 = .ok (.aload_n 0, 1) := dk_42 (dk_at dksX3_number_1 4 rfl rfl)
theorem dX3_number_29 : decode cX3_number 29 = .ok (.iconst 5, 1) := dk_8 (dk_at dksX3_number_1 5 rfl rfl)
theorem dX3_number_30 : decode cX3_number 30 = .ok (.iload_n 3, 1) := dk_29 (dk_at dksX3_number_1 6 rfl rfl)
theorem dX3_number_31 : decode cX3_number 31 = .ok (.invokevirtual 75, 3) := dk_182 0 75 (dk_at dksX3_number_1 7 rfl rfl)
theorem dX3_number_34 : decode cX3_number 34 = .ok (.iload 4, 2) := dk_21 4 (dk_at dksX3_number_1 10 rfl rfl)
theorem dX3_number_36 : decode cX3_number 36 = .ok (.ireturn, 1) := dk_172 (dk_at dksX3_number_1 12 rfl rfl)
theorem q114 : (Jvm.Cond.initialized "PartedSide$Parser") ∈ lw_all := lw_g (lw_at lw_m1 7 rfl) rfl
theorem q263 : (Jvm.Cond.fieldLink "PartedSide$Parser" (44 : Nat) "PartedSide$Tokens" "sort" "[B") ∈ lw_all := lw_g (lw_at lw_m1 156 rfl) rfl
theorem q265 : (Jvm.Cond.fieldLink "PartedSide$Parser" (19 : Nat) "PartedSide$Tokens" "from" "[S") ∈ lw_all := lw_g (lw_at lw_m1 158 rfl) rfl
theorem q268 : (Jvm.Cond.fieldLink "PartedSide$Parser" (52 : Nat) "PartedSide$Tokens" "what" "[S") ∈ lw_all := lw_g (lw_at lw_m1 161 rfl) rfl
theorem q289 : (Jvm.Cond.instantiable "PartedSide$Parser" (7 : Nat)) ∈ lw_all := lw_g (lw_at lw_m1 182 rfl) rfl
theorem q291 : (Jvm.Cond.instanceMethod ({ cls := "PartedSide$Parser", name := "<init>", desc := "(LPartedSide$Tokens;LPartedSide$Fault;)V" } : Jvm.MethodName)) ∈ lw_all := lw_g (lw_at lw_m1 184 rfl) rfl
theorem q292 : (Jvm.Cond.code ({ cls := "PartedSide$Parser", name := "<init>", desc := "(LPartedSide$Tokens;LPartedSide$Fault;)V" } : Jvm.MethodName) prog_13_method_1_code (3 : Nat) (Option.none : Option Jvm.ClassFile.FieldType)) ∈ lw_all := lw_g (lw_at lw_m1 185 rfl) rfl
theorem q293 : (Jvm.Cond.methodLink "PartedSide$Parser" (3 : Nat) ({ cls := "java/lang/Object", name := "<init>", desc := "()V" } : Jvm.MethodName)) ∈ lw_all := lw_g (lw_at lw_m1 186 rfl) rfl
theorem q294 : (Jvm.Cond.fieldLink "PartedSide$Parser" (9 : Nat) "PartedSide$Parser" "t" "LPartedSide$Tokens;") ∈ lw_all := lw_g (lw_at lw_m1 187 rfl) rfl
theorem q295 : (Jvm.Cond.fieldLink "PartedSide$Parser" (15 : Nat) "PartedSide$Parser" "fault" "LPartedSide$Fault;") ∈ lw_all := lw_g (lw_at lw_m1 188 rfl) rfl
theorem q296 : (Jvm.Cond.fieldLink "PartedSide$Parser" (83 : Nat) "PartedSide$Parser" "text" "LPartedSide$Text;") ∈ lw_all := lw_g (lw_at lw_m1 189 rfl) rfl
theorem q297 : (Jvm.Cond.fieldLink "PartedSide$Parser" (31 : Nat) "PartedSide$Parser" "at" "I") ∈ lw_all := lw_g (lw_at lw_m1 190 rfl) rfl
theorem q298 : (Jvm.Cond.fieldLink "PartedSide$Parser" (96 : Nat) "PartedSide$Parser" "open" "I") ∈ lw_all := lw_g (lw_at lw_m1 191 rfl) rfl
theorem q299 : (Jvm.Cond.fieldLink "PartedSide$Parser" (38 : Nat) "PartedSide$Parser" "worst" "I") ∈ lw_all := lw_g (lw_at lw_m1 192 rfl) rfl
theorem q300 : (Jvm.Cond.fieldLink "PartedSide$Parser" (41 : Nat) "PartedSide$Parser" "worstToken" "I") ∈ lw_all := lw_g (lw_at lw_m1 193 rfl) rfl
theorem q301 : (Jvm.Cond.laysFinal "PartedSide$Parser" "PartedSide$Parser" "t" "LPartedSide$Tokens;") ∈ lw_all := lw_g (lw_at lw_m1 194 rfl) rfl
theorem q302 : (Jvm.Cond.soleField "PartedSide$Parser" "t") ∈ lw_all := lw_g (lw_at lw_m1 195 rfl) rfl
theorem q303 : (Jvm.Cond.laysFinal "PartedSide$Parser" "PartedSide$Parser" "fault" "LPartedSide$Fault;") ∈ lw_all := lw_g (lw_at lw_m1 196 rfl) rfl
theorem q304 : (Jvm.Cond.soleField "PartedSide$Parser" "fault") ∈ lw_all := lw_g (lw_at lw_m1 197 rfl) rfl
theorem q305 : (Jvm.Cond.lays "PartedSide$Parser" "PartedSide$Parser" "text" "LPartedSide$Text;") ∈ lw_all := lw_g (lw_at lw_m1 198 rfl) rfl
theorem q306 : (Jvm.Cond.soleField "PartedSide$Parser" "text") ∈ lw_all := lw_g (lw_at lw_m1 199 rfl) rfl
theorem q307 : (Jvm.Cond.lays "PartedSide$Parser" "PartedSide$Parser" "at" "I") ∈ lw_all := lw_g (lw_at lw_m1 200 rfl) rfl
theorem q308 : (Jvm.Cond.soleField "PartedSide$Parser" "at") ∈ lw_all := lw_g (lw_at lw_m1 201 rfl) rfl
theorem q309 : (Jvm.Cond.lays "PartedSide$Parser" "PartedSide$Parser" "open" "I") ∈ lw_all := lw_g (lw_at lw_m1 202 rfl) rfl
theorem q310 : (Jvm.Cond.soleField "PartedSide$Parser" "open") ∈ lw_all := lw_g (lw_at lw_m1 203 rfl) rfl
theorem q311 : (Jvm.Cond.lays "PartedSide$Parser" "PartedSide$Parser" "worst" "I") ∈ lw_all := lw_g (lw_at lw_m1 204 rfl) rfl
theorem q312 : (Jvm.Cond.soleField "PartedSide$Parser" "worst") ∈ lw_all := lw_g (lw_at lw_m1 205 rfl) rfl
theorem q313 : (Jvm.Cond.lays "PartedSide$Parser" "PartedSide$Parser" "worstToken" "I") ∈ lw_all := lw_g (lw_at lw_m1 206 rfl) rfl
theorem q314 : (Jvm.Cond.soleField "PartedSide$Parser" "worstToken") ∈ lw_all := lw_g (lw_at lw_m1 207 rfl) rfl
theorem q315 : (Jvm.Cond.superclass "PartedSide$Parser" "java/lang/Object") ∈ lw_all := lw_g (lw_at lw_m1 208 rfl) rfl
theorem q352 : (Jvm.Cond.fieldLink "PartedSide$Parser" (118 : Nat) "PartedSide$Text" "sleepers" "Ljava/util/ArrayList;") ∈ lw_all := lw_g (lw_at lw_m2 5 rfl) rfl
theorem q355 : (Jvm.Cond.fieldLink "PartedSide$Parser" (110 : Nat) "PartedSide$Text" "laws" "[LPartedSide$Law;") ∈ lw_all := lw_g (lw_at lw_m2 8 rfl) rfl
theorem q358 : (Jvm.Cond.fieldLink "PartedSide$Parser" (159 : Nat) "PartedSide$Text" "cold" "[I") ∈ lw_all := lw_g (lw_at lw_m2 11 rfl) rfl
theorem q361 : (Jvm.Cond.fieldLink "PartedSide$Parser" (155 : Nat) "PartedSide$Text" "coldBed" "[I") ∈ lw_all := lw_g (lw_at lw_m2 14 rfl) rfl
theorem q363 : (Jvm.Cond.fieldLink "PartedSide$Parser" (152 : Nat) "PartedSide$Text" "colds" "I") ∈ lw_all := lw_g (lw_at lw_m2 16 rfl) rfl
theorem q366 : (Jvm.Cond.fieldLink "PartedSide$Parser" (162 : Nat) "PartedSide$Text" "ring" "I") ∈ lw_all := lw_g (lw_at lw_m2 19 rfl) rfl
theorem q369 : (Jvm.Cond.fieldLink "PartedSide$Parser" (165 : Nat) "PartedSide$Text" "begins" "I") ∈ lw_all := lw_g (lw_at lw_m2 22 rfl) rfl
theorem q372 : (Jvm.Cond.fieldLink "PartedSide$Parser" (167 : Nat) "PartedSide$Text" "seed" "I") ∈ lw_all := lw_g (lw_at lw_m2 25 rfl) rfl
theorem q619 : (Jvm.Cond.instanceMethod ({ cls := "PartedSide$Parser", name := "read", desc := "()LPartedSide$Text;" } : Jvm.MethodName)) ∈ lw_all := lw_g (lw_at lw_m3 32 rfl) rfl
theorem q620 : (Jvm.Cond.selects "PartedSide$Parser" ({ cls := "PartedSide$Parser", name := "read", desc := "()LPartedSide$Text;" } : Jvm.MethodName) ({ cls := "PartedSide$Parser", name := "read", desc := "()LPartedSide$Text;" } : Jvm.MethodName)) ∈ lw_all := lw_g (lw_at lw_m3 33 rfl) rfl
theorem q621 : (Jvm.Cond.code ({ cls := "PartedSide$Parser", name := "read", desc := "()LPartedSide$Text;" } : Jvm.MethodName) prog_13_method_15_code (1 : Nat) (Option.some (Jvm.ClassFile.FieldType.object "PartedSide$Text"))) ∈ lw_all := lw_g (lw_at lw_m3 34 rfl) rfl
theorem q622 : (Jvm.Cond.methodLink "PartedSide$Parser" (92 : Nat) ({ cls := "PartedSide$Tokens", name := "read", desc := "()V" } : Jvm.MethodName)) ∈ lw_all := lw_g (lw_at lw_m3 35 rfl) rfl
theorem q696 : (Jvm.Cond.classLink "PartedSide$Parser" (87 : Nat) "PartedSide$Text") ∈ lw_all := lw_g (lw_at lw_m3 109 rfl) rfl
theorem q697 : (Jvm.Cond.methodLinkNest "PartedSide$Parser" (95 : Nat) ({ cls := "PartedSide$Text", name := "<init>", desc := "()V" } : Jvm.MethodName) "PartedSide") ∈ lw_tbl := lw_at lw_m3 110 rfl
theorem q698 : (Jvm.Cond.methodLink "PartedSide$Parser" (65 : Nat) ({ cls := "PartedSide$Parser", name := "sort", desc := "()I" } : Jvm.MethodName)) ∈ lw_all := lw_g (lw_at lw_m3 111 rfl) rfl
theorem q699 : (Jvm.Cond.privateMethod ({ cls := "PartedSide$Parser", name := "sort", desc := "()I" } : Jvm.MethodName)) ∈ lw_tbl := lw_at lw_m3 112 rfl
theorem q700 : (Jvm.Cond.instanceMethod ({ cls := "PartedSide$Parser", name := "sort", desc := "()I" } : Jvm.MethodName)) ∈ lw_all := lw_g (lw_at lw_m3 113 rfl) rfl
theorem q701 : (Jvm.Cond.code ({ cls := "PartedSide$Parser", name := "sort", desc := "()I" } : Jvm.MethodName) prog_13_method_5_code (1 : Nat) (Option.some Jvm.ClassFile.FieldType.int)) ∈ lw_all := lw_g (lw_at lw_m3 114 rfl) rfl
theorem q702 : (Jvm.Cond.methodLink "PartedSide$Parser" (48 : Nat) ({ cls := "PartedSide$Parser", name := "wrong", desc := "(I)LPartedSide$Fault;" } : Jvm.MethodName)) ∈ lw_all := lw_g (lw_at lw_m3 115 rfl) rfl
theorem q703 : (Jvm.Cond.privateMethod ({ cls := "PartedSide$Parser", name := "wrong", desc := "(I)LPartedSide$Fault;" } : Jvm.MethodName)) ∈ lw_tbl := lw_at lw_m3 116 rfl
theorem q704 : (Jvm.Cond.instanceMethod ({ cls := "PartedSide$Parser", name := "wrong", desc := "(I)LPartedSide$Fault;" } : Jvm.MethodName)) ∈ lw_all := lw_g (lw_at lw_m3 117 rfl) rfl
theorem q705 : (Jvm.Cond.code ({ cls := "PartedSide$Parser", name := "wrong", desc := "(I)LPartedSide$Fault;" } : Jvm.MethodName) prog_13_method_3_code (2 : Nat) (Option.some (Jvm.ClassFile.FieldType.object "PartedSide$Fault"))) ∈ lw_all := lw_g (lw_at lw_m3 118 rfl) rfl
theorem q706 : (Jvm.Cond.methodLink "PartedSide$Parser" (35 : Nat) ({ cls := "PartedSide$Parser", name := "wrongAt", desc := "(II)LPartedSide$Fault;" } : Jvm.MethodName)) ∈ lw_all := lw_g (lw_at lw_m3 119 rfl) rfl
theorem q707 : (Jvm.Cond.privateMethod ({ cls := "PartedSide$Parser", name := "wrongAt", desc := "(II)LPartedSide$Fault;" } : Jvm.MethodName)) ∈ lw_tbl := lw_at lw_m3 120 rfl
theorem q708 : (Jvm.Cond.instanceMethod ({ cls := "PartedSide$Parser", name := "wrongAt", desc := "(II)LPartedSide$Fault;" } : Jvm.MethodName)) ∈ lw_all := lw_g (lw_at lw_m3 121 rfl) rfl
theorem q709 : (Jvm.Cond.code ({ cls := "PartedSide$Parser", name := "wrongAt", desc := "(II)LPartedSide$Fault;" } : Jvm.MethodName) prog_13_method_2_code (3 : Nat) (Option.some (Jvm.ClassFile.FieldType.object "PartedSide$Fault"))) ∈ lw_all := lw_g (lw_at lw_m3 122 rfl) rfl
theorem q710 : (Jvm.Cond.methodLink "PartedSide$Parser" (25 : Nat) ({ cls := "PartedSide$Fault", name := "of", desc := "(II)LPartedSide$Fault;" } : Jvm.MethodName)) ∈ lw_all := lw_g (lw_at lw_m3 123 rfl) rfl
theorem q714 : (Jvm.Cond.methodLink "PartedSide$Parser" (99 : Nat) ({ cls := "PartedSide$Parser", name := "told", desc := "()V" } : Jvm.MethodName)) ∈ lw_all := lw_g (lw_at lw_m3 127 rfl) rfl
theorem q715 : (Jvm.Cond.privateMethod ({ cls := "PartedSide$Parser", name := "told", desc := "()V" } : Jvm.MethodName)) ∈ lw_tbl := lw_at lw_m3 128 rfl
theorem q716 : (Jvm.Cond.instanceMethod ({ cls := "PartedSide$Parser", name := "told", desc := "()V" } : Jvm.MethodName)) ∈ lw_all := lw_g (lw_at lw_m3 129 rfl) rfl
theorem q717 : (Jvm.Cond.code ({ cls := "PartedSide$Parser", name := "told", desc := "()V" } : Jvm.MethodName) prog_13_method_16_code (4 : Nat) (Option.none : Option Jvm.ClassFile.FieldType)) ∈ lw_all := lw_g (lw_at lw_m3 130 rfl) rfl
theorem q718 : (Jvm.Cond.methodLink "PartedSide$Parser" (59 : Nat) ({ cls := "PartedSide$Parser", name := "pass", desc := "()V" } : Jvm.MethodName)) ∈ lw_all := lw_g (lw_at lw_m3 131 rfl) rfl
theorem q719 : (Jvm.Cond.privateMethod ({ cls := "PartedSide$Parser", name := "pass", desc := "()V" } : Jvm.MethodName)) ∈ lw_tbl := lw_at lw_m3 132 rfl
theorem q720 : (Jvm.Cond.instanceMethod ({ cls := "PartedSide$Parser", name := "pass", desc := "()V" } : Jvm.MethodName)) ∈ lw_all := lw_g (lw_at lw_m3 133 rfl) rfl
theorem q721 : (Jvm.Cond.code ({ cls := "PartedSide$Parser", name := "pass", desc := "()V" } : Jvm.MethodName) prog_13_method_6_code (1 : Nat) (Option.none : Option Jvm.ClassFile.FieldType)) ∈ lw_all := lw_g (lw_at lw_m3 134 rfl) rfl
theorem q722 : (Jvm.Cond.methodLink "PartedSide$Parser" (114 : Nat) ({ cls := "PartedSide$Parser", name := "law", desc := "()LPartedSide$Law;" } : Jvm.MethodName)) ∈ lw_all := lw_g (lw_at lw_m3 135 rfl) rfl
theorem q723 : (Jvm.Cond.privateMethod ({ cls := "PartedSide$Parser", name := "law", desc := "()LPartedSide$Law;" } : Jvm.MethodName)) ∈ lw_tbl := lw_at lw_m3 136 rfl
theorem q724 : (Jvm.Cond.instanceMethod ({ cls := "PartedSide$Parser", name := "law", desc := "()LPartedSide$Law;" } : Jvm.MethodName)) ∈ lw_all := lw_g (lw_at lw_m3 137 rfl) rfl
theorem q725 : (Jvm.Cond.code ({ cls := "PartedSide$Parser", name := "law", desc := "()LPartedSide$Law;" } : Jvm.MethodName) prog_13_method_17_code (2 : Nat) (Option.some (Jvm.ClassFile.FieldType.object "PartedSide$Law"))) ∈ lw_all := lw_g (lw_at lw_m3 138 rfl) rfl
theorem q726 : (Jvm.Cond.classLink "PartedSide$Parser" (170 : Nat) "PartedSide$Law") ∈ lw_all := lw_g (lw_at lw_m3 139 rfl) rfl
theorem q728 : (Jvm.Cond.methodLinkNest "PartedSide$Parser" (172 : Nat) ({ cls := "PartedSide$Law", name := "<init>", desc := "()V" } : Jvm.MethodName) "PartedSide") ∈ lw_tbl := lw_at lw_m3 141 rfl
theorem q735 : (Jvm.Cond.fieldLink "PartedSide$Parser" (176 : Nat) "PartedSide$Law" "less" "[LPartedSide$Sum;") ∈ lw_all := lw_g (lw_at lw_m3 148 rfl) rfl
theorem q737 : (Jvm.Cond.fieldLink "PartedSide$Parser" (184 : Nat) "PartedSide$Law" "than" "[LPartedSide$Sum;") ∈ lw_all := lw_g (lw_at lw_m3 150 rfl) rfl
theorem q739 : (Jvm.Cond.fieldLink "PartedSide$Parser" (190 : Nat) "PartedSide$Law" "then" "[LPartedSide$Sum;") ∈ lw_all := lw_g (lw_at lw_m3 152 rfl) rfl
theorem q741 : (Jvm.Cond.fieldLink "PartedSide$Parser" (173 : Nat) "PartedSide$Law" "ifs" "I") ∈ lw_all := lw_g (lw_at lw_m3 154 rfl) rfl
theorem q751 : (Jvm.Cond.methodLink "PartedSide$Parser" (102 : Nat) ({ cls := "PartedSide$Parser", name := "sign", desc := "(I)V" } : Jvm.MethodName)) ∈ lw_all := lw_g (lw_at lw_m3 164 rfl) rfl
theorem q752 : (Jvm.Cond.privateMethod ({ cls := "PartedSide$Parser", name := "sign", desc := "(I)V" } : Jvm.MethodName)) ∈ lw_tbl := lw_at lw_m3 165 rfl
theorem q753 : (Jvm.Cond.instanceMethod ({ cls := "PartedSide$Parser", name := "sign", desc := "(I)V" } : Jvm.MethodName)) ∈ lw_all := lw_g (lw_at lw_m3 166 rfl) rfl
theorem q754 : (Jvm.Cond.code ({ cls := "PartedSide$Parser", name := "sign", desc := "(I)V" } : Jvm.MethodName) prog_13_method_9_code (2 : Nat) (Option.none : Option Jvm.ClassFile.FieldType)) ∈ lw_all := lw_g (lw_at lw_m3 167 rfl) rfl
theorem q755 : (Jvm.Cond.methodLink "PartedSide$Parser" (55 : Nat) ({ cls := "PartedSide$Parser", name := "isSign", desc := "(I)Z" } : Jvm.MethodName)) ∈ lw_all := lw_g (lw_at lw_m3 168 rfl) rfl
theorem q756 : (Jvm.Cond.privateMethod ({ cls := "PartedSide$Parser", name := "isSign", desc := "(I)Z" } : Jvm.MethodName)) ∈ lw_tbl := lw_at lw_m3 169 rfl
theorem q757 : (Jvm.Cond.instanceMethod ({ cls := "PartedSide$Parser", name := "isSign", desc := "(I)Z" } : Jvm.MethodName)) ∈ lw_all := lw_g (lw_at lw_m3 170 rfl) rfl
theorem q758 : (Jvm.Cond.code ({ cls := "PartedSide$Parser", name := "isSign", desc := "(I)Z" } : Jvm.MethodName) prog_13_method_7_code (2 : Nat) (Option.some Jvm.ClassFile.FieldType.boolean)) ∈ lw_all := lw_g (lw_at lw_m3 171 rfl) rfl
theorem q759 : (Jvm.Cond.methodLink "PartedSide$Parser" (62 : Nat) ({ cls := "PartedSide$Parser", name := "isWord", desc := "(I)Z" } : Jvm.MethodName)) ∈ lw_all := lw_g (lw_at lw_m3 172 rfl) rfl
theorem q760 : (Jvm.Cond.privateMethod ({ cls := "PartedSide$Parser", name := "isWord", desc := "(I)Z" } : Jvm.MethodName)) ∈ lw_tbl := lw_at lw_m3 173 rfl
theorem q761 : (Jvm.Cond.instanceMethod ({ cls := "PartedSide$Parser", name := "isWord", desc := "(I)Z" } : Jvm.MethodName)) ∈ lw_all := lw_g (lw_at lw_m3 174 rfl) rfl
theorem q762 : (Jvm.Cond.code ({ cls := "PartedSide$Parser", name := "isWord", desc := "(I)Z" } : Jvm.MethodName) prog_13_method_8_code (2 : Nat) (Option.some Jvm.ClassFile.FieldType.boolean)) ∈ lw_all := lw_g (lw_at lw_m3 175 rfl) rfl
theorem q763 : (Jvm.Cond.methodLink "PartedSide$Parser" (127 : Nat) ({ cls := "PartedSide$Parser", name := "begins", desc := "(II)V" } : Jvm.MethodName)) ∈ lw_all := lw_g (lw_at lw_m3 176 rfl) rfl
theorem q764 : (Jvm.Cond.privateMethod ({ cls := "PartedSide$Parser", name := "begins", desc := "(II)V" } : Jvm.MethodName)) ∈ lw_tbl := lw_at lw_m3 177 rfl
theorem q765 : (Jvm.Cond.instanceMethod ({ cls := "PartedSide$Parser", name := "begins", desc := "(II)V" } : Jvm.MethodName)) ∈ lw_all := lw_g (lw_at lw_m3 178 rfl) rfl
theorem q766 : (Jvm.Cond.code ({ cls := "PartedSide$Parser", name := "begins", desc := "(II)V" } : Jvm.MethodName) prog_13_method_14_code (3 : Nat) (Option.none : Option Jvm.ClassFile.FieldType)) ∈ lw_all := lw_g (lw_at lw_m3 179 rfl) rfl
theorem q767 : (Jvm.Cond.methodLink "PartedSide$Parser" (180 : Nat) ({ cls := "PartedSide$Parser", name := "sum", desc := "()LPartedSide$Sum;" } : Jvm.MethodName)) ∈ lw_all := lw_g (lw_at lw_m3 180 rfl) rfl
theorem q768 : (Jvm.Cond.privateMethod ({ cls := "PartedSide$Parser", name := "sum", desc := "()LPartedSide$Sum;" } : Jvm.MethodName)) ∈ lw_tbl := lw_at lw_m3 181 rfl
theorem q769 : (Jvm.Cond.instanceMethod ({ cls := "PartedSide$Parser", name := "sum", desc := "()LPartedSide$Sum;" } : Jvm.MethodName)) ∈ lw_all := lw_g (lw_at lw_m3 182 rfl) rfl
theorem q770 : (Jvm.Cond.code ({ cls := "PartedSide$Parser", name := "sum", desc := "()LPartedSide$Sum;" } : Jvm.MethodName) prog_13_method_18_code (3 : Nat) (Option.some (Jvm.ClassFile.FieldType.object "PartedSide$Sum"))) ∈ lw_all := lw_g (lw_at lw_m3 183 rfl) rfl
theorem q771 : (Jvm.Cond.methodLink "PartedSide$Parser" (193 : Nat) ({ cls := "PartedSide$Parser", name := "part", desc := "()LPartedSide$Sum;" } : Jvm.MethodName)) ∈ lw_all := lw_g (lw_at lw_m3 184 rfl) rfl
theorem q772 : (Jvm.Cond.privateMethod ({ cls := "PartedSide$Parser", name := "part", desc := "()LPartedSide$Sum;" } : Jvm.MethodName)) ∈ lw_tbl := lw_at lw_m3 185 rfl
theorem q773 : (Jvm.Cond.instanceMethod ({ cls := "PartedSide$Parser", name := "part", desc := "()LPartedSide$Sum;" } : Jvm.MethodName)) ∈ lw_all := lw_g (lw_at lw_m3 186 rfl) rfl
theorem q774 : (Jvm.Cond.code ({ cls := "PartedSide$Parser", name := "part", desc := "()LPartedSide$Sum;" } : Jvm.MethodName) prog_13_method_19_code (3 : Nat) (Option.some (Jvm.ClassFile.FieldType.object "PartedSide$Sum"))) ∈ lw_all := lw_g (lw_at lw_m3 187 rfl) rfl
theorem q775 : (Jvm.Cond.methodLink "PartedSide$Parser" (201 : Nat) ({ cls := "PartedSide$Parser", name := "unit", desc := "()LPartedSide$Sum;" } : Jvm.MethodName)) ∈ lw_all := lw_g (lw_at lw_m3 188 rfl) rfl
theorem q776 : (Jvm.Cond.privateMethod ({ cls := "PartedSide$Parser", name := "unit", desc := "()LPartedSide$Sum;" } : Jvm.MethodName)) ∈ lw_tbl := lw_at lw_m3 189 rfl
theorem q777 : (Jvm.Cond.instanceMethod ({ cls := "PartedSide$Parser", name := "unit", desc := "()LPartedSide$Sum;" } : Jvm.MethodName)) ∈ lw_all := lw_g (lw_at lw_m3 190 rfl) rfl
theorem q778 : (Jvm.Cond.code ({ cls := "PartedSide$Parser", name := "unit", desc := "()LPartedSide$Sum;" } : Jvm.MethodName) prog_13_method_20_code (2 : Nat) (Option.some (Jvm.ClassFile.FieldType.object "PartedSide$Sum"))) ∈ lw_all := lw_g (lw_at lw_m3 191 rfl) rfl
theorem q779 : (Jvm.Cond.classLink "PartedSide$Parser" (204 : Nat) "PartedSide$Number") ∈ lw_all := lw_g (lw_at lw_m3 192 rfl) rfl
theorem q781 : (Jvm.Cond.methodLink "PartedSide$Parser" (72 : Nat) ({ cls := "PartedSide$Tokens", name := "number", desc := "(I)I" } : Jvm.MethodName)) ∈ lw_all := lw_g (lw_at lw_m3 194 rfl) rfl
theorem q785 : (Jvm.Cond.methodLink "PartedSide$Parser" (206 : Nat) ({ cls := "PartedSide$Number", name := "<init>", desc := "(I)V" } : Jvm.MethodName)) ∈ lw_all := lw_g (lw_at lw_m3 198 rfl) rfl
theorem q796 : (Jvm.Cond.classLink "PartedSide$Parser" (208 : Nat) "PartedSide$Var") ∈ lw_all := lw_g (lw_at lw_m3 209 rfl) rfl
theorem q798 : (Jvm.Cond.methodLink "PartedSide$Parser" (210 : Nat) ({ cls := "PartedSide$Var", name := "<init>", desc := "(I)V" } : Jvm.MethodName)) ∈ lw_all := lw_g (lw_at lw_m3 211 rfl) rfl
theorem q806 : (Jvm.Cond.classLink "PartedSide$Parser" (196 : Nat) "PartedSide$Joined") ∈ lw_all := lw_g (lw_at lw_m3 219 rfl) rfl
theorem q808 : (Jvm.Cond.methodLink "PartedSide$Parser" (198 : Nat) ({ cls := "PartedSide$Joined", name := "<init>", desc := "(ILPartedSide$Sum;LPartedSide$Sum;)V" } : Jvm.MethodName)) ∈ lw_all := lw_g (lw_at lw_m3 221 rfl) rfl
theorem q822 : (Jvm.Cond.methodLink "PartedSide$Parser" (187 : Nat) ({ cls := "PartedSide$Parser", name := "word", desc := "(I)V" } : Jvm.MethodName)) ∈ lw_all := lw_g (lw_at lw_m3 235 rfl) rfl
theorem q823 : (Jvm.Cond.privateMethod ({ cls := "PartedSide$Parser", name := "word", desc := "(I)V" } : Jvm.MethodName)) ∈ lw_tbl := lw_at lw_m3 236 rfl
theorem q824 : (Jvm.Cond.instanceMethod ({ cls := "PartedSide$Parser", name := "word", desc := "(I)V" } : Jvm.MethodName)) ∈ lw_all := lw_g (lw_at lw_m3 237 rfl) rfl
theorem q825 : (Jvm.Cond.code ({ cls := "PartedSide$Parser", name := "word", desc := "(I)V" } : Jvm.MethodName) prog_13_method_10_code (2 : Nat) (Option.none : Option Jvm.ClassFile.FieldType)) ∈ lw_all := lw_g (lw_at lw_m3 238 rfl) rfl
theorem q826 : (Jvm.Cond.methodLink "PartedSide$Parser" (122 : Nat) ({ cls := "java/util/ArrayList", name := "size", desc := "()I" } : Jvm.MethodName)) ∈ lw_all := lw_g (lw_at lw_m3 239 rfl) rfl
theorem q827 : (Jvm.Cond.classLink "PartedSide$Parser" (130 : Nat) "PartedSide$Sleeper") ∈ lw_all := lw_g (lw_at lw_m4 0 rfl) rfl
theorem q829 : (Jvm.Cond.methodLink "PartedSide$Parser" (132 : Nat) ({ cls := "PartedSide$Parser", name := "name", desc := "()Ljava/lang/String;" } : Jvm.MethodName)) ∈ lw_all := lw_g (lw_at lw_m4 2 rfl) rfl
theorem q830 : (Jvm.Cond.privateMethod ({ cls := "PartedSide$Parser", name := "name", desc := "()Ljava/lang/String;" } : Jvm.MethodName)) ∈ lw_tbl := lw_at lw_m4 3 rfl
theorem q831 : (Jvm.Cond.instanceMethod ({ cls := "PartedSide$Parser", name := "name", desc := "()Ljava/lang/String;" } : Jvm.MethodName)) ∈ lw_all := lw_g (lw_at lw_m4 4 rfl) rfl
theorem q832 : (Jvm.Cond.code ({ cls := "PartedSide$Parser", name := "name", desc := "()Ljava/lang/String;" } : Jvm.MethodName) prog_13_method_13_code (3 : Nat) (Option.some (Jvm.ClassFile.FieldType.object "java/lang/String"))) ∈ lw_all := lw_g (lw_at lw_m4 5 rfl) rfl
theorem q833 : (Jvm.Cond.methodLink "PartedSide$Parser" (68 : Nat) ({ cls := "PartedSide$Parser", name := "take", desc := "(I)I" } : Jvm.MethodName)) ∈ lw_all := lw_g (lw_at lw_m4 6 rfl) rfl
theorem q834 : (Jvm.Cond.privateMethod ({ cls := "PartedSide$Parser", name := "take", desc := "(I)I" } : Jvm.MethodName)) ∈ lw_tbl := lw_at lw_m4 7 rfl
theorem q835 : (Jvm.Cond.instanceMethod ({ cls := "PartedSide$Parser", name := "take", desc := "(I)I" } : Jvm.MethodName)) ∈ lw_all := lw_g (lw_at lw_m4 8 rfl) rfl
theorem q836 : (Jvm.Cond.code ({ cls := "PartedSide$Parser", name := "take", desc := "(I)I" } : Jvm.MethodName) prog_13_method_11_code (2 : Nat) (Option.some Jvm.ClassFile.FieldType.int)) ∈ lw_all := lw_g (lw_at lw_m4 9 rfl) rfl
theorem q837 : (Jvm.Cond.methodLink "PartedSide$Parser" (79 : Nat) ({ cls := "PartedSide$Tokens", name := "text", desc := "(I)Ljava/lang/String;" } : Jvm.MethodName)) ∈ lw_all := lw_g (lw_at lw_m4 10 rfl) rfl
theorem q1003 : (Jvm.Cond.methodLink "PartedSide$Parser" (86 : Nat) ({ cls := "PartedSide$Text", name := "has", desc := "(Ljava/lang/String;)Z" } : Jvm.MethodName)) ∈ lw_all := lw_g (lw_at lw_m4 176 rfl) rfl
theorem q1017 : (Jvm.Cond.methodLink "PartedSide$Parser" (75 : Nat) ({ cls := "PartedSide$Parser", name := "tell", desc := "(II)V" } : Jvm.MethodName)) ∈ lw_all := lw_g (lw_at lw_m4 190 rfl) rfl
theorem q1018 : (Jvm.Cond.privateMethod ({ cls := "PartedSide$Parser", name := "tell", desc := "(II)V" } : Jvm.MethodName)) ∈ lw_tbl := lw_at lw_m4 191 rfl
theorem q1019 : (Jvm.Cond.instanceMethod ({ cls := "PartedSide$Parser", name := "tell", desc := "(II)V" } : Jvm.MethodName)) ∈ lw_all := lw_g (lw_at lw_m4 192 rfl) rfl
theorem q1020 : (Jvm.Cond.code ({ cls := "PartedSide$Parser", name := "tell", desc := "(II)V" } : Jvm.MethodName) prog_13_method_4_code (3 : Nat) (Option.none : Option Jvm.ClassFile.FieldType)) ∈ lw_all := lw_g (lw_at lw_m4 193 rfl) rfl
theorem q1021 : (Jvm.Cond.methodLink "PartedSide$Parser" (136 : Nat) ({ cls := "PartedSide$Sleeper", name := "<init>", desc := "(Ljava/lang/String;)V" } : Jvm.MethodName)) ∈ lw_all := lw_g (lw_at lw_m4 194 rfl) rfl
theorem q1028 : (Jvm.Cond.fieldLink "PartedSide$Parser" (142 : Nat) "PartedSide$Sleeper" "left" "I") ∈ lw_all := lw_g (lw_at lw_m4 201 rfl) rfl
theorem q1030 : (Jvm.Cond.fieldLink "PartedSide$Parser" (145 : Nat) "PartedSide$Sleeper" "habit" "I") ∈ lw_all := lw_g (lw_at lw_m4 203 rfl) rfl
theorem q1038 : (Jvm.Cond.methodLink "PartedSide$Parser" (139 : Nat) ({ cls := "PartedSide$Parser", name := "number", desc := "(II)I" } : Jvm.MethodName)) ∈ lw_all := lw_g (lw_at lw_m4 211 rfl) rfl
theorem q1039 : (Jvm.Cond.privateMethod ({ cls := "PartedSide$Parser", name := "number", desc := "(II)I" } : Jvm.MethodName)) ∈ lw_tbl := lw_at lw_m4 212 rfl
theorem q1040 : (Jvm.Cond.instanceMethod ({ cls := "PartedSide$Parser", name := "number", desc := "(II)I" } : Jvm.MethodName)) ∈ lw_all := lw_g (lw_at lw_m4 213 rfl) rfl
theorem q1041 : (Jvm.Cond.code ({ cls := "PartedSide$Parser", name := "number", desc := "(II)I" } : Jvm.MethodName) prog_13_method_12_code (5 : Nat) (Option.some Jvm.ClassFile.FieldType.int)) ∈ lw_all := lw_g (lw_at lw_m4 214 rfl) rfl
theorem q1042 : (Jvm.Cond.methodLink "PartedSide$Parser" (148 : Nat) ({ cls := "java/util/ArrayList", name := "add", desc := "(Ljava/lang/Object;)Z" } : Jvm.MethodName)) ∈ lw_all := lw_g (lw_at lw_m4 215 rfl) rfl
theorem q1076 : (Jvm.Cond.selects "PartedSide$Parser" ({ cls := "java/lang/Object", name := "getClass", desc := "()Ljava/lang/Class;" } : Jvm.MethodName) ({ cls := "java/lang/Object", name := "getClass", desc := "()Ljava/lang/Class;" } : Jvm.MethodName)) ∈ lw_all := lw_g (lw_at lw_m5 9 rfl) rfl
theorem q1094 : (Jvm.Cond.methodLink "PartedSide$Parser" (106 : Nat) ({ cls := "PartedSide$Text", name := "isWhole", desc := "()Z" } : Jvm.MethodName)) ∈ lw_all := lw_g (lw_at lw_m5 27 rfl) rfl
theorem q2092 : (Jvm.Cond.castable "PartedSide$Parser" "java/lang/Object") ∈ lw_tbl := lw_at lw_m9 65 rfl
theorem in_X3 : ∀ w ∈ wsX30, w ∈ lw_all := lw_in wsX30 [301, 303, 305, 307, 309, 311, 313] (by decide +kernel) (by decide +kernel)
/-! PartedSide$Text -/
set_option maxRecDepth 100000
def RX4 : String := "PartedSide$Text"
def TX4 : u_T := fun k => match k with
  | 0 => ("PartedSide$Text", "sleepers", "Ljava/util/ArrayList;", true)
  | 1 => ("PartedSide$Text", "laws", "[LPartedSide$Law;", true)
  | 2 => ("PartedSide$Text", "cold", "[I", true)
  | 3 => ("PartedSide$Text", "coldBed", "[I", true)
  | 4 => ("PartedSide$Text", "colds", "I", false)
  | 5 => ("PartedSide$Text", "ring", "I", false)
  | 6 => ("PartedSide$Text", "begins", "I", false)
  | _ => ("PartedSide$Text", "seed", "I", false)
def tyX4 : Nat → FieldType := fun k => match k with
  | 0 => .object "java/util/ArrayList"
  | 1 => .array (.object "PartedSide$Law")
  | 2 => .array .int
  | 3 => .array .int
  | 4 => .int
  | 5 => .int
  | 6 => .int
  | _ => .int
abbrev wsX40 : List Cond := u_ws RX4 TX4 8
theorem nmX4 : ∀ a, a < 8 → ∀ b, b < 8 → a ≠ b → (TX4 a).2.1 ≠ (TX4 b).2.1 := by decide +kernel
theorem tyX4_ok : ∀ k, k < 8 → parseFieldDescriptor (TX4 k).2.2.1 = some (tyX4 k) := by decide +kernel
abbrev cX4_init : ByteArray := prog_17_method_1_code
def yX4_init : MethodName := ⟨RX4, "<init>", "()V"⟩
def dkwX4_init_1 : List UInt8 := [16, 9, 188, 10, 181, 0, 24, 42, 16, 9, 188, 10, 181, 0, 28, 177]
abbrev dktX4_init_1 : List UInt8 := dkwX4_init_1 ++ []
def dkwX4_init_0 : List UInt8 := [42, 183, 0, 3, 42, 187, 0, 9, 89, 183, 0, 11, 181, 0, 12, 42, 7, 189, 0, 18, 181, 0, 20, 42]
abbrev dktX4_init_0 : List UInt8 := dkwX4_init_0 ++ dktX4_init_1
theorem dksX4_init_0 : cX4_init.data.toList.drop 0 = dktX4_init_0 := by decide +kernel
theorem dksX4_init_1 : cX4_init.data.toList.drop 24 = dktX4_init_1 := dk_seg dksX4_init_0 24 rfl rfl
theorem dX4_init_0 : decode cX4_init 0 = .ok (.aload_n 0, 1) := dk_42 (dk_at dksX4_init_0 0 rfl rfl)
theorem dX4_init_1 : decode cX4_init 1 = .ok (.invokespecial 3, 3) := dk_183 0 3 (dk_at dksX4_init_0 1 rfl rfl)
theorem dX4_init_4 : decode cX4_init 4 = .ok (.aload_n 0, 1) := dk_42 (dk_at dksX4_init_0 4 rfl rfl)
theorem dX4_init_5 : decode cX4_init 5 = .ok (.new 9, 3) := dk_187 0 9 (dk_at dksX4_init_0 5 rfl rfl)
theorem dX4_init_8 : decode cX4_init 8 = .ok (.dup, 1) := dk_89 (dk_at dksX4_init_0 8 rfl rfl)
theorem dX4_init_9 : decode cX4_init 9 = .ok (.invokespecial 11, 3) := dk_183 0 11 (dk_at dksX4_init_0 9 rfl rfl)
theorem dX4_init_12 : decode cX4_init 12 = .ok (.putfield 12, 3) := dk_181 0 12 (dk_at dksX4_init_0 12 rfl rfl)
theorem dX4_init_15 : decode cX4_init 15 = .ok (.aload_n 0, 1) := dk_42 (dk_at dksX4_init_0 15 rfl rfl)
theorem dX4_init_16 : decode cX4_init 16 = .ok (.iconst 4, 1) := dk_7 (dk_at dksX4_init_0 16 rfl rfl)
theorem dX4_init_17 : decode cX4_init 17 = .ok (.anewarray 18, 3) := dk_189 0 18 (dk_at dksX4_init_0 17 rfl rfl)
theorem dX4_init_20 : decode cX4_init 20 = .ok (.putfield 20, 3) := dk_181 0 20 (dk_at dksX4_init_0 20 rfl rfl)
theorem dX4_init_23 : decode cX4_init 23 = .ok (.aload_n 0, 1) := dk_42 (dk_at dksX4_init_0 23 rfl rfl)
theorem dX4_init_24 : decode cX4_init 24 = .ok (.bipush 9, 2) := dk_16 9 (dk_at dksX4_init_1 0 rfl rfl)
theorem dX4_init_26 : decode cX4_init 26 = .ok (.newarray .int, 2) := dk_188_10 (dk_at dksX4_init_1 2 rfl rfl)
theorem dX4_init_28 : decode cX4_init 28 = .ok (.putfield 24, 3) := dk_181 0 24 (dk_at dksX4_init_1 4 rfl rfl)
theorem dX4_init_31 : decode cX4_init 31 = .ok (.aload_n 0, 1) := dk_42 (dk_at dksX4_init_1 7 rfl rfl)
theorem dX4_init_32 : decode cX4_init 32 = .ok (.bipush 9, 2) := dk_16 9 (dk_at dksX4_init_1 8 rfl rfl)
theorem dX4_init_34 : decode cX4_init 34 = .ok (.newarray .int, 2) := dk_188_10 (dk_at dksX4_init_1 10 rfl rfl)
theorem dX4_init_36 : decode cX4_init 36 = .ok (.putfield 28, 3) := dk_181 0 28 (dk_at dksX4_init_1 12 rfl rfl)
theorem dX4_init_39 : decode cX4_init 39 = .ok (.return_, 1) := dk_177 (dk_at dksX4_init_1 15 rfl rfl)
abbrev cX4_beds : ByteArray := prog_17_method_4_code
def yX4_beds : MethodName := ⟨RX4, "beds", "()I"⟩
def dkwX4_beds_0 : List UInt8 := [42, 180, 0, 12, 182, 0, 31, 172]
abbrev dktX4_beds_0 : List UInt8 := dkwX4_beds_0 ++ []
theorem dksX4_beds_0 : cX4_beds.data.toList.drop 0 = dktX4_beds_0 := by decide +kernel
theorem dX4_beds_0 : decode cX4_beds 0 = .ok (.aload_n 0, 1) := dk_42 (dk_at dksX4_beds_0 0 rfl rfl)
theorem dX4_beds_1 : decode cX4_beds 1 = .ok (.getfield 12, 3) := dk_180 0 12 (dk_at dksX4_beds_0 1 rfl rfl)
theorem dX4_beds_4 : decode cX4_beds 4 = .ok (.invokevirtual 31, 3) := dk_182 0 31 (dk_at dksX4_beds_0 4 rfl rfl)
theorem dX4_beds_7 : decode cX4_beds 7 = .ok (.ireturn, 1) := dk_172 (dk_at dksX4_beds_0 7 rfl rfl)
abbrev cX4_has : ByteArray := prog_17_method_2_code
def yX4_has : MethodName := ⟨RX4, "has", "(Ljava/lang/String;)Z"⟩
def dkwX4_has_1 : List UInt8 := [180, 0, 41, 43, 182, 0, 45, 153, 0, 5, 4, 172, 132, 2, 1, 167, 255, 219, 3, 172]
abbrev dktX4_has_1 : List UInt8 := dkwX4_has_1 ++ []
def dkwX4_has_0 : List UInt8 := [3, 61, 28, 42, 180, 0, 12, 182, 0, 31, 162, 0, 32, 42, 180, 0, 12, 28, 182, 0, 35, 192, 0, 39]
abbrev dktX4_has_0 : List UInt8 := dkwX4_has_0 ++ dktX4_has_1
theorem dksX4_has_0 : cX4_has.data.toList.drop 0 = dktX4_has_0 := by decide +kernel
theorem dksX4_has_1 : cX4_has.data.toList.drop 24 = dktX4_has_1 := dk_seg dksX4_has_0 24 rfl rfl
theorem dX4_has_0 : decode cX4_has 0 = .ok (.iconst 0, 1) := dk_3 (dk_at dksX4_has_0 0 rfl rfl)
theorem dX4_has_1 : decode cX4_has 1 = .ok (.istore_n 2, 1) := dk_61 (dk_at dksX4_has_0 1 rfl rfl)
theorem dX4_has_2 : decode cX4_has 2 = .ok (.iload_n 2, 1) := dk_28 (dk_at dksX4_has_0 2 rfl rfl)
theorem dX4_has_3 : decode cX4_has 3 = .ok (.aload_n 0, 1) := dk_42 (dk_at dksX4_has_0 3 rfl rfl)
theorem dX4_has_4 : decode cX4_has 4 = .ok (.getfield 12, 3) := dk_180 0 12 (dk_at dksX4_has_0 4 rfl rfl)
theorem dX4_has_7 : decode cX4_has 7 = .ok (.invokevirtual 31, 3) := dk_182 0 31 (dk_at dksX4_has_0 7 rfl rfl)
theorem dX4_has_10 : decode cX4_has 10 = .ok (.if_icmp .ge 32, 3) := dk_162 0 32 (dk_at dksX4_has_0 10 rfl rfl)
theorem dX4_has_13 : decode cX4_has 13 = .ok (.aload_n 0, 1) := dk_42 (dk_at dksX4_has_0 13 rfl rfl)
theorem dX4_has_14 : decode cX4_has 14 = .ok (.getfield 12, 3) := dk_180 0 12 (dk_at dksX4_has_0 14 rfl rfl)
theorem dX4_has_17 : decode cX4_has 17 = .ok (.iload_n 2, 1) := dk_28 (dk_at dksX4_has_0 17 rfl rfl)
theorem dX4_has_18 : decode cX4_has 18 = .ok (.invokevirtual 35, 3) := dk_182 0 35 (dk_at dksX4_has_0 18 rfl rfl)
theorem dX4_has_21 : decode cX4_has 21 = .ok (.checkcast 39, 3) := dk_192 0 39 (dk_at dksX4_has_0 21 rfl rfl)
theorem dX4_has_24 : decode cX4_has 24 = .ok (.getfield 41, 3) := dk_180 0 41 (dk_at dksX4_has_1 0 rfl rfl)
theorem dX4_has_27 : decode cX4_has 27 = .ok (.aload_n 1, 1) := dk_43 (dk_at dksX4_has_1 3 rfl rfl)
theorem dX4_has_28 : decode cX4_has 28 = .ok (.invokevirtual 45, 3) := dk_182 0 45 (dk_at dksX4_has_1 4 rfl rfl)
theorem dX4_has_31 : decode cX4_has 31 = .ok (.ifCond .eq 5, 3) := dk_153 0 5 (dk_at dksX4_has_1 7 rfl rfl)
theorem dX4_has_34 : decode cX4_has 34 = .ok (.iconst 1, 1) := dk_4 (dk_at dksX4_has_1 10 rfl rfl)
theorem dX4_has_35 : decode cX4_has 35 = .ok (.ireturn, 1) := dk_172 (dk_at dksX4_has_1 11 rfl rfl)
theorem dX4_has_36 : decode cX4_has 36 = .ok (.iinc 2 1, 3) := dk_132 2 1 (dk_at dksX4_has_1 12 rfl rfl)
theorem dX4_has_39 : decode cX4_has 39 = .ok (.goto (-37), 3) := dk_167 255 219 (dk_at dksX4_has_1 15 rfl rfl)
theorem dX4_has_42 : decode cX4_has 42 = .ok (.iconst 0, 1) := dk_3 (dk_at dksX4_has_1 18 rfl rfl)
theorem dX4_has_43 : decode cX4_has 43 = .ok (.ireturn, 1) := dk_172 (dk_at dksX4_has_1 19 rfl rfl)
abbrev cX4_isWhole : ByteArray := prog_17_method_3_code
def yX4_isWhole : MethodName := ⟨RX4, "isWhole", "()Z"⟩
def dkwX4_isWhole_1 : List UInt8 := [161, 0, 5, 3, 172, 132, 1, 1, 167, 255, 227, 4, 172]
abbrev dktX4_isWhole_1 : List UInt8 := dkwX4_isWhole_1 ++ []
def dkwX4_isWhole_0 : List UInt8 := [3, 60, 27, 42, 180, 0, 51, 162, 0, 27, 42, 180, 0, 28, 27, 46, 42, 180, 0, 12, 182, 0, 31]
abbrev dktX4_isWhole_0 : List UInt8 := dkwX4_isWhole_0 ++ dktX4_isWhole_1
theorem dksX4_isWhole_0 : cX4_isWhole.data.toList.drop 0 = dktX4_isWhole_0 := by decide +kernel
theorem dksX4_isWhole_1 : cX4_isWhole.data.toList.drop 23 = dktX4_isWhole_1 := dk_seg dksX4_isWhole_0 23 rfl rfl
theorem dX4_isWhole_0 : decode cX4_isWhole 0 = .ok (.iconst 0, 1) := dk_3 (dk_at dksX4_isWhole_0 0 rfl rfl)
theorem dX4_isWhole_1 : decode cX4_isWhole 1 = .ok (.istore_n 1, 1) := dk_60 (dk_at dksX4_isWhole_0 1 rfl rfl)
theorem dX4_isWhole_2 : decode cX4_isWhole 2 = .ok (.iload_n 1, 1) := dk_27 (dk_at dksX4_isWhole_0 2 rfl rfl)
theorem dX4_isWhole_3 : decode cX4_isWhole 3 = .ok (.aload_n 0, 1) := dk_42 (dk_at dksX4_isWhole_0 3 rfl rfl)
theorem dX4_isWhole_4 : decode cX4_isWhole 4 = .ok (.getfield 51, 3) := dk_180 0 51 (dk_at dksX4_isWhole_0 4 rfl rfl)
theorem dX4_isWhole_7 : decode cX4_isWhole 7 = .ok (.if_icmp .ge 27, 3) := dk_162 0 27 (dk_at dksX4_isWhole_0 7 rfl rfl)
theorem dX4_isWhole_10 : decode cX4_isWhole 10 = .ok (.aload_n 0, 1) := dk_42 (dk_at dksX4_isWhole_0 10 rfl rfl)
theorem dX4_isWhole_11 : decode cX4_isWhole 11 = .ok (.getfield 28, 3) := dk_180 0 28 (dk_at dksX4_isWhole_0 11 rfl rfl)
theorem dX4_isWhole_14 : decode cX4_isWhole 14 = .ok (.iload_n 1, 1) := dk_27 (dk_at dksX4_isWhole_0 14 rfl rfl)
theorem dX4_isWhole_15 : decode cX4_isWhole 15 = .ok (.iaload, 1) := dk_46 (dk_at dksX4_isWhole_0 15 rfl rfl)
theorem dX4_isWhole_16 : decode cX4_isWhole 16 = .ok (.aload_n 0, 1) := dk_42 (dk_at dksX4_isWhole_0 16 rfl rfl)
theorem dX4_isWhole_17 : decode cX4_isWhole 17 = .ok (.getfield 12, 3) := dk_180 0 12 (dk_at dksX4_isWhole_0 17 rfl rfl)
theorem dX4_isWhole_20 : decode cX4_isWhole 20 = .ok (.invokevirtual 31, 3) := dk_182 0 31 (dk_at dksX4_isWhole_0 20 rfl rfl)
theorem dX4_isWhole_23 : decode cX4_isWhole 23 = .ok (.if_icmp .lt 5, 3) := dk_161 0 5 (dk_at dksX4_isWhole_1 0 rfl rfl)
theorem dX4_isWhole_26 : decode cX4_isWhole 26 = .ok (.iconst 0, 1) := dk_3 (dk_at dksX4_isWhole_1 3 rfl rfl)
theorem dX4_isWhole_27 : decode cX4_isWhole 27 = .ok (.ireturn, 1) := dk_172 (dk_at dksX4_isWhole_1 4 rfl rfl)
theorem dX4_isWhole_28 : decode cX4_isWhole 28 = .ok (.iinc 1 1, 3) := dk_132 1 1 (dk_at dksX4_isWhole_1 5 rfl rfl)
theorem dX4_isWhole_31 : decode cX4_isWhole 31 = .ok (.goto (-29), 3) := dk_167 255 227 (dk_at dksX4_isWhole_1 8 rfl rfl)
theorem dX4_isWhole_34 : decode cX4_isWhole 34 = .ok (.iconst 1, 1) := dk_4 (dk_at dksX4_isWhole_1 11 rfl rfl)
theorem dX4_isWhole_35 : decode cX4_isWhole 35 = .ok (.ireturn, 1) := dk_172 (dk_at dksX4_isWhole_1 12 rfl rfl)
theorem q115 : (Jvm.Cond.initialized "PartedSide$Text") ∈ lw_all := lw_g (lw_at lw_m1 8 rfl) rfl
theorem q317 : (Jvm.Cond.instantiable "PartedSide$Text" (8 : Nat)) ∈ lw_all := lw_g (lw_at lw_m1 210 rfl) rfl
theorem q319 : (Jvm.Cond.instanceMethod ({ cls := "PartedSide$Text", name := "<init>", desc := "()V" } : Jvm.MethodName)) ∈ lw_all := lw_g (lw_at lw_m1 212 rfl) rfl
theorem q320 : (Jvm.Cond.code ({ cls := "PartedSide$Text", name := "<init>", desc := "()V" } : Jvm.MethodName) prog_17_method_1_code (1 : Nat) (Option.none : Option Jvm.ClassFile.FieldType)) ∈ lw_all := lw_g (lw_at lw_m1 213 rfl) rfl
theorem q321 : (Jvm.Cond.methodLink "PartedSide$Text" (3 : Nat) ({ cls := "java/lang/Object", name := "<init>", desc := "()V" } : Jvm.MethodName)) ∈ lw_all := lw_g (lw_at lw_m1 214 rfl) rfl
theorem q322 : (Jvm.Cond.classLink "PartedSide$Text" (9 : Nat) "java/util/ArrayList") ∈ lw_all := lw_g (lw_at lw_m1 215 rfl) rfl
theorem q324 : (Jvm.Cond.methodLink "PartedSide$Text" (11 : Nat) ({ cls := "java/util/ArrayList", name := "<init>", desc := "()V" } : Jvm.MethodName)) ∈ lw_all := lw_g (lw_at lw_m1 217 rfl) rfl
theorem q348 : (Jvm.Cond.classLink "PartedSide$Text" (18 : Nat) "PartedSide$Law") ∈ lw_all := lw_g (lw_at lw_m2 1 rfl) rfl
theorem q350 : (Jvm.Cond.fieldLink "PartedSide$Text" (12 : Nat) "PartedSide$Text" "sleepers" "Ljava/util/ArrayList;") ∈ lw_all := lw_g (lw_at lw_m2 3 rfl) rfl
theorem q353 : (Jvm.Cond.fieldLink "PartedSide$Text" (20 : Nat) "PartedSide$Text" "laws" "[LPartedSide$Law;") ∈ lw_all := lw_g (lw_at lw_m2 6 rfl) rfl
theorem q356 : (Jvm.Cond.fieldLink "PartedSide$Text" (24 : Nat) "PartedSide$Text" "cold" "[I") ∈ lw_all := lw_g (lw_at lw_m2 9 rfl) rfl
theorem q360 : (Jvm.Cond.fieldLink "PartedSide$Text" (28 : Nat) "PartedSide$Text" "coldBed" "[I") ∈ lw_all := lw_g (lw_at lw_m2 13 rfl) rfl
theorem q362 : (Jvm.Cond.fieldLink "PartedSide$Text" (51 : Nat) "PartedSide$Text" "colds" "I") ∈ lw_all := lw_g (lw_at lw_m2 15 rfl) rfl
theorem q374 : (Jvm.Cond.laysFinal "PartedSide$Text" "PartedSide$Text" "sleepers" "Ljava/util/ArrayList;") ∈ lw_all := lw_g (lw_at lw_m2 27 rfl) rfl
theorem q375 : (Jvm.Cond.soleField "PartedSide$Text" "sleepers") ∈ lw_all := lw_g (lw_at lw_m2 28 rfl) rfl
theorem q376 : (Jvm.Cond.laysFinal "PartedSide$Text" "PartedSide$Text" "laws" "[LPartedSide$Law;") ∈ lw_all := lw_g (lw_at lw_m2 29 rfl) rfl
theorem q377 : (Jvm.Cond.soleField "PartedSide$Text" "laws") ∈ lw_all := lw_g (lw_at lw_m2 30 rfl) rfl
theorem q378 : (Jvm.Cond.laysFinal "PartedSide$Text" "PartedSide$Text" "cold" "[I") ∈ lw_all := lw_g (lw_at lw_m2 31 rfl) rfl
theorem q379 : (Jvm.Cond.soleField "PartedSide$Text" "cold") ∈ lw_all := lw_g (lw_at lw_m2 32 rfl) rfl
theorem q380 : (Jvm.Cond.laysFinal "PartedSide$Text" "PartedSide$Text" "coldBed" "[I") ∈ lw_all := lw_g (lw_at lw_m2 33 rfl) rfl
theorem q381 : (Jvm.Cond.soleField "PartedSide$Text" "coldBed") ∈ lw_all := lw_g (lw_at lw_m2 34 rfl) rfl
theorem q382 : (Jvm.Cond.lays "PartedSide$Text" "PartedSide$Text" "colds" "I") ∈ lw_all := lw_g (lw_at lw_m2 35 rfl) rfl
theorem q383 : (Jvm.Cond.soleField "PartedSide$Text" "colds") ∈ lw_all := lw_g (lw_at lw_m2 36 rfl) rfl
theorem q384 : (Jvm.Cond.lays "PartedSide$Text" "PartedSide$Text" "ring" "I") ∈ lw_all := lw_g (lw_at lw_m2 37 rfl) rfl
theorem q385 : (Jvm.Cond.soleField "PartedSide$Text" "ring") ∈ lw_all := lw_g (lw_at lw_m2 38 rfl) rfl
theorem q386 : (Jvm.Cond.lays "PartedSide$Text" "PartedSide$Text" "begins" "I") ∈ lw_all := lw_g (lw_at lw_m2 39 rfl) rfl
theorem q387 : (Jvm.Cond.soleField "PartedSide$Text" "begins") ∈ lw_all := lw_g (lw_at lw_m2 40 rfl) rfl
theorem q388 : (Jvm.Cond.lays "PartedSide$Text" "PartedSide$Text" "seed" "I") ∈ lw_all := lw_g (lw_at lw_m2 41 rfl) rfl
theorem q389 : (Jvm.Cond.soleField "PartedSide$Text" "seed") ∈ lw_all := lw_g (lw_at lw_m2 42 rfl) rfl
theorem q390 : (Jvm.Cond.superclass "PartedSide$Text" "java/lang/Object") ∈ lw_all := lw_g (lw_at lw_m2 43 rfl) rfl
theorem q500 : (Jvm.Cond.instanceMethod ({ cls := "PartedSide$Text", name := "beds", desc := "()I" } : Jvm.MethodName)) ∈ lw_all := lw_g (lw_at lw_m2 153 rfl) rfl
theorem q501 : (Jvm.Cond.selects "PartedSide$Text" ({ cls := "PartedSide$Text", name := "beds", desc := "()I" } : Jvm.MethodName) ({ cls := "PartedSide$Text", name := "beds", desc := "()I" } : Jvm.MethodName)) ∈ lw_all := lw_g (lw_at lw_m2 154 rfl) rfl
theorem q502 : (Jvm.Cond.code ({ cls := "PartedSide$Text", name := "beds", desc := "()I" } : Jvm.MethodName) prog_17_method_4_code (1 : Nat) (Option.some Jvm.ClassFile.FieldType.int)) ∈ lw_all := lw_g (lw_at lw_m2 155 rfl) rfl
theorem q503 : (Jvm.Cond.methodLink "PartedSide$Text" (31 : Nat) ({ cls := "java/util/ArrayList", name := "size", desc := "()I" } : Jvm.MethodName)) ∈ lw_all := lw_g (lw_at lw_m2 156 rfl) rfl
theorem q1004 : (Jvm.Cond.instanceMethod ({ cls := "PartedSide$Text", name := "has", desc := "(Ljava/lang/String;)Z" } : Jvm.MethodName)) ∈ lw_all := lw_g (lw_at lw_m4 177 rfl) rfl
theorem q1005 : (Jvm.Cond.selects "PartedSide$Text" ({ cls := "PartedSide$Text", name := "has", desc := "(Ljava/lang/String;)Z" } : Jvm.MethodName) ({ cls := "PartedSide$Text", name := "has", desc := "(Ljava/lang/String;)Z" } : Jvm.MethodName)) ∈ lw_all := lw_g (lw_at lw_m4 178 rfl) rfl
theorem q1006 : (Jvm.Cond.code ({ cls := "PartedSide$Text", name := "has", desc := "(Ljava/lang/String;)Z" } : Jvm.MethodName) prog_17_method_2_code (3 : Nat) (Option.some Jvm.ClassFile.FieldType.boolean)) ∈ lw_all := lw_g (lw_at lw_m4 179 rfl) rfl
theorem q1007 : (Jvm.Cond.methodLink "PartedSide$Text" (35 : Nat) ({ cls := "java/util/ArrayList", name := "get", desc := "(I)Ljava/lang/Object;" } : Jvm.MethodName)) ∈ lw_all := lw_g (lw_at lw_m4 180 rfl) rfl
theorem q1008 : (Jvm.Cond.classLink "PartedSide$Text" (39 : Nat) "PartedSide$Sleeper") ∈ lw_all := lw_g (lw_at lw_m4 181 rfl) rfl
theorem q1009 : (Jvm.Cond.methodLink "PartedSide$Text" (45 : Nat) ({ cls := "java/lang/String", name := "equals", desc := "(Ljava/lang/Object;)Z" } : Jvm.MethodName)) ∈ lw_all := lw_g (lw_at lw_m4 182 rfl) rfl
theorem q1026 : (Jvm.Cond.fieldLink "PartedSide$Text" (41 : Nat) "PartedSide$Sleeper" "name" "Ljava/lang/String;") ∈ lw_all := lw_g (lw_at lw_m4 199 rfl) rfl
theorem q1078 : (Jvm.Cond.selects "PartedSide$Text" ({ cls := "java/lang/Object", name := "getClass", desc := "()Ljava/lang/Class;" } : Jvm.MethodName) ({ cls := "java/lang/Object", name := "getClass", desc := "()Ljava/lang/Class;" } : Jvm.MethodName)) ∈ lw_all := lw_g (lw_at lw_m5 11 rfl) rfl
theorem q1095 : (Jvm.Cond.instanceMethod ({ cls := "PartedSide$Text", name := "isWhole", desc := "()Z" } : Jvm.MethodName)) ∈ lw_all := lw_g (lw_at lw_m5 28 rfl) rfl
theorem q1096 : (Jvm.Cond.selects "PartedSide$Text" ({ cls := "PartedSide$Text", name := "isWhole", desc := "()Z" } : Jvm.MethodName) ({ cls := "PartedSide$Text", name := "isWhole", desc := "()Z" } : Jvm.MethodName)) ∈ lw_all := lw_g (lw_at lw_m5 29 rfl) rfl
theorem q1097 : (Jvm.Cond.code ({ cls := "PartedSide$Text", name := "isWhole", desc := "()Z" } : Jvm.MethodName) prog_17_method_3_code (2 : Nat) (Option.some Jvm.ClassFile.FieldType.boolean)) ∈ lw_all := lw_g (lw_at lw_m5 30 rfl) rfl
theorem q2093 : (Jvm.Cond.castable "PartedSide$Text" "java/lang/Object") ∈ lw_tbl := lw_at lw_m9 66 rfl
theorem in_X4 : ∀ w ∈ wsX40, w ∈ lw_all := lw_in wsX40 [374, 376, 378, 380, 382, 384, 386, 388] (by decide +kernel) (by decide +kernel)
/-! PartedSide$Barrack -/
set_option maxRecDepth 100000
def RX5 : String := "PartedSide$Barrack"
def TX5 : u_T := fun k => match k with
  | 0 => ("PartedSide$Barrack", "habit", "[I", true)
  | 1 => ("PartedSide$Barrack", "parted", "[I", true)
  | 2 => ("PartedSide$Barrack", "who", "[I", true)
  | 3 => ("PartedSide$Barrack", "turns", "[I", true)
  | 4 => ("PartedSide$Barrack", "row", "I", false)
  | 5 => ("PartedSide$Barrack", "hour", "I", false)
  | 6 => ("PartedSide$Barrack", "chilled", "I", false)
  | 7 => ("PartedSide$Barrack", "seed", "I", false)
  | 8 => ("PartedSide$Barrack", "sides", "[LPartedSide$Side;", true)
  | 9 => ("PartedSide$Barrack", "parts", "[I", true)
  | _ => ("PartedSide$Barrack", "asked", "LPartedSide$Asked;", true)
def tyX5 : Nat → FieldType := fun k => match k with
  | 0 => .array .int
  | 1 => .array .int
  | 2 => .array .int
  | 3 => .array .int
  | 4 => .int
  | 5 => .int
  | 6 => .int
  | 7 => .int
  | 8 => .array (.object "PartedSide$Side")
  | 9 => .array .int
  | _ => .object "PartedSide$Asked"
abbrev wsX50 : List Cond := u_ws RX5 TX5 11
theorem nmX5 : ∀ a, a < 11 → ∀ b, b < 11 → a ≠ b → (TX5 a).2.1 ≠ (TX5 b).2.1 := by decide +kernel
theorem tyX5_ok : ∀ k, k < 11 → parseFieldDescriptor (TX5 k).2.2.1 = some (tyX5 k) := by decide +kernel
abbrev cX5_init : ByteArray := prog_3_method_1_code
def yX5_init : MethodName := ⟨RX5, "<init>", "()V"⟩
def dkwX5_init_3 : List UInt8 := [181, 0, 36, 42, 187, 0, 39, 89, 183, 0, 41, 181, 0, 42, 177]
abbrev dktX5_init_3 : List UInt8 := dkwX5_init_3 ++ []
def dkwX5_init_2 : List UInt8 := [183, 0, 28, 83, 89, 4, 187, 0, 29, 89, 183, 0, 31, 83, 181, 0, 32, 42, 16, 9, 188, 10]
abbrev dktX5_init_2 : List UInt8 := dkwX5_init_2 ++ dktX5_init_3
def dkwX5_init_1 : List UInt8 := [188, 10, 181, 0, 18, 42, 16, 9, 188, 10, 181, 0, 21, 42, 5, 189, 0, 24, 89, 3, 187, 0, 26, 89]
abbrev dktX5_init_1 : List UInt8 := dkwX5_init_1 ++ dktX5_init_2
def dkwX5_init_0 : List UInt8 := [42, 183, 0, 3, 42, 16, 9, 188, 10, 181, 0, 9, 42, 16, 9, 188, 10, 181, 0, 15, 42, 16, 9]
abbrev dktX5_init_0 : List UInt8 := dkwX5_init_0 ++ dktX5_init_1
theorem dksX5_init_0 : cX5_init.data.toList.drop 0 = dktX5_init_0 := by decide +kernel
theorem dksX5_init_1 : cX5_init.data.toList.drop 23 = dktX5_init_1 := dk_seg dksX5_init_0 23 rfl rfl
theorem dksX5_init_2 : cX5_init.data.toList.drop 47 = dktX5_init_2 := dk_seg dksX5_init_1 24 rfl rfl
theorem dksX5_init_3 : cX5_init.data.toList.drop 69 = dktX5_init_3 := dk_seg dksX5_init_2 22 rfl rfl
theorem dX5_init_0 : decode cX5_init 0 = .ok (.aload_n 0, 1) := dk_42 (dk_at dksX5_init_0 0 rfl rfl)
theorem dX5_init_1 : decode cX5_init 1 = .ok (.invokespecial 3, 3) := dk_183 0 3 (dk_at dksX5_init_0 1 rfl rfl)
theorem dX5_init_4 : decode cX5_init 4 = .ok (.aload_n 0, 1) := dk_42 (dk_at dksX5_init_0 4 rfl rfl)
theorem dX5_init_5 : decode cX5_init 5 = .ok (.bipush 9, 2) := dk_16 9 (dk_at dksX5_init_0 5 rfl rfl)
theorem dX5_init_7 : decode cX5_init 7 = .ok (.newarray .int, 2) := dk_188_10 (dk_at dksX5_init_0 7 rfl rfl)
theorem dX5_init_9 : decode cX5_init 9 = .ok (.putfield 9, 3) := dk_181 0 9 (dk_at dksX5_init_0 9 rfl rfl)
theorem dX5_init_12 : decode cX5_init 12 = .ok (.aload_n 0, 1) := dk_42 (dk_at dksX5_init_0 12 rfl rfl)
theorem dX5_init_13 : decode cX5_init 13 = .ok (.bipush 9, 2) := dk_16 9 (dk_at dksX5_init_0 13 rfl rfl)
theorem dX5_init_15 : decode cX5_init 15 = .ok (.newarray .int, 2) := dk_188_10 (dk_at dksX5_init_0 15 rfl rfl)
theorem dX5_init_17 : decode cX5_init 17 = .ok (.putfield 15, 3) := dk_181 0 15 (dk_at dksX5_init_0 17 rfl rfl)
theorem dX5_init_20 : decode cX5_init 20 = .ok (.aload_n 0, 1) := dk_42 (dk_at dksX5_init_0 20 rfl rfl)
theorem dX5_init_21 : decode cX5_init 21 = .ok (.bipush 9, 2) := dk_16 9 (dk_at dksX5_init_0 21 rfl rfl)
theorem dX5_init_23 : decode cX5_init 23 = .ok (.newarray .int, 2) := dk_188_10 (dk_at dksX5_init_1 0 rfl rfl)
theorem dX5_init_25 : decode cX5_init 25 = .ok (.putfield 18, 3) := dk_181 0 18 (dk_at dksX5_init_1 2 rfl rfl)
theorem dX5_init_28 : decode cX5_init 28 = .ok (.aload_n 0, 1) := dk_42 (dk_at dksX5_init_1 5 rfl rfl)
theorem dX5_init_29 : decode cX5_init 29 = .ok (.bipush 9, 2) := dk_16 9 (dk_at dksX5_init_1 6 rfl rfl)
theorem dX5_init_31 : decode cX5_init 31 = .ok (.newarray .int, 2) := dk_188_10 (dk_at dksX5_init_1 8 rfl rfl)
theorem dX5_init_33 : decode cX5_init 33 = .ok (.putfield 21, 3) := dk_181 0 21 (dk_at dksX5_init_1 10 rfl rfl)
theorem dX5_init_36 : decode cX5_init 36 = .ok (.aload_n 0, 1) := dk_42 (dk_at dksX5_init_1 13 rfl rfl)
theorem dX5_init_37 : decode cX5_init 37 = .ok (.iconst 2, 1) := dk_5 (dk_at dksX5_init_1 14 rfl rfl)
theorem dX5_init_38 : decode cX5_init 38 = .ok (.anewarray 24, 3) := dk_189 0 24 (dk_at dksX5_init_1 15 rfl rfl)
theorem dX5_init_41 : decode cX5_init 41 = .ok (.dup, 1) := dk_89 (dk_at dksX5_init_1 18 rfl rfl)
theorem dX5_init_42 : decode cX5_init 42 = .ok (.iconst 0, 1) := dk_3 (dk_at dksX5_init_1 19 rfl rfl)
theorem dX5_init_43 : decode cX5_init 43 = .ok (.new 26, 3) := dk_187 0 26 (dk_at dksX5_init_1 20 rfl rfl)
theorem dX5_init_46 : decode cX5_init 46 = .ok (.dup, 1) := dk_89 (dk_at dksX5_init_1 23 rfl rfl)
theorem dX5_init_47 : decode cX5_init 47 = .ok (.invokespecial 28, 3) := dk_183 0 28 (dk_at dksX5_init_2 0 rfl rfl)
theorem dX5_init_50 : decode cX5_init 50 = .ok (.aastore, 1) := dk_83 (dk_at dksX5_init_2 3 rfl rfl)
theorem dX5_init_51 : decode cX5_init 51 = .ok (.dup, 1) := dk_89 (dk_at dksX5_init_2 4 rfl rfl)
theorem dX5_init_52 : decode cX5_init 52 = .ok (.iconst 1, 1) := dk_4 (dk_at dksX5_init_2 5 rfl rfl)
theorem dX5_init_53 : decode cX5_init 53 = .ok (.new 29, 3) := dk_187 0 29 (dk_at dksX5_init_2 6 rfl rfl)
theorem dX5_init_56 : decode cX5_init 56 = .ok (.dup, 1) := dk_89 (dk_at dksX5_init_2 9 rfl rfl)
theorem dX5_init_57 : decode cX5_init 57 = .ok (.invokespecial 31, 3) := dk_183 0 31 (dk_at dksX5_init_2 10 rfl rfl)
theorem dX5_init_60 : decode cX5_init 60 = .ok (.aastore, 1) := dk_83 (dk_at dksX5_init_2 13 rfl rfl)
theorem dX5_init_61 : decode cX5_init 61 = .ok (.putfield 32, 3) := dk_181 0 32 (dk_at dksX5_init_2 14 rfl rfl)
theorem dX5_init_64 : decode cX5_init 64 = .ok (.aload_n 0, 1) := dk_42 (dk_at dksX5_init_2 17 rfl rfl)
theorem dX5_init_65 : decode cX5_init 65 = .ok (.bipush 9, 2) := dk_16 9 (dk_at dksX5_init_2 18 rfl rfl)
theorem dX5_init_67 : decode cX5_init 67 = .ok (.newarray .int, 2) := dk_188_10 (dk_at dksX5_init_2 20 rfl rfl)
theorem dX5_init_69 : decode cX5_init 69 = .ok (.putfield 36, 3) := dk_181 0 36 (dk_at dksX5_init_3 0 rfl rfl)
theorem dX5_init_72 : decode cX5_init 72 = .ok (.aload_n 0, 1) := dk_42 (dk_at dksX5_init_3 3 rfl rfl)
theorem dX5_init_73 : decode cX5_init 73 = .ok (.new 39, 3) := dk_187 0 39 (dk_at dksX5_init_3 4 rfl rfl)
theorem dX5_init_76 : decode cX5_init 76 = .ok (.dup, 1) := dk_89 (dk_at dksX5_init_3 7 rfl rfl)
theorem dX5_init_77 : decode cX5_init 77 = .ok (.invokespecial 41, 3) := dk_183 0 41 (dk_at dksX5_init_3 8 rfl rfl)
theorem dX5_init_80 : decode cX5_init 80 = .ok (.putfield 42, 3) := dk_181 0 42 (dk_at dksX5_init_3 11 rfl rfl)
theorem dX5_init_83 : decode cX5_init 83 = .ok (.return_, 1) := dk_177 (dk_at dksX5_init_3 14 rfl rfl)
abbrev cX5_begins : ByteArray := prog_3_method_2_code
def yX5_begins : MethodName := ⟨RX5, "begins", "(LPartedSide$Text;)V"⟩
def dkwX5_begins_5 : List UInt8 := [181, 0, 76, 42, 3, 181, 0, 79, 42, 43, 180, 0, 82, 181, 0, 85, 177]
abbrev dktX5_begins_5 : List UInt8 := dkwX5_begins_5 ++ []
def dkwX5_begins_4 : List UInt8 := [180, 0, 70, 28, 120, 167, 0, 4, 3, 128, 181, 0, 46, 132, 2, 1, 167, 255, 157, 42, 43, 180, 0, 73]
abbrev dktX5_begins_4 : List UInt8 := dkwX5_begins_4 ++ dktX5_begins_5
def dkwX5_begins_3 : List UInt8 := [180, 0, 46, 28, 43, 182, 0, 50, 162, 0, 22, 43, 180, 0, 56, 28, 182, 0, 60, 192, 0, 66]
abbrev dktX5_begins_3 : List UInt8 := dkwX5_begins_3 ++ dktX5_begins_4
def dkwX5_begins_2 : List UInt8 := [180, 0, 15, 28, 3, 79, 42, 180, 0, 18, 28, 28, 79, 42, 180, 0, 21, 28, 3, 79, 42, 89]
abbrev dktX5_begins_2 : List UInt8 := dkwX5_begins_2 ++ dktX5_begins_3
def dkwX5_begins_1 : List UInt8 := [162, 0, 20, 43, 180, 0, 56, 28, 182, 0, 60, 192, 0, 66, 180, 0, 68, 167, 0, 4, 3, 79, 42]
abbrev dktX5_begins_1 : List UInt8 := dkwX5_begins_1 ++ dktX5_begins_2
def dkwX5_begins_0 : List UInt8 := [42, 3, 181, 0, 46, 3, 61, 28, 16, 9, 162, 0, 99, 42, 180, 0, 9, 28, 28, 43, 182, 0, 50]
abbrev dktX5_begins_0 : List UInt8 := dkwX5_begins_0 ++ dktX5_begins_1
theorem dksX5_begins_0 : cX5_begins.data.toList.drop 0 = dktX5_begins_0 := by decide +kernel
theorem dksX5_begins_1 : cX5_begins.data.toList.drop 23 = dktX5_begins_1 := dk_seg dksX5_begins_0 23 rfl rfl
theorem dksX5_begins_2 : cX5_begins.data.toList.drop 46 = dktX5_begins_2 := dk_seg dksX5_begins_1 23 rfl rfl
theorem dksX5_begins_3 : cX5_begins.data.toList.drop 68 = dktX5_begins_3 := dk_seg dksX5_begins_2 22 rfl rfl
theorem dksX5_begins_4 : cX5_begins.data.toList.drop 90 = dktX5_begins_4 := dk_seg dksX5_begins_3 22 rfl rfl
theorem dksX5_begins_5 : cX5_begins.data.toList.drop 114 = dktX5_begins_5 := dk_seg dksX5_begins_4 24 rfl rfl
theorem dX5_begins_0 : decode cX5_begins 0 = .ok (.aload_n 0, 1) := dk_42 (dk_at dksX5_begins_0 0 rfl rfl)
theorem dX5_begins_1 : decode cX5_begins 1 = .ok (.iconst 0, 1) := dk_3 (dk_at dksX5_begins_0 1 rfl rfl)
theorem dX5_begins_2 : decode cX5_begins 2 = .ok (.putfield 46, 3) := dk_181 0 46 (dk_at dksX5_begins_0 2 rfl rfl)
theorem dX5_begins_5 : decode cX5_begins 5 = .ok (.iconst 0, 1) := dk_3 (dk_at dksX5_begins_0 5 rfl rfl)
theorem dX5_begins_6 : decode cX5_begins 6 = .ok (.istore_n 2, 1) := dk_61 (dk_at dksX5_begins_0 6 rfl rfl)
theorem dX5_begins_7 : decode cX5_begins 7 = .ok (.iload_n 2, 1) := dk_28 (dk_at dksX5_begins_0 7 rfl rfl)
theorem dX5_begins_8 : decode cX5_begins 8 = .ok (.bipush 9, 2) := dk_16 9 (dk_at dksX5_begins_0 8 rfl rfl)
theorem dX5_begins_10 : decode cX5_begins 10 = .ok (.if_icmp .ge 99, 3) := dk_162 0 99 (dk_at dksX5_begins_0 10 rfl rfl)
theorem dX5_begins_13 : decode cX5_begins 13 = .ok (.aload_n 0, 1) := dk_42 (dk_at dksX5_begins_0 13 rfl rfl)
theorem dX5_begins_14 : decode cX5_begins 14 = .ok (.getfield 9, 3) := dk_180 0 9 (dk_at dksX5_begins_0 14 rfl rfl)
theorem dX5_begins_17 : decode cX5_begins 17 = .ok (.iload_n 2, 1) := dk_28 (dk_at dksX5_begins_0 17 rfl rfl)
theorem dX5_begins_18 : decode cX5_begins 18 = .ok (.iload_n 2, 1) := dk_28 (dk_at dksX5_begins_0 18 rfl rfl)
theorem dX5_begins_19 : decode cX5_begins 19 = .ok (.aload_n 1, 1) := dk_43 (dk_at dksX5_begins_0 19 rfl rfl)
theorem dX5_begins_20 : decode cX5_begins 20 = .ok (.invokevirtual 50, 3) := dk_182 0 50 (dk_at dksX5_begins_0 20 rfl rfl)
theorem dX5_begins_23 : decode cX5_begins 23 = .ok (.if_icmp .ge 20, 3) := dk_162 0 20 (dk_at dksX5_begins_1 0 rfl rfl)
theorem dX5_begins_26 : decode cX5_begins 26 = .ok (.aload_n 1, 1) := dk_43 (dk_at dksX5_begins_1 3 rfl rfl)
theorem dX5_begins_27 : decode cX5_begins 27 = .ok (.getfield 56, 3) := dk_180 0 56 (dk_at dksX5_begins_1 4 rfl rfl)
theorem dX5_begins_30 : decode cX5_begins 30 = .ok (.iload_n 2, 1) := dk_28 (dk_at dksX5_begins_1 7 rfl rfl)
theorem dX5_begins_31 : decode cX5_begins 31 = .ok (.invokevirtual 60, 3) := dk_182 0 60 (dk_at dksX5_begins_1 8 rfl rfl)
theorem dX5_begins_34 : decode cX5_begins 34 = .ok (.checkcast 66, 3) := dk_192 0 66 (dk_at dksX5_begins_1 11 rfl rfl)
theorem dX5_begins_37 : decode cX5_begins 37 = .ok (.getfield 68, 3) := dk_180 0 68 (dk_at dksX5_begins_1 14 rfl rfl)
theorem dX5_begins_40 : decode cX5_begins 40 = .ok (.goto 4, 3) := dk_167 0 4 (dk_at dksX5_begins_1 17 rfl rfl)
theorem dX5_begins_43 : decode cX5_begins 43 = .ok (.iconst 0, 1) := dk_3 (dk_at dksX5_begins_1 20 rfl rfl)
theorem dX5_begins_44 : decode cX5_begins 44 = .ok (.iastore, 1) := dk_79 (dk_at dksX5_begins_1 21 rfl rfl)
theorem dX5_begins_45 : decode cX5_begins 45 = .ok (.aload_n 0, 1) := dk_42 (dk_at dksX5_begins_1 22 rfl rfl)
theorem dX5_begins_46 : decode cX5_begins 46 = .ok (.getfield 15, 3) := dk_180 0 15 (dk_at dksX5_begins_2 0 rfl rfl)
theorem dX5_begins_49 : decode cX5_begins 49 = .ok (.iload_n 2, 1) := dk_28 (dk_at dksX5_begins_2 3 rfl rfl)
theorem dX5_begins_50 : decode cX5_begins 50 = .ok (.iconst 0, 1) := dk_3 (dk_at dksX5_begins_2 4 rfl rfl)
theorem dX5_begins_51 : decode cX5_begins 51 = .ok (.iastore, 1) := dk_79 (dk_at dksX5_begins_2 5 rfl rfl)
theorem dX5_begins_52 : decode cX5_begins 52 = .ok (.aload_n 0, 1) := dk_42 (dk_at dksX5_begins_2 6 rfl rfl)
theorem dX5_begins_53 : decode cX5_begins 53 = .ok (.getfield 18, 3) := dk_180 0 18 (dk_at dksX5_begins_2 7 rfl rfl)
theorem dX5_begins_56 : decode cX5_begins 56 = .ok (.iload_n 2, 1) := dk_28 (dk_at dksX5_begins_2 10 rfl rfl)
theorem dX5_begins_57 : decode cX5_begins 57 = .ok (.iload_n 2, 1) := dk_28 (dk_at dksX5_begins_2 11 rfl rfl)
theorem dX5_begins_58 : decode cX5_begins 58 = .ok (.iastore, 1) := dk_79 (dk_at dksX5_begins_2 12 rfl rfl)
theorem dX5_begins_59 : decode cX5_begins 59 = .ok (.aload_n 0, 1) := dk_42 (dk_at dksX5_begins_2 13 rfl rfl)
theorem dX5_begins_60 : decode cX5_begins 60 = .ok (.getfield 21, 3) := dk_180 0 21 (dk_at dksX5_begins_2 14 rfl rfl)
theorem dX5_begins_63 : decode cX5_begins 63 = .ok (.iload_n 2, 1) := dk_28 (dk_at dksX5_begins_2 17 rfl rfl)
theorem dX5_begins_64 : decode cX5_begins 64 = .ok (.iconst 0, 1) := dk_3 (dk_at dksX5_begins_2 18 rfl rfl)
theorem dX5_begins_65 : decode cX5_begins 65 = .ok (.iastore, 1) := dk_79 (dk_at dksX5_begins_2 19 rfl rfl)
theorem dX5_begins_66 : decode cX5_begins 66 = .ok (.aload_n 0, 1) := dk_42 (dk_at dksX5_begins_2 20 rfl rfl)
theorem dX5_begins_67 : decode cX5_begins 67 = .ok (.dup, 1) := dk_89 (dk_at dksX5_begins_2 21 rfl rfl)
theorem dX5_begins_68 : decode cX5_begins 68 = .ok (.getfield 46, 3) := dk_180 0 46 (dk_at dksX5_begins_3 0 rfl rfl)
theorem dX5_begins_71 : decode cX5_begins 71 = .ok (.iload_n 2, 1) := dk_28 (dk_at dksX5_begins_3 3 rfl rfl)
theorem dX5_begins_72 : decode cX5_begins 72 = .ok (.aload_n 1, 1) := dk_43 (dk_at dksX5_begins_3 4 rfl rfl)
theorem dX5_begins_73 : decode cX5_begins 73 = .ok (.invokevirtual 50, 3) := dk_182 0 50 (dk_at dksX5_begins_3 5 rfl rfl)
theorem dX5_begins_76 : decode cX5_begins 76 = .ok (.if_icmp .ge 22, 3) := dk_162 0 22 (dk_at dksX5_begins_3 8 rfl rfl)
theorem dX5_begins_79 : decode cX5_begins 79 = .ok (.aload_n 1, 1) := dk_43 (dk_at dksX5_begins_3 11 rfl rfl)
theorem dX5_begins_80 : decode cX5_begins 80 = .ok (.getfield 56, 3) := dk_180 0 56 (dk_at dksX5_begins_3 12 rfl rfl)
theorem dX5_begins_83 : decode cX5_begins 83 = .ok (.iload_n 2, 1) := dk_28 (dk_at dksX5_begins_3 15 rfl rfl)
theorem dX5_begins_84 : decode cX5_begins 84 = .ok (.invokevirtual 60, 3) := dk_182 0 60 (dk_at dksX5_begins_3 16 rfl rfl)
theorem dX5_begins_87 : decode cX5_begins 87 = .ok (.checkcast 66, 3) := dk_192 0 66 (dk_at dksX5_begins_3 19 rfl rfl)
theorem dX5_begins_90 : decode cX5_begins 90 = .ok (.getfield 70, 3) := dk_180 0 70 (dk_at dksX5_begins_4 0 rfl rfl)
theorem dX5_begins_93 : decode cX5_begins 93 = .ok (.iload_n 2, 1) := dk_28 (dk_at dksX5_begins_4 3 rfl rfl)
theorem dX5_begins_94 : decode cX5_begins 94 = .ok (.ishl, 1) := dk_120 (dk_at dksX5_begins_4 4 rfl rfl)
theorem dX5_begins_95 : decode cX5_begins 95 = .ok (.goto 4, 3) := dk_167 0 4 (dk_at dksX5_begins_4 5 rfl rfl)
theorem dX5_begins_98 : decode cX5_begins 98 = .ok (.iconst 0, 1) := dk_3 (dk_at dksX5_begins_4 8 rfl rfl)
theorem dX5_begins_99 : decode cX5_begins 99 = .ok (.ior, 1) := dk_128 (dk_at dksX5_begins_4 9 rfl rfl)
theorem dX5_begins_100 : decode cX5_begins 100 = .ok (.putfield 46, 3) := dk_181 0 46 (dk_at dksX5_begins_4 10 rfl rfl)
theorem dX5_begins_103 : decode cX5_begins 103 = .ok (.iinc 2 1, 3) := dk_132 2 1 (dk_at dksX5_begins_4 13 rfl rfl)
theorem dX5_begins_106 : decode cX5_begins 106 = .ok (.goto (-99), 3) := dk_167 255 157 (dk_at dksX5_begins_4 16 rfl rfl)
theorem dX5_begins_109 : decode cX5_begins 109 = .ok (.aload_n 0, 1) := dk_42 (dk_at dksX5_begins_4 19 rfl rfl)
theorem dX5_begins_110 : decode cX5_begins 110 = .ok (.aload_n 1, 1) := dk_43 (dk_at dksX5_begins_4 20 rfl rfl)
theorem dX5_begins_111 : decode cX5_begins 111 = .ok (.getfield 73, 3) := dk_180 0 73 (dk_at dksX5_begins_4 21 rfl rfl)
theorem dX5_begins_114 : decode cX5_begins 114 = .ok (.putfield 76, 3) := dk_181 0 76 (dk_at dksX5_begins_5 0 rfl rfl)
theorem dX5_begins_117 : decode cX5_begins 117 = .ok (.aload_n 0, 1) := dk_42 (dk_at dksX5_begins_5 3 rfl rfl)
theorem dX5_begins_118 : decode cX5_begins 118 = .ok (.iconst 0, 1) := dk_3 (dk_at dksX5_begins_5 4 rfl rfl)
theorem dX5_begins_119 : decode cX5_begins 119 = .ok (.putfield 79, 3) := dk_181 0 79 (dk_at dksX5_begins_5 5 rfl rfl)
theorem dX5_begins_122 : decode cX5_begins 122 = .ok (.aload_n 0, 1) := dk_42 (dk_at dksX5_begins_5 8 rfl rfl)
theorem dX5_begins_123 : decode cX5_begins 123 = .ok (.aload_n 1, 1) := dk_43 (dk_at dksX5_begins_5 9 rfl rfl)
theorem dX5_begins_124 : decode cX5_begins 124 = .ok (.getfield 82, 3) := dk_180 0 82 (dk_at dksX5_begins_5 10 rfl rfl)
theorem dX5_begins_127 : decode cX5_begins 127 = .ok (.putfield 85, 3) := dk_181 0 85 (dk_at dksX5_begins_5 13 rfl rfl)
theorem dX5_begins_130 : decode cX5_begins 130 = .ok (.return_, 1) := dk_177 (dk_at dksX5_begins_5 16 rfl rfl)
abbrev cX5_isLeft : ByteArray := prog_3_method_5_code
def yX5_isLeft : MethodName := ⟨RX5, "isLeft", "(I)Z"⟩
def dkwX5_isLeft_0 : List UInt8 := [42, 180, 0, 46, 27, 122, 4, 126, 4, 160, 0, 7, 4, 167, 0, 4, 3, 172]
abbrev dktX5_isLeft_0 : List UInt8 := dkwX5_isLeft_0 ++ []
theorem dksX5_isLeft_0 : cX5_isLeft.data.toList.drop 0 = dktX5_isLeft_0 := by decide +kernel
theorem dX5_isLeft_0 : decode cX5_isLeft 0 = .ok (.aload_n 0, 1) := dk_42 (dk_at dksX5_isLeft_0 0 rfl rfl)
theorem dX5_isLeft_1 : decode cX5_isLeft 1 = .ok (.getfield 46, 3) := dk_180 0 46 (dk_at dksX5_isLeft_0 1 rfl rfl)
theorem dX5_isLeft_4 : decode cX5_isLeft 4 = .ok (.iload_n 1, 1) := dk_27 (dk_at dksX5_isLeft_0 4 rfl rfl)
theorem dX5_isLeft_5 : decode cX5_isLeft 5 = .ok (.ishr, 1) := dk_122 (dk_at dksX5_isLeft_0 5 rfl rfl)
theorem dX5_isLeft_6 : decode cX5_isLeft 6 = .ok (.iconst 1, 1) := dk_4 (dk_at dksX5_isLeft_0 6 rfl rfl)
theorem dX5_isLeft_7 : decode cX5_isLeft 7 = .ok (.iand, 1) := dk_126 (dk_at dksX5_isLeft_0 7 rfl rfl)
theorem dX5_isLeft_8 : decode cX5_isLeft 8 = .ok (.iconst 1, 1) := dk_4 (dk_at dksX5_isLeft_0 8 rfl rfl)
theorem dX5_isLeft_9 : decode cX5_isLeft 9 = .ok (.if_icmp .ne 7, 3) := dk_160 0 7 (dk_at dksX5_isLeft_0 9 rfl rfl)
theorem dX5_isLeft_12 : decode cX5_isLeft 12 = .ok (.iconst 1, 1) := dk_4 (dk_at dksX5_isLeft_0 12 rfl rfl)
theorem dX5_isLeft_13 : decode cX5_isLeft 13 = .ok (.goto 4, 3) := dk_167 0 4 (dk_at dksX5_isLeft_0 13 rfl rfl)
theorem dX5_isLeft_16 : decode cX5_isLeft 16 = .ok (.iconst 0, 1) := dk_3 (dk_at dksX5_isLeft_0 16 rfl rfl)
theorem dX5_isLeft_17 : decode cX5_isLeft 17 = .ok (.ireturn, 1) := dk_172 (dk_at dksX5_isLeft_0 17 rfl rfl)
abbrev cX5_liesLeft : ByteArray := prog_3_method_10_code
def yX5_liesLeft : MethodName := ⟨RX5, "liesLeft", "(LPartedSide$Text;I)Z"⟩
def dkwX5_liesLeft_1 : List UInt8 := [43, 28, 182, 0, 114, 182, 0, 118, 158, 0, 7, 4, 167, 0, 4, 3, 172]
abbrev dktX5_liesLeft_1 : List UInt8 := dkwX5_liesLeft_1 ++ []
def dkwX5_liesLeft_0 : List UInt8 := [43, 180, 0, 110, 3, 50, 199, 0, 11, 42, 28, 182, 0, 123, 167, 0, 26, 43, 180, 0, 110, 3, 50, 42]
abbrev dktX5_liesLeft_0 : List UInt8 := dkwX5_liesLeft_0 ++ dktX5_liesLeft_1
theorem dksX5_liesLeft_0 : cX5_liesLeft.data.toList.drop 0 = dktX5_liesLeft_0 := by decide +kernel
theorem dksX5_liesLeft_1 : cX5_liesLeft.data.toList.drop 24 = dktX5_liesLeft_1 := dk_seg dksX5_liesLeft_0 24 rfl rfl
theorem dX5_liesLeft_0 : decode cX5_liesLeft 0 = .ok (.aload_n 1, 1) := dk_43 (dk_at dksX5_liesLeft_0 0 rfl rfl)
theorem dX5_liesLeft_1 : decode cX5_liesLeft 1 = .ok (.getfield 110, 3) := dk_180 0 110 (dk_at dksX5_liesLeft_0 1 rfl rfl)
theorem dX5_liesLeft_4 : decode cX5_liesLeft 4 = .ok (.iconst 0, 1) := dk_3 (dk_at dksX5_liesLeft_0 4 rfl rfl)
theorem dX5_liesLeft_5 : decode cX5_liesLeft 5 = .ok (.aaload, 1) := dk_50 (dk_at dksX5_liesLeft_0 5 rfl rfl)
theorem dX5_liesLeft_6 : decode cX5_liesLeft 6 = .ok (.ifnonnull 11, 3) := dk_199 0 11 (dk_at dksX5_liesLeft_0 6 rfl rfl)
theorem dX5_liesLeft_9 : decode cX5_liesLeft 9 = .ok (.aload_n 0, 1) := dk_42 (dk_at dksX5_liesLeft_0 9 rfl rfl)
theorem dX5_liesLeft_10 : decode cX5_liesLeft 10 = .ok (.iload_n 2, 1) := dk_28 (dk_at dksX5_liesLeft_0 10 rfl rfl)
theorem dX5_liesLeft_11 : decode cX5_liesLeft 11 = .ok (.invokevirtual 123, 3) := dk_182 0 123 (dk_at dksX5_liesLeft_0 11 rfl rfl)
theorem dX5_liesLeft_14 : decode cX5_liesLeft 14 = .ok (.goto 26, 3) := dk_167 0 26 (dk_at dksX5_liesLeft_0 14 rfl rfl)
theorem dX5_liesLeft_17 : decode cX5_liesLeft 17 = .ok (.aload_n 1, 1) := dk_43 (dk_at dksX5_liesLeft_0 17 rfl rfl)
theorem dX5_liesLeft_18 : decode cX5_liesLeft 18 = .ok (.getfield 110, 3) := dk_180 0 110 (dk_at dksX5_liesLeft_0 18 rfl rfl)
theorem dX5_liesLeft_21 : decode cX5_liesLeft 21 = .ok (.iconst 0, 1) := dk_3 (dk_at dksX5_liesLeft_0 21 rfl rfl)
theorem dX5_liesLeft_22 : decode cX5_liesLeft 22 = .ok (.aaload, 1) := dk_50 (dk_at dksX5_liesLeft_0 22 rfl rfl)
theorem dX5_liesLeft_23 : decode cX5_liesLeft 23 = .ok (.aload_n 0, 1) := dk_42 (dk_at dksX5_liesLeft_0 23 rfl rfl)
theorem dX5_liesLeft_24 : decode cX5_liesLeft 24 = .ok (.aload_n 1, 1) := dk_43 (dk_at dksX5_liesLeft_1 0 rfl rfl)
theorem dX5_liesLeft_25 : decode cX5_liesLeft 25 = .ok (.iload_n 2, 1) := dk_28 (dk_at dksX5_liesLeft_1 1 rfl rfl)
theorem dX5_liesLeft_26 : decode cX5_liesLeft 26 = .ok (.invokevirtual 114, 3) := dk_182 0 114 (dk_at dksX5_liesLeft_1 2 rfl rfl)
theorem dX5_liesLeft_29 : decode cX5_liesLeft 29 = .ok (.invokevirtual 118, 3) := dk_182 0 118 (dk_at dksX5_liesLeft_1 5 rfl rfl)
theorem dX5_liesLeft_32 : decode cX5_liesLeft 32 = .ok (.ifCond .le 7, 3) := dk_158 0 7 (dk_at dksX5_liesLeft_1 8 rfl rfl)
theorem dX5_liesLeft_35 : decode cX5_liesLeft 35 = .ok (.iconst 1, 1) := dk_4 (dk_at dksX5_liesLeft_1 11 rfl rfl)
theorem dX5_liesLeft_36 : decode cX5_liesLeft 36 = .ok (.goto 4, 3) := dk_167 0 4 (dk_at dksX5_liesLeft_1 12 rfl rfl)
theorem dX5_liesLeft_39 : decode cX5_liesLeft 39 = .ok (.iconst 0, 1) := dk_3 (dk_at dksX5_liesLeft_1 15 rfl rfl)
theorem dX5_liesLeft_40 : decode cX5_liesLeft 40 = .ok (.ireturn, 1) := dk_172 (dk_at dksX5_liesLeft_1 16 rfl rfl)
abbrev cX5_asks : ByteArray := prog_3_method_7_code
def yX5_asks : MethodName := ⟨RX5, "asks", "(LPartedSide$Text;I)LPartedSide$Asked;"⟩
def dkwX5_asks_6 : List UInt8 := [16, 8, 42, 180, 0, 15, 28, 46, 79, 42, 180, 0, 42, 176]
abbrev dktX5_asks_6 : List UInt8 := dkwX5_asks_6 ++ []
def dkwX5_asks_5 : List UInt8 := [28, 79, 42, 180, 0, 42, 180, 0, 96, 16, 7, 43, 182, 0, 50, 79, 42, 180, 0, 42, 180, 0, 96]
abbrev dktX5_asks_5 : List UInt8 := dkwX5_asks_5 ++ dktX5_asks_6
def dkwX5_asks_4 : List UInt8 := [180, 0, 42, 180, 0, 96, 8, 42, 180, 0, 76, 16, 24, 112, 79, 42, 180, 0, 42, 180, 0, 96, 16, 6]
abbrev dktX5_asks_4 : List UInt8 := dkwX5_asks_4 ++ dktX5_asks_5
def dkwX5_asks_3 : List UInt8 := [6, 42, 180, 0, 9, 28, 46, 79, 42, 180, 0, 42, 180, 0, 96, 7, 43, 180, 0, 107, 28, 46, 79, 42]
abbrev dktX5_asks_3 : List UInt8 := dkwX5_asks_3 ++ dktX5_asks_4
def dkwX5_asks_2 : List UInt8 := [5, 42, 42, 180, 0, 32, 4, 50, 43, 28, 182, 0, 99, 182, 0, 103, 79, 42, 180, 0, 42, 180, 0, 96]
abbrev dktX5_asks_2 : List UInt8 := dkwX5_asks_2 ++ dktX5_asks_3
def dkwX5_asks_1 : List UInt8 := [4, 42, 42, 180, 0, 32, 3, 50, 43, 28, 182, 0, 99, 182, 0, 103, 79, 42, 180, 0, 42, 180, 0, 96]
abbrev dktX5_asks_1 : List UInt8 := dkwX5_asks_1 ++ dktX5_asks_2
def dkwX5_asks_0 : List UInt8 := [42, 180, 0, 42, 180, 0, 96, 3, 42, 180, 0, 46, 28, 122, 4, 126, 79, 42, 180, 0, 42, 180, 0, 96]
abbrev dktX5_asks_0 : List UInt8 := dkwX5_asks_0 ++ dktX5_asks_1
theorem dksX5_asks_0 : cX5_asks.data.toList.drop 0 = dktX5_asks_0 := by decide +kernel
theorem dksX5_asks_1 : cX5_asks.data.toList.drop 24 = dktX5_asks_1 := dk_seg dksX5_asks_0 24 rfl rfl
theorem dksX5_asks_2 : cX5_asks.data.toList.drop 48 = dktX5_asks_2 := dk_seg dksX5_asks_1 24 rfl rfl
theorem dksX5_asks_3 : cX5_asks.data.toList.drop 72 = dktX5_asks_3 := dk_seg dksX5_asks_2 24 rfl rfl
theorem dksX5_asks_4 : cX5_asks.data.toList.drop 96 = dktX5_asks_4 := dk_seg dksX5_asks_3 24 rfl rfl
theorem dksX5_asks_5 : cX5_asks.data.toList.drop 120 = dktX5_asks_5 := dk_seg dksX5_asks_4 24 rfl rfl
theorem dksX5_asks_6 : cX5_asks.data.toList.drop 143 = dktX5_asks_6 := dk_seg dksX5_asks_5 23 rfl rfl
theorem dX5_asks_0 : decode cX5_asks 0 = .ok (.aload_n 0, 1) := dk_42 (dk_at dksX5_asks_0 0 rfl rfl)
theorem dX5_asks_1 : decode cX5_asks 1 = .ok (.getfield 42, 3) := dk_180 0 42 (dk_at dksX5_asks_0 1 rfl rfl)
theorem dX5_asks_4 : decode cX5_asks 4 = .ok (.getfield 96, 3) := dk_180 0 96 (dk_at dksX5_asks_0 4 rfl rfl)
theorem dX5_asks_7 : decode cX5_asks 7 = .ok (.iconst 0, 1) := dk_3 (dk_at dksX5_asks_0 7 rfl rfl)
theorem dX5_asks_8 : decode cX5_asks 8 = .ok (.aload_n 0, 1) := dk_42 (dk_at dksX5_asks_0 8 rfl rfl)
theorem dX5_asks_9 : decode cX5_asks 9 = .ok (.getfield 46, 3) := dk_180 0 46 (dk_at dksX5_asks_0 9 rfl rfl)
theorem dX5_asks_12 : decode cX5_asks 12 = .ok (.iload_n 2, 1) := dk_28 (dk_at dksX5_asks_0 12 rfl rfl)
theorem dX5_asks_13 : decode cX5_asks 13 = .ok (.ishr, 1) := dk_122 (dk_at dksX5_asks_0 13 rfl rfl)
theorem dX5_asks_14 : decode cX5_asks 14 = .ok (.iconst 1, 1) := dk_4 (dk_at dksX5_asks_0 14 rfl rfl)
theorem dX5_asks_15 : decode cX5_asks 15 = .ok (.iand, 1) := dk_126 (dk_at dksX5_asks_0 15 rfl rfl)
theorem dX5_asks_16 : decode cX5_asks 16 = .ok (.iastore, 1) := dk_79 (dk_at dksX5_asks_0 16 rfl rfl)
theorem dX5_asks_17 : decode cX5_asks 17 = .ok (.aload_n 0, 1) := dk_42 (dk_at dksX5_asks_0 17 rfl rfl)
theorem dX5_asks_18 : decode cX5_asks 18 = .ok (.getfield 42, 3) := dk_180 0 42 (dk_at dksX5_asks_0 18 rfl rfl)
theorem dX5_asks_21 : decode cX5_asks 21 = .ok (.getfield 96, 3) := dk_180 0 96 (dk_at dksX5_asks_0 21 rfl rfl)
theorem dX5_asks_24 : decode cX5_asks 24 = .ok (.iconst 1, 1) := dk_4 (dk_at dksX5_asks_1 0 rfl rfl)
theorem dX5_asks_25 : decode cX5_asks 25 = .ok (.aload_n 0, 1) := dk_42 (dk_at dksX5_asks_1 1 rfl rfl)
theorem dX5_asks_26 : decode cX5_asks 26 = .ok (.aload_n 0, 1) := dk_42 (dk_at dksX5_asks_1 2 rfl rfl)
theorem dX5_asks_27 : decode cX5_asks 27 = .ok (.getfield 32, 3) := dk_180 0 32 (dk_at dksX5_asks_1 3 rfl rfl)
theorem dX5_asks_30 : decode cX5_asks 30 = .ok (.iconst 0, 1) := dk_3 (dk_at dksX5_asks_1 6 rfl rfl)
theorem dX5_asks_31 : decode cX5_asks 31 = .ok (.aaload, 1) := dk_50 (dk_at dksX5_asks_1 7 rfl rfl)
theorem dX5_asks_32 : decode cX5_asks 32 = .ok (.aload_n 1, 1) := dk_43 (dk_at dksX5_asks_1 8 rfl rfl)
theorem dX5_asks_33 : decode cX5_asks 33 = .ok (.iload_n 2, 1) := dk_28 (dk_at dksX5_asks_1 9 rfl rfl)
theorem dX5_asks_34 : decode cX5_asks 34 = .ok (.invokevirtual 99, 3) := dk_182 0 99 (dk_at dksX5_asks_1 10 rfl rfl)
theorem dX5_asks_37 : decode cX5_asks 37 = .ok (.invokevirtual 103, 3) := dk_182 0 103 (dk_at dksX5_asks_1 13 rfl rfl)
theorem dX5_asks_40 : decode cX5_asks 40 = .ok (.iastore, 1) := dk_79 (dk_at dksX5_asks_1 16 rfl rfl)
theorem dX5_asks_41 : decode cX5_asks 41 = .ok (.aload_n 0, 1) := dk_42 (dk_at dksX5_asks_1 17 rfl rfl)
theorem dX5_asks_42 : decode cX5_asks 42 = .ok (.getfield 42, 3) := dk_180 0 42 (dk_at dksX5_asks_1 18 rfl rfl)
theorem dX5_asks_45 : decode cX5_asks 45 = .ok (.getfield 96, 3) := dk_180 0 96 (dk_at dksX5_asks_1 21 rfl rfl)
theorem dX5_asks_48 : decode cX5_asks 48 = .ok (.iconst 2, 1) := dk_5 (dk_at dksX5_asks_2 0 rfl rfl)
theorem dX5_asks_49 : decode cX5_asks 49 = .ok (.aload_n 0, 1) := dk_42 (dk_at dksX5_asks_2 1 rfl rfl)
theorem dX5_asks_50 : decode cX5_asks 50 = .ok (.aload_n 0, 1) := dk_42 (dk_at dksX5_asks_2 2 rfl rfl)
theorem dX5_asks_51 : decode cX5_asks 51 = .ok (.getfield 32, 3) := dk_180 0 32 (dk_at dksX5_asks_2 3 rfl rfl)
theorem dX5_asks_54 : decode cX5_asks 54 = .ok (.iconst 1, 1) := dk_4 (dk_at dksX5_asks_2 6 rfl rfl)
theorem dX5_asks_55 : decode cX5_asks 55 = .ok (.aaload, 1) := dk_50 (dk_at dksX5_asks_2 7 rfl rfl)
theorem dX5_asks_56 : decode cX5_asks 56 = .ok (.aload_n 1, 1) := dk_43 (dk_at dksX5_asks_2 8 rfl rfl)
theorem dX5_asks_57 : decode cX5_asks 57 = .ok (.iload_n 2, 1) := dk_28 (dk_at dksX5_asks_2 9 rfl rfl)
theorem dX5_asks_58 : decode cX5_asks 58 = .ok (.invokevirtual 99, 3) := dk_182 0 99 (dk_at dksX5_asks_2 10 rfl rfl)
theorem dX5_asks_61 : decode cX5_asks 61 = .ok (.invokevirtual 103, 3) := dk_182 0 103 (dk_at dksX5_asks_2 13 rfl rfl)
theorem dX5_asks_64 : decode cX5_asks 64 = .ok (.iastore, 1) := dk_79 (dk_at dksX5_asks_2 16 rfl rfl)
theorem dX5_asks_65 : decode cX5_asks 65 = .ok (.aload_n 0, 1) := dk_42 (dk_at dksX5_asks_2 17 rfl rfl)
theorem dX5_asks_66 : decode cX5_asks 66 = .ok (.getfield 42, 3) := dk_180 0 42 (dk_at dksX5_asks_2 18 rfl rfl)
theorem dX5_asks_69 : decode cX5_asks 69 = .ok (.getfield 96, 3) := dk_180 0 96 (dk_at dksX5_asks_2 21 rfl rfl)
theorem dX5_asks_72 : decode cX5_asks 72 = .ok (.iconst 3, 1) := dk_6 (dk_at dksX5_asks_3 0 rfl rfl)
theorem dX5_asks_73 : decode cX5_asks 73 = .ok (.aload_n 0, 1) := dk_42 (dk_at dksX5_asks_3 1 rfl rfl)
theorem dX5_asks_74 : decode cX5_asks 74 = .ok (.getfield 9, 3) := dk_180 0 9 (dk_at dksX5_asks_3 2 rfl rfl)
theorem dX5_asks_77 : decode cX5_asks 77 = .ok (.iload_n 2, 1) := dk_28 (dk_at dksX5_asks_3 5 rfl rfl)
theorem dX5_asks_78 : decode cX5_asks 78 = .ok (.iaload, 1) := dk_46 (dk_at dksX5_asks_3 6 rfl rfl)
theorem dX5_asks_79 : decode cX5_asks 79 = .ok (.iastore, 1) := dk_79 (dk_at dksX5_asks_3 7 rfl rfl)
theorem dX5_asks_80 : decode cX5_asks 80 = .ok (.aload_n 0, 1) := dk_42 (dk_at dksX5_asks_3 8 rfl rfl)
theorem dX5_asks_81 : decode cX5_asks 81 = .ok (.getfield 42, 3) := dk_180 0 42 (dk_at dksX5_asks_3 9 rfl rfl)
theorem dX5_asks_84 : decode cX5_asks 84 = .ok (.getfield 96, 3) := dk_180 0 96 (dk_at dksX5_asks_3 12 rfl rfl)
theorem dX5_asks_87 : decode cX5_asks 87 = .ok (.iconst 4, 1) := dk_7 (dk_at dksX5_asks_3 15 rfl rfl)
theorem dX5_asks_88 : decode cX5_asks 88 = .ok (.aload_n 1, 1) := dk_43 (dk_at dksX5_asks_3 16 rfl rfl)
theorem dX5_asks_89 : decode cX5_asks 89 = .ok (.getfield 107, 3) := dk_180 0 107 (dk_at dksX5_asks_3 17 rfl rfl)
theorem dX5_asks_92 : decode cX5_asks 92 = .ok (.iload_n 2, 1) := dk_28 (dk_at dksX5_asks_3 20 rfl rfl)
theorem dX5_asks_93 : decode cX5_asks 93 = .ok (.iaload, 1) := dk_46 (dk_at dksX5_asks_3 21 rfl rfl)
theorem dX5_asks_94 : decode cX5_asks 94 = .ok (.iastore, 1) := dk_79 (dk_at dksX5_asks_3 22 rfl rfl)
theorem dX5_asks_95 : decode cX5_asks 95 = .ok (.aload_n 0, 1) := dk_42 (dk_at dksX5_asks_3 23 rfl rfl)
theorem dX5_asks_96 : decode cX5_asks 96 = .ok (.getfield 42, 3) := dk_180 0 42 (dk_at dksX5_asks_4 0 rfl rfl)
theorem dX5_asks_99 : decode cX5_asks 99 = .ok (.getfield 96, 3) := dk_180 0 96 (dk_at dksX5_asks_4 3 rfl rfl)
theorem dX5_asks_102 : decode cX5_asks 102 = .ok (.iconst 5, 1) := dk_8 (dk_at dksX5_asks_4 6 rfl rfl)
theorem dX5_asks_103 : decode cX5_asks 103 = .ok (.aload_n 0, 1) := dk_42 (dk_at dksX5_asks_4 7 rfl rfl)
theorem dX5_asks_104 : decode cX5_asks 104 = .ok (.getfield 76, 3) := dk_180 0 76 (dk_at dksX5_asks_4 8 rfl rfl)
theorem dX5_asks_107 : decode cX5_asks 107 = .ok (.bipush 24, 2) := dk_16 24 (dk_at dksX5_asks_4 11 rfl rfl)
theorem dX5_asks_109 : decode cX5_asks 109 = .ok (.irem, 1) := dk_112 (dk_at dksX5_asks_4 13 rfl rfl)
theorem dX5_asks_110 : decode cX5_asks 110 = .ok (.iastore, 1) := dk_79 (dk_at dksX5_asks_4 14 rfl rfl)
theorem dX5_asks_111 : decode cX5_asks 111 = .ok (.aload_n 0, 1) := dk_42 (dk_at dksX5_asks_4 15 rfl rfl)
theorem dX5_asks_112 : decode cX5_asks 112 = .ok (.getfield 42, 3) := dk_180 0 42 (dk_at dksX5_asks_4 16 rfl rfl)
theorem dX5_asks_115 : decode cX5_asks 115 = .ok (.getfield 96, 3) := dk_180 0 96 (dk_at dksX5_asks_4 19 rfl rfl)
theorem dX5_asks_118 : decode cX5_asks 118 = .ok (.bipush 6, 2) := dk_16 6 (dk_at dksX5_asks_4 22 rfl rfl)
theorem dX5_asks_120 : decode cX5_asks 120 = .ok (.iload_n 2, 1) := dk_28 (dk_at dksX5_asks_5 0 rfl rfl)
theorem dX5_asks_121 : decode cX5_asks 121 = .ok (.iastore, 1) := dk_79 (dk_at dksX5_asks_5 1 rfl rfl)
theorem dX5_asks_122 : decode cX5_asks 122 = .ok (.aload_n 0, 1) := dk_42 (dk_at dksX5_asks_5 2 rfl rfl)
theorem dX5_asks_123 : decode cX5_asks 123 = .ok (.getfield 42, 3) := dk_180 0 42 (dk_at dksX5_asks_5 3 rfl rfl)
theorem dX5_asks_126 : decode cX5_asks 126 = .ok (.getfield 96, 3) := dk_180 0 96 (dk_at dksX5_asks_5 6 rfl rfl)
theorem dX5_asks_129 : decode cX5_asks 129 = .ok (.bipush 7, 2) := dk_16 7 (dk_at dksX5_asks_5 9 rfl rfl)
theorem dX5_asks_131 : decode cX5_asks 131 = .ok (.aload_n 1, 1) := dk_43 (dk_at dksX5_asks_5 11 rfl rfl)
theorem dX5_asks_132 : decode cX5_asks 132 = .ok (.invokevirtual 50, 3) := dk_182 0 50 (dk_at dksX5_asks_5 12 rfl rfl)
theorem dX5_asks_135 : decode cX5_asks 135 = .ok (.iastore, 1) := dk_79 (dk_at dksX5_asks_5 15 rfl rfl)
theorem dX5_asks_136 : decode cX5_asks 136 = .ok (.aload_n 0, 1) := dk_42 (dk_at dksX5_asks_5 16 rfl rfl)
theorem dX5_asks_137 : decode cX5_asks 137 = .ok (.getfield 42, 3) := dk_180 0 42 (dk_at dksX5_asks_5 17 rfl rfl)
theorem dX5_asks_140 : decode cX5_asks 140 = .ok (.getfield 96, 3) := dk_180 0 96 (dk_at dksX5_asks_5 20 rfl rfl)
theorem dX5_asks_143 : decode cX5_asks 143 = .ok (.bipush 8, 2) := dk_16 8 (dk_at dksX5_asks_6 0 rfl rfl)
theorem dX5_asks_145 : decode cX5_asks 145 = .ok (.aload_n 0, 1) := dk_42 (dk_at dksX5_asks_6 2 rfl rfl)
theorem dX5_asks_146 : decode cX5_asks 146 = .ok (.getfield 15, 3) := dk_180 0 15 (dk_at dksX5_asks_6 3 rfl rfl)
theorem dX5_asks_149 : decode cX5_asks 149 = .ok (.iload_n 2, 1) := dk_28 (dk_at dksX5_asks_6 6 rfl rfl)
theorem dX5_asks_150 : decode cX5_asks 150 = .ok (.iaload, 1) := dk_46 (dk_at dksX5_asks_6 7 rfl rfl)
theorem dX5_asks_151 : decode cX5_asks 151 = .ok (.iastore, 1) := dk_79 (dk_at dksX5_asks_6 8 rfl rfl)
theorem dX5_asks_152 : decode cX5_asks 152 = .ok (.aload_n 0, 1) := dk_42 (dk_at dksX5_asks_6 9 rfl rfl)
theorem dX5_asks_153 : decode cX5_asks 153 = .ok (.getfield 42, 3) := dk_180 0 42 (dk_at dksX5_asks_6 10 rfl rfl)
theorem dX5_asks_156 : decode cX5_asks 156 = .ok (.areturn, 1) := dk_176 (dk_at dksX5_asks_6 13 rfl rfl)
abbrev cX5_leftOf : ByteArray := prog_3_method_6_code
def yX5_leftOf : MethodName := ⟨RX5, "leftOf", "(I)I"⟩
def dkwX5_leftOf_0 : List UInt8 := [27, 2, 160, 0, 7, 3, 167, 0, 11, 42, 180, 0, 46, 27, 122, 4, 126, 172]
abbrev dktX5_leftOf_0 : List UInt8 := dkwX5_leftOf_0 ++ []
theorem dksX5_leftOf_0 : cX5_leftOf.data.toList.drop 0 = dktX5_leftOf_0 := by decide +kernel
theorem dX5_leftOf_0 : decode cX5_leftOf 0 = .ok (.iload_n 1, 1) := dk_27 (dk_at dksX5_leftOf_0 0 rfl rfl)
theorem dX5_leftOf_1 : decode cX5_leftOf 1 = .ok (.iconst (-1), 1) := dk_2 (dk_at dksX5_leftOf_0 1 rfl rfl)
theorem dX5_leftOf_2 : decode cX5_leftOf 2 = .ok (.if_icmp .ne 7, 3) := dk_160 0 7 (dk_at dksX5_leftOf_0 2 rfl rfl)
theorem dX5_leftOf_5 : decode cX5_leftOf 5 = .ok (.iconst 0, 1) := dk_3 (dk_at dksX5_leftOf_0 5 rfl rfl)
theorem dX5_leftOf_6 : decode cX5_leftOf 6 = .ok (.goto 11, 3) := dk_167 0 11 (dk_at dksX5_leftOf_0 6 rfl rfl)
theorem dX5_leftOf_9 : decode cX5_leftOf 9 = .ok (.aload_n 0, 1) := dk_42 (dk_at dksX5_leftOf_0 9 rfl rfl)
theorem dX5_leftOf_10 : decode cX5_leftOf 10 = .ok (.getfield 46, 3) := dk_180 0 46 (dk_at dksX5_leftOf_0 10 rfl rfl)
theorem dX5_leftOf_13 : decode cX5_leftOf 13 = .ok (.iload_n 1, 1) := dk_27 (dk_at dksX5_leftOf_0 13 rfl rfl)
theorem dX5_leftOf_14 : decode cX5_leftOf 14 = .ok (.ishr, 1) := dk_122 (dk_at dksX5_leftOf_0 14 rfl rfl)
theorem dX5_leftOf_15 : decode cX5_leftOf 15 = .ok (.iconst 1, 1) := dk_4 (dk_at dksX5_leftOf_0 15 rfl rfl)
theorem dX5_leftOf_16 : decode cX5_leftOf 16 = .ok (.iand, 1) := dk_126 (dk_at dksX5_leftOf_0 16 rfl rfl)
theorem dX5_leftOf_17 : decode cX5_leftOf 17 = .ok (.ireturn, 1) := dk_172 (dk_at dksX5_leftOf_0 17 rfl rfl)
abbrev cX5_parts : ByteArray := prog_3_method_11_code
def yX5_parts : MethodName := ⟨RX5, "parts", "(LPartedSide$Text;I)I"⟩
def dkwX5_parts_1 : List UInt8 := [182, 0, 114, 182, 0, 118, 184, 0, 127, 172]
abbrev dktX5_parts_1 : List UInt8 := dkwX5_parts_1 ++ []
def dkwX5_parts_0 : List UInt8 := [43, 180, 0, 110, 4, 50, 199, 0, 7, 4, 167, 0, 23, 16, 99, 43, 180, 0, 110, 4, 50, 42, 43, 28]
abbrev dktX5_parts_0 : List UInt8 := dkwX5_parts_0 ++ dktX5_parts_1
theorem dksX5_parts_0 : cX5_parts.data.toList.drop 0 = dktX5_parts_0 := by decide +kernel
theorem dksX5_parts_1 : cX5_parts.data.toList.drop 24 = dktX5_parts_1 := dk_seg dksX5_parts_0 24 rfl rfl
theorem dX5_parts_0 : decode cX5_parts 0 = .ok (.aload_n 1, 1) := dk_43 (dk_at dksX5_parts_0 0 rfl rfl)
theorem dX5_parts_1 : decode cX5_parts 1 = .ok (.getfield 110, 3) := dk_180 0 110 (dk_at dksX5_parts_0 1 rfl rfl)
theorem dX5_parts_4 : decode cX5_parts 4 = .ok (.iconst 1, 1) := dk_4 (dk_at dksX5_parts_0 4 rfl rfl)
theorem dX5_parts_5 : decode cX5_parts 5 = .ok (.aaload, 1) := dk_50 (dk_at dksX5_parts_0 5 rfl rfl)
theorem dX5_parts_6 : decode cX5_parts 6 = .ok (.ifnonnull 7, 3) := dk_199 0 7 (dk_at dksX5_parts_0 6 rfl rfl)
theorem dX5_parts_9 : decode cX5_parts 9 = .ok (.iconst 1, 1) := dk_4 (dk_at dksX5_parts_0 9 rfl rfl)
theorem dX5_parts_10 : decode cX5_parts 10 = .ok (.goto 23, 3) := dk_167 0 23 (dk_at dksX5_parts_0 10 rfl rfl)
theorem dX5_parts_13 : decode cX5_parts 13 = .ok (.bipush 99, 2) := dk_16 99 (dk_at dksX5_parts_0 13 rfl rfl)
theorem dX5_parts_15 : decode cX5_parts 15 = .ok (.aload_n 1, 1) := dk_43 (dk_at dksX5_parts_0 15 rfl rfl)
theorem dX5_parts_16 : decode cX5_parts 16 = .ok (.getfield 110, 3) := dk_180 0 110 (dk_at dksX5_parts_0 16 rfl rfl)
theorem dX5_parts_19 : decode cX5_parts 19 = .ok (.iconst 1, 1) := dk_4 (dk_at dksX5_parts_0 19 rfl rfl)
theorem dX5_parts_20 : decode cX5_parts 20 = .ok (.aaload, 1) := dk_50 (dk_at dksX5_parts_0 20 rfl rfl)
theorem dX5_parts_21 : decode cX5_parts 21 = .ok (.aload_n 0, 1) := dk_42 (dk_at dksX5_parts_0 21 rfl rfl)
theorem dX5_parts_22 : decode cX5_parts 22 = .ok (.aload_n 1, 1) := dk_43 (dk_at dksX5_parts_0 22 rfl rfl)
theorem dX5_parts_23 : decode cX5_parts 23 = .ok (.iload_n 2, 1) := dk_28 (dk_at dksX5_parts_0 23 rfl rfl)
theorem dX5_parts_24 : decode cX5_parts 24 = .ok (.invokevirtual 114, 3) := dk_182 0 114 (dk_at dksX5_parts_1 0 rfl rfl)
theorem dX5_parts_27 : decode cX5_parts 27 = .ok (.invokevirtual 118, 3) := dk_182 0 118 (dk_at dksX5_parts_1 3 rfl rfl)
theorem dX5_parts_30 : decode cX5_parts 30 = .ok (.invokestatic 127, 3) := dk_184 0 127 (dk_at dksX5_parts_1 6 rfl rfl)
theorem dX5_parts_33 : decode cX5_parts 33 = .ok (.ireturn, 1) := dk_172 (dk_at dksX5_parts_1 9 rfl rfl)
abbrev cX5_chills : ByteArray := prog_3_method_12_code
def yX5_chills : MethodName := ⟨RX5, "chills", "(LPartedSide$Text;I)I"⟩
def dkwX5_chills_1 : List UInt8 := [182, 0, 114, 182, 0, 118, 184, 0, 127, 172]
abbrev dktX5_chills_1 : List UInt8 := dkwX5_chills_1 ++ []
def dkwX5_chills_0 : List UInt8 := [43, 180, 0, 110, 5, 50, 199, 0, 7, 3, 167, 0, 23, 16, 100, 43, 180, 0, 110, 5, 50, 42, 43, 28]
abbrev dktX5_chills_0 : List UInt8 := dkwX5_chills_0 ++ dktX5_chills_1
theorem dksX5_chills_0 : cX5_chills.data.toList.drop 0 = dktX5_chills_0 := by decide +kernel
theorem dksX5_chills_1 : cX5_chills.data.toList.drop 24 = dktX5_chills_1 := dk_seg dksX5_chills_0 24 rfl rfl
theorem dX5_chills_0 : decode cX5_chills 0 = .ok (.aload_n 1, 1) := dk_43 (dk_at dksX5_chills_0 0 rfl rfl)
theorem dX5_chills_1 : decode cX5_chills 1 = .ok (.getfield 110, 3) := dk_180 0 110 (dk_at dksX5_chills_0 1 rfl rfl)
theorem dX5_chills_4 : decode cX5_chills 4 = .ok (.iconst 2, 1) := dk_5 (dk_at dksX5_chills_0 4 rfl rfl)
theorem dX5_chills_5 : decode cX5_chills 5 = .ok (.aaload, 1) := dk_50 (dk_at dksX5_chills_0 5 rfl rfl)
theorem dX5_chills_6 : decode cX5_chills 6 = .ok (.ifnonnull 7, 3) := dk_199 0 7 (dk_at dksX5_chills_0 6 rfl rfl)
theorem dX5_chills_9 : decode cX5_chills 9 = .ok (.iconst 0, 1) := dk_3 (dk_at dksX5_chills_0 9 rfl rfl)
theorem dX5_chills_10 : decode cX5_chills 10 = .ok (.goto 23, 3) := dk_167 0 23 (dk_at dksX5_chills_0 10 rfl rfl)
theorem dX5_chills_13 : decode cX5_chills 13 = .ok (.bipush 100, 2) := dk_16 100 (dk_at dksX5_chills_0 13 rfl rfl)
theorem dX5_chills_15 : decode cX5_chills 15 = .ok (.aload_n 1, 1) := dk_43 (dk_at dksX5_chills_0 15 rfl rfl)
theorem dX5_chills_16 : decode cX5_chills 16 = .ok (.getfield 110, 3) := dk_180 0 110 (dk_at dksX5_chills_0 16 rfl rfl)
theorem dX5_chills_19 : decode cX5_chills 19 = .ok (.iconst 2, 1) := dk_5 (dk_at dksX5_chills_0 19 rfl rfl)
theorem dX5_chills_20 : decode cX5_chills 20 = .ok (.aaload, 1) := dk_50 (dk_at dksX5_chills_0 20 rfl rfl)
theorem dX5_chills_21 : decode cX5_chills 21 = .ok (.aload_n 0, 1) := dk_42 (dk_at dksX5_chills_0 21 rfl rfl)
theorem dX5_chills_22 : decode cX5_chills 22 = .ok (.aload_n 1, 1) := dk_43 (dk_at dksX5_chills_0 22 rfl rfl)
theorem dX5_chills_23 : decode cX5_chills 23 = .ok (.iload_n 2, 1) := dk_28 (dk_at dksX5_chills_0 23 rfl rfl)
theorem dX5_chills_24 : decode cX5_chills 24 = .ok (.invokevirtual 114, 3) := dk_182 0 114 (dk_at dksX5_chills_1 0 rfl rfl)
theorem dX5_chills_27 : decode cX5_chills 27 = .ok (.invokevirtual 118, 3) := dk_182 0 118 (dk_at dksX5_chills_1 3 rfl rfl)
theorem dX5_chills_30 : decode cX5_chills 30 = .ok (.invokestatic 127, 3) := dk_184 0 127 (dk_at dksX5_chills_1 6 rfl rfl)
theorem dX5_chills_33 : decode cX5_chills 33 = .ok (.ireturn, 1) := dk_172 (dk_at dksX5_chills_1 9 rfl rfl)
abbrev cX5_costs : ByteArray := prog_3_method_13_code
def yX5_costs : MethodName := ⟨RX5, "costs", "(LPartedSide$Text;I)I"⟩
def dkwX5_costs_1 : List UInt8 := [182, 0, 114, 182, 0, 118, 184, 0, 127, 172]
abbrev dktX5_costs_1 : List UInt8 := dkwX5_costs_1 ++ []
def dkwX5_costs_0 : List UInt8 := [43, 180, 0, 110, 6, 50, 199, 0, 7, 4, 167, 0, 23, 16, 99, 43, 180, 0, 110, 6, 50, 42, 43, 28]
abbrev dktX5_costs_0 : List UInt8 := dkwX5_costs_0 ++ dktX5_costs_1
theorem dksX5_costs_0 : cX5_costs.data.toList.drop 0 = dktX5_costs_0 := by decide +kernel
theorem dksX5_costs_1 : cX5_costs.data.toList.drop 24 = dktX5_costs_1 := dk_seg dksX5_costs_0 24 rfl rfl
theorem dX5_costs_0 : decode cX5_costs 0 = .ok (.aload_n 1, 1) := dk_43 (dk_at dksX5_costs_0 0 rfl rfl)
theorem dX5_costs_1 : decode cX5_costs 1 = .ok (.getfield 110, 3) := dk_180 0 110 (dk_at dksX5_costs_0 1 rfl rfl)
theorem dX5_costs_4 : decode cX5_costs 4 = .ok (.iconst 3, 1) := dk_6 (dk_at dksX5_costs_0 4 rfl rfl)
theorem dX5_costs_5 : decode cX5_costs 5 = .ok (.aaload, 1) := dk_50 (dk_at dksX5_costs_0 5 rfl rfl)
theorem dX5_costs_6 : decode cX5_costs 6 = .ok (.ifnonnull 7, 3) := dk_199 0 7 (dk_at dksX5_costs_0 6 rfl rfl)
theorem dX5_costs_9 : decode cX5_costs 9 = .ok (.iconst 1, 1) := dk_4 (dk_at dksX5_costs_0 9 rfl rfl)
theorem dX5_costs_10 : decode cX5_costs 10 = .ok (.goto 23, 3) := dk_167 0 23 (dk_at dksX5_costs_0 10 rfl rfl)
theorem dX5_costs_13 : decode cX5_costs 13 = .ok (.bipush 99, 2) := dk_16 99 (dk_at dksX5_costs_0 13 rfl rfl)
theorem dX5_costs_15 : decode cX5_costs 15 = .ok (.aload_n 1, 1) := dk_43 (dk_at dksX5_costs_0 15 rfl rfl)
theorem dX5_costs_16 : decode cX5_costs 16 = .ok (.getfield 110, 3) := dk_180 0 110 (dk_at dksX5_costs_0 16 rfl rfl)
theorem dX5_costs_19 : decode cX5_costs 19 = .ok (.iconst 3, 1) := dk_6 (dk_at dksX5_costs_0 19 rfl rfl)
theorem dX5_costs_20 : decode cX5_costs 20 = .ok (.aaload, 1) := dk_50 (dk_at dksX5_costs_0 20 rfl rfl)
theorem dX5_costs_21 : decode cX5_costs 21 = .ok (.aload_n 0, 1) := dk_42 (dk_at dksX5_costs_0 21 rfl rfl)
theorem dX5_costs_22 : decode cX5_costs 22 = .ok (.aload_n 1, 1) := dk_43 (dk_at dksX5_costs_0 22 rfl rfl)
theorem dX5_costs_23 : decode cX5_costs 23 = .ok (.iload_n 2, 1) := dk_28 (dk_at dksX5_costs_0 23 rfl rfl)
theorem dX5_costs_24 : decode cX5_costs 24 = .ok (.invokevirtual 114, 3) := dk_182 0 114 (dk_at dksX5_costs_1 0 rfl rfl)
theorem dX5_costs_27 : decode cX5_costs 27 = .ok (.invokevirtual 118, 3) := dk_182 0 118 (dk_at dksX5_costs_1 3 rfl rfl)
theorem dX5_costs_30 : decode cX5_costs 30 = .ok (.invokestatic 127, 3) := dk_184 0 127 (dk_at dksX5_costs_1 6 rfl rfl)
theorem dX5_costs_33 : decode cX5_costs 33 = .ok (.ireturn, 1) := dk_172 (dk_at dksX5_costs_1 9 rfl rfl)
abbrev cX5_takes : ByteArray := prog_3_method_4_code
def yX5_takes : MethodName := ⟨RX5, "takes", "(LPartedSide$Barrack;)V"⟩
def dkwX5_takes_3 : List UInt8 := [180, 0, 85, 181, 0, 85, 177]
abbrev dktX5_takes_3 : List UInt8 := dkwX5_takes_3 ++ []
def dkwX5_takes_2 : List UInt8 := [180, 0, 46, 181, 0, 46, 42, 43, 180, 0, 76, 181, 0, 76, 42, 43, 180, 0, 79, 181, 0, 79, 42, 43]
abbrev dktX5_takes_2 : List UInt8 := dkwX5_takes_2 ++ dktX5_takes_3
def dkwX5_takes_1 : List UInt8 := [180, 0, 18, 42, 180, 0, 18, 184, 0, 92, 43, 180, 0, 21, 42, 180, 0, 21, 184, 0, 92, 42, 43]
abbrev dktX5_takes_1 : List UInt8 := dkwX5_takes_1 ++ dktX5_takes_2
def dkwX5_takes_0 : List UInt8 := [43, 180, 0, 9, 42, 180, 0, 9, 184, 0, 92, 43, 180, 0, 15, 42, 180, 0, 15, 184, 0, 92, 43]
abbrev dktX5_takes_0 : List UInt8 := dkwX5_takes_0 ++ dktX5_takes_1
theorem dksX5_takes_0 : cX5_takes.data.toList.drop 0 = dktX5_takes_0 := by decide +kernel
theorem dksX5_takes_1 : cX5_takes.data.toList.drop 23 = dktX5_takes_1 := dk_seg dksX5_takes_0 23 rfl rfl
theorem dksX5_takes_2 : cX5_takes.data.toList.drop 46 = dktX5_takes_2 := dk_seg dksX5_takes_1 23 rfl rfl
theorem dksX5_takes_3 : cX5_takes.data.toList.drop 70 = dktX5_takes_3 := dk_seg dksX5_takes_2 24 rfl rfl
theorem dX5_takes_0 : decode cX5_takes 0 = .ok (.aload_n 1, 1) := dk_43 (dk_at dksX5_takes_0 0 rfl rfl)
theorem dX5_takes_1 : decode cX5_takes 1 = .ok (.getfield 9, 3) := dk_180 0 9 (dk_at dksX5_takes_0 1 rfl rfl)
theorem dX5_takes_4 : decode cX5_takes 4 = .ok (.aload_n 0, 1) := dk_42 (dk_at dksX5_takes_0 4 rfl rfl)
theorem dX5_takes_5 : decode cX5_takes 5 = .ok (.getfield 9, 3) := dk_180 0 9 (dk_at dksX5_takes_0 5 rfl rfl)
theorem dX5_takes_8 : decode cX5_takes 8 = .ok (.invokestatic 92, 3) := dk_184 0 92 (dk_at dksX5_takes_0 8 rfl rfl)
theorem dX5_takes_11 : decode cX5_takes 11 = .ok (.aload_n 1, 1) := dk_43 (dk_at dksX5_takes_0 11 rfl rfl)
theorem dX5_takes_12 : decode cX5_takes 12 = .ok (.getfield 15, 3) := dk_180 0 15 (dk_at dksX5_takes_0 12 rfl rfl)
theorem dX5_takes_15 : decode cX5_takes 15 = .ok (.aload_n 0, 1) := dk_42 (dk_at dksX5_takes_0 15 rfl rfl)
theorem dX5_takes_16 : decode cX5_takes 16 = .ok (.getfield 15, 3) := dk_180 0 15 (dk_at dksX5_takes_0 16 rfl rfl)
theorem dX5_takes_19 : decode cX5_takes 19 = .ok (.invokestatic 92, 3) := dk_184 0 92 (dk_at dksX5_takes_0 19 rfl rfl)
theorem dX5_takes_22 : decode cX5_takes 22 = .ok (.aload_n 1, 1) := dk_43 (dk_at dksX5_takes_0 22 rfl rfl)
theorem dX5_takes_23 : decode cX5_takes 23 = .ok (.getfield 18, 3) := dk_180 0 18 (dk_at dksX5_takes_1 0 rfl rfl)
theorem dX5_takes_26 : decode cX5_takes 26 = .ok (.aload_n 0, 1) := dk_42 (dk_at dksX5_takes_1 3 rfl rfl)
theorem dX5_takes_27 : decode cX5_takes 27 = .ok (.getfield 18, 3) := dk_180 0 18 (dk_at dksX5_takes_1 4 rfl rfl)
theorem dX5_takes_30 : decode cX5_takes 30 = .ok (.invokestatic 92, 3) := dk_184 0 92 (dk_at dksX5_takes_1 7 rfl rfl)
theorem dX5_takes_33 : decode cX5_takes 33 = .ok (.aload_n 1, 1) := dk_43 (dk_at dksX5_takes_1 10 rfl rfl)
theorem dX5_takes_34 : decode cX5_takes 34 = .ok (.getfield 21, 3) := dk_180 0 21 (dk_at dksX5_takes_1 11 rfl rfl)
theorem dX5_takes_37 : decode cX5_takes 37 = .ok (.aload_n 0, 1) := dk_42 (dk_at dksX5_takes_1 14 rfl rfl)
theorem dX5_takes_38 : decode cX5_takes 38 = .ok (.getfield 21, 3) := dk_180 0 21 (dk_at dksX5_takes_1 15 rfl rfl)
theorem dX5_takes_41 : decode cX5_takes 41 = .ok (.invokestatic 92, 3) := dk_184 0 92 (dk_at dksX5_takes_1 18 rfl rfl)
theorem dX5_takes_44 : decode cX5_takes 44 = .ok (.aload_n 0, 1) := dk_42 (dk_at dksX5_takes_1 21 rfl rfl)
theorem dX5_takes_45 : decode cX5_takes 45 = .ok (.aload_n 1, 1) := dk_43 (dk_at dksX5_takes_1 22 rfl rfl)
theorem dX5_takes_46 : decode cX5_takes 46 = .ok (.getfield 46, 3) := dk_180 0 46 (dk_at dksX5_takes_2 0 rfl rfl)
theorem dX5_takes_49 : decode cX5_takes 49 = .ok (.putfield 46, 3) := dk_181 0 46 (dk_at dksX5_takes_2 3 rfl rfl)
theorem dX5_takes_52 : decode cX5_takes 52 = .ok (.aload_n 0, 1) := dk_42 (dk_at dksX5_takes_2 6 rfl rfl)
theorem dX5_takes_53 : decode cX5_takes 53 = .ok (.aload_n 1, 1) := dk_43 (dk_at dksX5_takes_2 7 rfl rfl)
theorem dX5_takes_54 : decode cX5_takes 54 = .ok (.getfield 76, 3) := dk_180 0 76 (dk_at dksX5_takes_2 8 rfl rfl)
theorem dX5_takes_57 : decode cX5_takes 57 = .ok (.putfield 76, 3) := dk_181 0 76 (dk_at dksX5_takes_2 11 rfl rfl)
theorem dX5_takes_60 : decode cX5_takes 60 = .ok (.aload_n 0, 1) := dk_42 (dk_at dksX5_takes_2 14 rfl rfl)
theorem dX5_takes_61 : decode cX5_takes 61 = .ok (.aload_n 1, 1) := dk_43 (dk_at dksX5_takes_2 15 rfl rfl)
theorem dX5_takes_62 : decode cX5_takes 62 = .ok (.getfield 79, 3) := dk_180 0 79 (dk_at dksX5_takes_2 16 rfl rfl)
theorem dX5_takes_65 : decode cX5_takes 65 = .ok (.putfield 79, 3) := dk_181 0 79 (dk_at dksX5_takes_2 19 rfl rfl)
theorem dX5_takes_68 : decode cX5_takes 68 = .ok (.aload_n 0, 1) := dk_42 (dk_at dksX5_takes_2 22 rfl rfl)
theorem dX5_takes_69 : decode cX5_takes 69 = .ok (.aload_n 1, 1) := dk_43 (dk_at dksX5_takes_2 23 rfl rfl)
theorem dX5_takes_70 : decode cX5_takes 70 = .ok (.getfield 85, 3) := dk_180 0 85 (dk_at dksX5_takes_3 0 rfl rfl)
theorem dX5_takes_73 : decode cX5_takes 73 = .ok (.putfield 85, 3) := dk_181 0 85 (dk_at dksX5_takes_3 3 rfl rfl)
theorem dX5_takes_76 : decode cX5_takes 76 = .ok (.return_, 1) := dk_177 (dk_at dksX5_takes_3 6 rfl rfl)
abbrev cX5_copies : ByteArray := prog_3_method_3_code
def yX5_copies : MethodName := ⟨RX5, "copies", "([I[I)V"⟩
def dkwX5_copies_0 : List UInt8 := [42, 3, 43, 3, 42, 190, 184, 0, 86, 177]
abbrev dktX5_copies_0 : List UInt8 := dkwX5_copies_0 ++ []
theorem dksX5_copies_0 : cX5_copies.data.toList.drop 0 = dktX5_copies_0 := by decide +kernel
theorem dX5_copies_0 : decode cX5_copies 0 = .ok (.aload_n 0, 1) := dk_42 (dk_at dksX5_copies_0 0 rfl rfl)
theorem dX5_copies_1 : decode cX5_copies 1 = .ok (.iconst 0, 1) := dk_3 (dk_at dksX5_copies_0 1 rfl rfl)
theorem dX5_copies_2 : decode cX5_copies 2 = .ok (.aload_n 1, 1) := dk_43 (dk_at dksX5_copies_0 2 rfl rfl)
theorem dX5_copies_3 : decode cX5_copies 3 = .ok (.iconst 0, 1) := dk_3 (dk_at dksX5_copies_0 3 rfl rfl)
theorem dX5_copies_4 : decode cX5_copies 4 = .ok (.aload_n 0, 1) := dk_42 (dk_at dksX5_copies_0 4 rfl rfl)
theorem dX5_copies_5 : decode cX5_copies 5 = .ok (.arraylength, 1) := dk_190 (dk_at dksX5_copies_0 5 rfl rfl)
theorem dX5_copies_6 : decode cX5_copies 6 = .ok (.invokestatic 86, 3) := dk_184 0 86 (dk_at dksX5_copies_0 6 rfl rfl)
theorem dX5_copies_9 : decode cX5_copies 9 = .ok (.return_, 1) := dk_177 (dk_at dksX5_copies_0 9 rfl rfl)
abbrev cX5_change : ByteArray := prog_3_method_17_code
def yX5_change : MethodName := ⟨RX5, "change", "(II)V"⟩
def dkwX5_change_2 : List UInt8 := [159, 0, 19, 42, 89, 180, 0, 46, 4, 27, 120, 4, 28, 120, 128, 130, 181, 0, 46, 177]
abbrev dktX5_change_2 : List UInt8 := dkwX5_change_2 ++ []
def dkwX5_change_1 : List UInt8 := [184, 0, 153, 42, 180, 0, 21, 27, 28, 184, 0, 153, 42, 27, 182, 0, 123, 42, 28, 182, 0, 123]
abbrev dktX5_change_1 : List UInt8 := dkwX5_change_1 ++ dktX5_change_2
def dkwX5_change_0 : List UInt8 := [42, 180, 0, 9, 27, 28, 184, 0, 153, 42, 180, 0, 15, 27, 28, 184, 0, 153, 42, 180, 0, 18, 27, 28]
abbrev dktX5_change_0 : List UInt8 := dkwX5_change_0 ++ dktX5_change_1
theorem dksX5_change_0 : cX5_change.data.toList.drop 0 = dktX5_change_0 := by decide +kernel
theorem dksX5_change_1 : cX5_change.data.toList.drop 24 = dktX5_change_1 := dk_seg dksX5_change_0 24 rfl rfl
theorem dksX5_change_2 : cX5_change.data.toList.drop 46 = dktX5_change_2 := dk_seg dksX5_change_1 22 rfl rfl
theorem dX5_change_0 : decode cX5_change 0 = .ok (.aload_n 0, 1) := dk_42 (dk_at dksX5_change_0 0 rfl rfl)
theorem dX5_change_1 : decode cX5_change 1 = .ok (.getfield 9, 3) := dk_180 0 9 (dk_at dksX5_change_0 1 rfl rfl)
theorem dX5_change_4 : decode cX5_change 4 = .ok (.iload_n 1, 1) := dk_27 (dk_at dksX5_change_0 4 rfl rfl)
theorem dX5_change_5 : decode cX5_change 5 = .ok (.iload_n 2, 1) := dk_28 (dk_at dksX5_change_0 5 rfl rfl)
theorem dX5_change_6 : decode cX5_change 6 = .ok (.invokestatic 153, 3) := dk_184 0 153 (dk_at dksX5_change_0 6 rfl rfl)
theorem dX5_change_9 : decode cX5_change 9 = .ok (.aload_n 0, 1) := dk_42 (dk_at dksX5_change_0 9 rfl rfl)
theorem dX5_change_10 : decode cX5_change 10 = .ok (.getfield 15, 3) := dk_180 0 15 (dk_at dksX5_change_0 10 rfl rfl)
theorem dX5_change_13 : decode cX5_change 13 = .ok (.iload_n 1, 1) := dk_27 (dk_at dksX5_change_0 13 rfl rfl)
theorem dX5_change_14 : decode cX5_change 14 = .ok (.iload_n 2, 1) := dk_28 (dk_at dksX5_change_0 14 rfl rfl)
theorem dX5_change_15 : decode cX5_change 15 = .ok (.invokestatic 153, 3) := dk_184 0 153 (dk_at dksX5_change_0 15 rfl rfl)
theorem dX5_change_18 : decode cX5_change 18 = .ok (.aload_n 0, 1) := dk_42 (dk_at dksX5_change_0 18 rfl rfl)
theorem dX5_change_19 : decode cX5_change 19 = .ok (.getfield 18, 3) := dk_180 0 18 (dk_at dksX5_change_0 19 rfl rfl)
theorem dX5_change_22 : decode cX5_change 22 = .ok (.iload_n 1, 1) := dk_27 (dk_at dksX5_change_0 22 rfl rfl)
theorem dX5_change_23 : decode cX5_change 23 = .ok (.iload_n 2, 1) := dk_28 (dk_at dksX5_change_0 23 rfl rfl)
theorem dX5_change_24 : decode cX5_change 24 = .ok (.invokestatic 153, 3) := dk_184 0 153 (dk_at dksX5_change_1 0 rfl rfl)
theorem dX5_change_27 : decode cX5_change 27 = .ok (.aload_n 0, 1) := dk_42 (dk_at dksX5_change_1 3 rfl rfl)
theorem dX5_change_28 : decode cX5_change 28 = .ok (.getfield 21, 3) := dk_180 0 21 (dk_at dksX5_change_1 4 rfl rfl)
theorem dX5_change_31 : decode cX5_change 31 = .ok (.iload_n 1, 1) := dk_27 (dk_at dksX5_change_1 7 rfl rfl)
theorem dX5_change_32 : decode cX5_change 32 = .ok (.iload_n 2, 1) := dk_28 (dk_at dksX5_change_1 8 rfl rfl)
theorem dX5_change_33 : decode cX5_change 33 = .ok (.invokestatic 153, 3) := dk_184 0 153 (dk_at dksX5_change_1 9 rfl rfl)
theorem dX5_change_36 : decode cX5_change 36 = .ok (.aload_n 0, 1) := dk_42 (dk_at dksX5_change_1 12 rfl rfl)
theorem dX5_change_37 : decode cX5_change 37 = .ok (.iload_n 1, 1) := dk_27 (dk_at dksX5_change_1 13 rfl rfl)
theorem dX5_change_38 : decode cX5_change 38 = .ok (.invokevirtual 123, 3) := dk_182 0 123 (dk_at dksX5_change_1 14 rfl rfl)
theorem dX5_change_41 : decode cX5_change 41 = .ok (.aload_n 0, 1) := dk_42 (dk_at dksX5_change_1 17 rfl rfl)
theorem dX5_change_42 : decode cX5_change 42 = .ok (.iload_n 2, 1) := dk_28 (dk_at dksX5_change_1 18 rfl rfl)
theorem dX5_change_43 : decode cX5_change 43 = .ok (.invokevirtual 123, 3) := dk_182 0 123 (dk_at dksX5_change_1 19 rfl rfl)
theorem dX5_change_46 : decode cX5_change 46 = .ok (.if_icmp .eq 19, 3) := dk_159 0 19 (dk_at dksX5_change_2 0 rfl rfl)
theorem dX5_change_49 : decode cX5_change 49 = .ok (.aload_n 0, 1) := dk_42 (dk_at dksX5_change_2 3 rfl rfl)
theorem dX5_change_50 : decode cX5_change 50 = .ok (.dup, 1) := dk_89 (dk_at dksX5_change_2 4 rfl rfl)
theorem dX5_change_51 : decode cX5_change 51 = .ok (.getfield 46, 3) := dk_180 0 46 (dk_at dksX5_change_2 5 rfl rfl)
theorem dX5_change_54 : decode cX5_change 54 = .ok (.iconst 1, 1) := dk_4 (dk_at dksX5_change_2 8 rfl rfl)
theorem dX5_change_55 : decode cX5_change 55 = .ok (.iload_n 1, 1) := dk_27 (dk_at dksX5_change_2 9 rfl rfl)
theorem dX5_change_56 : decode cX5_change 56 = .ok (.ishl, 1) := dk_120 (dk_at dksX5_change_2 10 rfl rfl)
theorem dX5_change_57 : decode cX5_change 57 = .ok (.iconst 1, 1) := dk_4 (dk_at dksX5_change_2 11 rfl rfl)
theorem dX5_change_58 : decode cX5_change 58 = .ok (.iload_n 2, 1) := dk_28 (dk_at dksX5_change_2 12 rfl rfl)
theorem dX5_change_59 : decode cX5_change 59 = .ok (.ishl, 1) := dk_120 (dk_at dksX5_change_2 13 rfl rfl)
theorem dX5_change_60 : decode cX5_change 60 = .ok (.ior, 1) := dk_128 (dk_at dksX5_change_2 14 rfl rfl)
theorem dX5_change_61 : decode cX5_change 61 = .ok (.ixor, 1) := dk_130 (dk_at dksX5_change_2 15 rfl rfl)
theorem dX5_change_62 : decode cX5_change 62 = .ok (.putfield 46, 3) := dk_181 0 46 (dk_at dksX5_change_2 16 rfl rfl)
theorem dX5_change_65 : decode cX5_change 65 = .ok (.return_, 1) := dk_177 (dk_at dksX5_change_2 19 rfl rfl)
abbrev cX5_swaps : ByteArray := prog_3_method_16_code
def yX5_swaps : MethodName := ⟨RX5, "swaps", "([III)V"⟩
def dkwX5_swaps_0 : List UInt8 := [42, 27, 46, 62, 42, 27, 42, 28, 46, 79, 42, 28, 29, 79, 177]
abbrev dktX5_swaps_0 : List UInt8 := dkwX5_swaps_0 ++ []
theorem dksX5_swaps_0 : cX5_swaps.data.toList.drop 0 = dktX5_swaps_0 := by decide +kernel
theorem dX5_swaps_0 : decode cX5_swaps 0 = .ok (.aload_n 0, 1) := dk_42 (dk_at dksX5_swaps_0 0 rfl rfl)
theorem dX5_swaps_1 : decode cX5_swaps 1 = .ok (.iload_n 1, 1) := dk_27 (dk_at dksX5_swaps_0 1 rfl rfl)
theorem dX5_swaps_2 : decode cX5_swaps 2 = .ok (.iaload, 1) := dk_46 (dk_at dksX5_swaps_0 2 rfl rfl)
theorem dX5_swaps_3 : decode cX5_swaps 3 = .ok (.istore_n 3, 1) := dk_62 (dk_at dksX5_swaps_0 3 rfl rfl)
theorem dX5_swaps_4 : decode cX5_swaps 4 = .ok (.aload_n 0, 1) := dk_42 (dk_at dksX5_swaps_0 4 rfl rfl)
theorem dX5_swaps_5 : decode cX5_swaps 5 = .ok (.iload_n 1, 1) := dk_27 (dk_at dksX5_swaps_0 5 rfl rfl)
theorem dX5_swaps_6 : decode cX5_swaps 6 = .ok (.aload_n 0, 1) := dk_42 (dk_at dksX5_swaps_0 6 rfl rfl)
theorem dX5_swaps_7 : decode cX5_swaps 7 = .ok (.iload_n 2, 1) := dk_28 (dk_at dksX5_swaps_0 7 rfl rfl)
theorem dX5_swaps_8 : decode cX5_swaps 8 = .ok (.iaload, 1) := dk_46 (dk_at dksX5_swaps_0 8 rfl rfl)
theorem dX5_swaps_9 : decode cX5_swaps 9 = .ok (.iastore, 1) := dk_79 (dk_at dksX5_swaps_0 9 rfl rfl)
theorem dX5_swaps_10 : decode cX5_swaps 10 = .ok (.aload_n 0, 1) := dk_42 (dk_at dksX5_swaps_0 10 rfl rfl)
theorem dX5_swaps_11 : decode cX5_swaps 11 = .ok (.iload_n 2, 1) := dk_28 (dk_at dksX5_swaps_0 11 rfl rfl)
theorem dX5_swaps_12 : decode cX5_swaps 12 = .ok (.iload_n 3, 1) := dk_29 (dk_at dksX5_swaps_0 12 rfl rfl)
theorem dX5_swaps_13 : decode cX5_swaps 13 = .ok (.iastore, 1) := dk_79 (dk_at dksX5_swaps_0 13 rfl rfl)
theorem dX5_swaps_14 : decode cX5_swaps 14 = .ok (.return_, 1) := dk_177 (dk_at dksX5_swaps_0 14 rfl rfl)
abbrev cX5_goesBy : ByteArray := prog_3_method_15_code
def yX5_goesBy : MethodName := ⟨RX5, "goesBy", "(LPartedSide$Text;LPartedSide$Night;)V"⟩
def dkwX5_goesBy_6 : List UInt8 := [42, 89, 180, 0, 76, 4, 96, 181, 0, 76, 177]
abbrev dktX5_goesBy_6 : List UInt8 := dkwX5_goesBy_6 ++ []
def dkwX5_goesBy_5 : List UInt8 := [46, 116, 96, 17, 216, 241, 17, 39, 15, 184, 0, 149, 79, 132, 4, 1, 167, 255, 193, 42, 29, 181, 0, 46]
abbrev dktX5_goesBy_5 : List UInt8 := dkwX5_goesBy_5 ++ dktX5_goesBy_6
def dkwX5_goesBy_4 : List UInt8 := [21, 4, 182, 0, 123, 153, 0, 13, 42, 180, 0, 36, 21, 4, 46, 167, 0, 11, 42, 180, 0, 36, 21, 4]
abbrev dktX5_goesBy_4 : List UInt8 := dkwX5_goesBy_4 ++ dktX5_goesBy_5
def dkwX5_goesBy_3 : List UInt8 := [21, 4, 43, 182, 0, 50, 162, 0, 60, 42, 180, 0, 15, 21, 4, 42, 180, 0, 15, 21, 4, 46, 42]
abbrev dktX5_goesBy_3 : List UInt8 := dkwX5_goesBy_3 ++ dktX5_goesBy_4
def dkwX5_goesBy_2 : List UInt8 := [21, 4, 120, 130, 62, 42, 89, 180, 0, 79, 4, 96, 181, 0, 79, 132, 4, 1, 167, 255, 199, 3, 54, 4]
abbrev dktX5_goesBy_2 : List UInt8 := dkwX5_goesBy_2 ++ dktX5_goesBy_3
def dkwX5_goesBy_1 : List UInt8 := [42, 43, 21, 4, 182, 0, 141, 79, 44, 42, 43, 21, 4, 182, 0, 143, 154, 0, 6, 167, 0, 20, 29, 4]
abbrev dktX5_goesBy_1 : List UInt8 := dkwX5_goesBy_1 ++ dktX5_goesBy_2
def dkwX5_goesBy_0 : List UInt8 := [42, 43, 182, 0, 137, 62, 3, 54, 4, 21, 4, 43, 182, 0, 50, 162, 0, 54, 42, 180, 0, 36, 21, 4]
abbrev dktX5_goesBy_0 : List UInt8 := dkwX5_goesBy_0 ++ dktX5_goesBy_1
theorem dksX5_goesBy_0 : cX5_goesBy.data.toList.drop 0 = dktX5_goesBy_0 := by decide +kernel
theorem dksX5_goesBy_1 : cX5_goesBy.data.toList.drop 24 = dktX5_goesBy_1 := dk_seg dksX5_goesBy_0 24 rfl rfl
theorem dksX5_goesBy_2 : cX5_goesBy.data.toList.drop 48 = dktX5_goesBy_2 := dk_seg dksX5_goesBy_1 24 rfl rfl
theorem dksX5_goesBy_3 : cX5_goesBy.data.toList.drop 72 = dktX5_goesBy_3 := dk_seg dksX5_goesBy_2 24 rfl rfl
theorem dksX5_goesBy_4 : cX5_goesBy.data.toList.drop 95 = dktX5_goesBy_4 := dk_seg dksX5_goesBy_3 23 rfl rfl
theorem dksX5_goesBy_5 : cX5_goesBy.data.toList.drop 119 = dktX5_goesBy_5 := dk_seg dksX5_goesBy_4 24 rfl rfl
theorem dksX5_goesBy_6 : cX5_goesBy.data.toList.drop 143 = dktX5_goesBy_6 := dk_seg dksX5_goesBy_5 24 rfl rfl
theorem dX5_goesBy_0 : decode cX5_goesBy 0 = .ok (.aload_n 0, 1) := dk_42 (dk_at dksX5_goesBy_0 0 rfl rfl)
theorem dX5_goesBy_1 : decode cX5_goesBy 1 = .ok (.aload_n 1, 1) := dk_43 (dk_at dksX5_goesBy_0 1 rfl rfl)
theorem dX5_goesBy_2 : decode cX5_goesBy 2 = .ok (.invokevirtual 137, 3) := dk_182 0 137 (dk_at dksX5_goesBy_0 2 rfl rfl)
theorem dX5_goesBy_5 : decode cX5_goesBy 5 = .ok (.istore_n 3, 1) := dk_62 (dk_at dksX5_goesBy_0 5 rfl rfl)
theorem dX5_goesBy_6 : decode cX5_goesBy 6 = .ok (.iconst 0, 1) := dk_3 (dk_at dksX5_goesBy_0 6 rfl rfl)
theorem dX5_goesBy_7 : decode cX5_goesBy 7 = .ok (.istore 4, 2) := dk_54 4 (dk_at dksX5_goesBy_0 7 rfl rfl)
theorem dX5_goesBy_9 : decode cX5_goesBy 9 = .ok (.iload 4, 2) := dk_21 4 (dk_at dksX5_goesBy_0 9 rfl rfl)
theorem dX5_goesBy_11 : decode cX5_goesBy 11 = .ok (.aload_n 1, 1) := dk_43 (dk_at dksX5_goesBy_0 11 rfl rfl)
theorem dX5_goesBy_12 : decode cX5_goesBy 12 = .ok (.invokevirtual 50, 3) := dk_182 0 50 (dk_at dksX5_goesBy_0 12 rfl rfl)
theorem dX5_goesBy_15 : decode cX5_goesBy 15 = .ok (.if_icmp .ge 54, 3) := dk_162 0 54 (dk_at dksX5_goesBy_0 15 rfl rfl)
theorem dX5_goesBy_18 : decode cX5_goesBy 18 = .ok (.aload_n 0, 1) := dk_42 (dk_at dksX5_goesBy_0 18 rfl rfl)
theorem dX5_goesBy_19 : decode cX5_goesBy 19 = .ok (.getfield 36, 3) := dk_180 0 36 (dk_at dksX5_goesBy_0 19 rfl rfl)
theorem dX5_goesBy_22 : decode cX5_goesBy 22 = .ok (.iload 4, 2) := dk_21 4 (dk_at dksX5_goesBy_0 22 rfl rfl)
theorem dX5_goesBy_24 : decode cX5_goesBy 24 = .ok (.aload_n 0, 1) := dk_42 (dk_at dksX5_goesBy_1 0 rfl rfl)
theorem dX5_goesBy_25 : decode cX5_goesBy 25 = .ok (.aload_n 1, 1) := dk_43 (dk_at dksX5_goesBy_1 1 rfl rfl)
theorem dX5_goesBy_26 : decode cX5_goesBy 26 = .ok (.iload 4, 2) := dk_21 4 (dk_at dksX5_goesBy_1 2 rfl rfl)
theorem dX5_goesBy_28 : decode cX5_goesBy 28 = .ok (.invokevirtual 141, 3) := dk_182 0 141 (dk_at dksX5_goesBy_1 4 rfl rfl)
theorem dX5_goesBy_31 : decode cX5_goesBy 31 = .ok (.iastore, 1) := dk_79 (dk_at dksX5_goesBy_1 7 rfl rfl)
theorem dX5_goesBy_32 : decode cX5_goesBy 32 = .ok (.aload_n 2, 1) := dk_44 (dk_at dksX5_goesBy_1 8 rfl rfl)
theorem dX5_goesBy_33 : decode cX5_goesBy 33 = .ok (.aload_n 0, 1) := dk_42 (dk_at dksX5_goesBy_1 9 rfl rfl)
theorem dX5_goesBy_34 : decode cX5_goesBy 34 = .ok (.aload_n 1, 1) := dk_43 (dk_at dksX5_goesBy_1 10 rfl rfl)
theorem dX5_goesBy_35 : decode cX5_goesBy 35 = .ok (.iload 4, 2) := dk_21 4 (dk_at dksX5_goesBy_1 11 rfl rfl)
theorem dX5_goesBy_37 : decode cX5_goesBy 37 = .ok (.invokevirtual 143, 3) := dk_182 0 143 (dk_at dksX5_goesBy_1 13 rfl rfl)
theorem dX5_goesBy_40 : decode cX5_goesBy 40 = .ok (.ifCond .ne 6, 3) := dk_154 0 6 (dk_at dksX5_goesBy_1 16 rfl rfl)
theorem dX5_goesBy_43 : decode cX5_goesBy 43 = .ok (.goto 20, 3) := dk_167 0 20 (dk_at dksX5_goesBy_1 19 rfl rfl)
theorem dX5_goesBy_46 : decode cX5_goesBy 46 = .ok (.iload_n 3, 1) := dk_29 (dk_at dksX5_goesBy_1 22 rfl rfl)
theorem dX5_goesBy_47 : decode cX5_goesBy 47 = .ok (.iconst 1, 1) := dk_4 (dk_at dksX5_goesBy_1 23 rfl rfl)
theorem dX5_goesBy_48 : decode cX5_goesBy 48 = .ok (.iload 4, 2) := dk_21 4 (dk_at dksX5_goesBy_2 0 rfl rfl)
theorem dX5_goesBy_50 : decode cX5_goesBy 50 = .ok (.ishl, 1) := dk_120 (dk_at dksX5_goesBy_2 2 rfl rfl)
theorem dX5_goesBy_51 : decode cX5_goesBy 51 = .ok (.ixor, 1) := dk_130 (dk_at dksX5_goesBy_2 3 rfl rfl)
theorem dX5_goesBy_52 : decode cX5_goesBy 52 = .ok (.istore_n 3, 1) := dk_62 (dk_at dksX5_goesBy_2 4 rfl rfl)
theorem dX5_goesBy_53 : decode cX5_goesBy 53 = .ok (.aload_n 0, 1) := dk_42 (dk_at dksX5_goesBy_2 5 rfl rfl)
theorem dX5_goesBy_54 : decode cX5_goesBy 54 = .ok (.dup, 1) := dk_89 (dk_at dksX5_goesBy_2 6 rfl rfl)
theorem dX5_goesBy_55 : decode cX5_goesBy 55 = .ok (.getfield 79, 3) := dk_180 0 79 (dk_at dksX5_goesBy_2 7 rfl rfl)
theorem dX5_goesBy_58 : decode cX5_goesBy 58 = .ok (.iconst 1, 1) := dk_4 (dk_at dksX5_goesBy_2 10 rfl rfl)
theorem dX5_goesBy_59 : decode cX5_goesBy 59 = .ok (.iadd, 1) := dk_96 (dk_at dksX5_goesBy_2 11 rfl rfl)
theorem dX5_goesBy_60 : decode cX5_goesBy 60 = .ok (.putfield 79, 3) := dk_181 0 79 (dk_at dksX5_goesBy_2 12 rfl rfl)
theorem dX5_goesBy_63 : decode cX5_goesBy 63 = .ok (.iinc 4 1, 3) := dk_132 4 1 (dk_at dksX5_goesBy_2 15 rfl rfl)
theorem dX5_goesBy_66 : decode cX5_goesBy 66 = .ok (.goto (-57), 3) := dk_167 255 199 (dk_at dksX5_goesBy_2 18 rfl rfl)
theorem dX5_goesBy_69 : decode cX5_goesBy 69 = .ok (.iconst 0, 1) := dk_3 (dk_at dksX5_goesBy_2 21 rfl rfl)
theorem dX5_goesBy_70 : decode cX5_goesBy 70 = .ok (.istore 4, 2) := dk_54 4 (dk_at dksX5_goesBy_2 22 rfl rfl)
theorem dX5_goesBy_72 : decode cX5_goesBy 72 = .ok (.iload 4, 2) := dk_21 4 (dk_at dksX5_goesBy_3 0 rfl rfl)
theorem dX5_goesBy_74 : decode cX5_goesBy 74 = .ok (.aload_n 1, 1) := dk_43 (dk_at dksX5_goesBy_3 2 rfl rfl)
theorem dX5_goesBy_75 : decode cX5_goesBy 75 = .ok (.invokevirtual 50, 3) := dk_182 0 50 (dk_at dksX5_goesBy_3 3 rfl rfl)
theorem dX5_goesBy_78 : decode cX5_goesBy 78 = .ok (.if_icmp .ge 60, 3) := dk_162 0 60 (dk_at dksX5_goesBy_3 6 rfl rfl)
theorem dX5_goesBy_81 : decode cX5_goesBy 81 = .ok (.aload_n 0, 1) := dk_42 (dk_at dksX5_goesBy_3 9 rfl rfl)
theorem dX5_goesBy_82 : decode cX5_goesBy 82 = .ok (.getfield 15, 3) := dk_180 0 15 (dk_at dksX5_goesBy_3 10 rfl rfl)
theorem dX5_goesBy_85 : decode cX5_goesBy 85 = .ok (.iload 4, 2) := dk_21 4 (dk_at dksX5_goesBy_3 13 rfl rfl)
theorem dX5_goesBy_87 : decode cX5_goesBy 87 = .ok (.aload_n 0, 1) := dk_42 (dk_at dksX5_goesBy_3 15 rfl rfl)
theorem dX5_goesBy_88 : decode cX5_goesBy 88 = .ok (.getfield 15, 3) := dk_180 0 15 (dk_at dksX5_goesBy_3 16 rfl rfl)
theorem dX5_goesBy_91 : decode cX5_goesBy 91 = .ok (.iload 4, 2) := dk_21 4 (dk_at dksX5_goesBy_3 19 rfl rfl)
theorem dX5_goesBy_93 : decode cX5_goesBy 93 = .ok (.iaload, 1) := dk_46 (dk_at dksX5_goesBy_3 21 rfl rfl)
theorem dX5_goesBy_94 : decode cX5_goesBy 94 = .ok (.aload_n 0, 1) := dk_42 (dk_at dksX5_goesBy_3 22 rfl rfl)
theorem dX5_goesBy_95 : decode cX5_goesBy 95 = .ok (.iload 4, 2) := dk_21 4 (dk_at dksX5_goesBy_4 0 rfl rfl)
theorem dX5_goesBy_97 : decode cX5_goesBy 97 = .ok (.invokevirtual 123, 3) := dk_182 0 123 (dk_at dksX5_goesBy_4 2 rfl rfl)
theorem dX5_goesBy_100 : decode cX5_goesBy 100 = .ok (.ifCond .eq 13, 3) := dk_153 0 13 (dk_at dksX5_goesBy_4 5 rfl rfl)
theorem dX5_goesBy_103 : decode cX5_goesBy 103 = .ok (.aload_n 0, 1) := dk_42 (dk_at dksX5_goesBy_4 8 rfl rfl)
theorem dX5_goesBy_104 : decode cX5_goesBy 104 = .ok (.getfield 36, 3) := dk_180 0 36 (dk_at dksX5_goesBy_4 9 rfl rfl)
theorem dX5_goesBy_107 : decode cX5_goesBy 107 = .ok (.iload 4, 2) := dk_21 4 (dk_at dksX5_goesBy_4 12 rfl rfl)
theorem dX5_goesBy_109 : decode cX5_goesBy 109 = .ok (.iaload, 1) := dk_46 (dk_at dksX5_goesBy_4 14 rfl rfl)
theorem dX5_goesBy_110 : decode cX5_goesBy 110 = .ok (.goto 11, 3) := dk_167 0 11 (dk_at dksX5_goesBy_4 15 rfl rfl)
theorem dX5_goesBy_113 : decode cX5_goesBy 113 = .ok (.aload_n 0, 1) := dk_42 (dk_at dksX5_goesBy_4 18 rfl rfl)
theorem dX5_goesBy_114 : decode cX5_goesBy 114 = .ok (.getfield 36, 3) := dk_180 0 36 (dk_at dksX5_goesBy_4 19 rfl rfl)
theorem dX5_goesBy_117 : decode cX5_goesBy 117 = .ok (.iload 4, 2) := dk_21 4 (dk_at dksX5_goesBy_4 22 rfl rfl)
theorem dX5_goesBy_119 : decode cX5_goesBy 119 = .ok (.iaload, 1) := dk_46 (dk_at dksX5_goesBy_5 0 rfl rfl)
theorem dX5_goesBy_120 : decode cX5_goesBy 120 = .ok (.ineg, 1) := dk_116 (dk_at dksX5_goesBy_5 1 rfl rfl)
theorem dX5_goesBy_121 : decode cX5_goesBy 121 = .ok (.iadd, 1) := dk_96 (dk_at dksX5_goesBy_5 2 rfl rfl)
theorem dX5_goesBy_122 : decode cX5_goesBy 122 = .ok (.sipush (-9999), 3) := dk_17 216 241 (dk_at dksX5_goesBy_5 3 rfl rfl)
theorem dX5_goesBy_125 : decode cX5_goesBy 125 = .ok (.sipush 9999, 3) := dk_17 39 15 (dk_at dksX5_goesBy_5 6 rfl rfl)
theorem dX5_goesBy_128 : decode cX5_goesBy 128 = .ok (.invokestatic 149, 3) := dk_184 0 149 (dk_at dksX5_goesBy_5 9 rfl rfl)
theorem dX5_goesBy_131 : decode cX5_goesBy 131 = .ok (.iastore, 1) := dk_79 (dk_at dksX5_goesBy_5 12 rfl rfl)
theorem dX5_goesBy_132 : decode cX5_goesBy 132 = .ok (.iinc 4 1, 3) := dk_132 4 1 (dk_at dksX5_goesBy_5 13 rfl rfl)
theorem dX5_goesBy_135 : decode cX5_goesBy 135 = .ok (.goto (-63), 3) := dk_167 255 193 (dk_at dksX5_goesBy_5 16 rfl rfl)
theorem dX5_goesBy_138 : decode cX5_goesBy 138 = .ok (.aload_n 0, 1) := dk_42 (dk_at dksX5_goesBy_5 19 rfl rfl)
theorem dX5_goesBy_139 : decode cX5_goesBy 139 = .ok (.iload_n 3, 1) := dk_29 (dk_at dksX5_goesBy_5 20 rfl rfl)
theorem dX5_goesBy_140 : decode cX5_goesBy 140 = .ok (.putfield 46, 3) := dk_181 0 46 (dk_at dksX5_goesBy_5 21 rfl rfl)
theorem dX5_goesBy_143 : decode cX5_goesBy 143 = .ok (.aload_n 0, 1) := dk_42 (dk_at dksX5_goesBy_6 0 rfl rfl)
theorem dX5_goesBy_144 : decode cX5_goesBy 144 = .ok (.dup, 1) := dk_89 (dk_at dksX5_goesBy_6 1 rfl rfl)
theorem dX5_goesBy_145 : decode cX5_goesBy 145 = .ok (.getfield 76, 3) := dk_180 0 76 (dk_at dksX5_goesBy_6 2 rfl rfl)
theorem dX5_goesBy_148 : decode cX5_goesBy 148 = .ok (.iconst 1, 1) := dk_4 (dk_at dksX5_goesBy_6 5 rfl rfl)
theorem dX5_goesBy_149 : decode cX5_goesBy 149 = .ok (.iadd, 1) := dk_96 (dk_at dksX5_goesBy_6 6 rfl rfl)
theorem dX5_goesBy_150 : decode cX5_goesBy 150 = .ok (.putfield 76, 3) := dk_181 0 76 (dk_at dksX5_goesBy_6 7 rfl rfl)
theorem dX5_goesBy_153 : decode cX5_goesBy 153 = .ok (.return_, 1) := dk_177 (dk_at dksX5_goesBy_6 10 rfl rfl)
abbrev cX5_next : ByteArray := prog_3_method_14_code
def yX5_next : MethodName := ⟨RX5, "next", "(LPartedSide$Text;)I"⟩
def dkwX5_next_1 : List UInt8 := [120, 167, 0, 4, 3, 128, 61, 132, 3, 1, 167, 255, 226, 28, 172]
abbrev dktX5_next_1 : List UInt8 := dkwX5_next_1 ++ []
def dkwX5_next_0 : List UInt8 := [3, 61, 3, 62, 29, 43, 182, 0, 50, 162, 0, 28, 28, 42, 43, 29, 182, 0, 133, 153, 0, 9, 4, 29]
abbrev dktX5_next_0 : List UInt8 := dkwX5_next_0 ++ dktX5_next_1
theorem dksX5_next_0 : cX5_next.data.toList.drop 0 = dktX5_next_0 := by decide +kernel
theorem dksX5_next_1 : cX5_next.data.toList.drop 24 = dktX5_next_1 := dk_seg dksX5_next_0 24 rfl rfl
theorem dX5_next_0 : decode cX5_next 0 = .ok (.iconst 0, 1) := dk_3 (dk_at dksX5_next_0 0 rfl rfl)
theorem dX5_next_1 : decode cX5_next 1 = .ok (.istore_n 2, 1) := dk_61 (dk_at dksX5_next_0 1 rfl rfl)
theorem dX5_next_2 : decode cX5_next 2 = .ok (.iconst 0, 1) := dk_3 (dk_at dksX5_next_0 2 rfl rfl)
theorem dX5_next_3 : decode cX5_next 3 = .ok (.istore_n 3, 1) := dk_62 (dk_at dksX5_next_0 3 rfl rfl)
theorem dX5_next_4 : decode cX5_next 4 = .ok (.iload_n 3, 1) := dk_29 (dk_at dksX5_next_0 4 rfl rfl)
theorem dX5_next_5 : decode cX5_next 5 = .ok (.aload_n 1, 1) := dk_43 (dk_at dksX5_next_0 5 rfl rfl)
theorem dX5_next_6 : decode cX5_next 6 = .ok (.invokevirtual 50, 3) := dk_182 0 50 (dk_at dksX5_next_0 6 rfl rfl)
theorem dX5_next_9 : decode cX5_next 9 = .ok (.if_icmp .ge 28, 3) := dk_162 0 28 (dk_at dksX5_next_0 9 rfl rfl)
theorem dX5_next_12 : decode cX5_next 12 = .ok (.iload_n 2, 1) := dk_28 (dk_at dksX5_next_0 12 rfl rfl)
theorem dX5_next_13 : decode cX5_next 13 = .ok (.aload_n 0, 1) := dk_42 (dk_at dksX5_next_0 13 rfl rfl)
theorem dX5_next_14 : decode cX5_next 14 = .ok (.aload_n 1, 1) := dk_43 (dk_at dksX5_next_0 14 rfl rfl)
theorem dX5_next_15 : decode cX5_next 15 = .ok (.iload_n 3, 1) := dk_29 (dk_at dksX5_next_0 15 rfl rfl)
theorem dX5_next_16 : decode cX5_next 16 = .ok (.invokevirtual 133, 3) := dk_182 0 133 (dk_at dksX5_next_0 16 rfl rfl)
theorem dX5_next_19 : decode cX5_next 19 = .ok (.ifCond .eq 9, 3) := dk_153 0 9 (dk_at dksX5_next_0 19 rfl rfl)
theorem dX5_next_22 : decode cX5_next 22 = .ok (.iconst 1, 1) := dk_4 (dk_at dksX5_next_0 22 rfl rfl)
theorem dX5_next_23 : decode cX5_next 23 = .ok (.iload_n 3, 1) := dk_29 (dk_at dksX5_next_0 23 rfl rfl)
theorem dX5_next_24 : decode cX5_next 24 = .ok (.ishl, 1) := dk_120 (dk_at dksX5_next_1 0 rfl rfl)
theorem dX5_next_25 : decode cX5_next 25 = .ok (.goto 4, 3) := dk_167 0 4 (dk_at dksX5_next_1 1 rfl rfl)
theorem dX5_next_28 : decode cX5_next 28 = .ok (.iconst 0, 1) := dk_3 (dk_at dksX5_next_1 4 rfl rfl)
theorem dX5_next_29 : decode cX5_next 29 = .ok (.ior, 1) := dk_128 (dk_at dksX5_next_1 5 rfl rfl)
theorem dX5_next_30 : decode cX5_next 30 = .ok (.istore_n 2, 1) := dk_61 (dk_at dksX5_next_1 6 rfl rfl)
theorem dX5_next_31 : decode cX5_next 31 = .ok (.iinc 3 1, 3) := dk_132 3 1 (dk_at dksX5_next_1 7 rfl rfl)
theorem dX5_next_34 : decode cX5_next 34 = .ok (.goto (-30), 3) := dk_167 255 226 (dk_at dksX5_next_1 10 rfl rfl)
theorem dX5_next_37 : decode cX5_next 37 = .ok (.iload_n 2, 1) := dk_28 (dk_at dksX5_next_1 13 rfl rfl)
theorem dX5_next_38 : decode cX5_next 38 = .ok (.ireturn, 1) := dk_172 (dk_at dksX5_next_1 14 rfl rfl)
abbrev cX5_liesIn : ByteArray := prog_3_method_8_code
def yX5_liesIn : MethodName := ⟨RX5, "liesIn", "(LPartedSide$Text;IIII)Z"⟩
def dkwX5_liesIn_3 : List UInt8 := [182, 0, 118, 158, 0, 7, 4, 167, 0, 4, 3, 172]
abbrev dktX5_liesIn_3 : List UInt8 := dkwX5_liesIn_3 ++ []
def dkwX5_liesIn_2 : List UInt8 := [79, 42, 180, 0, 42, 180, 0, 96, 5, 21, 5, 79, 43, 180, 0, 110, 3, 50, 42, 180, 0, 42]
abbrev dktX5_liesIn_2 : List UInt8 := dkwX5_liesIn_2 ++ dktX5_liesIn_3
def dkwX5_liesIn_1 : List UInt8 := [182, 0, 114, 87, 42, 180, 0, 42, 180, 0, 96, 3, 29, 79, 42, 180, 0, 42, 180, 0, 96, 4, 21, 4]
abbrev dktX5_liesIn_1 : List UInt8 := dkwX5_liesIn_1 ++ dktX5_liesIn_2
def dkwX5_liesIn_0 : List UInt8 := [43, 180, 0, 110, 3, 50, 199, 0, 14, 29, 4, 160, 0, 7, 4, 167, 0, 4, 3, 172, 42, 43, 28]
abbrev dktX5_liesIn_0 : List UInt8 := dkwX5_liesIn_0 ++ dktX5_liesIn_1
theorem dksX5_liesIn_0 : cX5_liesIn.data.toList.drop 0 = dktX5_liesIn_0 := by decide +kernel
theorem dksX5_liesIn_1 : cX5_liesIn.data.toList.drop 23 = dktX5_liesIn_1 := dk_seg dksX5_liesIn_0 23 rfl rfl
theorem dksX5_liesIn_2 : cX5_liesIn.data.toList.drop 47 = dktX5_liesIn_2 := dk_seg dksX5_liesIn_1 24 rfl rfl
theorem dksX5_liesIn_3 : cX5_liesIn.data.toList.drop 69 = dktX5_liesIn_3 := dk_seg dksX5_liesIn_2 22 rfl rfl
theorem dX5_liesIn_0 : decode cX5_liesIn 0 = .ok (.aload_n 1, 1) := dk_43 (dk_at dksX5_liesIn_0 0 rfl rfl)
theorem dX5_liesIn_1 : decode cX5_liesIn 1 = .ok (.getfield 110, 3) := dk_180 0 110 (dk_at dksX5_liesIn_0 1 rfl rfl)
theorem dX5_liesIn_4 : decode cX5_liesIn 4 = .ok (.iconst 0, 1) := dk_3 (dk_at dksX5_liesIn_0 4 rfl rfl)
theorem dX5_liesIn_5 : decode cX5_liesIn 5 = .ok (.aaload, 1) := dk_50 (dk_at dksX5_liesIn_0 5 rfl rfl)
theorem dX5_liesIn_6 : decode cX5_liesIn 6 = .ok (.ifnonnull 14, 3) := dk_199 0 14 (dk_at dksX5_liesIn_0 6 rfl rfl)
theorem dX5_liesIn_9 : decode cX5_liesIn 9 = .ok (.iload_n 3, 1) := dk_29 (dk_at dksX5_liesIn_0 9 rfl rfl)
theorem dX5_liesIn_10 : decode cX5_liesIn 10 = .ok (.iconst 1, 1) := dk_4 (dk_at dksX5_liesIn_0 10 rfl rfl)
theorem dX5_liesIn_11 : decode cX5_liesIn 11 = .ok (.if_icmp .ne 7, 3) := dk_160 0 7 (dk_at dksX5_liesIn_0 11 rfl rfl)
theorem dX5_liesIn_14 : decode cX5_liesIn 14 = .ok (.iconst 1, 1) := dk_4 (dk_at dksX5_liesIn_0 14 rfl rfl)
theorem dX5_liesIn_15 : decode cX5_liesIn 15 = .ok (.goto 4, 3) := dk_167 0 4 (dk_at dksX5_liesIn_0 15 rfl rfl)
theorem dX5_liesIn_18 : decode cX5_liesIn 18 = .ok (.iconst 0, 1) := dk_3 (dk_at dksX5_liesIn_0 18 rfl rfl)
theorem dX5_liesIn_19 : decode cX5_liesIn 19 = .ok (.ireturn, 1) := dk_172 (dk_at dksX5_liesIn_0 19 rfl rfl)
theorem dX5_liesIn_20 : decode cX5_liesIn 20 = .ok (.aload_n 0, 1) := dk_42 (dk_at dksX5_liesIn_0 20 rfl rfl)
theorem dX5_liesIn_21 : decode cX5_liesIn 21 = .ok (.aload_n 1, 1) := dk_43 (dk_at dksX5_liesIn_0 21 rfl rfl)
theorem dX5_liesIn_22 : decode cX5_liesIn 22 = .ok (.iload_n 2, 1) := dk_28 (dk_at dksX5_liesIn_0 22 rfl rfl)
theorem dX5_liesIn_23 : decode cX5_liesIn 23 = .ok (.invokevirtual 114, 3) := dk_182 0 114 (dk_at dksX5_liesIn_1 0 rfl rfl)
theorem dX5_liesIn_26 : decode cX5_liesIn 26 = .ok (.pop, 1) := dk_87 (dk_at dksX5_liesIn_1 3 rfl rfl)
theorem dX5_liesIn_27 : decode cX5_liesIn 27 = .ok (.aload_n 0, 1) := dk_42 (dk_at dksX5_liesIn_1 4 rfl rfl)
theorem dX5_liesIn_28 : decode cX5_liesIn 28 = .ok (.getfield 42, 3) := dk_180 0 42 (dk_at dksX5_liesIn_1 5 rfl rfl)
theorem dX5_liesIn_31 : decode cX5_liesIn 31 = .ok (.getfield 96, 3) := dk_180 0 96 (dk_at dksX5_liesIn_1 8 rfl rfl)
theorem dX5_liesIn_34 : decode cX5_liesIn 34 = .ok (.iconst 0, 1) := dk_3 (dk_at dksX5_liesIn_1 11 rfl rfl)
theorem dX5_liesIn_35 : decode cX5_liesIn 35 = .ok (.iload_n 3, 1) := dk_29 (dk_at dksX5_liesIn_1 12 rfl rfl)
theorem dX5_liesIn_36 : decode cX5_liesIn 36 = .ok (.iastore, 1) := dk_79 (dk_at dksX5_liesIn_1 13 rfl rfl)
theorem dX5_liesIn_37 : decode cX5_liesIn 37 = .ok (.aload_n 0, 1) := dk_42 (dk_at dksX5_liesIn_1 14 rfl rfl)
theorem dX5_liesIn_38 : decode cX5_liesIn 38 = .ok (.getfield 42, 3) := dk_180 0 42 (dk_at dksX5_liesIn_1 15 rfl rfl)
theorem dX5_liesIn_41 : decode cX5_liesIn 41 = .ok (.getfield 96, 3) := dk_180 0 96 (dk_at dksX5_liesIn_1 18 rfl rfl)
theorem dX5_liesIn_44 : decode cX5_liesIn 44 = .ok (.iconst 1, 1) := dk_4 (dk_at dksX5_liesIn_1 21 rfl rfl)
theorem dX5_liesIn_45 : decode cX5_liesIn 45 = .ok (.iload 4, 2) := dk_21 4 (dk_at dksX5_liesIn_1 22 rfl rfl)
theorem dX5_liesIn_47 : decode cX5_liesIn 47 = .ok (.iastore, 1) := dk_79 (dk_at dksX5_liesIn_2 0 rfl rfl)
theorem dX5_liesIn_48 : decode cX5_liesIn 48 = .ok (.aload_n 0, 1) := dk_42 (dk_at dksX5_liesIn_2 1 rfl rfl)
theorem dX5_liesIn_49 : decode cX5_liesIn 49 = .ok (.getfield 42, 3) := dk_180 0 42 (dk_at dksX5_liesIn_2 2 rfl rfl)
theorem dX5_liesIn_52 : decode cX5_liesIn 52 = .ok (.getfield 96, 3) := dk_180 0 96 (dk_at dksX5_liesIn_2 5 rfl rfl)
theorem dX5_liesIn_55 : decode cX5_liesIn 55 = .ok (.iconst 2, 1) := dk_5 (dk_at dksX5_liesIn_2 8 rfl rfl)
theorem dX5_liesIn_56 : decode cX5_liesIn 56 = .ok (.iload 5, 2) := dk_21 5 (dk_at dksX5_liesIn_2 9 rfl rfl)
theorem dX5_liesIn_58 : decode cX5_liesIn 58 = .ok (.iastore, 1) := dk_79 (dk_at dksX5_liesIn_2 11 rfl rfl)
theorem dX5_liesIn_59 : decode cX5_liesIn 59 = .ok (.aload_n 1, 1) := dk_43 (dk_at dksX5_liesIn_2 12 rfl rfl)
theorem dX5_liesIn_60 : decode cX5_liesIn 60 = .ok (.getfield 110, 3) := dk_180 0 110 (dk_at dksX5_liesIn_2 13 rfl rfl)
theorem dX5_liesIn_63 : decode cX5_liesIn 63 = .ok (.iconst 0, 1) := dk_3 (dk_at dksX5_liesIn_2 16 rfl rfl)
theorem dX5_liesIn_64 : decode cX5_liesIn 64 = .ok (.aaload, 1) := dk_50 (dk_at dksX5_liesIn_2 17 rfl rfl)
theorem dX5_liesIn_65 : decode cX5_liesIn 65 = .ok (.aload_n 0, 1) := dk_42 (dk_at dksX5_liesIn_2 18 rfl rfl)
theorem dX5_liesIn_66 : decode cX5_liesIn 66 = .ok (.getfield 42, 3) := dk_180 0 42 (dk_at dksX5_liesIn_2 19 rfl rfl)
theorem dX5_liesIn_69 : decode cX5_liesIn 69 = .ok (.invokevirtual 118, 3) := dk_182 0 118 (dk_at dksX5_liesIn_3 0 rfl rfl)
theorem dX5_liesIn_72 : decode cX5_liesIn 72 = .ok (.ifCond .le 7, 3) := dk_158 0 7 (dk_at dksX5_liesIn_3 3 rfl rfl)
theorem dX5_liesIn_75 : decode cX5_liesIn 75 = .ok (.iconst 1, 1) := dk_4 (dk_at dksX5_liesIn_3 6 rfl rfl)
theorem dX5_liesIn_76 : decode cX5_liesIn 76 = .ok (.goto 4, 3) := dk_167 0 4 (dk_at dksX5_liesIn_3 7 rfl rfl)
theorem dX5_liesIn_79 : decode cX5_liesIn 79 = .ok (.iconst 0, 1) := dk_3 (dk_at dksX5_liesIn_3 10 rfl rfl)
theorem dX5_liesIn_80 : decode cX5_liesIn 80 = .ok (.ireturn, 1) := dk_172 (dk_at dksX5_liesIn_3 11 rfl rfl)
abbrev cX5_areUnlike : ByteArray := prog_3_method_9_code
def yX5_areUnlike : MethodName := ⟨RX5, "areUnlike", "(LPartedSide$Text;I)Z"⟩
def dkwX5_areUnlike_1 : List UInt8 := [182, 0, 123, 159, 0, 7, 4, 167, 0, 4, 3, 172]
abbrev dktX5_areUnlike_1 : List UInt8 := dkwX5_areUnlike_1 ++ []
def dkwX5_areUnlike_0 : List UInt8 := [42, 180, 0, 32, 4, 50, 43, 28, 182, 0, 99, 62, 29, 2, 159, 0, 20, 42, 29, 182, 0, 123, 42, 28]
abbrev dktX5_areUnlike_0 : List UInt8 := dkwX5_areUnlike_0 ++ dktX5_areUnlike_1
theorem dksX5_areUnlike_0 : cX5_areUnlike.data.toList.drop 0 = dktX5_areUnlike_0 := by decide +kernel
theorem dksX5_areUnlike_1 : cX5_areUnlike.data.toList.drop 24 = dktX5_areUnlike_1 := dk_seg dksX5_areUnlike_0 24 rfl rfl
theorem dX5_areUnlike_0 : decode cX5_areUnlike 0 = .ok (.aload_n 0, 1) := dk_42 (dk_at dksX5_areUnlike_0 0 rfl rfl)
theorem dX5_areUnlike_1 : decode cX5_areUnlike 1 = .ok (.getfield 32, 3) := dk_180 0 32 (dk_at dksX5_areUnlike_0 1 rfl rfl)
theorem dX5_areUnlike_4 : decode cX5_areUnlike 4 = .ok (.iconst 1, 1) := dk_4 (dk_at dksX5_areUnlike_0 4 rfl rfl)
theorem dX5_areUnlike_5 : decode cX5_areUnlike 5 = .ok (.aaload, 1) := dk_50 (dk_at dksX5_areUnlike_0 5 rfl rfl)
theorem dX5_areUnlike_6 : decode cX5_areUnlike 6 = .ok (.aload_n 1, 1) := dk_43 (dk_at dksX5_areUnlike_0 6 rfl rfl)
theorem dX5_areUnlike_7 : decode cX5_areUnlike 7 = .ok (.iload_n 2, 1) := dk_28 (dk_at dksX5_areUnlike_0 7 rfl rfl)
theorem dX5_areUnlike_8 : decode cX5_areUnlike 8 = .ok (.invokevirtual 99, 3) := dk_182 0 99 (dk_at dksX5_areUnlike_0 8 rfl rfl)
theorem dX5_areUnlike_11 : decode cX5_areUnlike 11 = .ok (.istore_n 3, 1) := dk_62 (dk_at dksX5_areUnlike_0 11 rfl rfl)
theorem dX5_areUnlike_12 : decode cX5_areUnlike 12 = .ok (.iload_n 3, 1) := dk_29 (dk_at dksX5_areUnlike_0 12 rfl rfl)
theorem dX5_areUnlike_13 : decode cX5_areUnlike 13 = .ok (.iconst (-1), 1) := dk_2 (dk_at dksX5_areUnlike_0 13 rfl rfl)
theorem dX5_areUnlike_14 : decode cX5_areUnlike 14 = .ok (.if_icmp .eq 20, 3) := dk_159 0 20 (dk_at dksX5_areUnlike_0 14 rfl rfl)
theorem dX5_areUnlike_17 : decode cX5_areUnlike 17 = .ok (.aload_n 0, 1) := dk_42 (dk_at dksX5_areUnlike_0 17 rfl rfl)
theorem dX5_areUnlike_18 : decode cX5_areUnlike 18 = .ok (.iload_n 3, 1) := dk_29 (dk_at dksX5_areUnlike_0 18 rfl rfl)
theorem dX5_areUnlike_19 : decode cX5_areUnlike 19 = .ok (.invokevirtual 123, 3) := dk_182 0 123 (dk_at dksX5_areUnlike_0 19 rfl rfl)
theorem dX5_areUnlike_22 : decode cX5_areUnlike 22 = .ok (.aload_n 0, 1) := dk_42 (dk_at dksX5_areUnlike_0 22 rfl rfl)
theorem dX5_areUnlike_23 : decode cX5_areUnlike 23 = .ok (.iload_n 2, 1) := dk_28 (dk_at dksX5_areUnlike_0 23 rfl rfl)
theorem dX5_areUnlike_24 : decode cX5_areUnlike 24 = .ok (.invokevirtual 123, 3) := dk_182 0 123 (dk_at dksX5_areUnlike_1 0 rfl rfl)
theorem dX5_areUnlike_27 : decode cX5_areUnlike 27 = .ok (.if_icmp .eq 7, 3) := dk_159 0 7 (dk_at dksX5_areUnlike_1 3 rfl rfl)
theorem dX5_areUnlike_30 : decode cX5_areUnlike 30 = .ok (.iconst 1, 1) := dk_4 (dk_at dksX5_areUnlike_1 6 rfl rfl)
theorem dX5_areUnlike_31 : decode cX5_areUnlike 31 = .ok (.goto 4, 3) := dk_167 0 4 (dk_at dksX5_areUnlike_1 7 rfl rfl)
theorem dX5_areUnlike_34 : decode cX5_areUnlike 34 = .ok (.iconst 0, 1) := dk_3 (dk_at dksX5_areUnlike_1 10 rfl rfl)
theorem dX5_areUnlike_35 : decode cX5_areUnlike 35 = .ok (.ireturn, 1) := dk_172 (dk_at dksX5_areUnlike_1 11 rfl rfl)
theorem q119 : (Jvm.Cond.initialized "PartedSide$Barrack") ∈ lw_all := lw_g (lw_at lw_m1 12 rfl) rfl
theorem q351 : (Jvm.Cond.fieldLink "PartedSide$Barrack" (56 : Nat) "PartedSide$Text" "sleepers" "Ljava/util/ArrayList;") ∈ lw_all := lw_g (lw_at lw_m2 4 rfl) rfl
theorem q354 : (Jvm.Cond.fieldLink "PartedSide$Barrack" (110 : Nat) "PartedSide$Text" "laws" "[LPartedSide$Law;") ∈ lw_all := lw_g (lw_at lw_m2 7 rfl) rfl
theorem q357 : (Jvm.Cond.fieldLink "PartedSide$Barrack" (107 : Nat) "PartedSide$Text" "cold" "[I") ∈ lw_all := lw_g (lw_at lw_m2 10 rfl) rfl
theorem q368 : (Jvm.Cond.fieldLink "PartedSide$Barrack" (73 : Nat) "PartedSide$Text" "begins" "I") ∈ lw_all := lw_g (lw_at lw_m2 21 rfl) rfl
theorem q371 : (Jvm.Cond.fieldLink "PartedSide$Barrack" (82 : Nat) "PartedSide$Text" "seed" "I") ∈ lw_all := lw_g (lw_at lw_m2 24 rfl) rfl
theorem q393 : (Jvm.Cond.instantiable "PartedSide$Barrack" (11 : Nat)) ∈ lw_all := lw_g (lw_at lw_m2 46 rfl) rfl
theorem q395 : (Jvm.Cond.instanceMethod ({ cls := "PartedSide$Barrack", name := "<init>", desc := "()V" } : Jvm.MethodName)) ∈ lw_all := lw_g (lw_at lw_m2 48 rfl) rfl
theorem q396 : (Jvm.Cond.code ({ cls := "PartedSide$Barrack", name := "<init>", desc := "()V" } : Jvm.MethodName) prog_3_method_1_code (1 : Nat) (Option.none : Option Jvm.ClassFile.FieldType)) ∈ lw_all := lw_g (lw_at lw_m2 49 rfl) rfl
theorem q397 : (Jvm.Cond.methodLink "PartedSide$Barrack" (3 : Nat) ({ cls := "java/lang/Object", name := "<init>", desc := "()V" } : Jvm.MethodName)) ∈ lw_all := lw_g (lw_at lw_m2 50 rfl) rfl
theorem q398 : (Jvm.Cond.classLink "PartedSide$Barrack" (24 : Nat) "PartedSide$Side") ∈ lw_all := lw_g (lw_at lw_m2 51 rfl) rfl
theorem q400 : (Jvm.Cond.classLink "PartedSide$Barrack" (26 : Nat) "PartedSide$Before") ∈ lw_all := lw_g (lw_at lw_m2 53 rfl) rfl
theorem q402 : (Jvm.Cond.methodLinkNest "PartedSide$Barrack" (28 : Nat) ({ cls := "PartedSide$Before", name := "<init>", desc := "()V" } : Jvm.MethodName) "PartedSide") ∈ lw_tbl := lw_at lw_m2 55 rfl
theorem q410 : (Jvm.Cond.classLink "PartedSide$Barrack" (29 : Nat) "PartedSide$Behind") ∈ lw_all := lw_g (lw_at lw_m2 63 rfl) rfl
theorem q412 : (Jvm.Cond.methodLinkNest "PartedSide$Barrack" (31 : Nat) ({ cls := "PartedSide$Behind", name := "<init>", desc := "()V" } : Jvm.MethodName) "PartedSide") ∈ lw_tbl := lw_at lw_m2 65 rfl
theorem q417 : (Jvm.Cond.classLink "PartedSide$Barrack" (39 : Nat) "PartedSide$Asked") ∈ lw_all := lw_g (lw_at lw_m2 70 rfl) rfl
theorem q419 : (Jvm.Cond.methodLinkNest "PartedSide$Barrack" (41 : Nat) ({ cls := "PartedSide$Asked", name := "<init>", desc := "()V" } : Jvm.MethodName) "PartedSide") ∈ lw_tbl := lw_at lw_m2 72 rfl
theorem q425 : (Jvm.Cond.fieldLink "PartedSide$Barrack" (96 : Nat) "PartedSide$Asked" "v" "[I") ∈ lw_all := lw_g (lw_at lw_m2 78 rfl) rfl
theorem q433 : (Jvm.Cond.fieldLink "PartedSide$Barrack" (9 : Nat) "PartedSide$Barrack" "habit" "[I") ∈ lw_all := lw_g (lw_at lw_m2 86 rfl) rfl
theorem q435 : (Jvm.Cond.fieldLink "PartedSide$Barrack" (15 : Nat) "PartedSide$Barrack" "parted" "[I") ∈ lw_all := lw_g (lw_at lw_m2 88 rfl) rfl
theorem q437 : (Jvm.Cond.fieldLink "PartedSide$Barrack" (18 : Nat) "PartedSide$Barrack" "who" "[I") ∈ lw_all := lw_g (lw_at lw_m2 90 rfl) rfl
theorem q439 : (Jvm.Cond.fieldLink "PartedSide$Barrack" (21 : Nat) "PartedSide$Barrack" "turns" "[I") ∈ lw_all := lw_g (lw_at lw_m2 92 rfl) rfl
theorem q441 : (Jvm.Cond.fieldLink "PartedSide$Barrack" (46 : Nat) "PartedSide$Barrack" "row" "I") ∈ lw_all := lw_g (lw_at lw_m2 94 rfl) rfl
theorem q444 : (Jvm.Cond.fieldLink "PartedSide$Barrack" (76 : Nat) "PartedSide$Barrack" "hour" "I") ∈ lw_all := lw_g (lw_at lw_m2 97 rfl) rfl
theorem q446 : (Jvm.Cond.fieldLink "PartedSide$Barrack" (79 : Nat) "PartedSide$Barrack" "chilled" "I") ∈ lw_all := lw_g (lw_at lw_m2 99 rfl) rfl
theorem q449 : (Jvm.Cond.fieldLink "PartedSide$Barrack" (85 : Nat) "PartedSide$Barrack" "seed" "I") ∈ lw_all := lw_g (lw_at lw_m2 102 rfl) rfl
theorem q451 : (Jvm.Cond.fieldLink "PartedSide$Barrack" (32 : Nat) "PartedSide$Barrack" "sides" "[LPartedSide$Side;") ∈ lw_all := lw_g (lw_at lw_m2 104 rfl) rfl
theorem q452 : (Jvm.Cond.fieldLink "PartedSide$Barrack" (36 : Nat) "PartedSide$Barrack" "parts" "[I") ∈ lw_all := lw_g (lw_at lw_m2 105 rfl) rfl
theorem q453 : (Jvm.Cond.fieldLink "PartedSide$Barrack" (42 : Nat) "PartedSide$Barrack" "asked" "LPartedSide$Asked;") ∈ lw_all := lw_g (lw_at lw_m2 106 rfl) rfl
theorem q454 : (Jvm.Cond.laysFinal "PartedSide$Barrack" "PartedSide$Barrack" "habit" "[I") ∈ lw_all := lw_g (lw_at lw_m2 107 rfl) rfl
theorem q455 : (Jvm.Cond.soleField "PartedSide$Barrack" "habit") ∈ lw_all := lw_g (lw_at lw_m2 108 rfl) rfl
theorem q456 : (Jvm.Cond.laysFinal "PartedSide$Barrack" "PartedSide$Barrack" "parted" "[I") ∈ lw_all := lw_g (lw_at lw_m2 109 rfl) rfl
theorem q457 : (Jvm.Cond.soleField "PartedSide$Barrack" "parted") ∈ lw_all := lw_g (lw_at lw_m2 110 rfl) rfl
theorem q458 : (Jvm.Cond.laysFinal "PartedSide$Barrack" "PartedSide$Barrack" "who" "[I") ∈ lw_all := lw_g (lw_at lw_m2 111 rfl) rfl
theorem q459 : (Jvm.Cond.soleField "PartedSide$Barrack" "who") ∈ lw_all := lw_g (lw_at lw_m2 112 rfl) rfl
theorem q460 : (Jvm.Cond.laysFinal "PartedSide$Barrack" "PartedSide$Barrack" "turns" "[I") ∈ lw_all := lw_g (lw_at lw_m2 113 rfl) rfl
theorem q461 : (Jvm.Cond.soleField "PartedSide$Barrack" "turns") ∈ lw_all := lw_g (lw_at lw_m2 114 rfl) rfl
theorem q462 : (Jvm.Cond.lays "PartedSide$Barrack" "PartedSide$Barrack" "row" "I") ∈ lw_all := lw_g (lw_at lw_m2 115 rfl) rfl
theorem q463 : (Jvm.Cond.soleField "PartedSide$Barrack" "row") ∈ lw_all := lw_g (lw_at lw_m2 116 rfl) rfl
theorem q464 : (Jvm.Cond.lays "PartedSide$Barrack" "PartedSide$Barrack" "hour" "I") ∈ lw_all := lw_g (lw_at lw_m2 117 rfl) rfl
theorem q465 : (Jvm.Cond.soleField "PartedSide$Barrack" "hour") ∈ lw_all := lw_g (lw_at lw_m2 118 rfl) rfl
theorem q466 : (Jvm.Cond.lays "PartedSide$Barrack" "PartedSide$Barrack" "chilled" "I") ∈ lw_all := lw_g (lw_at lw_m2 119 rfl) rfl
theorem q467 : (Jvm.Cond.soleField "PartedSide$Barrack" "chilled") ∈ lw_all := lw_g (lw_at lw_m2 120 rfl) rfl
theorem q468 : (Jvm.Cond.lays "PartedSide$Barrack" "PartedSide$Barrack" "seed" "I") ∈ lw_all := lw_g (lw_at lw_m2 121 rfl) rfl
theorem q469 : (Jvm.Cond.soleField "PartedSide$Barrack" "seed") ∈ lw_all := lw_g (lw_at lw_m2 122 rfl) rfl
theorem q470 : (Jvm.Cond.laysFinal "PartedSide$Barrack" "PartedSide$Barrack" "sides" "[LPartedSide$Side;") ∈ lw_all := lw_g (lw_at lw_m2 123 rfl) rfl
theorem q471 : (Jvm.Cond.soleField "PartedSide$Barrack" "sides") ∈ lw_all := lw_g (lw_at lw_m2 124 rfl) rfl
theorem q472 : (Jvm.Cond.laysFinal "PartedSide$Barrack" "PartedSide$Barrack" "parts" "[I") ∈ lw_all := lw_g (lw_at lw_m2 125 rfl) rfl
theorem q473 : (Jvm.Cond.soleField "PartedSide$Barrack" "parts") ∈ lw_all := lw_g (lw_at lw_m2 126 rfl) rfl
theorem q474 : (Jvm.Cond.laysFinal "PartedSide$Barrack" "PartedSide$Barrack" "asked" "LPartedSide$Asked;") ∈ lw_all := lw_g (lw_at lw_m2 127 rfl) rfl
theorem q475 : (Jvm.Cond.soleField "PartedSide$Barrack" "asked") ∈ lw_all := lw_g (lw_at lw_m2 128 rfl) rfl
theorem q476 : (Jvm.Cond.superclass "PartedSide$Barrack" "java/lang/Object") ∈ lw_all := lw_g (lw_at lw_m2 129 rfl) rfl
theorem q496 : (Jvm.Cond.instanceMethod ({ cls := "PartedSide$Barrack", name := "begins", desc := "(LPartedSide$Text;)V" } : Jvm.MethodName)) ∈ lw_all := lw_g (lw_at lw_m2 149 rfl) rfl
theorem q497 : (Jvm.Cond.selects "PartedSide$Barrack" ({ cls := "PartedSide$Barrack", name := "begins", desc := "(LPartedSide$Text;)V" } : Jvm.MethodName) ({ cls := "PartedSide$Barrack", name := "begins", desc := "(LPartedSide$Text;)V" } : Jvm.MethodName)) ∈ lw_all := lw_g (lw_at lw_m2 150 rfl) rfl
theorem q498 : (Jvm.Cond.code ({ cls := "PartedSide$Barrack", name := "begins", desc := "(LPartedSide$Text;)V" } : Jvm.MethodName) prog_3_method_2_code (3 : Nat) (Option.none : Option Jvm.ClassFile.FieldType)) ∈ lw_all := lw_g (lw_at lw_m2 151 rfl) rfl
theorem q499 : (Jvm.Cond.methodLink "PartedSide$Barrack" (50 : Nat) ({ cls := "PartedSide$Text", name := "beds", desc := "()I" } : Jvm.MethodName)) ∈ lw_all := lw_g (lw_at lw_m2 152 rfl) rfl
theorem q507 : (Jvm.Cond.methodLink "PartedSide$Barrack" (60 : Nat) ({ cls := "java/util/ArrayList", name := "get", desc := "(I)Ljava/lang/Object;" } : Jvm.MethodName)) ∈ lw_all := lw_g (lw_at lw_m2 160 rfl) rfl
theorem q521 : (Jvm.Cond.classLink "PartedSide$Barrack" (66 : Nat) "PartedSide$Sleeper") ∈ lw_all := lw_g (lw_at lw_m2 174 rfl) rfl
theorem q1027 : (Jvm.Cond.fieldLink "PartedSide$Barrack" (70 : Nat) "PartedSide$Sleeper" "left" "I") ∈ lw_all := lw_g (lw_at lw_m4 200 rfl) rfl
theorem q1029 : (Jvm.Cond.fieldLink "PartedSide$Barrack" (68 : Nat) "PartedSide$Sleeper" "habit" "I") ∈ lw_all := lw_g (lw_at lw_m4 202 rfl) rfl
theorem q1067 : (Jvm.Cond.selects "PartedSide$Barrack" ({ cls := "java/lang/Object", name := "getClass", desc := "()Ljava/lang/Class;" } : Jvm.MethodName) ({ cls := "java/lang/Object", name := "getClass", desc := "()Ljava/lang/Class;" } : Jvm.MethodName)) ∈ lw_all := lw_g (lw_at lw_m5 0 rfl) rfl
theorem q1120 : (Jvm.Cond.instanceMethod ({ cls := "PartedSide$Barrack", name := "isLeft", desc := "(I)Z" } : Jvm.MethodName)) ∈ lw_all := lw_g (lw_at lw_m5 53 rfl) rfl
theorem q1121 : (Jvm.Cond.selects "PartedSide$Barrack" ({ cls := "PartedSide$Barrack", name := "isLeft", desc := "(I)Z" } : Jvm.MethodName) ({ cls := "PartedSide$Barrack", name := "isLeft", desc := "(I)Z" } : Jvm.MethodName)) ∈ lw_all := lw_g (lw_at lw_m5 54 rfl) rfl
theorem q1122 : (Jvm.Cond.code ({ cls := "PartedSide$Barrack", name := "isLeft", desc := "(I)Z" } : Jvm.MethodName) prog_3_method_5_code (2 : Nat) (Option.some Jvm.ClassFile.FieldType.boolean)) ∈ lw_all := lw_g (lw_at lw_m5 55 rfl) rfl
theorem q1124 : (Jvm.Cond.instanceMethod ({ cls := "PartedSide$Barrack", name := "liesLeft", desc := "(LPartedSide$Text;I)Z" } : Jvm.MethodName)) ∈ lw_all := lw_g (lw_at lw_m5 57 rfl) rfl
theorem q1125 : (Jvm.Cond.selects "PartedSide$Barrack" ({ cls := "PartedSide$Barrack", name := "liesLeft", desc := "(LPartedSide$Text;I)Z" } : Jvm.MethodName) ({ cls := "PartedSide$Barrack", name := "liesLeft", desc := "(LPartedSide$Text;I)Z" } : Jvm.MethodName)) ∈ lw_all := lw_g (lw_at lw_m5 58 rfl) rfl
theorem q1126 : (Jvm.Cond.code ({ cls := "PartedSide$Barrack", name := "liesLeft", desc := "(LPartedSide$Text;I)Z" } : Jvm.MethodName) prog_3_method_10_code (3 : Nat) (Option.some Jvm.ClassFile.FieldType.boolean)) ∈ lw_all := lw_g (lw_at lw_m5 59 rfl) rfl
theorem q1127 : (Jvm.Cond.methodLink "PartedSide$Barrack" (123 : Nat) ({ cls := "PartedSide$Barrack", name := "isLeft", desc := "(I)Z" } : Jvm.MethodName)) ∈ lw_all := lw_g (lw_at lw_m5 60 rfl) rfl
theorem q1128 : (Jvm.Cond.methodLink "PartedSide$Barrack" (114 : Nat) ({ cls := "PartedSide$Barrack", name := "asks", desc := "(LPartedSide$Text;I)LPartedSide$Asked;" } : Jvm.MethodName)) ∈ lw_all := lw_g (lw_at lw_m5 61 rfl) rfl
theorem q1129 : (Jvm.Cond.privateMethod ({ cls := "PartedSide$Barrack", name := "asks", desc := "(LPartedSide$Text;I)LPartedSide$Asked;" } : Jvm.MethodName)) ∈ lw_tbl := lw_at lw_m5 62 rfl
theorem q1130 : (Jvm.Cond.instanceMethod ({ cls := "PartedSide$Barrack", name := "asks", desc := "(LPartedSide$Text;I)LPartedSide$Asked;" } : Jvm.MethodName)) ∈ lw_all := lw_g (lw_at lw_m5 63 rfl) rfl
theorem q1131 : (Jvm.Cond.code ({ cls := "PartedSide$Barrack", name := "asks", desc := "(LPartedSide$Text;I)LPartedSide$Asked;" } : Jvm.MethodName) prog_3_method_7_code (3 : Nat) (Option.some (Jvm.ClassFile.FieldType.object "PartedSide$Asked"))) ∈ lw_all := lw_g (lw_at lw_m5 64 rfl) rfl
theorem q1132 : (Jvm.Cond.methodLink "PartedSide$Barrack" (99 : Nat) ({ cls := "PartedSide$Side", name := "of", desc := "(LPartedSide$Text;I)I" } : Jvm.MethodName)) ∈ lw_all := lw_g (lw_at lw_m5 65 rfl) rfl
theorem q1143 : (Jvm.Cond.methodLink "PartedSide$Barrack" (103 : Nat) ({ cls := "PartedSide$Barrack", name := "leftOf", desc := "(I)I" } : Jvm.MethodName)) ∈ lw_all := lw_g (lw_at lw_m5 76 rfl) rfl
theorem q1144 : (Jvm.Cond.privateMethod ({ cls := "PartedSide$Barrack", name := "leftOf", desc := "(I)I" } : Jvm.MethodName)) ∈ lw_tbl := lw_at lw_m5 77 rfl
theorem q1145 : (Jvm.Cond.instanceMethod ({ cls := "PartedSide$Barrack", name := "leftOf", desc := "(I)I" } : Jvm.MethodName)) ∈ lw_all := lw_g (lw_at lw_m5 78 rfl) rfl
theorem q1146 : (Jvm.Cond.code ({ cls := "PartedSide$Barrack", name := "leftOf", desc := "(I)I" } : Jvm.MethodName) prog_3_method_6_code (2 : Nat) (Option.some Jvm.ClassFile.FieldType.int)) ∈ lw_all := lw_g (lw_at lw_m5 79 rfl) rfl
theorem q1147 : (Jvm.Cond.methodLink "PartedSide$Barrack" (118 : Nat) ({ cls := "PartedSide$Law", name := "of", desc := "(LPartedSide$Asked;)I" } : Jvm.MethodName)) ∈ lw_all := lw_g (lw_at lw_m5 80 rfl) rfl
theorem q1166 : (Jvm.Cond.instanceMethod ({ cls := "PartedSide$Barrack", name := "parts", desc := "(LPartedSide$Text;I)I" } : Jvm.MethodName)) ∈ lw_all := lw_g (lw_at lw_m5 99 rfl) rfl
theorem q1167 : (Jvm.Cond.selects "PartedSide$Barrack" ({ cls := "PartedSide$Barrack", name := "parts", desc := "(LPartedSide$Text;I)I" } : Jvm.MethodName) ({ cls := "PartedSide$Barrack", name := "parts", desc := "(LPartedSide$Text;I)I" } : Jvm.MethodName)) ∈ lw_all := lw_g (lw_at lw_m5 100 rfl) rfl
theorem q1168 : (Jvm.Cond.code ({ cls := "PartedSide$Barrack", name := "parts", desc := "(LPartedSide$Text;I)I" } : Jvm.MethodName) prog_3_method_11_code (3 : Nat) (Option.some Jvm.ClassFile.FieldType.int)) ∈ lw_all := lw_g (lw_at lw_m5 101 rfl) rfl
theorem q1169 : (Jvm.Cond.methodLink "PartedSide$Barrack" (127 : Nat) ({ cls := "java/lang/Math", name := "min", desc := "(II)I" } : Jvm.MethodName)) ∈ lw_all := lw_g (lw_at lw_m5 102 rfl) rfl
theorem q1171 : (Jvm.Cond.instanceMethod ({ cls := "PartedSide$Barrack", name := "chills", desc := "(LPartedSide$Text;I)I" } : Jvm.MethodName)) ∈ lw_all := lw_g (lw_at lw_m5 104 rfl) rfl
theorem q1172 : (Jvm.Cond.selects "PartedSide$Barrack" ({ cls := "PartedSide$Barrack", name := "chills", desc := "(LPartedSide$Text;I)I" } : Jvm.MethodName) ({ cls := "PartedSide$Barrack", name := "chills", desc := "(LPartedSide$Text;I)I" } : Jvm.MethodName)) ∈ lw_all := lw_g (lw_at lw_m5 105 rfl) rfl
theorem q1173 : (Jvm.Cond.code ({ cls := "PartedSide$Barrack", name := "chills", desc := "(LPartedSide$Text;I)I" } : Jvm.MethodName) prog_3_method_12_code (3 : Nat) (Option.some Jvm.ClassFile.FieldType.int)) ∈ lw_all := lw_g (lw_at lw_m5 106 rfl) rfl
theorem q1175 : (Jvm.Cond.instanceMethod ({ cls := "PartedSide$Barrack", name := "costs", desc := "(LPartedSide$Text;I)I" } : Jvm.MethodName)) ∈ lw_all := lw_g (lw_at lw_m5 108 rfl) rfl
theorem q1176 : (Jvm.Cond.selects "PartedSide$Barrack" ({ cls := "PartedSide$Barrack", name := "costs", desc := "(LPartedSide$Text;I)I" } : Jvm.MethodName) ({ cls := "PartedSide$Barrack", name := "costs", desc := "(LPartedSide$Text;I)I" } : Jvm.MethodName)) ∈ lw_all := lw_g (lw_at lw_m5 109 rfl) rfl
theorem q1177 : (Jvm.Cond.code ({ cls := "PartedSide$Barrack", name := "costs", desc := "(LPartedSide$Text;I)I" } : Jvm.MethodName) prog_3_method_13_code (3 : Nat) (Option.some Jvm.ClassFile.FieldType.int)) ∈ lw_all := lw_g (lw_at lw_m5 110 rfl) rfl
theorem q1187 : (Jvm.Cond.instanceMethod ({ cls := "PartedSide$Barrack", name := "takes", desc := "(LPartedSide$Barrack;)V" } : Jvm.MethodName)) ∈ lw_all := lw_g (lw_at lw_m5 120 rfl) rfl
theorem q1188 : (Jvm.Cond.selects "PartedSide$Barrack" ({ cls := "PartedSide$Barrack", name := "takes", desc := "(LPartedSide$Barrack;)V" } : Jvm.MethodName) ({ cls := "PartedSide$Barrack", name := "takes", desc := "(LPartedSide$Barrack;)V" } : Jvm.MethodName)) ∈ lw_all := lw_g (lw_at lw_m5 121 rfl) rfl
theorem q1189 : (Jvm.Cond.code ({ cls := "PartedSide$Barrack", name := "takes", desc := "(LPartedSide$Barrack;)V" } : Jvm.MethodName) prog_3_method_4_code (2 : Nat) (Option.none : Option Jvm.ClassFile.FieldType)) ∈ lw_all := lw_g (lw_at lw_m5 122 rfl) rfl
theorem q1190 : (Jvm.Cond.methodLink "PartedSide$Barrack" (92 : Nat) ({ cls := "PartedSide$Barrack", name := "copies", desc := "([I[I)V" } : Jvm.MethodName)) ∈ lw_all := lw_g (lw_at lw_m5 123 rfl) rfl
theorem q1191 : (Jvm.Cond.static ({ cls := "PartedSide$Barrack", name := "copies", desc := "([I[I)V" } : Jvm.MethodName)) ∈ lw_all := lw_g (lw_at lw_m5 124 rfl) rfl
theorem q1192 : (Jvm.Cond.code ({ cls := "PartedSide$Barrack", name := "copies", desc := "([I[I)V" } : Jvm.MethodName) prog_3_method_3_code (2 : Nat) (Option.none : Option Jvm.ClassFile.FieldType)) ∈ lw_all := lw_g (lw_at lw_m5 125 rfl) rfl
theorem q1193 : (Jvm.Cond.methodLink "PartedSide$Barrack" (86 : Nat) ({ cls := "java/lang/System", name := "arraycopy", desc := "(Ljava/lang/Object;ILjava/lang/Object;II)V" } : Jvm.MethodName)) ∈ lw_all := lw_g (lw_at lw_m5 126 rfl) rfl
theorem q1212 : (Jvm.Cond.instanceMethod ({ cls := "PartedSide$Barrack", name := "change", desc := "(II)V" } : Jvm.MethodName)) ∈ lw_all := lw_g (lw_at lw_m5 145 rfl) rfl
theorem q1213 : (Jvm.Cond.selects "PartedSide$Barrack" ({ cls := "PartedSide$Barrack", name := "change", desc := "(II)V" } : Jvm.MethodName) ({ cls := "PartedSide$Barrack", name := "change", desc := "(II)V" } : Jvm.MethodName)) ∈ lw_all := lw_g (lw_at lw_m5 146 rfl) rfl
theorem q1214 : (Jvm.Cond.code ({ cls := "PartedSide$Barrack", name := "change", desc := "(II)V" } : Jvm.MethodName) prog_3_method_17_code (3 : Nat) (Option.none : Option Jvm.ClassFile.FieldType)) ∈ lw_all := lw_g (lw_at lw_m5 147 rfl) rfl
theorem q1215 : (Jvm.Cond.methodLink "PartedSide$Barrack" (153 : Nat) ({ cls := "PartedSide$Barrack", name := "swaps", desc := "([III)V" } : Jvm.MethodName)) ∈ lw_all := lw_g (lw_at lw_m5 148 rfl) rfl
theorem q1216 : (Jvm.Cond.static ({ cls := "PartedSide$Barrack", name := "swaps", desc := "([III)V" } : Jvm.MethodName)) ∈ lw_all := lw_g (lw_at lw_m5 149 rfl) rfl
theorem q1217 : (Jvm.Cond.code ({ cls := "PartedSide$Barrack", name := "swaps", desc := "([III)V" } : Jvm.MethodName) prog_3_method_16_code (4 : Nat) (Option.none : Option Jvm.ClassFile.FieldType)) ∈ lw_all := lw_g (lw_at lw_m5 150 rfl) rfl
theorem q1230 : (Jvm.Cond.instanceMethod ({ cls := "PartedSide$Barrack", name := "goesBy", desc := "(LPartedSide$Text;LPartedSide$Night;)V" } : Jvm.MethodName)) ∈ lw_all := lw_g (lw_at lw_m5 163 rfl) rfl
theorem q1231 : (Jvm.Cond.selects "PartedSide$Barrack" ({ cls := "PartedSide$Barrack", name := "goesBy", desc := "(LPartedSide$Text;LPartedSide$Night;)V" } : Jvm.MethodName) ({ cls := "PartedSide$Barrack", name := "goesBy", desc := "(LPartedSide$Text;LPartedSide$Night;)V" } : Jvm.MethodName)) ∈ lw_all := lw_g (lw_at lw_m5 164 rfl) rfl
theorem q1232 : (Jvm.Cond.code ({ cls := "PartedSide$Barrack", name := "goesBy", desc := "(LPartedSide$Text;LPartedSide$Night;)V" } : Jvm.MethodName) prog_3_method_15_code (5 : Nat) (Option.none : Option Jvm.ClassFile.FieldType)) ∈ lw_all := lw_g (lw_at lw_m5 165 rfl) rfl
theorem q1233 : (Jvm.Cond.methodLink "PartedSide$Barrack" (137 : Nat) ({ cls := "PartedSide$Barrack", name := "next", desc := "(LPartedSide$Text;)I" } : Jvm.MethodName)) ∈ lw_all := lw_g (lw_at lw_m5 166 rfl) rfl
theorem q1234 : (Jvm.Cond.instanceMethod ({ cls := "PartedSide$Barrack", name := "next", desc := "(LPartedSide$Text;)I" } : Jvm.MethodName)) ∈ lw_all := lw_g (lw_at lw_m5 167 rfl) rfl
theorem q1235 : (Jvm.Cond.selects "PartedSide$Barrack" ({ cls := "PartedSide$Barrack", name := "next", desc := "(LPartedSide$Text;)I" } : Jvm.MethodName) ({ cls := "PartedSide$Barrack", name := "next", desc := "(LPartedSide$Text;)I" } : Jvm.MethodName)) ∈ lw_all := lw_g (lw_at lw_m5 168 rfl) rfl
theorem q1236 : (Jvm.Cond.code ({ cls := "PartedSide$Barrack", name := "next", desc := "(LPartedSide$Text;)I" } : Jvm.MethodName) prog_3_method_14_code (4 : Nat) (Option.some Jvm.ClassFile.FieldType.int)) ∈ lw_all := lw_g (lw_at lw_m5 169 rfl) rfl
theorem q1237 : (Jvm.Cond.methodLink "PartedSide$Barrack" (133 : Nat) ({ cls := "PartedSide$Barrack", name := "liesLeft", desc := "(LPartedSide$Text;I)Z" } : Jvm.MethodName)) ∈ lw_all := lw_g (lw_at lw_m5 170 rfl) rfl
theorem q1238 : (Jvm.Cond.methodLink "PartedSide$Barrack" (141 : Nat) ({ cls := "PartedSide$Barrack", name := "parts", desc := "(LPartedSide$Text;I)I" } : Jvm.MethodName)) ∈ lw_all := lw_g (lw_at lw_m5 171 rfl) rfl
theorem q1239 : (Jvm.Cond.methodLink "PartedSide$Barrack" (143 : Nat) ({ cls := "PartedSide$Night", name := "chills", desc := "(LPartedSide$Barrack;LPartedSide$Text;I)Z" } : Jvm.MethodName)) ∈ lw_all := lw_g (lw_at lw_m5 172 rfl) rfl
theorem q1256 : (Jvm.Cond.methodLinkNest "PartedSide$Barrack" (149 : Nat) ({ cls := "PartedSide", name := "within", desc := "(III)I" } : Jvm.MethodName) "PartedSide") ∈ lw_tbl := lw_at lw_m5 189 rfl
theorem q1323 : (Jvm.Cond.instanceMethod ({ cls := "PartedSide$Barrack", name := "liesIn", desc := "(LPartedSide$Text;IIII)Z" } : Jvm.MethodName)) ∈ lw_all := lw_g (lw_at lw_m6 16 rfl) rfl
theorem q1324 : (Jvm.Cond.selects "PartedSide$Barrack" ({ cls := "PartedSide$Barrack", name := "liesIn", desc := "(LPartedSide$Text;IIII)Z" } : Jvm.MethodName) ({ cls := "PartedSide$Barrack", name := "liesIn", desc := "(LPartedSide$Text;IIII)Z" } : Jvm.MethodName)) ∈ lw_all := lw_g (lw_at lw_m6 17 rfl) rfl
theorem q1325 : (Jvm.Cond.code ({ cls := "PartedSide$Barrack", name := "liesIn", desc := "(LPartedSide$Text;IIII)Z" } : Jvm.MethodName) prog_3_method_8_code (6 : Nat) (Option.some Jvm.ClassFile.FieldType.boolean)) ∈ lw_all := lw_g (lw_at lw_m6 18 rfl) rfl
theorem q1343 : (Jvm.Cond.instanceMethod ({ cls := "PartedSide$Barrack", name := "areUnlike", desc := "(LPartedSide$Text;I)Z" } : Jvm.MethodName)) ∈ lw_all := lw_g (lw_at lw_m6 36 rfl) rfl
theorem q1344 : (Jvm.Cond.selects "PartedSide$Barrack" ({ cls := "PartedSide$Barrack", name := "areUnlike", desc := "(LPartedSide$Text;I)Z" } : Jvm.MethodName) ({ cls := "PartedSide$Barrack", name := "areUnlike", desc := "(LPartedSide$Text;I)Z" } : Jvm.MethodName)) ∈ lw_all := lw_g (lw_at lw_m6 37 rfl) rfl
theorem q1345 : (Jvm.Cond.code ({ cls := "PartedSide$Barrack", name := "areUnlike", desc := "(LPartedSide$Text;I)Z" } : Jvm.MethodName) prog_3_method_9_code (4 : Nat) (Option.some Jvm.ClassFile.FieldType.boolean)) ∈ lw_all := lw_g (lw_at lw_m6 38 rfl) rfl
theorem q2087 : (Jvm.Cond.castable "PartedSide$Barrack" "java/lang/Object") ∈ lw_tbl := lw_at lw_m9 60 rfl
theorem in_X5 : ∀ w ∈ wsX50, w ∈ lw_all := lw_in wsX50 [454, 456, 458, 460, 462, 464, 466, 468, 470, 472, 474] (by decide +kernel) (by decide +kernel)
/-! PartedSide$Side -/
set_option maxRecDepth 100000
def RX6 : String := "PartedSide$Side"
abbrev cX6_init : ByteArray := prog_14_method_1_code
def yX6_init : MethodName := ⟨RX6, "<init>", "()V"⟩
theorem dX6_init_0 : decode cX6_init 0 = .ok (.aload_n 0, 1) := by decide +kernel
theorem dX6_init_1 : decode cX6_init 1 = .ok (.invokespecial 1, 3) := by decide +kernel
theorem dX6_init_4 : decode cX6_init 4 = .ok (.return_, 1) := by decide +kernel
theorem q120 : (Jvm.Cond.initialized "PartedSide$Side") ∈ lw_all := lw_g (lw_at lw_m1 13 rfl) rfl
theorem q406 : (Jvm.Cond.instanceMethod ({ cls := "PartedSide$Side", name := "<init>", desc := "()V" } : Jvm.MethodName)) ∈ lw_all := lw_g (lw_at lw_m2 59 rfl) rfl
theorem q407 : (Jvm.Cond.code ({ cls := "PartedSide$Side", name := "<init>", desc := "()V" } : Jvm.MethodName) prog_14_method_1_code (1 : Nat) (Option.none : Option Jvm.ClassFile.FieldType)) ∈ lw_all := lw_g (lw_at lw_m2 60 rfl) rfl
theorem q408 : (Jvm.Cond.methodLink "PartedSide$Side" (1 : Nat) ({ cls := "java/lang/Object", name := "<init>", desc := "()V" } : Jvm.MethodName)) ∈ lw_all := lw_g (lw_at lw_m2 61 rfl) rfl
theorem q1133 : (Jvm.Cond.declares ({ cls := "PartedSide$Side", name := "of", desc := "(LPartedSide$Text;I)I" } : Jvm.MethodName)) ∈ lw_tbl := lw_at lw_m5 66 rfl
theorem q1134 : (Jvm.Cond.sameMethod "PartedSide$Side" "PartedSide$Side" "of" "(LPartedSide$Text;I)I") ∈ lw_all := lw_g (lw_at lw_m5 67 rfl) rfl
theorem q2086 : (Jvm.Cond.castable "PartedSide$Side" "java/lang/Object") ∈ lw_tbl := lw_at lw_m9 59 rfl
/-! PartedSide$Before -/
set_option maxRecDepth 100000
def RX7 : String := "PartedSide$Before"
abbrev cX7_init : ByteArray := prog_4_method_1_code
def yX7_init : MethodName := ⟨RX7, "<init>", "()V"⟩
theorem dX7_init_0 : decode cX7_init 0 = .ok (.aload_n 0, 1) := by decide +kernel
theorem dX7_init_1 : decode cX7_init 1 = .ok (.invokespecial 3, 3) := by decide +kernel
theorem dX7_init_4 : decode cX7_init 4 = .ok (.return_, 1) := by decide +kernel
abbrev cX7_of : ByteArray := prog_4_method_2_code
def yX7_of : MethodName := ⟨RX7, "of", "(LPartedSide$Text;I)I"⟩
def dkwX7_of_1 : List UInt8 := [167, 0, 4, 2, 172]
abbrev dktX7_of_1 : List UInt8 := dkwX7_of_1 ++ []
def dkwX7_of_0 : List UInt8 := [28, 158, 0, 9, 28, 4, 100, 167, 0, 21, 43, 180, 0, 9, 4, 160, 0, 12, 43, 182, 0, 15, 4, 100]
abbrev dktX7_of_0 : List UInt8 := dkwX7_of_0 ++ dktX7_of_1
theorem dksX7_of_0 : cX7_of.data.toList.drop 0 = dktX7_of_0 := by decide +kernel
theorem dksX7_of_1 : cX7_of.data.toList.drop 24 = dktX7_of_1 := dk_seg dksX7_of_0 24 rfl rfl
theorem dX7_of_0 : decode cX7_of 0 = .ok (.iload_n 2, 1) := dk_28 (dk_at dksX7_of_0 0 rfl rfl)
theorem dX7_of_1 : decode cX7_of 1 = .ok (.ifCond .le 9, 3) := dk_158 0 9 (dk_at dksX7_of_0 1 rfl rfl)
theorem dX7_of_4 : decode cX7_of 4 = .ok (.iload_n 2, 1) := dk_28 (dk_at dksX7_of_0 4 rfl rfl)
theorem dX7_of_5 : decode cX7_of 5 = .ok (.iconst 1, 1) := dk_4 (dk_at dksX7_of_0 5 rfl rfl)
theorem dX7_of_6 : decode cX7_of 6 = .ok (.isub, 1) := dk_100 (dk_at dksX7_of_0 6 rfl rfl)
theorem dX7_of_7 : decode cX7_of 7 = .ok (.goto 21, 3) := dk_167 0 21 (dk_at dksX7_of_0 7 rfl rfl)
theorem dX7_of_10 : decode cX7_of 10 = .ok (.aload_n 1, 1) := dk_43 (dk_at dksX7_of_0 10 rfl rfl)
theorem dX7_of_11 : decode cX7_of 11 = .ok (.getfield 9, 3) := dk_180 0 9 (dk_at dksX7_of_0 11 rfl rfl)
theorem dX7_of_14 : decode cX7_of 14 = .ok (.iconst 1, 1) := dk_4 (dk_at dksX7_of_0 14 rfl rfl)
theorem dX7_of_15 : decode cX7_of 15 = .ok (.if_icmp .ne 12, 3) := dk_160 0 12 (dk_at dksX7_of_0 15 rfl rfl)
theorem dX7_of_18 : decode cX7_of 18 = .ok (.aload_n 1, 1) := dk_43 (dk_at dksX7_of_0 18 rfl rfl)
theorem dX7_of_19 : decode cX7_of 19 = .ok (.invokevirtual 15, 3) := dk_182 0 15 (dk_at dksX7_of_0 19 rfl rfl)
theorem dX7_of_22 : decode cX7_of 22 = .ok (.iconst 1, 1) := dk_4 (dk_at dksX7_of_0 22 rfl rfl)
theorem dX7_of_23 : decode cX7_of 23 = .ok (.isub, 1) := dk_100 (dk_at dksX7_of_0 23 rfl rfl)
theorem dX7_of_24 : decode cX7_of 24 = .ok (.goto 4, 3) := dk_167 0 4 (dk_at dksX7_of_1 0 rfl rfl)
theorem dX7_of_27 : decode cX7_of 27 = .ok (.iconst (-1), 1) := dk_2 (dk_at dksX7_of_1 3 rfl rfl)
theorem dX7_of_28 : decode cX7_of 28 = .ok (.ireturn, 1) := dk_172 (dk_at dksX7_of_1 4 rfl rfl)
theorem q121 : (Jvm.Cond.initialized "PartedSide$Before") ∈ lw_all := lw_g (lw_at lw_m1 14 rfl) rfl
theorem q364 : (Jvm.Cond.fieldLink "PartedSide$Before" (9 : Nat) "PartedSide$Text" "ring" "I") ∈ lw_all := lw_g (lw_at lw_m2 17 rfl) rfl
theorem q401 : (Jvm.Cond.instantiable "PartedSide$Before" (0 : Nat)) ∈ lw_all := lw_g (lw_at lw_m2 54 rfl) rfl
theorem q403 : (Jvm.Cond.instanceMethod ({ cls := "PartedSide$Before", name := "<init>", desc := "()V" } : Jvm.MethodName)) ∈ lw_all := lw_g (lw_at lw_m2 56 rfl) rfl
theorem q404 : (Jvm.Cond.code ({ cls := "PartedSide$Before", name := "<init>", desc := "()V" } : Jvm.MethodName) prog_4_method_1_code (1 : Nat) (Option.none : Option Jvm.ClassFile.FieldType)) ∈ lw_all := lw_g (lw_at lw_m2 57 rfl) rfl
theorem q405 : (Jvm.Cond.methodLinkNest "PartedSide$Before" (3 : Nat) ({ cls := "PartedSide$Side", name := "<init>", desc := "()V" } : Jvm.MethodName) "PartedSide") ∈ lw_tbl := lw_at lw_m2 58 rfl
theorem q409 : (Jvm.Cond.superclass "PartedSide$Before" "PartedSide$Side") ∈ lw_all := lw_g (lw_at lw_m2 62 rfl) rfl
theorem q1068 : (Jvm.Cond.selects "PartedSide$Before" ({ cls := "java/lang/Object", name := "getClass", desc := "()Ljava/lang/Class;" } : Jvm.MethodName) ({ cls := "java/lang/Object", name := "getClass", desc := "()Ljava/lang/Class;" } : Jvm.MethodName)) ∈ lw_all := lw_g (lw_at lw_m5 1 rfl) rfl
theorem q1135 : (Jvm.Cond.selects "PartedSide$Before" ({ cls := "PartedSide$Side", name := "of", desc := "(LPartedSide$Text;I)I" } : Jvm.MethodName) ({ cls := "PartedSide$Before", name := "of", desc := "(LPartedSide$Text;I)I" } : Jvm.MethodName)) ∈ lw_all := lw_g (lw_at lw_m5 68 rfl) rfl
theorem q1136 : (Jvm.Cond.instanceMethod ({ cls := "PartedSide$Before", name := "of", desc := "(LPartedSide$Text;I)I" } : Jvm.MethodName)) ∈ lw_all := lw_g (lw_at lw_m5 69 rfl) rfl
theorem q1137 : (Jvm.Cond.code ({ cls := "PartedSide$Before", name := "of", desc := "(LPartedSide$Text;I)I" } : Jvm.MethodName) prog_4_method_2_code (3 : Nat) (Option.some Jvm.ClassFile.FieldType.int)) ∈ lw_all := lw_g (lw_at lw_m5 70 rfl) rfl
theorem q1138 : (Jvm.Cond.methodLink "PartedSide$Before" (15 : Nat) ({ cls := "PartedSide$Text", name := "beds", desc := "()I" } : Jvm.MethodName)) ∈ lw_all := lw_g (lw_at lw_m5 71 rfl) rfl
theorem q2095 : (Jvm.Cond.castable "PartedSide$Before" "java/lang/Object") ∈ lw_tbl := lw_at lw_m9 68 rfl
theorem q2107 : (Jvm.Cond.castable "PartedSide$Before" "PartedSide$Side") ∈ lw_tbl := lw_at lw_m9 80 rfl
/-! PartedSide$Behind -/
set_option maxRecDepth 100000
def RX8 : String := "PartedSide$Behind"
abbrev cX8_init : ByteArray := prog_5_method_1_code
def yX8_init : MethodName := ⟨RX8, "<init>", "()V"⟩
theorem dX8_init_0 : decode cX8_init 0 = .ok (.aload_n 0, 1) := by decide +kernel
theorem dX8_init_1 : decode cX8_init 1 = .ok (.invokespecial 3, 3) := by decide +kernel
theorem dX8_init_4 : decode cX8_init 4 = .ok (.return_, 1) := by decide +kernel
abbrev cX8_of : ByteArray := prog_5_method_2_code
def yX8_of : MethodName := ⟨RX8, "of", "(LPartedSide$Text;I)I"⟩
def dkwX8_of_1 : List UInt8 := [3, 167, 0, 4, 2, 172]
abbrev dktX8_of_1 : List UInt8 := dkwX8_of_1 ++ []
def dkwX8_of_0 : List UInt8 := [28, 4, 96, 43, 182, 0, 9, 162, 0, 9, 28, 4, 96, 167, 0, 16, 43, 180, 0, 15, 4, 160, 0, 7]
abbrev dktX8_of_0 : List UInt8 := dkwX8_of_0 ++ dktX8_of_1
theorem dksX8_of_0 : cX8_of.data.toList.drop 0 = dktX8_of_0 := by decide +kernel
theorem dksX8_of_1 : cX8_of.data.toList.drop 24 = dktX8_of_1 := dk_seg dksX8_of_0 24 rfl rfl
theorem dX8_of_0 : decode cX8_of 0 = .ok (.iload_n 2, 1) := dk_28 (dk_at dksX8_of_0 0 rfl rfl)
theorem dX8_of_1 : decode cX8_of 1 = .ok (.iconst 1, 1) := dk_4 (dk_at dksX8_of_0 1 rfl rfl)
theorem dX8_of_2 : decode cX8_of 2 = .ok (.iadd, 1) := dk_96 (dk_at dksX8_of_0 2 rfl rfl)
theorem dX8_of_3 : decode cX8_of 3 = .ok (.aload_n 1, 1) := dk_43 (dk_at dksX8_of_0 3 rfl rfl)
theorem dX8_of_4 : decode cX8_of 4 = .ok (.invokevirtual 9, 3) := dk_182 0 9 (dk_at dksX8_of_0 4 rfl rfl)
theorem dX8_of_7 : decode cX8_of 7 = .ok (.if_icmp .ge 9, 3) := dk_162 0 9 (dk_at dksX8_of_0 7 rfl rfl)
theorem dX8_of_10 : decode cX8_of 10 = .ok (.iload_n 2, 1) := dk_28 (dk_at dksX8_of_0 10 rfl rfl)
theorem dX8_of_11 : decode cX8_of 11 = .ok (.iconst 1, 1) := dk_4 (dk_at dksX8_of_0 11 rfl rfl)
theorem dX8_of_12 : decode cX8_of 12 = .ok (.iadd, 1) := dk_96 (dk_at dksX8_of_0 12 rfl rfl)
theorem dX8_of_13 : decode cX8_of 13 = .ok (.goto 16, 3) := dk_167 0 16 (dk_at dksX8_of_0 13 rfl rfl)
theorem dX8_of_16 : decode cX8_of 16 = .ok (.aload_n 1, 1) := dk_43 (dk_at dksX8_of_0 16 rfl rfl)
theorem dX8_of_17 : decode cX8_of 17 = .ok (.getfield 15, 3) := dk_180 0 15 (dk_at dksX8_of_0 17 rfl rfl)
theorem dX8_of_20 : decode cX8_of 20 = .ok (.iconst 1, 1) := dk_4 (dk_at dksX8_of_0 20 rfl rfl)
theorem dX8_of_21 : decode cX8_of 21 = .ok (.if_icmp .ne 7, 3) := dk_160 0 7 (dk_at dksX8_of_0 21 rfl rfl)
theorem dX8_of_24 : decode cX8_of 24 = .ok (.iconst 0, 1) := dk_3 (dk_at dksX8_of_1 0 rfl rfl)
theorem dX8_of_25 : decode cX8_of 25 = .ok (.goto 4, 3) := dk_167 0 4 (dk_at dksX8_of_1 1 rfl rfl)
theorem dX8_of_28 : decode cX8_of 28 = .ok (.iconst (-1), 1) := dk_2 (dk_at dksX8_of_1 4 rfl rfl)
theorem dX8_of_29 : decode cX8_of 29 = .ok (.ireturn, 1) := dk_172 (dk_at dksX8_of_1 5 rfl rfl)
theorem q122 : (Jvm.Cond.initialized "PartedSide$Behind") ∈ lw_all := lw_g (lw_at lw_m1 15 rfl) rfl
theorem q365 : (Jvm.Cond.fieldLink "PartedSide$Behind" (15 : Nat) "PartedSide$Text" "ring" "I") ∈ lw_all := lw_g (lw_at lw_m2 18 rfl) rfl
theorem q411 : (Jvm.Cond.instantiable "PartedSide$Behind" (0 : Nat)) ∈ lw_all := lw_g (lw_at lw_m2 64 rfl) rfl
theorem q413 : (Jvm.Cond.instanceMethod ({ cls := "PartedSide$Behind", name := "<init>", desc := "()V" } : Jvm.MethodName)) ∈ lw_all := lw_g (lw_at lw_m2 66 rfl) rfl
theorem q414 : (Jvm.Cond.code ({ cls := "PartedSide$Behind", name := "<init>", desc := "()V" } : Jvm.MethodName) prog_5_method_1_code (1 : Nat) (Option.none : Option Jvm.ClassFile.FieldType)) ∈ lw_all := lw_g (lw_at lw_m2 67 rfl) rfl
theorem q415 : (Jvm.Cond.methodLinkNest "PartedSide$Behind" (3 : Nat) ({ cls := "PartedSide$Side", name := "<init>", desc := "()V" } : Jvm.MethodName) "PartedSide") ∈ lw_tbl := lw_at lw_m2 68 rfl
theorem q416 : (Jvm.Cond.superclass "PartedSide$Behind" "PartedSide$Side") ∈ lw_all := lw_g (lw_at lw_m2 69 rfl) rfl
theorem q1069 : (Jvm.Cond.selects "PartedSide$Behind" ({ cls := "java/lang/Object", name := "getClass", desc := "()Ljava/lang/Class;" } : Jvm.MethodName) ({ cls := "java/lang/Object", name := "getClass", desc := "()Ljava/lang/Class;" } : Jvm.MethodName)) ∈ lw_all := lw_g (lw_at lw_m5 2 rfl) rfl
theorem q1139 : (Jvm.Cond.selects "PartedSide$Behind" ({ cls := "PartedSide$Side", name := "of", desc := "(LPartedSide$Text;I)I" } : Jvm.MethodName) ({ cls := "PartedSide$Behind", name := "of", desc := "(LPartedSide$Text;I)I" } : Jvm.MethodName)) ∈ lw_all := lw_g (lw_at lw_m5 72 rfl) rfl
theorem q1140 : (Jvm.Cond.instanceMethod ({ cls := "PartedSide$Behind", name := "of", desc := "(LPartedSide$Text;I)I" } : Jvm.MethodName)) ∈ lw_all := lw_g (lw_at lw_m5 73 rfl) rfl
theorem q1141 : (Jvm.Cond.code ({ cls := "PartedSide$Behind", name := "of", desc := "(LPartedSide$Text;I)I" } : Jvm.MethodName) prog_5_method_2_code (3 : Nat) (Option.some Jvm.ClassFile.FieldType.int)) ∈ lw_all := lw_g (lw_at lw_m5 74 rfl) rfl
theorem q1142 : (Jvm.Cond.methodLink "PartedSide$Behind" (9 : Nat) ({ cls := "PartedSide$Text", name := "beds", desc := "()I" } : Jvm.MethodName)) ∈ lw_all := lw_g (lw_at lw_m5 75 rfl) rfl
theorem q2096 : (Jvm.Cond.castable "PartedSide$Behind" "java/lang/Object") ∈ lw_tbl := lw_at lw_m9 69 rfl
theorem q2108 : (Jvm.Cond.castable "PartedSide$Behind" "PartedSide$Side") ∈ lw_tbl := lw_at lw_m9 81 rfl
/-! PartedSide$Asked -/
set_option maxRecDepth 100000
def RX9 : String := "PartedSide$Asked"
def TX9 : u_T := fun k => match k with
  | 0 => ("PartedSide$Asked", "v", "[I", true)
  | _ => ("PartedSide$Asked", "nought", "Z", false)
def tyX9 : Nat → FieldType := fun k => match k with
  | 0 => .array .int
  | _ => .boolean
abbrev wsX90 : List Cond := u_ws RX9 TX9 2
theorem nmX9 : ∀ a, a < 2 → ∀ b, b < 2 → a ≠ b → (TX9 a).2.1 ≠ (TX9 b).2.1 := by decide +kernel
theorem tyX9_ok : ∀ k, k < 2 → parseFieldDescriptor (TX9 k).2.2.1 = some (tyX9 k) := by decide +kernel
abbrev cX9_init : ByteArray := prog_2_method_1_code
def yX9_init : MethodName := ⟨RX9, "<init>", "()V"⟩
def dkwX9_init_0 : List UInt8 := [42, 183, 0, 1, 42, 16, 9, 188, 10, 181, 0, 7, 177]
abbrev dktX9_init_0 : List UInt8 := dkwX9_init_0 ++ []
theorem dksX9_init_0 : cX9_init.data.toList.drop 0 = dktX9_init_0 := by decide +kernel
theorem dX9_init_0 : decode cX9_init 0 = .ok (.aload_n 0, 1) := dk_42 (dk_at dksX9_init_0 0 rfl rfl)
theorem dX9_init_1 : decode cX9_init 1 = .ok (.invokespecial 1, 3) := dk_183 0 1 (dk_at dksX9_init_0 1 rfl rfl)
theorem dX9_init_4 : decode cX9_init 4 = .ok (.aload_n 0, 1) := dk_42 (dk_at dksX9_init_0 4 rfl rfl)
theorem dX9_init_5 : decode cX9_init 5 = .ok (.bipush 9, 2) := dk_16 9 (dk_at dksX9_init_0 5 rfl rfl)
theorem dX9_init_7 : decode cX9_init 7 = .ok (.newarray .int, 2) := dk_188_10 (dk_at dksX9_init_0 7 rfl rfl)
theorem dX9_init_9 : decode cX9_init 9 = .ok (.putfield 7, 3) := dk_181 0 7 (dk_at dksX9_init_0 9 rfl rfl)
theorem dX9_init_12 : decode cX9_init 12 = .ok (.return_, 1) := dk_177 (dk_at dksX9_init_0 12 rfl rfl)
theorem q123 : (Jvm.Cond.initialized "PartedSide$Asked") ∈ lw_all := lw_g (lw_at lw_m1 16 rfl) rfl
theorem q418 : (Jvm.Cond.instantiable "PartedSide$Asked" (2 : Nat)) ∈ lw_all := lw_g (lw_at lw_m2 71 rfl) rfl
theorem q420 : (Jvm.Cond.instanceMethod ({ cls := "PartedSide$Asked", name := "<init>", desc := "()V" } : Jvm.MethodName)) ∈ lw_all := lw_g (lw_at lw_m2 73 rfl) rfl
theorem q421 : (Jvm.Cond.code ({ cls := "PartedSide$Asked", name := "<init>", desc := "()V" } : Jvm.MethodName) prog_2_method_1_code (1 : Nat) (Option.none : Option Jvm.ClassFile.FieldType)) ∈ lw_all := lw_g (lw_at lw_m2 74 rfl) rfl
theorem q422 : (Jvm.Cond.methodLink "PartedSide$Asked" (1 : Nat) ({ cls := "java/lang/Object", name := "<init>", desc := "()V" } : Jvm.MethodName)) ∈ lw_all := lw_g (lw_at lw_m2 75 rfl) rfl
theorem q423 : (Jvm.Cond.fieldLink "PartedSide$Asked" (7 : Nat) "PartedSide$Asked" "v" "[I") ∈ lw_all := lw_g (lw_at lw_m2 76 rfl) rfl
theorem q428 : (Jvm.Cond.laysFinal "PartedSide$Asked" "PartedSide$Asked" "v" "[I") ∈ lw_all := lw_g (lw_at lw_m2 81 rfl) rfl
theorem q429 : (Jvm.Cond.soleField "PartedSide$Asked" "v") ∈ lw_all := lw_g (lw_at lw_m2 82 rfl) rfl
theorem q430 : (Jvm.Cond.lays "PartedSide$Asked" "PartedSide$Asked" "nought" "Z") ∈ lw_all := lw_g (lw_at lw_m2 83 rfl) rfl
theorem q431 : (Jvm.Cond.soleField "PartedSide$Asked" "nought") ∈ lw_all := lw_g (lw_at lw_m2 84 rfl) rfl
theorem q432 : (Jvm.Cond.superclass "PartedSide$Asked" "java/lang/Object") ∈ lw_all := lw_g (lw_at lw_m2 85 rfl) rfl
theorem q1066 : (Jvm.Cond.selects "PartedSide$Asked" ({ cls := "java/lang/Object", name := "getClass", desc := "()Ljava/lang/Class;" } : Jvm.MethodName) ({ cls := "java/lang/Object", name := "getClass", desc := "()Ljava/lang/Class;" } : Jvm.MethodName)) ∈ lw_all := lw_g (lw_at lw_m4 239 rfl) rfl
theorem q2097 : (Jvm.Cond.castable "PartedSide$Asked" "java/lang/Object") ∈ lw_tbl := lw_at lw_m9 70 rfl
theorem in_X9 : ∀ w ∈ wsX90, w ∈ lw_all := lw_in wsX90 [428, 430] (by decide +kernel) (by decide +kernel)
/-! PartedSide$Night -/
set_option maxRecDepth 100000
def RX10 : String := "PartedSide$Night"
abbrev cX10_init : ByteArray := prog_11_method_1_code
def yX10_init : MethodName := ⟨RX10, "<init>", "()V"⟩
theorem dX10_init_0 : decode cX10_init 0 = .ok (.aload_n 0, 1) := by decide +kernel
theorem dX10_init_1 : decode cX10_init 1 = .ok (.invokespecial 1, 3) := by decide +kernel
theorem dX10_init_4 : decode cX10_init 4 = .ok (.return_, 1) := by decide +kernel
theorem q124 : (Jvm.Cond.initialized "PartedSide$Night") ∈ lw_all := lw_g (lw_at lw_m1 17 rfl) rfl
theorem q484 : (Jvm.Cond.instanceMethod ({ cls := "PartedSide$Night", name := "<init>", desc := "()V" } : Jvm.MethodName)) ∈ lw_all := lw_g (lw_at lw_m2 137 rfl) rfl
theorem q485 : (Jvm.Cond.code ({ cls := "PartedSide$Night", name := "<init>", desc := "()V" } : Jvm.MethodName) prog_11_method_1_code (1 : Nat) (Option.none : Option Jvm.ClassFile.FieldType)) ∈ lw_all := lw_g (lw_at lw_m2 138 rfl) rfl
theorem q486 : (Jvm.Cond.methodLink "PartedSide$Night" (1 : Nat) ({ cls := "java/lang/Object", name := "<init>", desc := "()V" } : Jvm.MethodName)) ∈ lw_all := lw_g (lw_at lw_m2 139 rfl) rfl
theorem q1240 : (Jvm.Cond.declares ({ cls := "PartedSide$Night", name := "chills", desc := "(LPartedSide$Barrack;LPartedSide$Text;I)Z" } : Jvm.MethodName)) ∈ lw_tbl := lw_at lw_m5 173 rfl
theorem q1241 : (Jvm.Cond.sameMethod "PartedSide$Night" "PartedSide$Night" "chills" "(LPartedSide$Barrack;LPartedSide$Text;I)Z") ∈ lw_all := lw_g (lw_at lw_m5 174 rfl) rfl
/-! PartedSide$Drawn -/
set_option maxRecDepth 100000
def RX11 : String := "PartedSide$Drawn"
abbrev cX11_init : ByteArray := prog_6_method_1_code
def yX11_init : MethodName := ⟨RX11, "<init>", "()V"⟩
theorem dX11_init_0 : decode cX11_init 0 = .ok (.aload_n 0, 1) := by decide +kernel
theorem dX11_init_1 : decode cX11_init 1 = .ok (.invokespecial 1, 3) := by decide +kernel
theorem dX11_init_4 : decode cX11_init 4 = .ok (.return_, 1) := by decide +kernel
abbrev cX11_chills : ByteArray := prog_6_method_2_code
def yX11_chills : MethodName := ⟨RX11, "chills", "(LPartedSide$Barrack;LPartedSide$Text;I)Z"⟩
def dkwX11_chills_1 : List UInt8 := [162, 0, 7, 4, 167, 0, 4, 3, 172]
abbrev dktX11_chills_1 : List UInt8 := dkwX11_chills_1 ++ []
def dkwX11_chills_0 : List UInt8 := [43, 180, 0, 7, 16, 16, 43, 180, 0, 13, 104, 29, 96, 16, 100, 184, 0, 16, 43, 44, 29, 182, 0, 22]
abbrev dktX11_chills_0 : List UInt8 := dkwX11_chills_0 ++ dktX11_chills_1
theorem dksX11_chills_0 : cX11_chills.data.toList.drop 0 = dktX11_chills_0 := by decide +kernel
theorem dksX11_chills_1 : cX11_chills.data.toList.drop 24 = dktX11_chills_1 := dk_seg dksX11_chills_0 24 rfl rfl
theorem dX11_chills_0 : decode cX11_chills 0 = .ok (.aload_n 1, 1) := dk_43 (dk_at dksX11_chills_0 0 rfl rfl)
theorem dX11_chills_1 : decode cX11_chills 1 = .ok (.getfield 7, 3) := dk_180 0 7 (dk_at dksX11_chills_0 1 rfl rfl)
theorem dX11_chills_4 : decode cX11_chills 4 = .ok (.bipush 16, 2) := dk_16 16 (dk_at dksX11_chills_0 4 rfl rfl)
theorem dX11_chills_6 : decode cX11_chills 6 = .ok (.aload_n 1, 1) := dk_43 (dk_at dksX11_chills_0 6 rfl rfl)
theorem dX11_chills_7 : decode cX11_chills 7 = .ok (.getfield 13, 3) := dk_180 0 13 (dk_at dksX11_chills_0 7 rfl rfl)
theorem dX11_chills_10 : decode cX11_chills 10 = .ok (.imul, 1) := dk_104 (dk_at dksX11_chills_0 10 rfl rfl)
theorem dX11_chills_11 : decode cX11_chills 11 = .ok (.iload_n 3, 1) := dk_29 (dk_at dksX11_chills_0 11 rfl rfl)
theorem dX11_chills_12 : decode cX11_chills 12 = .ok (.iadd, 1) := dk_96 (dk_at dksX11_chills_0 12 rfl rfl)
theorem dX11_chills_13 : decode cX11_chills 13 = .ok (.bipush 100, 2) := dk_16 100 (dk_at dksX11_chills_0 13 rfl rfl)
theorem dX11_chills_15 : decode cX11_chills 15 = .ok (.invokestatic 16, 3) := dk_184 0 16 (dk_at dksX11_chills_0 15 rfl rfl)
theorem dX11_chills_18 : decode cX11_chills 18 = .ok (.aload_n 1, 1) := dk_43 (dk_at dksX11_chills_0 18 rfl rfl)
theorem dX11_chills_19 : decode cX11_chills 19 = .ok (.aload_n 2, 1) := dk_44 (dk_at dksX11_chills_0 19 rfl rfl)
theorem dX11_chills_20 : decode cX11_chills 20 = .ok (.iload_n 3, 1) := dk_29 (dk_at dksX11_chills_0 20 rfl rfl)
theorem dX11_chills_21 : decode cX11_chills 21 = .ok (.invokevirtual 22, 3) := dk_182 0 22 (dk_at dksX11_chills_0 21 rfl rfl)
theorem dX11_chills_24 : decode cX11_chills 24 = .ok (.if_icmp .ge 7, 3) := dk_162 0 7 (dk_at dksX11_chills_1 0 rfl rfl)
theorem dX11_chills_27 : decode cX11_chills 27 = .ok (.iconst 1, 1) := dk_4 (dk_at dksX11_chills_1 3 rfl rfl)
theorem dX11_chills_28 : decode cX11_chills 28 = .ok (.goto 4, 3) := dk_167 0 4 (dk_at dksX11_chills_1 4 rfl rfl)
theorem dX11_chills_31 : decode cX11_chills 31 = .ok (.iconst 0, 1) := dk_3 (dk_at dksX11_chills_1 7 rfl rfl)
theorem dX11_chills_32 : decode cX11_chills 32 = .ok (.ireturn, 1) := dk_172 (dk_at dksX11_chills_1 8 rfl rfl)
theorem q125 : (Jvm.Cond.initialized "PartedSide$Drawn") ∈ lw_all := lw_g (lw_at lw_m1 18 rfl) rfl
theorem q443 : (Jvm.Cond.fieldLink "PartedSide$Drawn" (13 : Nat) "PartedSide$Barrack" "hour" "I") ∈ lw_all := lw_g (lw_at lw_m2 96 rfl) rfl
theorem q448 : (Jvm.Cond.fieldLink "PartedSide$Drawn" (7 : Nat) "PartedSide$Barrack" "seed" "I") ∈ lw_all := lw_g (lw_at lw_m2 101 rfl) rfl
theorem q479 : (Jvm.Cond.instantiable "PartedSide$Drawn" (0 : Nat)) ∈ lw_all := lw_g (lw_at lw_m2 132 rfl) rfl
theorem q481 : (Jvm.Cond.instanceMethod ({ cls := "PartedSide$Drawn", name := "<init>", desc := "()V" } : Jvm.MethodName)) ∈ lw_all := lw_g (lw_at lw_m2 134 rfl) rfl
theorem q482 : (Jvm.Cond.code ({ cls := "PartedSide$Drawn", name := "<init>", desc := "()V" } : Jvm.MethodName) prog_6_method_1_code (1 : Nat) (Option.none : Option Jvm.ClassFile.FieldType)) ∈ lw_all := lw_g (lw_at lw_m2 135 rfl) rfl
theorem q483 : (Jvm.Cond.methodLinkNest "PartedSide$Drawn" (1 : Nat) ({ cls := "PartedSide$Night", name := "<init>", desc := "()V" } : Jvm.MethodName) "PartedSide") ∈ lw_tbl := lw_at lw_m2 136 rfl
theorem q487 : (Jvm.Cond.superclass "PartedSide$Drawn" "PartedSide$Night") ∈ lw_all := lw_g (lw_at lw_m2 140 rfl) rfl
theorem q1070 : (Jvm.Cond.selects "PartedSide$Drawn" ({ cls := "java/lang/Object", name := "getClass", desc := "()Ljava/lang/Class;" } : Jvm.MethodName) ({ cls := "java/lang/Object", name := "getClass", desc := "()Ljava/lang/Class;" } : Jvm.MethodName)) ∈ lw_all := lw_g (lw_at lw_m5 3 rfl) rfl
theorem q1242 : (Jvm.Cond.selects "PartedSide$Drawn" ({ cls := "PartedSide$Night", name := "chills", desc := "(LPartedSide$Barrack;LPartedSide$Text;I)Z" } : Jvm.MethodName) ({ cls := "PartedSide$Drawn", name := "chills", desc := "(LPartedSide$Barrack;LPartedSide$Text;I)Z" } : Jvm.MethodName)) ∈ lw_all := lw_g (lw_at lw_m5 175 rfl) rfl
theorem q1243 : (Jvm.Cond.instanceMethod ({ cls := "PartedSide$Drawn", name := "chills", desc := "(LPartedSide$Barrack;LPartedSide$Text;I)Z" } : Jvm.MethodName)) ∈ lw_all := lw_g (lw_at lw_m5 176 rfl) rfl
theorem q1244 : (Jvm.Cond.code ({ cls := "PartedSide$Drawn", name := "chills", desc := "(LPartedSide$Barrack;LPartedSide$Text;I)Z" } : Jvm.MethodName) prog_6_method_2_code (4 : Nat) (Option.some Jvm.ClassFile.FieldType.boolean)) ∈ lw_all := lw_g (lw_at lw_m5 177 rfl) rfl
theorem q1245 : (Jvm.Cond.methodLinkNest "PartedSide$Drawn" (16 : Nat) ({ cls := "PartedSide", name := "lot", desc := "(III)I" } : Jvm.MethodName) "PartedSide") ∈ lw_tbl := lw_at lw_m5 178 rfl
theorem q1252 : (Jvm.Cond.methodLink "PartedSide$Drawn" (22 : Nat) ({ cls := "PartedSide$Barrack", name := "chills", desc := "(LPartedSide$Text;I)I" } : Jvm.MethodName)) ∈ lw_all := lw_g (lw_at lw_m5 185 rfl) rfl
theorem q2098 : (Jvm.Cond.castable "PartedSide$Drawn" "java/lang/Object") ∈ lw_tbl := lw_at lw_m9 71 rfl
/-! PartedSide$Mild -/
set_option maxRecDepth 100000
def RX12 : String := "PartedSide$Mild"
abbrev cX12_init : ByteArray := prog_10_method_1_code
def yX12_init : MethodName := ⟨RX12, "<init>", "()V"⟩
theorem dX12_init_0 : decode cX12_init 0 = .ok (.aload_n 0, 1) := by decide +kernel
theorem dX12_init_1 : decode cX12_init 1 = .ok (.invokespecial 1, 3) := by decide +kernel
theorem dX12_init_4 : decode cX12_init 4 = .ok (.return_, 1) := by decide +kernel
abbrev cX12_chills : ByteArray := prog_10_method_2_code
def yX12_chills : MethodName := ⟨RX12, "chills", "(LPartedSide$Barrack;LPartedSide$Text;I)Z"⟩
theorem dX12_chills_0 : decode cX12_chills 0 = .ok (.iconst 0, 1) := by decide +kernel
theorem dX12_chills_1 : decode cX12_chills 1 = .ok (.ireturn, 1) := by decide +kernel
theorem q126 : (Jvm.Cond.initialized "PartedSide$Mild") ∈ lw_all := lw_g (lw_at lw_m1 19 rfl) rfl
theorem q489 : (Jvm.Cond.instantiable "PartedSide$Mild" (0 : Nat)) ∈ lw_all := lw_g (lw_at lw_m2 142 rfl) rfl
theorem q491 : (Jvm.Cond.instanceMethod ({ cls := "PartedSide$Mild", name := "<init>", desc := "()V" } : Jvm.MethodName)) ∈ lw_all := lw_g (lw_at lw_m2 144 rfl) rfl
theorem q492 : (Jvm.Cond.code ({ cls := "PartedSide$Mild", name := "<init>", desc := "()V" } : Jvm.MethodName) prog_10_method_1_code (1 : Nat) (Option.none : Option Jvm.ClassFile.FieldType)) ∈ lw_all := lw_g (lw_at lw_m2 145 rfl) rfl
theorem q493 : (Jvm.Cond.methodLinkNest "PartedSide$Mild" (1 : Nat) ({ cls := "PartedSide$Night", name := "<init>", desc := "()V" } : Jvm.MethodName) "PartedSide") ∈ lw_tbl := lw_at lw_m2 146 rfl
theorem q494 : (Jvm.Cond.superclass "PartedSide$Mild" "PartedSide$Night") ∈ lw_all := lw_g (lw_at lw_m2 147 rfl) rfl
theorem q1074 : (Jvm.Cond.selects "PartedSide$Mild" ({ cls := "java/lang/Object", name := "getClass", desc := "()Ljava/lang/Class;" } : Jvm.MethodName) ({ cls := "java/lang/Object", name := "getClass", desc := "()Ljava/lang/Class;" } : Jvm.MethodName)) ∈ lw_all := lw_g (lw_at lw_m5 7 rfl) rfl
theorem q1253 : (Jvm.Cond.selects "PartedSide$Mild" ({ cls := "PartedSide$Night", name := "chills", desc := "(LPartedSide$Barrack;LPartedSide$Text;I)Z" } : Jvm.MethodName) ({ cls := "PartedSide$Mild", name := "chills", desc := "(LPartedSide$Barrack;LPartedSide$Text;I)Z" } : Jvm.MethodName)) ∈ lw_all := lw_g (lw_at lw_m5 186 rfl) rfl
theorem q1254 : (Jvm.Cond.instanceMethod ({ cls := "PartedSide$Mild", name := "chills", desc := "(LPartedSide$Barrack;LPartedSide$Text;I)Z" } : Jvm.MethodName)) ∈ lw_all := lw_g (lw_at lw_m5 187 rfl) rfl
theorem q1255 : (Jvm.Cond.code ({ cls := "PartedSide$Mild", name := "chills", desc := "(LPartedSide$Barrack;LPartedSide$Text;I)Z" } : Jvm.MethodName) prog_10_method_2_code (4 : Nat) (Option.some Jvm.ClassFile.FieldType.boolean)) ∈ lw_all := lw_g (lw_at lw_m5 188 rfl) rfl
theorem q2099 : (Jvm.Cond.castable "PartedSide$Mild" "java/lang/Object") ∈ lw_tbl := lw_at lw_m9 72 rfl
/-! PartedSide$Law -/
set_option maxRecDepth 100000
def RX14 : String := "PartedSide$Law"
def TX14 : u_T := fun k => match k with
  | 0 => ("PartedSide$Law", "less", "[LPartedSide$Sum;", true)
  | 1 => ("PartedSide$Law", "than", "[LPartedSide$Sum;", true)
  | 2 => ("PartedSide$Law", "then", "[LPartedSide$Sum;", true)
  | _ => ("PartedSide$Law", "ifs", "I", false)
def tyX14 : Nat → FieldType := fun k => match k with
  | 0 => .array (.object "PartedSide$Sum")
  | 1 => .array (.object "PartedSide$Sum")
  | 2 => .array (.object "PartedSide$Sum")
  | _ => .int
abbrev wsX140 : List Cond := u_ws RX14 TX14 4
theorem nmX14 : ∀ a, a < 4 → ∀ b, b < 4 → a ≠ b → (TX14 a).2.1 ≠ (TX14 b).2.1 := by decide +kernel
theorem tyX14_ok : ∀ k, k < 4 → parseFieldDescriptor (TX14 k).2.2.1 = some (tyX14 k) := by decide +kernel
abbrev cX14_init : ByteArray := prog_9_method_1_code
def yX14_init : MethodName := ⟨RX14, "<init>", "()V"⟩
def dkwX14_init_1 : List UInt8 := [189, 0, 9, 181, 0, 20, 177]
abbrev dktX14_init_1 : List UInt8 := dkwX14_init_1 ++ []
def dkwX14_init_0 : List UInt8 := [42, 183, 0, 3, 42, 7, 189, 0, 9, 181, 0, 11, 42, 7, 189, 0, 9, 181, 0, 17, 42, 8]
abbrev dktX14_init_0 : List UInt8 := dkwX14_init_0 ++ dktX14_init_1
theorem dksX14_init_0 : cX14_init.data.toList.drop 0 = dktX14_init_0 := by decide +kernel
theorem dksX14_init_1 : cX14_init.data.toList.drop 22 = dktX14_init_1 := dk_seg dksX14_init_0 22 rfl rfl
theorem dX14_init_0 : decode cX14_init 0 = .ok (.aload_n 0, 1) := dk_42 (dk_at dksX14_init_0 0 rfl rfl)
theorem dX14_init_1 : decode cX14_init 1 = .ok (.invokespecial 3, 3) := dk_183 0 3 (dk_at dksX14_init_0 1 rfl rfl)
theorem dX14_init_4 : decode cX14_init 4 = .ok (.aload_n 0, 1) := dk_42 (dk_at dksX14_init_0 4 rfl rfl)
theorem dX14_init_5 : decode cX14_init 5 = .ok (.iconst 4, 1) := dk_7 (dk_at dksX14_init_0 5 rfl rfl)
theorem dX14_init_6 : decode cX14_init 6 = .ok (.anewarray 9, 3) := dk_189 0 9 (dk_at dksX14_init_0 6 rfl rfl)
theorem dX14_init_9 : decode cX14_init 9 = .ok (.putfield 11, 3) := dk_181 0 11 (dk_at dksX14_init_0 9 rfl rfl)
theorem dX14_init_12 : decode cX14_init 12 = .ok (.aload_n 0, 1) := dk_42 (dk_at dksX14_init_0 12 rfl rfl)
theorem dX14_init_13 : decode cX14_init 13 = .ok (.iconst 4, 1) := dk_7 (dk_at dksX14_init_0 13 rfl rfl)
theorem dX14_init_14 : decode cX14_init 14 = .ok (.anewarray 9, 3) := dk_189 0 9 (dk_at dksX14_init_0 14 rfl rfl)
theorem dX14_init_17 : decode cX14_init 17 = .ok (.putfield 17, 3) := dk_181 0 17 (dk_at dksX14_init_0 17 rfl rfl)
theorem dX14_init_20 : decode cX14_init 20 = .ok (.aload_n 0, 1) := dk_42 (dk_at dksX14_init_0 20 rfl rfl)
theorem dX14_init_21 : decode cX14_init 21 = .ok (.iconst 5, 1) := dk_8 (dk_at dksX14_init_0 21 rfl rfl)
theorem dX14_init_22 : decode cX14_init 22 = .ok (.anewarray 9, 3) := dk_189 0 9 (dk_at dksX14_init_1 0 rfl rfl)
theorem dX14_init_25 : decode cX14_init 25 = .ok (.putfield 20, 3) := dk_181 0 20 (dk_at dksX14_init_1 3 rfl rfl)
theorem dX14_init_28 : decode cX14_init 28 = .ok (.return_, 1) := dk_177 (dk_at dksX14_init_1 6 rfl rfl)
abbrev cX14_of : ByteArray := prog_9_method_2_code
def yX14_of : MethodName := ⟨RX14, "of", "(LPartedSide$Asked;)I"⟩
def dkwX14_of_3 : List UInt8 := [184, 0, 37, 172]
abbrev dktX14_of_3 : List UInt8 := dkwX14_of_3 ++ []
def dkwX14_of_2 : List UInt8 := [180, 0, 20, 28, 50, 43, 182, 0, 33, 62, 43, 180, 0, 23, 153, 0, 7, 3, 167, 0, 8, 3, 29]
abbrev dktX14_of_2 : List UInt8 := dkwX14_of_2 ++ dktX14_of_3
def dkwX14_of_1 : List UInt8 := [182, 0, 33, 42, 180, 0, 17, 28, 50, 43, 182, 0, 33, 161, 0, 9, 132, 2, 1, 167, 255, 222, 42]
abbrev dktX14_of_1 : List UInt8 := dkwX14_of_1 ++ dktX14_of_2
def dkwX14_of_0 : List UInt8 := [43, 3, 181, 0, 23, 3, 61, 28, 42, 180, 0, 29, 162, 0, 32, 42, 180, 0, 11, 28, 50, 43]
abbrev dktX14_of_0 : List UInt8 := dkwX14_of_0 ++ dktX14_of_1
theorem dksX14_of_0 : cX14_of.data.toList.drop 0 = dktX14_of_0 := by decide +kernel
theorem dksX14_of_1 : cX14_of.data.toList.drop 22 = dktX14_of_1 := dk_seg dksX14_of_0 22 rfl rfl
theorem dksX14_of_2 : cX14_of.data.toList.drop 45 = dktX14_of_2 := dk_seg dksX14_of_1 23 rfl rfl
theorem dksX14_of_3 : cX14_of.data.toList.drop 68 = dktX14_of_3 := dk_seg dksX14_of_2 23 rfl rfl
theorem dX14_of_0 : decode cX14_of 0 = .ok (.aload_n 1, 1) := dk_43 (dk_at dksX14_of_0 0 rfl rfl)
theorem dX14_of_1 : decode cX14_of 1 = .ok (.iconst 0, 1) := dk_3 (dk_at dksX14_of_0 1 rfl rfl)
theorem dX14_of_2 : decode cX14_of 2 = .ok (.putfield 23, 3) := dk_181 0 23 (dk_at dksX14_of_0 2 rfl rfl)
theorem dX14_of_5 : decode cX14_of 5 = .ok (.iconst 0, 1) := dk_3 (dk_at dksX14_of_0 5 rfl rfl)
theorem dX14_of_6 : decode cX14_of 6 = .ok (.istore_n 2, 1) := dk_61 (dk_at dksX14_of_0 6 rfl rfl)
theorem dX14_of_7 : decode cX14_of 7 = .ok (.iload_n 2, 1) := dk_28 (dk_at dksX14_of_0 7 rfl rfl)
theorem dX14_of_8 : decode cX14_of 8 = .ok (.aload_n 0, 1) := dk_42 (dk_at dksX14_of_0 8 rfl rfl)
theorem dX14_of_9 : decode cX14_of 9 = .ok (.getfield 29, 3) := dk_180 0 29 (dk_at dksX14_of_0 9 rfl rfl)
theorem dX14_of_12 : decode cX14_of 12 = .ok (.if_icmp .ge 32, 3) := dk_162 0 32 (dk_at dksX14_of_0 12 rfl rfl)
theorem dX14_of_15 : decode cX14_of 15 = .ok (.aload_n 0, 1) := dk_42 (dk_at dksX14_of_0 15 rfl rfl)
theorem dX14_of_16 : decode cX14_of 16 = .ok (.getfield 11, 3) := dk_180 0 11 (dk_at dksX14_of_0 16 rfl rfl)
theorem dX14_of_19 : decode cX14_of 19 = .ok (.iload_n 2, 1) := dk_28 (dk_at dksX14_of_0 19 rfl rfl)
theorem dX14_of_20 : decode cX14_of 20 = .ok (.aaload, 1) := dk_50 (dk_at dksX14_of_0 20 rfl rfl)
theorem dX14_of_21 : decode cX14_of 21 = .ok (.aload_n 1, 1) := dk_43 (dk_at dksX14_of_0 21 rfl rfl)
theorem dX14_of_22 : decode cX14_of 22 = .ok (.invokevirtual 33, 3) := dk_182 0 33 (dk_at dksX14_of_1 0 rfl rfl)
theorem dX14_of_25 : decode cX14_of 25 = .ok (.aload_n 0, 1) := dk_42 (dk_at dksX14_of_1 3 rfl rfl)
theorem dX14_of_26 : decode cX14_of 26 = .ok (.getfield 17, 3) := dk_180 0 17 (dk_at dksX14_of_1 4 rfl rfl)
theorem dX14_of_29 : decode cX14_of 29 = .ok (.iload_n 2, 1) := dk_28 (dk_at dksX14_of_1 7 rfl rfl)
theorem dX14_of_30 : decode cX14_of 30 = .ok (.aaload, 1) := dk_50 (dk_at dksX14_of_1 8 rfl rfl)
theorem dX14_of_31 : decode cX14_of 31 = .ok (.aload_n 1, 1) := dk_43 (dk_at dksX14_of_1 9 rfl rfl)
theorem dX14_of_32 : decode cX14_of 32 = .ok (.invokevirtual 33, 3) := dk_182 0 33 (dk_at dksX14_of_1 10 rfl rfl)
theorem dX14_of_35 : decode cX14_of 35 = .ok (.if_icmp .lt 9, 3) := dk_161 0 9 (dk_at dksX14_of_1 13 rfl rfl)
theorem dX14_of_38 : decode cX14_of 38 = .ok (.iinc 2 1, 3) := dk_132 2 1 (dk_at dksX14_of_1 16 rfl rfl)
theorem dX14_of_41 : decode cX14_of 41 = .ok (.goto (-34), 3) := dk_167 255 222 (dk_at dksX14_of_1 19 rfl rfl)
theorem dX14_of_44 : decode cX14_of 44 = .ok (.aload_n 0, 1) := dk_42 (dk_at dksX14_of_1 22 rfl rfl)
theorem dX14_of_45 : decode cX14_of 45 = .ok (.getfield 20, 3) := dk_180 0 20 (dk_at dksX14_of_2 0 rfl rfl)
theorem dX14_of_48 : decode cX14_of 48 = .ok (.iload_n 2, 1) := dk_28 (dk_at dksX14_of_2 3 rfl rfl)
theorem dX14_of_49 : decode cX14_of 49 = .ok (.aaload, 1) := dk_50 (dk_at dksX14_of_2 4 rfl rfl)
theorem dX14_of_50 : decode cX14_of 50 = .ok (.aload_n 1, 1) := dk_43 (dk_at dksX14_of_2 5 rfl rfl)
theorem dX14_of_51 : decode cX14_of 51 = .ok (.invokevirtual 33, 3) := dk_182 0 33 (dk_at dksX14_of_2 6 rfl rfl)
theorem dX14_of_54 : decode cX14_of 54 = .ok (.istore_n 3, 1) := dk_62 (dk_at dksX14_of_2 9 rfl rfl)
theorem dX14_of_55 : decode cX14_of 55 = .ok (.aload_n 1, 1) := dk_43 (dk_at dksX14_of_2 10 rfl rfl)
theorem dX14_of_56 : decode cX14_of 56 = .ok (.getfield 23, 3) := dk_180 0 23 (dk_at dksX14_of_2 11 rfl rfl)
theorem dX14_of_59 : decode cX14_of 59 = .ok (.ifCond .eq 7, 3) := dk_153 0 7 (dk_at dksX14_of_2 14 rfl rfl)
theorem dX14_of_62 : decode cX14_of 62 = .ok (.iconst 0, 1) := dk_3 (dk_at dksX14_of_2 17 rfl rfl)
theorem dX14_of_63 : decode cX14_of 63 = .ok (.goto 8, 3) := dk_167 0 8 (dk_at dksX14_of_2 18 rfl rfl)
theorem dX14_of_66 : decode cX14_of 66 = .ok (.iconst 0, 1) := dk_3 (dk_at dksX14_of_2 21 rfl rfl)
theorem dX14_of_67 : decode cX14_of 67 = .ok (.iload_n 3, 1) := dk_29 (dk_at dksX14_of_2 22 rfl rfl)
theorem dX14_of_68 : decode cX14_of 68 = .ok (.invokestatic 37, 3) := dk_184 0 37 (dk_at dksX14_of_3 0 rfl rfl)
theorem dX14_of_71 : decode cX14_of 71 = .ok (.ireturn, 1) := dk_172 (dk_at dksX14_of_3 3 rfl rfl)
theorem q133 : (Jvm.Cond.initialized "PartedSide$Law") ∈ lw_all := lw_g (lw_at lw_m1 26 rfl) rfl
theorem q426 : (Jvm.Cond.fieldLink "PartedSide$Law" (23 : Nat) "PartedSide$Asked" "nought" "Z") ∈ lw_all := lw_g (lw_at lw_m2 79 rfl) rfl
theorem q727 : (Jvm.Cond.instantiable "PartedSide$Law" (4 : Nat)) ∈ lw_all := lw_g (lw_at lw_m3 140 rfl) rfl
theorem q729 : (Jvm.Cond.instanceMethod ({ cls := "PartedSide$Law", name := "<init>", desc := "()V" } : Jvm.MethodName)) ∈ lw_all := lw_g (lw_at lw_m3 142 rfl) rfl
theorem q730 : (Jvm.Cond.code ({ cls := "PartedSide$Law", name := "<init>", desc := "()V" } : Jvm.MethodName) prog_9_method_1_code (1 : Nat) (Option.none : Option Jvm.ClassFile.FieldType)) ∈ lw_all := lw_g (lw_at lw_m3 143 rfl) rfl
theorem q731 : (Jvm.Cond.methodLink "PartedSide$Law" (3 : Nat) ({ cls := "java/lang/Object", name := "<init>", desc := "()V" } : Jvm.MethodName)) ∈ lw_all := lw_g (lw_at lw_m3 144 rfl) rfl
theorem q732 : (Jvm.Cond.classLink "PartedSide$Law" (9 : Nat) "PartedSide$Sum") ∈ lw_all := lw_g (lw_at lw_m3 145 rfl) rfl
theorem q734 : (Jvm.Cond.fieldLink "PartedSide$Law" (11 : Nat) "PartedSide$Law" "less" "[LPartedSide$Sum;") ∈ lw_all := lw_g (lw_at lw_m3 147 rfl) rfl
theorem q736 : (Jvm.Cond.fieldLink "PartedSide$Law" (17 : Nat) "PartedSide$Law" "than" "[LPartedSide$Sum;") ∈ lw_all := lw_g (lw_at lw_m3 149 rfl) rfl
theorem q738 : (Jvm.Cond.fieldLink "PartedSide$Law" (20 : Nat) "PartedSide$Law" "then" "[LPartedSide$Sum;") ∈ lw_all := lw_g (lw_at lw_m3 151 rfl) rfl
theorem q740 : (Jvm.Cond.fieldLink "PartedSide$Law" (29 : Nat) "PartedSide$Law" "ifs" "I") ∈ lw_all := lw_g (lw_at lw_m3 153 rfl) rfl
theorem q742 : (Jvm.Cond.laysFinal "PartedSide$Law" "PartedSide$Law" "less" "[LPartedSide$Sum;") ∈ lw_all := lw_g (lw_at lw_m3 155 rfl) rfl
theorem q743 : (Jvm.Cond.soleField "PartedSide$Law" "less") ∈ lw_all := lw_g (lw_at lw_m3 156 rfl) rfl
theorem q744 : (Jvm.Cond.laysFinal "PartedSide$Law" "PartedSide$Law" "than" "[LPartedSide$Sum;") ∈ lw_all := lw_g (lw_at lw_m3 157 rfl) rfl
theorem q745 : (Jvm.Cond.soleField "PartedSide$Law" "than") ∈ lw_all := lw_g (lw_at lw_m3 158 rfl) rfl
theorem q746 : (Jvm.Cond.laysFinal "PartedSide$Law" "PartedSide$Law" "then" "[LPartedSide$Sum;") ∈ lw_all := lw_g (lw_at lw_m3 159 rfl) rfl
theorem q747 : (Jvm.Cond.soleField "PartedSide$Law" "then") ∈ lw_all := lw_g (lw_at lw_m3 160 rfl) rfl
theorem q748 : (Jvm.Cond.lays "PartedSide$Law" "PartedSide$Law" "ifs" "I") ∈ lw_all := lw_g (lw_at lw_m3 161 rfl) rfl
theorem q749 : (Jvm.Cond.soleField "PartedSide$Law" "ifs") ∈ lw_all := lw_g (lw_at lw_m3 162 rfl) rfl
theorem q750 : (Jvm.Cond.superclass "PartedSide$Law" "java/lang/Object") ∈ lw_all := lw_g (lw_at lw_m3 163 rfl) rfl
theorem q1073 : (Jvm.Cond.selects "PartedSide$Law" ({ cls := "java/lang/Object", name := "getClass", desc := "()Ljava/lang/Class;" } : Jvm.MethodName) ({ cls := "java/lang/Object", name := "getClass", desc := "()Ljava/lang/Class;" } : Jvm.MethodName)) ∈ lw_all := lw_g (lw_at lw_m5 6 rfl) rfl
theorem q1148 : (Jvm.Cond.instanceMethod ({ cls := "PartedSide$Law", name := "of", desc := "(LPartedSide$Asked;)I" } : Jvm.MethodName)) ∈ lw_all := lw_g (lw_at lw_m5 81 rfl) rfl
theorem q1149 : (Jvm.Cond.selects "PartedSide$Law" ({ cls := "PartedSide$Law", name := "of", desc := "(LPartedSide$Asked;)I" } : Jvm.MethodName) ({ cls := "PartedSide$Law", name := "of", desc := "(LPartedSide$Asked;)I" } : Jvm.MethodName)) ∈ lw_all := lw_g (lw_at lw_m5 82 rfl) rfl
theorem q1150 : (Jvm.Cond.code ({ cls := "PartedSide$Law", name := "of", desc := "(LPartedSide$Asked;)I" } : Jvm.MethodName) prog_9_method_2_code (4 : Nat) (Option.some Jvm.ClassFile.FieldType.int)) ∈ lw_all := lw_g (lw_at lw_m5 83 rfl) rfl
theorem q1151 : (Jvm.Cond.methodLink "PartedSide$Law" (33 : Nat) ({ cls := "PartedSide$Sum", name := "of", desc := "(LPartedSide$Asked;)I" } : Jvm.MethodName)) ∈ lw_all := lw_g (lw_at lw_m5 84 rfl) rfl
theorem q1164 : (Jvm.Cond.methodLink "PartedSide$Law" (37 : Nat) ({ cls := "java/lang/Math", name := "max", desc := "(II)I" } : Jvm.MethodName)) ∈ lw_all := lw_g (lw_at lw_m5 97 rfl) rfl
theorem q2085 : (Jvm.Cond.castable "PartedSide$Law" "java/lang/Object") ∈ lw_tbl := lw_at lw_m9 58 rfl
theorem in_X14 : ∀ w ∈ wsX140, w ∈ lw_all := lw_in wsX140 [742, 744, 746, 748] (by decide +kernel) (by decide +kernel)
/-! PartedSide$Sum -/
set_option maxRecDepth 100000
def RX15 : String := "PartedSide$Sum"
abbrev cX15_init : ByteArray := prog_16_method_1_code
def yX15_init : MethodName := ⟨RX15, "<init>", "()V"⟩
theorem dX15_init_0 : decode cX15_init 0 = .ok (.aload_n 0, 1) := by decide +kernel
theorem dX15_init_1 : decode cX15_init 1 = .ok (.invokespecial 1, 3) := by decide +kernel
theorem dX15_init_4 : decode cX15_init 4 = .ok (.return_, 1) := by decide +kernel
theorem q134 : (Jvm.Cond.initialized "PartedSide$Sum") ∈ lw_all := lw_g (lw_at lw_m1 27 rfl) rfl
theorem q789 : (Jvm.Cond.instanceMethod ({ cls := "PartedSide$Sum", name := "<init>", desc := "()V" } : Jvm.MethodName)) ∈ lw_all := lw_g (lw_at lw_m3 202 rfl) rfl
theorem q790 : (Jvm.Cond.code ({ cls := "PartedSide$Sum", name := "<init>", desc := "()V" } : Jvm.MethodName) prog_16_method_1_code (1 : Nat) (Option.none : Option Jvm.ClassFile.FieldType)) ∈ lw_all := lw_g (lw_at lw_m3 203 rfl) rfl
theorem q791 : (Jvm.Cond.methodLink "PartedSide$Sum" (1 : Nat) ({ cls := "java/lang/Object", name := "<init>", desc := "()V" } : Jvm.MethodName)) ∈ lw_all := lw_g (lw_at lw_m3 204 rfl) rfl
theorem q1152 : (Jvm.Cond.declares ({ cls := "PartedSide$Sum", name := "of", desc := "(LPartedSide$Asked;)I" } : Jvm.MethodName)) ∈ lw_tbl := lw_at lw_m5 85 rfl
theorem q1153 : (Jvm.Cond.sameMethod "PartedSide$Sum" "PartedSide$Sum" "of" "(LPartedSide$Asked;)I") ∈ lw_all := lw_g (lw_at lw_m5 86 rfl) rfl
theorem q2088 : (Jvm.Cond.castable "PartedSide$Sum" "java/lang/Object") ∈ lw_tbl := lw_at lw_m9 61 rfl
/-! PartedSide$Number -/
set_option maxRecDepth 100000
def RX16 : String := "PartedSide$Number"
def TX16 : u_T := fun k => match k with
  | _ => ("PartedSide$Number", "v", "I", true)
def tyX16 : Nat → FieldType := fun k => match k with
  | _ => .int
abbrev wsX160 : List Cond := u_ws RX16 TX16 1
theorem nmX16 : ∀ a, a < 1 → ∀ b, b < 1 → a ≠ b → (TX16 a).2.1 ≠ (TX16 b).2.1 := by decide +kernel
theorem tyX16_ok : ∀ k, k < 1 → parseFieldDescriptor (TX16 k).2.2.1 = some (tyX16 k) := by decide +kernel
abbrev cX16_init : ByteArray := prog_12_method_1_code
def yX16_init : MethodName := ⟨RX16, "<init>", "(I)V"⟩
def dkwX16_init_0 : List UInt8 := [42, 183, 0, 1, 42, 27, 181, 0, 7, 177]
abbrev dktX16_init_0 : List UInt8 := dkwX16_init_0 ++ []
theorem dksX16_init_0 : cX16_init.data.toList.drop 0 = dktX16_init_0 := by decide +kernel
theorem dX16_init_0 : decode cX16_init 0 = .ok (.aload_n 0, 1) := dk_42 (dk_at dksX16_init_0 0 rfl rfl)
theorem dX16_init_1 : decode cX16_init 1 = .ok (.invokespecial 1, 3) := dk_183 0 1 (dk_at dksX16_init_0 1 rfl rfl)
theorem dX16_init_4 : decode cX16_init 4 = .ok (.aload_n 0, 1) := dk_42 (dk_at dksX16_init_0 4 rfl rfl)
theorem dX16_init_5 : decode cX16_init 5 = .ok (.iload_n 1, 1) := dk_27 (dk_at dksX16_init_0 5 rfl rfl)
theorem dX16_init_6 : decode cX16_init 6 = .ok (.putfield 7, 3) := dk_181 0 7 (dk_at dksX16_init_0 6 rfl rfl)
theorem dX16_init_9 : decode cX16_init 9 = .ok (.return_, 1) := dk_177 (dk_at dksX16_init_0 9 rfl rfl)
abbrev cX16_of : ByteArray := prog_12_method_2_code
def yX16_of : MethodName := ⟨RX16, "of", "(LPartedSide$Asked;)I"⟩
theorem dX16_of_0 : decode cX16_of 0 = .ok (.aload_n 0, 1) := by decide +kernel
theorem dX16_of_1 : decode cX16_of 1 = .ok (.getfield 7, 3) := by decide +kernel
theorem dX16_of_4 : decode cX16_of 4 = .ok (.ireturn, 1) := by decide +kernel
theorem q135 : (Jvm.Cond.initialized "PartedSide$Number") ∈ lw_all := lw_g (lw_at lw_m1 28 rfl) rfl
theorem q780 : (Jvm.Cond.instantiable "PartedSide$Number" (1 : Nat)) ∈ lw_all := lw_g (lw_at lw_m3 193 rfl) rfl
theorem q786 : (Jvm.Cond.instanceMethod ({ cls := "PartedSide$Number", name := "<init>", desc := "(I)V" } : Jvm.MethodName)) ∈ lw_all := lw_g (lw_at lw_m3 199 rfl) rfl
theorem q787 : (Jvm.Cond.code ({ cls := "PartedSide$Number", name := "<init>", desc := "(I)V" } : Jvm.MethodName) prog_12_method_1_code (2 : Nat) (Option.none : Option Jvm.ClassFile.FieldType)) ∈ lw_all := lw_g (lw_at lw_m3 200 rfl) rfl
theorem q788 : (Jvm.Cond.methodLinkNest "PartedSide$Number" (1 : Nat) ({ cls := "PartedSide$Sum", name := "<init>", desc := "()V" } : Jvm.MethodName) "PartedSide") ∈ lw_tbl := lw_at lw_m3 201 rfl
theorem q792 : (Jvm.Cond.fieldLink "PartedSide$Number" (7 : Nat) "PartedSide$Number" "v" "I") ∈ lw_all := lw_g (lw_at lw_m3 205 rfl) rfl
theorem q793 : (Jvm.Cond.laysFinal "PartedSide$Number" "PartedSide$Number" "v" "I") ∈ lw_all := lw_g (lw_at lw_m3 206 rfl) rfl
theorem q794 : (Jvm.Cond.soleField "PartedSide$Number" "v") ∈ lw_all := lw_g (lw_at lw_m3 207 rfl) rfl
theorem q795 : (Jvm.Cond.superclass "PartedSide$Number" "PartedSide$Sum") ∈ lw_all := lw_g (lw_at lw_m3 208 rfl) rfl
theorem q1075 : (Jvm.Cond.selects "PartedSide$Number" ({ cls := "java/lang/Object", name := "getClass", desc := "()Ljava/lang/Class;" } : Jvm.MethodName) ({ cls := "java/lang/Object", name := "getClass", desc := "()Ljava/lang/Class;" } : Jvm.MethodName)) ∈ lw_all := lw_g (lw_at lw_m5 8 rfl) rfl
theorem q1158 : (Jvm.Cond.instanceMethod ({ cls := "PartedSide$Number", name := "of", desc := "(LPartedSide$Asked;)I" } : Jvm.MethodName)) ∈ lw_all := lw_g (lw_at lw_m5 91 rfl) rfl
theorem q1159 : (Jvm.Cond.code ({ cls := "PartedSide$Number", name := "of", desc := "(LPartedSide$Asked;)I" } : Jvm.MethodName) prog_12_method_2_code (2 : Nat) (Option.some Jvm.ClassFile.FieldType.int)) ∈ lw_all := lw_g (lw_at lw_m5 92 rfl) rfl
theorem q1162 : (Jvm.Cond.selects "PartedSide$Number" ({ cls := "PartedSide$Sum", name := "of", desc := "(LPartedSide$Asked;)I" } : Jvm.MethodName) ({ cls := "PartedSide$Number", name := "of", desc := "(LPartedSide$Asked;)I" } : Jvm.MethodName)) ∈ lw_all := lw_g (lw_at lw_m5 95 rfl) rfl
theorem q2101 : (Jvm.Cond.castable "PartedSide$Number" "java/lang/Object") ∈ lw_tbl := lw_at lw_m9 74 rfl
theorem q2109 : (Jvm.Cond.castable "PartedSide$Number" "PartedSide$Sum") ∈ lw_tbl := lw_at lw_m9 82 rfl
theorem in_X16 : ∀ w ∈ wsX160, w ∈ lw_all := lw_in wsX160 [793] (by decide +kernel) (by decide +kernel)
/-! PartedSide$Var -/
set_option maxRecDepth 100000
def RX17 : String := "PartedSide$Var"
def TX17 : u_T := fun k => match k with
  | _ => ("PartedSide$Var", "k", "I", true)
def tyX17 : Nat → FieldType := fun k => match k with
  | _ => .int
abbrev wsX170 : List Cond := u_ws RX17 TX17 1
theorem nmX17 : ∀ a, a < 1 → ∀ b, b < 1 → a ≠ b → (TX17 a).2.1 ≠ (TX17 b).2.1 := by decide +kernel
theorem tyX17_ok : ∀ k, k < 1 → parseFieldDescriptor (TX17 k).2.2.1 = some (tyX17 k) := by decide +kernel
abbrev cX17_init : ByteArray := prog_19_method_1_code
def yX17_init : MethodName := ⟨RX17, "<init>", "(I)V"⟩
def dkwX17_init_0 : List UInt8 := [42, 183, 0, 1, 42, 27, 181, 0, 7, 177]
abbrev dktX17_init_0 : List UInt8 := dkwX17_init_0 ++ []
theorem dksX17_init_0 : cX17_init.data.toList.drop 0 = dktX17_init_0 := by decide +kernel
theorem dX17_init_0 : decode cX17_init 0 = .ok (.aload_n 0, 1) := dk_42 (dk_at dksX17_init_0 0 rfl rfl)
theorem dX17_init_1 : decode cX17_init 1 = .ok (.invokespecial 1, 3) := dk_183 0 1 (dk_at dksX17_init_0 1 rfl rfl)
theorem dX17_init_4 : decode cX17_init 4 = .ok (.aload_n 0, 1) := dk_42 (dk_at dksX17_init_0 4 rfl rfl)
theorem dX17_init_5 : decode cX17_init 5 = .ok (.iload_n 1, 1) := dk_27 (dk_at dksX17_init_0 5 rfl rfl)
theorem dX17_init_6 : decode cX17_init 6 = .ok (.putfield 7, 3) := dk_181 0 7 (dk_at dksX17_init_0 6 rfl rfl)
theorem dX17_init_9 : decode cX17_init 9 = .ok (.return_, 1) := dk_177 (dk_at dksX17_init_0 9 rfl rfl)
abbrev cX17_of : ByteArray := prog_19_method_2_code
def yX17_of : MethodName := ⟨RX17, "of", "(LPartedSide$Asked;)I"⟩
def dkwX17_of_0 : List UInt8 := [43, 180, 0, 13, 42, 180, 0, 7, 46, 172]
abbrev dktX17_of_0 : List UInt8 := dkwX17_of_0 ++ []
theorem dksX17_of_0 : cX17_of.data.toList.drop 0 = dktX17_of_0 := by decide +kernel
theorem dX17_of_0 : decode cX17_of 0 = .ok (.aload_n 1, 1) := dk_43 (dk_at dksX17_of_0 0 rfl rfl)
theorem dX17_of_1 : decode cX17_of 1 = .ok (.getfield 13, 3) := dk_180 0 13 (dk_at dksX17_of_0 1 rfl rfl)
theorem dX17_of_4 : decode cX17_of 4 = .ok (.aload_n 0, 1) := dk_42 (dk_at dksX17_of_0 4 rfl rfl)
theorem dX17_of_5 : decode cX17_of 5 = .ok (.getfield 7, 3) := dk_180 0 7 (dk_at dksX17_of_0 5 rfl rfl)
theorem dX17_of_8 : decode cX17_of 8 = .ok (.iaload, 1) := dk_46 (dk_at dksX17_of_0 8 rfl rfl)
theorem dX17_of_9 : decode cX17_of 9 = .ok (.ireturn, 1) := dk_172 (dk_at dksX17_of_0 9 rfl rfl)
theorem q136 : (Jvm.Cond.initialized "PartedSide$Var") ∈ lw_all := lw_g (lw_at lw_m1 29 rfl) rfl
theorem q424 : (Jvm.Cond.fieldLink "PartedSide$Var" (13 : Nat) "PartedSide$Asked" "v" "[I") ∈ lw_all := lw_g (lw_at lw_m2 77 rfl) rfl
theorem q797 : (Jvm.Cond.instantiable "PartedSide$Var" (1 : Nat)) ∈ lw_all := lw_g (lw_at lw_m3 210 rfl) rfl
theorem q799 : (Jvm.Cond.instanceMethod ({ cls := "PartedSide$Var", name := "<init>", desc := "(I)V" } : Jvm.MethodName)) ∈ lw_all := lw_g (lw_at lw_m3 212 rfl) rfl
theorem q800 : (Jvm.Cond.code ({ cls := "PartedSide$Var", name := "<init>", desc := "(I)V" } : Jvm.MethodName) prog_19_method_1_code (2 : Nat) (Option.none : Option Jvm.ClassFile.FieldType)) ∈ lw_all := lw_g (lw_at lw_m3 213 rfl) rfl
theorem q801 : (Jvm.Cond.methodLinkNest "PartedSide$Var" (1 : Nat) ({ cls := "PartedSide$Sum", name := "<init>", desc := "()V" } : Jvm.MethodName) "PartedSide") ∈ lw_tbl := lw_at lw_m3 214 rfl
theorem q802 : (Jvm.Cond.fieldLink "PartedSide$Var" (7 : Nat) "PartedSide$Var" "k" "I") ∈ lw_all := lw_g (lw_at lw_m3 215 rfl) rfl
theorem q803 : (Jvm.Cond.laysFinal "PartedSide$Var" "PartedSide$Var" "k" "I") ∈ lw_all := lw_g (lw_at lw_m3 216 rfl) rfl
theorem q804 : (Jvm.Cond.soleField "PartedSide$Var" "k") ∈ lw_all := lw_g (lw_at lw_m3 217 rfl) rfl
theorem q805 : (Jvm.Cond.superclass "PartedSide$Var" "PartedSide$Sum") ∈ lw_all := lw_g (lw_at lw_m3 218 rfl) rfl
theorem q1080 : (Jvm.Cond.selects "PartedSide$Var" ({ cls := "java/lang/Object", name := "getClass", desc := "()Ljava/lang/Class;" } : Jvm.MethodName) ({ cls := "java/lang/Object", name := "getClass", desc := "()Ljava/lang/Class;" } : Jvm.MethodName)) ∈ lw_all := lw_g (lw_at lw_m5 13 rfl) rfl
theorem q1160 : (Jvm.Cond.instanceMethod ({ cls := "PartedSide$Var", name := "of", desc := "(LPartedSide$Asked;)I" } : Jvm.MethodName)) ∈ lw_all := lw_g (lw_at lw_m5 93 rfl) rfl
theorem q1161 : (Jvm.Cond.code ({ cls := "PartedSide$Var", name := "of", desc := "(LPartedSide$Asked;)I" } : Jvm.MethodName) prog_19_method_2_code (2 : Nat) (Option.some Jvm.ClassFile.FieldType.int)) ∈ lw_all := lw_g (lw_at lw_m5 94 rfl) rfl
theorem q1163 : (Jvm.Cond.selects "PartedSide$Var" ({ cls := "PartedSide$Sum", name := "of", desc := "(LPartedSide$Asked;)I" } : Jvm.MethodName) ({ cls := "PartedSide$Var", name := "of", desc := "(LPartedSide$Asked;)I" } : Jvm.MethodName)) ∈ lw_all := lw_g (lw_at lw_m5 96 rfl) rfl
theorem q2102 : (Jvm.Cond.castable "PartedSide$Var" "java/lang/Object") ∈ lw_tbl := lw_at lw_m9 75 rfl
theorem q2110 : (Jvm.Cond.castable "PartedSide$Var" "PartedSide$Sum") ∈ lw_tbl := lw_at lw_m9 83 rfl
theorem in_X17 : ∀ w ∈ wsX170, w ∈ lw_all := lw_in wsX170 [803] (by decide +kernel) (by decide +kernel)
/-! PartedSide$Joined -/
set_option maxRecDepth 100000
def RX18 : String := "PartedSide$Joined"
def TX18 : u_T := fun k => match k with
  | 0 => ("PartedSide$Joined", "op", "I", true)
  | 1 => ("PartedSide$Joined", "a", "LPartedSide$Sum;", true)
  | _ => ("PartedSide$Joined", "b", "LPartedSide$Sum;", true)
def tyX18 : Nat → FieldType := fun k => match k with
  | 0 => .int
  | 1 => .object "PartedSide$Sum"
  | _ => .object "PartedSide$Sum"
abbrev wsX180 : List Cond := u_ws RX18 TX18 3
theorem nmX18 : ∀ a, a < 3 → ∀ b, b < 3 → a ≠ b → (TX18 a).2.1 ≠ (TX18 b).2.1 := by decide +kernel
theorem tyX18_ok : ∀ k, k < 3 → parseFieldDescriptor (TX18 k).2.2.1 = some (tyX18 k) := by decide +kernel
abbrev cX18_init : ByteArray := prog_8_method_1_code
def yX18_init : MethodName := ⟨RX18, "<init>", "(ILPartedSide$Sum;LPartedSide$Sum;)V"⟩
def dkwX18_init_0 : List UInt8 := [42, 183, 0, 1, 42, 27, 181, 0, 7, 42, 44, 181, 0, 13, 42, 45, 181, 0, 17, 177]
abbrev dktX18_init_0 : List UInt8 := dkwX18_init_0 ++ []
theorem dksX18_init_0 : cX18_init.data.toList.drop 0 = dktX18_init_0 := by decide +kernel
theorem dX18_init_0 : decode cX18_init 0 = .ok (.aload_n 0, 1) := dk_42 (dk_at dksX18_init_0 0 rfl rfl)
theorem dX18_init_1 : decode cX18_init 1 = .ok (.invokespecial 1, 3) := dk_183 0 1 (dk_at dksX18_init_0 1 rfl rfl)
theorem dX18_init_4 : decode cX18_init 4 = .ok (.aload_n 0, 1) := dk_42 (dk_at dksX18_init_0 4 rfl rfl)
theorem dX18_init_5 : decode cX18_init 5 = .ok (.iload_n 1, 1) := dk_27 (dk_at dksX18_init_0 5 rfl rfl)
theorem dX18_init_6 : decode cX18_init 6 = .ok (.putfield 7, 3) := dk_181 0 7 (dk_at dksX18_init_0 6 rfl rfl)
theorem dX18_init_9 : decode cX18_init 9 = .ok (.aload_n 0, 1) := dk_42 (dk_at dksX18_init_0 9 rfl rfl)
theorem dX18_init_10 : decode cX18_init 10 = .ok (.aload_n 2, 1) := dk_44 (dk_at dksX18_init_0 10 rfl rfl)
theorem dX18_init_11 : decode cX18_init 11 = .ok (.putfield 13, 3) := dk_181 0 13 (dk_at dksX18_init_0 11 rfl rfl)
theorem dX18_init_14 : decode cX18_init 14 = .ok (.aload_n 0, 1) := dk_42 (dk_at dksX18_init_0 14 rfl rfl)
theorem dX18_init_15 : decode cX18_init 15 = .ok (.aload_n 3, 1) := dk_45 (dk_at dksX18_init_0 15 rfl rfl)
theorem dX18_init_16 : decode cX18_init 16 = .ok (.putfield 17, 3) := dk_181 0 17 (dk_at dksX18_init_0 16 rfl rfl)
theorem dX18_init_19 : decode cX18_init 19 = .ok (.return_, 1) := dk_177 (dk_at dksX18_init_0 19 rfl rfl)
abbrev cX18_of : ByteArray := prog_8_method_2_code
def yX18_of : MethodName := ⟨RX18, "of", "(LPartedSide$Asked;)I"⟩
def dkwX18_of_3 : List UInt8 := [181, 0, 24, 3, 172]
abbrev dktX18_of_3 : List UInt8 := dkwX18_of_3 ++ []
def dkwX18_of_2 : List UInt8 := [28, 29, 96, 172, 28, 29, 100, 172, 28, 29, 104, 172, 29, 153, 0, 7, 28, 29, 108, 172, 43, 4]
abbrev dktX18_of_2 : List UInt8 := dkwX18_of_2 ++ dktX18_of_3
def dkwX18_of_1 : List UInt8 := [170, 0, 0, 0, 0, 42, 0, 0, 0, 42, 0, 0, 0, 45, 0, 0, 0, 38, 0, 0, 0, 30, 0, 0, 0, 42, 0, 0, 0, 34]
abbrev dktX18_of_1 : List UInt8 := dkwX18_of_1 ++ dktX18_of_2
def dkwX18_of_0 : List UInt8 := [42, 180, 0, 13, 43, 182, 0, 20, 61, 42, 180, 0, 17, 43, 182, 0, 20, 62, 42, 180, 0, 7]
abbrev dktX18_of_0 : List UInt8 := dkwX18_of_0 ++ dktX18_of_1
theorem dksX18_of_0 : cX18_of.data.toList.drop 0 = dktX18_of_0 := by decide +kernel
theorem dksX18_of_1 : cX18_of.data.toList.drop 22 = dktX18_of_1 := dk_seg dksX18_of_0 22 rfl rfl
theorem dksX18_of_2 : cX18_of.data.toList.drop 52 = dktX18_of_2 := dk_seg dksX18_of_1 30 rfl rfl
theorem dksX18_of_3 : cX18_of.data.toList.drop 74 = dktX18_of_3 := dk_seg dksX18_of_2 22 rfl rfl
theorem dX18_of_0 : decode cX18_of 0 = .ok (.aload_n 0, 1) := dk_42 (dk_at dksX18_of_0 0 rfl rfl)
theorem dX18_of_1 : decode cX18_of 1 = .ok (.getfield 13, 3) := dk_180 0 13 (dk_at dksX18_of_0 1 rfl rfl)
theorem dX18_of_4 : decode cX18_of 4 = .ok (.aload_n 1, 1) := dk_43 (dk_at dksX18_of_0 4 rfl rfl)
theorem dX18_of_5 : decode cX18_of 5 = .ok (.invokevirtual 20, 3) := dk_182 0 20 (dk_at dksX18_of_0 5 rfl rfl)
theorem dX18_of_8 : decode cX18_of 8 = .ok (.istore_n 2, 1) := dk_61 (dk_at dksX18_of_0 8 rfl rfl)
theorem dX18_of_9 : decode cX18_of 9 = .ok (.aload_n 0, 1) := dk_42 (dk_at dksX18_of_0 9 rfl rfl)
theorem dX18_of_10 : decode cX18_of 10 = .ok (.getfield 17, 3) := dk_180 0 17 (dk_at dksX18_of_0 10 rfl rfl)
theorem dX18_of_13 : decode cX18_of 13 = .ok (.aload_n 1, 1) := dk_43 (dk_at dksX18_of_0 13 rfl rfl)
theorem dX18_of_14 : decode cX18_of 14 = .ok (.invokevirtual 20, 3) := dk_182 0 20 (dk_at dksX18_of_0 14 rfl rfl)
theorem dX18_of_17 : decode cX18_of 17 = .ok (.istore_n 3, 1) := dk_62 (dk_at dksX18_of_0 17 rfl rfl)
theorem dX18_of_18 : decode cX18_of 18 = .ok (.aload_n 0, 1) := dk_42 (dk_at dksX18_of_0 18 rfl rfl)
theorem dX18_of_19 : decode cX18_of 19 = .ok (.getfield 7, 3) := dk_180 0 7 (dk_at dksX18_of_0 19 rfl rfl)
theorem dX18_of_22 : decode cX18_of 22 = .ok (.tableswitch 42 42 45 #[38, 30, 42, 34], 30) := by decide +kernel
theorem dX18_of_52 : decode cX18_of 52 = .ok (.iload_n 2, 1) := dk_28 (dk_at dksX18_of_2 0 rfl rfl)
theorem dX18_of_53 : decode cX18_of 53 = .ok (.iload_n 3, 1) := dk_29 (dk_at dksX18_of_2 1 rfl rfl)
theorem dX18_of_54 : decode cX18_of 54 = .ok (.iadd, 1) := dk_96 (dk_at dksX18_of_2 2 rfl rfl)
theorem dX18_of_55 : decode cX18_of 55 = .ok (.ireturn, 1) := dk_172 (dk_at dksX18_of_2 3 rfl rfl)
theorem dX18_of_56 : decode cX18_of 56 = .ok (.iload_n 2, 1) := dk_28 (dk_at dksX18_of_2 4 rfl rfl)
theorem dX18_of_57 : decode cX18_of 57 = .ok (.iload_n 3, 1) := dk_29 (dk_at dksX18_of_2 5 rfl rfl)
theorem dX18_of_58 : decode cX18_of 58 = .ok (.isub, 1) := dk_100 (dk_at dksX18_of_2 6 rfl rfl)
theorem dX18_of_59 : decode cX18_of 59 = .ok (.ireturn, 1) := dk_172 (dk_at dksX18_of_2 7 rfl rfl)
theorem dX18_of_60 : decode cX18_of 60 = .ok (.iload_n 2, 1) := dk_28 (dk_at dksX18_of_2 8 rfl rfl)
theorem dX18_of_61 : decode cX18_of 61 = .ok (.iload_n 3, 1) := dk_29 (dk_at dksX18_of_2 9 rfl rfl)
theorem dX18_of_62 : decode cX18_of 62 = .ok (.imul, 1) := dk_104 (dk_at dksX18_of_2 10 rfl rfl)
theorem dX18_of_63 : decode cX18_of 63 = .ok (.ireturn, 1) := dk_172 (dk_at dksX18_of_2 11 rfl rfl)
theorem dX18_of_64 : decode cX18_of 64 = .ok (.iload_n 3, 1) := dk_29 (dk_at dksX18_of_2 12 rfl rfl)
theorem dX18_of_65 : decode cX18_of 65 = .ok (.ifCond .eq 7, 3) := dk_153 0 7 (dk_at dksX18_of_2 13 rfl rfl)
theorem dX18_of_68 : decode cX18_of 68 = .ok (.iload_n 2, 1) := dk_28 (dk_at dksX18_of_2 16 rfl rfl)
theorem dX18_of_69 : decode cX18_of 69 = .ok (.iload_n 3, 1) := dk_29 (dk_at dksX18_of_2 17 rfl rfl)
theorem dX18_of_70 : decode cX18_of 70 = .ok (.idiv, 1) := dk_108 (dk_at dksX18_of_2 18 rfl rfl)
theorem dX18_of_71 : decode cX18_of 71 = .ok (.ireturn, 1) := dk_172 (dk_at dksX18_of_2 19 rfl rfl)
theorem dX18_of_72 : decode cX18_of 72 = .ok (.aload_n 1, 1) := dk_43 (dk_at dksX18_of_2 20 rfl rfl)
theorem dX18_of_73 : decode cX18_of 73 = .ok (.iconst 1, 1) := dk_4 (dk_at dksX18_of_2 21 rfl rfl)
theorem dX18_of_74 : decode cX18_of 74 = .ok (.putfield 24, 3) := dk_181 0 24 (dk_at dksX18_of_3 0 rfl rfl)
theorem dX18_of_77 : decode cX18_of 77 = .ok (.iconst 0, 1) := dk_3 (dk_at dksX18_of_3 3 rfl rfl)
theorem dX18_of_78 : decode cX18_of 78 = .ok (.ireturn, 1) := dk_172 (dk_at dksX18_of_3 4 rfl rfl)
theorem q137 : (Jvm.Cond.initialized "PartedSide$Joined") ∈ lw_all := lw_g (lw_at lw_m1 30 rfl) rfl
theorem q427 : (Jvm.Cond.fieldLink "PartedSide$Joined" (24 : Nat) "PartedSide$Asked" "nought" "Z") ∈ lw_all := lw_g (lw_at lw_m2 80 rfl) rfl
theorem q807 : (Jvm.Cond.instantiable "PartedSide$Joined" (3 : Nat)) ∈ lw_all := lw_g (lw_at lw_m3 220 rfl) rfl
theorem q809 : (Jvm.Cond.instanceMethod ({ cls := "PartedSide$Joined", name := "<init>", desc := "(ILPartedSide$Sum;LPartedSide$Sum;)V" } : Jvm.MethodName)) ∈ lw_all := lw_g (lw_at lw_m3 222 rfl) rfl
theorem q810 : (Jvm.Cond.code ({ cls := "PartedSide$Joined", name := "<init>", desc := "(ILPartedSide$Sum;LPartedSide$Sum;)V" } : Jvm.MethodName) prog_8_method_1_code (4 : Nat) (Option.none : Option Jvm.ClassFile.FieldType)) ∈ lw_all := lw_g (lw_at lw_m3 223 rfl) rfl
theorem q811 : (Jvm.Cond.methodLinkNest "PartedSide$Joined" (1 : Nat) ({ cls := "PartedSide$Sum", name := "<init>", desc := "()V" } : Jvm.MethodName) "PartedSide") ∈ lw_tbl := lw_at lw_m3 224 rfl
theorem q812 : (Jvm.Cond.fieldLink "PartedSide$Joined" (7 : Nat) "PartedSide$Joined" "op" "I") ∈ lw_all := lw_g (lw_at lw_m3 225 rfl) rfl
theorem q813 : (Jvm.Cond.fieldLink "PartedSide$Joined" (13 : Nat) "PartedSide$Joined" "a" "LPartedSide$Sum;") ∈ lw_all := lw_g (lw_at lw_m3 226 rfl) rfl
theorem q814 : (Jvm.Cond.fieldLink "PartedSide$Joined" (17 : Nat) "PartedSide$Joined" "b" "LPartedSide$Sum;") ∈ lw_all := lw_g (lw_at lw_m3 227 rfl) rfl
theorem q815 : (Jvm.Cond.laysFinal "PartedSide$Joined" "PartedSide$Joined" "op" "I") ∈ lw_all := lw_g (lw_at lw_m3 228 rfl) rfl
theorem q816 : (Jvm.Cond.soleField "PartedSide$Joined" "op") ∈ lw_all := lw_g (lw_at lw_m3 229 rfl) rfl
theorem q817 : (Jvm.Cond.laysFinal "PartedSide$Joined" "PartedSide$Joined" "a" "LPartedSide$Sum;") ∈ lw_all := lw_g (lw_at lw_m3 230 rfl) rfl
theorem q818 : (Jvm.Cond.soleField "PartedSide$Joined" "a") ∈ lw_all := lw_g (lw_at lw_m3 231 rfl) rfl
theorem q819 : (Jvm.Cond.laysFinal "PartedSide$Joined" "PartedSide$Joined" "b" "LPartedSide$Sum;") ∈ lw_all := lw_g (lw_at lw_m3 232 rfl) rfl
theorem q820 : (Jvm.Cond.soleField "PartedSide$Joined" "b") ∈ lw_all := lw_g (lw_at lw_m3 233 rfl) rfl
theorem q821 : (Jvm.Cond.superclass "PartedSide$Joined" "PartedSide$Sum") ∈ lw_all := lw_g (lw_at lw_m3 234 rfl) rfl
theorem q1072 : (Jvm.Cond.selects "PartedSide$Joined" ({ cls := "java/lang/Object", name := "getClass", desc := "()Ljava/lang/Class;" } : Jvm.MethodName) ({ cls := "java/lang/Object", name := "getClass", desc := "()Ljava/lang/Class;" } : Jvm.MethodName)) ∈ lw_all := lw_g (lw_at lw_m5 5 rfl) rfl
theorem q1154 : (Jvm.Cond.selects "PartedSide$Joined" ({ cls := "PartedSide$Sum", name := "of", desc := "(LPartedSide$Asked;)I" } : Jvm.MethodName) ({ cls := "PartedSide$Joined", name := "of", desc := "(LPartedSide$Asked;)I" } : Jvm.MethodName)) ∈ lw_all := lw_g (lw_at lw_m5 87 rfl) rfl
theorem q1155 : (Jvm.Cond.instanceMethod ({ cls := "PartedSide$Joined", name := "of", desc := "(LPartedSide$Asked;)I" } : Jvm.MethodName)) ∈ lw_all := lw_g (lw_at lw_m5 88 rfl) rfl
theorem q1156 : (Jvm.Cond.code ({ cls := "PartedSide$Joined", name := "of", desc := "(LPartedSide$Asked;)I" } : Jvm.MethodName) prog_8_method_2_code (4 : Nat) (Option.some Jvm.ClassFile.FieldType.int)) ∈ lw_all := lw_g (lw_at lw_m5 89 rfl) rfl
theorem q1157 : (Jvm.Cond.methodLink "PartedSide$Joined" (20 : Nat) ({ cls := "PartedSide$Sum", name := "of", desc := "(LPartedSide$Asked;)I" } : Jvm.MethodName)) ∈ lw_all := lw_g (lw_at lw_m5 90 rfl) rfl
theorem q2103 : (Jvm.Cond.castable "PartedSide$Joined" "java/lang/Object") ∈ lw_tbl := lw_at lw_m9 76 rfl
theorem q2111 : (Jvm.Cond.castable "PartedSide$Joined" "PartedSide$Sum") ∈ lw_tbl := lw_at lw_m9 84 rfl
theorem in_X18 : ∀ w ∈ wsX180, w ∈ lw_all := lw_in wsX180 [815, 817, 819] (by decide +kernel) (by decide +kernel)
/-! PartedSide$Sleeper -/
set_option maxRecDepth 100000
def RX19 : String := "PartedSide$Sleeper"
def TX19 : u_T := fun k => match k with
  | 0 => ("PartedSide$Sleeper", "name", "Ljava/lang/String;", true)
  | 1 => ("PartedSide$Sleeper", "left", "I", false)
  | _ => ("PartedSide$Sleeper", "habit", "I", false)
def tyX19 : Nat → FieldType := fun k => match k with
  | 0 => .object "java/lang/String"
  | 1 => .int
  | _ => .int
abbrev wsX190 : List Cond := u_ws RX19 TX19 3
theorem nmX19 : ∀ a, a < 3 → ∀ b, b < 3 → a ≠ b → (TX19 a).2.1 ≠ (TX19 b).2.1 := by decide +kernel
theorem tyX19_ok : ∀ k, k < 3 → parseFieldDescriptor (TX19 k).2.2.1 = some (tyX19 k) := by decide +kernel
abbrev cX19_init : ByteArray := prog_15_method_1_code
def yX19_init : MethodName := ⟨RX19, "<init>", "(Ljava/lang/String;)V"⟩
def dkwX19_init_0 : List UInt8 := [42, 183, 0, 1, 42, 43, 181, 0, 7, 177]
abbrev dktX19_init_0 : List UInt8 := dkwX19_init_0 ++ []
theorem dksX19_init_0 : cX19_init.data.toList.drop 0 = dktX19_init_0 := by decide +kernel
theorem dX19_init_0 : decode cX19_init 0 = .ok (.aload_n 0, 1) := dk_42 (dk_at dksX19_init_0 0 rfl rfl)
theorem dX19_init_1 : decode cX19_init 1 = .ok (.invokespecial 1, 3) := dk_183 0 1 (dk_at dksX19_init_0 1 rfl rfl)
theorem dX19_init_4 : decode cX19_init 4 = .ok (.aload_n 0, 1) := dk_42 (dk_at dksX19_init_0 4 rfl rfl)
theorem dX19_init_5 : decode cX19_init 5 = .ok (.aload_n 1, 1) := dk_43 (dk_at dksX19_init_0 5 rfl rfl)
theorem dX19_init_6 : decode cX19_init 6 = .ok (.putfield 7, 3) := dk_181 0 7 (dk_at dksX19_init_0 6 rfl rfl)
theorem dX19_init_9 : decode cX19_init 9 = .ok (.return_, 1) := dk_177 (dk_at dksX19_init_0 9 rfl rfl)
theorem q138 : (Jvm.Cond.initialized "PartedSide$Sleeper") ∈ lw_all := lw_g (lw_at lw_m1 31 rfl) rfl
theorem q828 : (Jvm.Cond.instantiable "PartedSide$Sleeper" (3 : Nat)) ∈ lw_all := lw_g (lw_at lw_m4 1 rfl) rfl
theorem q1022 : (Jvm.Cond.instanceMethod ({ cls := "PartedSide$Sleeper", name := "<init>", desc := "(Ljava/lang/String;)V" } : Jvm.MethodName)) ∈ lw_all := lw_g (lw_at lw_m4 195 rfl) rfl
theorem q1023 : (Jvm.Cond.code ({ cls := "PartedSide$Sleeper", name := "<init>", desc := "(Ljava/lang/String;)V" } : Jvm.MethodName) prog_15_method_1_code (2 : Nat) (Option.none : Option Jvm.ClassFile.FieldType)) ∈ lw_all := lw_g (lw_at lw_m4 196 rfl) rfl
theorem q1024 : (Jvm.Cond.methodLink "PartedSide$Sleeper" (1 : Nat) ({ cls := "java/lang/Object", name := "<init>", desc := "()V" } : Jvm.MethodName)) ∈ lw_all := lw_g (lw_at lw_m4 197 rfl) rfl
theorem q1025 : (Jvm.Cond.fieldLink "PartedSide$Sleeper" (7 : Nat) "PartedSide$Sleeper" "name" "Ljava/lang/String;") ∈ lw_all := lw_g (lw_at lw_m4 198 rfl) rfl
theorem q1031 : (Jvm.Cond.laysFinal "PartedSide$Sleeper" "PartedSide$Sleeper" "name" "Ljava/lang/String;") ∈ lw_all := lw_g (lw_at lw_m4 204 rfl) rfl
theorem q1032 : (Jvm.Cond.soleField "PartedSide$Sleeper" "name") ∈ lw_all := lw_g (lw_at lw_m4 205 rfl) rfl
theorem q1033 : (Jvm.Cond.lays "PartedSide$Sleeper" "PartedSide$Sleeper" "left" "I") ∈ lw_all := lw_g (lw_at lw_m4 206 rfl) rfl
theorem q1034 : (Jvm.Cond.soleField "PartedSide$Sleeper" "left") ∈ lw_all := lw_g (lw_at lw_m4 207 rfl) rfl
theorem q1035 : (Jvm.Cond.lays "PartedSide$Sleeper" "PartedSide$Sleeper" "habit" "I") ∈ lw_all := lw_g (lw_at lw_m4 208 rfl) rfl
theorem q1036 : (Jvm.Cond.soleField "PartedSide$Sleeper" "habit") ∈ lw_all := lw_g (lw_at lw_m4 209 rfl) rfl
theorem q1037 : (Jvm.Cond.superclass "PartedSide$Sleeper" "java/lang/Object") ∈ lw_all := lw_g (lw_at lw_m4 210 rfl) rfl
theorem q1077 : (Jvm.Cond.selects "PartedSide$Sleeper" ({ cls := "java/lang/Object", name := "getClass", desc := "()Ljava/lang/Class;" } : Jvm.MethodName) ({ cls := "java/lang/Object", name := "getClass", desc := "()Ljava/lang/Class;" } : Jvm.MethodName)) ∈ lw_all := lw_g (lw_at lw_m5 10 rfl) rfl
theorem q2104 : (Jvm.Cond.castable "PartedSide$Sleeper" "java/lang/Object") ∈ lw_tbl := lw_at lw_m9 77 rfl
theorem in_X19 : ∀ w ∈ wsX190, w ∈ lw_all := lw_in wsX190 [1031, 1033, 1035] (by decide +kernel) (by decide +kernel)
