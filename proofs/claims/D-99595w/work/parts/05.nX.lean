/-! KnockerFaces$Fault -/
set_option maxRecDepth 100000
def RX1 : String := "KnockerFaces$Fault"
def TX1 : u_T := fun k => match k with
  | 0 => ("java/lang/Throwable", "cause", "Ljava/lang/Throwable;", false)
  | 1 => ("java/lang/Throwable", "stackTrace", "[Ljava/lang/StackTraceElement;", false)
  | 2 => ("java/lang/Throwable", "suppressedExceptions", "Ljava/util/List;", false)
  | 3 => ("java/lang/Throwable", "detailMessage", "Ljava/lang/String;", false)
  | 4 => ("java/lang/Throwable", "backtrace", "Ljava/lang/Object;", false)
  | 5 => ("java/lang/Throwable", "depth", "I", false)
  | 6 => ("KnockerFaces$Fault", "number", "I", false)
  | _ => ("KnockerFaces$Fault", "place", "I", false)
def tyX1 : Nat → FieldType := fun k => match k with
  | 0 => .object "java/lang/Throwable"
  | 1 => .array (.object "java/lang/StackTraceElement")
  | 2 => .object "java/util/List"
  | 3 => .object "java/lang/String"
  | 4 => .object "java/lang/Object"
  | 5 => .int
  | 6 => .int
  | _ => .int
abbrev wsX10 : List Cond := u_ws RX1 TX1 8
theorem nmX1 : ∀ a, a < 8 → ∀ b, b < 8 → a ≠ b → (TX1 a).2.1 ≠ (TX1 b).2.1 := by decide +kernel
theorem tyX1_ok : ∀ k, k < 8 → parseFieldDescriptor (TX1 k).2.2.1 = some (tyX1 k) := by decide +kernel
abbrev cX1_init : ByteArray := prog_6_method_1_code
def yX1_init : MethodName := ⟨RX1, "<init>", "()V"⟩
def dkwX1_init_0 : List UInt8 := [42, 18, 1, 1, 3, 3, 183, 0, 3, 177]
abbrev dktX1_init_0 : List UInt8 := dkwX1_init_0 ++ []
theorem dksX1_init_0 : cX1_init.data.toList.drop 0 = dktX1_init_0 := by decide +kernel
theorem dX1_init_0 : decode cX1_init 0 = .ok (.aload_n 0, 1) := dk_42 (dk_at dksX1_init_0 0 rfl rfl)
theorem dX1_init_1 : decode cX1_init 1 = .ok (.ldc 1, 2) := dk_18 1 (dk_at dksX1_init_0 1 rfl rfl)
theorem dX1_init_3 : decode cX1_init 3 = .ok (.aconst_null, 1) := dk_1 (dk_at dksX1_init_0 3 rfl rfl)
theorem dX1_init_4 : decode cX1_init 4 = .ok (.iconst 0, 1) := dk_3 (dk_at dksX1_init_0 4 rfl rfl)
theorem dX1_init_5 : decode cX1_init 5 = .ok (.iconst 0, 1) := dk_3 (dk_at dksX1_init_0 5 rfl rfl)
theorem dX1_init_6 : decode cX1_init 6 = .ok (.invokespecial 3, 3) := dk_183 0 3 (dk_at dksX1_init_0 6 rfl rfl)
theorem dX1_init_9 : decode cX1_init 9 = .ok (.return_, 1) := dk_177 (dk_at dksX1_init_0 9 rfl rfl)
abbrev cX1_of : ByteArray := prog_6_method_2_code
def yX1_of : MethodName := ⟨RX1, "of", "(II)LKnockerFaces$Fault;"⟩
def dkwX1_of_0 : List UInt8 := [42, 27, 181, 0, 9, 42, 28, 181, 0, 15, 42, 176]
abbrev dktX1_of_0 : List UInt8 := dkwX1_of_0 ++ []
theorem dksX1_of_0 : cX1_of.data.toList.drop 0 = dktX1_of_0 := by decide +kernel
theorem dX1_of_0 : decode cX1_of 0 = .ok (.aload_n 0, 1) := dk_42 (dk_at dksX1_of_0 0 rfl rfl)
theorem dX1_of_1 : decode cX1_of 1 = .ok (.iload_n 1, 1) := dk_27 (dk_at dksX1_of_0 1 rfl rfl)
theorem dX1_of_2 : decode cX1_of 2 = .ok (.putfield 9, 3) := dk_181 0 9 (dk_at dksX1_of_0 2 rfl rfl)
theorem dX1_of_5 : decode cX1_of 5 = .ok (.aload_n 0, 1) := dk_42 (dk_at dksX1_of_0 5 rfl rfl)
theorem dX1_of_6 : decode cX1_of 6 = .ok (.iload_n 2, 1) := dk_28 (dk_at dksX1_of_0 6 rfl rfl)
theorem dX1_of_7 : decode cX1_of 7 = .ok (.putfield 15, 3) := dk_181 0 15 (dk_at dksX1_of_0 7 rfl rfl)
theorem dX1_of_10 : decode cX1_of 10 = .ok (.aload_n 0, 1) := dk_42 (dk_at dksX1_of_0 10 rfl rfl)
theorem dX1_of_11 : decode cX1_of 11 = .ok (.areturn, 1) := dk_176 (dk_at dksX1_of_0 11 rfl rfl)
theorem q119 : (Jvm.Cond.initialized "KnockerFaces$Fault") ∈ lw_all := lw_g (lw_at lw_m1 5 rfl) rfl
theorem q162 : (Jvm.Cond.instantiable "KnockerFaces$Fault" (8 : Nat)) ∈ lw_all := lw_g (lw_at lw_m1 48 rfl) rfl
theorem q163 : (Jvm.Cond.castable "KnockerFaces$Fault" "KnockerFaces$Fault") ∈ lw_tbl := lw_at lw_m1 49 rfl
theorem q170 : (Jvm.Cond.selects "KnockerFaces$Fault" ({ cls := "java/lang/Throwable", name := "fillInStackTrace", desc := "(I)Ljava/lang/Throwable;" } : Jvm.MethodName) ({ cls := "java/lang/Throwable", name := "fillInStackTrace", desc := "(I)Ljava/lang/Throwable;" } : Jvm.MethodName)) ∈ lw_all := lw_g (lw_at lw_m1 56 rfl) rfl
theorem q171 : (Jvm.Cond.selects "KnockerFaces$Fault" ({ cls := "java/lang/Throwable", name := "fillInStackTrace", desc := "()Ljava/lang/Throwable;" } : Jvm.MethodName) ({ cls := "java/lang/Throwable", name := "fillInStackTrace", desc := "()Ljava/lang/Throwable;" } : Jvm.MethodName)) ∈ lw_all := lw_g (lw_at lw_m1 57 rfl) rfl
theorem q172 : (Jvm.Cond.lays "KnockerFaces$Fault" "java/lang/Throwable" "cause" "Ljava/lang/Throwable;") ∈ lw_all := lw_g (lw_at lw_m1 58 rfl) rfl
theorem q174 : (Jvm.Cond.lays "KnockerFaces$Fault" "java/lang/Throwable" "stackTrace" "[Ljava/lang/StackTraceElement;") ∈ lw_all := lw_g (lw_at lw_m1 60 rfl) rfl
theorem q176 : (Jvm.Cond.lays "KnockerFaces$Fault" "java/lang/Throwable" "suppressedExceptions" "Ljava/util/List;") ∈ lw_all := lw_g (lw_at lw_m1 62 rfl) rfl
theorem q178 : (Jvm.Cond.lays "KnockerFaces$Fault" "java/lang/Throwable" "detailMessage" "Ljava/lang/String;") ∈ lw_all := lw_g (lw_at lw_m1 64 rfl) rfl
theorem q180 : (Jvm.Cond.lays "KnockerFaces$Fault" "java/lang/Throwable" "backtrace" "Ljava/lang/Object;") ∈ lw_all := lw_g (lw_at lw_m1 66 rfl) rfl
theorem q201 : (Jvm.Cond.instanceMethod ({ cls := "KnockerFaces$Fault", name := "<init>", desc := "()V" } : Jvm.MethodName)) ∈ lw_all := lw_g (lw_at lw_m1 87 rfl) rfl
theorem q202 : (Jvm.Cond.code ({ cls := "KnockerFaces$Fault", name := "<init>", desc := "()V" } : Jvm.MethodName) prog_6_method_1_code (1 : Nat) (Option.none : Option Jvm.ClassFile.FieldType)) ∈ lw_all := lw_g (lw_at lw_m1 88 rfl) rfl
theorem q203 : (Jvm.Cond.stringRef "KnockerFaces$Fault" (1 : Nat) "") ∈ lw_tbl := lw_at lw_m1 89 rfl
theorem q204 : (Jvm.Cond.methodLink "KnockerFaces$Fault" (3 : Nat) ({ cls := "java/lang/RuntimeException", name := "<init>", desc := "(Ljava/lang/String;Ljava/lang/Throwable;ZZ)V" } : Jvm.MethodName)) ∈ lw_all := lw_g (lw_at lw_m1 90 rfl) rfl
theorem q213 : (Jvm.Cond.fieldLink "KnockerFaces$Fault" (9 : Nat) "KnockerFaces$Fault" "number" "I") ∈ lw_all := lw_g (lw_at lw_m1 99 rfl) rfl
theorem q215 : (Jvm.Cond.fieldLink "KnockerFaces$Fault" (15 : Nat) "KnockerFaces$Fault" "place" "I") ∈ lw_all := lw_g (lw_at lw_m1 101 rfl) rfl
theorem q222 : (Jvm.Cond.lays "KnockerFaces$Fault" "KnockerFaces$Fault" "number" "I") ∈ lw_all := lw_g (lw_at lw_m1 108 rfl) rfl
theorem q223 : (Jvm.Cond.soleField "KnockerFaces$Fault" "number") ∈ lw_all := lw_g (lw_at lw_m1 109 rfl) rfl
theorem q224 : (Jvm.Cond.lays "KnockerFaces$Fault" "KnockerFaces$Fault" "place" "I") ∈ lw_all := lw_g (lw_at lw_m1 110 rfl) rfl
theorem q225 : (Jvm.Cond.soleField "KnockerFaces$Fault" "place") ∈ lw_all := lw_g (lw_at lw_m1 111 rfl) rfl
theorem q230 : (Jvm.Cond.lays "KnockerFaces$Fault" "java/lang/Throwable" "depth" "I") ∈ lw_all := lw_g (lw_at lw_m1 116 rfl) rfl
theorem q233 : (Jvm.Cond.superclass "KnockerFaces$Fault" "java/lang/RuntimeException") ∈ lw_all := lw_g (lw_at lw_m1 119 rfl) rfl
theorem q689 : (Jvm.Cond.instanceMethod ({ cls := "KnockerFaces$Fault", name := "of", desc := "(II)LKnockerFaces$Fault;" } : Jvm.MethodName)) ∈ lw_all := lw_g (lw_at lw_m3 95 rfl) rfl
theorem q690 : (Jvm.Cond.selects "KnockerFaces$Fault" ({ cls := "KnockerFaces$Fault", name := "of", desc := "(II)LKnockerFaces$Fault;" } : Jvm.MethodName) ({ cls := "KnockerFaces$Fault", name := "of", desc := "(II)LKnockerFaces$Fault;" } : Jvm.MethodName)) ∈ lw_all := lw_g (lw_at lw_m3 96 rfl) rfl
theorem q691 : (Jvm.Cond.code ({ cls := "KnockerFaces$Fault", name := "of", desc := "(II)LKnockerFaces$Fault;" } : Jvm.MethodName) prog_6_method_2_code (3 : Nat) (Option.some (Jvm.ClassFile.FieldType.object "KnockerFaces$Fault"))) ∈ lw_all := lw_g (lw_at lw_m3 97 rfl) rfl
theorem q1061 : (Jvm.Cond.selects "KnockerFaces$Fault" ({ cls := "java/lang/Object", name := "getClass", desc := "()Ljava/lang/Class;" } : Jvm.MethodName) ({ cls := "java/lang/Object", name := "getClass", desc := "()Ljava/lang/Class;" } : Jvm.MethodName)) ∈ lw_all := lw_g (lw_at lw_m4 227 rfl) rfl
theorem q2173 : (Jvm.Cond.castable "KnockerFaces$Fault" "java/lang/Object") ∈ lw_tbl := lw_at lw_m9 139 rfl
theorem in_X1 : ∀ w ∈ wsX10, w ∈ lw_all := lw_in wsX10 [172, 174, 176, 178, 180, 230, 222, 224] (by decide +kernel) (by decide +kernel)
/-! KnockerFaces$Tokens -/
set_option maxRecDepth 100000
def RX2 : String := "KnockerFaces$Tokens"
def TX2 : u_T := fun k => match k with
  | 0 => ("KnockerFaces$Tokens", "words", "[Ljava/lang/String;", true)
  | 1 => ("KnockerFaces$Tokens", "tape", "[B", true)
  | 2 => ("KnockerFaces$Tokens", "taped", "I", false)
  | 3 => ("KnockerFaces$Tokens", "sort", "[B", true)
  | 4 => ("KnockerFaces$Tokens", "from", "[S", true)
  | 5 => ("KnockerFaces$Tokens", "to", "[S", true)
  | 6 => ("KnockerFaces$Tokens", "what", "[S", true)
  | _ => ("KnockerFaces$Tokens", "many", "I", false)
def tyX2 : Nat → FieldType := fun k => match k with
  | 0 => .array (.object "java/lang/String")
  | 1 => .array .byte
  | 2 => .int
  | 3 => .array .byte
  | 4 => .array .short
  | 5 => .array .short
  | 6 => .array .short
  | _ => .int
abbrev wsX20 : List Cond := u_ws RX2 TX2 8
theorem nmX2 : ∀ a, a < 8 → ∀ b, b < 8 → a ≠ b → (TX2 a).2.1 ≠ (TX2 b).2.1 := by decide +kernel
theorem tyX2_ok : ∀ k, k < 8 → parseFieldDescriptor (TX2 k).2.2.1 = some (tyX2 k) := by decide +kernel
abbrev cX2_init : ByteArray := prog_17_method_1_code
def yX2_init : MethodName := ⟨RX2, "<init>", "()V"⟩
def dkwX2_init_7 : List UInt8 := [181, 0, 70, 42, 17, 7, 209, 188, 9, 181, 0, 73, 177]
abbrev dktX2_init_7 : List UInt8 := dkwX2_init_7 ++ []
def dkwX2_init_6 : List UInt8 := [17, 7, 209, 188, 8, 181, 0, 63, 42, 17, 7, 209, 188, 9, 181, 0, 66, 42, 17, 7, 209, 188, 9]
abbrev dktX2_init_6 : List UInt8 := dkwX2_init_6 ++ dktX2_init_7
def dkwX2_init_5 : List UInt8 := [16, 19, 18, 49, 83, 89, 16, 20, 18, 51, 83, 181, 0, 53, 42, 17, 7, 208, 188, 8, 181, 0, 59, 42]
abbrev dktX2_init_5 : List UInt8 := dkwX2_init_5 ++ dktX2_init_6
def dkwX2_init_4 : List UInt8 := [16, 15, 18, 41, 83, 89, 16, 16, 18, 43, 83, 89, 16, 17, 18, 45, 83, 89, 16, 18, 18, 47, 83, 89]
abbrev dktX2_init_4 : List UInt8 := dkwX2_init_4 ++ dktX2_init_5
def dkwX2_init_3 : List UInt8 := [16, 11, 18, 33, 83, 89, 16, 12, 18, 35, 83, 89, 16, 13, 18, 37, 83, 89, 16, 14, 18, 39, 83, 89]
abbrev dktX2_init_3 : List UInt8 := dkwX2_init_3 ++ dktX2_init_4
def dkwX2_init_2 : List UInt8 := [16, 7, 18, 25, 83, 89, 16, 8, 18, 27, 83, 89, 16, 9, 18, 29, 83, 89, 16, 10, 18, 31, 83, 89]
abbrev dktX2_init_2 : List UInt8 := dkwX2_init_2 ++ dktX2_init_3
def dkwX2_init_1 : List UInt8 := [83, 89, 6, 18, 17, 83, 89, 7, 18, 19, 83, 89, 8, 18, 21, 83, 89, 16, 6, 18, 23, 83, 89]
abbrev dktX2_init_1 : List UInt8 := dkwX2_init_1 ++ dktX2_init_2
def dkwX2_init_0 : List UInt8 := [42, 183, 0, 3, 42, 16, 21, 189, 0, 9, 89, 3, 18, 11, 83, 89, 4, 18, 13, 83, 89, 5, 18, 15]
abbrev dktX2_init_0 : List UInt8 := dkwX2_init_0 ++ dktX2_init_1
theorem dksX2_init_0 : cX2_init.data.toList.drop 0 = dktX2_init_0 := by decide +kernel
theorem dksX2_init_1 : cX2_init.data.toList.drop 24 = dktX2_init_1 := dk_seg dksX2_init_0 24 rfl rfl
theorem dksX2_init_2 : cX2_init.data.toList.drop 47 = dktX2_init_2 := dk_seg dksX2_init_1 23 rfl rfl
theorem dksX2_init_3 : cX2_init.data.toList.drop 71 = dktX2_init_3 := dk_seg dksX2_init_2 24 rfl rfl
theorem dksX2_init_4 : cX2_init.data.toList.drop 95 = dktX2_init_4 := dk_seg dksX2_init_3 24 rfl rfl
theorem dksX2_init_5 : cX2_init.data.toList.drop 119 = dktX2_init_5 := dk_seg dksX2_init_4 24 rfl rfl
theorem dksX2_init_6 : cX2_init.data.toList.drop 143 = dktX2_init_6 := dk_seg dksX2_init_5 24 rfl rfl
theorem dksX2_init_7 : cX2_init.data.toList.drop 166 = dktX2_init_7 := dk_seg dksX2_init_6 23 rfl rfl
theorem dX2_init_0 : decode cX2_init 0 = .ok (.aload_n 0, 1) := dk_42 (dk_at dksX2_init_0 0 rfl rfl)
theorem dX2_init_1 : decode cX2_init 1 = .ok (.invokespecial 3, 3) := dk_183 0 3 (dk_at dksX2_init_0 1 rfl rfl)
theorem dX2_init_4 : decode cX2_init 4 = .ok (.aload_n 0, 1) := dk_42 (dk_at dksX2_init_0 4 rfl rfl)
theorem dX2_init_5 : decode cX2_init 5 = .ok (.bipush 21, 2) := dk_16 21 (dk_at dksX2_init_0 5 rfl rfl)
theorem dX2_init_7 : decode cX2_init 7 = .ok (.anewarray 9, 3) := dk_189 0 9 (dk_at dksX2_init_0 7 rfl rfl)
theorem dX2_init_10 : decode cX2_init 10 = .ok (.dup, 1) := dk_89 (dk_at dksX2_init_0 10 rfl rfl)
theorem dX2_init_11 : decode cX2_init 11 = .ok (.iconst 0, 1) := dk_3 (dk_at dksX2_init_0 11 rfl rfl)
theorem dX2_init_12 : decode cX2_init 12 = .ok (.ldc 11, 2) := dk_18 11 (dk_at dksX2_init_0 12 rfl rfl)
theorem dX2_init_14 : decode cX2_init 14 = .ok (.aastore, 1) := dk_83 (dk_at dksX2_init_0 14 rfl rfl)
theorem dX2_init_15 : decode cX2_init 15 = .ok (.dup, 1) := dk_89 (dk_at dksX2_init_0 15 rfl rfl)
theorem dX2_init_16 : decode cX2_init 16 = .ok (.iconst 1, 1) := dk_4 (dk_at dksX2_init_0 16 rfl rfl)
theorem dX2_init_17 : decode cX2_init 17 = .ok (.ldc 13, 2) := dk_18 13 (dk_at dksX2_init_0 17 rfl rfl)
theorem dX2_init_19 : decode cX2_init 19 = .ok (.aastore, 1) := dk_83 (dk_at dksX2_init_0 19 rfl rfl)
theorem dX2_init_20 : decode cX2_init 20 = .ok (.dup, 1) := dk_89 (dk_at dksX2_init_0 20 rfl rfl)
theorem dX2_init_21 : decode cX2_init 21 = .ok (.iconst 2, 1) := dk_5 (dk_at dksX2_init_0 21 rfl rfl)
theorem dX2_init_22 : decode cX2_init 22 = .ok (.ldc 15, 2) := dk_18 15 (dk_at dksX2_init_0 22 rfl rfl)
theorem dX2_init_24 : decode cX2_init 24 = .ok (.aastore, 1) := dk_83 (dk_at dksX2_init_1 0 rfl rfl)
theorem dX2_init_25 : decode cX2_init 25 = .ok (.dup, 1) := dk_89 (dk_at dksX2_init_1 1 rfl rfl)
theorem dX2_init_26 : decode cX2_init 26 = .ok (.iconst 3, 1) := dk_6 (dk_at dksX2_init_1 2 rfl rfl)
theorem dX2_init_27 : decode cX2_init 27 = .ok (.ldc 17, 2) := dk_18 17 (dk_at dksX2_init_1 3 rfl rfl)
theorem dX2_init_29 : decode cX2_init 29 = .ok (.aastore, 1) := dk_83 (dk_at dksX2_init_1 5 rfl rfl)
theorem dX2_init_30 : decode cX2_init 30 = .ok (.dup, 1) := dk_89 (dk_at dksX2_init_1 6 rfl rfl)
theorem dX2_init_31 : decode cX2_init 31 = .ok (.iconst 4, 1) := dk_7 (dk_at dksX2_init_1 7 rfl rfl)
theorem dX2_init_32 : decode cX2_init 32 = .ok (.ldc 19, 2) := dk_18 19 (dk_at dksX2_init_1 8 rfl rfl)
theorem dX2_init_34 : decode cX2_init 34 = .ok (.aastore, 1) := dk_83 (dk_at dksX2_init_1 10 rfl rfl)
theorem dX2_init_35 : decode cX2_init 35 = .ok (.dup, 1) := dk_89 (dk_at dksX2_init_1 11 rfl rfl)
theorem dX2_init_36 : decode cX2_init 36 = .ok (.iconst 5, 1) := dk_8 (dk_at dksX2_init_1 12 rfl rfl)
theorem dX2_init_37 : decode cX2_init 37 = .ok (.ldc 21, 2) := dk_18 21 (dk_at dksX2_init_1 13 rfl rfl)
theorem dX2_init_39 : decode cX2_init 39 = .ok (.aastore, 1) := dk_83 (dk_at dksX2_init_1 15 rfl rfl)
theorem dX2_init_40 : decode cX2_init 40 = .ok (.dup, 1) := dk_89 (dk_at dksX2_init_1 16 rfl rfl)
theorem dX2_init_41 : decode cX2_init 41 = .ok (.bipush 6, 2) := dk_16 6 (dk_at dksX2_init_1 17 rfl rfl)
theorem dX2_init_43 : decode cX2_init 43 = .ok (.ldc 23, 2) := dk_18 23 (dk_at dksX2_init_1 19 rfl rfl)
theorem dX2_init_45 : decode cX2_init 45 = .ok (.aastore, 1) := dk_83 (dk_at dksX2_init_1 21 rfl rfl)
theorem dX2_init_46 : decode cX2_init 46 = .ok (.dup, 1) := dk_89 (dk_at dksX2_init_1 22 rfl rfl)
theorem dX2_init_47 : decode cX2_init 47 = .ok (.bipush 7, 2) := dk_16 7 (dk_at dksX2_init_2 0 rfl rfl)
theorem dX2_init_49 : decode cX2_init 49 = .ok (.ldc 25, 2) := dk_18 25 (dk_at dksX2_init_2 2 rfl rfl)
theorem dX2_init_51 : decode cX2_init 51 = .ok (.aastore, 1) := dk_83 (dk_at dksX2_init_2 4 rfl rfl)
theorem dX2_init_52 : decode cX2_init 52 = .ok (.dup, 1) := dk_89 (dk_at dksX2_init_2 5 rfl rfl)
theorem dX2_init_53 : decode cX2_init 53 = .ok (.bipush 8, 2) := dk_16 8 (dk_at dksX2_init_2 6 rfl rfl)
theorem dX2_init_55 : decode cX2_init 55 = .ok (.ldc 27, 2) := dk_18 27 (dk_at dksX2_init_2 8 rfl rfl)
theorem dX2_init_57 : decode cX2_init 57 = .ok (.aastore, 1) := dk_83 (dk_at dksX2_init_2 10 rfl rfl)
theorem dX2_init_58 : decode cX2_init 58 = .ok (.dup, 1) := dk_89 (dk_at dksX2_init_2 11 rfl rfl)
theorem dX2_init_59 : decode cX2_init 59 = .ok (.bipush 9, 2) := dk_16 9 (dk_at dksX2_init_2 12 rfl rfl)
theorem dX2_init_61 : decode cX2_init 61 = .ok (.ldc 29, 2) := dk_18 29 (dk_at dksX2_init_2 14 rfl rfl)
theorem dX2_init_63 : decode cX2_init 63 = .ok (.aastore, 1) := dk_83 (dk_at dksX2_init_2 16 rfl rfl)
theorem dX2_init_64 : decode cX2_init 64 = .ok (.dup, 1) := dk_89 (dk_at dksX2_init_2 17 rfl rfl)
theorem dX2_init_65 : decode cX2_init 65 = .ok (.bipush 10, 2) := dk_16 10 (dk_at dksX2_init_2 18 rfl rfl)
theorem dX2_init_67 : decode cX2_init 67 = .ok (.ldc 31, 2) := dk_18 31 (dk_at dksX2_init_2 20 rfl rfl)
theorem dX2_init_69 : decode cX2_init 69 = .ok (.aastore, 1) := dk_83 (dk_at dksX2_init_2 22 rfl rfl)
theorem dX2_init_70 : decode cX2_init 70 = .ok (.dup, 1) := dk_89 (dk_at dksX2_init_2 23 rfl rfl)
theorem dX2_init_71 : decode cX2_init 71 = .ok (.bipush 11, 2) := dk_16 11 (dk_at dksX2_init_3 0 rfl rfl)
theorem dX2_init_73 : decode cX2_init 73 = .ok (.ldc 33, 2) := dk_18 33 (dk_at dksX2_init_3 2 rfl rfl)
theorem dX2_init_75 : decode cX2_init 75 = .ok (.aastore, 1) := dk_83 (dk_at dksX2_init_3 4 rfl rfl)
theorem dX2_init_76 : decode cX2_init 76 = .ok (.dup, 1) := dk_89 (dk_at dksX2_init_3 5 rfl rfl)
theorem dX2_init_77 : decode cX2_init 77 = .ok (.bipush 12, 2) := dk_16 12 (dk_at dksX2_init_3 6 rfl rfl)
theorem dX2_init_79 : decode cX2_init 79 = .ok (.ldc 35, 2) := dk_18 35 (dk_at dksX2_init_3 8 rfl rfl)
theorem dX2_init_81 : decode cX2_init 81 = .ok (.aastore, 1) := dk_83 (dk_at dksX2_init_3 10 rfl rfl)
theorem dX2_init_82 : decode cX2_init 82 = .ok (.dup, 1) := dk_89 (dk_at dksX2_init_3 11 rfl rfl)
theorem dX2_init_83 : decode cX2_init 83 = .ok (.bipush 13, 2) := dk_16 13 (dk_at dksX2_init_3 12 rfl rfl)
theorem dX2_init_85 : decode cX2_init 85 = .ok (.ldc 37, 2) := dk_18 37 (dk_at dksX2_init_3 14 rfl rfl)
theorem dX2_init_87 : decode cX2_init 87 = .ok (.aastore, 1) := dk_83 (dk_at dksX2_init_3 16 rfl rfl)
theorem dX2_init_88 : decode cX2_init 88 = .ok (.dup, 1) := dk_89 (dk_at dksX2_init_3 17 rfl rfl)
theorem dX2_init_89 : decode cX2_init 89 = .ok (.bipush 14, 2) := dk_16 14 (dk_at dksX2_init_3 18 rfl rfl)
theorem dX2_init_91 : decode cX2_init 91 = .ok (.ldc 39, 2) := dk_18 39 (dk_at dksX2_init_3 20 rfl rfl)
theorem dX2_init_93 : decode cX2_init 93 = .ok (.aastore, 1) := dk_83 (dk_at dksX2_init_3 22 rfl rfl)
theorem dX2_init_94 : decode cX2_init 94 = .ok (.dup, 1) := dk_89 (dk_at dksX2_init_3 23 rfl rfl)
theorem dX2_init_95 : decode cX2_init 95 = .ok (.bipush 15, 2) := dk_16 15 (dk_at dksX2_init_4 0 rfl rfl)
theorem dX2_init_97 : decode cX2_init 97 = .ok (.ldc 41, 2) := dk_18 41 (dk_at dksX2_init_4 2 rfl rfl)
theorem dX2_init_99 : decode cX2_init 99 = .ok (.aastore, 1) := dk_83 (dk_at dksX2_init_4 4 rfl rfl)
theorem dX2_init_100 : decode cX2_init 100 = .ok (.dup, 1) := dk_89 (dk_at dksX2_init_4 5 rfl rfl)
theorem dX2_init_101 : decode cX2_init 101 = .ok (.bipush 16, 2) := dk_16 16 (dk_at dksX2_init_4 6 rfl rfl)
theorem dX2_init_103 : decode cX2_init 103 = .ok (.ldc 43, 2) := dk_18 43 (dk_at dksX2_init_4 8 rfl rfl)
theorem dX2_init_105 : decode cX2_init 105 = .ok (.aastore, 1) := dk_83 (dk_at dksX2_init_4 10 rfl rfl)
theorem dX2_init_106 : decode cX2_init 106 = .ok (.dup, 1) := dk_89 (dk_at dksX2_init_4 11 rfl rfl)
theorem dX2_init_107 : decode cX2_init 107 = .ok (.bipush 17, 2) := dk_16 17 (dk_at dksX2_init_4 12 rfl rfl)
theorem dX2_init_109 : decode cX2_init 109 = .ok (.ldc 45, 2) := dk_18 45 (dk_at dksX2_init_4 14 rfl rfl)
theorem dX2_init_111 : decode cX2_init 111 = .ok (.aastore, 1) := dk_83 (dk_at dksX2_init_4 16 rfl rfl)
theorem dX2_init_112 : decode cX2_init 112 = .ok (.dup, 1) := dk_89 (dk_at dksX2_init_4 17 rfl rfl)
theorem dX2_init_113 : decode cX2_init 113 = .ok (.bipush 18, 2) := dk_16 18 (dk_at dksX2_init_4 18 rfl rfl)
theorem dX2_init_115 : decode cX2_init 115 = .ok (.ldc 47, 2) := dk_18 47 (dk_at dksX2_init_4 20 rfl rfl)
theorem dX2_init_117 : decode cX2_init 117 = .ok (.aastore, 1) := dk_83 (dk_at dksX2_init_4 22 rfl rfl)
theorem dX2_init_118 : decode cX2_init 118 = .ok (.dup, 1) := dk_89 (dk_at dksX2_init_4 23 rfl rfl)
theorem dX2_init_119 : decode cX2_init 119 = .ok (.bipush 19, 2) := dk_16 19 (dk_at dksX2_init_5 0 rfl rfl)
theorem dX2_init_121 : decode cX2_init 121 = .ok (.ldc 49, 2) := dk_18 49 (dk_at dksX2_init_5 2 rfl rfl)
theorem dX2_init_123 : decode cX2_init 123 = .ok (.aastore, 1) := dk_83 (dk_at dksX2_init_5 4 rfl rfl)
theorem dX2_init_124 : decode cX2_init 124 = .ok (.dup, 1) := dk_89 (dk_at dksX2_init_5 5 rfl rfl)
theorem dX2_init_125 : decode cX2_init 125 = .ok (.bipush 20, 2) := dk_16 20 (dk_at dksX2_init_5 6 rfl rfl)
theorem dX2_init_127 : decode cX2_init 127 = .ok (.ldc 51, 2) := dk_18 51 (dk_at dksX2_init_5 8 rfl rfl)
theorem dX2_init_129 : decode cX2_init 129 = .ok (.aastore, 1) := dk_83 (dk_at dksX2_init_5 10 rfl rfl)
theorem dX2_init_130 : decode cX2_init 130 = .ok (.putfield 53, 3) := dk_181 0 53 (dk_at dksX2_init_5 11 rfl rfl)
theorem dX2_init_133 : decode cX2_init 133 = .ok (.aload_n 0, 1) := dk_42 (dk_at dksX2_init_5 14 rfl rfl)
theorem dX2_init_134 : decode cX2_init 134 = .ok (.sipush 2000, 3) := dk_17 7 208 (dk_at dksX2_init_5 15 rfl rfl)
theorem dX2_init_137 : decode cX2_init 137 = .ok (.newarray .byte, 2) := dk_188_8 (dk_at dksX2_init_5 18 rfl rfl)
theorem dX2_init_139 : decode cX2_init 139 = .ok (.putfield 59, 3) := dk_181 0 59 (dk_at dksX2_init_5 20 rfl rfl)
theorem dX2_init_142 : decode cX2_init 142 = .ok (.aload_n 0, 1) := dk_42 (dk_at dksX2_init_5 23 rfl rfl)
theorem dX2_init_143 : decode cX2_init 143 = .ok (.sipush 2001, 3) := dk_17 7 209 (dk_at dksX2_init_6 0 rfl rfl)
theorem dX2_init_146 : decode cX2_init 146 = .ok (.newarray .byte, 2) := dk_188_8 (dk_at dksX2_init_6 3 rfl rfl)
theorem dX2_init_148 : decode cX2_init 148 = .ok (.putfield 63, 3) := dk_181 0 63 (dk_at dksX2_init_6 5 rfl rfl)
theorem dX2_init_151 : decode cX2_init 151 = .ok (.aload_n 0, 1) := dk_42 (dk_at dksX2_init_6 8 rfl rfl)
theorem dX2_init_152 : decode cX2_init 152 = .ok (.sipush 2001, 3) := dk_17 7 209 (dk_at dksX2_init_6 9 rfl rfl)
theorem dX2_init_155 : decode cX2_init 155 = .ok (.newarray .short, 2) := dk_188_9 (dk_at dksX2_init_6 12 rfl rfl)
theorem dX2_init_157 : decode cX2_init 157 = .ok (.putfield 66, 3) := dk_181 0 66 (dk_at dksX2_init_6 14 rfl rfl)
theorem dX2_init_160 : decode cX2_init 160 = .ok (.aload_n 0, 1) := dk_42 (dk_at dksX2_init_6 17 rfl rfl)
theorem dX2_init_161 : decode cX2_init 161 = .ok (.sipush 2001, 3) := dk_17 7 209 (dk_at dksX2_init_6 18 rfl rfl)
theorem dX2_init_164 : decode cX2_init 164 = .ok (.newarray .short, 2) := dk_188_9 (dk_at dksX2_init_6 21 rfl rfl)
theorem dX2_init_166 : decode cX2_init 166 = .ok (.putfield 70, 3) := dk_181 0 70 (dk_at dksX2_init_7 0 rfl rfl)
theorem dX2_init_169 : decode cX2_init 169 = .ok (.aload_n 0, 1) := dk_42 (dk_at dksX2_init_7 3 rfl rfl)
theorem dX2_init_170 : decode cX2_init 170 = .ok (.sipush 2001, 3) := dk_17 7 209 (dk_at dksX2_init_7 4 rfl rfl)
theorem dX2_init_173 : decode cX2_init 173 = .ok (.newarray .short, 2) := dk_188_9 (dk_at dksX2_init_7 7 rfl rfl)
theorem dX2_init_175 : decode cX2_init 175 = .ok (.putfield 73, 3) := dk_181 0 73 (dk_at dksX2_init_7 9 rfl rfl)
theorem dX2_init_178 : decode cX2_init 178 = .ok (.return_, 1) := dk_177 (dk_at dksX2_init_7 12 rfl rfl)
abbrev cX2_read : ByteArray := prog_17_method_8_code
def yX2_read : MethodName := ⟨RX2, "read", "()V"⟩
def dkwX2_read_9 : List UInt8 := [61, 21, 4, 60, 167, 255, 53, 28, 153, 0, 11, 42, 7, 27, 27, 3, 182, 0, 109, 177]
abbrev dktX2_read_9 : List UInt8 := dkwX2_read_9 ++ []
def dkwX2_read_8 : List UInt8 := [54, 5, 42, 21, 5, 27, 21, 4, 21, 6, 182, 0, 109, 21, 5, 8, 159, 0, 7, 4, 167, 0, 4, 3]
abbrev dktX2_read_8 : List UInt8 := dkwX2_read_8 ++ dktX2_read_9
def dkwX2_read_7 : List UInt8 := [4, 54, 5, 167, 0, 22, 42, 27, 182, 0, 106, 54, 6, 21, 6, 154, 0, 7, 8, 167, 0, 4, 5]
abbrev dktX2_read_7 : List UInt8 := dkwX2_read_7 ++ dktX2_read_8
def dkwX2_read_6 : List UInt8 := [182, 0, 103, 153, 0, 9, 132, 4, 1, 167, 255, 244, 21, 4, 27, 100, 7, 164, 0, 7, 8, 167, 0, 4]
abbrev dktX2_read_6 : List UInt8 := dkwX2_read_6 ++ dktX2_read_7
def dkwX2_read_5 : List UInt8 := [164, 0, 7, 8, 167, 0, 4, 3, 54, 5, 167, 0, 63, 42, 27, 182, 0, 103, 153, 0, 36, 42, 21, 4]
abbrev dktX2_read_5 : List UInt8 := dkwX2_read_5 ++ dktX2_read_6
def dkwX2_read_4 : List UInt8 := [21, 4, 182, 0, 99, 54, 6, 21, 6, 155, 0, 7, 6, 167, 0, 17, 21, 4, 27, 100, 16, 8]
abbrev dktX2_read_4 : List UInt8 := dkwX2_read_4 ++ dktX2_read_5
def dkwX2_read_3 : List UInt8 := [182, 0, 95, 153, 0, 55, 42, 21, 4, 182, 0, 95, 153, 0, 9, 132, 4, 1, 167, 255, 244, 42, 27]
abbrev dktX2_read_3 : List UInt8 := dkwX2_read_3 ++ dktX2_read_4
def dkwX2_read_2 : List UInt8 := [16, 10, 159, 0, 9, 29, 16, 13, 160, 0, 9, 132, 1, 1, 167, 255, 205, 3, 54, 6, 42, 27]
abbrev dktX2_read_2 : List UInt8 := dkwX2_read_2 ++ dktX2_read_3
def dkwX2_read_1 : List UInt8 := [180, 0, 59, 27, 51, 62, 27, 4, 96, 54, 4, 29, 16, 32, 159, 0, 21, 29, 16, 9, 159, 0, 15, 29]
abbrev dktX2_read_1 : List UInt8 := dkwX2_read_1 ++ dktX2_read_2
def dkwX2_read_0 : List UInt8 := [42, 3, 181, 0, 84, 3, 60, 4, 61, 27, 42, 180, 0, 76, 162, 0, 201, 28, 153, 0, 197, 42]
abbrev dktX2_read_0 : List UInt8 := dkwX2_read_0 ++ dktX2_read_1
theorem dksX2_read_0 : cX2_read.data.toList.drop 0 = dktX2_read_0 := by decide +kernel
theorem dksX2_read_1 : cX2_read.data.toList.drop 22 = dktX2_read_1 := dk_seg dksX2_read_0 22 rfl rfl
theorem dksX2_read_2 : cX2_read.data.toList.drop 46 = dktX2_read_2 := dk_seg dksX2_read_1 24 rfl rfl
theorem dksX2_read_3 : cX2_read.data.toList.drop 68 = dktX2_read_3 := dk_seg dksX2_read_2 22 rfl rfl
theorem dksX2_read_4 : cX2_read.data.toList.drop 91 = dktX2_read_4 := dk_seg dksX2_read_3 23 rfl rfl
theorem dksX2_read_5 : cX2_read.data.toList.drop 113 = dktX2_read_5 := dk_seg dksX2_read_4 22 rfl rfl
theorem dksX2_read_6 : cX2_read.data.toList.drop 137 = dktX2_read_6 := dk_seg dksX2_read_5 24 rfl rfl
theorem dksX2_read_7 : cX2_read.data.toList.drop 161 = dktX2_read_7 := dk_seg dksX2_read_6 24 rfl rfl
theorem dksX2_read_8 : cX2_read.data.toList.drop 184 = dktX2_read_8 := dk_seg dksX2_read_7 23 rfl rfl
theorem dksX2_read_9 : cX2_read.data.toList.drop 208 = dktX2_read_9 := dk_seg dksX2_read_8 24 rfl rfl
theorem dX2_read_0 : decode cX2_read 0 = .ok (.aload_n 0, 1) := dk_42 (dk_at dksX2_read_0 0 rfl rfl)
theorem dX2_read_1 : decode cX2_read 1 = .ok (.iconst 0, 1) := dk_3 (dk_at dksX2_read_0 1 rfl rfl)
theorem dX2_read_2 : decode cX2_read 2 = .ok (.putfield 84, 3) := dk_181 0 84 (dk_at dksX2_read_0 2 rfl rfl)
theorem dX2_read_5 : decode cX2_read 5 = .ok (.iconst 0, 1) := dk_3 (dk_at dksX2_read_0 5 rfl rfl)
theorem dX2_read_6 : decode cX2_read 6 = .ok (.istore_n 1, 1) := dk_60 (dk_at dksX2_read_0 6 rfl rfl)
theorem dX2_read_7 : decode cX2_read 7 = .ok (.iconst 1, 1) := dk_4 (dk_at dksX2_read_0 7 rfl rfl)
theorem dX2_read_8 : decode cX2_read 8 = .ok (.istore_n 2, 1) := dk_61 (dk_at dksX2_read_0 8 rfl rfl)
theorem dX2_read_9 : decode cX2_read 9 = .ok (.iload_n 1, 1) := dk_27 (dk_at dksX2_read_0 9 rfl rfl)
theorem dX2_read_10 : decode cX2_read 10 = .ok (.aload_n 0, 1) := dk_42 (dk_at dksX2_read_0 10 rfl rfl)
theorem dX2_read_11 : decode cX2_read 11 = .ok (.getfield 76, 3) := dk_180 0 76 (dk_at dksX2_read_0 11 rfl rfl)
theorem dX2_read_14 : decode cX2_read 14 = .ok (.if_icmp .ge 201, 3) := dk_162 0 201 (dk_at dksX2_read_0 14 rfl rfl)
theorem dX2_read_17 : decode cX2_read 17 = .ok (.iload_n 2, 1) := dk_28 (dk_at dksX2_read_0 17 rfl rfl)
theorem dX2_read_18 : decode cX2_read 18 = .ok (.ifCond .eq 197, 3) := dk_153 0 197 (dk_at dksX2_read_0 18 rfl rfl)
theorem dX2_read_21 : decode cX2_read 21 = .ok (.aload_n 0, 1) := dk_42 (dk_at dksX2_read_0 21 rfl rfl)
theorem dX2_read_22 : decode cX2_read 22 = .ok (.getfield 59, 3) := dk_180 0 59 (dk_at dksX2_read_1 0 rfl rfl)
theorem dX2_read_25 : decode cX2_read 25 = .ok (.iload_n 1, 1) := dk_27 (dk_at dksX2_read_1 3 rfl rfl)
theorem dX2_read_26 : decode cX2_read 26 = .ok (.baload, 1) := dk_51 (dk_at dksX2_read_1 4 rfl rfl)
theorem dX2_read_27 : decode cX2_read 27 = .ok (.istore_n 3, 1) := dk_62 (dk_at dksX2_read_1 5 rfl rfl)
theorem dX2_read_28 : decode cX2_read 28 = .ok (.iload_n 1, 1) := dk_27 (dk_at dksX2_read_1 6 rfl rfl)
theorem dX2_read_29 : decode cX2_read 29 = .ok (.iconst 1, 1) := dk_4 (dk_at dksX2_read_1 7 rfl rfl)
theorem dX2_read_30 : decode cX2_read 30 = .ok (.iadd, 1) := dk_96 (dk_at dksX2_read_1 8 rfl rfl)
theorem dX2_read_31 : decode cX2_read 31 = .ok (.istore 4, 2) := dk_54 4 (dk_at dksX2_read_1 9 rfl rfl)
theorem dX2_read_33 : decode cX2_read 33 = .ok (.iload_n 3, 1) := dk_29 (dk_at dksX2_read_1 11 rfl rfl)
theorem dX2_read_34 : decode cX2_read 34 = .ok (.bipush 32, 2) := dk_16 32 (dk_at dksX2_read_1 12 rfl rfl)
theorem dX2_read_36 : decode cX2_read 36 = .ok (.if_icmp .eq 21, 3) := dk_159 0 21 (dk_at dksX2_read_1 14 rfl rfl)
theorem dX2_read_39 : decode cX2_read 39 = .ok (.iload_n 3, 1) := dk_29 (dk_at dksX2_read_1 17 rfl rfl)
theorem dX2_read_40 : decode cX2_read 40 = .ok (.bipush 9, 2) := dk_16 9 (dk_at dksX2_read_1 18 rfl rfl)
theorem dX2_read_42 : decode cX2_read 42 = .ok (.if_icmp .eq 15, 3) := dk_159 0 15 (dk_at dksX2_read_1 20 rfl rfl)
theorem dX2_read_45 : decode cX2_read 45 = .ok (.iload_n 3, 1) := dk_29 (dk_at dksX2_read_1 23 rfl rfl)
theorem dX2_read_46 : decode cX2_read 46 = .ok (.bipush 10, 2) := dk_16 10 (dk_at dksX2_read_2 0 rfl rfl)
theorem dX2_read_48 : decode cX2_read 48 = .ok (.if_icmp .eq 9, 3) := dk_159 0 9 (dk_at dksX2_read_2 2 rfl rfl)
theorem dX2_read_51 : decode cX2_read 51 = .ok (.iload_n 3, 1) := dk_29 (dk_at dksX2_read_2 5 rfl rfl)
theorem dX2_read_52 : decode cX2_read 52 = .ok (.bipush 13, 2) := dk_16 13 (dk_at dksX2_read_2 6 rfl rfl)
theorem dX2_read_54 : decode cX2_read 54 = .ok (.if_icmp .ne 9, 3) := dk_160 0 9 (dk_at dksX2_read_2 8 rfl rfl)
theorem dX2_read_57 : decode cX2_read 57 = .ok (.iinc 1 1, 3) := dk_132 1 1 (dk_at dksX2_read_2 11 rfl rfl)
theorem dX2_read_60 : decode cX2_read 60 = .ok (.goto (-51), 3) := dk_167 255 205 (dk_at dksX2_read_2 14 rfl rfl)
theorem dX2_read_63 : decode cX2_read 63 = .ok (.iconst 0, 1) := dk_3 (dk_at dksX2_read_2 17 rfl rfl)
theorem dX2_read_64 : decode cX2_read 64 = .ok (.istore 6, 2) := dk_54 6 (dk_at dksX2_read_2 18 rfl rfl)
theorem dX2_read_66 : decode cX2_read 66 = .ok (.aload_n 0, 1) := dk_42 (dk_at dksX2_read_2 20 rfl rfl)
theorem dX2_read_67 : decode cX2_read 67 = .ok (.iload_n 1, 1) := dk_27 (dk_at dksX2_read_2 21 rfl rfl)
theorem dX2_read_68 : decode cX2_read 68 = .ok (.invokevirtual 95, 3) := dk_182 0 95 (dk_at dksX2_read_3 0 rfl rfl)
theorem dX2_read_71 : decode cX2_read 71 = .ok (.ifCond .eq 55, 3) := dk_153 0 55 (dk_at dksX2_read_3 3 rfl rfl)
theorem dX2_read_74 : decode cX2_read 74 = .ok (.aload_n 0, 1) := dk_42 (dk_at dksX2_read_3 6 rfl rfl)
theorem dX2_read_75 : decode cX2_read 75 = .ok (.iload 4, 2) := dk_21 4 (dk_at dksX2_read_3 7 rfl rfl)
theorem dX2_read_77 : decode cX2_read 77 = .ok (.invokevirtual 95, 3) := dk_182 0 95 (dk_at dksX2_read_3 9 rfl rfl)
theorem dX2_read_80 : decode cX2_read 80 = .ok (.ifCond .eq 9, 3) := dk_153 0 9 (dk_at dksX2_read_3 12 rfl rfl)
theorem dX2_read_83 : decode cX2_read 83 = .ok (.iinc 4 1, 3) := dk_132 4 1 (dk_at dksX2_read_3 15 rfl rfl)
theorem dX2_read_86 : decode cX2_read 86 = .ok (.goto (-12), 3) := dk_167 255 244 (dk_at dksX2_read_3 18 rfl rfl)
theorem dX2_read_89 : decode cX2_read 89 = .ok (.aload_n 0, 1) := dk_42 (dk_at dksX2_read_3 21 rfl rfl)
theorem dX2_read_90 : decode cX2_read 90 = .ok (.iload_n 1, 1) := dk_27 (dk_at dksX2_read_3 22 rfl rfl)
theorem dX2_read_91 : decode cX2_read 91 = .ok (.iload 4, 2) := dk_21 4 (dk_at dksX2_read_4 0 rfl rfl)
theorem dX2_read_93 : decode cX2_read 93 = .ok (.invokevirtual 99, 3) := dk_182 0 99 (dk_at dksX2_read_4 2 rfl rfl)
theorem dX2_read_96 : decode cX2_read 96 = .ok (.istore 6, 2) := dk_54 6 (dk_at dksX2_read_4 5 rfl rfl)
theorem dX2_read_98 : decode cX2_read 98 = .ok (.iload 6, 2) := dk_21 6 (dk_at dksX2_read_4 7 rfl rfl)
theorem dX2_read_100 : decode cX2_read 100 = .ok (.ifCond .lt 7, 3) := dk_155 0 7 (dk_at dksX2_read_4 9 rfl rfl)
theorem dX2_read_103 : decode cX2_read 103 = .ok (.iconst 3, 1) := dk_6 (dk_at dksX2_read_4 12 rfl rfl)
theorem dX2_read_104 : decode cX2_read 104 = .ok (.goto 17, 3) := dk_167 0 17 (dk_at dksX2_read_4 13 rfl rfl)
theorem dX2_read_107 : decode cX2_read 107 = .ok (.iload 4, 2) := dk_21 4 (dk_at dksX2_read_4 16 rfl rfl)
theorem dX2_read_109 : decode cX2_read 109 = .ok (.iload_n 1, 1) := dk_27 (dk_at dksX2_read_4 18 rfl rfl)
theorem dX2_read_110 : decode cX2_read 110 = .ok (.isub, 1) := dk_100 (dk_at dksX2_read_4 19 rfl rfl)
theorem dX2_read_111 : decode cX2_read 111 = .ok (.bipush 8, 2) := dk_16 8 (dk_at dksX2_read_4 20 rfl rfl)
theorem dX2_read_113 : decode cX2_read 113 = .ok (.if_icmp .le 7, 3) := dk_164 0 7 (dk_at dksX2_read_5 0 rfl rfl)
theorem dX2_read_116 : decode cX2_read 116 = .ok (.iconst 5, 1) := dk_8 (dk_at dksX2_read_5 3 rfl rfl)
theorem dX2_read_117 : decode cX2_read 117 = .ok (.goto 4, 3) := dk_167 0 4 (dk_at dksX2_read_5 4 rfl rfl)
theorem dX2_read_120 : decode cX2_read 120 = .ok (.iconst 0, 1) := dk_3 (dk_at dksX2_read_5 7 rfl rfl)
theorem dX2_read_121 : decode cX2_read 121 = .ok (.istore 5, 2) := dk_54 5 (dk_at dksX2_read_5 8 rfl rfl)
theorem dX2_read_123 : decode cX2_read 123 = .ok (.goto 63, 3) := dk_167 0 63 (dk_at dksX2_read_5 10 rfl rfl)
theorem dX2_read_126 : decode cX2_read 126 = .ok (.aload_n 0, 1) := dk_42 (dk_at dksX2_read_5 13 rfl rfl)
theorem dX2_read_127 : decode cX2_read 127 = .ok (.iload_n 1, 1) := dk_27 (dk_at dksX2_read_5 14 rfl rfl)
theorem dX2_read_128 : decode cX2_read 128 = .ok (.invokevirtual 103, 3) := dk_182 0 103 (dk_at dksX2_read_5 15 rfl rfl)
theorem dX2_read_131 : decode cX2_read 131 = .ok (.ifCond .eq 36, 3) := dk_153 0 36 (dk_at dksX2_read_5 18 rfl rfl)
theorem dX2_read_134 : decode cX2_read 134 = .ok (.aload_n 0, 1) := dk_42 (dk_at dksX2_read_5 21 rfl rfl)
theorem dX2_read_135 : decode cX2_read 135 = .ok (.iload 4, 2) := dk_21 4 (dk_at dksX2_read_5 22 rfl rfl)
theorem dX2_read_137 : decode cX2_read 137 = .ok (.invokevirtual 103, 3) := dk_182 0 103 (dk_at dksX2_read_6 0 rfl rfl)
theorem dX2_read_140 : decode cX2_read 140 = .ok (.ifCond .eq 9, 3) := dk_153 0 9 (dk_at dksX2_read_6 3 rfl rfl)
theorem dX2_read_143 : decode cX2_read 143 = .ok (.iinc 4 1, 3) := dk_132 4 1 (dk_at dksX2_read_6 6 rfl rfl)
theorem dX2_read_146 : decode cX2_read 146 = .ok (.goto (-12), 3) := dk_167 255 244 (dk_at dksX2_read_6 9 rfl rfl)
theorem dX2_read_149 : decode cX2_read 149 = .ok (.iload 4, 2) := dk_21 4 (dk_at dksX2_read_6 12 rfl rfl)
theorem dX2_read_151 : decode cX2_read 151 = .ok (.iload_n 1, 1) := dk_27 (dk_at dksX2_read_6 14 rfl rfl)
theorem dX2_read_152 : decode cX2_read 152 = .ok (.isub, 1) := dk_100 (dk_at dksX2_read_6 15 rfl rfl)
theorem dX2_read_153 : decode cX2_read 153 = .ok (.iconst 4, 1) := dk_7 (dk_at dksX2_read_6 16 rfl rfl)
theorem dX2_read_154 : decode cX2_read 154 = .ok (.if_icmp .le 7, 3) := dk_164 0 7 (dk_at dksX2_read_6 17 rfl rfl)
theorem dX2_read_157 : decode cX2_read 157 = .ok (.iconst 5, 1) := dk_8 (dk_at dksX2_read_6 20 rfl rfl)
theorem dX2_read_158 : decode cX2_read 158 = .ok (.goto 4, 3) := dk_167 0 4 (dk_at dksX2_read_6 21 rfl rfl)
theorem dX2_read_161 : decode cX2_read 161 = .ok (.iconst 1, 1) := dk_4 (dk_at dksX2_read_7 0 rfl rfl)
theorem dX2_read_162 : decode cX2_read 162 = .ok (.istore 5, 2) := dk_54 5 (dk_at dksX2_read_7 1 rfl rfl)
theorem dX2_read_164 : decode cX2_read 164 = .ok (.goto 22, 3) := dk_167 0 22 (dk_at dksX2_read_7 3 rfl rfl)
theorem dX2_read_167 : decode cX2_read 167 = .ok (.aload_n 0, 1) := dk_42 (dk_at dksX2_read_7 6 rfl rfl)
theorem dX2_read_168 : decode cX2_read 168 = .ok (.iload_n 1, 1) := dk_27 (dk_at dksX2_read_7 7 rfl rfl)
theorem dX2_read_169 : decode cX2_read 169 = .ok (.invokevirtual 106, 3) := dk_182 0 106 (dk_at dksX2_read_7 8 rfl rfl)
theorem dX2_read_172 : decode cX2_read 172 = .ok (.istore 6, 2) := dk_54 6 (dk_at dksX2_read_7 11 rfl rfl)
theorem dX2_read_174 : decode cX2_read 174 = .ok (.iload 6, 2) := dk_21 6 (dk_at dksX2_read_7 13 rfl rfl)
theorem dX2_read_176 : decode cX2_read 176 = .ok (.ifCond .ne 7, 3) := dk_154 0 7 (dk_at dksX2_read_7 15 rfl rfl)
theorem dX2_read_179 : decode cX2_read 179 = .ok (.iconst 5, 1) := dk_8 (dk_at dksX2_read_7 18 rfl rfl)
theorem dX2_read_180 : decode cX2_read 180 = .ok (.goto 4, 3) := dk_167 0 4 (dk_at dksX2_read_7 19 rfl rfl)
theorem dX2_read_183 : decode cX2_read 183 = .ok (.iconst 2, 1) := dk_5 (dk_at dksX2_read_7 22 rfl rfl)
theorem dX2_read_184 : decode cX2_read 184 = .ok (.istore 5, 2) := dk_54 5 (dk_at dksX2_read_8 0 rfl rfl)
theorem dX2_read_186 : decode cX2_read 186 = .ok (.aload_n 0, 1) := dk_42 (dk_at dksX2_read_8 2 rfl rfl)
theorem dX2_read_187 : decode cX2_read 187 = .ok (.iload 5, 2) := dk_21 5 (dk_at dksX2_read_8 3 rfl rfl)
theorem dX2_read_189 : decode cX2_read 189 = .ok (.iload_n 1, 1) := dk_27 (dk_at dksX2_read_8 5 rfl rfl)
theorem dX2_read_190 : decode cX2_read 190 = .ok (.iload 4, 2) := dk_21 4 (dk_at dksX2_read_8 6 rfl rfl)
theorem dX2_read_192 : decode cX2_read 192 = .ok (.iload 6, 2) := dk_21 6 (dk_at dksX2_read_8 8 rfl rfl)
theorem dX2_read_194 : decode cX2_read 194 = .ok (.invokevirtual 109, 3) := dk_182 0 109 (dk_at dksX2_read_8 10 rfl rfl)
theorem dX2_read_197 : decode cX2_read 197 = .ok (.iload 5, 2) := dk_21 5 (dk_at dksX2_read_8 13 rfl rfl)
theorem dX2_read_199 : decode cX2_read 199 = .ok (.iconst 5, 1) := dk_8 (dk_at dksX2_read_8 15 rfl rfl)
theorem dX2_read_200 : decode cX2_read 200 = .ok (.if_icmp .eq 7, 3) := dk_159 0 7 (dk_at dksX2_read_8 16 rfl rfl)
theorem dX2_read_203 : decode cX2_read 203 = .ok (.iconst 1, 1) := dk_4 (dk_at dksX2_read_8 19 rfl rfl)
theorem dX2_read_204 : decode cX2_read 204 = .ok (.goto 4, 3) := dk_167 0 4 (dk_at dksX2_read_8 20 rfl rfl)
theorem dX2_read_207 : decode cX2_read 207 = .ok (.iconst 0, 1) := dk_3 (dk_at dksX2_read_8 23 rfl rfl)
theorem dX2_read_208 : decode cX2_read 208 = .ok (.istore_n 2, 1) := dk_61 (dk_at dksX2_read_9 0 rfl rfl)
theorem dX2_read_209 : decode cX2_read 209 = .ok (.iload 4, 2) := dk_21 4 (dk_at dksX2_read_9 1 rfl rfl)
theorem dX2_read_211 : decode cX2_read 211 = .ok (.istore_n 1, 1) := dk_60 (dk_at dksX2_read_9 3 rfl rfl)
theorem dX2_read_212 : decode cX2_read 212 = .ok (.goto (-203), 3) := dk_167 255 53 (dk_at dksX2_read_9 4 rfl rfl)
theorem dX2_read_215 : decode cX2_read 215 = .ok (.iload_n 2, 1) := dk_28 (dk_at dksX2_read_9 7 rfl rfl)
theorem dX2_read_216 : decode cX2_read 216 = .ok (.ifCond .eq 11, 3) := dk_153 0 11 (dk_at dksX2_read_9 8 rfl rfl)
theorem dX2_read_219 : decode cX2_read 219 = .ok (.aload_n 0, 1) := dk_42 (dk_at dksX2_read_9 11 rfl rfl)
theorem dX2_read_220 : decode cX2_read 220 = .ok (.iconst 4, 1) := dk_7 (dk_at dksX2_read_9 12 rfl rfl)
theorem dX2_read_221 : decode cX2_read 221 = .ok (.iload_n 1, 1) := dk_27 (dk_at dksX2_read_9 13 rfl rfl)
theorem dX2_read_222 : decode cX2_read 222 = .ok (.iload_n 1, 1) := dk_27 (dk_at dksX2_read_9 14 rfl rfl)
theorem dX2_read_223 : decode cX2_read 223 = .ok (.iconst 0, 1) := dk_3 (dk_at dksX2_read_9 15 rfl rfl)
theorem dX2_read_224 : decode cX2_read 224 = .ok (.invokevirtual 109, 3) := dk_182 0 109 (dk_at dksX2_read_9 16 rfl rfl)
theorem dX2_read_227 : decode cX2_read 227 = .ok (.return_, 1) := dk_177 (dk_at dksX2_read_9 19 rfl rfl)
abbrev cX2_isLetter : ByteArray := prog_17_method_4_code
def yX2_isLetter : MethodName := ⟨RX2, "isLetter", "(I)Z"⟩
def dkwX2_isLetter_1 : List UInt8 := [3, 172]
abbrev dktX2_isLetter_1 : List UInt8 := dkwX2_isLetter_1 ++ []
def dkwX2_isLetter_0 : List UInt8 := [42, 27, 182, 0, 80, 16, 97, 161, 0, 17, 42, 27, 182, 0, 80, 16, 122, 163, 0, 7, 4, 167, 0, 4]
abbrev dktX2_isLetter_0 : List UInt8 := dkwX2_isLetter_0 ++ dktX2_isLetter_1
theorem dksX2_isLetter_0 : cX2_isLetter.data.toList.drop 0 = dktX2_isLetter_0 := by decide +kernel
theorem dksX2_isLetter_1 : cX2_isLetter.data.toList.drop 24 = dktX2_isLetter_1 := dk_seg dksX2_isLetter_0 24 rfl rfl
theorem dX2_isLetter_0 : decode cX2_isLetter 0 = .ok (.aload_n 0, 1) := dk_42 (dk_at dksX2_isLetter_0 0 rfl rfl)
theorem dX2_isLetter_1 : decode cX2_isLetter 1 = .ok (.iload_n 1, 1) := dk_27 (dk_at dksX2_isLetter_0 1 rfl rfl)
theorem dX2_isLetter_2 : decode cX2_isLetter 2 = .ok (.invokevirtual 80, 3) := dk_182 0 80 (dk_at dksX2_isLetter_0 2 rfl rfl)
theorem dX2_isLetter_5 : decode cX2_isLetter 5 = .ok (.bipush 97, 2) := dk_16 97 (dk_at dksX2_isLetter_0 5 rfl rfl)
theorem dX2_isLetter_7 : decode cX2_isLetter 7 = .ok (.if_icmp .lt 17, 3) := dk_161 0 17 (dk_at dksX2_isLetter_0 7 rfl rfl)
theorem dX2_isLetter_10 : decode cX2_isLetter 10 = .ok (.aload_n 0, 1) := dk_42 (dk_at dksX2_isLetter_0 10 rfl rfl)
theorem dX2_isLetter_11 : decode cX2_isLetter 11 = .ok (.iload_n 1, 1) := dk_27 (dk_at dksX2_isLetter_0 11 rfl rfl)
theorem dX2_isLetter_12 : decode cX2_isLetter 12 = .ok (.invokevirtual 80, 3) := dk_182 0 80 (dk_at dksX2_isLetter_0 12 rfl rfl)
theorem dX2_isLetter_15 : decode cX2_isLetter 15 = .ok (.bipush 122, 2) := dk_16 122 (dk_at dksX2_isLetter_0 15 rfl rfl)
theorem dX2_isLetter_17 : decode cX2_isLetter 17 = .ok (.if_icmp .gt 7, 3) := dk_163 0 7 (dk_at dksX2_isLetter_0 17 rfl rfl)
theorem dX2_isLetter_20 : decode cX2_isLetter 20 = .ok (.iconst 1, 1) := dk_4 (dk_at dksX2_isLetter_0 20 rfl rfl)
theorem dX2_isLetter_21 : decode cX2_isLetter 21 = .ok (.goto 4, 3) := dk_167 0 4 (dk_at dksX2_isLetter_0 21 rfl rfl)
theorem dX2_isLetter_24 : decode cX2_isLetter 24 = .ok (.iconst 0, 1) := dk_3 (dk_at dksX2_isLetter_1 0 rfl rfl)
theorem dX2_isLetter_25 : decode cX2_isLetter 25 = .ok (.ireturn, 1) := dk_172 (dk_at dksX2_isLetter_1 1 rfl rfl)
abbrev cX2_at : ByteArray := prog_17_method_2_code
def yX2_at : MethodName := ⟨RX2, "at", "(I)I"⟩
def dkwX2_at_0 : List UInt8 := [27, 42, 180, 0, 76, 162, 0, 12, 42, 180, 0, 59, 27, 51, 167, 0, 4, 3, 172]
abbrev dktX2_at_0 : List UInt8 := dkwX2_at_0 ++ []
theorem dksX2_at_0 : cX2_at.data.toList.drop 0 = dktX2_at_0 := by decide +kernel
theorem dX2_at_0 : decode cX2_at 0 = .ok (.iload_n 1, 1) := dk_27 (dk_at dksX2_at_0 0 rfl rfl)
theorem dX2_at_1 : decode cX2_at 1 = .ok (.aload_n 0, 1) := dk_42 (dk_at dksX2_at_0 1 rfl rfl)
theorem dX2_at_2 : decode cX2_at 2 = .ok (.getfield 76, 3) := dk_180 0 76 (dk_at dksX2_at_0 2 rfl rfl)
theorem dX2_at_5 : decode cX2_at 5 = .ok (.if_icmp .ge 12, 3) := dk_162 0 12 (dk_at dksX2_at_0 5 rfl rfl)
theorem dX2_at_8 : decode cX2_at 8 = .ok (.aload_n 0, 1) := dk_42 (dk_at dksX2_at_0 8 rfl rfl)
theorem dX2_at_9 : decode cX2_at 9 = .ok (.getfield 59, 3) := dk_180 0 59 (dk_at dksX2_at_0 9 rfl rfl)
theorem dX2_at_12 : decode cX2_at 12 = .ok (.iload_n 1, 1) := dk_27 (dk_at dksX2_at_0 12 rfl rfl)
theorem dX2_at_13 : decode cX2_at 13 = .ok (.baload, 1) := dk_51 (dk_at dksX2_at_0 13 rfl rfl)
theorem dX2_at_14 : decode cX2_at 14 = .ok (.goto 4, 3) := dk_167 0 4 (dk_at dksX2_at_0 14 rfl rfl)
theorem dX2_at_17 : decode cX2_at 17 = .ok (.iconst 0, 1) := dk_3 (dk_at dksX2_at_0 17 rfl rfl)
theorem dX2_at_18 : decode cX2_at 18 = .ok (.ireturn, 1) := dk_172 (dk_at dksX2_at_0 18 rfl rfl)
abbrev cX2_word : ByteArray := prog_17_method_6_code
def yX2_word : MethodName := ⟨RX2, "word", "(II)I"⟩
def dkwX2_word_4 : List UInt8 := [167, 255, 165, 2, 172]
abbrev dktX2_word_4 : List UInt8 := dkwX2_word_4 ++ []
def dkwX2_word_3 : List UInt8 := [167, 0, 4, 3, 54, 4, 132, 5, 1, 167, 255, 212, 21, 4, 153, 0, 5, 29, 172, 132, 3, 1]
abbrev dktX2_word_3 : List UInt8 := dkwX2_word_3 ++ dktX2_word_4
def dkwX2_word_2 : List UInt8 := [42, 180, 0, 53, 29, 50, 21, 5, 27, 100, 182, 0, 91, 42, 180, 0, 59, 21, 5, 51, 160, 0, 7, 4]
abbrev dktX2_word_2 : List UInt8 := dkwX2_word_2 ++ dktX2_word_3
def dkwX2_word_1 : List UInt8 := [160, 0, 7, 4, 167, 0, 4, 3, 54, 4, 27, 54, 5, 21, 5, 28, 162, 0, 44, 21, 4, 153, 0, 39]
abbrev dktX2_word_1 : List UInt8 := dkwX2_word_1 ++ dktX2_word_2
def dkwX2_word_0 : List UInt8 := [3, 62, 29, 42, 180, 0, 53, 190, 162, 0, 88, 42, 180, 0, 53, 29, 50, 182, 0, 87, 28, 27, 100]
abbrev dktX2_word_0 : List UInt8 := dkwX2_word_0 ++ dktX2_word_1
theorem dksX2_word_0 : cX2_word.data.toList.drop 0 = dktX2_word_0 := by decide +kernel
theorem dksX2_word_1 : cX2_word.data.toList.drop 23 = dktX2_word_1 := dk_seg dksX2_word_0 23 rfl rfl
theorem dksX2_word_2 : cX2_word.data.toList.drop 47 = dktX2_word_2 := dk_seg dksX2_word_1 24 rfl rfl
theorem dksX2_word_3 : cX2_word.data.toList.drop 71 = dktX2_word_3 := dk_seg dksX2_word_2 24 rfl rfl
theorem dksX2_word_4 : cX2_word.data.toList.drop 93 = dktX2_word_4 := dk_seg dksX2_word_3 22 rfl rfl
theorem dX2_word_0 : decode cX2_word 0 = .ok (.iconst 0, 1) := dk_3 (dk_at dksX2_word_0 0 rfl rfl)
theorem dX2_word_1 : decode cX2_word 1 = .ok (.istore_n 3, 1) := dk_62 (dk_at dksX2_word_0 1 rfl rfl)
theorem dX2_word_2 : decode cX2_word 2 = .ok (.iload_n 3, 1) := dk_29 (dk_at dksX2_word_0 2 rfl rfl)
theorem dX2_word_3 : decode cX2_word 3 = .ok (.aload_n 0, 1) := dk_42 (dk_at dksX2_word_0 3 rfl rfl)
theorem dX2_word_4 : decode cX2_word 4 = .ok (.getfield 53, 3) := dk_180 0 53 (dk_at dksX2_word_0 4 rfl rfl)
theorem dX2_word_7 : decode cX2_word 7 = .ok (.arraylength, 1) := dk_190 (dk_at dksX2_word_0 7 rfl rfl)
theorem dX2_word_8 : decode cX2_word 8 = .ok (.if_icmp .ge 88, 3) := dk_162 0 88 (dk_at dksX2_word_0 8 rfl rfl)
theorem dX2_word_11 : decode cX2_word 11 = .ok (.aload_n 0, 1) := dk_42 (dk_at dksX2_word_0 11 rfl rfl)
theorem dX2_word_12 : decode cX2_word 12 = .ok (.getfield 53, 3) := dk_180 0 53 (dk_at dksX2_word_0 12 rfl rfl)
theorem dX2_word_15 : decode cX2_word 15 = .ok (.iload_n 3, 1) := dk_29 (dk_at dksX2_word_0 15 rfl rfl)
theorem dX2_word_16 : decode cX2_word 16 = .ok (.aaload, 1) := dk_50 (dk_at dksX2_word_0 16 rfl rfl)
theorem dX2_word_17 : decode cX2_word 17 = .ok (.invokevirtual 87, 3) := dk_182 0 87 (dk_at dksX2_word_0 17 rfl rfl)
theorem dX2_word_20 : decode cX2_word 20 = .ok (.iload_n 2, 1) := dk_28 (dk_at dksX2_word_0 20 rfl rfl)
theorem dX2_word_21 : decode cX2_word 21 = .ok (.iload_n 1, 1) := dk_27 (dk_at dksX2_word_0 21 rfl rfl)
theorem dX2_word_22 : decode cX2_word 22 = .ok (.isub, 1) := dk_100 (dk_at dksX2_word_0 22 rfl rfl)
theorem dX2_word_23 : decode cX2_word 23 = .ok (.if_icmp .ne 7, 3) := dk_160 0 7 (dk_at dksX2_word_1 0 rfl rfl)
theorem dX2_word_26 : decode cX2_word 26 = .ok (.iconst 1, 1) := dk_4 (dk_at dksX2_word_1 3 rfl rfl)
theorem dX2_word_27 : decode cX2_word 27 = .ok (.goto 4, 3) := dk_167 0 4 (dk_at dksX2_word_1 4 rfl rfl)
theorem dX2_word_30 : decode cX2_word 30 = .ok (.iconst 0, 1) := dk_3 (dk_at dksX2_word_1 7 rfl rfl)
theorem dX2_word_31 : decode cX2_word 31 = .ok (.istore 4, 2) := dk_54 4 (dk_at dksX2_word_1 8 rfl rfl)
theorem dX2_word_33 : decode cX2_word 33 = .ok (.iload_n 1, 1) := dk_27 (dk_at dksX2_word_1 10 rfl rfl)
theorem dX2_word_34 : decode cX2_word 34 = .ok (.istore 5, 2) := dk_54 5 (dk_at dksX2_word_1 11 rfl rfl)
theorem dX2_word_36 : decode cX2_word 36 = .ok (.iload 5, 2) := dk_21 5 (dk_at dksX2_word_1 13 rfl rfl)
theorem dX2_word_38 : decode cX2_word 38 = .ok (.iload_n 2, 1) := dk_28 (dk_at dksX2_word_1 15 rfl rfl)
theorem dX2_word_39 : decode cX2_word 39 = .ok (.if_icmp .ge 44, 3) := dk_162 0 44 (dk_at dksX2_word_1 16 rfl rfl)
theorem dX2_word_42 : decode cX2_word 42 = .ok (.iload 4, 2) := dk_21 4 (dk_at dksX2_word_1 19 rfl rfl)
theorem dX2_word_44 : decode cX2_word 44 = .ok (.ifCond .eq 39, 3) := dk_153 0 39 (dk_at dksX2_word_1 21 rfl rfl)
theorem dX2_word_47 : decode cX2_word 47 = .ok (.aload_n 0, 1) := dk_42 (dk_at dksX2_word_2 0 rfl rfl)
theorem dX2_word_48 : decode cX2_word 48 = .ok (.getfield 53, 3) := dk_180 0 53 (dk_at dksX2_word_2 1 rfl rfl)
theorem dX2_word_51 : decode cX2_word 51 = .ok (.iload_n 3, 1) := dk_29 (dk_at dksX2_word_2 4 rfl rfl)
theorem dX2_word_52 : decode cX2_word 52 = .ok (.aaload, 1) := dk_50 (dk_at dksX2_word_2 5 rfl rfl)
theorem dX2_word_53 : decode cX2_word 53 = .ok (.iload 5, 2) := dk_21 5 (dk_at dksX2_word_2 6 rfl rfl)
theorem dX2_word_55 : decode cX2_word 55 = .ok (.iload_n 1, 1) := dk_27 (dk_at dksX2_word_2 8 rfl rfl)
theorem dX2_word_56 : decode cX2_word 56 = .ok (.isub, 1) := dk_100 (dk_at dksX2_word_2 9 rfl rfl)
theorem dX2_word_57 : decode cX2_word 57 = .ok (.invokevirtual 91, 3) := dk_182 0 91 (dk_at dksX2_word_2 10 rfl rfl)
theorem dX2_word_60 : decode cX2_word 60 = .ok (.aload_n 0, 1) := dk_42 (dk_at dksX2_word_2 13 rfl rfl)
theorem dX2_word_61 : decode cX2_word 61 = .ok (.getfield 59, 3) := dk_180 0 59 (dk_at dksX2_word_2 14 rfl rfl)
theorem dX2_word_64 : decode cX2_word 64 = .ok (.iload 5, 2) := dk_21 5 (dk_at dksX2_word_2 17 rfl rfl)
theorem dX2_word_66 : decode cX2_word 66 = .ok (.baload, 1) := dk_51 (dk_at dksX2_word_2 19 rfl rfl)
theorem dX2_word_67 : decode cX2_word 67 = .ok (.if_icmp .ne 7, 3) := dk_160 0 7 (dk_at dksX2_word_2 20 rfl rfl)
theorem dX2_word_70 : decode cX2_word 70 = .ok (.iconst 1, 1) := dk_4 (dk_at dksX2_word_2 23 rfl rfl)
theorem dX2_word_71 : decode cX2_word 71 = .ok (.goto 4, 3) := dk_167 0 4 (dk_at dksX2_word_3 0 rfl rfl)
theorem dX2_word_74 : decode cX2_word 74 = .ok (.iconst 0, 1) := dk_3 (dk_at dksX2_word_3 3 rfl rfl)
theorem dX2_word_75 : decode cX2_word 75 = .ok (.istore 4, 2) := dk_54 4 (dk_at dksX2_word_3 4 rfl rfl)
theorem dX2_word_77 : decode cX2_word 77 = .ok (.iinc 5 1, 3) := dk_132 5 1 (dk_at dksX2_word_3 6 rfl rfl)
theorem dX2_word_80 : decode cX2_word 80 = .ok (.goto (-44), 3) := dk_167 255 212 (dk_at dksX2_word_3 9 rfl rfl)
theorem dX2_word_83 : decode cX2_word 83 = .ok (.iload 4, 2) := dk_21 4 (dk_at dksX2_word_3 12 rfl rfl)
theorem dX2_word_85 : decode cX2_word 85 = .ok (.ifCond .eq 5, 3) := dk_153 0 5 (dk_at dksX2_word_3 14 rfl rfl)
theorem dX2_word_88 : decode cX2_word 88 = .ok (.iload_n 3, 1) := dk_29 (dk_at dksX2_word_3 17 rfl rfl)
theorem dX2_word_89 : decode cX2_word 89 = .ok (.ireturn, 1) := dk_172 (dk_at dksX2_word_3 18 rfl rfl)
theorem dX2_word_90 : decode cX2_word 90 = .ok (.iinc 3 1, 3) := dk_132 3 1 (dk_at dksX2_word_3 19 rfl rfl)
theorem dX2_word_93 : decode cX2_word 93 = .ok (.goto (-91), 3) := dk_167 255 165 (dk_at dksX2_word_4 0 rfl rfl)
theorem dX2_word_96 : decode cX2_word 96 = .ok (.iconst (-1), 1) := dk_2 (dk_at dksX2_word_4 3 rfl rfl)
theorem dX2_word_97 : decode cX2_word 97 = .ok (.ireturn, 1) := dk_172 (dk_at dksX2_word_4 4 rfl rfl)
abbrev cX2_isDigit : ByteArray := prog_17_method_3_code
def yX2_isDigit : MethodName := ⟨RX2, "isDigit", "(I)Z"⟩
def dkwX2_isDigit_1 : List UInt8 := [3, 172]
abbrev dktX2_isDigit_1 : List UInt8 := dkwX2_isDigit_1 ++ []
def dkwX2_isDigit_0 : List UInt8 := [42, 27, 182, 0, 80, 16, 48, 161, 0, 17, 42, 27, 182, 0, 80, 16, 57, 163, 0, 7, 4, 167, 0, 4]
abbrev dktX2_isDigit_0 : List UInt8 := dkwX2_isDigit_0 ++ dktX2_isDigit_1
theorem dksX2_isDigit_0 : cX2_isDigit.data.toList.drop 0 = dktX2_isDigit_0 := by decide +kernel
theorem dksX2_isDigit_1 : cX2_isDigit.data.toList.drop 24 = dktX2_isDigit_1 := dk_seg dksX2_isDigit_0 24 rfl rfl
theorem dX2_isDigit_0 : decode cX2_isDigit 0 = .ok (.aload_n 0, 1) := dk_42 (dk_at dksX2_isDigit_0 0 rfl rfl)
theorem dX2_isDigit_1 : decode cX2_isDigit 1 = .ok (.iload_n 1, 1) := dk_27 (dk_at dksX2_isDigit_0 1 rfl rfl)
theorem dX2_isDigit_2 : decode cX2_isDigit 2 = .ok (.invokevirtual 80, 3) := dk_182 0 80 (dk_at dksX2_isDigit_0 2 rfl rfl)
theorem dX2_isDigit_5 : decode cX2_isDigit 5 = .ok (.bipush 48, 2) := dk_16 48 (dk_at dksX2_isDigit_0 5 rfl rfl)
theorem dX2_isDigit_7 : decode cX2_isDigit 7 = .ok (.if_icmp .lt 17, 3) := dk_161 0 17 (dk_at dksX2_isDigit_0 7 rfl rfl)
theorem dX2_isDigit_10 : decode cX2_isDigit 10 = .ok (.aload_n 0, 1) := dk_42 (dk_at dksX2_isDigit_0 10 rfl rfl)
theorem dX2_isDigit_11 : decode cX2_isDigit 11 = .ok (.iload_n 1, 1) := dk_27 (dk_at dksX2_isDigit_0 11 rfl rfl)
theorem dX2_isDigit_12 : decode cX2_isDigit 12 = .ok (.invokevirtual 80, 3) := dk_182 0 80 (dk_at dksX2_isDigit_0 12 rfl rfl)
theorem dX2_isDigit_15 : decode cX2_isDigit 15 = .ok (.bipush 57, 2) := dk_16 57 (dk_at dksX2_isDigit_0 15 rfl rfl)
theorem dX2_isDigit_17 : decode cX2_isDigit 17 = .ok (.if_icmp .gt 7, 3) := dk_163 0 7 (dk_at dksX2_isDigit_0 17 rfl rfl)
theorem dX2_isDigit_20 : decode cX2_isDigit 20 = .ok (.iconst 1, 1) := dk_4 (dk_at dksX2_isDigit_0 20 rfl rfl)
theorem dX2_isDigit_21 : decode cX2_isDigit 21 = .ok (.goto 4, 3) := dk_167 0 4 (dk_at dksX2_isDigit_0 21 rfl rfl)
theorem dX2_isDigit_24 : decode cX2_isDigit 24 = .ok (.iconst 0, 1) := dk_3 (dk_at dksX2_isDigit_1 0 rfl rfl)
theorem dX2_isDigit_25 : decode cX2_isDigit 25 = .ok (.ireturn, 1) := dk_172 (dk_at dksX2_isDigit_1 1 rfl rfl)
abbrev cX2_sign : ByteArray := prog_17_method_7_code
def yX2_sign : MethodName := ⟨RX2, "sign", "(I)I"⟩
def dkwX2_sign_2 : List UInt8 := [28, 172, 3, 172]
abbrev dktX2_sign_2 : List UInt8 := dkwX2_sign_2 ++ []
def dkwX2_sign_1 : List UInt8 := [170, 0, 0, 0, 103, 0, 0, 0, 40, 0, 0, 0, 61, 0, 0, 0, 101, 0, 0, 0, 101, 0, 0, 0, 101, 0, 0, 0, 101, 0, 0, 0, 103, 0, 0, 0, 101, 0, 0, 0, 103, 0, 0, 0, 101, 0, 0, 0, 103, 0, 0, 0, 103, 0, 0, 0, 103, 0, 0, 0, 103, 0, 0, 0, 103, 0, 0, 0, 103, 0, 0, 0, 103, 0, 0, 0, 103, 0, 0, 0, 103, 0, 0, 0, 103, 0, 0, 0, 103, 0, 0, 0, 101, 0, 0, 0, 101, 0, 0, 0, 101]
abbrev dktX2_sign_1 : List UInt8 := dkwX2_sign_1 ++ dktX2_sign_2
def dkwX2_sign_0 : List UInt8 := [42, 27, 182, 0, 80, 61, 28]
abbrev dktX2_sign_0 : List UInt8 := dkwX2_sign_0 ++ dktX2_sign_1
theorem dksX2_sign_0 : cX2_sign.data.toList.drop 0 = dktX2_sign_0 := by decide +kernel
theorem dksX2_sign_1 : cX2_sign.data.toList.drop 7 = dktX2_sign_1 := dk_seg dksX2_sign_0 7 rfl rfl
theorem dksX2_sign_2 : cX2_sign.data.toList.drop 108 = dktX2_sign_2 := dk_seg dksX2_sign_1 101 rfl rfl
theorem dX2_sign_0 : decode cX2_sign 0 = .ok (.aload_n 0, 1) := dk_42 (dk_at dksX2_sign_0 0 rfl rfl)
theorem dX2_sign_1 : decode cX2_sign 1 = .ok (.iload_n 1, 1) := dk_27 (dk_at dksX2_sign_0 1 rfl rfl)
theorem dX2_sign_2 : decode cX2_sign 2 = .ok (.invokevirtual 80, 3) := dk_182 0 80 (dk_at dksX2_sign_0 2 rfl rfl)
theorem dX2_sign_5 : decode cX2_sign 5 = .ok (.istore_n 2, 1) := dk_61 (dk_at dksX2_sign_0 5 rfl rfl)
theorem dX2_sign_6 : decode cX2_sign 6 = .ok (.iload_n 2, 1) := dk_28 (dk_at dksX2_sign_0 6 rfl rfl)
theorem dX2_sign_7 : decode cX2_sign 7 = .ok (.tableswitch 103 40 61 #[101, 101, 101, 101, 103, 101, 103, 101, 103, 103, 103, 103, 103, 103, 103, 103, 103, 103, 103, 101, 101, 101], 101) := by decide +kernel
theorem dX2_sign_108 : decode cX2_sign 108 = .ok (.iload_n 2, 1) := dk_28 (dk_at dksX2_sign_2 0 rfl rfl)
theorem dX2_sign_109 : decode cX2_sign 109 = .ok (.ireturn, 1) := dk_172 (dk_at dksX2_sign_2 1 rfl rfl)
theorem dX2_sign_110 : decode cX2_sign 110 = .ok (.iconst 0, 1) := dk_3 (dk_at dksX2_sign_2 2 rfl rfl)
theorem dX2_sign_111 : decode cX2_sign 111 = .ok (.ireturn, 1) := dk_172 (dk_at dksX2_sign_2 3 rfl rfl)
abbrev cX2_add : ByteArray := prog_17_method_5_code
def yX2_add : MethodName := ⟨RX2, "add", "(IIII)V"⟩
def dkwX2_add_2 : List UInt8 := [180, 0, 84, 4, 96, 181, 0, 84, 177]
abbrev dktX2_add_2 : List UInt8 := dkwX2_add_2 ++ []
def dkwX2_add_1 : List UInt8 := [180, 0, 70, 42, 180, 0, 84, 29, 147, 86, 42, 180, 0, 73, 42, 180, 0, 84, 21, 4, 147, 86, 42, 89]
abbrev dktX2_add_1 : List UInt8 := dkwX2_add_1 ++ dktX2_add_2
def dkwX2_add_0 : List UInt8 := [42, 180, 0, 63, 42, 180, 0, 84, 27, 145, 84, 42, 180, 0, 66, 42, 180, 0, 84, 28, 147, 86, 42]
abbrev dktX2_add_0 : List UInt8 := dkwX2_add_0 ++ dktX2_add_1
theorem dksX2_add_0 : cX2_add.data.toList.drop 0 = dktX2_add_0 := by decide +kernel
theorem dksX2_add_1 : cX2_add.data.toList.drop 23 = dktX2_add_1 := dk_seg dksX2_add_0 23 rfl rfl
theorem dksX2_add_2 : cX2_add.data.toList.drop 47 = dktX2_add_2 := dk_seg dksX2_add_1 24 rfl rfl
theorem dX2_add_0 : decode cX2_add 0 = .ok (.aload_n 0, 1) := dk_42 (dk_at dksX2_add_0 0 rfl rfl)
theorem dX2_add_1 : decode cX2_add 1 = .ok (.getfield 63, 3) := dk_180 0 63 (dk_at dksX2_add_0 1 rfl rfl)
theorem dX2_add_4 : decode cX2_add 4 = .ok (.aload_n 0, 1) := dk_42 (dk_at dksX2_add_0 4 rfl rfl)
theorem dX2_add_5 : decode cX2_add 5 = .ok (.getfield 84, 3) := dk_180 0 84 (dk_at dksX2_add_0 5 rfl rfl)
theorem dX2_add_8 : decode cX2_add 8 = .ok (.iload_n 1, 1) := dk_27 (dk_at dksX2_add_0 8 rfl rfl)
theorem dX2_add_9 : decode cX2_add 9 = .ok (.i2b, 1) := dk_145 (dk_at dksX2_add_0 9 rfl rfl)
theorem dX2_add_10 : decode cX2_add 10 = .ok (.bastore, 1) := dk_84 (dk_at dksX2_add_0 10 rfl rfl)
theorem dX2_add_11 : decode cX2_add 11 = .ok (.aload_n 0, 1) := dk_42 (dk_at dksX2_add_0 11 rfl rfl)
theorem dX2_add_12 : decode cX2_add 12 = .ok (.getfield 66, 3) := dk_180 0 66 (dk_at dksX2_add_0 12 rfl rfl)
theorem dX2_add_15 : decode cX2_add 15 = .ok (.aload_n 0, 1) := dk_42 (dk_at dksX2_add_0 15 rfl rfl)
theorem dX2_add_16 : decode cX2_add 16 = .ok (.getfield 84, 3) := dk_180 0 84 (dk_at dksX2_add_0 16 rfl rfl)
theorem dX2_add_19 : decode cX2_add 19 = .ok (.iload_n 2, 1) := dk_28 (dk_at dksX2_add_0 19 rfl rfl)
theorem dX2_add_20 : decode cX2_add 20 = .ok (.i2s, 1) := dk_147 (dk_at dksX2_add_0 20 rfl rfl)
theorem dX2_add_21 : decode cX2_add 21 = .ok (.sastore, 1) := dk_86 (dk_at dksX2_add_0 21 rfl rfl)
theorem dX2_add_22 : decode cX2_add 22 = .ok (.aload_n 0, 1) := dk_42 (dk_at dksX2_add_0 22 rfl rfl)
theorem dX2_add_23 : decode cX2_add 23 = .ok (.getfield 70, 3) := dk_180 0 70 (dk_at dksX2_add_1 0 rfl rfl)
theorem dX2_add_26 : decode cX2_add 26 = .ok (.aload_n 0, 1) := dk_42 (dk_at dksX2_add_1 3 rfl rfl)
theorem dX2_add_27 : decode cX2_add 27 = .ok (.getfield 84, 3) := dk_180 0 84 (dk_at dksX2_add_1 4 rfl rfl)
theorem dX2_add_30 : decode cX2_add 30 = .ok (.iload_n 3, 1) := dk_29 (dk_at dksX2_add_1 7 rfl rfl)
theorem dX2_add_31 : decode cX2_add 31 = .ok (.i2s, 1) := dk_147 (dk_at dksX2_add_1 8 rfl rfl)
theorem dX2_add_32 : decode cX2_add 32 = .ok (.sastore, 1) := dk_86 (dk_at dksX2_add_1 9 rfl rfl)
theorem dX2_add_33 : decode cX2_add 33 = .ok (.aload_n 0, 1) := dk_42 (dk_at dksX2_add_1 10 rfl rfl)
theorem dX2_add_34 : decode cX2_add 34 = .ok (.getfield 73, 3) := dk_180 0 73 (dk_at dksX2_add_1 11 rfl rfl)
theorem dX2_add_37 : decode cX2_add 37 = .ok (.aload_n 0, 1) := dk_42 (dk_at dksX2_add_1 14 rfl rfl)
theorem dX2_add_38 : decode cX2_add 38 = .ok (.getfield 84, 3) := dk_180 0 84 (dk_at dksX2_add_1 15 rfl rfl)
theorem dX2_add_41 : decode cX2_add 41 = .ok (.iload 4, 2) := dk_21 4 (dk_at dksX2_add_1 18 rfl rfl)
theorem dX2_add_43 : decode cX2_add 43 = .ok (.i2s, 1) := dk_147 (dk_at dksX2_add_1 20 rfl rfl)
theorem dX2_add_44 : decode cX2_add 44 = .ok (.sastore, 1) := dk_86 (dk_at dksX2_add_1 21 rfl rfl)
theorem dX2_add_45 : decode cX2_add 45 = .ok (.aload_n 0, 1) := dk_42 (dk_at dksX2_add_1 22 rfl rfl)
theorem dX2_add_46 : decode cX2_add 46 = .ok (.dup, 1) := dk_89 (dk_at dksX2_add_1 23 rfl rfl)
theorem dX2_add_47 : decode cX2_add 47 = .ok (.getfield 84, 3) := dk_180 0 84 (dk_at dksX2_add_2 0 rfl rfl)
theorem dX2_add_50 : decode cX2_add 50 = .ok (.iconst 1, 1) := dk_4 (dk_at dksX2_add_2 3 rfl rfl)
theorem dX2_add_51 : decode cX2_add 51 = .ok (.iadd, 1) := dk_96 (dk_at dksX2_add_2 4 rfl rfl)
theorem dX2_add_52 : decode cX2_add 52 = .ok (.putfield 84, 3) := dk_181 0 84 (dk_at dksX2_add_2 5 rfl rfl)
theorem dX2_add_55 : decode cX2_add 55 = .ok (.return_, 1) := dk_177 (dk_at dksX2_add_2 8 rfl rfl)
abbrev cX2_number : ByteArray := prog_17_method_10_code
def yX2_number : MethodName := ⟨RX2, "number", "(I)I"⟩
def dkwX2_number_1 : List UInt8 := [180, 0, 59, 29, 51, 96, 16, 48, 100, 61, 132, 3, 1, 167, 255, 228, 28, 172]
abbrev dktX2_number_1 : List UInt8 := dkwX2_number_1 ++ []
def dkwX2_number_0 : List UInt8 := [3, 61, 42, 180, 0, 66, 27, 53, 62, 29, 42, 180, 0, 70, 27, 53, 162, 0, 24, 16, 10, 28, 104, 42]
abbrev dktX2_number_0 : List UInt8 := dkwX2_number_0 ++ dktX2_number_1
theorem dksX2_number_0 : cX2_number.data.toList.drop 0 = dktX2_number_0 := by decide +kernel
theorem dksX2_number_1 : cX2_number.data.toList.drop 24 = dktX2_number_1 := dk_seg dksX2_number_0 24 rfl rfl
theorem dX2_number_0 : decode cX2_number 0 = .ok (.iconst 0, 1) := dk_3 (dk_at dksX2_number_0 0 rfl rfl)
theorem dX2_number_1 : decode cX2_number 1 = .ok (.istore_n 2, 1) := dk_61 (dk_at dksX2_number_0 1 rfl rfl)
theorem dX2_number_2 : decode cX2_number 2 = .ok (.aload_n 0, 1) := dk_42 (dk_at dksX2_number_0 2 rfl rfl)
theorem dX2_number_3 : decode cX2_number 3 = .ok (.getfield 66, 3) := dk_180 0 66 (dk_at dksX2_number_0 3 rfl rfl)
theorem dX2_number_6 : decode cX2_number 6 = .ok (.iload_n 1, 1) := dk_27 (dk_at dksX2_number_0 6 rfl rfl)
theorem dX2_number_7 : decode cX2_number 7 = .ok (.saload, 1) := dk_53 (dk_at dksX2_number_0 7 rfl rfl)
theorem dX2_number_8 : decode cX2_number 8 = .ok (.istore_n 3, 1) := dk_62 (dk_at dksX2_number_0 8 rfl rfl)
theorem dX2_number_9 : decode cX2_number 9 = .ok (.iload_n 3, 1) := dk_29 (dk_at dksX2_number_0 9 rfl rfl)
theorem dX2_number_10 : decode cX2_number 10 = .ok (.aload_n 0, 1) := dk_42 (dk_at dksX2_number_0 10 rfl rfl)
theorem dX2_number_11 : decode cX2_number 11 = .ok (.getfield 70, 3) := dk_180 0 70 (dk_at dksX2_number_0 11 rfl rfl)
theorem dX2_number_14 : decode cX2_number 14 = .ok (.iload_n 1, 1) := dk_27 (dk_at dksX2_number_0 14 rfl rfl)
theorem dX2_number_15 : decode cX2_number 15 = .ok (.saload, 1) := dk_53 (dk_at dksX2_number_0 15 rfl rfl)
theorem dX2_number_16 : decode cX2_number 16 = .ok (.if_icmp .ge 24, 3) := dk_162 0 24 (dk_at dksX2_number_0 16 rfl rfl)
theorem dX2_number_19 : decode cX2_number 19 = .ok (.bipush 10, 2) := dk_16 10 (dk_at dksX2_number_0 19 rfl rfl)
theorem dX2_number_21 : decode cX2_number 21 = .ok (.iload_n 2, 1) := dk_28 (dk_at dksX2_number_0 21 rfl rfl)
theorem dX2_number_22 : decode cX2_number 22 = .ok (.imul, 1) := dk_104 (dk_at dksX2_number_0 22 rfl rfl)
theorem dX2_number_23 : decode cX2_number 23 = .ok (.aload_n 0, 1) := dk_42 (dk_at dksX2_number_0 23 rfl rfl)
theorem dX2_number_24 : decode cX2_number 24 = .ok (.getfield 59, 3) := dk_180 0 59 (dk_at dksX2_number_1 0 rfl rfl)
theorem dX2_number_27 : decode cX2_number 27 = .ok (.iload_n 3, 1) := dk_29 (dk_at dksX2_number_1 3 rfl rfl)
theorem dX2_number_28 : decode cX2_number 28 = .ok (.baload, 1) := dk_51 (dk_at dksX2_number_1 4 rfl rfl)
theorem dX2_number_29 : decode cX2_number 29 = .ok (.iadd, 1) := dk_96 (dk_at dksX2_number_1 5 rfl rfl)
theorem dX2_number_30 : decode cX2_number 30 = .ok (.bipush 48, 2) := dk_16 48 (dk_at dksX2_number_1 6 rfl rfl)
theorem dX2_number_32 : decode cX2_number 32 = .ok (.isub, 1) := dk_100 (dk_at dksX2_number_1 8 rfl rfl)
theorem dX2_number_33 : decode cX2_number 33 = .ok (.istore_n 2, 1) := dk_61 (dk_at dksX2_number_1 9 rfl rfl)
theorem dX2_number_34 : decode cX2_number 34 = .ok (.iinc 3 1, 3) := dk_132 3 1 (dk_at dksX2_number_1 10 rfl rfl)
theorem dX2_number_37 : decode cX2_number 37 = .ok (.goto (-28), 3) := dk_167 255 228 (dk_at dksX2_number_1 13 rfl rfl)
theorem dX2_number_40 : decode cX2_number 40 = .ok (.iload_n 2, 1) := dk_28 (dk_at dksX2_number_1 16 rfl rfl)
theorem dX2_number_41 : decode cX2_number 41 = .ok (.ireturn, 1) := dk_172 (dk_at dksX2_number_1 17 rfl rfl)
abbrev cX2_text : ByteArray := prog_17_method_9_code
def yX2_text : MethodName := ⟨RX2, "text", "(I)Ljava/lang/String;"⟩
def dkwX2_text_2 : List UInt8 := [182, 0, 120, 176]
abbrev dktX2_text_2 : List UInt8 := dkwX2_text_2 ++ []
def dkwX2_text_1 : List UInt8 := [162, 0, 21, 44, 42, 180, 0, 59, 29, 51, 146, 182, 0, 116, 87, 132, 3, 1, 167, 255, 231, 44]
abbrev dktX2_text_1 : List UInt8 := dkwX2_text_1 ++ dktX2_text_2
def dkwX2_text_0 : List UInt8 := [187, 0, 113, 89, 183, 0, 115, 77, 42, 180, 0, 66, 27, 53, 62, 29, 42, 180, 0, 70, 27, 53]
abbrev dktX2_text_0 : List UInt8 := dkwX2_text_0 ++ dktX2_text_1
theorem dksX2_text_0 : cX2_text.data.toList.drop 0 = dktX2_text_0 := by decide +kernel
theorem dksX2_text_1 : cX2_text.data.toList.drop 22 = dktX2_text_1 := dk_seg dksX2_text_0 22 rfl rfl
theorem dksX2_text_2 : cX2_text.data.toList.drop 44 = dktX2_text_2 := dk_seg dksX2_text_1 22 rfl rfl
theorem dX2_text_0 : decode cX2_text 0 = .ok (.new 113, 3) := dk_187 0 113 (dk_at dksX2_text_0 0 rfl rfl)
theorem dX2_text_3 : decode cX2_text 3 = .ok (.dup, 1) := dk_89 (dk_at dksX2_text_0 3 rfl rfl)
theorem dX2_text_4 : decode cX2_text 4 = .ok (.invokespecial 115, 3) := dk_183 0 115 (dk_at dksX2_text_0 4 rfl rfl)
theorem dX2_text_7 : decode cX2_text 7 = .ok (.astore_n 2, 1) := dk_77 (dk_at dksX2_text_0 7 rfl rfl)
theorem dX2_text_8 : decode cX2_text 8 = .ok (.aload_n 0, 1) := dk_42 (dk_at dksX2_text_0 8 rfl rfl)
theorem dX2_text_9 : decode cX2_text 9 = .ok (.getfield 66, 3) := dk_180 0 66 (dk_at dksX2_text_0 9 rfl rfl)
theorem dX2_text_12 : decode cX2_text 12 = .ok (.iload_n 1, 1) := dk_27 (dk_at dksX2_text_0 12 rfl rfl)
theorem dX2_text_13 : decode cX2_text 13 = .ok (.saload, 1) := dk_53 (dk_at dksX2_text_0 13 rfl rfl)
theorem dX2_text_14 : decode cX2_text 14 = .ok (.istore_n 3, 1) := dk_62 (dk_at dksX2_text_0 14 rfl rfl)
theorem dX2_text_15 : decode cX2_text 15 = .ok (.iload_n 3, 1) := dk_29 (dk_at dksX2_text_0 15 rfl rfl)
theorem dX2_text_16 : decode cX2_text 16 = .ok (.aload_n 0, 1) := dk_42 (dk_at dksX2_text_0 16 rfl rfl)
theorem dX2_text_17 : decode cX2_text 17 = .ok (.getfield 70, 3) := dk_180 0 70 (dk_at dksX2_text_0 17 rfl rfl)
theorem dX2_text_20 : decode cX2_text 20 = .ok (.iload_n 1, 1) := dk_27 (dk_at dksX2_text_0 20 rfl rfl)
theorem dX2_text_21 : decode cX2_text 21 = .ok (.saload, 1) := dk_53 (dk_at dksX2_text_0 21 rfl rfl)
theorem dX2_text_22 : decode cX2_text 22 = .ok (.if_icmp .ge 21, 3) := dk_162 0 21 (dk_at dksX2_text_1 0 rfl rfl)
theorem dX2_text_25 : decode cX2_text 25 = .ok (.aload_n 2, 1) := dk_44 (dk_at dksX2_text_1 3 rfl rfl)
theorem dX2_text_26 : decode cX2_text 26 = .ok (.aload_n 0, 1) := dk_42 (dk_at dksX2_text_1 4 rfl rfl)
theorem dX2_text_27 : decode cX2_text 27 = .ok (.getfield 59, 3) := dk_180 0 59 (dk_at dksX2_text_1 5 rfl rfl)
theorem dX2_text_30 : decode cX2_text 30 = .ok (.iload_n 3, 1) := dk_29 (dk_at dksX2_text_1 8 rfl rfl)
theorem dX2_text_31 : decode cX2_text 31 = .ok (.baload, 1) := dk_51 (dk_at dksX2_text_1 9 rfl rfl)
theorem dX2_text_32 : decode cX2_text 32 = .ok (.i2c, 1) := dk_146 (dk_at dksX2_text_1 10 rfl rfl)
theorem dX2_text_33 : decode cX2_text 33 = .ok (.invokevirtual 116, 3) := dk_182 0 116 (dk_at dksX2_text_1 11 rfl rfl)
theorem dX2_text_36 : decode cX2_text 36 = .ok (.pop, 1) := dk_87 (dk_at dksX2_text_1 14 rfl rfl)
theorem dX2_text_37 : decode cX2_text 37 = .ok (.iinc 3 1, 3) := dk_132 3 1 (dk_at dksX2_text_1 15 rfl rfl)
theorem dX2_text_40 : decode cX2_text 40 = .ok (.goto (-25), 3) := dk_167 255 231 (dk_at dksX2_text_1 18 rfl rfl)
theorem dX2_text_43 : decode cX2_text 43 = .ok (.aload_n 2, 1) := dk_44 (dk_at dksX2_text_1 21 rfl rfl)
theorem dX2_text_44 : decode cX2_text 44 = .ok (.invokevirtual 120, 3) := dk_182 0 120 (dk_at dksX2_text_2 0 rfl rfl)
theorem dX2_text_47 : decode cX2_text 47 = .ok (.areturn, 1) := dk_176 (dk_at dksX2_text_2 3 rfl rfl)
theorem q120 : (Jvm.Cond.initialized "KnockerFaces$Tokens") ∈ lw_all := lw_g (lw_at lw_m1 6 rfl) rfl
theorem q236 : (Jvm.Cond.instantiable "KnockerFaces$Tokens" (8 : Nat)) ∈ lw_all := lw_g (lw_at lw_m1 122 rfl) rfl
theorem q238 : (Jvm.Cond.instanceMethod ({ cls := "KnockerFaces$Tokens", name := "<init>", desc := "()V" } : Jvm.MethodName)) ∈ lw_all := lw_g (lw_at lw_m1 124 rfl) rfl
theorem q239 : (Jvm.Cond.code ({ cls := "KnockerFaces$Tokens", name := "<init>", desc := "()V" } : Jvm.MethodName) prog_17_method_1_code (1 : Nat) (Option.none : Option Jvm.ClassFile.FieldType)) ∈ lw_all := lw_g (lw_at lw_m1 125 rfl) rfl
theorem q240 : (Jvm.Cond.methodLink "KnockerFaces$Tokens" (3 : Nat) ({ cls := "java/lang/Object", name := "<init>", desc := "()V" } : Jvm.MethodName)) ∈ lw_all := lw_g (lw_at lw_m1 126 rfl) rfl
theorem q241 : (Jvm.Cond.classLink "KnockerFaces$Tokens" (9 : Nat) "java/lang/String") ∈ lw_all := lw_g (lw_at lw_m1 127 rfl) rfl
theorem q243 : (Jvm.Cond.stringRef "KnockerFaces$Tokens" (11 : Nat) "door") ∈ lw_tbl := lw_at lw_m1 129 rfl
theorem q244 : (Jvm.Cond.stringRef "KnockerFaces$Tokens" (13 : Nat) "caller") ∈ lw_tbl := lw_at lw_m1 130 rfl
theorem q245 : (Jvm.Cond.stringRef "KnockerFaces$Tokens" (15 : Nat) "round") ∈ lw_tbl := lw_at lw_m1 131 rfl
theorem q246 : (Jvm.Cond.stringRef "KnockerFaces$Tokens" (17 : Nat) "gives") ∈ lw_tbl := lw_at lw_m1 132 rfl
theorem q247 : (Jvm.Cond.stringRef "KnockerFaces$Tokens" (19 : Nat) "wears") ∈ lw_tbl := lw_at lw_m1 133 rfl
theorem q248 : (Jvm.Cond.stringRef "KnockerFaces$Tokens" (21 : Nat) "pays") ∈ lw_tbl := lw_at lw_m1 134 rfl
theorem q249 : (Jvm.Cond.stringRef "KnockerFaces$Tokens" (23 : Nat) "wind") ∈ lw_tbl := lw_at lw_m1 135 rfl
theorem q250 : (Jvm.Cond.stringRef "KnockerFaces$Tokens" (25 : Nat) "near") ∈ lw_tbl := lw_at lw_m1 136 rfl
theorem q251 : (Jvm.Cond.stringRef "KnockerFaces$Tokens" (27 : Nat) "seed") ∈ lw_tbl := lw_at lw_m1 137 rfl
theorem q252 : (Jvm.Cond.stringRef "KnockerFaces$Tokens" (29 : Nat) "if") ∈ lw_tbl := lw_at lw_m1 138 rfl
theorem q253 : (Jvm.Cond.stringRef "KnockerFaces$Tokens" (31 : Nat) "then") ∈ lw_tbl := lw_at lw_m1 139 rfl
theorem q254 : (Jvm.Cond.stringRef "KnockerFaces$Tokens" (33 : Nat) "else") ∈ lw_tbl := lw_at lw_m1 140 rfl
theorem q255 : (Jvm.Cond.stringRef "KnockerFaces$Tokens" (35 : Nat) "apart") ∈ lw_tbl := lw_at lw_m1 141 rfl
theorem q256 : (Jvm.Cond.stringRef "KnockerFaces$Tokens" (37 : Nat) "part") ∈ lw_tbl := lw_at lw_m1 142 rfl
theorem q257 : (Jvm.Cond.stringRef "KnockerFaces$Tokens" (39 : Nat) "lifts") ∈ lw_tbl := lw_at lw_m1 143 rfl
theorem q258 : (Jvm.Cond.stringRef "KnockerFaces$Tokens" (41 : Nat) "idle") ∈ lw_tbl := lw_at lw_m1 144 rfl
theorem q259 : (Jvm.Cond.stringRef "KnockerFaces$Tokens" (43 : Nat) "day") ∈ lw_tbl := lw_at lw_m1 145 rfl
theorem q260 : (Jvm.Cond.stringRef "KnockerFaces$Tokens" (45 : Nat) "face") ∈ lw_tbl := lw_at lw_m1 146 rfl
theorem q261 : (Jvm.Cond.stringRef "KnockerFaces$Tokens" (47 : Nat) "unlike") ∈ lw_tbl := lw_at lw_m1 147 rfl
theorem q262 : (Jvm.Cond.stringRef "KnockerFaces$Tokens" (49 : Nat) "which") ∈ lw_tbl := lw_at lw_m1 148 rfl
theorem q263 : (Jvm.Cond.stringRef "KnockerFaces$Tokens" (51 : Nat) "rubbed") ∈ lw_tbl := lw_at lw_m1 149 rfl
theorem q264 : (Jvm.Cond.fieldLink "KnockerFaces$Tokens" (53 : Nat) "KnockerFaces$Tokens" "words" "[Ljava/lang/String;") ∈ lw_all := lw_g (lw_at lw_m1 150 rfl) rfl
theorem q265 : (Jvm.Cond.fieldLink "KnockerFaces$Tokens" (59 : Nat) "KnockerFaces$Tokens" "tape" "[B") ∈ lw_all := lw_g (lw_at lw_m1 151 rfl) rfl
theorem q267 : (Jvm.Cond.fieldLink "KnockerFaces$Tokens" (76 : Nat) "KnockerFaces$Tokens" "taped" "I") ∈ lw_all := lw_g (lw_at lw_m1 153 rfl) rfl
theorem q269 : (Jvm.Cond.fieldLink "KnockerFaces$Tokens" (63 : Nat) "KnockerFaces$Tokens" "sort" "[B") ∈ lw_all := lw_g (lw_at lw_m1 155 rfl) rfl
theorem q271 : (Jvm.Cond.fieldLink "KnockerFaces$Tokens" (66 : Nat) "KnockerFaces$Tokens" "from" "[S") ∈ lw_all := lw_g (lw_at lw_m1 157 rfl) rfl
theorem q273 : (Jvm.Cond.fieldLink "KnockerFaces$Tokens" (70 : Nat) "KnockerFaces$Tokens" "to" "[S") ∈ lw_all := lw_g (lw_at lw_m1 159 rfl) rfl
theorem q274 : (Jvm.Cond.fieldLink "KnockerFaces$Tokens" (73 : Nat) "KnockerFaces$Tokens" "what" "[S") ∈ lw_all := lw_g (lw_at lw_m1 160 rfl) rfl
theorem q276 : (Jvm.Cond.fieldLink "KnockerFaces$Tokens" (84 : Nat) "KnockerFaces$Tokens" "many" "I") ∈ lw_all := lw_g (lw_at lw_m1 162 rfl) rfl
theorem q277 : (Jvm.Cond.laysFinal "KnockerFaces$Tokens" "KnockerFaces$Tokens" "words" "[Ljava/lang/String;") ∈ lw_all := lw_g (lw_at lw_m1 163 rfl) rfl
theorem q278 : (Jvm.Cond.soleField "KnockerFaces$Tokens" "words") ∈ lw_all := lw_g (lw_at lw_m1 164 rfl) rfl
theorem q279 : (Jvm.Cond.laysFinal "KnockerFaces$Tokens" "KnockerFaces$Tokens" "tape" "[B") ∈ lw_all := lw_g (lw_at lw_m1 165 rfl) rfl
theorem q280 : (Jvm.Cond.soleField "KnockerFaces$Tokens" "tape") ∈ lw_all := lw_g (lw_at lw_m1 166 rfl) rfl
theorem q281 : (Jvm.Cond.lays "KnockerFaces$Tokens" "KnockerFaces$Tokens" "taped" "I") ∈ lw_all := lw_g (lw_at lw_m1 167 rfl) rfl
theorem q282 : (Jvm.Cond.soleField "KnockerFaces$Tokens" "taped") ∈ lw_all := lw_g (lw_at lw_m1 168 rfl) rfl
theorem q283 : (Jvm.Cond.laysFinal "KnockerFaces$Tokens" "KnockerFaces$Tokens" "sort" "[B") ∈ lw_all := lw_g (lw_at lw_m1 169 rfl) rfl
theorem q284 : (Jvm.Cond.soleField "KnockerFaces$Tokens" "sort") ∈ lw_all := lw_g (lw_at lw_m1 170 rfl) rfl
theorem q285 : (Jvm.Cond.laysFinal "KnockerFaces$Tokens" "KnockerFaces$Tokens" "from" "[S") ∈ lw_all := lw_g (lw_at lw_m1 171 rfl) rfl
theorem q286 : (Jvm.Cond.soleField "KnockerFaces$Tokens" "from") ∈ lw_all := lw_g (lw_at lw_m1 172 rfl) rfl
theorem q287 : (Jvm.Cond.laysFinal "KnockerFaces$Tokens" "KnockerFaces$Tokens" "to" "[S") ∈ lw_all := lw_g (lw_at lw_m1 173 rfl) rfl
theorem q288 : (Jvm.Cond.soleField "KnockerFaces$Tokens" "to") ∈ lw_all := lw_g (lw_at lw_m1 174 rfl) rfl
theorem q289 : (Jvm.Cond.laysFinal "KnockerFaces$Tokens" "KnockerFaces$Tokens" "what" "[S") ∈ lw_all := lw_g (lw_at lw_m1 175 rfl) rfl
theorem q290 : (Jvm.Cond.soleField "KnockerFaces$Tokens" "what") ∈ lw_all := lw_g (lw_at lw_m1 176 rfl) rfl
theorem q291 : (Jvm.Cond.lays "KnockerFaces$Tokens" "KnockerFaces$Tokens" "many" "I") ∈ lw_all := lw_g (lw_at lw_m1 177 rfl) rfl
theorem q292 : (Jvm.Cond.soleField "KnockerFaces$Tokens" "many") ∈ lw_all := lw_g (lw_at lw_m1 178 rfl) rfl
theorem q293 : (Jvm.Cond.superclass "KnockerFaces$Tokens" "java/lang/Object") ∈ lw_all := lw_g (lw_at lw_m1 179 rfl) rfl
theorem q601 : (Jvm.Cond.instanceMethod ({ cls := "KnockerFaces$Tokens", name := "read", desc := "()V" } : Jvm.MethodName)) ∈ lw_all := lw_g (lw_at lw_m3 7 rfl) rfl
theorem q602 : (Jvm.Cond.selects "KnockerFaces$Tokens" ({ cls := "KnockerFaces$Tokens", name := "read", desc := "()V" } : Jvm.MethodName) ({ cls := "KnockerFaces$Tokens", name := "read", desc := "()V" } : Jvm.MethodName)) ∈ lw_all := lw_g (lw_at lw_m3 8 rfl) rfl
theorem q603 : (Jvm.Cond.code ({ cls := "KnockerFaces$Tokens", name := "read", desc := "()V" } : Jvm.MethodName) prog_17_method_8_code (7 : Nat) (Option.none : Option Jvm.ClassFile.FieldType)) ∈ lw_all := lw_g (lw_at lw_m3 9 rfl) rfl
theorem q604 : (Jvm.Cond.methodLink "KnockerFaces$Tokens" (95 : Nat) ({ cls := "KnockerFaces$Tokens", name := "isLetter", desc := "(I)Z" } : Jvm.MethodName)) ∈ lw_all := lw_g (lw_at lw_m3 10 rfl) rfl
theorem q605 : (Jvm.Cond.privateMethod ({ cls := "KnockerFaces$Tokens", name := "isLetter", desc := "(I)Z" } : Jvm.MethodName)) ∈ lw_tbl := lw_at lw_m3 11 rfl
theorem q606 : (Jvm.Cond.instanceMethod ({ cls := "KnockerFaces$Tokens", name := "isLetter", desc := "(I)Z" } : Jvm.MethodName)) ∈ lw_all := lw_g (lw_at lw_m3 12 rfl) rfl
theorem q607 : (Jvm.Cond.code ({ cls := "KnockerFaces$Tokens", name := "isLetter", desc := "(I)Z" } : Jvm.MethodName) prog_17_method_4_code (2 : Nat) (Option.some Jvm.ClassFile.FieldType.boolean)) ∈ lw_all := lw_g (lw_at lw_m3 13 rfl) rfl
theorem q608 : (Jvm.Cond.methodLink "KnockerFaces$Tokens" (80 : Nat) ({ cls := "KnockerFaces$Tokens", name := "at", desc := "(I)I" } : Jvm.MethodName)) ∈ lw_all := lw_g (lw_at lw_m3 14 rfl) rfl
theorem q609 : (Jvm.Cond.privateMethod ({ cls := "KnockerFaces$Tokens", name := "at", desc := "(I)I" } : Jvm.MethodName)) ∈ lw_tbl := lw_at lw_m3 15 rfl
theorem q610 : (Jvm.Cond.instanceMethod ({ cls := "KnockerFaces$Tokens", name := "at", desc := "(I)I" } : Jvm.MethodName)) ∈ lw_all := lw_g (lw_at lw_m3 16 rfl) rfl
theorem q611 : (Jvm.Cond.code ({ cls := "KnockerFaces$Tokens", name := "at", desc := "(I)I" } : Jvm.MethodName) prog_17_method_2_code (2 : Nat) (Option.some Jvm.ClassFile.FieldType.int)) ∈ lw_all := lw_g (lw_at lw_m3 17 rfl) rfl
theorem q612 : (Jvm.Cond.methodLink "KnockerFaces$Tokens" (99 : Nat) ({ cls := "KnockerFaces$Tokens", name := "word", desc := "(II)I" } : Jvm.MethodName)) ∈ lw_all := lw_g (lw_at lw_m3 18 rfl) rfl
theorem q613 : (Jvm.Cond.privateMethod ({ cls := "KnockerFaces$Tokens", name := "word", desc := "(II)I" } : Jvm.MethodName)) ∈ lw_tbl := lw_at lw_m3 19 rfl
theorem q614 : (Jvm.Cond.instanceMethod ({ cls := "KnockerFaces$Tokens", name := "word", desc := "(II)I" } : Jvm.MethodName)) ∈ lw_all := lw_g (lw_at lw_m3 20 rfl) rfl
theorem q615 : (Jvm.Cond.code ({ cls := "KnockerFaces$Tokens", name := "word", desc := "(II)I" } : Jvm.MethodName) prog_17_method_6_code (6 : Nat) (Option.some Jvm.ClassFile.FieldType.int)) ∈ lw_all := lw_g (lw_at lw_m3 21 rfl) rfl
theorem q616 : (Jvm.Cond.methodLink "KnockerFaces$Tokens" (87 : Nat) ({ cls := "java/lang/String", name := "length", desc := "()I" } : Jvm.MethodName)) ∈ lw_all := lw_g (lw_at lw_m3 22 rfl) rfl
theorem q626 : (Jvm.Cond.methodLink "KnockerFaces$Tokens" (91 : Nat) ({ cls := "java/lang/String", name := "charAt", desc := "(I)C" } : Jvm.MethodName)) ∈ lw_all := lw_g (lw_at lw_m3 32 rfl) rfl
theorem q662 : (Jvm.Cond.methodLink "KnockerFaces$Tokens" (103 : Nat) ({ cls := "KnockerFaces$Tokens", name := "isDigit", desc := "(I)Z" } : Jvm.MethodName)) ∈ lw_all := lw_g (lw_at lw_m3 68 rfl) rfl
theorem q663 : (Jvm.Cond.privateMethod ({ cls := "KnockerFaces$Tokens", name := "isDigit", desc := "(I)Z" } : Jvm.MethodName)) ∈ lw_tbl := lw_at lw_m3 69 rfl
theorem q664 : (Jvm.Cond.instanceMethod ({ cls := "KnockerFaces$Tokens", name := "isDigit", desc := "(I)Z" } : Jvm.MethodName)) ∈ lw_all := lw_g (lw_at lw_m3 70 rfl) rfl
theorem q665 : (Jvm.Cond.code ({ cls := "KnockerFaces$Tokens", name := "isDigit", desc := "(I)Z" } : Jvm.MethodName) prog_17_method_3_code (2 : Nat) (Option.some Jvm.ClassFile.FieldType.boolean)) ∈ lw_all := lw_g (lw_at lw_m3 71 rfl) rfl
theorem q666 : (Jvm.Cond.methodLink "KnockerFaces$Tokens" (106 : Nat) ({ cls := "KnockerFaces$Tokens", name := "sign", desc := "(I)I" } : Jvm.MethodName)) ∈ lw_all := lw_g (lw_at lw_m3 72 rfl) rfl
theorem q667 : (Jvm.Cond.privateMethod ({ cls := "KnockerFaces$Tokens", name := "sign", desc := "(I)I" } : Jvm.MethodName)) ∈ lw_tbl := lw_at lw_m3 73 rfl
theorem q668 : (Jvm.Cond.instanceMethod ({ cls := "KnockerFaces$Tokens", name := "sign", desc := "(I)I" } : Jvm.MethodName)) ∈ lw_all := lw_g (lw_at lw_m3 74 rfl) rfl
theorem q669 : (Jvm.Cond.code ({ cls := "KnockerFaces$Tokens", name := "sign", desc := "(I)I" } : Jvm.MethodName) prog_17_method_7_code (3 : Nat) (Option.some Jvm.ClassFile.FieldType.int)) ∈ lw_all := lw_g (lw_at lw_m3 75 rfl) rfl
theorem q670 : (Jvm.Cond.methodLink "KnockerFaces$Tokens" (109 : Nat) ({ cls := "KnockerFaces$Tokens", name := "add", desc := "(IIII)V" } : Jvm.MethodName)) ∈ lw_all := lw_g (lw_at lw_m3 76 rfl) rfl
theorem q671 : (Jvm.Cond.privateMethod ({ cls := "KnockerFaces$Tokens", name := "add", desc := "(IIII)V" } : Jvm.MethodName)) ∈ lw_tbl := lw_at lw_m3 77 rfl
theorem q672 : (Jvm.Cond.instanceMethod ({ cls := "KnockerFaces$Tokens", name := "add", desc := "(IIII)V" } : Jvm.MethodName)) ∈ lw_all := lw_g (lw_at lw_m3 78 rfl) rfl
theorem q673 : (Jvm.Cond.code ({ cls := "KnockerFaces$Tokens", name := "add", desc := "(IIII)V" } : Jvm.MethodName) prog_17_method_5_code (5 : Nat) (Option.none : Option Jvm.ClassFile.FieldType)) ∈ lw_all := lw_g (lw_at lw_m3 79 rfl) rfl
theorem q760 : (Jvm.Cond.instanceMethod ({ cls := "KnockerFaces$Tokens", name := "number", desc := "(I)I" } : Jvm.MethodName)) ∈ lw_all := lw_g (lw_at lw_m3 166 rfl) rfl
theorem q761 : (Jvm.Cond.selects "KnockerFaces$Tokens" ({ cls := "KnockerFaces$Tokens", name := "number", desc := "(I)I" } : Jvm.MethodName) ({ cls := "KnockerFaces$Tokens", name := "number", desc := "(I)I" } : Jvm.MethodName)) ∈ lw_all := lw_g (lw_at lw_m3 167 rfl) rfl
theorem q762 : (Jvm.Cond.code ({ cls := "KnockerFaces$Tokens", name := "number", desc := "(I)I" } : Jvm.MethodName) prog_17_method_10_code (4 : Nat) (Option.some Jvm.ClassFile.FieldType.int)) ∈ lw_all := lw_g (lw_at lw_m3 168 rfl) rfl
theorem q816 : (Jvm.Cond.instanceMethod ({ cls := "KnockerFaces$Tokens", name := "text", desc := "(I)Ljava/lang/String;" } : Jvm.MethodName)) ∈ lw_all := lw_g (lw_at lw_m3 222 rfl) rfl
theorem q817 : (Jvm.Cond.selects "KnockerFaces$Tokens" ({ cls := "KnockerFaces$Tokens", name := "text", desc := "(I)Ljava/lang/String;" } : Jvm.MethodName) ({ cls := "KnockerFaces$Tokens", name := "text", desc := "(I)Ljava/lang/String;" } : Jvm.MethodName)) ∈ lw_all := lw_g (lw_at lw_m3 223 rfl) rfl
theorem q818 : (Jvm.Cond.code ({ cls := "KnockerFaces$Tokens", name := "text", desc := "(I)Ljava/lang/String;" } : Jvm.MethodName) prog_17_method_9_code (4 : Nat) (Option.some (Jvm.ClassFile.FieldType.object "java/lang/String"))) ∈ lw_all := lw_g (lw_at lw_m3 224 rfl) rfl
theorem q819 : (Jvm.Cond.classLink "KnockerFaces$Tokens" (113 : Nat) "java/lang/StringBuilder") ∈ lw_all := lw_g (lw_at lw_m3 225 rfl) rfl
theorem q821 : (Jvm.Cond.methodLink "KnockerFaces$Tokens" (115 : Nat) ({ cls := "java/lang/StringBuilder", name := "<init>", desc := "()V" } : Jvm.MethodName)) ∈ lw_all := lw_g (lw_at lw_m3 227 rfl) rfl
theorem q849 : (Jvm.Cond.methodLink "KnockerFaces$Tokens" (116 : Nat) ({ cls := "java/lang/StringBuilder", name := "append", desc := "(C)Ljava/lang/StringBuilder;" } : Jvm.MethodName)) ∈ lw_all := lw_g (lw_at lw_m4 15 rfl) rfl
theorem q924 : (Jvm.Cond.methodLink "KnockerFaces$Tokens" (120 : Nat) ({ cls := "java/lang/StringBuilder", name := "toString", desc := "()Ljava/lang/String;" } : Jvm.MethodName)) ∈ lw_all := lw_g (lw_at lw_m4 90 rfl) rfl
theorem q1069 : (Jvm.Cond.selects "KnockerFaces$Tokens" ({ cls := "java/lang/Object", name := "getClass", desc := "()Ljava/lang/Class;" } : Jvm.MethodName) ({ cls := "java/lang/Object", name := "getClass", desc := "()Ljava/lang/Class;" } : Jvm.MethodName)) ∈ lw_all := lw_g (lw_at lw_m4 235 rfl) rfl
theorem q2174 : (Jvm.Cond.castable "KnockerFaces$Tokens" "java/lang/Object") ∈ lw_tbl := lw_at lw_m9 140 rfl
theorem in_X2 : ∀ w ∈ wsX20, w ∈ lw_all := lw_in wsX20 [277, 279, 281, 283, 285, 287, 289, 291] (by decide +kernel) (by decide +kernel)
/-! KnockerFaces$Parser -/
set_option maxRecDepth 100000
def RX3 : String := "KnockerFaces$Parser"
def TX3 : u_T := fun k => match k with
  | 0 => ("KnockerFaces$Parser", "t", "LKnockerFaces$Tokens;", true)
  | 1 => ("KnockerFaces$Parser", "fault", "LKnockerFaces$Fault;", true)
  | 2 => ("KnockerFaces$Parser", "text", "LKnockerFaces$Text;", false)
  | 3 => ("KnockerFaces$Parser", "at", "I", false)
  | 4 => ("KnockerFaces$Parser", "open", "I", false)
  | 5 => ("KnockerFaces$Parser", "worst", "I", false)
  | _ => ("KnockerFaces$Parser", "worstToken", "I", false)
def tyX3 : Nat → FieldType := fun k => match k with
  | 0 => .object "KnockerFaces$Tokens"
  | 1 => .object "KnockerFaces$Fault"
  | 2 => .object "KnockerFaces$Text"
  | 3 => .int
  | 4 => .int
  | 5 => .int
  | _ => .int
abbrev wsX30 : List Cond := u_ws RX3 TX3 7
theorem nmX3 : ∀ a, a < 7 → ∀ b, b < 7 → a ≠ b → (TX3 a).2.1 ≠ (TX3 b).2.1 := by decide +kernel
theorem tyX3_ok : ∀ k, k < 7 → parseFieldDescriptor (TX3 k).2.2.1 = some (tyX3 k) := by decide +kernel
abbrev cX3_init : ByteArray := prog_11_method_1_code
def yX3_init : MethodName := ⟨RX3, "<init>", "(LKnockerFaces$Tokens;LKnockerFaces$Fault;)V"⟩
def dkwX3_init_0 : List UInt8 := [42, 183, 0, 3, 42, 43, 181, 0, 9, 42, 44, 181, 0, 15, 177]
abbrev dktX3_init_0 : List UInt8 := dkwX3_init_0 ++ []
theorem dksX3_init_0 : cX3_init.data.toList.drop 0 = dktX3_init_0 := by decide +kernel
theorem dX3_init_0 : decode cX3_init 0 = .ok (.aload_n 0, 1) := dk_42 (dk_at dksX3_init_0 0 rfl rfl)
theorem dX3_init_1 : decode cX3_init 1 = .ok (.invokespecial 3, 3) := dk_183 0 3 (dk_at dksX3_init_0 1 rfl rfl)
theorem dX3_init_4 : decode cX3_init 4 = .ok (.aload_n 0, 1) := dk_42 (dk_at dksX3_init_0 4 rfl rfl)
theorem dX3_init_5 : decode cX3_init 5 = .ok (.aload_n 1, 1) := dk_43 (dk_at dksX3_init_0 5 rfl rfl)
theorem dX3_init_6 : decode cX3_init 6 = .ok (.putfield 9, 3) := dk_181 0 9 (dk_at dksX3_init_0 6 rfl rfl)
theorem dX3_init_9 : decode cX3_init 9 = .ok (.aload_n 0, 1) := dk_42 (dk_at dksX3_init_0 9 rfl rfl)
theorem dX3_init_10 : decode cX3_init 10 = .ok (.aload_n 2, 1) := dk_44 (dk_at dksX3_init_0 10 rfl rfl)
theorem dX3_init_11 : decode cX3_init 11 = .ok (.putfield 15, 3) := dk_181 0 15 (dk_at dksX3_init_0 11 rfl rfl)
theorem dX3_init_14 : decode cX3_init 14 = .ok (.return_, 1) := dk_177 (dk_at dksX3_init_0 14 rfl rfl)
abbrev cX3_read : ByteArray := prog_11_method_16_code
def yX3_read : MethodName := ⟨RX3, "read", "()LKnockerFaces$Text;"⟩
def dkwX3_read_3 : List UInt8 := [182, 0, 35, 191, 42, 180, 0, 83, 176]
abbrev dktX3_read_3 : List UInt8 := dkwX3_read_3 ++ []
def dkwX3_read_2 : List UInt8 := [182, 0, 105, 167, 255, 238, 42, 180, 0, 38, 153, 0, 16, 42, 42, 180, 0, 38, 42, 180, 0, 41]
abbrev dktX3_read_2 : List UInt8 := dkwX3_read_2 ++ dktX3_read_3
def dkwX3_read_1 : List UInt8 := [3, 181, 0, 99, 42, 3, 181, 0, 38, 42, 182, 0, 65, 7, 159, 0, 16, 42, 182, 0, 102, 42, 16, 59]
abbrev dktX3_read_1 : List UInt8 := dkwX3_read_1 ++ dktX3_read_2
def dkwX3_read_0 : List UInt8 := [42, 180, 0, 9, 182, 0, 95, 42, 187, 0, 87, 89, 183, 0, 98, 181, 0, 83, 42, 3, 181, 0, 31, 42]
abbrev dktX3_read_0 : List UInt8 := dkwX3_read_0 ++ dktX3_read_1
theorem dksX3_read_0 : cX3_read.data.toList.drop 0 = dktX3_read_0 := by decide +kernel
theorem dksX3_read_1 : cX3_read.data.toList.drop 24 = dktX3_read_1 := dk_seg dksX3_read_0 24 rfl rfl
theorem dksX3_read_2 : cX3_read.data.toList.drop 48 = dktX3_read_2 := dk_seg dksX3_read_1 24 rfl rfl
theorem dksX3_read_3 : cX3_read.data.toList.drop 70 = dktX3_read_3 := dk_seg dksX3_read_2 22 rfl rfl
theorem dX3_read_0 : decode cX3_read 0 = .ok (.aload_n 0, 1) := dk_42 (dk_at dksX3_read_0 0 rfl rfl)
theorem dX3_read_1 : decode cX3_read 1 = .ok (.getfield 9, 3) := dk_180 0 9 (dk_at dksX3_read_0 1 rfl rfl)
theorem dX3_read_4 : decode cX3_read 4 = .ok (.invokevirtual 95, 3) := dk_182 0 95 (dk_at dksX3_read_0 4 rfl rfl)
theorem dX3_read_7 : decode cX3_read 7 = .ok (.aload_n 0, 1) := dk_42 (dk_at dksX3_read_0 7 rfl rfl)
theorem dX3_read_8 : decode cX3_read 8 = .ok (.new 87, 3) := dk_187 0 87 (dk_at dksX3_read_0 8 rfl rfl)
theorem dX3_read_11 : decode cX3_read 11 = .ok (.dup, 1) := dk_89 (dk_at dksX3_read_0 11 rfl rfl)
theorem dX3_read_12 : decode cX3_read 12 = .ok (.invokespecial 98, 3) := dk_183 0 98 (dk_at dksX3_read_0 12 rfl rfl)
theorem dX3_read_15 : decode cX3_read 15 = .ok (.putfield 83, 3) := dk_181 0 83 (dk_at dksX3_read_0 15 rfl rfl)
theorem dX3_read_18 : decode cX3_read 18 = .ok (.aload_n 0, 1) := dk_42 (dk_at dksX3_read_0 18 rfl rfl)
theorem dX3_read_19 : decode cX3_read 19 = .ok (.iconst 0, 1) := dk_3 (dk_at dksX3_read_0 19 rfl rfl)
theorem dX3_read_20 : decode cX3_read 20 = .ok (.putfield 31, 3) := dk_181 0 31 (dk_at dksX3_read_0 20 rfl rfl)
theorem dX3_read_23 : decode cX3_read 23 = .ok (.aload_n 0, 1) := dk_42 (dk_at dksX3_read_0 23 rfl rfl)
theorem dX3_read_24 : decode cX3_read 24 = .ok (.iconst 0, 1) := dk_3 (dk_at dksX3_read_1 0 rfl rfl)
theorem dX3_read_25 : decode cX3_read 25 = .ok (.putfield 99, 3) := dk_181 0 99 (dk_at dksX3_read_1 1 rfl rfl)
theorem dX3_read_28 : decode cX3_read 28 = .ok (.aload_n 0, 1) := dk_42 (dk_at dksX3_read_1 4 rfl rfl)
theorem dX3_read_29 : decode cX3_read 29 = .ok (.iconst 0, 1) := dk_3 (dk_at dksX3_read_1 5 rfl rfl)
theorem dX3_read_30 : decode cX3_read 30 = .ok (.putfield 38, 3) := dk_181 0 38 (dk_at dksX3_read_1 6 rfl rfl)
theorem dX3_read_33 : decode cX3_read 33 = .ok (.aload_n 0, 1) := dk_42 (dk_at dksX3_read_1 9 rfl rfl)
theorem dX3_read_34 : decode cX3_read 34 = .ok (.invokevirtual 65, 3) := dk_182 0 65 (dk_at dksX3_read_1 10 rfl rfl)
theorem dX3_read_37 : decode cX3_read 37 = .ok (.iconst 4, 1) := dk_7 (dk_at dksX3_read_1 13 rfl rfl)
theorem dX3_read_38 : decode cX3_read 38 = .ok (.if_icmp .eq 16, 3) := dk_159 0 16 (dk_at dksX3_read_1 14 rfl rfl)
theorem dX3_read_41 : decode cX3_read 41 = .ok (.aload_n 0, 1) := dk_42 (dk_at dksX3_read_1 17 rfl rfl)
theorem dX3_read_42 : decode cX3_read 42 = .ok (.invokevirtual 102, 3) := dk_182 0 102 (dk_at dksX3_read_1 18 rfl rfl)
theorem dX3_read_45 : decode cX3_read 45 = .ok (.aload_n 0, 1) := dk_42 (dk_at dksX3_read_1 21 rfl rfl)
theorem dX3_read_46 : decode cX3_read 46 = .ok (.bipush 59, 2) := dk_16 59 (dk_at dksX3_read_1 22 rfl rfl)
theorem dX3_read_48 : decode cX3_read 48 = .ok (.invokevirtual 105, 3) := dk_182 0 105 (dk_at dksX3_read_2 0 rfl rfl)
theorem dX3_read_51 : decode cX3_read 51 = .ok (.goto (-18), 3) := dk_167 255 238 (dk_at dksX3_read_2 3 rfl rfl)
theorem dX3_read_54 : decode cX3_read 54 = .ok (.aload_n 0, 1) := dk_42 (dk_at dksX3_read_2 6 rfl rfl)
theorem dX3_read_55 : decode cX3_read 55 = .ok (.getfield 38, 3) := dk_180 0 38 (dk_at dksX3_read_2 7 rfl rfl)
theorem dX3_read_58 : decode cX3_read 58 = .ok (.ifCond .eq 16, 3) := dk_153 0 16 (dk_at dksX3_read_2 10 rfl rfl)
theorem dX3_read_61 : decode cX3_read 61 = .ok (.aload_n 0, 1) := dk_42 (dk_at dksX3_read_2 13 rfl rfl)
theorem dX3_read_62 : decode cX3_read 62 = .ok (.aload_n 0, 1) := dk_42 (dk_at dksX3_read_2 14 rfl rfl)
theorem dX3_read_63 : decode cX3_read 63 = .ok (.getfield 38, 3) := dk_180 0 38 (dk_at dksX3_read_2 15 rfl rfl)
theorem dX3_read_66 : decode cX3_read 66 = .ok (.aload_n 0, 1) := dk_42 (dk_at dksX3_read_2 18 rfl rfl)
theorem dX3_read_67 : decode cX3_read 67 = .ok (.getfield 41, 3) := dk_180 0 41 (dk_at dksX3_read_2 19 rfl rfl)
theorem dX3_read_70 : decode cX3_read 70 = .ok (.invokevirtual 35, 3) := dk_182 0 35 (dk_at dksX3_read_3 0 rfl rfl)
theorem dX3_read_73 : decode cX3_read 73 = .ok (.athrow, 1) := dk_191 (dk_at dksX3_read_3 3 rfl rfl)
theorem dX3_read_74 : decode cX3_read 74 = .ok (.aload_n 0, 1) := dk_42 (dk_at dksX3_read_3 4 rfl rfl)
theorem dX3_read_75 : decode cX3_read 75 = .ok (.getfield 83, 3) := dk_180 0 83 (dk_at dksX3_read_3 5 rfl rfl)
theorem dX3_read_78 : decode cX3_read 78 = .ok (.areturn, 1) := dk_176 (dk_at dksX3_read_3 8 rfl rfl)
abbrev cX3_sort : ByteArray := prog_11_method_5_code
def yX3_sort : MethodName := ⟨RX3, "sort", "()I"⟩
def dkwX3_sort_1 : List UInt8 := [180, 0, 9, 180, 0, 44, 42, 180, 0, 31, 51, 172]
abbrev dktX3_sort_1 : List UInt8 := dkwX3_sort_1 ++ []
def dkwX3_sort_0 : List UInt8 := [42, 180, 0, 9, 180, 0, 44, 42, 180, 0, 31, 51, 8, 160, 0, 9, 42, 4, 182, 0, 48, 191, 42]
abbrev dktX3_sort_0 : List UInt8 := dkwX3_sort_0 ++ dktX3_sort_1
theorem dksX3_sort_0 : cX3_sort.data.toList.drop 0 = dktX3_sort_0 := by decide +kernel
theorem dksX3_sort_1 : cX3_sort.data.toList.drop 23 = dktX3_sort_1 := dk_seg dksX3_sort_0 23 rfl rfl
theorem dX3_sort_0 : decode cX3_sort 0 = .ok (.aload_n 0, 1) := dk_42 (dk_at dksX3_sort_0 0 rfl rfl)
theorem dX3_sort_1 : decode cX3_sort 1 = .ok (.getfield 9, 3) := dk_180 0 9 (dk_at dksX3_sort_0 1 rfl rfl)
theorem dX3_sort_4 : decode cX3_sort 4 = .ok (.getfield 44, 3) := dk_180 0 44 (dk_at dksX3_sort_0 4 rfl rfl)
theorem dX3_sort_7 : decode cX3_sort 7 = .ok (.aload_n 0, 1) := dk_42 (dk_at dksX3_sort_0 7 rfl rfl)
theorem dX3_sort_8 : decode cX3_sort 8 = .ok (.getfield 31, 3) := dk_180 0 31 (dk_at dksX3_sort_0 8 rfl rfl)
theorem dX3_sort_11 : decode cX3_sort 11 = .ok (.baload, 1) := dk_51 (dk_at dksX3_sort_0 11 rfl rfl)
theorem dX3_sort_12 : decode cX3_sort 12 = .ok (.iconst 5, 1) := dk_8 (dk_at dksX3_sort_0 12 rfl rfl)
theorem dX3_sort_13 : decode cX3_sort 13 = .ok (.if_icmp .ne 9, 3) := dk_160 0 9 (dk_at dksX3_sort_0 13 rfl rfl)
theorem dX3_sort_16 : decode cX3_sort 16 = .ok (.aload_n 0, 1) := dk_42 (dk_at dksX3_sort_0 16 rfl rfl)
theorem dX3_sort_17 : decode cX3_sort 17 = .ok (.iconst 1, 1) := dk_4 (dk_at dksX3_sort_0 17 rfl rfl)
theorem dX3_sort_18 : decode cX3_sort 18 = .ok (.invokevirtual 48, 3) := dk_182 0 48 (dk_at dksX3_sort_0 18 rfl rfl)
theorem dX3_sort_21 : decode cX3_sort 21 = .ok (.athrow, 1) := dk_191 (dk_at dksX3_sort_0 21 rfl rfl)
theorem dX3_sort_22 : decode cX3_sort 22 = .ok (.aload_n 0, 1) := dk_42 (dk_at dksX3_sort_0 22 rfl rfl)
theorem dX3_sort_23 : decode cX3_sort 23 = .ok (.getfield 9, 3) := dk_180 0 9 (dk_at dksX3_sort_1 0 rfl rfl)
theorem dX3_sort_26 : decode cX3_sort 26 = .ok (.getfield 44, 3) := dk_180 0 44 (dk_at dksX3_sort_1 3 rfl rfl)
theorem dX3_sort_29 : decode cX3_sort 29 = .ok (.aload_n 0, 1) := dk_42 (dk_at dksX3_sort_1 6 rfl rfl)
theorem dX3_sort_30 : decode cX3_sort 30 = .ok (.getfield 31, 3) := dk_180 0 31 (dk_at dksX3_sort_1 7 rfl rfl)
theorem dX3_sort_33 : decode cX3_sort 33 = .ok (.baload, 1) := dk_51 (dk_at dksX3_sort_1 10 rfl rfl)
theorem dX3_sort_34 : decode cX3_sort 34 = .ok (.ireturn, 1) := dk_172 (dk_at dksX3_sort_1 11 rfl rfl)
abbrev cX3_wrong : ByteArray := prog_11_method_3_code
def yX3_wrong : MethodName := ⟨RX3, "wrong", "(I)LKnockerFaces$Fault;"⟩
def dkwX3_wrong_0 : List UInt8 := [42, 27, 42, 180, 0, 31, 182, 0, 35, 176]
abbrev dktX3_wrong_0 : List UInt8 := dkwX3_wrong_0 ++ []
theorem dksX3_wrong_0 : cX3_wrong.data.toList.drop 0 = dktX3_wrong_0 := by decide +kernel
theorem dX3_wrong_0 : decode cX3_wrong 0 = .ok (.aload_n 0, 1) := dk_42 (dk_at dksX3_wrong_0 0 rfl rfl)
theorem dX3_wrong_1 : decode cX3_wrong 1 = .ok (.iload_n 1, 1) := dk_27 (dk_at dksX3_wrong_0 1 rfl rfl)
theorem dX3_wrong_2 : decode cX3_wrong 2 = .ok (.aload_n 0, 1) := dk_42 (dk_at dksX3_wrong_0 2 rfl rfl)
theorem dX3_wrong_3 : decode cX3_wrong 3 = .ok (.getfield 31, 3) := dk_180 0 31 (dk_at dksX3_wrong_0 3 rfl rfl)
theorem dX3_wrong_6 : decode cX3_wrong 6 = .ok (.invokevirtual 35, 3) := dk_182 0 35 (dk_at dksX3_wrong_0 6 rfl rfl)
theorem dX3_wrong_9 : decode cX3_wrong 9 = .ok (.areturn, 1) := dk_176 (dk_at dksX3_wrong_0 9 rfl rfl)
abbrev cX3_wrongAt : ByteArray := prog_11_method_2_code
def yX3_wrongAt : MethodName := ⟨RX3, "wrongAt", "(II)LKnockerFaces$Fault;"⟩
def dkwX3_wrongAt_0 : List UInt8 := [42, 180, 0, 15, 27, 42, 180, 0, 9, 180, 0, 19, 28, 53, 182, 0, 25, 176]
abbrev dktX3_wrongAt_0 : List UInt8 := dkwX3_wrongAt_0 ++ []
theorem dksX3_wrongAt_0 : cX3_wrongAt.data.toList.drop 0 = dktX3_wrongAt_0 := by decide +kernel
theorem dX3_wrongAt_0 : decode cX3_wrongAt 0 = .ok (.aload_n 0, 1) := dk_42 (dk_at dksX3_wrongAt_0 0 rfl rfl)
theorem dX3_wrongAt_1 : decode cX3_wrongAt 1 = .ok (.getfield 15, 3) := dk_180 0 15 (dk_at dksX3_wrongAt_0 1 rfl rfl)
theorem dX3_wrongAt_4 : decode cX3_wrongAt 4 = .ok (.iload_n 1, 1) := dk_27 (dk_at dksX3_wrongAt_0 4 rfl rfl)
theorem dX3_wrongAt_5 : decode cX3_wrongAt 5 = .ok (.aload_n 0, 1) := dk_42 (dk_at dksX3_wrongAt_0 5 rfl rfl)
theorem dX3_wrongAt_6 : decode cX3_wrongAt 6 = .ok (.getfield 9, 3) := dk_180 0 9 (dk_at dksX3_wrongAt_0 6 rfl rfl)
theorem dX3_wrongAt_9 : decode cX3_wrongAt 9 = .ok (.getfield 19, 3) := dk_180 0 19 (dk_at dksX3_wrongAt_0 9 rfl rfl)
theorem dX3_wrongAt_12 : decode cX3_wrongAt 12 = .ok (.iload_n 2, 1) := dk_28 (dk_at dksX3_wrongAt_0 12 rfl rfl)
theorem dX3_wrongAt_13 : decode cX3_wrongAt 13 = .ok (.saload, 1) := dk_53 (dk_at dksX3_wrongAt_0 13 rfl rfl)
theorem dX3_wrongAt_14 : decode cX3_wrongAt 14 = .ok (.invokevirtual 25, 3) := dk_182 0 25 (dk_at dksX3_wrongAt_0 14 rfl rfl)
theorem dX3_wrongAt_17 : decode cX3_wrongAt 17 = .ok (.areturn, 1) := dk_176 (dk_at dksX3_wrongAt_0 17 rfl rfl)
abbrev cX3_told : ByteArray := prog_11_method_17_code
def yX3_told : MethodName := ⟨RX3, "told", "()V"⟩
def dkwX3_told_14 : List UInt8 := [180, 0, 83, 42, 3, 17, 39, 15, 182, 0, 168, 181, 0, 182, 167, 0, 9, 42, 4, 182, 0, 48, 191, 177]
abbrev dktX3_told_14 : List UInt8 := dkwX3_told_14 ++ []
def dkwX3_told_13 : List UInt8 := [42, 180, 0, 83, 42, 3, 17, 1, 140, 182, 0, 168, 181, 0, 179, 167, 0, 31, 42, 182, 0, 59, 42]
abbrev dktX3_told_13 : List UInt8 := dkwX3_told_13 ++ dktX3_told_14
def dkwX3_told_12 : List UInt8 := [182, 0, 59, 42, 180, 0, 83, 42, 3, 16, 100, 182, 0, 168, 181, 0, 176, 167, 0, 53, 42, 182, 0, 59]
abbrev dktX3_told_12 : List UInt8 := dkwX3_told_12 ++ dktX3_told_13
def dkwX3_told_11 : List UInt8 := [182, 0, 168, 181, 0, 174, 42, 180, 0, 83, 180, 0, 152, 44, 182, 0, 142, 87, 167, 0, 74, 42]
abbrev dktX3_told_11 : List UInt8 := dkwX3_told_11 ++ dktX3_told_12
def dkwX3_told_10 : List UInt8 := [182, 0, 158, 181, 0, 165, 44, 42, 4, 16, 30, 182, 0, 168, 181, 0, 171, 44, 42, 3, 16, 29]
abbrev dktX3_told_10 : List UInt8 := dkwX3_told_10 ++ dktX3_told_11
def dkwX3_told_9 : List UInt8 := [44, 42, 42, 180, 0, 83, 180, 0, 146, 182, 0, 158, 181, 0, 162, 44, 42, 42, 180, 0, 83, 180, 0, 117]
abbrev dktX3_told_9 : List UInt8 := dkwX3_told_9 ++ dktX3_told_10
def dkwX3_told_8 : List UInt8 := [42, 42, 180, 0, 83, 180, 0, 152, 182, 0, 121, 16, 10, 182, 0, 126, 187, 0, 155, 89, 183, 0, 157, 77]
abbrev dktX3_told_8 : List UInt8 := dkwX3_told_8 ++ dktX3_told_9
def dkwX3_told_7 : List UInt8 := [183, 0, 151, 77, 42, 44, 182, 0, 138, 42, 180, 0, 83, 180, 0, 146, 44, 182, 0, 142, 87, 167, 0, 165]
abbrev dktX3_told_7 : List UInt8 := dkwX3_told_7 ++ dktX3_told_8
def dkwX3_told_6 : List UInt8 := [42, 42, 180, 0, 83, 180, 0, 146, 182, 0, 121, 8, 182, 0, 126, 187, 0, 149, 89, 42, 182, 0, 131]
abbrev dktX3_told_6 : List UInt8 := dkwX3_told_6 ++ dktX3_told_7
def dkwX3_told_5 : List UInt8 := [183, 0, 135, 77, 42, 44, 182, 0, 138, 42, 180, 0, 83, 180, 0, 117, 44, 182, 0, 142, 87, 167, 0, 212]
abbrev dktX3_told_5 : List UInt8 := dkwX3_told_5 ++ dktX3_told_6
def dkwX3_told_4 : List UInt8 := [42, 42, 180, 0, 83, 180, 0, 117, 182, 0, 121, 16, 6, 182, 0, 126, 187, 0, 129, 89, 42, 182, 0, 131]
abbrev dktX3_told_4 : List UInt8 := dkwX3_told_4 ++ dktX3_told_5
def dkwX3_told_3 : List UInt8 := [170, 0, 0, 0, 0, 0, 1, 47, 0, 0, 0, 0, 0, 0, 0, 8, 0, 0, 0, 52, 0, 0, 0, 100, 0, 0, 0, 147, 0, 0, 1, 47, 0, 0, 1, 47, 0, 0, 1, 47, 0, 0, 0, 238, 0, 0, 1, 3, 0, 0, 1, 25]
abbrev dktX3_told_3 : List UInt8 := dkwX3_told_3 ++ dktX3_told_4
def dkwX3_told_2 : List UInt8 := [100, 42, 182, 0, 113, 83, 177, 27]
abbrev dktX3_told_2 : List UInt8 := dkwX3_told_2 ++ dktX3_told_3
def dkwX3_told_1 : List UInt8 := [60, 27, 6, 161, 0, 28, 27, 8, 163, 0, 23, 42, 182, 0, 59, 42, 180, 0, 83, 180, 0, 109, 27, 6]
abbrev dktX3_told_1 : List UInt8 := dkwX3_told_1 ++ dktX3_told_2
def dkwX3_told_0 : List UInt8 := [42, 182, 0, 65, 6, 160, 0, 18, 42, 180, 0, 9, 180, 0, 52, 42, 180, 0, 31, 53, 167, 0, 4, 2]
abbrev dktX3_told_0 : List UInt8 := dkwX3_told_0 ++ dktX3_told_1
theorem dksX3_told_0 : cX3_told.data.toList.drop 0 = dktX3_told_0 := by decide +kernel
theorem dksX3_told_1 : cX3_told.data.toList.drop 24 = dktX3_told_1 := dk_seg dksX3_told_0 24 rfl rfl
theorem dksX3_told_2 : cX3_told.data.toList.drop 48 = dktX3_told_2 := dk_seg dksX3_told_1 24 rfl rfl
theorem dksX3_told_3 : cX3_told.data.toList.drop 56 = dktX3_told_3 := dk_seg dksX3_told_2 8 rfl rfl
theorem dksX3_told_4 : cX3_told.data.toList.drop 108 = dktX3_told_4 := dk_seg dksX3_told_3 52 rfl rfl
theorem dksX3_told_5 : cX3_told.data.toList.drop 132 = dktX3_told_5 := dk_seg dksX3_told_4 24 rfl rfl
theorem dksX3_told_6 : cX3_told.data.toList.drop 156 = dktX3_told_6 := dk_seg dksX3_told_5 24 rfl rfl
theorem dksX3_told_7 : cX3_told.data.toList.drop 179 = dktX3_told_7 := dk_seg dksX3_told_6 23 rfl rfl
theorem dksX3_told_8 : cX3_told.data.toList.drop 203 = dktX3_told_8 := dk_seg dksX3_told_7 24 rfl rfl
theorem dksX3_told_9 : cX3_told.data.toList.drop 227 = dktX3_told_9 := dk_seg dksX3_told_8 24 rfl rfl
theorem dksX3_told_10 : cX3_told.data.toList.drop 251 = dktX3_told_10 := dk_seg dksX3_told_9 24 rfl rfl
theorem dksX3_told_11 : cX3_told.data.toList.drop 273 = dktX3_told_11 := dk_seg dksX3_told_10 22 rfl rfl
theorem dksX3_told_12 : cX3_told.data.toList.drop 295 = dktX3_told_12 := dk_seg dksX3_told_11 22 rfl rfl
theorem dksX3_told_13 : cX3_told.data.toList.drop 319 = dktX3_told_13 := dk_seg dksX3_told_12 24 rfl rfl
theorem dksX3_told_14 : cX3_told.data.toList.drop 342 = dktX3_told_14 := dk_seg dksX3_told_13 23 rfl rfl
theorem dX3_told_0 : decode cX3_told 0 = .ok (.aload_n 0, 1) := dk_42 (dk_at dksX3_told_0 0 rfl rfl)
theorem dX3_told_1 : decode cX3_told 1 = .ok (.invokevirtual 65, 3) := dk_182 0 65 (dk_at dksX3_told_0 1 rfl rfl)
theorem dX3_told_4 : decode cX3_told 4 = .ok (.iconst 3, 1) := dk_6 (dk_at dksX3_told_0 4 rfl rfl)
theorem dX3_told_5 : decode cX3_told 5 = .ok (.if_icmp .ne 18, 3) := dk_160 0 18 (dk_at dksX3_told_0 5 rfl rfl)
theorem dX3_told_8 : decode cX3_told 8 = .ok (.aload_n 0, 1) := dk_42 (dk_at dksX3_told_0 8 rfl rfl)
theorem dX3_told_9 : decode cX3_told 9 = .ok (.getfield 9, 3) := dk_180 0 9 (dk_at dksX3_told_0 9 rfl rfl)
theorem dX3_told_12 : decode cX3_told 12 = .ok (.getfield 52, 3) := dk_180 0 52 (dk_at dksX3_told_0 12 rfl rfl)
theorem dX3_told_15 : decode cX3_told 15 = .ok (.aload_n 0, 1) := dk_42 (dk_at dksX3_told_0 15 rfl rfl)
theorem dX3_told_16 : decode cX3_told 16 = .ok (.getfield 31, 3) := dk_180 0 31 (dk_at dksX3_told_0 16 rfl rfl)
theorem dX3_told_19 : decode cX3_told 19 = .ok (.saload, 1) := dk_53 (dk_at dksX3_told_0 19 rfl rfl)
theorem dX3_told_20 : decode cX3_told 20 = .ok (.goto 4, 3) := dk_167 0 4 (dk_at dksX3_told_0 20 rfl rfl)
theorem dX3_told_23 : decode cX3_told 23 = .ok (.iconst (-1), 1) := dk_2 (dk_at dksX3_told_0 23 rfl rfl)
theorem dX3_told_24 : decode cX3_told 24 = .ok (.istore_n 1, 1) := dk_60 (dk_at dksX3_told_1 0 rfl rfl)
theorem dX3_told_25 : decode cX3_told 25 = .ok (.iload_n 1, 1) := dk_27 (dk_at dksX3_told_1 1 rfl rfl)
theorem dX3_told_26 : decode cX3_told 26 = .ok (.iconst 3, 1) := dk_6 (dk_at dksX3_told_1 2 rfl rfl)
theorem dX3_told_27 : decode cX3_told 27 = .ok (.if_icmp .lt 28, 3) := dk_161 0 28 (dk_at dksX3_told_1 3 rfl rfl)
theorem dX3_told_30 : decode cX3_told 30 = .ok (.iload_n 1, 1) := dk_27 (dk_at dksX3_told_1 6 rfl rfl)
theorem dX3_told_31 : decode cX3_told 31 = .ok (.iconst 5, 1) := dk_8 (dk_at dksX3_told_1 7 rfl rfl)
theorem dX3_told_32 : decode cX3_told 32 = .ok (.if_icmp .gt 23, 3) := dk_163 0 23 (dk_at dksX3_told_1 8 rfl rfl)
theorem dX3_told_35 : decode cX3_told 35 = .ok (.aload_n 0, 1) := dk_42 (dk_at dksX3_told_1 11 rfl rfl)
theorem dX3_told_36 : decode cX3_told 36 = .ok (.invokevirtual 59, 3) := dk_182 0 59 (dk_at dksX3_told_1 12 rfl rfl)
theorem dX3_told_39 : decode cX3_told 39 = .ok (.aload_n 0, 1) := dk_42 (dk_at dksX3_told_1 15 rfl rfl)
theorem dX3_told_40 : decode cX3_told 40 = .ok (.getfield 83, 3) := dk_180 0 83 (dk_at dksX3_told_1 16 rfl rfl)
theorem dX3_told_43 : decode cX3_told 43 = .ok (.getfield 109, 3) := dk_180 0 109 (dk_at dksX3_told_1 19 rfl rfl)
theorem dX3_told_46 : decode cX3_told 46 = .ok (.iload_n 1, 1) := dk_27 (dk_at dksX3_told_1 22 rfl rfl)
theorem dX3_told_47 : decode cX3_told 47 = .ok (.iconst 3, 1) := dk_6 (dk_at dksX3_told_1 23 rfl rfl)
theorem dX3_told_48 : decode cX3_told 48 = .ok (.isub, 1) := dk_100 (dk_at dksX3_told_2 0 rfl rfl)
theorem dX3_told_49 : decode cX3_told 49 = .ok (.aload_n 0, 1) := dk_42 (dk_at dksX3_told_2 1 rfl rfl)
theorem dX3_told_50 : decode cX3_told 50 = .ok (.invokevirtual 113, 3) := dk_182 0 113 (dk_at dksX3_told_2 2 rfl rfl)
theorem dX3_told_53 : decode cX3_told 53 = .ok (.aastore, 1) := dk_83 (dk_at dksX3_told_2 5 rfl rfl)
theorem dX3_told_54 : decode cX3_told 54 = .ok (.return_, 1) := dk_177 (dk_at dksX3_told_2 6 rfl rfl)
theorem dX3_told_55 : decode cX3_told 55 = .ok (.iload_n 1, 1) := dk_27 (dk_at dksX3_told_2 7 rfl rfl)
theorem dX3_told_56 : decode cX3_told 56 = .ok (.tableswitch 303 0 8 #[52, 100, 147, 303, 303, 303, 238, 259, 281], 52) := by decide +kernel
theorem dX3_told_108 : decode cX3_told 108 = .ok (.aload_n 0, 1) := dk_42 (dk_at dksX3_told_4 0 rfl rfl)
theorem dX3_told_109 : decode cX3_told 109 = .ok (.aload_n 0, 1) := dk_42 (dk_at dksX3_told_4 1 rfl rfl)
theorem dX3_told_110 : decode cX3_told 110 = .ok (.getfield 83, 3) := dk_180 0 83 (dk_at dksX3_told_4 2 rfl rfl)
theorem dX3_told_113 : decode cX3_told 113 = .ok (.getfield 117, 3) := dk_180 0 117 (dk_at dksX3_told_4 5 rfl rfl)
theorem dX3_told_116 : decode cX3_told 116 = .ok (.invokevirtual 121, 3) := dk_182 0 121 (dk_at dksX3_told_4 8 rfl rfl)
theorem dX3_told_119 : decode cX3_told 119 = .ok (.bipush 6, 2) := dk_16 6 (dk_at dksX3_told_4 11 rfl rfl)
theorem dX3_told_121 : decode cX3_told 121 = .ok (.invokevirtual 126, 3) := dk_182 0 126 (dk_at dksX3_told_4 13 rfl rfl)
theorem dX3_told_124 : decode cX3_told 124 = .ok (.new 129, 3) := dk_187 0 129 (dk_at dksX3_told_4 16 rfl rfl)
theorem dX3_told_127 : decode cX3_told 127 = .ok (.dup, 1) := dk_89 (dk_at dksX3_told_4 19 rfl rfl)
theorem dX3_told_128 : decode cX3_told 128 = .ok (.aload_n 0, 1) := dk_42 (dk_at dksX3_told_4 20 rfl rfl)
theorem dX3_told_129 : decode cX3_told 129 = .ok (.invokevirtual 131, 3) := dk_182 0 131 (dk_at dksX3_told_4 21 rfl rfl)
theorem dX3_told_132 : decode cX3_told 132 = .ok (.invokespecial 135, 3) := dk_183 0 135 (dk_at dksX3_told_5 0 rfl rfl)
theorem dX3_told_135 : decode cX3_told 135 = .ok (.astore_n 2, 1) := dk_77 (dk_at dksX3_told_5 3 rfl rfl)
theorem dX3_told_136 : decode cX3_told 136 = .ok (.aload_n 0, 1) := dk_42 (dk_at dksX3_told_5 4 rfl rfl)
theorem dX3_told_137 : decode cX3_told 137 = .ok (.aload_n 2, 1) := dk_44 (dk_at dksX3_told_5 5 rfl rfl)
theorem dX3_told_138 : decode cX3_told 138 = .ok (.invokevirtual 138, 3) := dk_182 0 138 (dk_at dksX3_told_5 6 rfl rfl)
theorem dX3_told_141 : decode cX3_told 141 = .ok (.aload_n 0, 1) := dk_42 (dk_at dksX3_told_5 9 rfl rfl)
theorem dX3_told_142 : decode cX3_told 142 = .ok (.getfield 83, 3) := dk_180 0 83 (dk_at dksX3_told_5 10 rfl rfl)
theorem dX3_told_145 : decode cX3_told 145 = .ok (.getfield 117, 3) := dk_180 0 117 (dk_at dksX3_told_5 13 rfl rfl)
theorem dX3_told_148 : decode cX3_told 148 = .ok (.aload_n 2, 1) := dk_44 (dk_at dksX3_told_5 16 rfl rfl)
theorem dX3_told_149 : decode cX3_told 149 = .ok (.invokevirtual 142, 3) := dk_182 0 142 (dk_at dksX3_told_5 17 rfl rfl)
theorem dX3_told_152 : decode cX3_told 152 = .ok (.pop, 1) := dk_87 (dk_at dksX3_told_5 20 rfl rfl)
theorem dX3_told_153 : decode cX3_told 153 = .ok (.goto 212, 3) := dk_167 0 212 (dk_at dksX3_told_5 21 rfl rfl)
theorem dX3_told_156 : decode cX3_told 156 = .ok (.aload_n 0, 1) := dk_42 (dk_at dksX3_told_6 0 rfl rfl)
theorem dX3_told_157 : decode cX3_told 157 = .ok (.aload_n 0, 1) := dk_42 (dk_at dksX3_told_6 1 rfl rfl)
theorem dX3_told_158 : decode cX3_told 158 = .ok (.getfield 83, 3) := dk_180 0 83 (dk_at dksX3_told_6 2 rfl rfl)
theorem dX3_told_161 : decode cX3_told 161 = .ok (.getfield 146, 3) := dk_180 0 146 (dk_at dksX3_told_6 5 rfl rfl)
theorem dX3_told_164 : decode cX3_told 164 = .ok (.invokevirtual 121, 3) := dk_182 0 121 (dk_at dksX3_told_6 8 rfl rfl)
theorem dX3_told_167 : decode cX3_told 167 = .ok (.iconst 5, 1) := dk_8 (dk_at dksX3_told_6 11 rfl rfl)
theorem dX3_told_168 : decode cX3_told 168 = .ok (.invokevirtual 126, 3) := dk_182 0 126 (dk_at dksX3_told_6 12 rfl rfl)
theorem dX3_told_171 : decode cX3_told 171 = .ok (.new 149, 3) := dk_187 0 149 (dk_at dksX3_told_6 15 rfl rfl)
theorem dX3_told_174 : decode cX3_told 174 = .ok (.dup, 1) := dk_89 (dk_at dksX3_told_6 18 rfl rfl)
theorem dX3_told_175 : decode cX3_told 175 = .ok (.aload_n 0, 1) := dk_42 (dk_at dksX3_told_6 19 rfl rfl)
theorem dX3_told_176 : decode cX3_told 176 = .ok (.invokevirtual 131, 3) := dk_182 0 131 (dk_at dksX3_told_6 20 rfl rfl)
theorem dX3_told_179 : decode cX3_told 179 = .ok (.invokespecial 151, 3) := dk_183 0 151 (dk_at dksX3_told_7 0 rfl rfl)
theorem dX3_told_182 : decode cX3_told 182 = .ok (.astore_n 2, 1) := dk_77 (dk_at dksX3_told_7 3 rfl rfl)
theorem dX3_told_183 : decode cX3_told 183 = .ok (.aload_n 0, 1) := dk_42 (dk_at dksX3_told_7 4 rfl rfl)
theorem dX3_told_184 : decode cX3_told 184 = .ok (.aload_n 2, 1) := dk_44 (dk_at dksX3_told_7 5 rfl rfl)
theorem dX3_told_185 : decode cX3_told 185 = .ok (.invokevirtual 138, 3) := dk_182 0 138 (dk_at dksX3_told_7 6 rfl rfl)
theorem dX3_told_188 : decode cX3_told 188 = .ok (.aload_n 0, 1) := dk_42 (dk_at dksX3_told_7 9 rfl rfl)
theorem dX3_told_189 : decode cX3_told 189 = .ok (.getfield 83, 3) := dk_180 0 83 (dk_at dksX3_told_7 10 rfl rfl)
theorem dX3_told_192 : decode cX3_told 192 = .ok (.getfield 146, 3) := dk_180 0 146 (dk_at dksX3_told_7 13 rfl rfl)
theorem dX3_told_195 : decode cX3_told 195 = .ok (.aload_n 2, 1) := dk_44 (dk_at dksX3_told_7 16 rfl rfl)
theorem dX3_told_196 : decode cX3_told 196 = .ok (.invokevirtual 142, 3) := dk_182 0 142 (dk_at dksX3_told_7 17 rfl rfl)
theorem dX3_told_199 : decode cX3_told 199 = .ok (.pop, 1) := dk_87 (dk_at dksX3_told_7 20 rfl rfl)
theorem dX3_told_200 : decode cX3_told 200 = .ok (.goto 165, 3) := dk_167 0 165 (dk_at dksX3_told_7 21 rfl rfl)
theorem dX3_told_203 : decode cX3_told 203 = .ok (.aload_n 0, 1) := dk_42 (dk_at dksX3_told_8 0 rfl rfl)
theorem dX3_told_204 : decode cX3_told 204 = .ok (.aload_n 0, 1) := dk_42 (dk_at dksX3_told_8 1 rfl rfl)
theorem dX3_told_205 : decode cX3_told 205 = .ok (.getfield 83, 3) := dk_180 0 83 (dk_at dksX3_told_8 2 rfl rfl)
theorem dX3_told_208 : decode cX3_told 208 = .ok (.getfield 152, 3) := dk_180 0 152 (dk_at dksX3_told_8 5 rfl rfl)
theorem dX3_told_211 : decode cX3_told 211 = .ok (.invokevirtual 121, 3) := dk_182 0 121 (dk_at dksX3_told_8 8 rfl rfl)
theorem dX3_told_214 : decode cX3_told 214 = .ok (.bipush 10, 2) := dk_16 10 (dk_at dksX3_told_8 11 rfl rfl)
theorem dX3_told_216 : decode cX3_told 216 = .ok (.invokevirtual 126, 3) := dk_182 0 126 (dk_at dksX3_told_8 13 rfl rfl)
theorem dX3_told_219 : decode cX3_told 219 = .ok (.new 155, 3) := dk_187 0 155 (dk_at dksX3_told_8 16 rfl rfl)
theorem dX3_told_222 : decode cX3_told 222 = .ok (.dup, 1) := dk_89 (dk_at dksX3_told_8 19 rfl rfl)
theorem dX3_told_223 : decode cX3_told 223 = .ok (.invokespecial 157, 3) := dk_183 0 157 (dk_at dksX3_told_8 20 rfl rfl)
theorem dX3_told_226 : decode cX3_told 226 = .ok (.astore_n 2, 1) := dk_77 (dk_at dksX3_told_8 23 rfl rfl)
theorem dX3_told_227 : decode cX3_told 227 = .ok (.aload_n 2, 1) := dk_44 (dk_at dksX3_told_9 0 rfl rfl)
theorem dX3_told_228 : decode cX3_told 228 = .ok (.aload_n 0, 1) := dk_42 (dk_at dksX3_told_9 1 rfl rfl)
theorem dX3_told_229 : decode cX3_told 229 = .ok (.aload_n 0, 1) := dk_42 (dk_at dksX3_told_9 2 rfl rfl)
theorem dX3_told_230 : decode cX3_told 230 = .ok (.getfield 83, 3) := dk_180 0 83 (dk_at dksX3_told_9 3 rfl rfl)
theorem dX3_told_233 : decode cX3_told 233 = .ok (.getfield 146, 3) := dk_180 0 146 (dk_at dksX3_told_9 6 rfl rfl)
theorem dX3_told_236 : decode cX3_told 236 = .ok (.invokevirtual 158, 3) := dk_182 0 158 (dk_at dksX3_told_9 9 rfl rfl)
theorem dX3_told_239 : decode cX3_told 239 = .ok (.putfield 162, 3) := dk_181 0 162 (dk_at dksX3_told_9 12 rfl rfl)
theorem dX3_told_242 : decode cX3_told 242 = .ok (.aload_n 2, 1) := dk_44 (dk_at dksX3_told_9 15 rfl rfl)
theorem dX3_told_243 : decode cX3_told 243 = .ok (.aload_n 0, 1) := dk_42 (dk_at dksX3_told_9 16 rfl rfl)
theorem dX3_told_244 : decode cX3_told 244 = .ok (.aload_n 0, 1) := dk_42 (dk_at dksX3_told_9 17 rfl rfl)
theorem dX3_told_245 : decode cX3_told 245 = .ok (.getfield 83, 3) := dk_180 0 83 (dk_at dksX3_told_9 18 rfl rfl)
theorem dX3_told_248 : decode cX3_told 248 = .ok (.getfield 117, 3) := dk_180 0 117 (dk_at dksX3_told_9 21 rfl rfl)
theorem dX3_told_251 : decode cX3_told 251 = .ok (.invokevirtual 158, 3) := dk_182 0 158 (dk_at dksX3_told_10 0 rfl rfl)
theorem dX3_told_254 : decode cX3_told 254 = .ok (.putfield 165, 3) := dk_181 0 165 (dk_at dksX3_told_10 3 rfl rfl)
theorem dX3_told_257 : decode cX3_told 257 = .ok (.aload_n 2, 1) := dk_44 (dk_at dksX3_told_10 6 rfl rfl)
theorem dX3_told_258 : decode cX3_told 258 = .ok (.aload_n 0, 1) := dk_42 (dk_at dksX3_told_10 7 rfl rfl)
theorem dX3_told_259 : decode cX3_told 259 = .ok (.iconst 1, 1) := dk_4 (dk_at dksX3_told_10 8 rfl rfl)
theorem dX3_told_260 : decode cX3_told 260 = .ok (.bipush 30, 2) := dk_16 30 (dk_at dksX3_told_10 9 rfl rfl)
theorem dX3_told_262 : decode cX3_told 262 = .ok (.invokevirtual 168, 3) := dk_182 0 168 (dk_at dksX3_told_10 11 rfl rfl)
theorem dX3_told_265 : decode cX3_told 265 = .ok (.putfield 171, 3) := dk_181 0 171 (dk_at dksX3_told_10 14 rfl rfl)
theorem dX3_told_268 : decode cX3_told 268 = .ok (.aload_n 2, 1) := dk_44 (dk_at dksX3_told_10 17 rfl rfl)
theorem dX3_told_269 : decode cX3_told 269 = .ok (.aload_n 0, 1) := dk_42 (dk_at dksX3_told_10 18 rfl rfl)
theorem dX3_told_270 : decode cX3_told 270 = .ok (.iconst 0, 1) := dk_3 (dk_at dksX3_told_10 19 rfl rfl)
theorem dX3_told_271 : decode cX3_told 271 = .ok (.bipush 29, 2) := dk_16 29 (dk_at dksX3_told_10 20 rfl rfl)
theorem dX3_told_273 : decode cX3_told 273 = .ok (.invokevirtual 168, 3) := dk_182 0 168 (dk_at dksX3_told_11 0 rfl rfl)
theorem dX3_told_276 : decode cX3_told 276 = .ok (.putfield 174, 3) := dk_181 0 174 (dk_at dksX3_told_11 3 rfl rfl)
theorem dX3_told_279 : decode cX3_told 279 = .ok (.aload_n 0, 1) := dk_42 (dk_at dksX3_told_11 6 rfl rfl)
theorem dX3_told_280 : decode cX3_told 280 = .ok (.getfield 83, 3) := dk_180 0 83 (dk_at dksX3_told_11 7 rfl rfl)
theorem dX3_told_283 : decode cX3_told 283 = .ok (.getfield 152, 3) := dk_180 0 152 (dk_at dksX3_told_11 10 rfl rfl)
theorem dX3_told_286 : decode cX3_told 286 = .ok (.aload_n 2, 1) := dk_44 (dk_at dksX3_told_11 13 rfl rfl)
theorem dX3_told_287 : decode cX3_told 287 = .ok (.invokevirtual 142, 3) := dk_182 0 142 (dk_at dksX3_told_11 14 rfl rfl)
theorem dX3_told_290 : decode cX3_told 290 = .ok (.pop, 1) := dk_87 (dk_at dksX3_told_11 17 rfl rfl)
theorem dX3_told_291 : decode cX3_told 291 = .ok (.goto 74, 3) := dk_167 0 74 (dk_at dksX3_told_11 18 rfl rfl)
theorem dX3_told_294 : decode cX3_told 294 = .ok (.aload_n 0, 1) := dk_42 (dk_at dksX3_told_11 21 rfl rfl)
theorem dX3_told_295 : decode cX3_told 295 = .ok (.invokevirtual 59, 3) := dk_182 0 59 (dk_at dksX3_told_12 0 rfl rfl)
theorem dX3_told_298 : decode cX3_told 298 = .ok (.aload_n 0, 1) := dk_42 (dk_at dksX3_told_12 3 rfl rfl)
theorem dX3_told_299 : decode cX3_told 299 = .ok (.getfield 83, 3) := dk_180 0 83 (dk_at dksX3_told_12 4 rfl rfl)
theorem dX3_told_302 : decode cX3_told 302 = .ok (.aload_n 0, 1) := dk_42 (dk_at dksX3_told_12 7 rfl rfl)
theorem dX3_told_303 : decode cX3_told 303 = .ok (.iconst 0, 1) := dk_3 (dk_at dksX3_told_12 8 rfl rfl)
theorem dX3_told_304 : decode cX3_told 304 = .ok (.bipush 100, 2) := dk_16 100 (dk_at dksX3_told_12 9 rfl rfl)
theorem dX3_told_306 : decode cX3_told 306 = .ok (.invokevirtual 168, 3) := dk_182 0 168 (dk_at dksX3_told_12 11 rfl rfl)
theorem dX3_told_309 : decode cX3_told 309 = .ok (.putfield 176, 3) := dk_181 0 176 (dk_at dksX3_told_12 14 rfl rfl)
theorem dX3_told_312 : decode cX3_told 312 = .ok (.goto 53, 3) := dk_167 0 53 (dk_at dksX3_told_12 17 rfl rfl)
theorem dX3_told_315 : decode cX3_told 315 = .ok (.aload_n 0, 1) := dk_42 (dk_at dksX3_told_12 20 rfl rfl)
theorem dX3_told_316 : decode cX3_told 316 = .ok (.invokevirtual 59, 3) := dk_182 0 59 (dk_at dksX3_told_12 21 rfl rfl)
theorem dX3_told_319 : decode cX3_told 319 = .ok (.aload_n 0, 1) := dk_42 (dk_at dksX3_told_13 0 rfl rfl)
theorem dX3_told_320 : decode cX3_told 320 = .ok (.getfield 83, 3) := dk_180 0 83 (dk_at dksX3_told_13 1 rfl rfl)
theorem dX3_told_323 : decode cX3_told 323 = .ok (.aload_n 0, 1) := dk_42 (dk_at dksX3_told_13 4 rfl rfl)
theorem dX3_told_324 : decode cX3_told 324 = .ok (.iconst 0, 1) := dk_3 (dk_at dksX3_told_13 5 rfl rfl)
theorem dX3_told_325 : decode cX3_told 325 = .ok (.sipush 396, 3) := dk_17 1 140 (dk_at dksX3_told_13 6 rfl rfl)
theorem dX3_told_328 : decode cX3_told 328 = .ok (.invokevirtual 168, 3) := dk_182 0 168 (dk_at dksX3_told_13 9 rfl rfl)
theorem dX3_told_331 : decode cX3_told 331 = .ok (.putfield 179, 3) := dk_181 0 179 (dk_at dksX3_told_13 12 rfl rfl)
theorem dX3_told_334 : decode cX3_told 334 = .ok (.goto 31, 3) := dk_167 0 31 (dk_at dksX3_told_13 15 rfl rfl)
theorem dX3_told_337 : decode cX3_told 337 = .ok (.aload_n 0, 1) := dk_42 (dk_at dksX3_told_13 18 rfl rfl)
theorem dX3_told_338 : decode cX3_told 338 = .ok (.invokevirtual 59, 3) := dk_182 0 59 (dk_at dksX3_told_13 19 rfl rfl)
theorem dX3_told_341 : decode cX3_told 341 = .ok (.aload_n 0, 1) := dk_42 (dk_at dksX3_told_13 22 rfl rfl)
theorem dX3_told_342 : decode cX3_told 342 = .ok (.getfield 83, 3) := dk_180 0 83 (dk_at dksX3_told_14 0 rfl rfl)
theorem dX3_told_345 : decode cX3_told 345 = .ok (.aload_n 0, 1) := dk_42 (dk_at dksX3_told_14 3 rfl rfl)
theorem dX3_told_346 : decode cX3_told 346 = .ok (.iconst 0, 1) := dk_3 (dk_at dksX3_told_14 4 rfl rfl)
theorem dX3_told_347 : decode cX3_told 347 = .ok (.sipush 9999, 3) := dk_17 39 15 (dk_at dksX3_told_14 5 rfl rfl)
theorem dX3_told_350 : decode cX3_told 350 = .ok (.invokevirtual 168, 3) := dk_182 0 168 (dk_at dksX3_told_14 8 rfl rfl)
theorem dX3_told_353 : decode cX3_told 353 = .ok (.putfield 182, 3) := dk_181 0 182 (dk_at dksX3_told_14 11 rfl rfl)
theorem dX3_told_356 : decode cX3_told 356 = .ok (.goto 9, 3) := dk_167 0 9 (dk_at dksX3_told_14 14 rfl rfl)
theorem dX3_told_359 : decode cX3_told 359 = .ok (.aload_n 0, 1) := dk_42 (dk_at dksX3_told_14 17 rfl rfl)
theorem dX3_told_360 : decode cX3_told 360 = .ok (.iconst 1, 1) := dk_4 (dk_at dksX3_told_14 18 rfl rfl)
theorem dX3_told_361 : decode cX3_told 361 = .ok (.invokevirtual 48, 3) := dk_182 0 48 (dk_at dksX3_told_14 19 rfl rfl)
theorem dX3_told_364 : decode cX3_told 364 = .ok (.athrow, 1) := dk_191 (dk_at dksX3_told_14 22 rfl rfl)
theorem dX3_told_365 : decode cX3_told 365 = .ok (.return_, 1) := dk_177 (dk_at dksX3_told_14 23 rfl rfl)
abbrev cX3_pass : ByteArray := prog_11_method_6_code
def yX3_pass : MethodName := ⟨RX3, "pass", "()V"⟩
def dkwX3_pass_1 : List UInt8 := [181, 0, 31, 177]
abbrev dktX3_pass_1 : List UInt8 := dkwX3_pass_1 ++ []
def dkwX3_pass_0 : List UInt8 := [42, 180, 0, 31, 17, 1, 144, 161, 0, 9, 42, 5, 182, 0, 48, 191, 42, 89, 180, 0, 31, 4, 96]
abbrev dktX3_pass_0 : List UInt8 := dkwX3_pass_0 ++ dktX3_pass_1
theorem dksX3_pass_0 : cX3_pass.data.toList.drop 0 = dktX3_pass_0 := by decide +kernel
theorem dksX3_pass_1 : cX3_pass.data.toList.drop 23 = dktX3_pass_1 := dk_seg dksX3_pass_0 23 rfl rfl
theorem dX3_pass_0 : decode cX3_pass 0 = .ok (.aload_n 0, 1) := dk_42 (dk_at dksX3_pass_0 0 rfl rfl)
theorem dX3_pass_1 : decode cX3_pass 1 = .ok (.getfield 31, 3) := dk_180 0 31 (dk_at dksX3_pass_0 1 rfl rfl)
theorem dX3_pass_4 : decode cX3_pass 4 = .ok (.sipush 400, 3) := dk_17 1 144 (dk_at dksX3_pass_0 4 rfl rfl)
theorem dX3_pass_7 : decode cX3_pass 7 = .ok (.if_icmp .lt 9, 3) := dk_161 0 9 (dk_at dksX3_pass_0 7 rfl rfl)
theorem dX3_pass_10 : decode cX3_pass 10 = .ok (.aload_n 0, 1) := dk_42 (dk_at dksX3_pass_0 10 rfl rfl)
theorem dX3_pass_11 : decode cX3_pass 11 = .ok (.iconst 2, 1) := dk_5 (dk_at dksX3_pass_0 11 rfl rfl)
theorem dX3_pass_12 : decode cX3_pass 12 = .ok (.invokevirtual 48, 3) := dk_182 0 48 (dk_at dksX3_pass_0 12 rfl rfl)
theorem dX3_pass_15 : decode cX3_pass 15 = .ok (.athrow, 1) := dk_191 (dk_at dksX3_pass_0 15 rfl rfl)
theorem dX3_pass_16 : decode cX3_pass 16 = .ok (.aload_n 0, 1) := dk_42 (dk_at dksX3_pass_0 16 rfl rfl)
theorem dX3_pass_17 : decode cX3_pass 17 = .ok (.dup, 1) := dk_89 (dk_at dksX3_pass_0 17 rfl rfl)
theorem dX3_pass_18 : decode cX3_pass 18 = .ok (.getfield 31, 3) := dk_180 0 31 (dk_at dksX3_pass_0 18 rfl rfl)
theorem dX3_pass_21 : decode cX3_pass 21 = .ok (.iconst 1, 1) := dk_4 (dk_at dksX3_pass_0 21 rfl rfl)
theorem dX3_pass_22 : decode cX3_pass 22 = .ok (.iadd, 1) := dk_96 (dk_at dksX3_pass_0 22 rfl rfl)
theorem dX3_pass_23 : decode cX3_pass 23 = .ok (.putfield 31, 3) := dk_181 0 31 (dk_at dksX3_pass_1 0 rfl rfl)
theorem dX3_pass_26 : decode cX3_pass 26 = .ok (.return_, 1) := dk_177 (dk_at dksX3_pass_1 3 rfl rfl)
abbrev cX3_law : ByteArray := prog_11_method_19_code
def yX3_law : MethodName := ⟨RX3, "law", "()LKnockerFaces$Law;"⟩
def dkwX3_law_4 : List UInt8 := [96, 181, 0, 193, 167, 255, 171, 43, 180, 0, 210, 43, 180, 0, 193, 42, 182, 0, 200, 83, 43, 176]
abbrev dktX3_law_4 : List UInt8 := dkwX3_law_4 ++ []
def dkwX3_law_3 : List UInt8 := [180, 0, 210, 43, 180, 0, 193, 42, 182, 0, 200, 83, 42, 16, 11, 182, 0, 207, 43, 89, 180, 0, 193, 4]
abbrev dktX3_law_3 : List UInt8 := dkwX3_law_3 ++ dktX3_law_4
def dkwX3_law_2 : List UInt8 := [182, 0, 105, 43, 180, 0, 204, 43, 180, 0, 193, 42, 182, 0, 200, 83, 42, 16, 10, 182, 0, 207, 43]
abbrev dktX3_law_2 : List UInt8 := dkwX3_law_2 ++ dktX3_law_3
def dkwX3_law_1 : List UInt8 := [43, 180, 0, 193, 7, 182, 0, 126, 43, 180, 0, 196, 43, 180, 0, 193, 42, 182, 0, 200, 83, 42, 16, 60]
abbrev dktX3_law_1 : List UInt8 := dkwX3_law_1 ++ dktX3_law_2
def dkwX3_law_0 : List UInt8 := [187, 0, 190, 89, 183, 0, 192, 76, 42, 16, 61, 182, 0, 105, 42, 16, 9, 182, 0, 62, 153, 0, 82, 42]
abbrev dktX3_law_0 : List UInt8 := dkwX3_law_0 ++ dktX3_law_1
theorem dksX3_law_0 : cX3_law.data.toList.drop 0 = dktX3_law_0 := by decide +kernel
theorem dksX3_law_1 : cX3_law.data.toList.drop 24 = dktX3_law_1 := dk_seg dksX3_law_0 24 rfl rfl
theorem dksX3_law_2 : cX3_law.data.toList.drop 48 = dktX3_law_2 := dk_seg dksX3_law_1 24 rfl rfl
theorem dksX3_law_3 : cX3_law.data.toList.drop 71 = dktX3_law_3 := dk_seg dksX3_law_2 23 rfl rfl
theorem dksX3_law_4 : cX3_law.data.toList.drop 95 = dktX3_law_4 := dk_seg dksX3_law_3 24 rfl rfl
theorem dX3_law_0 : decode cX3_law 0 = .ok (.new 190, 3) := dk_187 0 190 (dk_at dksX3_law_0 0 rfl rfl)
theorem dX3_law_3 : decode cX3_law 3 = .ok (.dup, 1) := dk_89 (dk_at dksX3_law_0 3 rfl rfl)
theorem dX3_law_4 : decode cX3_law 4 = .ok (.invokespecial 192, 3) := dk_183 0 192 (dk_at dksX3_law_0 4 rfl rfl)
theorem dX3_law_7 : decode cX3_law 7 = .ok (.astore_n 1, 1) := dk_76 (dk_at dksX3_law_0 7 rfl rfl)
theorem dX3_law_8 : decode cX3_law 8 = .ok (.aload_n 0, 1) := dk_42 (dk_at dksX3_law_0 8 rfl rfl)
theorem dX3_law_9 : decode cX3_law 9 = .ok (.bipush 61, 2) := dk_16 61 (dk_at dksX3_law_0 9 rfl rfl)
theorem dX3_law_11 : decode cX3_law 11 = .ok (.invokevirtual 105, 3) := dk_182 0 105 (dk_at dksX3_law_0 11 rfl rfl)
theorem dX3_law_14 : decode cX3_law 14 = .ok (.aload_n 0, 1) := dk_42 (dk_at dksX3_law_0 14 rfl rfl)
theorem dX3_law_15 : decode cX3_law 15 = .ok (.bipush 9, 2) := dk_16 9 (dk_at dksX3_law_0 15 rfl rfl)
theorem dX3_law_17 : decode cX3_law 17 = .ok (.invokevirtual 62, 3) := dk_182 0 62 (dk_at dksX3_law_0 17 rfl rfl)
theorem dX3_law_20 : decode cX3_law 20 = .ok (.ifCond .eq 82, 3) := dk_153 0 82 (dk_at dksX3_law_0 20 rfl rfl)
theorem dX3_law_23 : decode cX3_law 23 = .ok (.aload_n 0, 1) := dk_42 (dk_at dksX3_law_0 23 rfl rfl)
theorem dX3_law_24 : decode cX3_law 24 = .ok (.aload_n 1, 1) := dk_43 (dk_at dksX3_law_1 0 rfl rfl)
theorem dX3_law_25 : decode cX3_law 25 = .ok (.getfield 193, 3) := dk_180 0 193 (dk_at dksX3_law_1 1 rfl rfl)
theorem dX3_law_28 : decode cX3_law 28 = .ok (.iconst 4, 1) := dk_7 (dk_at dksX3_law_1 4 rfl rfl)
theorem dX3_law_29 : decode cX3_law 29 = .ok (.invokevirtual 126, 3) := dk_182 0 126 (dk_at dksX3_law_1 5 rfl rfl)
theorem dX3_law_32 : decode cX3_law 32 = .ok (.aload_n 1, 1) := dk_43 (dk_at dksX3_law_1 8 rfl rfl)
theorem dX3_law_33 : decode cX3_law 33 = .ok (.getfield 196, 3) := dk_180 0 196 (dk_at dksX3_law_1 9 rfl rfl)
theorem dX3_law_36 : decode cX3_law 36 = .ok (.aload_n 1, 1) := dk_43 (dk_at dksX3_law_1 12 rfl rfl)
theorem dX3_law_37 : decode cX3_law 37 = .ok (.getfield 193, 3) := dk_180 0 193 (dk_at dksX3_law_1 13 rfl rfl)
theorem dX3_law_40 : decode cX3_law 40 = .ok (.aload_n 0, 1) := dk_42 (dk_at dksX3_law_1 16 rfl rfl)
theorem dX3_law_41 : decode cX3_law 41 = .ok (.invokevirtual 200, 3) := dk_182 0 200 (dk_at dksX3_law_1 17 rfl rfl)
theorem dX3_law_44 : decode cX3_law 44 = .ok (.aastore, 1) := dk_83 (dk_at dksX3_law_1 20 rfl rfl)
theorem dX3_law_45 : decode cX3_law 45 = .ok (.aload_n 0, 1) := dk_42 (dk_at dksX3_law_1 21 rfl rfl)
theorem dX3_law_46 : decode cX3_law 46 = .ok (.bipush 60, 2) := dk_16 60 (dk_at dksX3_law_1 22 rfl rfl)
theorem dX3_law_48 : decode cX3_law 48 = .ok (.invokevirtual 105, 3) := dk_182 0 105 (dk_at dksX3_law_2 0 rfl rfl)
theorem dX3_law_51 : decode cX3_law 51 = .ok (.aload_n 1, 1) := dk_43 (dk_at dksX3_law_2 3 rfl rfl)
theorem dX3_law_52 : decode cX3_law 52 = .ok (.getfield 204, 3) := dk_180 0 204 (dk_at dksX3_law_2 4 rfl rfl)
theorem dX3_law_55 : decode cX3_law 55 = .ok (.aload_n 1, 1) := dk_43 (dk_at dksX3_law_2 7 rfl rfl)
theorem dX3_law_56 : decode cX3_law 56 = .ok (.getfield 193, 3) := dk_180 0 193 (dk_at dksX3_law_2 8 rfl rfl)
theorem dX3_law_59 : decode cX3_law 59 = .ok (.aload_n 0, 1) := dk_42 (dk_at dksX3_law_2 11 rfl rfl)
theorem dX3_law_60 : decode cX3_law 60 = .ok (.invokevirtual 200, 3) := dk_182 0 200 (dk_at dksX3_law_2 12 rfl rfl)
theorem dX3_law_63 : decode cX3_law 63 = .ok (.aastore, 1) := dk_83 (dk_at dksX3_law_2 15 rfl rfl)
theorem dX3_law_64 : decode cX3_law 64 = .ok (.aload_n 0, 1) := dk_42 (dk_at dksX3_law_2 16 rfl rfl)
theorem dX3_law_65 : decode cX3_law 65 = .ok (.bipush 10, 2) := dk_16 10 (dk_at dksX3_law_2 17 rfl rfl)
theorem dX3_law_67 : decode cX3_law 67 = .ok (.invokevirtual 207, 3) := dk_182 0 207 (dk_at dksX3_law_2 19 rfl rfl)
theorem dX3_law_70 : decode cX3_law 70 = .ok (.aload_n 1, 1) := dk_43 (dk_at dksX3_law_2 22 rfl rfl)
theorem dX3_law_71 : decode cX3_law 71 = .ok (.getfield 210, 3) := dk_180 0 210 (dk_at dksX3_law_3 0 rfl rfl)
theorem dX3_law_74 : decode cX3_law 74 = .ok (.aload_n 1, 1) := dk_43 (dk_at dksX3_law_3 3 rfl rfl)
theorem dX3_law_75 : decode cX3_law 75 = .ok (.getfield 193, 3) := dk_180 0 193 (dk_at dksX3_law_3 4 rfl rfl)
theorem dX3_law_78 : decode cX3_law 78 = .ok (.aload_n 0, 1) := dk_42 (dk_at dksX3_law_3 7 rfl rfl)
theorem dX3_law_79 : decode cX3_law 79 = .ok (.invokevirtual 200, 3) := dk_182 0 200 (dk_at dksX3_law_3 8 rfl rfl)
theorem dX3_law_82 : decode cX3_law 82 = .ok (.aastore, 1) := dk_83 (dk_at dksX3_law_3 11 rfl rfl)
theorem dX3_law_83 : decode cX3_law 83 = .ok (.aload_n 0, 1) := dk_42 (dk_at dksX3_law_3 12 rfl rfl)
theorem dX3_law_84 : decode cX3_law 84 = .ok (.bipush 11, 2) := dk_16 11 (dk_at dksX3_law_3 13 rfl rfl)
theorem dX3_law_86 : decode cX3_law 86 = .ok (.invokevirtual 207, 3) := dk_182 0 207 (dk_at dksX3_law_3 15 rfl rfl)
theorem dX3_law_89 : decode cX3_law 89 = .ok (.aload_n 1, 1) := dk_43 (dk_at dksX3_law_3 18 rfl rfl)
theorem dX3_law_90 : decode cX3_law 90 = .ok (.dup, 1) := dk_89 (dk_at dksX3_law_3 19 rfl rfl)
theorem dX3_law_91 : decode cX3_law 91 = .ok (.getfield 193, 3) := dk_180 0 193 (dk_at dksX3_law_3 20 rfl rfl)
theorem dX3_law_94 : decode cX3_law 94 = .ok (.iconst 1, 1) := dk_4 (dk_at dksX3_law_3 23 rfl rfl)
theorem dX3_law_95 : decode cX3_law 95 = .ok (.iadd, 1) := dk_96 (dk_at dksX3_law_4 0 rfl rfl)
theorem dX3_law_96 : decode cX3_law 96 = .ok (.putfield 193, 3) := dk_181 0 193 (dk_at dksX3_law_4 1 rfl rfl)
theorem dX3_law_99 : decode cX3_law 99 = .ok (.goto (-85), 3) := dk_167 255 171 (dk_at dksX3_law_4 4 rfl rfl)
theorem dX3_law_102 : decode cX3_law 102 = .ok (.aload_n 1, 1) := dk_43 (dk_at dksX3_law_4 7 rfl rfl)
theorem dX3_law_103 : decode cX3_law 103 = .ok (.getfield 210, 3) := dk_180 0 210 (dk_at dksX3_law_4 8 rfl rfl)
theorem dX3_law_106 : decode cX3_law 106 = .ok (.aload_n 1, 1) := dk_43 (dk_at dksX3_law_4 11 rfl rfl)
theorem dX3_law_107 : decode cX3_law 107 = .ok (.getfield 193, 3) := dk_180 0 193 (dk_at dksX3_law_4 12 rfl rfl)
theorem dX3_law_110 : decode cX3_law 110 = .ok (.aload_n 0, 1) := dk_42 (dk_at dksX3_law_4 15 rfl rfl)
theorem dX3_law_111 : decode cX3_law 111 = .ok (.invokevirtual 200, 3) := dk_182 0 200 (dk_at dksX3_law_4 16 rfl rfl)
theorem dX3_law_114 : decode cX3_law 114 = .ok (.aastore, 1) := dk_83 (dk_at dksX3_law_4 19 rfl rfl)
theorem dX3_law_115 : decode cX3_law 115 = .ok (.aload_n 1, 1) := dk_43 (dk_at dksX3_law_4 20 rfl rfl)
theorem dX3_law_116 : decode cX3_law 116 = .ok (.areturn, 1) := dk_176 (dk_at dksX3_law_4 21 rfl rfl)
abbrev cX3_sign : ByteArray := prog_11_method_9_code
def yX3_sign : MethodName := ⟨RX3, "sign", "(I)V"⟩
def dkwX3_sign_0 : List UInt8 := [42, 27, 182, 0, 55, 154, 0, 9, 42, 4, 182, 0, 48, 191, 42, 182, 0, 59, 177]
abbrev dktX3_sign_0 : List UInt8 := dkwX3_sign_0 ++ []
theorem dksX3_sign_0 : cX3_sign.data.toList.drop 0 = dktX3_sign_0 := by decide +kernel
theorem dX3_sign_0 : decode cX3_sign 0 = .ok (.aload_n 0, 1) := dk_42 (dk_at dksX3_sign_0 0 rfl rfl)
theorem dX3_sign_1 : decode cX3_sign 1 = .ok (.iload_n 1, 1) := dk_27 (dk_at dksX3_sign_0 1 rfl rfl)
theorem dX3_sign_2 : decode cX3_sign 2 = .ok (.invokevirtual 55, 3) := dk_182 0 55 (dk_at dksX3_sign_0 2 rfl rfl)
theorem dX3_sign_5 : decode cX3_sign 5 = .ok (.ifCond .ne 9, 3) := dk_154 0 9 (dk_at dksX3_sign_0 5 rfl rfl)
theorem dX3_sign_8 : decode cX3_sign 8 = .ok (.aload_n 0, 1) := dk_42 (dk_at dksX3_sign_0 8 rfl rfl)
theorem dX3_sign_9 : decode cX3_sign 9 = .ok (.iconst 1, 1) := dk_4 (dk_at dksX3_sign_0 9 rfl rfl)
theorem dX3_sign_10 : decode cX3_sign 10 = .ok (.invokevirtual 48, 3) := dk_182 0 48 (dk_at dksX3_sign_0 10 rfl rfl)
theorem dX3_sign_13 : decode cX3_sign 13 = .ok (.athrow, 1) := dk_191 (dk_at dksX3_sign_0 13 rfl rfl)
theorem dX3_sign_14 : decode cX3_sign 14 = .ok (.aload_n 0, 1) := dk_42 (dk_at dksX3_sign_0 14 rfl rfl)
theorem dX3_sign_15 : decode cX3_sign 15 = .ok (.invokevirtual 59, 3) := dk_182 0 59 (dk_at dksX3_sign_0 15 rfl rfl)
theorem dX3_sign_18 : decode cX3_sign 18 = .ok (.return_, 1) := dk_177 (dk_at dksX3_sign_0 18 rfl rfl)
abbrev cX3_isSign : ByteArray := prog_11_method_7_code
def yX3_isSign : MethodName := ⟨RX3, "isSign", "(I)Z"⟩
def dkwX3_isSign_1 : List UInt8 := [180, 0, 31, 53, 27, 160, 0, 7, 4, 167, 0, 4, 3, 172]
abbrev dktX3_isSign_1 : List UInt8 := dkwX3_isSign_1 ++ []
def dkwX3_isSign_0 : List UInt8 := [42, 180, 0, 9, 180, 0, 44, 42, 180, 0, 31, 51, 5, 160, 0, 23, 42, 180, 0, 9, 180, 0, 52, 42]
abbrev dktX3_isSign_0 : List UInt8 := dkwX3_isSign_0 ++ dktX3_isSign_1
theorem dksX3_isSign_0 : cX3_isSign.data.toList.drop 0 = dktX3_isSign_0 := by decide +kernel
theorem dksX3_isSign_1 : cX3_isSign.data.toList.drop 24 = dktX3_isSign_1 := dk_seg dksX3_isSign_0 24 rfl rfl
theorem dX3_isSign_0 : decode cX3_isSign 0 = .ok (.aload_n 0, 1) := dk_42 (dk_at dksX3_isSign_0 0 rfl rfl)
theorem dX3_isSign_1 : decode cX3_isSign 1 = .ok (.getfield 9, 3) := dk_180 0 9 (dk_at dksX3_isSign_0 1 rfl rfl)
theorem dX3_isSign_4 : decode cX3_isSign 4 = .ok (.getfield 44, 3) := dk_180 0 44 (dk_at dksX3_isSign_0 4 rfl rfl)
theorem dX3_isSign_7 : decode cX3_isSign 7 = .ok (.aload_n 0, 1) := dk_42 (dk_at dksX3_isSign_0 7 rfl rfl)
theorem dX3_isSign_8 : decode cX3_isSign 8 = .ok (.getfield 31, 3) := dk_180 0 31 (dk_at dksX3_isSign_0 8 rfl rfl)
theorem dX3_isSign_11 : decode cX3_isSign 11 = .ok (.baload, 1) := dk_51 (dk_at dksX3_isSign_0 11 rfl rfl)
theorem dX3_isSign_12 : decode cX3_isSign 12 = .ok (.iconst 2, 1) := dk_5 (dk_at dksX3_isSign_0 12 rfl rfl)
theorem dX3_isSign_13 : decode cX3_isSign 13 = .ok (.if_icmp .ne 23, 3) := dk_160 0 23 (dk_at dksX3_isSign_0 13 rfl rfl)
theorem dX3_isSign_16 : decode cX3_isSign 16 = .ok (.aload_n 0, 1) := dk_42 (dk_at dksX3_isSign_0 16 rfl rfl)
theorem dX3_isSign_17 : decode cX3_isSign 17 = .ok (.getfield 9, 3) := dk_180 0 9 (dk_at dksX3_isSign_0 17 rfl rfl)
theorem dX3_isSign_20 : decode cX3_isSign 20 = .ok (.getfield 52, 3) := dk_180 0 52 (dk_at dksX3_isSign_0 20 rfl rfl)
theorem dX3_isSign_23 : decode cX3_isSign 23 = .ok (.aload_n 0, 1) := dk_42 (dk_at dksX3_isSign_0 23 rfl rfl)
theorem dX3_isSign_24 : decode cX3_isSign 24 = .ok (.getfield 31, 3) := dk_180 0 31 (dk_at dksX3_isSign_1 0 rfl rfl)
theorem dX3_isSign_27 : decode cX3_isSign 27 = .ok (.saload, 1) := dk_53 (dk_at dksX3_isSign_1 3 rfl rfl)
theorem dX3_isSign_28 : decode cX3_isSign 28 = .ok (.iload_n 1, 1) := dk_27 (dk_at dksX3_isSign_1 4 rfl rfl)
theorem dX3_isSign_29 : decode cX3_isSign 29 = .ok (.if_icmp .ne 7, 3) := dk_160 0 7 (dk_at dksX3_isSign_1 5 rfl rfl)
theorem dX3_isSign_32 : decode cX3_isSign 32 = .ok (.iconst 1, 1) := dk_4 (dk_at dksX3_isSign_1 8 rfl rfl)
theorem dX3_isSign_33 : decode cX3_isSign 33 = .ok (.goto 4, 3) := dk_167 0 4 (dk_at dksX3_isSign_1 9 rfl rfl)
theorem dX3_isSign_36 : decode cX3_isSign 36 = .ok (.iconst 0, 1) := dk_3 (dk_at dksX3_isSign_1 12 rfl rfl)
theorem dX3_isSign_37 : decode cX3_isSign 37 = .ok (.ireturn, 1) := dk_172 (dk_at dksX3_isSign_1 13 rfl rfl)
abbrev cX3_isWord : ByteArray := prog_11_method_8_code
def yX3_isWord : MethodName := ⟨RX3, "isWord", "(I)Z"⟩
def dkwX3_isWord_1 : List UInt8 := [180, 0, 31, 53, 27, 160, 0, 7, 4, 167, 0, 4, 3, 172]
abbrev dktX3_isWord_1 : List UInt8 := dkwX3_isWord_1 ++ []
def dkwX3_isWord_0 : List UInt8 := [42, 180, 0, 9, 180, 0, 44, 42, 180, 0, 31, 51, 6, 160, 0, 23, 42, 180, 0, 9, 180, 0, 52, 42]
abbrev dktX3_isWord_0 : List UInt8 := dkwX3_isWord_0 ++ dktX3_isWord_1
theorem dksX3_isWord_0 : cX3_isWord.data.toList.drop 0 = dktX3_isWord_0 := by decide +kernel
theorem dksX3_isWord_1 : cX3_isWord.data.toList.drop 24 = dktX3_isWord_1 := dk_seg dksX3_isWord_0 24 rfl rfl
theorem dX3_isWord_0 : decode cX3_isWord 0 = .ok (.aload_n 0, 1) := dk_42 (dk_at dksX3_isWord_0 0 rfl rfl)
theorem dX3_isWord_1 : decode cX3_isWord 1 = .ok (.getfield 9, 3) := dk_180 0 9 (dk_at dksX3_isWord_0 1 rfl rfl)
theorem dX3_isWord_4 : decode cX3_isWord 4 = .ok (.getfield 44, 3) := dk_180 0 44 (dk_at dksX3_isWord_0 4 rfl rfl)
theorem dX3_isWord_7 : decode cX3_isWord 7 = .ok (.aload_n 0, 1) := dk_42 (dk_at dksX3_isWord_0 7 rfl rfl)
theorem dX3_isWord_8 : decode cX3_isWord 8 = .ok (.getfield 31, 3) := dk_180 0 31 (dk_at dksX3_isWord_0 8 rfl rfl)
theorem dX3_isWord_11 : decode cX3_isWord 11 = .ok (.baload, 1) := dk_51 (dk_at dksX3_isWord_0 11 rfl rfl)
theorem dX3_isWord_12 : decode cX3_isWord 12 = .ok (.iconst 3, 1) := dk_6 (dk_at dksX3_isWord_0 12 rfl rfl)
theorem dX3_isWord_13 : decode cX3_isWord 13 = .ok (.if_icmp .ne 23, 3) := dk_160 0 23 (dk_at dksX3_isWord_0 13 rfl rfl)
theorem dX3_isWord_16 : decode cX3_isWord 16 = .ok (.aload_n 0, 1) := dk_42 (dk_at dksX3_isWord_0 16 rfl rfl)
theorem dX3_isWord_17 : decode cX3_isWord 17 = .ok (.getfield 9, 3) := dk_180 0 9 (dk_at dksX3_isWord_0 17 rfl rfl)
theorem dX3_isWord_20 : decode cX3_isWord 20 = .ok (.getfield 52, 3) := dk_180 0 52 (dk_at dksX3_isWord_0 20 rfl rfl)
theorem dX3_isWord_23 : decode cX3_isWord 23 = .ok (.aload_n 0, 1) := dk_42 (dk_at dksX3_isWord_0 23 rfl rfl)
theorem dX3_isWord_24 : decode cX3_isWord 24 = .ok (.getfield 31, 3) := dk_180 0 31 (dk_at dksX3_isWord_1 0 rfl rfl)
theorem dX3_isWord_27 : decode cX3_isWord 27 = .ok (.saload, 1) := dk_53 (dk_at dksX3_isWord_1 3 rfl rfl)
theorem dX3_isWord_28 : decode cX3_isWord 28 = .ok (.iload_n 1, 1) := dk_27 (dk_at dksX3_isWord_1 4 rfl rfl)
theorem dX3_isWord_29 : decode cX3_isWord 29 = .ok (.if_icmp .ne 7, 3) := dk_160 0 7 (dk_at dksX3_isWord_1 5 rfl rfl)
theorem dX3_isWord_32 : decode cX3_isWord 32 = .ok (.iconst 1, 1) := dk_4 (dk_at dksX3_isWord_1 8 rfl rfl)
theorem dX3_isWord_33 : decode cX3_isWord 33 = .ok (.goto 4, 3) := dk_167 0 4 (dk_at dksX3_isWord_1 9 rfl rfl)
theorem dX3_isWord_36 : decode cX3_isWord 36 = .ok (.iconst 0, 1) := dk_3 (dk_at dksX3_isWord_1 12 rfl rfl)
theorem dX3_isWord_37 : decode cX3_isWord 37 = .ok (.ireturn, 1) := dk_172 (dk_at dksX3_isWord_1 13 rfl rfl)
abbrev cX3_begins : ByteArray := prog_11_method_15_code
def yX3_begins : MethodName := ⟨RX3, "begins", "(II)V"⟩
def dkwX3_begins_0 : List UInt8 := [27, 28, 160, 0, 9, 42, 5, 182, 0, 48, 191, 42, 182, 0, 59, 177]
abbrev dktX3_begins_0 : List UInt8 := dkwX3_begins_0 ++ []
theorem dksX3_begins_0 : cX3_begins.data.toList.drop 0 = dktX3_begins_0 := by decide +kernel
theorem dX3_begins_0 : decode cX3_begins 0 = .ok (.iload_n 1, 1) := dk_27 (dk_at dksX3_begins_0 0 rfl rfl)
theorem dX3_begins_1 : decode cX3_begins 1 = .ok (.iload_n 2, 1) := dk_28 (dk_at dksX3_begins_0 1 rfl rfl)
theorem dX3_begins_2 : decode cX3_begins 2 = .ok (.if_icmp .ne 9, 3) := dk_160 0 9 (dk_at dksX3_begins_0 2 rfl rfl)
theorem dX3_begins_5 : decode cX3_begins 5 = .ok (.aload_n 0, 1) := dk_42 (dk_at dksX3_begins_0 5 rfl rfl)
theorem dX3_begins_6 : decode cX3_begins 6 = .ok (.iconst 2, 1) := dk_5 (dk_at dksX3_begins_0 6 rfl rfl)
theorem dX3_begins_7 : decode cX3_begins 7 = .ok (.invokevirtual 48, 3) := dk_182 0 48 (dk_at dksX3_begins_0 7 rfl rfl)
theorem dX3_begins_10 : decode cX3_begins 10 = .ok (.athrow, 1) := dk_191 (dk_at dksX3_begins_0 10 rfl rfl)
theorem dX3_begins_11 : decode cX3_begins 11 = .ok (.aload_n 0, 1) := dk_42 (dk_at dksX3_begins_0 11 rfl rfl)
theorem dX3_begins_12 : decode cX3_begins 12 = .ok (.invokevirtual 59, 3) := dk_182 0 59 (dk_at dksX3_begins_0 12 rfl rfl)
theorem dX3_begins_15 : decode cX3_begins 15 = .ok (.return_, 1) := dk_177 (dk_at dksX3_begins_0 15 rfl rfl)
abbrev cX3_sum : ByteArray := prog_11_method_20_code
def yX3_sum : MethodName := ⟨RX3, "sum", "()LKnockerFaces$Sum;"⟩
def dkwX3_sum_2 : List UInt8 := [182, 0, 213, 183, 0, 218, 76, 167, 255, 207, 43, 176]
abbrev dktX3_sum_2 : List UInt8 := dkwX3_sum_2 ++ []
def dkwX3_sum_1 : List UInt8 := [180, 0, 9, 180, 0, 52, 42, 180, 0, 31, 53, 61, 42, 182, 0, 59, 187, 0, 216, 89, 28, 43, 42]
abbrev dktX3_sum_1 : List UInt8 := dkwX3_sum_1 ++ dktX3_sum_2
def dkwX3_sum_0 : List UInt8 := [42, 182, 0, 213, 76, 42, 16, 43, 182, 0, 55, 154, 0, 12, 42, 16, 45, 182, 0, 55, 153, 0, 37, 42]
abbrev dktX3_sum_0 : List UInt8 := dkwX3_sum_0 ++ dktX3_sum_1
theorem dksX3_sum_0 : cX3_sum.data.toList.drop 0 = dktX3_sum_0 := by decide +kernel
theorem dksX3_sum_1 : cX3_sum.data.toList.drop 24 = dktX3_sum_1 := dk_seg dksX3_sum_0 24 rfl rfl
theorem dksX3_sum_2 : cX3_sum.data.toList.drop 47 = dktX3_sum_2 := dk_seg dksX3_sum_1 23 rfl rfl
theorem dX3_sum_0 : decode cX3_sum 0 = .ok (.aload_n 0, 1) := dk_42 (dk_at dksX3_sum_0 0 rfl rfl)
theorem dX3_sum_1 : decode cX3_sum 1 = .ok (.invokevirtual 213, 3) := dk_182 0 213 (dk_at dksX3_sum_0 1 rfl rfl)
theorem dX3_sum_4 : decode cX3_sum 4 = .ok (.astore_n 1, 1) := dk_76 (dk_at dksX3_sum_0 4 rfl rfl)
theorem dX3_sum_5 : decode cX3_sum 5 = .ok (.aload_n 0, 1) := dk_42 (dk_at dksX3_sum_0 5 rfl rfl)
theorem dX3_sum_6 : decode cX3_sum 6 = .ok (.bipush 43, 2) := dk_16 43 (dk_at dksX3_sum_0 6 rfl rfl)
theorem dX3_sum_8 : decode cX3_sum 8 = .ok (.invokevirtual 55, 3) := dk_182 0 55 (dk_at dksX3_sum_0 8 rfl rfl)
theorem dX3_sum_11 : decode cX3_sum 11 = .ok (.ifCond .ne 12, 3) := dk_154 0 12 (dk_at dksX3_sum_0 11 rfl rfl)
theorem dX3_sum_14 : decode cX3_sum 14 = .ok (.aload_n 0, 1) := dk_42 (dk_at dksX3_sum_0 14 rfl rfl)
theorem dX3_sum_15 : decode cX3_sum 15 = .ok (.bipush 45, 2) := dk_16 45 (dk_at dksX3_sum_0 15 rfl rfl)
theorem dX3_sum_17 : decode cX3_sum 17 = .ok (.invokevirtual 55, 3) := dk_182 0 55 (dk_at dksX3_sum_0 17 rfl rfl)
theorem dX3_sum_20 : decode cX3_sum 20 = .ok (.ifCond .eq 37, 3) := dk_153 0 37 (dk_at dksX3_sum_0 20 rfl rfl)
theorem dX3_sum_23 : decode cX3_sum 23 = .ok (.aload_n 0, 1) := dk_42 (dk_at dksX3_sum_0 23 rfl rfl)
theorem dX3_sum_24 : decode cX3_sum 24 = .ok (.getfield 9, 3) := dk_180 0 9 (dk_at dksX3_sum_1 0 rfl rfl)
theorem dX3_sum_27 : decode cX3_sum 27 = .ok (.getfield 52, 3) := dk_180 0 52 (dk_at dksX3_sum_1 3 rfl rfl)
theorem dX3_sum_30 : decode cX3_sum 30 = .ok (.aload_n 0, 1) := dk_42 (dk_at dksX3_sum_1 6 rfl rfl)
theorem dX3_sum_31 : decode cX3_sum 31 = .ok (.getfield 31, 3) := dk_180 0 31 (dk_at dksX3_sum_1 7 rfl rfl)
theorem dX3_sum_34 : decode cX3_sum 34 = .ok (.saload, 1) := dk_53 (dk_at dksX3_sum_1 10 rfl rfl)
theorem dX3_sum_35 : decode cX3_sum 35 = .ok (.istore_n 2, 1) := dk_61 (dk_at dksX3_sum_1 11 rfl rfl)
theorem dX3_sum_36 : decode cX3_sum 36 = .ok (.aload_n 0, 1) := dk_42 (dk_at dksX3_sum_1 12 rfl rfl)
theorem dX3_sum_37 : decode cX3_sum 37 = .ok (.invokevirtual 59, 3) := dk_182 0 59 (dk_at dksX3_sum_1 13 rfl rfl)
theorem dX3_sum_40 : decode cX3_sum 40 = .ok (.new 216, 3) := dk_187 0 216 (dk_at dksX3_sum_1 16 rfl rfl)
theorem dX3_sum_43 : decode cX3_sum 43 = .ok (.dup, 1) := dk_89 (dk_at dksX3_sum_1 19 rfl rfl)
theorem dX3_sum_44 : decode cX3_sum 44 = .ok (.iload_n 2, 1) := dk_28 (dk_at dksX3_sum_1 20 rfl rfl)
theorem dX3_sum_45 : decode cX3_sum 45 = .ok (.aload_n 1, 1) := dk_43 (dk_at dksX3_sum_1 21 rfl rfl)
theorem dX3_sum_46 : decode cX3_sum 46 = .ok (.aload_n 0, 1) := dk_42 (dk_at dksX3_sum_1 22 rfl rfl)
theorem dX3_sum_47 : decode cX3_sum 47 = .ok (.invokevirtual 213, 3) := dk_182 0 213 (dk_at dksX3_sum_2 0 rfl rfl)
theorem dX3_sum_50 : decode cX3_sum 50 = .ok (.invokespecial 218, 3) := dk_183 0 218 (dk_at dksX3_sum_2 3 rfl rfl)
theorem dX3_sum_53 : decode cX3_sum 53 = .ok (.astore_n 1, 1) := dk_76 (dk_at dksX3_sum_2 6 rfl rfl)
theorem dX3_sum_54 : decode cX3_sum 54 = .ok (.goto (-49), 3) := dk_167 255 207 (dk_at dksX3_sum_2 7 rfl rfl)
theorem dX3_sum_57 : decode cX3_sum 57 = .ok (.aload_n 1, 1) := dk_43 (dk_at dksX3_sum_2 10 rfl rfl)
theorem dX3_sum_58 : decode cX3_sum 58 = .ok (.areturn, 1) := dk_176 (dk_at dksX3_sum_2 11 rfl rfl)
abbrev cX3_part : ByteArray := prog_11_method_21_code
def yX3_part : MethodName := ⟨RX3, "part", "()LKnockerFaces$Sum;"⟩
def dkwX3_part_2 : List UInt8 := [182, 0, 221, 183, 0, 218, 76, 167, 255, 207, 43, 176]
abbrev dktX3_part_2 : List UInt8 := dkwX3_part_2 ++ []
def dkwX3_part_1 : List UInt8 := [180, 0, 9, 180, 0, 52, 42, 180, 0, 31, 53, 61, 42, 182, 0, 59, 187, 0, 216, 89, 28, 43, 42]
abbrev dktX3_part_1 : List UInt8 := dkwX3_part_1 ++ dktX3_part_2
def dkwX3_part_0 : List UInt8 := [42, 182, 0, 221, 76, 42, 16, 42, 182, 0, 55, 154, 0, 12, 42, 16, 47, 182, 0, 55, 153, 0, 37, 42]
abbrev dktX3_part_0 : List UInt8 := dkwX3_part_0 ++ dktX3_part_1
theorem dksX3_part_0 : cX3_part.data.toList.drop 0 = dktX3_part_0 := by decide +kernel
theorem dksX3_part_1 : cX3_part.data.toList.drop 24 = dktX3_part_1 := dk_seg dksX3_part_0 24 rfl rfl
theorem dksX3_part_2 : cX3_part.data.toList.drop 47 = dktX3_part_2 := dk_seg dksX3_part_1 23 rfl rfl
theorem dX3_part_0 : decode cX3_part 0 = .ok (.aload_n 0, 1) := dk_42 (dk_at dksX3_part_0 0 rfl rfl)
theorem dX3_part_1 : decode cX3_part 1 = .ok (.invokevirtual 221, 3) := dk_182 0 221 (dk_at dksX3_part_0 1 rfl rfl)
theorem dX3_part_4 : decode cX3_part 4 = .ok (.astore_n 1, 1) := dk_76 (dk_at dksX3_part_0 4 rfl rfl)
theorem dX3_part_5 : decode cX3_part 5 = .ok (.aload_n 0, 1) := dk_42 (dk_at dksX3_part_0 5 rfl rfl)
theorem dX3_part_6 : decode cX3_part 6 = .ok (.bipush 42, 2) := dk_16 42 (dk_at dksX3_part_0 6 rfl rfl)
theorem dX3_part_8 : decode cX3_part 8 = .ok (.invokevirtual 55, 3) := dk_182 0 55 (dk_at dksX3_part_0 8 rfl rfl)
theorem dX3_part_11 : decode cX3_part 11 = .ok (.ifCond .ne 12, 3) := dk_154 0 12 (dk_at dksX3_part_0 11 rfl rfl)
theorem dX3_part_14 : decode cX3_part 14 = .ok (.aload_n 0, 1) := dk_42 (dk_at dksX3_part_0 14 rfl rfl)
theorem dX3_part_15 : decode cX3_part 15 = .ok (.bipush 47, 2) := dk_16 47 (dk_at dksX3_part_0 15 rfl rfl)
theorem dX3_part_17 : decode cX3_part 17 = .ok (.invokevirtual 55, 3) := dk_182 0 55 (dk_at dksX3_part_0 17 rfl rfl)
theorem dX3_part_20 : decode cX3_part 20 = .ok (.ifCond .eq 37, 3) := dk_153 0 37 (dk_at dksX3_part_0 20 rfl rfl)
theorem dX3_part_23 : decode cX3_part 23 = .ok (.aload_n 0, 1) := dk_42 (dk_at dksX3_part_0 23 rfl rfl)
theorem dX3_part_24 : decode cX3_part 24 = .ok (.getfield 9, 3) := dk_180 0 9 (dk_at dksX3_part_1 0 rfl rfl)
theorem dX3_part_27 : decode cX3_part 27 = .ok (.getfield 52, 3) := dk_180 0 52 (dk_at dksX3_part_1 3 rfl rfl)
theorem dX3_part_30 : decode cX3_part 30 = .ok (.aload_n 0, 1) := dk_42 (dk_at dksX3_part_1 6 rfl rfl)
theorem dX3_part_31 : decode cX3_part 31 = .ok (.getfield 31, 3) := dk_180 0 31 (dk_at dksX3_part_1 7 rfl rfl)
theorem dX3_part_34 : decode cX3_part 34 = .ok (.saload, 1) := dk_53 (dk_at dksX3_part_1 10 rfl rfl)
theorem dX3_part_35 : decode cX3_part 35 = .ok (.istore_n 2, 1) := dk_61 (dk_at dksX3_part_1 11 rfl rfl)
theorem dX3_part_36 : decode cX3_part 36 = .ok (.aload_n 0, 1) := dk_42 (dk_at dksX3_part_1 12 rfl rfl)
theorem dX3_part_37 : decode cX3_part 37 = .ok (.invokevirtual 59, 3) := dk_182 0 59 (dk_at dksX3_part_1 13 rfl rfl)
theorem dX3_part_40 : decode cX3_part 40 = .ok (.new 216, 3) := dk_187 0 216 (dk_at dksX3_part_1 16 rfl rfl)
theorem dX3_part_43 : decode cX3_part 43 = .ok (.dup, 1) := dk_89 (dk_at dksX3_part_1 19 rfl rfl)
theorem dX3_part_44 : decode cX3_part 44 = .ok (.iload_n 2, 1) := dk_28 (dk_at dksX3_part_1 20 rfl rfl)
theorem dX3_part_45 : decode cX3_part 45 = .ok (.aload_n 1, 1) := dk_43 (dk_at dksX3_part_1 21 rfl rfl)
theorem dX3_part_46 : decode cX3_part 46 = .ok (.aload_n 0, 1) := dk_42 (dk_at dksX3_part_1 22 rfl rfl)
theorem dX3_part_47 : decode cX3_part 47 = .ok (.invokevirtual 221, 3) := dk_182 0 221 (dk_at dksX3_part_2 0 rfl rfl)
theorem dX3_part_50 : decode cX3_part 50 = .ok (.invokespecial 218, 3) := dk_183 0 218 (dk_at dksX3_part_2 3 rfl rfl)
theorem dX3_part_53 : decode cX3_part 53 = .ok (.astore_n 1, 1) := dk_76 (dk_at dksX3_part_2 6 rfl rfl)
theorem dX3_part_54 : decode cX3_part 54 = .ok (.goto (-49), 3) := dk_167 255 207 (dk_at dksX3_part_2 7 rfl rfl)
theorem dX3_part_57 : decode cX3_part 57 = .ok (.aload_n 1, 1) := dk_43 (dk_at dksX3_part_2 10 rfl rfl)
theorem dX3_part_58 : decode cX3_part 58 = .ok (.areturn, 1) := dk_176 (dk_at dksX3_part_2 11 rfl rfl)
abbrev cX3_unit : ByteArray := prog_11_method_22_code
def yX3_unit : MethodName := ⟨RX3, "unit", "()LKnockerFaces$Sum;"⟩
def dkwX3_unit_6 : List UInt8 := [182, 0, 105, 42, 89, 180, 0, 99, 4, 100, 181, 0, 99, 43, 176]
abbrev dktX3_unit_6 : List UInt8 := dkwX3_unit_6 ++ []
def dkwX3_unit_5 : List UInt8 := [42, 89, 180, 0, 99, 4, 96, 181, 0, 99, 42, 182, 0, 59, 42, 182, 0, 200, 76, 42, 16, 41]
abbrev dktX3_unit_5 : List UInt8 := dkwX3_unit_5 ++ dktX3_unit_6
def dkwX3_unit_4 : List UInt8 := [154, 0, 9, 42, 4, 182, 0, 48, 191, 42, 180, 0, 99, 16, 6, 160, 0, 9, 42, 5, 182, 0, 48, 191]
abbrev dktX3_unit_4 : List UInt8 := dkwX3_unit_4 ++ dktX3_unit_5
def dkwX3_unit_3 : List UInt8 := [180, 0, 52, 42, 180, 0, 31, 4, 100, 53, 16, 12, 100, 183, 0, 230, 176, 42, 16, 40, 182, 0, 55]
abbrev dktX3_unit_3 : List UInt8 := dkwX3_unit_3 ++ dktX3_unit_4
def dkwX3_unit_2 : List UInt8 := [42, 180, 0, 31, 53, 16, 12, 161, 0, 32, 42, 182, 0, 59, 187, 0, 228, 89, 42, 180, 0, 9]
abbrev dktX3_unit_2 : List UInt8 := dkwX3_unit_2 ++ dktX3_unit_3
def dkwX3_unit_1 : List UInt8 := [4, 100, 182, 0, 72, 183, 0, 226, 176, 42, 182, 0, 65, 6, 160, 0, 49, 42, 180, 0, 9, 180, 0, 52]
abbrev dktX3_unit_1 : List UInt8 := dkwX3_unit_1 ++ dktX3_unit_2
def dkwX3_unit_0 : List UInt8 := [42, 182, 0, 65, 4, 160, 0, 28, 42, 182, 0, 59, 187, 0, 224, 89, 42, 180, 0, 9, 42, 180, 0, 31]
abbrev dktX3_unit_0 : List UInt8 := dkwX3_unit_0 ++ dktX3_unit_1
theorem dksX3_unit_0 : cX3_unit.data.toList.drop 0 = dktX3_unit_0 := by decide +kernel
theorem dksX3_unit_1 : cX3_unit.data.toList.drop 24 = dktX3_unit_1 := dk_seg dksX3_unit_0 24 rfl rfl
theorem dksX3_unit_2 : cX3_unit.data.toList.drop 48 = dktX3_unit_2 := dk_seg dksX3_unit_1 24 rfl rfl
theorem dksX3_unit_3 : cX3_unit.data.toList.drop 70 = dktX3_unit_3 := dk_seg dksX3_unit_2 22 rfl rfl
theorem dksX3_unit_4 : cX3_unit.data.toList.drop 93 = dktX3_unit_4 := dk_seg dksX3_unit_3 23 rfl rfl
theorem dksX3_unit_5 : cX3_unit.data.toList.drop 117 = dktX3_unit_5 := dk_seg dksX3_unit_4 24 rfl rfl
theorem dksX3_unit_6 : cX3_unit.data.toList.drop 139 = dktX3_unit_6 := dk_seg dksX3_unit_5 22 rfl rfl
theorem dX3_unit_0 : decode cX3_unit 0 = .ok (.aload_n 0, 1) := dk_42 (dk_at dksX3_unit_0 0 rfl rfl)
theorem dX3_unit_1 : decode cX3_unit 1 = .ok (.invokevirtual 65, 3) := dk_182 0 65 (dk_at dksX3_unit_0 1 rfl rfl)
theorem dX3_unit_4 : decode cX3_unit 4 = .ok (.iconst 1, 1) := dk_4 (dk_at dksX3_unit_0 4 rfl rfl)
theorem dX3_unit_5 : decode cX3_unit 5 = .ok (.if_icmp .ne 28, 3) := dk_160 0 28 (dk_at dksX3_unit_0 5 rfl rfl)
theorem dX3_unit_8 : decode cX3_unit 8 = .ok (.aload_n 0, 1) := dk_42 (dk_at dksX3_unit_0 8 rfl rfl)
theorem dX3_unit_9 : decode cX3_unit 9 = .ok (.invokevirtual 59, 3) := dk_182 0 59 (dk_at dksX3_unit_0 9 rfl rfl)
theorem dX3_unit_12 : decode cX3_unit 12 = .ok (.new 224, 3) := dk_187 0 224 (dk_at dksX3_unit_0 12 rfl rfl)
theorem dX3_unit_15 : decode cX3_unit 15 = .ok (.dup, 1) := dk_89 (dk_at dksX3_unit_0 15 rfl rfl)
theorem dX3_unit_16 : decode cX3_unit 16 = .ok (.aload_n 0, 1) := dk_42 (dk_at dksX3_unit_0 16 rfl rfl)
theorem dX3_unit_17 : decode cX3_unit 17 = .ok (.getfield 9, 3) := dk_180 0 9 (dk_at dksX3_unit_0 17 rfl rfl)
theorem dX3_unit_20 : decode cX3_unit 20 = .ok (.aload_n 0, 1) := dk_42 (dk_at dksX3_unit_0 20 rfl rfl)
theorem dX3_unit_21 : decode cX3_unit 21 = .ok (.getfield 31, 3) := dk_180 0 31 (dk_at dksX3_unit_0 21 rfl rfl)
theorem dX3_unit_24 : decode cX3_unit 24 = .ok (.iconst 1, 1) := dk_4 (dk_at dksX3_unit_1 0 rfl rfl)
theorem dX3_unit_25 : decode cX3_unit 25 = .ok (.isub, 1) := dk_100 (dk_at dksX3_unit_1 1 rfl rfl)
theorem dX3_unit_26 : decode cX3_unit 26 = .ok (.invokevirtual 72, 3) := dk_182 0 72 (dk_at dksX3_unit_1 2 rfl rfl)
theorem dX3_unit_29 : decode cX3_unit 29 = .ok (.invokespecial 226, 3) := dk_183 0 226 (dk_at dksX3_unit_1 5 rfl rfl)
theorem dX3_unit_32 : decode cX3_unit 32 = .ok (.areturn, 1) := dk_176 (dk_at dksX3_unit_1 8 rfl rfl)
theorem dX3_unit_33 : decode cX3_unit 33 = .ok (.aload_n 0, 1) := dk_42 (dk_at dksX3_unit_1 9 rfl rfl)
theorem dX3_unit_34 : decode cX3_unit 34 = .ok (.invokevirtual 65, 3) := dk_182 0 65 (dk_at dksX3_unit_1 10 rfl rfl)
theorem dX3_unit_37 : decode cX3_unit 37 = .ok (.iconst 3, 1) := dk_6 (dk_at dksX3_unit_1 13 rfl rfl)
theorem dX3_unit_38 : decode cX3_unit 38 = .ok (.if_icmp .ne 49, 3) := dk_160 0 49 (dk_at dksX3_unit_1 14 rfl rfl)
theorem dX3_unit_41 : decode cX3_unit 41 = .ok (.aload_n 0, 1) := dk_42 (dk_at dksX3_unit_1 17 rfl rfl)
theorem dX3_unit_42 : decode cX3_unit 42 = .ok (.getfield 9, 3) := dk_180 0 9 (dk_at dksX3_unit_1 18 rfl rfl)
theorem dX3_unit_45 : decode cX3_unit 45 = .ok (.getfield 52, 3) := dk_180 0 52 (dk_at dksX3_unit_1 21 rfl rfl)
theorem dX3_unit_48 : decode cX3_unit 48 = .ok (.aload_n 0, 1) := dk_42 (dk_at dksX3_unit_2 0 rfl rfl)
theorem dX3_unit_49 : decode cX3_unit 49 = .ok (.getfield 31, 3) := dk_180 0 31 (dk_at dksX3_unit_2 1 rfl rfl)
theorem dX3_unit_52 : decode cX3_unit 52 = .ok (.saload, 1) := dk_53 (dk_at dksX3_unit_2 4 rfl rfl)
theorem dX3_unit_53 : decode cX3_unit 53 = .ok (.bipush 12, 2) := dk_16 12 (dk_at dksX3_unit_2 5 rfl rfl)
theorem dX3_unit_55 : decode cX3_unit 55 = .ok (.if_icmp .lt 32, 3) := dk_161 0 32 (dk_at dksX3_unit_2 7 rfl rfl)
theorem dX3_unit_58 : decode cX3_unit 58 = .ok (.aload_n 0, 1) := dk_42 (dk_at dksX3_unit_2 10 rfl rfl)
theorem dX3_unit_59 : decode cX3_unit 59 = .ok (.invokevirtual 59, 3) := dk_182 0 59 (dk_at dksX3_unit_2 11 rfl rfl)
theorem dX3_unit_62 : decode cX3_unit 62 = .ok (.new 228, 3) := dk_187 0 228 (dk_at dksX3_unit_2 14 rfl rfl)
theorem dX3_unit_65 : decode cX3_unit 65 = .ok (.dup, 1) := dk_89 (dk_at dksX3_unit_2 17 rfl rfl)
theorem dX3_unit_66 : decode cX3_unit 66 = .ok (.aload_n 0, 1) := dk_42 (dk_at dksX3_unit_2 18 rfl rfl)
theorem dX3_unit_67 : decode cX3_unit 67 = .ok (.getfield 9, 3) := dk_180 0 9 (dk_at dksX3_unit_2 19 rfl rfl)
theorem dX3_unit_70 : decode cX3_unit 70 = .ok (.getfield 52, 3) := dk_180 0 52 (dk_at dksX3_unit_3 0 rfl rfl)
theorem dX3_unit_73 : decode cX3_unit 73 = .ok (.aload_n 0, 1) := dk_42 (dk_at dksX3_unit_3 3 rfl rfl)
theorem dX3_unit_74 : decode cX3_unit 74 = .ok (.getfield 31, 3) := dk_180 0 31 (dk_at dksX3_unit_3 4 rfl rfl)
theorem dX3_unit_77 : decode cX3_unit 77 = .ok (.iconst 1, 1) := dk_4 (dk_at dksX3_unit_3 7 rfl rfl)
theorem dX3_unit_78 : decode cX3_unit 78 = .ok (.isub, 1) := dk_100 (dk_at dksX3_unit_3 8 rfl rfl)
theorem dX3_unit_79 : decode cX3_unit 79 = .ok (.saload, 1) := dk_53 (dk_at dksX3_unit_3 9 rfl rfl)
theorem dX3_unit_80 : decode cX3_unit 80 = .ok (.bipush 12, 2) := dk_16 12 (dk_at dksX3_unit_3 10 rfl rfl)
theorem dX3_unit_82 : decode cX3_unit 82 = .ok (.isub, 1) := dk_100 (dk_at dksX3_unit_3 12 rfl rfl)
theorem dX3_unit_83 : decode cX3_unit 83 = .ok (.invokespecial 230, 3) := dk_183 0 230 (dk_at dksX3_unit_3 13 rfl rfl)
theorem dX3_unit_86 : decode cX3_unit 86 = .ok (.areturn, 1) := dk_176 (dk_at dksX3_unit_3 16 rfl rfl)
theorem dX3_unit_87 : decode cX3_unit 87 = .ok (.aload_n 0, 1) := dk_42 (dk_at dksX3_unit_3 17 rfl rfl)
theorem dX3_unit_88 : decode cX3_unit 88 = .ok (.bipush 40, 2) := dk_16 40 (dk_at dksX3_unit_3 18 rfl rfl)
theorem dX3_unit_90 : decode cX3_unit 90 = .ok (.invokevirtual 55, 3) := dk_182 0 55 (dk_at dksX3_unit_3 20 rfl rfl)
theorem dX3_unit_93 : decode cX3_unit 93 = .ok (.ifCond .ne 9, 3) := dk_154 0 9 (dk_at dksX3_unit_4 0 rfl rfl)
theorem dX3_unit_96 : decode cX3_unit 96 = .ok (.aload_n 0, 1) := dk_42 (dk_at dksX3_unit_4 3 rfl rfl)
theorem dX3_unit_97 : decode cX3_unit 97 = .ok (.iconst 1, 1) := dk_4 (dk_at dksX3_unit_4 4 rfl rfl)
theorem dX3_unit_98 : decode cX3_unit 98 = .ok (.invokevirtual 48, 3) := dk_182 0 48 (dk_at dksX3_unit_4 5 rfl rfl)
theorem dX3_unit_101 : decode cX3_unit 101 = .ok (.athrow, 1) := dk_191 (dk_at dksX3_unit_4 8 rfl rfl)
theorem dX3_unit_102 : decode cX3_unit 102 = .ok (.aload_n 0, 1) := dk_42 (dk_at dksX3_unit_4 9 rfl rfl)
theorem dX3_unit_103 : decode cX3_unit 103 = .ok (.getfield 99, 3) := dk_180 0 99 (dk_at dksX3_unit_4 10 rfl rfl)
theorem dX3_unit_106 : decode cX3_unit 106 = .ok (.bipush 6, 2) := dk_16 6 (dk_at dksX3_unit_4 13 rfl rfl)
theorem dX3_unit_108 : decode cX3_unit 108 = .ok (.if_icmp .ne 9, 3) := dk_160 0 9 (dk_at dksX3_unit_4 15 rfl rfl)
theorem dX3_unit_111 : decode cX3_unit 111 = .ok (.aload_n 0, 1) := dk_42 (dk_at dksX3_unit_4 18 rfl rfl)
theorem dX3_unit_112 : decode cX3_unit 112 = .ok (.iconst 2, 1) := dk_5 (dk_at dksX3_unit_4 19 rfl rfl)
theorem dX3_unit_113 : decode cX3_unit 113 = .ok (.invokevirtual 48, 3) := dk_182 0 48 (dk_at dksX3_unit_4 20 rfl rfl)
theorem dX3_unit_116 : decode cX3_unit 116 = .ok (.athrow, 1) := dk_191 (dk_at dksX3_unit_4 23 rfl rfl)
theorem dX3_unit_117 : decode cX3_unit 117 = .ok (.aload_n 0, 1) := dk_42 (dk_at dksX3_unit_5 0 rfl rfl)
theorem dX3_unit_118 : decode cX3_unit 118 = .ok (.dup, 1) := dk_89 (dk_at dksX3_unit_5 1 rfl rfl)
theorem dX3_unit_119 : decode cX3_unit 119 = .ok (.getfield 99, 3) := dk_180 0 99 (dk_at dksX3_unit_5 2 rfl rfl)
theorem dX3_unit_122 : decode cX3_unit 122 = .ok (.iconst 1, 1) := dk_4 (dk_at dksX3_unit_5 5 rfl rfl)
theorem dX3_unit_123 : decode cX3_unit 123 = .ok (.iadd, 1) := dk_96 (dk_at dksX3_unit_5 6 rfl rfl)
theorem dX3_unit_124 : decode cX3_unit 124 = .ok (.putfield 99, 3) := dk_181 0 99 (dk_at dksX3_unit_5 7 rfl rfl)
theorem dX3_unit_127 : decode cX3_unit 127 = .ok (.aload_n 0, 1) := dk_42 (dk_at dksX3_unit_5 10 rfl rfl)
theorem dX3_unit_128 : decode cX3_unit 128 = .ok (.invokevirtual 59, 3) := dk_182 0 59 (dk_at dksX3_unit_5 11 rfl rfl)
theorem dX3_unit_131 : decode cX3_unit 131 = .ok (.aload_n 0, 1) := dk_42 (dk_at dksX3_unit_5 14 rfl rfl)
theorem dX3_unit_132 : decode cX3_unit 132 = .ok (.invokevirtual 200, 3) := dk_182 0 200 (dk_at dksX3_unit_5 15 rfl rfl)
theorem dX3_unit_135 : decode cX3_unit 135 = .ok (.astore_n 1, 1) := dk_76 (dk_at dksX3_unit_5 18 rfl rfl)
theorem dX3_unit_136 : decode cX3_unit 136 = .ok (.aload_n 0, 1) := dk_42 (dk_at dksX3_unit_5 19 rfl rfl)
theorem dX3_unit_137 : decode cX3_unit 137 = .ok (.bipush 41, 2) := dk_16 41 (dk_at dksX3_unit_5 20 rfl rfl)
theorem dX3_unit_139 : decode cX3_unit 139 = .ok (.invokevirtual 105, 3) := dk_182 0 105 (dk_at dksX3_unit_6 0 rfl rfl)
theorem dX3_unit_142 : decode cX3_unit 142 = .ok (.aload_n 0, 1) := dk_42 (dk_at dksX3_unit_6 3 rfl rfl)
theorem dX3_unit_143 : decode cX3_unit 143 = .ok (.dup, 1) := dk_89 (dk_at dksX3_unit_6 4 rfl rfl)
theorem dX3_unit_144 : decode cX3_unit 144 = .ok (.getfield 99, 3) := dk_180 0 99 (dk_at dksX3_unit_6 5 rfl rfl)
theorem dX3_unit_147 : decode cX3_unit 147 = .ok (.iconst 1, 1) := dk_4 (dk_at dksX3_unit_6 8 rfl rfl)
theorem dX3_unit_148 : decode cX3_unit 148 = .ok (.isub, 1) := dk_100 (dk_at dksX3_unit_6 9 rfl rfl)
theorem dX3_unit_149 : decode cX3_unit 149 = .ok (.putfield 99, 3) := dk_181 0 99 (dk_at dksX3_unit_6 10 rfl rfl)
theorem dX3_unit_152 : decode cX3_unit 152 = .ok (.aload_n 1, 1) := dk_43 (dk_at dksX3_unit_6 13 rfl rfl)
theorem dX3_unit_153 : decode cX3_unit 153 = .ok (.areturn, 1) := dk_176 (dk_at dksX3_unit_6 14 rfl rfl)
abbrev cX3_word : ByteArray := prog_11_method_10_code
def yX3_word : MethodName := ⟨RX3, "word", "(I)V"⟩
def dkwX3_word_0 : List UInt8 := [42, 27, 182, 0, 62, 154, 0, 9, 42, 4, 182, 0, 48, 191, 42, 182, 0, 59, 177]
abbrev dktX3_word_0 : List UInt8 := dkwX3_word_0 ++ []
theorem dksX3_word_0 : cX3_word.data.toList.drop 0 = dktX3_word_0 := by decide +kernel
theorem dX3_word_0 : decode cX3_word 0 = .ok (.aload_n 0, 1) := dk_42 (dk_at dksX3_word_0 0 rfl rfl)
theorem dX3_word_1 : decode cX3_word 1 = .ok (.iload_n 1, 1) := dk_27 (dk_at dksX3_word_0 1 rfl rfl)
theorem dX3_word_2 : decode cX3_word 2 = .ok (.invokevirtual 62, 3) := dk_182 0 62 (dk_at dksX3_word_0 2 rfl rfl)
theorem dX3_word_5 : decode cX3_word 5 = .ok (.ifCond .ne 9, 3) := dk_154 0 9 (dk_at dksX3_word_0 5 rfl rfl)
theorem dX3_word_8 : decode cX3_word 8 = .ok (.aload_n 0, 1) := dk_42 (dk_at dksX3_word_0 8 rfl rfl)
theorem dX3_word_9 : decode cX3_word 9 = .ok (.iconst 1, 1) := dk_4 (dk_at dksX3_word_0 9 rfl rfl)
theorem dX3_word_10 : decode cX3_word 10 = .ok (.invokevirtual 48, 3) := dk_182 0 48 (dk_at dksX3_word_0 10 rfl rfl)
theorem dX3_word_13 : decode cX3_word 13 = .ok (.athrow, 1) := dk_191 (dk_at dksX3_word_0 13 rfl rfl)
theorem dX3_word_14 : decode cX3_word 14 = .ok (.aload_n 0, 1) := dk_42 (dk_at dksX3_word_0 14 rfl rfl)
theorem dX3_word_15 : decode cX3_word 15 = .ok (.invokevirtual 59, 3) := dk_182 0 59 (dk_at dksX3_word_0 15 rfl rfl)
theorem dX3_word_18 : decode cX3_word 18 = .ok (.return_, 1) := dk_177 (dk_at dksX3_word_0 18 rfl rfl)
abbrev cX3_name : ByteArray := prog_11_method_13_code
def yX3_name : MethodName := ⟨RX3, "name", "()Ljava/lang/String;"⟩
def dkwX3_name_1 : List UInt8 := [153, 0, 9, 42, 6, 27, 182, 0, 75, 44, 176]
abbrev dktX3_name_1 : List UInt8 := dkwX3_name_1 ++ []
def dkwX3_name_0 : List UInt8 := [42, 3, 182, 0, 68, 60, 42, 180, 0, 9, 27, 182, 0, 79, 77, 42, 180, 0, 83, 44, 182, 0, 86]
abbrev dktX3_name_0 : List UInt8 := dkwX3_name_0 ++ dktX3_name_1
theorem dksX3_name_0 : cX3_name.data.toList.drop 0 = dktX3_name_0 := by decide +kernel
theorem dksX3_name_1 : cX3_name.data.toList.drop 23 = dktX3_name_1 := dk_seg dksX3_name_0 23 rfl rfl
theorem dX3_name_0 : decode cX3_name 0 = .ok (.aload_n 0, 1) := dk_42 (dk_at dksX3_name_0 0 rfl rfl)
theorem dX3_name_1 : decode cX3_name 1 = .ok (.iconst 0, 1) := dk_3 (dk_at dksX3_name_0 1 rfl rfl)
theorem dX3_name_2 : decode cX3_name 2 = .ok (.invokevirtual 68, 3) := dk_182 0 68 (dk_at dksX3_name_0 2 rfl rfl)
theorem dX3_name_5 : decode cX3_name 5 = .ok (.istore_n 1, 1) := dk_60 (dk_at dksX3_name_0 5 rfl rfl)
theorem dX3_name_6 : decode cX3_name 6 = .ok (.aload_n 0, 1) := dk_42 (dk_at dksX3_name_0 6 rfl rfl)
theorem dX3_name_7 : decode cX3_name 7 = .ok (.getfield 9, 3) := dk_180 0 9 (dk_at dksX3_name_0 7 rfl rfl)
theorem dX3_name_10 : decode cX3_name 10 = .ok (.iload_n 1, 1) := dk_27 (dk_at dksX3_name_0 10 rfl rfl)
theorem dX3_name_11 : decode cX3_name 11 = .ok (.invokevirtual 79, 3) := dk_182 0 79 (dk_at dksX3_name_0 11 rfl rfl)
theorem dX3_name_14 : decode cX3_name 14 = .ok (.astore_n 2, 1) := dk_77 (dk_at dksX3_name_0 14 rfl rfl)
theorem dX3_name_15 : decode cX3_name 15 = .ok (.aload_n 0, 1) := dk_42 (dk_at dksX3_name_0 15 rfl rfl)
theorem dX3_name_16 : decode cX3_name 16 = .ok (.getfield 83, 3) := dk_180 0 83 (dk_at dksX3_name_0 16 rfl rfl)
theorem dX3_name_19 : decode cX3_name 19 = .ok (.aload_n 2, 1) := dk_44 (dk_at dksX3_name_0 19 rfl rfl)
theorem dX3_name_20 : decode cX3_name 20 = .ok (.invokevirtual 86, 3) := dk_182 0 86 (dk_at dksX3_name_0 20 rfl rfl)
theorem dX3_name_23 : decode cX3_name 23 = .ok (.ifCond .eq 9, 3) := dk_153 0 9 (dk_at dksX3_name_1 0 rfl rfl)
theorem dX3_name_26 : decode cX3_name 26 = .ok (.aload_n 0, 1) := dk_42 (dk_at dksX3_name_1 3 rfl rfl)
theorem dX3_name_27 : decode cX3_name 27 = .ok (.iconst 3, 1) := dk_6 (dk_at dksX3_name_1 4 rfl rfl)
theorem dX3_name_28 : decode cX3_name 28 = .ok (.iload_n 1, 1) := dk_27 (dk_at dksX3_name_1 5 rfl rfl)
theorem dX3_name_29 : decode cX3_name 29 = .ok (.invokevirtual 75, 3) := dk_182 0 75 (dk_at dksX3_name_1 6 rfl rfl)
theorem dX3_name_32 : decode cX3_name 32 = .ok (.aload_n 2, 1) := dk_44 (dk_at dksX3_name_1 9 rfl rfl)
theorem dX3_name_33 : decode cX3_name 33 = .ok (.areturn, 1) := dk_176 (dk_at dksX3_name_1 10 rfl rfl)
abbrev cX3_take : ByteArray := prog_11_method_11_code
def yX3_take : MethodName := ⟨RX3, "take", "(I)I"⟩
def dkwX3_take_1 : List UInt8 := [172]
abbrev dktX3_take_1 : List UInt8 := dkwX3_take_1 ++ []
def dkwX3_take_0 : List UInt8 := [42, 182, 0, 65, 27, 159, 0, 9, 42, 4, 182, 0, 48, 191, 42, 182, 0, 59, 42, 180, 0, 31, 4, 100]
abbrev dktX3_take_0 : List UInt8 := dkwX3_take_0 ++ dktX3_take_1
theorem dksX3_take_0 : cX3_take.data.toList.drop 0 = dktX3_take_0 := by decide +kernel
theorem dksX3_take_1 : cX3_take.data.toList.drop 24 = dktX3_take_1 := dk_seg dksX3_take_0 24 rfl rfl
theorem dX3_take_0 : decode cX3_take 0 = .ok (.aload_n 0, 1) := dk_42 (dk_at dksX3_take_0 0 rfl rfl)
theorem dX3_take_1 : decode cX3_take 1 = .ok (.invokevirtual 65, 3) := dk_182 0 65 (dk_at dksX3_take_0 1 rfl rfl)
theorem dX3_take_4 : decode cX3_take 4 = .ok (.iload_n 1, 1) := dk_27 (dk_at dksX3_take_0 4 rfl rfl)
theorem dX3_take_5 : decode cX3_take 5 = .ok (.if_icmp .eq 9, 3) := dk_159 0 9 (dk_at dksX3_take_0 5 rfl rfl)
theorem dX3_take_8 : decode cX3_take 8 = .ok (.aload_n 0, 1) := dk_42 (dk_at dksX3_take_0 8 rfl rfl)
theorem dX3_take_9 : decode cX3_take 9 = .ok (.iconst 1, 1) := dk_4 (dk_at dksX3_take_0 9 rfl rfl)
theorem dX3_take_10 : decode cX3_take 10 = .ok (.invokevirtual 48, 3) := dk_182 0 48 (dk_at dksX3_take_0 10 rfl rfl)
theorem dX3_take_13 : decode cX3_take 13 = .ok (.athrow, 1) := dk_191 (dk_at dksX3_take_0 13 rfl rfl)
theorem dX3_take_14 : decode cX3_take 14 = .ok (.aload_n 0, 1) := dk_42 (dk_at dksX3_take_0 14 rfl rfl)
theorem dX3_take_15 : decode cX3_take 15 = .ok (.invokevirtual 59, 3) := dk_182 0 59 (dk_at dksX3_take_0 15 rfl rfl)
theorem dX3_take_18 : decode cX3_take 18 = .ok (.aload_n 0, 1) := dk_42 (dk_at dksX3_take_0 18 rfl rfl)
theorem dX3_take_19 : decode cX3_take 19 = .ok (.getfield 31, 3) := dk_180 0 31 (dk_at dksX3_take_0 19 rfl rfl)
theorem dX3_take_22 : decode cX3_take 22 = .ok (.iconst 1, 1) := dk_4 (dk_at dksX3_take_0 22 rfl rfl)
theorem dX3_take_23 : decode cX3_take 23 = .ok (.isub, 1) := dk_100 (dk_at dksX3_take_0 23 rfl rfl)
theorem dX3_take_24 : decode cX3_take 24 = .ok (.ireturn, 1) := dk_172 (dk_at dksX3_take_1 0 rfl rfl)
abbrev cX3_tell : ByteArray := prog_11_method_4_code
def yX3_tell : MethodName := ⟨RX3, "tell", "(II)V"⟩
def dkwX3_tell_1 : List UInt8 := [42, 180, 0, 38, 161, 0, 4, 177, 42, 27, 181, 0, 38, 42, 28, 181, 0, 41, 177]
abbrev dktX3_tell_1 : List UInt8 := dkwX3_tell_1 ++ []
def dkwX3_tell_0 : List UInt8 := [42, 180, 0, 38, 153, 0, 28, 28, 42, 180, 0, 41, 163, 0, 19, 28, 42, 180, 0, 41, 160, 0, 12, 27]
abbrev dktX3_tell_0 : List UInt8 := dkwX3_tell_0 ++ dktX3_tell_1
theorem dksX3_tell_0 : cX3_tell.data.toList.drop 0 = dktX3_tell_0 := by decide +kernel
theorem dksX3_tell_1 : cX3_tell.data.toList.drop 24 = dktX3_tell_1 := dk_seg dksX3_tell_0 24 rfl rfl
theorem dX3_tell_0 : decode cX3_tell 0 = .ok (.aload_n 0, 1) := dk_42 (dk_at dksX3_tell_0 0 rfl rfl)
theorem dX3_tell_1 : decode cX3_tell 1 = .ok (.getfield 38, 3) := dk_180 0 38 (dk_at dksX3_tell_0 1 rfl rfl)
theorem dX3_tell_4 : decode cX3_tell 4 = .ok (.ifCond .eq 28, 3) := dk_153 0 28 (dk_at dksX3_tell_0 4 rfl rfl)
theorem dX3_tell_7 : decode cX3_tell 7 = .ok (.iload_n 2, 1) := dk_28 (dk_at dksX3_tell_0 7 rfl rfl)
theorem dX3_tell_8 : decode cX3_tell 8 = .ok (.aload_n 0, 1) := dk_42 (dk_at dksX3_tell_0 8 rfl rfl)
theorem dX3_tell_9 : decode cX3_tell 9 = .ok (.getfield 41, 3) := dk_180 0 41 (dk_at dksX3_tell_0 9 rfl rfl)
theorem dX3_tell_12 : decode cX3_tell 12 = .ok (.if_icmp .gt 19, 3) := dk_163 0 19 (dk_at dksX3_tell_0 12 rfl rfl)
theorem dX3_tell_15 : decode cX3_tell 15 = .ok (.iload_n 2, 1) := dk_28 (dk_at dksX3_tell_0 15 rfl rfl)
theorem dX3_tell_16 : decode cX3_tell 16 = .ok (.aload_n 0, 1) := dk_42 (dk_at dksX3_tell_0 16 rfl rfl)
theorem dX3_tell_17 : decode cX3_tell 17 = .ok (.getfield 41, 3) := dk_180 0 41 (dk_at dksX3_tell_0 17 rfl rfl)
theorem dX3_tell_20 : decode cX3_tell 20 = .ok (.if_icmp .ne 12, 3) := dk_160 0 12 (dk_at dksX3_tell_0 20 rfl rfl)
theorem dX3_tell_23 : decode cX3_tell 23 = .ok (.iload_n 1, 1) := dk_27 (dk_at dksX3_tell_0 23 rfl rfl)
theorem dX3_tell_24 : decode cX3_tell 24 = .ok (.aload_n 0, 1) := dk_42 (dk_at dksX3_tell_1 0 rfl rfl)
theorem dX3_tell_25 : decode cX3_tell 25 = .ok (.getfield 38, 3) := dk_180 0 38 (dk_at dksX3_tell_1 1 rfl rfl)
theorem dX3_tell_28 : decode cX3_tell 28 = .ok (.if_icmp .lt 4, 3) := dk_161 0 4 (dk_at dksX3_tell_1 4 rfl rfl)
theorem dX3_tell_31 : decode cX3_tell 31 = .ok (.return_, 1) := dk_177 (dk_at dksX3_tell_1 7 rfl rfl)
theorem dX3_tell_32 : decode cX3_tell 32 = .ok (.aload_n 0, 1) := dk_42 (dk_at dksX3_tell_1 8 rfl rfl)
theorem dX3_tell_33 : decode cX3_tell 33 = .ok (.iload_n 1, 1) := dk_27 (dk_at dksX3_tell_1 9 rfl rfl)
theorem dX3_tell_34 : decode cX3_tell 34 = .ok (.putfield 38, 3) := dk_181 0 38 (dk_at dksX3_tell_1 10 rfl rfl)
theorem dX3_tell_37 : decode cX3_tell 37 = .ok (.aload_n 0, 1) := dk_42 (dk_at dksX3_tell_1 13 rfl rfl)
theorem dX3_tell_38 : decode cX3_tell 38 = .ok (.iload_n 2, 1) := dk_28 (dk_at dksX3_tell_1 14 rfl rfl)
theorem dX3_tell_39 : decode cX3_tell 39 = .ok (.putfield 41, 3) := dk_181 0 41 (dk_at dksX3_tell_1 15 rfl rfl)
theorem dX3_tell_42 : decode cX3_tell 42 = .ok (.return_, 1) := dk_177 (dk_at dksX3_tell_1 18 rfl rfl)
abbrev cX3_face : ByteArray := prog_11_method_18_code
def yX3_face : MethodName := ⟨RX3, "face", "(LKnockerFaces$Named;)V"⟩
def dkwX3_face_1 : List UInt8 := [167, 255, 235, 177]
abbrev dktX3_face_1 : List UInt8 := dkwX3_face_1 ++ []
def dkwX3_face_0 : List UInt8 := [3, 61, 28, 7, 162, 0, 22, 43, 180, 0, 185, 28, 42, 3, 16, 99, 182, 0, 168, 79, 132, 2, 1]
abbrev dktX3_face_0 : List UInt8 := dkwX3_face_0 ++ dktX3_face_1
theorem dksX3_face_0 : cX3_face.data.toList.drop 0 = dktX3_face_0 := by decide +kernel
theorem dksX3_face_1 : cX3_face.data.toList.drop 23 = dktX3_face_1 := dk_seg dksX3_face_0 23 rfl rfl
theorem dX3_face_0 : decode cX3_face 0 = .ok (.iconst 0, 1) := dk_3 (dk_at dksX3_face_0 0 rfl rfl)
theorem dX3_face_1 : decode cX3_face 1 = .ok (.istore_n 2, 1) := dk_61 (dk_at dksX3_face_0 1 rfl rfl)
theorem dX3_face_2 : decode cX3_face 2 = .ok (.iload_n 2, 1) := dk_28 (dk_at dksX3_face_0 2 rfl rfl)
theorem dX3_face_3 : decode cX3_face 3 = .ok (.iconst 4, 1) := dk_7 (dk_at dksX3_face_0 3 rfl rfl)
theorem dX3_face_4 : decode cX3_face 4 = .ok (.if_icmp .ge 22, 3) := dk_162 0 22 (dk_at dksX3_face_0 4 rfl rfl)
theorem dX3_face_7 : decode cX3_face 7 = .ok (.aload_n 1, 1) := dk_43 (dk_at dksX3_face_0 7 rfl rfl)
theorem dX3_face_8 : decode cX3_face 8 = .ok (.getfield 185, 3) := dk_180 0 185 (dk_at dksX3_face_0 8 rfl rfl)
theorem dX3_face_11 : decode cX3_face 11 = .ok (.iload_n 2, 1) := dk_28 (dk_at dksX3_face_0 11 rfl rfl)
theorem dX3_face_12 : decode cX3_face 12 = .ok (.aload_n 0, 1) := dk_42 (dk_at dksX3_face_0 12 rfl rfl)
theorem dX3_face_13 : decode cX3_face 13 = .ok (.iconst 0, 1) := dk_3 (dk_at dksX3_face_0 13 rfl rfl)
theorem dX3_face_14 : decode cX3_face 14 = .ok (.bipush 99, 2) := dk_16 99 (dk_at dksX3_face_0 14 rfl rfl)
theorem dX3_face_16 : decode cX3_face 16 = .ok (.invokevirtual 168, 3) := dk_182 0 168 (dk_at dksX3_face_0 16 rfl rfl)
theorem dX3_face_19 : decode cX3_face 19 = .ok (.iastore, 1) := dk_79 (dk_at dksX3_face_0 19 rfl rfl)
theorem dX3_face_20 : decode cX3_face 20 = .ok (.iinc 2 1, 3) := dk_132 2 1 (dk_at dksX3_face_0 20 rfl rfl)
theorem dX3_face_23 : decode cX3_face 23 = .ok (.goto (-21), 3) := dk_167 255 235 (dk_at dksX3_face_1 0 rfl rfl)
theorem dX3_face_26 : decode cX3_face 26 = .ok (.return_, 1) := dk_177 (dk_at dksX3_face_1 3 rfl rfl)
abbrev cX3_number : ByteArray := prog_11_method_12_code
def yX3_number : MethodName := ⟨RX3, "number", "(II)I"⟩
def dkwX3_number_1 : List UInt8 := [28, 164, 0, 9, 42, 8, 29, 182, 0, 75, 21, 4, 172]
abbrev dktX3_number_1 : List UInt8 := dkwX3_number_1 ++ []
def dkwX3_number_0 : List UInt8 := [42, 4, 182, 0, 68, 62, 42, 180, 0, 9, 29, 182, 0, 72, 54, 4, 21, 4, 27, 161, 0, 9, 21, 4]
abbrev dktX3_number_0 : List UInt8 := dkwX3_number_0 ++ dktX3_number_1
theorem dksX3_number_0 : cX3_number.data.toList.drop 0 = dktX3_number_0 := by decide +kernel
theorem dksX3_number_1 : cX3_number.data.toList.drop 24 = dktX3_number_1 := dk_seg dksX3_number_0 24 rfl rfl
theorem dX3_number_0 : decode cX3_number 0 = .ok (.aload_n 0, 1) := dk_42 (dk_at dksX3_number_0 0 rfl rfl)
theorem dX3_number_1 : decode cX3_number 1 = .ok (.iconst 1, 1) := dk_4 (dk_at dksX3_number_0 1 rfl rfl)
theorem dX3_number_2 : decode cX3_number 2 = .ok (.invokevirtual 68, 3) := dk_182 0 68 (dk_at dksX3_number_0 2 rfl rfl)
theorem dX3_number_5 : decode cX3_number 5 = .ok (.istore_n 3, 1) := dk_62 (dk_at dksX3_number_0 5 rfl rfl)
theorem dX3_number_6 : decode cX3_number 6 = .ok (.aload_n 0, 1) := dk_42 (dk_at dksX3_number_0 6 rfl rfl)
theorem dX3_number_7 : decode cX3_number 7 = .ok (.getfield 9, 3) := dk_180 0 9 (dk_at dksX3_number_0 7 rfl rfl)
theorem dX3_number_10 : decode cX3_number 10 = .ok (.iload_n 3, 1) := dk_29 (dk_at dksX3_number_0 10 rfl rfl)
theorem dX3_number_11 : decode cX3_number 11 = .ok (.invokevirtual 72, 3) := dk_182 0 72 (dk_at dksX3_number_0 11 rfl rfl)
theorem dX3_number_14 : decode cX3_number 14 = .ok (.istore 4, 2) := dk_54 4 (dk_at dksX3_number_0 14 rfl rfl)
theorem dX3_number_16 : decode cX3_number 16 = .ok (.iload 4, 2) := dk_21 4 (dk_at dksX3_number_0 16 rfl rfl)
theorem dX3_number_18 : decode cX3_number 18 = .ok (.iload_n 1, 1) := dk_27 (dk_at dksX3_number_0 18 rfl rfl)
theorem dX3_number_19 : decode cX3_number 19 = .ok (.if_icmp .lt 9, 3) := dk_161 0 9 (dk_at dksX3_number_0 19 rfl rfl)
theorem dX3_number_22 : decode cX3_number 22 = .ok (.iload 4, 2) := dk_21 4 (dk_at dksX3_number_0 22 rfl rfl)
theorem dX3_number_24 : decode cX3_number 24 = .ok (.iload_n 2, 1) := dk_28 (dk_at dksX3_number_1 0 rfl rfl)
theorem dX3_number_25 : decode cX3_number 25 = .ok (.if_icmp .le 9, 3) := dk_164 0 9 (dk_at dksX3_number_1 1 rfl rfl)
theorem dX3_number_28 : decode cX3_number 28 = .ok (.aload_n 0, 1) := dk_42 (dk_at dksX3_number_1 4 rfl rfl)
theorem dX3_number_29 : decode cX3_number 29 = .ok (.iconst 5, 1) := dk_8 (dk_at dksX3_number_1 5 rfl rfl)
theorem dX3_number_30 : decode cX3_number 30 = .ok (.iload_n 3, 1) := dk_29 (dk_at dksX3_number_1 6 rfl rfl)
theorem dX3_number_31 : decode cX3_number 31 = .ok (.invokevirtual 75, 3) := dk_182 0 75 (dk_at dksX3_number_1 7 rfl rfl)
theorem dX3_number_34 : decode cX3_number 34 = .ok (.iload 4, 2) := dk_21 4 (dk_at dksX3_number_1 10 rfl rfl)
theorem dX3_number_36 : decode cX3_number 36 = .ok (.ireturn, 1) := dk_172 (dk_at dksX3_number_1 12 rfl rfl)
abbrev cX3_known : ByteArray := prog_11_method_14_code
def yX3_known : MethodName := ⟨RX3, "known", "(Ljava/util/ArrayList;)I"⟩
def dkwX3_known_1 : List UInt8 := [7, 28, 182, 0, 75, 29, 172]
abbrev dktX3_known_1 : List UInt8 := dkwX3_known_1 ++ []
def dkwX3_known_0 : List UInt8 := [42, 3, 182, 0, 68, 61, 43, 42, 180, 0, 9, 28, 182, 0, 79, 184, 0, 92, 62, 29, 156, 0, 9, 42]
abbrev dktX3_known_0 : List UInt8 := dkwX3_known_0 ++ dktX3_known_1
theorem dksX3_known_0 : cX3_known.data.toList.drop 0 = dktX3_known_0 := by decide +kernel
theorem dksX3_known_1 : cX3_known.data.toList.drop 24 = dktX3_known_1 := dk_seg dksX3_known_0 24 rfl rfl
theorem dX3_known_0 : decode cX3_known 0 = .ok (.aload_n 0, 1) := dk_42 (dk_at dksX3_known_0 0 rfl rfl)
theorem dX3_known_1 : decode cX3_known 1 = .ok (.iconst 0, 1) := dk_3 (dk_at dksX3_known_0 1 rfl rfl)
theorem dX3_known_2 : decode cX3_known 2 = .ok (.invokevirtual 68, 3) := dk_182 0 68 (dk_at dksX3_known_0 2 rfl rfl)
theorem dX3_known_5 : decode cX3_known 5 = .ok (.istore_n 2, 1) := dk_61 (dk_at dksX3_known_0 5 rfl rfl)
theorem dX3_known_6 : decode cX3_known 6 = .ok (.aload_n 1, 1) := dk_43 (dk_at dksX3_known_0 6 rfl rfl)
theorem dX3_known_7 : decode cX3_known 7 = .ok (.aload_n 0, 1) := dk_42 (dk_at dksX3_known_0 7 rfl rfl)
theorem dX3_known_8 : decode cX3_known 8 = .ok (.getfield 9, 3) := dk_180 0 9 (dk_at dksX3_known_0 8 rfl rfl)
theorem dX3_known_11 : decode cX3_known 11 = .ok (.iload_n 2, 1) := dk_28 (dk_at dksX3_known_0 11 rfl rfl)
theorem dX3_known_12 : decode cX3_known 12 = .ok (.invokevirtual 79, 3) := dk_182 0 79 (dk_at dksX3_known_0 12 rfl rfl)
theorem dX3_known_15 : decode cX3_known 15 = .ok (.invokestatic 92, 3) := dk_184 0 92 (dk_at dksX3_known_0 15 rfl rfl)
theorem dX3_known_18 : decode cX3_known 18 = .ok (.istore_n 3, 1) := dk_62 (dk_at dksX3_known_0 18 rfl rfl)
theorem dX3_known_19 : decode cX3_known 19 = .ok (.iload_n 3, 1) := dk_29 (dk_at dksX3_known_0 19 rfl rfl)
theorem dX3_known_20 : decode cX3_known 20 = .ok (.ifCond .ge 9, 3) := dk_156 0 9 (dk_at dksX3_known_0 20 rfl rfl)
theorem dX3_known_23 : decode cX3_known 23 = .ok (.aload_n 0, 1) := dk_42 (dk_at dksX3_known_0 23 rfl rfl)
theorem dX3_known_24 : decode cX3_known 24 = .ok (.iconst 4, 1) := dk_7 (dk_at dksX3_known_1 0 rfl rfl)
theorem dX3_known_25 : decode cX3_known 25 = .ok (.iload_n 2, 1) := dk_28 (dk_at dksX3_known_1 1 rfl rfl)
theorem dX3_known_26 : decode cX3_known 26 = .ok (.invokevirtual 75, 3) := dk_182 0 75 (dk_at dksX3_known_1 2 rfl rfl)
theorem dX3_known_29 : decode cX3_known 29 = .ok (.iload_n 3, 1) := dk_29 (dk_at dksX3_known_1 5 rfl rfl)
theorem dX3_known_30 : decode cX3_known 30 = .ok (.ireturn, 1) := dk_172 (dk_at dksX3_known_1 6 rfl rfl)
theorem q121 : (Jvm.Cond.initialized "KnockerFaces$Parser") ∈ lw_all := lw_g (lw_at lw_m1 7 rfl) rfl
theorem q270 : (Jvm.Cond.fieldLink "KnockerFaces$Parser" (44 : Nat) "KnockerFaces$Tokens" "sort" "[B") ∈ lw_all := lw_g (lw_at lw_m1 156 rfl) rfl
theorem q272 : (Jvm.Cond.fieldLink "KnockerFaces$Parser" (19 : Nat) "KnockerFaces$Tokens" "from" "[S") ∈ lw_all := lw_g (lw_at lw_m1 158 rfl) rfl
theorem q275 : (Jvm.Cond.fieldLink "KnockerFaces$Parser" (52 : Nat) "KnockerFaces$Tokens" "what" "[S") ∈ lw_all := lw_g (lw_at lw_m1 161 rfl) rfl
theorem q296 : (Jvm.Cond.instantiable "KnockerFaces$Parser" (7 : Nat)) ∈ lw_all := lw_g (lw_at lw_m1 182 rfl) rfl
theorem q298 : (Jvm.Cond.instanceMethod ({ cls := "KnockerFaces$Parser", name := "<init>", desc := "(LKnockerFaces$Tokens;LKnockerFaces$Fault;)V" } : Jvm.MethodName)) ∈ lw_all := lw_g (lw_at lw_m1 184 rfl) rfl
theorem q299 : (Jvm.Cond.code ({ cls := "KnockerFaces$Parser", name := "<init>", desc := "(LKnockerFaces$Tokens;LKnockerFaces$Fault;)V" } : Jvm.MethodName) prog_11_method_1_code (3 : Nat) (Option.none : Option Jvm.ClassFile.FieldType)) ∈ lw_all := lw_g (lw_at lw_m1 185 rfl) rfl
theorem q300 : (Jvm.Cond.methodLink "KnockerFaces$Parser" (3 : Nat) ({ cls := "java/lang/Object", name := "<init>", desc := "()V" } : Jvm.MethodName)) ∈ lw_all := lw_g (lw_at lw_m1 186 rfl) rfl
theorem q301 : (Jvm.Cond.fieldLink "KnockerFaces$Parser" (9 : Nat) "KnockerFaces$Parser" "t" "LKnockerFaces$Tokens;") ∈ lw_all := lw_g (lw_at lw_m1 187 rfl) rfl
theorem q302 : (Jvm.Cond.fieldLink "KnockerFaces$Parser" (15 : Nat) "KnockerFaces$Parser" "fault" "LKnockerFaces$Fault;") ∈ lw_all := lw_g (lw_at lw_m1 188 rfl) rfl
theorem q303 : (Jvm.Cond.fieldLink "KnockerFaces$Parser" (83 : Nat) "KnockerFaces$Parser" "text" "LKnockerFaces$Text;") ∈ lw_all := lw_g (lw_at lw_m1 189 rfl) rfl
theorem q304 : (Jvm.Cond.fieldLink "KnockerFaces$Parser" (31 : Nat) "KnockerFaces$Parser" "at" "I") ∈ lw_all := lw_g (lw_at lw_m1 190 rfl) rfl
theorem q305 : (Jvm.Cond.fieldLink "KnockerFaces$Parser" (99 : Nat) "KnockerFaces$Parser" "open" "I") ∈ lw_all := lw_g (lw_at lw_m1 191 rfl) rfl
theorem q306 : (Jvm.Cond.fieldLink "KnockerFaces$Parser" (38 : Nat) "KnockerFaces$Parser" "worst" "I") ∈ lw_all := lw_g (lw_at lw_m1 192 rfl) rfl
theorem q307 : (Jvm.Cond.fieldLink "KnockerFaces$Parser" (41 : Nat) "KnockerFaces$Parser" "worstToken" "I") ∈ lw_all := lw_g (lw_at lw_m1 193 rfl) rfl
theorem q308 : (Jvm.Cond.laysFinal "KnockerFaces$Parser" "KnockerFaces$Parser" "t" "LKnockerFaces$Tokens;") ∈ lw_all := lw_g (lw_at lw_m1 194 rfl) rfl
theorem q309 : (Jvm.Cond.soleField "KnockerFaces$Parser" "t") ∈ lw_all := lw_g (lw_at lw_m1 195 rfl) rfl
theorem q310 : (Jvm.Cond.laysFinal "KnockerFaces$Parser" "KnockerFaces$Parser" "fault" "LKnockerFaces$Fault;") ∈ lw_all := lw_g (lw_at lw_m1 196 rfl) rfl
theorem q311 : (Jvm.Cond.soleField "KnockerFaces$Parser" "fault") ∈ lw_all := lw_g (lw_at lw_m1 197 rfl) rfl
theorem q312 : (Jvm.Cond.lays "KnockerFaces$Parser" "KnockerFaces$Parser" "text" "LKnockerFaces$Text;") ∈ lw_all := lw_g (lw_at lw_m1 198 rfl) rfl
theorem q313 : (Jvm.Cond.soleField "KnockerFaces$Parser" "text") ∈ lw_all := lw_g (lw_at lw_m1 199 rfl) rfl
theorem q314 : (Jvm.Cond.lays "KnockerFaces$Parser" "KnockerFaces$Parser" "at" "I") ∈ lw_all := lw_g (lw_at lw_m1 200 rfl) rfl
theorem q315 : (Jvm.Cond.soleField "KnockerFaces$Parser" "at") ∈ lw_all := lw_g (lw_at lw_m1 201 rfl) rfl
theorem q316 : (Jvm.Cond.lays "KnockerFaces$Parser" "KnockerFaces$Parser" "open" "I") ∈ lw_all := lw_g (lw_at lw_m1 202 rfl) rfl
theorem q317 : (Jvm.Cond.soleField "KnockerFaces$Parser" "open") ∈ lw_all := lw_g (lw_at lw_m1 203 rfl) rfl
theorem q318 : (Jvm.Cond.lays "KnockerFaces$Parser" "KnockerFaces$Parser" "worst" "I") ∈ lw_all := lw_g (lw_at lw_m1 204 rfl) rfl
theorem q319 : (Jvm.Cond.soleField "KnockerFaces$Parser" "worst") ∈ lw_all := lw_g (lw_at lw_m1 205 rfl) rfl
theorem q320 : (Jvm.Cond.lays "KnockerFaces$Parser" "KnockerFaces$Parser" "worstToken" "I") ∈ lw_all := lw_g (lw_at lw_m1 206 rfl) rfl
theorem q321 : (Jvm.Cond.soleField "KnockerFaces$Parser" "worstToken") ∈ lw_all := lw_g (lw_at lw_m1 207 rfl) rfl
theorem q322 : (Jvm.Cond.superclass "KnockerFaces$Parser" "java/lang/Object") ∈ lw_all := lw_g (lw_at lw_m1 208 rfl) rfl
theorem q361 : (Jvm.Cond.fieldLink "KnockerFaces$Parser" (117 : Nat) "KnockerFaces$Text" "doors" "Ljava/util/ArrayList;") ∈ lw_all := lw_g (lw_at lw_m2 7 rfl) rfl
theorem q365 : (Jvm.Cond.fieldLink "KnockerFaces$Parser" (146 : Nat) "KnockerFaces$Text" "callers" "Ljava/util/ArrayList;") ∈ lw_all := lw_g (lw_at lw_m2 11 rfl) rfl
theorem q369 : (Jvm.Cond.fieldLink "KnockerFaces$Parser" (152 : Nat) "KnockerFaces$Text" "rounds" "Ljava/util/ArrayList;") ∈ lw_all := lw_g (lw_at lw_m2 15 rfl) rfl
theorem q372 : (Jvm.Cond.fieldLink "KnockerFaces$Parser" (109 : Nat) "KnockerFaces$Text" "laws" "[LKnockerFaces$Law;") ∈ lw_all := lw_g (lw_at lw_m2 18 rfl) rfl
theorem q374 : (Jvm.Cond.fieldLink "KnockerFaces$Parser" (176 : Nat) "KnockerFaces$Text" "wind" "I") ∈ lw_all := lw_g (lw_at lw_m2 20 rfl) rfl
theorem q377 : (Jvm.Cond.fieldLink "KnockerFaces$Parser" (179 : Nat) "KnockerFaces$Text" "near" "I") ∈ lw_all := lw_g (lw_at lw_m2 23 rfl) rfl
theorem q379 : (Jvm.Cond.fieldLink "KnockerFaces$Parser" (182 : Nat) "KnockerFaces$Text" "seed" "I") ∈ lw_all := lw_g (lw_at lw_m2 25 rfl) rfl
theorem q597 : (Jvm.Cond.instanceMethod ({ cls := "KnockerFaces$Parser", name := "read", desc := "()LKnockerFaces$Text;" } : Jvm.MethodName)) ∈ lw_all := lw_g (lw_at lw_m3 3 rfl) rfl
theorem q598 : (Jvm.Cond.selects "KnockerFaces$Parser" ({ cls := "KnockerFaces$Parser", name := "read", desc := "()LKnockerFaces$Text;" } : Jvm.MethodName) ({ cls := "KnockerFaces$Parser", name := "read", desc := "()LKnockerFaces$Text;" } : Jvm.MethodName)) ∈ lw_all := lw_g (lw_at lw_m3 4 rfl) rfl
theorem q599 : (Jvm.Cond.code ({ cls := "KnockerFaces$Parser", name := "read", desc := "()LKnockerFaces$Text;" } : Jvm.MethodName) prog_11_method_16_code (1 : Nat) (Option.some (Jvm.ClassFile.FieldType.object "KnockerFaces$Text"))) ∈ lw_all := lw_g (lw_at lw_m3 5 rfl) rfl
theorem q600 : (Jvm.Cond.methodLink "KnockerFaces$Parser" (95 : Nat) ({ cls := "KnockerFaces$Tokens", name := "read", desc := "()V" } : Jvm.MethodName)) ∈ lw_all := lw_g (lw_at lw_m3 6 rfl) rfl
theorem q674 : (Jvm.Cond.classLink "KnockerFaces$Parser" (87 : Nat) "KnockerFaces$Text") ∈ lw_all := lw_g (lw_at lw_m3 80 rfl) rfl
theorem q675 : (Jvm.Cond.methodLinkNest "KnockerFaces$Parser" (98 : Nat) ({ cls := "KnockerFaces$Text", name := "<init>", desc := "()V" } : Jvm.MethodName) "KnockerFaces") ∈ lw_tbl := lw_at lw_m3 81 rfl
theorem q676 : (Jvm.Cond.methodLink "KnockerFaces$Parser" (65 : Nat) ({ cls := "KnockerFaces$Parser", name := "sort", desc := "()I" } : Jvm.MethodName)) ∈ lw_all := lw_g (lw_at lw_m3 82 rfl) rfl
theorem q677 : (Jvm.Cond.privateMethod ({ cls := "KnockerFaces$Parser", name := "sort", desc := "()I" } : Jvm.MethodName)) ∈ lw_tbl := lw_at lw_m3 83 rfl
theorem q678 : (Jvm.Cond.instanceMethod ({ cls := "KnockerFaces$Parser", name := "sort", desc := "()I" } : Jvm.MethodName)) ∈ lw_all := lw_g (lw_at lw_m3 84 rfl) rfl
theorem q679 : (Jvm.Cond.code ({ cls := "KnockerFaces$Parser", name := "sort", desc := "()I" } : Jvm.MethodName) prog_11_method_5_code (1 : Nat) (Option.some Jvm.ClassFile.FieldType.int)) ∈ lw_all := lw_g (lw_at lw_m3 85 rfl) rfl
theorem q680 : (Jvm.Cond.methodLink "KnockerFaces$Parser" (48 : Nat) ({ cls := "KnockerFaces$Parser", name := "wrong", desc := "(I)LKnockerFaces$Fault;" } : Jvm.MethodName)) ∈ lw_all := lw_g (lw_at lw_m3 86 rfl) rfl
theorem q681 : (Jvm.Cond.privateMethod ({ cls := "KnockerFaces$Parser", name := "wrong", desc := "(I)LKnockerFaces$Fault;" } : Jvm.MethodName)) ∈ lw_tbl := lw_at lw_m3 87 rfl
theorem q682 : (Jvm.Cond.instanceMethod ({ cls := "KnockerFaces$Parser", name := "wrong", desc := "(I)LKnockerFaces$Fault;" } : Jvm.MethodName)) ∈ lw_all := lw_g (lw_at lw_m3 88 rfl) rfl
theorem q683 : (Jvm.Cond.code ({ cls := "KnockerFaces$Parser", name := "wrong", desc := "(I)LKnockerFaces$Fault;" } : Jvm.MethodName) prog_11_method_3_code (2 : Nat) (Option.some (Jvm.ClassFile.FieldType.object "KnockerFaces$Fault"))) ∈ lw_all := lw_g (lw_at lw_m3 89 rfl) rfl
theorem q684 : (Jvm.Cond.methodLink "KnockerFaces$Parser" (35 : Nat) ({ cls := "KnockerFaces$Parser", name := "wrongAt", desc := "(II)LKnockerFaces$Fault;" } : Jvm.MethodName)) ∈ lw_all := lw_g (lw_at lw_m3 90 rfl) rfl
theorem q685 : (Jvm.Cond.privateMethod ({ cls := "KnockerFaces$Parser", name := "wrongAt", desc := "(II)LKnockerFaces$Fault;" } : Jvm.MethodName)) ∈ lw_tbl := lw_at lw_m3 91 rfl
theorem q686 : (Jvm.Cond.instanceMethod ({ cls := "KnockerFaces$Parser", name := "wrongAt", desc := "(II)LKnockerFaces$Fault;" } : Jvm.MethodName)) ∈ lw_all := lw_g (lw_at lw_m3 92 rfl) rfl
theorem q687 : (Jvm.Cond.code ({ cls := "KnockerFaces$Parser", name := "wrongAt", desc := "(II)LKnockerFaces$Fault;" } : Jvm.MethodName) prog_11_method_2_code (3 : Nat) (Option.some (Jvm.ClassFile.FieldType.object "KnockerFaces$Fault"))) ∈ lw_all := lw_g (lw_at lw_m3 93 rfl) rfl
theorem q688 : (Jvm.Cond.methodLink "KnockerFaces$Parser" (25 : Nat) ({ cls := "KnockerFaces$Fault", name := "of", desc := "(II)LKnockerFaces$Fault;" } : Jvm.MethodName)) ∈ lw_all := lw_g (lw_at lw_m3 94 rfl) rfl
theorem q692 : (Jvm.Cond.methodLink "KnockerFaces$Parser" (102 : Nat) ({ cls := "KnockerFaces$Parser", name := "told", desc := "()V" } : Jvm.MethodName)) ∈ lw_all := lw_g (lw_at lw_m3 98 rfl) rfl
theorem q693 : (Jvm.Cond.privateMethod ({ cls := "KnockerFaces$Parser", name := "told", desc := "()V" } : Jvm.MethodName)) ∈ lw_tbl := lw_at lw_m3 99 rfl
theorem q694 : (Jvm.Cond.instanceMethod ({ cls := "KnockerFaces$Parser", name := "told", desc := "()V" } : Jvm.MethodName)) ∈ lw_all := lw_g (lw_at lw_m3 100 rfl) rfl
theorem q695 : (Jvm.Cond.code ({ cls := "KnockerFaces$Parser", name := "told", desc := "()V" } : Jvm.MethodName) prog_11_method_17_code (3 : Nat) (Option.none : Option Jvm.ClassFile.FieldType)) ∈ lw_all := lw_g (lw_at lw_m3 101 rfl) rfl
theorem q696 : (Jvm.Cond.methodLink "KnockerFaces$Parser" (59 : Nat) ({ cls := "KnockerFaces$Parser", name := "pass", desc := "()V" } : Jvm.MethodName)) ∈ lw_all := lw_g (lw_at lw_m3 102 rfl) rfl
theorem q697 : (Jvm.Cond.privateMethod ({ cls := "KnockerFaces$Parser", name := "pass", desc := "()V" } : Jvm.MethodName)) ∈ lw_tbl := lw_at lw_m3 103 rfl
theorem q698 : (Jvm.Cond.instanceMethod ({ cls := "KnockerFaces$Parser", name := "pass", desc := "()V" } : Jvm.MethodName)) ∈ lw_all := lw_g (lw_at lw_m3 104 rfl) rfl
theorem q699 : (Jvm.Cond.code ({ cls := "KnockerFaces$Parser", name := "pass", desc := "()V" } : Jvm.MethodName) prog_11_method_6_code (1 : Nat) (Option.none : Option Jvm.ClassFile.FieldType)) ∈ lw_all := lw_g (lw_at lw_m3 105 rfl) rfl
theorem q700 : (Jvm.Cond.methodLink "KnockerFaces$Parser" (113 : Nat) ({ cls := "KnockerFaces$Parser", name := "law", desc := "()LKnockerFaces$Law;" } : Jvm.MethodName)) ∈ lw_all := lw_g (lw_at lw_m3 106 rfl) rfl
theorem q701 : (Jvm.Cond.privateMethod ({ cls := "KnockerFaces$Parser", name := "law", desc := "()LKnockerFaces$Law;" } : Jvm.MethodName)) ∈ lw_tbl := lw_at lw_m3 107 rfl
theorem q702 : (Jvm.Cond.instanceMethod ({ cls := "KnockerFaces$Parser", name := "law", desc := "()LKnockerFaces$Law;" } : Jvm.MethodName)) ∈ lw_all := lw_g (lw_at lw_m3 108 rfl) rfl
theorem q703 : (Jvm.Cond.code ({ cls := "KnockerFaces$Parser", name := "law", desc := "()LKnockerFaces$Law;" } : Jvm.MethodName) prog_11_method_19_code (2 : Nat) (Option.some (Jvm.ClassFile.FieldType.object "KnockerFaces$Law"))) ∈ lw_all := lw_g (lw_at lw_m3 109 rfl) rfl
theorem q704 : (Jvm.Cond.classLink "KnockerFaces$Parser" (190 : Nat) "KnockerFaces$Law") ∈ lw_all := lw_g (lw_at lw_m3 110 rfl) rfl
theorem q706 : (Jvm.Cond.methodLinkNest "KnockerFaces$Parser" (192 : Nat) ({ cls := "KnockerFaces$Law", name := "<init>", desc := "()V" } : Jvm.MethodName) "KnockerFaces") ∈ lw_tbl := lw_at lw_m3 112 rfl
theorem q713 : (Jvm.Cond.fieldLink "KnockerFaces$Parser" (196 : Nat) "KnockerFaces$Law" "less" "[LKnockerFaces$Sum;") ∈ lw_all := lw_g (lw_at lw_m3 119 rfl) rfl
theorem q715 : (Jvm.Cond.fieldLink "KnockerFaces$Parser" (204 : Nat) "KnockerFaces$Law" "than" "[LKnockerFaces$Sum;") ∈ lw_all := lw_g (lw_at lw_m3 121 rfl) rfl
theorem q717 : (Jvm.Cond.fieldLink "KnockerFaces$Parser" (210 : Nat) "KnockerFaces$Law" "then" "[LKnockerFaces$Sum;") ∈ lw_all := lw_g (lw_at lw_m3 123 rfl) rfl
theorem q719 : (Jvm.Cond.fieldLink "KnockerFaces$Parser" (193 : Nat) "KnockerFaces$Law" "ifs" "I") ∈ lw_all := lw_g (lw_at lw_m3 125 rfl) rfl
theorem q729 : (Jvm.Cond.methodLink "KnockerFaces$Parser" (105 : Nat) ({ cls := "KnockerFaces$Parser", name := "sign", desc := "(I)V" } : Jvm.MethodName)) ∈ lw_all := lw_g (lw_at lw_m3 135 rfl) rfl
theorem q730 : (Jvm.Cond.privateMethod ({ cls := "KnockerFaces$Parser", name := "sign", desc := "(I)V" } : Jvm.MethodName)) ∈ lw_tbl := lw_at lw_m3 136 rfl
theorem q731 : (Jvm.Cond.instanceMethod ({ cls := "KnockerFaces$Parser", name := "sign", desc := "(I)V" } : Jvm.MethodName)) ∈ lw_all := lw_g (lw_at lw_m3 137 rfl) rfl
theorem q732 : (Jvm.Cond.code ({ cls := "KnockerFaces$Parser", name := "sign", desc := "(I)V" } : Jvm.MethodName) prog_11_method_9_code (2 : Nat) (Option.none : Option Jvm.ClassFile.FieldType)) ∈ lw_all := lw_g (lw_at lw_m3 138 rfl) rfl
theorem q733 : (Jvm.Cond.methodLink "KnockerFaces$Parser" (55 : Nat) ({ cls := "KnockerFaces$Parser", name := "isSign", desc := "(I)Z" } : Jvm.MethodName)) ∈ lw_all := lw_g (lw_at lw_m3 139 rfl) rfl
theorem q734 : (Jvm.Cond.privateMethod ({ cls := "KnockerFaces$Parser", name := "isSign", desc := "(I)Z" } : Jvm.MethodName)) ∈ lw_tbl := lw_at lw_m3 140 rfl
theorem q735 : (Jvm.Cond.instanceMethod ({ cls := "KnockerFaces$Parser", name := "isSign", desc := "(I)Z" } : Jvm.MethodName)) ∈ lw_all := lw_g (lw_at lw_m3 141 rfl) rfl
theorem q736 : (Jvm.Cond.code ({ cls := "KnockerFaces$Parser", name := "isSign", desc := "(I)Z" } : Jvm.MethodName) prog_11_method_7_code (2 : Nat) (Option.some Jvm.ClassFile.FieldType.boolean)) ∈ lw_all := lw_g (lw_at lw_m3 142 rfl) rfl
theorem q737 : (Jvm.Cond.methodLink "KnockerFaces$Parser" (62 : Nat) ({ cls := "KnockerFaces$Parser", name := "isWord", desc := "(I)Z" } : Jvm.MethodName)) ∈ lw_all := lw_g (lw_at lw_m3 143 rfl) rfl
theorem q738 : (Jvm.Cond.privateMethod ({ cls := "KnockerFaces$Parser", name := "isWord", desc := "(I)Z" } : Jvm.MethodName)) ∈ lw_tbl := lw_at lw_m3 144 rfl
theorem q739 : (Jvm.Cond.instanceMethod ({ cls := "KnockerFaces$Parser", name := "isWord", desc := "(I)Z" } : Jvm.MethodName)) ∈ lw_all := lw_g (lw_at lw_m3 145 rfl) rfl
theorem q740 : (Jvm.Cond.code ({ cls := "KnockerFaces$Parser", name := "isWord", desc := "(I)Z" } : Jvm.MethodName) prog_11_method_8_code (2 : Nat) (Option.some Jvm.ClassFile.FieldType.boolean)) ∈ lw_all := lw_g (lw_at lw_m3 146 rfl) rfl
theorem q741 : (Jvm.Cond.methodLink "KnockerFaces$Parser" (126 : Nat) ({ cls := "KnockerFaces$Parser", name := "begins", desc := "(II)V" } : Jvm.MethodName)) ∈ lw_all := lw_g (lw_at lw_m3 147 rfl) rfl
theorem q742 : (Jvm.Cond.privateMethod ({ cls := "KnockerFaces$Parser", name := "begins", desc := "(II)V" } : Jvm.MethodName)) ∈ lw_tbl := lw_at lw_m3 148 rfl
theorem q743 : (Jvm.Cond.instanceMethod ({ cls := "KnockerFaces$Parser", name := "begins", desc := "(II)V" } : Jvm.MethodName)) ∈ lw_all := lw_g (lw_at lw_m3 149 rfl) rfl
theorem q744 : (Jvm.Cond.code ({ cls := "KnockerFaces$Parser", name := "begins", desc := "(II)V" } : Jvm.MethodName) prog_11_method_15_code (3 : Nat) (Option.none : Option Jvm.ClassFile.FieldType)) ∈ lw_all := lw_g (lw_at lw_m3 150 rfl) rfl
theorem q745 : (Jvm.Cond.methodLink "KnockerFaces$Parser" (200 : Nat) ({ cls := "KnockerFaces$Parser", name := "sum", desc := "()LKnockerFaces$Sum;" } : Jvm.MethodName)) ∈ lw_all := lw_g (lw_at lw_m3 151 rfl) rfl
theorem q746 : (Jvm.Cond.privateMethod ({ cls := "KnockerFaces$Parser", name := "sum", desc := "()LKnockerFaces$Sum;" } : Jvm.MethodName)) ∈ lw_tbl := lw_at lw_m3 152 rfl
theorem q747 : (Jvm.Cond.instanceMethod ({ cls := "KnockerFaces$Parser", name := "sum", desc := "()LKnockerFaces$Sum;" } : Jvm.MethodName)) ∈ lw_all := lw_g (lw_at lw_m3 153 rfl) rfl
theorem q748 : (Jvm.Cond.code ({ cls := "KnockerFaces$Parser", name := "sum", desc := "()LKnockerFaces$Sum;" } : Jvm.MethodName) prog_11_method_20_code (3 : Nat) (Option.some (Jvm.ClassFile.FieldType.object "KnockerFaces$Sum"))) ∈ lw_all := lw_g (lw_at lw_m3 154 rfl) rfl
theorem q749 : (Jvm.Cond.methodLink "KnockerFaces$Parser" (213 : Nat) ({ cls := "KnockerFaces$Parser", name := "part", desc := "()LKnockerFaces$Sum;" } : Jvm.MethodName)) ∈ lw_all := lw_g (lw_at lw_m3 155 rfl) rfl
theorem q750 : (Jvm.Cond.privateMethod ({ cls := "KnockerFaces$Parser", name := "part", desc := "()LKnockerFaces$Sum;" } : Jvm.MethodName)) ∈ lw_tbl := lw_at lw_m3 156 rfl
theorem q751 : (Jvm.Cond.instanceMethod ({ cls := "KnockerFaces$Parser", name := "part", desc := "()LKnockerFaces$Sum;" } : Jvm.MethodName)) ∈ lw_all := lw_g (lw_at lw_m3 157 rfl) rfl
theorem q752 : (Jvm.Cond.code ({ cls := "KnockerFaces$Parser", name := "part", desc := "()LKnockerFaces$Sum;" } : Jvm.MethodName) prog_11_method_21_code (3 : Nat) (Option.some (Jvm.ClassFile.FieldType.object "KnockerFaces$Sum"))) ∈ lw_all := lw_g (lw_at lw_m3 158 rfl) rfl
theorem q753 : (Jvm.Cond.methodLink "KnockerFaces$Parser" (221 : Nat) ({ cls := "KnockerFaces$Parser", name := "unit", desc := "()LKnockerFaces$Sum;" } : Jvm.MethodName)) ∈ lw_all := lw_g (lw_at lw_m3 159 rfl) rfl
theorem q754 : (Jvm.Cond.privateMethod ({ cls := "KnockerFaces$Parser", name := "unit", desc := "()LKnockerFaces$Sum;" } : Jvm.MethodName)) ∈ lw_tbl := lw_at lw_m3 160 rfl
theorem q755 : (Jvm.Cond.instanceMethod ({ cls := "KnockerFaces$Parser", name := "unit", desc := "()LKnockerFaces$Sum;" } : Jvm.MethodName)) ∈ lw_all := lw_g (lw_at lw_m3 161 rfl) rfl
theorem q756 : (Jvm.Cond.code ({ cls := "KnockerFaces$Parser", name := "unit", desc := "()LKnockerFaces$Sum;" } : Jvm.MethodName) prog_11_method_22_code (2 : Nat) (Option.some (Jvm.ClassFile.FieldType.object "KnockerFaces$Sum"))) ∈ lw_all := lw_g (lw_at lw_m3 162 rfl) rfl
theorem q757 : (Jvm.Cond.classLink "KnockerFaces$Parser" (224 : Nat) "KnockerFaces$Number") ∈ lw_all := lw_g (lw_at lw_m3 163 rfl) rfl
theorem q759 : (Jvm.Cond.methodLink "KnockerFaces$Parser" (72 : Nat) ({ cls := "KnockerFaces$Tokens", name := "number", desc := "(I)I" } : Jvm.MethodName)) ∈ lw_all := lw_g (lw_at lw_m3 165 rfl) rfl
theorem q763 : (Jvm.Cond.methodLink "KnockerFaces$Parser" (226 : Nat) ({ cls := "KnockerFaces$Number", name := "<init>", desc := "(I)V" } : Jvm.MethodName)) ∈ lw_all := lw_g (lw_at lw_m3 169 rfl) rfl
theorem q774 : (Jvm.Cond.classLink "KnockerFaces$Parser" (228 : Nat) "KnockerFaces$Var") ∈ lw_all := lw_g (lw_at lw_m3 180 rfl) rfl
theorem q776 : (Jvm.Cond.methodLink "KnockerFaces$Parser" (230 : Nat) ({ cls := "KnockerFaces$Var", name := "<init>", desc := "(I)V" } : Jvm.MethodName)) ∈ lw_all := lw_g (lw_at lw_m3 182 rfl) rfl
theorem q784 : (Jvm.Cond.classLink "KnockerFaces$Parser" (216 : Nat) "KnockerFaces$Joined") ∈ lw_all := lw_g (lw_at lw_m3 190 rfl) rfl
theorem q786 : (Jvm.Cond.methodLink "KnockerFaces$Parser" (218 : Nat) ({ cls := "KnockerFaces$Joined", name := "<init>", desc := "(ILKnockerFaces$Sum;LKnockerFaces$Sum;)V" } : Jvm.MethodName)) ∈ lw_all := lw_g (lw_at lw_m3 192 rfl) rfl
theorem q800 : (Jvm.Cond.methodLink "KnockerFaces$Parser" (207 : Nat) ({ cls := "KnockerFaces$Parser", name := "word", desc := "(I)V" } : Jvm.MethodName)) ∈ lw_all := lw_g (lw_at lw_m3 206 rfl) rfl
theorem q801 : (Jvm.Cond.privateMethod ({ cls := "KnockerFaces$Parser", name := "word", desc := "(I)V" } : Jvm.MethodName)) ∈ lw_tbl := lw_at lw_m3 207 rfl
theorem q802 : (Jvm.Cond.instanceMethod ({ cls := "KnockerFaces$Parser", name := "word", desc := "(I)V" } : Jvm.MethodName)) ∈ lw_all := lw_g (lw_at lw_m3 208 rfl) rfl
theorem q803 : (Jvm.Cond.code ({ cls := "KnockerFaces$Parser", name := "word", desc := "(I)V" } : Jvm.MethodName) prog_11_method_10_code (2 : Nat) (Option.none : Option Jvm.ClassFile.FieldType)) ∈ lw_all := lw_g (lw_at lw_m3 209 rfl) rfl
theorem q804 : (Jvm.Cond.methodLink "KnockerFaces$Parser" (121 : Nat) ({ cls := "java/util/ArrayList", name := "size", desc := "()I" } : Jvm.MethodName)) ∈ lw_all := lw_g (lw_at lw_m3 210 rfl) rfl
theorem q805 : (Jvm.Cond.classLink "KnockerFaces$Parser" (129 : Nat) "KnockerFaces$Door") ∈ lw_all := lw_g (lw_at lw_m3 211 rfl) rfl
theorem q807 : (Jvm.Cond.methodLink "KnockerFaces$Parser" (131 : Nat) ({ cls := "KnockerFaces$Parser", name := "name", desc := "()Ljava/lang/String;" } : Jvm.MethodName)) ∈ lw_all := lw_g (lw_at lw_m3 213 rfl) rfl
theorem q808 : (Jvm.Cond.privateMethod ({ cls := "KnockerFaces$Parser", name := "name", desc := "()Ljava/lang/String;" } : Jvm.MethodName)) ∈ lw_tbl := lw_at lw_m3 214 rfl
theorem q809 : (Jvm.Cond.instanceMethod ({ cls := "KnockerFaces$Parser", name := "name", desc := "()Ljava/lang/String;" } : Jvm.MethodName)) ∈ lw_all := lw_g (lw_at lw_m3 215 rfl) rfl
theorem q810 : (Jvm.Cond.code ({ cls := "KnockerFaces$Parser", name := "name", desc := "()Ljava/lang/String;" } : Jvm.MethodName) prog_11_method_13_code (3 : Nat) (Option.some (Jvm.ClassFile.FieldType.object "java/lang/String"))) ∈ lw_all := lw_g (lw_at lw_m3 216 rfl) rfl
theorem q811 : (Jvm.Cond.methodLink "KnockerFaces$Parser" (68 : Nat) ({ cls := "KnockerFaces$Parser", name := "take", desc := "(I)I" } : Jvm.MethodName)) ∈ lw_all := lw_g (lw_at lw_m3 217 rfl) rfl
theorem q812 : (Jvm.Cond.privateMethod ({ cls := "KnockerFaces$Parser", name := "take", desc := "(I)I" } : Jvm.MethodName)) ∈ lw_tbl := lw_at lw_m3 218 rfl
theorem q813 : (Jvm.Cond.instanceMethod ({ cls := "KnockerFaces$Parser", name := "take", desc := "(I)I" } : Jvm.MethodName)) ∈ lw_all := lw_g (lw_at lw_m3 219 rfl) rfl
theorem q814 : (Jvm.Cond.code ({ cls := "KnockerFaces$Parser", name := "take", desc := "(I)I" } : Jvm.MethodName) prog_11_method_11_code (2 : Nat) (Option.some Jvm.ClassFile.FieldType.int)) ∈ lw_all := lw_g (lw_at lw_m3 220 rfl) rfl
theorem q815 : (Jvm.Cond.methodLink "KnockerFaces$Parser" (79 : Nat) ({ cls := "KnockerFaces$Tokens", name := "text", desc := "(I)Ljava/lang/String;" } : Jvm.MethodName)) ∈ lw_all := lw_g (lw_at lw_m3 221 rfl) rfl
theorem q981 : (Jvm.Cond.methodLink "KnockerFaces$Parser" (86 : Nat) ({ cls := "KnockerFaces$Text", name := "has", desc := "(Ljava/lang/String;)Z" } : Jvm.MethodName)) ∈ lw_all := lw_g (lw_at lw_m4 147 rfl) rfl
theorem q999 : (Jvm.Cond.methodLink "KnockerFaces$Parser" (75 : Nat) ({ cls := "KnockerFaces$Parser", name := "tell", desc := "(II)V" } : Jvm.MethodName)) ∈ lw_all := lw_g (lw_at lw_m4 165 rfl) rfl
theorem q1000 : (Jvm.Cond.privateMethod ({ cls := "KnockerFaces$Parser", name := "tell", desc := "(II)V" } : Jvm.MethodName)) ∈ lw_tbl := lw_at lw_m4 166 rfl
theorem q1001 : (Jvm.Cond.instanceMethod ({ cls := "KnockerFaces$Parser", name := "tell", desc := "(II)V" } : Jvm.MethodName)) ∈ lw_all := lw_g (lw_at lw_m4 167 rfl) rfl
theorem q1002 : (Jvm.Cond.code ({ cls := "KnockerFaces$Parser", name := "tell", desc := "(II)V" } : Jvm.MethodName) prog_11_method_4_code (3 : Nat) (Option.none : Option Jvm.ClassFile.FieldType)) ∈ lw_all := lw_g (lw_at lw_m4 168 rfl) rfl
theorem q1003 : (Jvm.Cond.methodLink "KnockerFaces$Parser" (135 : Nat) ({ cls := "KnockerFaces$Door", name := "<init>", desc := "(Ljava/lang/String;)V" } : Jvm.MethodName)) ∈ lw_all := lw_g (lw_at lw_m4 169 rfl) rfl
theorem q1017 : (Jvm.Cond.fieldLink "KnockerFaces$Parser" (185 : Nat) "KnockerFaces$Named" "face" "[I") ∈ lw_all := lw_g (lw_at lw_m4 183 rfl) rfl
theorem q1025 : (Jvm.Cond.methodLink "KnockerFaces$Parser" (138 : Nat) ({ cls := "KnockerFaces$Parser", name := "face", desc := "(LKnockerFaces$Named;)V" } : Jvm.MethodName)) ∈ lw_all := lw_g (lw_at lw_m4 191 rfl) rfl
theorem q1026 : (Jvm.Cond.privateMethod ({ cls := "KnockerFaces$Parser", name := "face", desc := "(LKnockerFaces$Named;)V" } : Jvm.MethodName)) ∈ lw_tbl := lw_at lw_m4 192 rfl
theorem q1027 : (Jvm.Cond.instanceMethod ({ cls := "KnockerFaces$Parser", name := "face", desc := "(LKnockerFaces$Named;)V" } : Jvm.MethodName)) ∈ lw_all := lw_g (lw_at lw_m4 193 rfl) rfl
theorem q1028 : (Jvm.Cond.code ({ cls := "KnockerFaces$Parser", name := "face", desc := "(LKnockerFaces$Named;)V" } : Jvm.MethodName) prog_11_method_18_code (3 : Nat) (Option.none : Option Jvm.ClassFile.FieldType)) ∈ lw_all := lw_g (lw_at lw_m4 194 rfl) rfl
theorem q1029 : (Jvm.Cond.methodLink "KnockerFaces$Parser" (168 : Nat) ({ cls := "KnockerFaces$Parser", name := "number", desc := "(II)I" } : Jvm.MethodName)) ∈ lw_all := lw_g (lw_at lw_m4 195 rfl) rfl
theorem q1030 : (Jvm.Cond.privateMethod ({ cls := "KnockerFaces$Parser", name := "number", desc := "(II)I" } : Jvm.MethodName)) ∈ lw_tbl := lw_at lw_m4 196 rfl
theorem q1031 : (Jvm.Cond.instanceMethod ({ cls := "KnockerFaces$Parser", name := "number", desc := "(II)I" } : Jvm.MethodName)) ∈ lw_all := lw_g (lw_at lw_m4 197 rfl) rfl
theorem q1032 : (Jvm.Cond.code ({ cls := "KnockerFaces$Parser", name := "number", desc := "(II)I" } : Jvm.MethodName) prog_11_method_12_code (5 : Nat) (Option.some Jvm.ClassFile.FieldType.int)) ∈ lw_all := lw_g (lw_at lw_m4 198 rfl) rfl
theorem q1033 : (Jvm.Cond.methodLink "KnockerFaces$Parser" (142 : Nat) ({ cls := "java/util/ArrayList", name := "add", desc := "(Ljava/lang/Object;)Z" } : Jvm.MethodName)) ∈ lw_all := lw_g (lw_at lw_m4 199 rfl) rfl
theorem q1065 : (Jvm.Cond.selects "KnockerFaces$Parser" ({ cls := "java/lang/Object", name := "getClass", desc := "()Ljava/lang/Class;" } : Jvm.MethodName) ({ cls := "java/lang/Object", name := "getClass", desc := "()Ljava/lang/Class;" } : Jvm.MethodName)) ∈ lw_all := lw_g (lw_at lw_m4 231 rfl) rfl
theorem q1085 : (Jvm.Cond.classLink "KnockerFaces$Parser" (149 : Nat) "KnockerFaces$Caller") ∈ lw_all := lw_g (lw_at lw_m5 11 rfl) rfl
theorem q1087 : (Jvm.Cond.methodLink "KnockerFaces$Parser" (151 : Nat) ({ cls := "KnockerFaces$Caller", name := "<init>", desc := "(Ljava/lang/String;)V" } : Jvm.MethodName)) ∈ lw_all := lw_g (lw_at lw_m5 13 rfl) rfl
theorem q1094 : (Jvm.Cond.classLink "KnockerFaces$Parser" (155 : Nat) "KnockerFaces$Round") ∈ lw_all := lw_g (lw_at lw_m5 20 rfl) rfl
theorem q1096 : (Jvm.Cond.methodLinkNest "KnockerFaces$Parser" (157 : Nat) ({ cls := "KnockerFaces$Round", name := "<init>", desc := "()V" } : Jvm.MethodName) "KnockerFaces") ∈ lw_tbl := lw_at lw_m5 22 rfl
theorem q1101 : (Jvm.Cond.fieldLink "KnockerFaces$Parser" (162 : Nat) "KnockerFaces$Round" "caller" "I") ∈ lw_all := lw_g (lw_at lw_m5 27 rfl) rfl
theorem q1104 : (Jvm.Cond.fieldLink "KnockerFaces$Parser" (165 : Nat) "KnockerFaces$Round" "door" "I") ∈ lw_all := lw_g (lw_at lw_m5 30 rfl) rfl
theorem q1107 : (Jvm.Cond.fieldLink "KnockerFaces$Parser" (171 : Nat) "KnockerFaces$Round" "every" "I") ∈ lw_all := lw_g (lw_at lw_m5 33 rfl) rfl
theorem q1110 : (Jvm.Cond.fieldLink "KnockerFaces$Parser" (174 : Nat) "KnockerFaces$Round" "from" "I") ∈ lw_all := lw_g (lw_at lw_m5 36 rfl) rfl
theorem q1121 : (Jvm.Cond.methodLink "KnockerFaces$Parser" (158 : Nat) ({ cls := "KnockerFaces$Parser", name := "known", desc := "(Ljava/util/ArrayList;)I" } : Jvm.MethodName)) ∈ lw_all := lw_g (lw_at lw_m5 47 rfl) rfl
theorem q1122 : (Jvm.Cond.privateMethod ({ cls := "KnockerFaces$Parser", name := "known", desc := "(Ljava/util/ArrayList;)I" } : Jvm.MethodName)) ∈ lw_tbl := lw_at lw_m5 48 rfl
theorem q1123 : (Jvm.Cond.instanceMethod ({ cls := "KnockerFaces$Parser", name := "known", desc := "(Ljava/util/ArrayList;)I" } : Jvm.MethodName)) ∈ lw_all := lw_g (lw_at lw_m5 49 rfl) rfl
theorem q1124 : (Jvm.Cond.code ({ cls := "KnockerFaces$Parser", name := "known", desc := "(Ljava/util/ArrayList;)I" } : Jvm.MethodName) prog_11_method_14_code (4 : Nat) (Option.some Jvm.ClassFile.FieldType.int)) ∈ lw_all := lw_g (lw_at lw_m5 50 rfl) rfl
theorem q1125 : (Jvm.Cond.methodLink "KnockerFaces$Parser" (92 : Nat) ({ cls := "KnockerFaces$Text", name := "at", desc := "(Ljava/util/ArrayList;Ljava/lang/String;)I" } : Jvm.MethodName)) ∈ lw_all := lw_g (lw_at lw_m5 51 rfl) rfl
theorem q2175 : (Jvm.Cond.castable "KnockerFaces$Parser" "java/lang/Object") ∈ lw_tbl := lw_at lw_m9 141 rfl
theorem in_X3 : ∀ w ∈ wsX30, w ∈ lw_all := lw_in wsX30 [308, 310, 312, 314, 316, 318, 320] (by decide +kernel) (by decide +kernel)
/-! KnockerFaces$Text -/
set_option maxRecDepth 100000
def RX4 : String := "KnockerFaces$Text"
def TX4 : u_T := fun k => match k with
  | 0 => ("KnockerFaces$Text", "doors", "Ljava/util/ArrayList;", true)
  | 1 => ("KnockerFaces$Text", "callers", "Ljava/util/ArrayList;", true)
  | 2 => ("KnockerFaces$Text", "rounds", "Ljava/util/ArrayList;", true)
  | 3 => ("KnockerFaces$Text", "laws", "[LKnockerFaces$Law;", true)
  | 4 => ("KnockerFaces$Text", "wind", "I", false)
  | 5 => ("KnockerFaces$Text", "near", "I", false)
  | _ => ("KnockerFaces$Text", "seed", "I", false)
def tyX4 : Nat → FieldType := fun k => match k with
  | 0 => .object "java/util/ArrayList"
  | 1 => .object "java/util/ArrayList"
  | 2 => .object "java/util/ArrayList"
  | 3 => .array (.object "KnockerFaces$Law")
  | 4 => .int
  | 5 => .int
  | _ => .int
abbrev wsX40 : List Cond := u_ws RX4 TX4 7
theorem nmX4 : ∀ a, a < 7 → ∀ b, b < 7 → a ≠ b → (TX4 a).2.1 ≠ (TX4 b).2.1 := by decide +kernel
theorem tyX4_ok : ∀ k, k < 7 → parseFieldDescriptor (TX4 k).2.2.1 = some (tyX4 k) := by decide +kernel
abbrev cX4_init : ByteArray := prog_16_method_1_code
def yX4_init : MethodName := ⟨RX4, "<init>", "()V"⟩
def dkwX4_init_2 : List UInt8 := [16, 40, 181, 0, 30, 177]
abbrev dktX4_init_2 : List UInt8 := dkwX4_init_2 ++ []
def dkwX4_init_1 : List UInt8 := [181, 0, 18, 42, 187, 0, 9, 89, 183, 0, 11, 181, 0, 21, 42, 6, 189, 0, 24, 181, 0, 26, 42]
abbrev dktX4_init_1 : List UInt8 := dkwX4_init_1 ++ dktX4_init_2
def dkwX4_init_0 : List UInt8 := [42, 183, 0, 3, 42, 187, 0, 9, 89, 183, 0, 11, 181, 0, 12, 42, 187, 0, 9, 89, 183, 0, 11]
abbrev dktX4_init_0 : List UInt8 := dkwX4_init_0 ++ dktX4_init_1
theorem dksX4_init_0 : cX4_init.data.toList.drop 0 = dktX4_init_0 := by decide +kernel
theorem dksX4_init_1 : cX4_init.data.toList.drop 23 = dktX4_init_1 := dk_seg dksX4_init_0 23 rfl rfl
theorem dksX4_init_2 : cX4_init.data.toList.drop 46 = dktX4_init_2 := dk_seg dksX4_init_1 23 rfl rfl
theorem dX4_init_0 : decode cX4_init 0 = .ok (.aload_n 0, 1) := dk_42 (dk_at dksX4_init_0 0 rfl rfl)
theorem dX4_init_1 : decode cX4_init 1 = .ok (.invokespecial 3, 3) := dk_183 0 3 (dk_at dksX4_init_0 1 rfl rfl)
theorem dX4_init_4 : decode cX4_init 4 = .ok (.aload_n 0, 1) := dk_42 (dk_at dksX4_init_0 4 rfl rfl)
theorem dX4_init_5 : decode cX4_init 5 = .ok (.new 9, 3) := dk_187 0 9 (dk_at dksX4_init_0 5 rfl rfl)
theorem dX4_init_8 : decode cX4_init 8 = .ok (.dup, 1) := dk_89 (dk_at dksX4_init_0 8 rfl rfl)
theorem dX4_init_9 : decode cX4_init 9 = .ok (.invokespecial 11, 3) := dk_183 0 11 (dk_at dksX4_init_0 9 rfl rfl)
theorem dX4_init_12 : decode cX4_init 12 = .ok (.putfield 12, 3) := dk_181 0 12 (dk_at dksX4_init_0 12 rfl rfl)
theorem dX4_init_15 : decode cX4_init 15 = .ok (.aload_n 0, 1) := dk_42 (dk_at dksX4_init_0 15 rfl rfl)
theorem dX4_init_16 : decode cX4_init 16 = .ok (.new 9, 3) := dk_187 0 9 (dk_at dksX4_init_0 16 rfl rfl)
theorem dX4_init_19 : decode cX4_init 19 = .ok (.dup, 1) := dk_89 (dk_at dksX4_init_0 19 rfl rfl)
theorem dX4_init_20 : decode cX4_init 20 = .ok (.invokespecial 11, 3) := dk_183 0 11 (dk_at dksX4_init_0 20 rfl rfl)
theorem dX4_init_23 : decode cX4_init 23 = .ok (.putfield 18, 3) := dk_181 0 18 (dk_at dksX4_init_1 0 rfl rfl)
theorem dX4_init_26 : decode cX4_init 26 = .ok (.aload_n 0, 1) := dk_42 (dk_at dksX4_init_1 3 rfl rfl)
theorem dX4_init_27 : decode cX4_init 27 = .ok (.new 9, 3) := dk_187 0 9 (dk_at dksX4_init_1 4 rfl rfl)
theorem dX4_init_30 : decode cX4_init 30 = .ok (.dup, 1) := dk_89 (dk_at dksX4_init_1 7 rfl rfl)
theorem dX4_init_31 : decode cX4_init 31 = .ok (.invokespecial 11, 3) := dk_183 0 11 (dk_at dksX4_init_1 8 rfl rfl)
theorem dX4_init_34 : decode cX4_init 34 = .ok (.putfield 21, 3) := dk_181 0 21 (dk_at dksX4_init_1 11 rfl rfl)
theorem dX4_init_37 : decode cX4_init 37 = .ok (.aload_n 0, 1) := dk_42 (dk_at dksX4_init_1 14 rfl rfl)
theorem dX4_init_38 : decode cX4_init 38 = .ok (.iconst 3, 1) := dk_6 (dk_at dksX4_init_1 15 rfl rfl)
theorem dX4_init_39 : decode cX4_init 39 = .ok (.anewarray 24, 3) := dk_189 0 24 (dk_at dksX4_init_1 16 rfl rfl)
theorem dX4_init_42 : decode cX4_init 42 = .ok (.putfield 26, 3) := dk_181 0 26 (dk_at dksX4_init_1 19 rfl rfl)
theorem dX4_init_45 : decode cX4_init 45 = .ok (.aload_n 0, 1) := dk_42 (dk_at dksX4_init_1 22 rfl rfl)
theorem dX4_init_46 : decode cX4_init 46 = .ok (.bipush 40, 2) := dk_16 40 (dk_at dksX4_init_2 0 rfl rfl)
theorem dX4_init_48 : decode cX4_init 48 = .ok (.putfield 30, 3) := dk_181 0 30 (dk_at dksX4_init_2 2 rfl rfl)
theorem dX4_init_51 : decode cX4_init 51 = .ok (.return_, 1) := dk_177 (dk_at dksX4_init_2 5 rfl rfl)
abbrev cX4_has : ByteArray := prog_16_method_3_code
def yX4_has : MethodName := ⟨RX4, "has", "(Ljava/lang/String;)Z"⟩
def dkwX4_has_1 : List UInt8 := [167, 0, 4, 3, 172]
abbrev dktX4_has_1 : List UInt8 := dkwX4_has_1 ++ []
def dkwX4_has_0 : List UInt8 := [42, 180, 0, 12, 43, 184, 0, 54, 156, 0, 14, 42, 180, 0, 18, 43, 184, 0, 54, 155, 0, 7, 4]
abbrev dktX4_has_0 : List UInt8 := dkwX4_has_0 ++ dktX4_has_1
theorem dksX4_has_0 : cX4_has.data.toList.drop 0 = dktX4_has_0 := by decide +kernel
theorem dksX4_has_1 : cX4_has.data.toList.drop 23 = dktX4_has_1 := dk_seg dksX4_has_0 23 rfl rfl
theorem dX4_has_0 : decode cX4_has 0 = .ok (.aload_n 0, 1) := dk_42 (dk_at dksX4_has_0 0 rfl rfl)
theorem dX4_has_1 : decode cX4_has 1 = .ok (.getfield 12, 3) := dk_180 0 12 (dk_at dksX4_has_0 1 rfl rfl)
theorem dX4_has_4 : decode cX4_has 4 = .ok (.aload_n 1, 1) := dk_43 (dk_at dksX4_has_0 4 rfl rfl)
theorem dX4_has_5 : decode cX4_has 5 = .ok (.invokestatic 54, 3) := dk_184 0 54 (dk_at dksX4_has_0 5 rfl rfl)
theorem dX4_has_8 : decode cX4_has 8 = .ok (.ifCond .ge 14, 3) := dk_156 0 14 (dk_at dksX4_has_0 8 rfl rfl)
theorem dX4_has_11 : decode cX4_has 11 = .ok (.aload_n 0, 1) := dk_42 (dk_at dksX4_has_0 11 rfl rfl)
theorem dX4_has_12 : decode cX4_has 12 = .ok (.getfield 18, 3) := dk_180 0 18 (dk_at dksX4_has_0 12 rfl rfl)
theorem dX4_has_15 : decode cX4_has 15 = .ok (.aload_n 1, 1) := dk_43 (dk_at dksX4_has_0 15 rfl rfl)
theorem dX4_has_16 : decode cX4_has 16 = .ok (.invokestatic 54, 3) := dk_184 0 54 (dk_at dksX4_has_0 16 rfl rfl)
theorem dX4_has_19 : decode cX4_has 19 = .ok (.ifCond .lt 7, 3) := dk_155 0 7 (dk_at dksX4_has_0 19 rfl rfl)
theorem dX4_has_22 : decode cX4_has 22 = .ok (.iconst 1, 1) := dk_4 (dk_at dksX4_has_0 22 rfl rfl)
theorem dX4_has_23 : decode cX4_has 23 = .ok (.goto 4, 3) := dk_167 0 4 (dk_at dksX4_has_1 0 rfl rfl)
theorem dX4_has_26 : decode cX4_has 26 = .ok (.iconst 0, 1) := dk_3 (dk_at dksX4_has_1 3 rfl rfl)
theorem dX4_has_27 : decode cX4_has 27 = .ok (.ireturn, 1) := dk_172 (dk_at dksX4_has_1 4 rfl rfl)
abbrev cX4_at : ByteArray := prog_16_method_2_code
def yX4_at : MethodName := ⟨RX4, "at", "(Ljava/util/ArrayList;Ljava/lang/String;)I"⟩
def dkwX4_at_1 : List UInt8 := [182, 0, 48, 153, 0, 5, 28, 172, 132, 2, 1, 167, 255, 225, 2, 172]
abbrev dktX4_at_1 : List UInt8 := dkwX4_at_1 ++ []
def dkwX4_at_0 : List UInt8 := [3, 61, 28, 42, 182, 0, 34, 162, 0, 29, 42, 28, 182, 0, 38, 192, 0, 42, 180, 0, 44, 43]
abbrev dktX4_at_0 : List UInt8 := dkwX4_at_0 ++ dktX4_at_1
theorem dksX4_at_0 : cX4_at.data.toList.drop 0 = dktX4_at_0 := by decide +kernel
theorem dksX4_at_1 : cX4_at.data.toList.drop 22 = dktX4_at_1 := dk_seg dksX4_at_0 22 rfl rfl
theorem dX4_at_0 : decode cX4_at 0 = .ok (.iconst 0, 1) := dk_3 (dk_at dksX4_at_0 0 rfl rfl)
theorem dX4_at_1 : decode cX4_at 1 = .ok (.istore_n 2, 1) := dk_61 (dk_at dksX4_at_0 1 rfl rfl)
theorem dX4_at_2 : decode cX4_at 2 = .ok (.iload_n 2, 1) := dk_28 (dk_at dksX4_at_0 2 rfl rfl)
theorem dX4_at_3 : decode cX4_at 3 = .ok (.aload_n 0, 1) := dk_42 (dk_at dksX4_at_0 3 rfl rfl)
theorem dX4_at_4 : decode cX4_at 4 = .ok (.invokevirtual 34, 3) := dk_182 0 34 (dk_at dksX4_at_0 4 rfl rfl)
theorem dX4_at_7 : decode cX4_at 7 = .ok (.if_icmp .ge 29, 3) := dk_162 0 29 (dk_at dksX4_at_0 7 rfl rfl)
theorem dX4_at_10 : decode cX4_at 10 = .ok (.aload_n 0, 1) := dk_42 (dk_at dksX4_at_0 10 rfl rfl)
theorem dX4_at_11 : decode cX4_at 11 = .ok (.iload_n 2, 1) := dk_28 (dk_at dksX4_at_0 11 rfl rfl)
theorem dX4_at_12 : decode cX4_at 12 = .ok (.invokevirtual 38, 3) := dk_182 0 38 (dk_at dksX4_at_0 12 rfl rfl)
theorem dX4_at_15 : decode cX4_at 15 = .ok (.checkcast 42, 3) := dk_192 0 42 (dk_at dksX4_at_0 15 rfl rfl)
theorem dX4_at_18 : decode cX4_at 18 = .ok (.getfield 44, 3) := dk_180 0 44 (dk_at dksX4_at_0 18 rfl rfl)
theorem dX4_at_21 : decode cX4_at 21 = .ok (.aload_n 1, 1) := dk_43 (dk_at dksX4_at_0 21 rfl rfl)
theorem dX4_at_22 : decode cX4_at 22 = .ok (.invokevirtual 48, 3) := dk_182 0 48 (dk_at dksX4_at_1 0 rfl rfl)
theorem dX4_at_25 : decode cX4_at 25 = .ok (.ifCond .eq 5, 3) := dk_153 0 5 (dk_at dksX4_at_1 3 rfl rfl)
theorem dX4_at_28 : decode cX4_at 28 = .ok (.iload_n 2, 1) := dk_28 (dk_at dksX4_at_1 6 rfl rfl)
theorem dX4_at_29 : decode cX4_at 29 = .ok (.ireturn, 1) := dk_172 (dk_at dksX4_at_1 7 rfl rfl)
theorem dX4_at_30 : decode cX4_at 30 = .ok (.iinc 2 1, 3) := dk_132 2 1 (dk_at dksX4_at_1 8 rfl rfl)
theorem dX4_at_33 : decode cX4_at 33 = .ok (.goto (-31), 3) := dk_167 255 225 (dk_at dksX4_at_1 11 rfl rfl)
theorem dX4_at_36 : decode cX4_at 36 = .ok (.iconst (-1), 1) := dk_2 (dk_at dksX4_at_1 14 rfl rfl)
theorem dX4_at_37 : decode cX4_at 37 = .ok (.ireturn, 1) := dk_172 (dk_at dksX4_at_1 15 rfl rfl)
theorem q122 : (Jvm.Cond.initialized "KnockerFaces$Text") ∈ lw_all := lw_g (lw_at lw_m1 8 rfl) rfl
theorem q324 : (Jvm.Cond.instantiable "KnockerFaces$Text" (7 : Nat)) ∈ lw_all := lw_g (lw_at lw_m1 210 rfl) rfl
theorem q326 : (Jvm.Cond.instanceMethod ({ cls := "KnockerFaces$Text", name := "<init>", desc := "()V" } : Jvm.MethodName)) ∈ lw_all := lw_g (lw_at lw_m1 212 rfl) rfl
theorem q327 : (Jvm.Cond.code ({ cls := "KnockerFaces$Text", name := "<init>", desc := "()V" } : Jvm.MethodName) prog_16_method_1_code (1 : Nat) (Option.none : Option Jvm.ClassFile.FieldType)) ∈ lw_all := lw_g (lw_at lw_m1 213 rfl) rfl
theorem q328 : (Jvm.Cond.methodLink "KnockerFaces$Text" (3 : Nat) ({ cls := "java/lang/Object", name := "<init>", desc := "()V" } : Jvm.MethodName)) ∈ lw_all := lw_g (lw_at lw_m1 214 rfl) rfl
theorem q329 : (Jvm.Cond.classLink "KnockerFaces$Text" (9 : Nat) "java/util/ArrayList") ∈ lw_all := lw_g (lw_at lw_m1 215 rfl) rfl
theorem q331 : (Jvm.Cond.methodLink "KnockerFaces$Text" (11 : Nat) ({ cls := "java/util/ArrayList", name := "<init>", desc := "()V" } : Jvm.MethodName)) ∈ lw_all := lw_g (lw_at lw_m1 217 rfl) rfl
theorem q355 : (Jvm.Cond.classLink "KnockerFaces$Text" (24 : Nat) "KnockerFaces$Law") ∈ lw_all := lw_g (lw_at lw_m2 1 rfl) rfl
theorem q357 : (Jvm.Cond.fieldLink "KnockerFaces$Text" (12 : Nat) "KnockerFaces$Text" "doors" "Ljava/util/ArrayList;") ∈ lw_all := lw_g (lw_at lw_m2 3 rfl) rfl
theorem q362 : (Jvm.Cond.fieldLink "KnockerFaces$Text" (18 : Nat) "KnockerFaces$Text" "callers" "Ljava/util/ArrayList;") ∈ lw_all := lw_g (lw_at lw_m2 8 rfl) rfl
theorem q366 : (Jvm.Cond.fieldLink "KnockerFaces$Text" (21 : Nat) "KnockerFaces$Text" "rounds" "Ljava/util/ArrayList;") ∈ lw_all := lw_g (lw_at lw_m2 12 rfl) rfl
theorem q370 : (Jvm.Cond.fieldLink "KnockerFaces$Text" (26 : Nat) "KnockerFaces$Text" "laws" "[LKnockerFaces$Law;") ∈ lw_all := lw_g (lw_at lw_m2 16 rfl) rfl
theorem q375 : (Jvm.Cond.fieldLink "KnockerFaces$Text" (30 : Nat) "KnockerFaces$Text" "near" "I") ∈ lw_all := lw_g (lw_at lw_m2 21 rfl) rfl
theorem q381 : (Jvm.Cond.laysFinal "KnockerFaces$Text" "KnockerFaces$Text" "doors" "Ljava/util/ArrayList;") ∈ lw_all := lw_g (lw_at lw_m2 27 rfl) rfl
theorem q382 : (Jvm.Cond.soleField "KnockerFaces$Text" "doors") ∈ lw_all := lw_g (lw_at lw_m2 28 rfl) rfl
theorem q383 : (Jvm.Cond.laysFinal "KnockerFaces$Text" "KnockerFaces$Text" "callers" "Ljava/util/ArrayList;") ∈ lw_all := lw_g (lw_at lw_m2 29 rfl) rfl
theorem q384 : (Jvm.Cond.soleField "KnockerFaces$Text" "callers") ∈ lw_all := lw_g (lw_at lw_m2 30 rfl) rfl
theorem q385 : (Jvm.Cond.laysFinal "KnockerFaces$Text" "KnockerFaces$Text" "rounds" "Ljava/util/ArrayList;") ∈ lw_all := lw_g (lw_at lw_m2 31 rfl) rfl
theorem q386 : (Jvm.Cond.soleField "KnockerFaces$Text" "rounds") ∈ lw_all := lw_g (lw_at lw_m2 32 rfl) rfl
theorem q387 : (Jvm.Cond.laysFinal "KnockerFaces$Text" "KnockerFaces$Text" "laws" "[LKnockerFaces$Law;") ∈ lw_all := lw_g (lw_at lw_m2 33 rfl) rfl
theorem q388 : (Jvm.Cond.soleField "KnockerFaces$Text" "laws") ∈ lw_all := lw_g (lw_at lw_m2 34 rfl) rfl
theorem q389 : (Jvm.Cond.lays "KnockerFaces$Text" "KnockerFaces$Text" "wind" "I") ∈ lw_all := lw_g (lw_at lw_m2 35 rfl) rfl
theorem q390 : (Jvm.Cond.soleField "KnockerFaces$Text" "wind") ∈ lw_all := lw_g (lw_at lw_m2 36 rfl) rfl
theorem q391 : (Jvm.Cond.lays "KnockerFaces$Text" "KnockerFaces$Text" "near" "I") ∈ lw_all := lw_g (lw_at lw_m2 37 rfl) rfl
theorem q392 : (Jvm.Cond.soleField "KnockerFaces$Text" "near") ∈ lw_all := lw_g (lw_at lw_m2 38 rfl) rfl
theorem q393 : (Jvm.Cond.lays "KnockerFaces$Text" "KnockerFaces$Text" "seed" "I") ∈ lw_all := lw_g (lw_at lw_m2 39 rfl) rfl
theorem q394 : (Jvm.Cond.soleField "KnockerFaces$Text" "seed") ∈ lw_all := lw_g (lw_at lw_m2 40 rfl) rfl
theorem q395 : (Jvm.Cond.superclass "KnockerFaces$Text" "java/lang/Object") ∈ lw_all := lw_g (lw_at lw_m2 41 rfl) rfl
theorem q982 : (Jvm.Cond.instanceMethod ({ cls := "KnockerFaces$Text", name := "has", desc := "(Ljava/lang/String;)Z" } : Jvm.MethodName)) ∈ lw_all := lw_g (lw_at lw_m4 148 rfl) rfl
theorem q983 : (Jvm.Cond.selects "KnockerFaces$Text" ({ cls := "KnockerFaces$Text", name := "has", desc := "(Ljava/lang/String;)Z" } : Jvm.MethodName) ({ cls := "KnockerFaces$Text", name := "has", desc := "(Ljava/lang/String;)Z" } : Jvm.MethodName)) ∈ lw_all := lw_g (lw_at lw_m4 149 rfl) rfl
theorem q984 : (Jvm.Cond.code ({ cls := "KnockerFaces$Text", name := "has", desc := "(Ljava/lang/String;)Z" } : Jvm.MethodName) prog_16_method_3_code (2 : Nat) (Option.some Jvm.ClassFile.FieldType.boolean)) ∈ lw_all := lw_g (lw_at lw_m4 150 rfl) rfl
theorem q985 : (Jvm.Cond.methodLink "KnockerFaces$Text" (54 : Nat) ({ cls := "KnockerFaces$Text", name := "at", desc := "(Ljava/util/ArrayList;Ljava/lang/String;)I" } : Jvm.MethodName)) ∈ lw_all := lw_g (lw_at lw_m4 151 rfl) rfl
theorem q986 : (Jvm.Cond.static ({ cls := "KnockerFaces$Text", name := "at", desc := "(Ljava/util/ArrayList;Ljava/lang/String;)I" } : Jvm.MethodName)) ∈ lw_all := lw_g (lw_at lw_m4 152 rfl) rfl
theorem q987 : (Jvm.Cond.code ({ cls := "KnockerFaces$Text", name := "at", desc := "(Ljava/util/ArrayList;Ljava/lang/String;)I" } : Jvm.MethodName) prog_16_method_2_code (3 : Nat) (Option.some Jvm.ClassFile.FieldType.int)) ∈ lw_all := lw_g (lw_at lw_m4 153 rfl) rfl
theorem q988 : (Jvm.Cond.methodLink "KnockerFaces$Text" (34 : Nat) ({ cls := "java/util/ArrayList", name := "size", desc := "()I" } : Jvm.MethodName)) ∈ lw_all := lw_g (lw_at lw_m4 154 rfl) rfl
theorem q989 : (Jvm.Cond.methodLink "KnockerFaces$Text" (38 : Nat) ({ cls := "java/util/ArrayList", name := "get", desc := "(I)Ljava/lang/Object;" } : Jvm.MethodName)) ∈ lw_all := lw_g (lw_at lw_m4 155 rfl) rfl
theorem q990 : (Jvm.Cond.classLink "KnockerFaces$Text" (42 : Nat) "KnockerFaces$Named") ∈ lw_all := lw_g (lw_at lw_m4 156 rfl) rfl
theorem q991 : (Jvm.Cond.methodLink "KnockerFaces$Text" (48 : Nat) ({ cls := "java/lang/String", name := "equals", desc := "(Ljava/lang/Object;)Z" } : Jvm.MethodName)) ∈ lw_all := lw_g (lw_at lw_m4 157 rfl) rfl
theorem q1011 : (Jvm.Cond.fieldLink "KnockerFaces$Text" (44 : Nat) "KnockerFaces$Named" "name" "Ljava/lang/String;") ∈ lw_all := lw_g (lw_at lw_m4 177 rfl) rfl
theorem q1068 : (Jvm.Cond.selects "KnockerFaces$Text" ({ cls := "java/lang/Object", name := "getClass", desc := "()Ljava/lang/Class;" } : Jvm.MethodName) ({ cls := "java/lang/Object", name := "getClass", desc := "()Ljava/lang/Class;" } : Jvm.MethodName)) ∈ lw_all := lw_g (lw_at lw_m4 234 rfl) rfl
theorem q2176 : (Jvm.Cond.castable "KnockerFaces$Text" "java/lang/Object") ∈ lw_tbl := lw_at lw_m9 142 rfl
theorem in_X4 : ∀ w ∈ wsX40, w ∈ lw_all := lw_in wsX40 [381, 383, 385, 387, 389, 391, 393] (by decide +kernel) (by decide +kernel)
/-! KnockerFaces$Town -/
set_option maxRecDepth 100000
def RX5 : String := "KnockerFaces$Town"
def TX5 : u_T := fun k => match k with
  | 0 => ("KnockerFaces$Town", "face", "[[I", true)
  | 1 => ("KnockerFaces$Town", "lifts", "[I", true)
  | 2 => ("KnockerFaces$Town", "idle", "[I", true)
  | 3 => ("KnockerFaces$Town", "rubbed", "[I", true)
  | 4 => ("KnockerFaces$Town", "money", "[I", true)
  | 5 => ("KnockerFaces$Town", "lifted", "[I", true)
  | 6 => ("KnockerFaces$Town", "kept", "I", false)
  | 7 => ("KnockerFaces$Town", "today", "I", false)
  | 8 => ("KnockerFaces$Town", "day", "I", false)
  | 9 => ("KnockerFaces$Town", "seed", "I", false)
  | 10 => ("KnockerFaces$Town", "more", "[I", true)
  | _ => ("KnockerFaces$Town", "asked", "LKnockerFaces$Asked;", true)
def tyX5 : Nat → FieldType := fun k => match k with
  | 0 => .array (.array .int)
  | 1 => .array .int
  | 2 => .array .int
  | 3 => .array .int
  | 4 => .array .int
  | 5 => .array .int
  | 6 => .int
  | 7 => .int
  | 8 => .int
  | 9 => .int
  | 10 => .array .int
  | _ => .object "KnockerFaces$Asked"
abbrev wsX50 : List Cond := u_ws RX5 TX5 12
theorem nmX5 : ∀ a, a < 12 → ∀ b, b < 12 → a ≠ b → (TX5 a).2.1 ≠ (TX5 b).2.1 := by decide +kernel
theorem tyX5_ok : ∀ k, k < 12 → parseFieldDescriptor (TX5 k).2.2.1 = some (tyX5 k) := by decide +kernel
abbrev cX5_init : ByteArray := prog_18_method_1_code
def yX5_init : MethodName := ⟨RX5, "<init>", "()V"⟩
def dkwX5_init_3 : List UInt8 := [177]
abbrev dktX5_init_3 : List UInt8 := dkwX5_init_3 ++ []
def dkwX5_init_2 : List UInt8 := [8, 188, 10, 181, 0, 29, 42, 7, 188, 10, 181, 0, 32, 42, 187, 0, 35, 89, 183, 0, 37, 181, 0, 38]
abbrev dktX5_init_2 : List UInt8 := dkwX5_init_2 ++ dktX5_init_3
def dkwX5_init_1 : List UInt8 := [16, 6, 188, 10, 181, 0, 20, 42, 16, 6, 188, 10, 181, 0, 23, 42, 16, 6, 188, 10, 181, 0, 26, 42]
abbrev dktX5_init_1 : List UInt8 := dkwX5_init_1 ++ dktX5_init_2
def dkwX5_init_0 : List UInt8 := [42, 183, 0, 3, 42, 16, 6, 7, 197, 0, 9, 2, 181, 0, 11, 42, 16, 6, 188, 10, 181, 0, 16, 42]
abbrev dktX5_init_0 : List UInt8 := dkwX5_init_0 ++ dktX5_init_1
theorem dksX5_init_0 : cX5_init.data.toList.drop 0 = dktX5_init_0 := by decide +kernel
theorem dksX5_init_1 : cX5_init.data.toList.drop 24 = dktX5_init_1 := dk_seg dksX5_init_0 24 rfl rfl
theorem dksX5_init_2 : cX5_init.data.toList.drop 48 = dktX5_init_2 := dk_seg dksX5_init_1 24 rfl rfl
theorem dksX5_init_3 : cX5_init.data.toList.drop 72 = dktX5_init_3 := dk_seg dksX5_init_2 24 rfl rfl
theorem dX5_init_0 : decode cX5_init 0 = .ok (.aload_n 0, 1) := dk_42 (dk_at dksX5_init_0 0 rfl rfl)
theorem dX5_init_1 : decode cX5_init 1 = .ok (.invokespecial 3, 3) := dk_183 0 3 (dk_at dksX5_init_0 1 rfl rfl)
theorem dX5_init_4 : decode cX5_init 4 = .ok (.aload_n 0, 1) := dk_42 (dk_at dksX5_init_0 4 rfl rfl)
theorem dX5_init_5 : decode cX5_init 5 = .ok (.bipush 6, 2) := dk_16 6 (dk_at dksX5_init_0 5 rfl rfl)
theorem dX5_init_7 : decode cX5_init 7 = .ok (.iconst 4, 1) := dk_7 (dk_at dksX5_init_0 7 rfl rfl)
theorem dX5_init_8 : decode cX5_init 8 = .ok (.multianewarray 9 2, 4) := by decide +kernel
theorem dX5_init_12 : decode cX5_init 12 = .ok (.putfield 11, 3) := dk_181 0 11 (dk_at dksX5_init_0 12 rfl rfl)
theorem dX5_init_15 : decode cX5_init 15 = .ok (.aload_n 0, 1) := dk_42 (dk_at dksX5_init_0 15 rfl rfl)
theorem dX5_init_16 : decode cX5_init 16 = .ok (.bipush 6, 2) := dk_16 6 (dk_at dksX5_init_0 16 rfl rfl)
theorem dX5_init_18 : decode cX5_init 18 = .ok (.newarray .int, 2) := dk_188_10 (dk_at dksX5_init_0 18 rfl rfl)
theorem dX5_init_20 : decode cX5_init 20 = .ok (.putfield 16, 3) := dk_181 0 16 (dk_at dksX5_init_0 20 rfl rfl)
theorem dX5_init_23 : decode cX5_init 23 = .ok (.aload_n 0, 1) := dk_42 (dk_at dksX5_init_0 23 rfl rfl)
theorem dX5_init_24 : decode cX5_init 24 = .ok (.bipush 6, 2) := dk_16 6 (dk_at dksX5_init_1 0 rfl rfl)
theorem dX5_init_26 : decode cX5_init 26 = .ok (.newarray .int, 2) := dk_188_10 (dk_at dksX5_init_1 2 rfl rfl)
theorem dX5_init_28 : decode cX5_init 28 = .ok (.putfield 20, 3) := dk_181 0 20 (dk_at dksX5_init_1 4 rfl rfl)
theorem dX5_init_31 : decode cX5_init 31 = .ok (.aload_n 0, 1) := dk_42 (dk_at dksX5_init_1 7 rfl rfl)
theorem dX5_init_32 : decode cX5_init 32 = .ok (.bipush 6, 2) := dk_16 6 (dk_at dksX5_init_1 8 rfl rfl)
theorem dX5_init_34 : decode cX5_init 34 = .ok (.newarray .int, 2) := dk_188_10 (dk_at dksX5_init_1 10 rfl rfl)
theorem dX5_init_36 : decode cX5_init 36 = .ok (.putfield 23, 3) := dk_181 0 23 (dk_at dksX5_init_1 12 rfl rfl)
theorem dX5_init_39 : decode cX5_init 39 = .ok (.aload_n 0, 1) := dk_42 (dk_at dksX5_init_1 15 rfl rfl)
theorem dX5_init_40 : decode cX5_init 40 = .ok (.bipush 6, 2) := dk_16 6 (dk_at dksX5_init_1 16 rfl rfl)
theorem dX5_init_42 : decode cX5_init 42 = .ok (.newarray .int, 2) := dk_188_10 (dk_at dksX5_init_1 18 rfl rfl)
theorem dX5_init_44 : decode cX5_init 44 = .ok (.putfield 26, 3) := dk_181 0 26 (dk_at dksX5_init_1 20 rfl rfl)
theorem dX5_init_47 : decode cX5_init 47 = .ok (.aload_n 0, 1) := dk_42 (dk_at dksX5_init_1 23 rfl rfl)
theorem dX5_init_48 : decode cX5_init 48 = .ok (.iconst 5, 1) := dk_8 (dk_at dksX5_init_2 0 rfl rfl)
theorem dX5_init_49 : decode cX5_init 49 = .ok (.newarray .int, 2) := dk_188_10 (dk_at dksX5_init_2 1 rfl rfl)
theorem dX5_init_51 : decode cX5_init 51 = .ok (.putfield 29, 3) := dk_181 0 29 (dk_at dksX5_init_2 3 rfl rfl)
theorem dX5_init_54 : decode cX5_init 54 = .ok (.aload_n 0, 1) := dk_42 (dk_at dksX5_init_2 6 rfl rfl)
theorem dX5_init_55 : decode cX5_init 55 = .ok (.iconst 4, 1) := dk_7 (dk_at dksX5_init_2 7 rfl rfl)
theorem dX5_init_56 : decode cX5_init 56 = .ok (.newarray .int, 2) := dk_188_10 (dk_at dksX5_init_2 8 rfl rfl)
theorem dX5_init_58 : decode cX5_init 58 = .ok (.putfield 32, 3) := dk_181 0 32 (dk_at dksX5_init_2 10 rfl rfl)
theorem dX5_init_61 : decode cX5_init 61 = .ok (.aload_n 0, 1) := dk_42 (dk_at dksX5_init_2 13 rfl rfl)
theorem dX5_init_62 : decode cX5_init 62 = .ok (.new 35, 3) := dk_187 0 35 (dk_at dksX5_init_2 14 rfl rfl)
theorem dX5_init_65 : decode cX5_init 65 = .ok (.dup, 1) := dk_89 (dk_at dksX5_init_2 17 rfl rfl)
theorem dX5_init_66 : decode cX5_init 66 = .ok (.invokespecial 37, 3) := dk_183 0 37 (dk_at dksX5_init_2 18 rfl rfl)
theorem dX5_init_69 : decode cX5_init 69 = .ok (.putfield 38, 3) := dk_181 0 38 (dk_at dksX5_init_2 21 rfl rfl)
theorem dX5_init_72 : decode cX5_init 72 = .ok (.return_, 1) := dk_177 (dk_at dksX5_init_3 0 rfl rfl)
abbrev cX5_begins : ByteArray := prog_18_method_2_code
def yX5_begins : MethodName := ⟨RX5, "begins", "(LKnockerFaces$Text;)V"⟩
def dkwX5_begins_6 : List UInt8 := [181, 0, 78, 177]
abbrev dktX5_begins_6 : List UInt8 := dkwX5_begins_6 ++ []
def dkwX5_begins_5 : List UInt8 := [182, 0, 48, 120, 4, 100, 181, 0, 65, 42, 3, 181, 0, 69, 42, 3, 181, 0, 72, 42, 43, 180, 0, 75]
abbrev dktX5_begins_5 : List UInt8 := dkwX5_begins_5 ++ dktX5_begins_6
def dkwX5_begins_4 : List UInt8 := [28, 8, 162, 0, 16, 42, 180, 0, 29, 28, 3, 79, 132, 2, 1, 167, 255, 241, 42, 4, 43, 180, 0, 62]
abbrev dktX5_begins_4 : List UInt8 := dkwX5_begins_4 ++ dktX5_begins_5
def dkwX5_begins_3 : List UInt8 := [3, 79, 42, 180, 0, 23, 28, 3, 79, 42, 180, 0, 26, 28, 3, 79, 132, 2, 1, 167, 255, 167, 3, 61]
abbrev dktX5_begins_3 : List UInt8 := dkwX5_begins_3 ++ dktX5_begins_4
def dkwX5_begins_2 : List UInt8 := [46, 167, 0, 4, 3, 79, 132, 3, 1, 167, 255, 209, 42, 180, 0, 16, 28, 3, 79, 42, 180, 0, 20, 28]
abbrev dktX5_begins_2 : List UInt8 := dkwX5_begins_2 ++ dktX5_begins_3
def dkwX5_begins_1 : List UInt8 := [180, 0, 42, 182, 0, 48, 162, 0, 22, 43, 180, 0, 42, 28, 182, 0, 54, 192, 0, 58, 180, 0, 60, 29]
abbrev dktX5_begins_1 : List UInt8 := dkwX5_begins_1 ++ dktX5_begins_2
def dkwX5_begins_0 : List UInt8 := [3, 61, 28, 16, 6, 162, 0, 89, 3, 62, 29, 7, 162, 0, 48, 42, 180, 0, 11, 28, 50, 29, 28, 43]
abbrev dktX5_begins_0 : List UInt8 := dkwX5_begins_0 ++ dktX5_begins_1
theorem dksX5_begins_0 : cX5_begins.data.toList.drop 0 = dktX5_begins_0 := by decide +kernel
theorem dksX5_begins_1 : cX5_begins.data.toList.drop 24 = dktX5_begins_1 := dk_seg dksX5_begins_0 24 rfl rfl
theorem dksX5_begins_2 : cX5_begins.data.toList.drop 48 = dktX5_begins_2 := dk_seg dksX5_begins_1 24 rfl rfl
theorem dksX5_begins_3 : cX5_begins.data.toList.drop 72 = dktX5_begins_3 := dk_seg dksX5_begins_2 24 rfl rfl
theorem dksX5_begins_4 : cX5_begins.data.toList.drop 96 = dktX5_begins_4 := dk_seg dksX5_begins_3 24 rfl rfl
theorem dksX5_begins_5 : cX5_begins.data.toList.drop 120 = dktX5_begins_5 := dk_seg dksX5_begins_4 24 rfl rfl
theorem dksX5_begins_6 : cX5_begins.data.toList.drop 144 = dktX5_begins_6 := dk_seg dksX5_begins_5 24 rfl rfl
theorem dX5_begins_0 : decode cX5_begins 0 = .ok (.iconst 0, 1) := dk_3 (dk_at dksX5_begins_0 0 rfl rfl)
theorem dX5_begins_1 : decode cX5_begins 1 = .ok (.istore_n 2, 1) := dk_61 (dk_at dksX5_begins_0 1 rfl rfl)
theorem dX5_begins_2 : decode cX5_begins 2 = .ok (.iload_n 2, 1) := dk_28 (dk_at dksX5_begins_0 2 rfl rfl)
theorem dX5_begins_3 : decode cX5_begins 3 = .ok (.bipush 6, 2) := dk_16 6 (dk_at dksX5_begins_0 3 rfl rfl)
theorem dX5_begins_5 : decode cX5_begins 5 = .ok (.if_icmp .ge 89, 3) := dk_162 0 89 (dk_at dksX5_begins_0 5 rfl rfl)
theorem dX5_begins_8 : decode cX5_begins 8 = .ok (.iconst 0, 1) := dk_3 (dk_at dksX5_begins_0 8 rfl rfl)
theorem dX5_begins_9 : decode cX5_begins 9 = .ok (.istore_n 3, 1) := dk_62 (dk_at dksX5_begins_0 9 rfl rfl)
theorem dX5_begins_10 : decode cX5_begins 10 = .ok (.iload_n 3, 1) := dk_29 (dk_at dksX5_begins_0 10 rfl rfl)
theorem dX5_begins_11 : decode cX5_begins 11 = .ok (.iconst 4, 1) := dk_7 (dk_at dksX5_begins_0 11 rfl rfl)
theorem dX5_begins_12 : decode cX5_begins 12 = .ok (.if_icmp .ge 48, 3) := dk_162 0 48 (dk_at dksX5_begins_0 12 rfl rfl)
theorem dX5_begins_15 : decode cX5_begins 15 = .ok (.aload_n 0, 1) := dk_42 (dk_at dksX5_begins_0 15 rfl rfl)
theorem dX5_begins_16 : decode cX5_begins 16 = .ok (.getfield 11, 3) := dk_180 0 11 (dk_at dksX5_begins_0 16 rfl rfl)
theorem dX5_begins_19 : decode cX5_begins 19 = .ok (.iload_n 2, 1) := dk_28 (dk_at dksX5_begins_0 19 rfl rfl)
theorem dX5_begins_20 : decode cX5_begins 20 = .ok (.aaload, 1) := dk_50 (dk_at dksX5_begins_0 20 rfl rfl)
theorem dX5_begins_21 : decode cX5_begins 21 = .ok (.iload_n 3, 1) := dk_29 (dk_at dksX5_begins_0 21 rfl rfl)
theorem dX5_begins_22 : decode cX5_begins 22 = .ok (.iload_n 2, 1) := dk_28 (dk_at dksX5_begins_0 22 rfl rfl)
theorem dX5_begins_23 : decode cX5_begins 23 = .ok (.aload_n 1, 1) := dk_43 (dk_at dksX5_begins_0 23 rfl rfl)
theorem dX5_begins_24 : decode cX5_begins 24 = .ok (.getfield 42, 3) := dk_180 0 42 (dk_at dksX5_begins_1 0 rfl rfl)
theorem dX5_begins_27 : decode cX5_begins 27 = .ok (.invokevirtual 48, 3) := dk_182 0 48 (dk_at dksX5_begins_1 3 rfl rfl)
theorem dX5_begins_30 : decode cX5_begins 30 = .ok (.if_icmp .ge 22, 3) := dk_162 0 22 (dk_at dksX5_begins_1 6 rfl rfl)
theorem dX5_begins_33 : decode cX5_begins 33 = .ok (.aload_n 1, 1) := dk_43 (dk_at dksX5_begins_1 9 rfl rfl)
theorem dX5_begins_34 : decode cX5_begins 34 = .ok (.getfield 42, 3) := dk_180 0 42 (dk_at dksX5_begins_1 10 rfl rfl)
theorem dX5_begins_37 : decode cX5_begins 37 = .ok (.iload_n 2, 1) := dk_28 (dk_at dksX5_begins_1 13 rfl rfl)
theorem dX5_begins_38 : decode cX5_begins 38 = .ok (.invokevirtual 54, 3) := dk_182 0 54 (dk_at dksX5_begins_1 14 rfl rfl)
theorem dX5_begins_41 : decode cX5_begins 41 = .ok (.checkcast 58, 3) := dk_192 0 58 (dk_at dksX5_begins_1 17 rfl rfl)
theorem dX5_begins_44 : decode cX5_begins 44 = .ok (.getfield 60, 3) := dk_180 0 60 (dk_at dksX5_begins_1 20 rfl rfl)
theorem dX5_begins_47 : decode cX5_begins 47 = .ok (.iload_n 3, 1) := dk_29 (dk_at dksX5_begins_1 23 rfl rfl)
theorem dX5_begins_48 : decode cX5_begins 48 = .ok (.iaload, 1) := dk_46 (dk_at dksX5_begins_2 0 rfl rfl)
theorem dX5_begins_49 : decode cX5_begins 49 = .ok (.goto 4, 3) := dk_167 0 4 (dk_at dksX5_begins_2 1 rfl rfl)
theorem dX5_begins_52 : decode cX5_begins 52 = .ok (.iconst 0, 1) := dk_3 (dk_at dksX5_begins_2 4 rfl rfl)
theorem dX5_begins_53 : decode cX5_begins 53 = .ok (.iastore, 1) := dk_79 (dk_at dksX5_begins_2 5 rfl rfl)
theorem dX5_begins_54 : decode cX5_begins 54 = .ok (.iinc 3 1, 3) := dk_132 3 1 (dk_at dksX5_begins_2 6 rfl rfl)
theorem dX5_begins_57 : decode cX5_begins 57 = .ok (.goto (-47), 3) := dk_167 255 209 (dk_at dksX5_begins_2 9 rfl rfl)
theorem dX5_begins_60 : decode cX5_begins 60 = .ok (.aload_n 0, 1) := dk_42 (dk_at dksX5_begins_2 12 rfl rfl)
theorem dX5_begins_61 : decode cX5_begins 61 = .ok (.getfield 16, 3) := dk_180 0 16 (dk_at dksX5_begins_2 13 rfl rfl)
theorem dX5_begins_64 : decode cX5_begins 64 = .ok (.iload_n 2, 1) := dk_28 (dk_at dksX5_begins_2 16 rfl rfl)
theorem dX5_begins_65 : decode cX5_begins 65 = .ok (.iconst 0, 1) := dk_3 (dk_at dksX5_begins_2 17 rfl rfl)
theorem dX5_begins_66 : decode cX5_begins 66 = .ok (.iastore, 1) := dk_79 (dk_at dksX5_begins_2 18 rfl rfl)
theorem dX5_begins_67 : decode cX5_begins 67 = .ok (.aload_n 0, 1) := dk_42 (dk_at dksX5_begins_2 19 rfl rfl)
theorem dX5_begins_68 : decode cX5_begins 68 = .ok (.getfield 20, 3) := dk_180 0 20 (dk_at dksX5_begins_2 20 rfl rfl)
theorem dX5_begins_71 : decode cX5_begins 71 = .ok (.iload_n 2, 1) := dk_28 (dk_at dksX5_begins_2 23 rfl rfl)
theorem dX5_begins_72 : decode cX5_begins 72 = .ok (.iconst 0, 1) := dk_3 (dk_at dksX5_begins_3 0 rfl rfl)
theorem dX5_begins_73 : decode cX5_begins 73 = .ok (.iastore, 1) := dk_79 (dk_at dksX5_begins_3 1 rfl rfl)
theorem dX5_begins_74 : decode cX5_begins 74 = .ok (.aload_n 0, 1) := dk_42 (dk_at dksX5_begins_3 2 rfl rfl)
theorem dX5_begins_75 : decode cX5_begins 75 = .ok (.getfield 23, 3) := dk_180 0 23 (dk_at dksX5_begins_3 3 rfl rfl)
theorem dX5_begins_78 : decode cX5_begins 78 = .ok (.iload_n 2, 1) := dk_28 (dk_at dksX5_begins_3 6 rfl rfl)
theorem dX5_begins_79 : decode cX5_begins 79 = .ok (.iconst 0, 1) := dk_3 (dk_at dksX5_begins_3 7 rfl rfl)
theorem dX5_begins_80 : decode cX5_begins 80 = .ok (.iastore, 1) := dk_79 (dk_at dksX5_begins_3 8 rfl rfl)
theorem dX5_begins_81 : decode cX5_begins 81 = .ok (.aload_n 0, 1) := dk_42 (dk_at dksX5_begins_3 9 rfl rfl)
theorem dX5_begins_82 : decode cX5_begins 82 = .ok (.getfield 26, 3) := dk_180 0 26 (dk_at dksX5_begins_3 10 rfl rfl)
theorem dX5_begins_85 : decode cX5_begins 85 = .ok (.iload_n 2, 1) := dk_28 (dk_at dksX5_begins_3 13 rfl rfl)
theorem dX5_begins_86 : decode cX5_begins 86 = .ok (.iconst 0, 1) := dk_3 (dk_at dksX5_begins_3 14 rfl rfl)
theorem dX5_begins_87 : decode cX5_begins 87 = .ok (.iastore, 1) := dk_79 (dk_at dksX5_begins_3 15 rfl rfl)
theorem dX5_begins_88 : decode cX5_begins 88 = .ok (.iinc 2 1, 3) := dk_132 2 1 (dk_at dksX5_begins_3 16 rfl rfl)
theorem dX5_begins_91 : decode cX5_begins 91 = .ok (.goto (-89), 3) := dk_167 255 167 (dk_at dksX5_begins_3 19 rfl rfl)
theorem dX5_begins_94 : decode cX5_begins 94 = .ok (.iconst 0, 1) := dk_3 (dk_at dksX5_begins_3 22 rfl rfl)
theorem dX5_begins_95 : decode cX5_begins 95 = .ok (.istore_n 2, 1) := dk_61 (dk_at dksX5_begins_3 23 rfl rfl)
theorem dX5_begins_96 : decode cX5_begins 96 = .ok (.iload_n 2, 1) := dk_28 (dk_at dksX5_begins_4 0 rfl rfl)
theorem dX5_begins_97 : decode cX5_begins 97 = .ok (.iconst 5, 1) := dk_8 (dk_at dksX5_begins_4 1 rfl rfl)
theorem dX5_begins_98 : decode cX5_begins 98 = .ok (.if_icmp .ge 16, 3) := dk_162 0 16 (dk_at dksX5_begins_4 2 rfl rfl)
theorem dX5_begins_101 : decode cX5_begins 101 = .ok (.aload_n 0, 1) := dk_42 (dk_at dksX5_begins_4 5 rfl rfl)
theorem dX5_begins_102 : decode cX5_begins 102 = .ok (.getfield 29, 3) := dk_180 0 29 (dk_at dksX5_begins_4 6 rfl rfl)
theorem dX5_begins_105 : decode cX5_begins 105 = .ok (.iload_n 2, 1) := dk_28 (dk_at dksX5_begins_4 9 rfl rfl)
theorem dX5_begins_106 : decode cX5_begins 106 = .ok (.iconst 0, 1) := dk_3 (dk_at dksX5_begins_4 10 rfl rfl)
theorem dX5_begins_107 : decode cX5_begins 107 = .ok (.iastore, 1) := dk_79 (dk_at dksX5_begins_4 11 rfl rfl)
theorem dX5_begins_108 : decode cX5_begins 108 = .ok (.iinc 2 1, 3) := dk_132 2 1 (dk_at dksX5_begins_4 12 rfl rfl)
theorem dX5_begins_111 : decode cX5_begins 111 = .ok (.goto (-15), 3) := dk_167 255 241 (dk_at dksX5_begins_4 15 rfl rfl)
theorem dX5_begins_114 : decode cX5_begins 114 = .ok (.aload_n 0, 1) := dk_42 (dk_at dksX5_begins_4 18 rfl rfl)
theorem dX5_begins_115 : decode cX5_begins 115 = .ok (.iconst 1, 1) := dk_4 (dk_at dksX5_begins_4 19 rfl rfl)
theorem dX5_begins_116 : decode cX5_begins 116 = .ok (.aload_n 1, 1) := dk_43 (dk_at dksX5_begins_4 20 rfl rfl)
theorem dX5_begins_117 : decode cX5_begins 117 = .ok (.getfield 62, 3) := dk_180 0 62 (dk_at dksX5_begins_4 21 rfl rfl)
theorem dX5_begins_120 : decode cX5_begins 120 = .ok (.invokevirtual 48, 3) := dk_182 0 48 (dk_at dksX5_begins_5 0 rfl rfl)
theorem dX5_begins_123 : decode cX5_begins 123 = .ok (.ishl, 1) := dk_120 (dk_at dksX5_begins_5 3 rfl rfl)
theorem dX5_begins_124 : decode cX5_begins 124 = .ok (.iconst 1, 1) := dk_4 (dk_at dksX5_begins_5 4 rfl rfl)
theorem dX5_begins_125 : decode cX5_begins 125 = .ok (.isub, 1) := dk_100 (dk_at dksX5_begins_5 5 rfl rfl)
theorem dX5_begins_126 : decode cX5_begins 126 = .ok (.putfield 65, 3) := dk_181 0 65 (dk_at dksX5_begins_5 6 rfl rfl)
theorem dX5_begins_129 : decode cX5_begins 129 = .ok (.aload_n 0, 1) := dk_42 (dk_at dksX5_begins_5 9 rfl rfl)
theorem dX5_begins_130 : decode cX5_begins 130 = .ok (.iconst 0, 1) := dk_3 (dk_at dksX5_begins_5 10 rfl rfl)
theorem dX5_begins_131 : decode cX5_begins 131 = .ok (.putfield 69, 3) := dk_181 0 69 (dk_at dksX5_begins_5 11 rfl rfl)
theorem dX5_begins_134 : decode cX5_begins 134 = .ok (.aload_n 0, 1) := dk_42 (dk_at dksX5_begins_5 14 rfl rfl)
theorem dX5_begins_135 : decode cX5_begins 135 = .ok (.iconst 0, 1) := dk_3 (dk_at dksX5_begins_5 15 rfl rfl)
theorem dX5_begins_136 : decode cX5_begins 136 = .ok (.putfield 72, 3) := dk_181 0 72 (dk_at dksX5_begins_5 16 rfl rfl)
theorem dX5_begins_139 : decode cX5_begins 139 = .ok (.aload_n 0, 1) := dk_42 (dk_at dksX5_begins_5 19 rfl rfl)
theorem dX5_begins_140 : decode cX5_begins 140 = .ok (.aload_n 1, 1) := dk_43 (dk_at dksX5_begins_5 20 rfl rfl)
theorem dX5_begins_141 : decode cX5_begins 141 = .ok (.getfield 75, 3) := dk_180 0 75 (dk_at dksX5_begins_5 21 rfl rfl)
theorem dX5_begins_144 : decode cX5_begins 144 = .ok (.putfield 78, 3) := dk_181 0 78 (dk_at dksX5_begins_6 0 rfl rfl)
theorem dX5_begins_147 : decode cX5_begins 147 = .ok (.return_, 1) := dk_177 (dk_at dksX5_begins_6 3 rfl rfl)
abbrev cX5_known : ByteArray := prog_18_method_17_code
def yX5_known : MethodName := ⟨RX5, "known", "(LKnockerFaces$Text;I)I"⟩
def dkwX5_known_2 : List UInt8 := [54, 4, 132, 5, 1, 167, 255, 214, 21, 4, 43, 180, 0, 186, 163, 0, 7, 29, 167, 0, 5, 16, 254, 172]
abbrev dktX5_known_2 : List UInt8 := dkwX5_known_2 ++ []
def dkwX5_known_1 : List UInt8 := [28, 21, 5, 182, 0, 183, 54, 6, 21, 6, 21, 4, 161, 0, 6, 167, 0, 10, 21, 5, 62, 21, 6]
abbrev dktX5_known_1 : List UInt8 := dkwX5_known_1 ++ dktX5_known_2
def dkwX5_known_0 : List UInt8 := [16, 254, 62, 18, 182, 54, 4, 3, 54, 5, 21, 5, 43, 180, 0, 120, 182, 0, 48, 162, 0, 36, 42, 43]
abbrev dktX5_known_0 : List UInt8 := dkwX5_known_0 ++ dktX5_known_1
theorem dksX5_known_0 : cX5_known.data.toList.drop 0 = dktX5_known_0 := by decide +kernel
theorem dksX5_known_1 : cX5_known.data.toList.drop 24 = dktX5_known_1 := dk_seg dksX5_known_0 24 rfl rfl
theorem dksX5_known_2 : cX5_known.data.toList.drop 47 = dktX5_known_2 := dk_seg dksX5_known_1 23 rfl rfl
theorem dX5_known_0 : decode cX5_known 0 = .ok (.bipush (-2), 2) := dk_16 254 (dk_at dksX5_known_0 0 rfl rfl)
theorem dX5_known_2 : decode cX5_known 2 = .ok (.istore_n 3, 1) := dk_62 (dk_at dksX5_known_0 2 rfl rfl)
theorem dX5_known_3 : decode cX5_known 3 = .ok (.ldc 182, 2) := dk_18 182 (dk_at dksX5_known_0 3 rfl rfl)
theorem dX5_known_5 : decode cX5_known 5 = .ok (.istore 4, 2) := dk_54 4 (dk_at dksX5_known_0 5 rfl rfl)
theorem dX5_known_7 : decode cX5_known 7 = .ok (.iconst 0, 1) := dk_3 (dk_at dksX5_known_0 7 rfl rfl)
theorem dX5_known_8 : decode cX5_known 8 = .ok (.istore 5, 2) := dk_54 5 (dk_at dksX5_known_0 8 rfl rfl)
theorem dX5_known_10 : decode cX5_known 10 = .ok (.iload 5, 2) := dk_21 5 (dk_at dksX5_known_0 10 rfl rfl)
theorem dX5_known_12 : decode cX5_known 12 = .ok (.aload_n 1, 1) := dk_43 (dk_at dksX5_known_0 12 rfl rfl)
theorem dX5_known_13 : decode cX5_known 13 = .ok (.getfield 120, 3) := dk_180 0 120 (dk_at dksX5_known_0 13 rfl rfl)
theorem dX5_known_16 : decode cX5_known 16 = .ok (.invokevirtual 48, 3) := dk_182 0 48 (dk_at dksX5_known_0 16 rfl rfl)
theorem dX5_known_19 : decode cX5_known 19 = .ok (.if_icmp .ge 36, 3) := dk_162 0 36 (dk_at dksX5_known_0 19 rfl rfl)
theorem dX5_known_22 : decode cX5_known 22 = .ok (.aload_n 0, 1) := dk_42 (dk_at dksX5_known_0 22 rfl rfl)
theorem dX5_known_23 : decode cX5_known 23 = .ok (.aload_n 1, 1) := dk_43 (dk_at dksX5_known_0 23 rfl rfl)
theorem dX5_known_24 : decode cX5_known 24 = .ok (.iload_n 2, 1) := dk_28 (dk_at dksX5_known_1 0 rfl rfl)
theorem dX5_known_25 : decode cX5_known 25 = .ok (.iload 5, 2) := dk_21 5 (dk_at dksX5_known_1 1 rfl rfl)
theorem dX5_known_27 : decode cX5_known 27 = .ok (.invokevirtual 183, 3) := dk_182 0 183 (dk_at dksX5_known_1 3 rfl rfl)
theorem dX5_known_30 : decode cX5_known 30 = .ok (.istore 6, 2) := dk_54 6 (dk_at dksX5_known_1 6 rfl rfl)
theorem dX5_known_32 : decode cX5_known 32 = .ok (.iload 6, 2) := dk_21 6 (dk_at dksX5_known_1 8 rfl rfl)
theorem dX5_known_34 : decode cX5_known 34 = .ok (.iload 4, 2) := dk_21 4 (dk_at dksX5_known_1 10 rfl rfl)
theorem dX5_known_36 : decode cX5_known 36 = .ok (.if_icmp .lt 6, 3) := dk_161 0 6 (dk_at dksX5_known_1 12 rfl rfl)
theorem dX5_known_39 : decode cX5_known 39 = .ok (.goto 10, 3) := dk_167 0 10 (dk_at dksX5_known_1 15 rfl rfl)
theorem dX5_known_42 : decode cX5_known 42 = .ok (.iload 5, 2) := dk_21 5 (dk_at dksX5_known_1 18 rfl rfl)
theorem dX5_known_44 : decode cX5_known 44 = .ok (.istore_n 3, 1) := dk_62 (dk_at dksX5_known_1 20 rfl rfl)
theorem dX5_known_45 : decode cX5_known 45 = .ok (.iload 6, 2) := dk_21 6 (dk_at dksX5_known_1 21 rfl rfl)
theorem dX5_known_47 : decode cX5_known 47 = .ok (.istore 4, 2) := dk_54 4 (dk_at dksX5_known_2 0 rfl rfl)
theorem dX5_known_49 : decode cX5_known 49 = .ok (.iinc 5 1, 3) := dk_132 5 1 (dk_at dksX5_known_2 2 rfl rfl)
theorem dX5_known_52 : decode cX5_known 52 = .ok (.goto (-42), 3) := dk_167 255 214 (dk_at dksX5_known_2 5 rfl rfl)
theorem dX5_known_55 : decode cX5_known 55 = .ok (.iload 4, 2) := dk_21 4 (dk_at dksX5_known_2 8 rfl rfl)
theorem dX5_known_57 : decode cX5_known 57 = .ok (.aload_n 1, 1) := dk_43 (dk_at dksX5_known_2 10 rfl rfl)
theorem dX5_known_58 : decode cX5_known 58 = .ok (.getfield 186, 3) := dk_180 0 186 (dk_at dksX5_known_2 11 rfl rfl)
theorem dX5_known_61 : decode cX5_known 61 = .ok (.if_icmp .gt 7, 3) := dk_163 0 7 (dk_at dksX5_known_2 14 rfl rfl)
theorem dX5_known_64 : decode cX5_known 64 = .ok (.iload_n 3, 1) := dk_29 (dk_at dksX5_known_2 17 rfl rfl)
theorem dX5_known_65 : decode cX5_known 65 = .ok (.goto 5, 3) := dk_167 0 5 (dk_at dksX5_known_2 18 rfl rfl)
theorem dX5_known_68 : decode cX5_known 68 = .ok (.bipush (-2), 2) := dk_16 254 (dk_at dksX5_known_2 21 rfl rfl)
theorem dX5_known_70 : decode cX5_known 70 = .ok (.ireturn, 1) := dk_172 (dk_at dksX5_known_2 23 rfl rfl)
abbrev cX5_unlike : ByteArray := prog_18_method_16_code
def yX5_unlike : MethodName := ⟨RX5, "unlike", "(LKnockerFaces$Text;II)I"⟩
def dkwX5_unlike_0 : List UInt8 := [42, 180, 0, 11, 28, 50, 43, 180, 0, 120, 29, 182, 0, 54, 192, 0, 123, 180, 0, 125, 184, 0, 92, 172]
abbrev dktX5_unlike_0 : List UInt8 := dkwX5_unlike_0 ++ []
theorem dksX5_unlike_0 : cX5_unlike.data.toList.drop 0 = dktX5_unlike_0 := by decide +kernel
theorem dX5_unlike_0 : decode cX5_unlike 0 = .ok (.aload_n 0, 1) := dk_42 (dk_at dksX5_unlike_0 0 rfl rfl)
theorem dX5_unlike_1 : decode cX5_unlike 1 = .ok (.getfield 11, 3) := dk_180 0 11 (dk_at dksX5_unlike_0 1 rfl rfl)
theorem dX5_unlike_4 : decode cX5_unlike 4 = .ok (.iload_n 2, 1) := dk_28 (dk_at dksX5_unlike_0 4 rfl rfl)
theorem dX5_unlike_5 : decode cX5_unlike 5 = .ok (.aaload, 1) := dk_50 (dk_at dksX5_unlike_0 5 rfl rfl)
theorem dX5_unlike_6 : decode cX5_unlike 6 = .ok (.aload_n 1, 1) := dk_43 (dk_at dksX5_unlike_0 6 rfl rfl)
theorem dX5_unlike_7 : decode cX5_unlike 7 = .ok (.getfield 120, 3) := dk_180 0 120 (dk_at dksX5_unlike_0 7 rfl rfl)
theorem dX5_unlike_10 : decode cX5_unlike 10 = .ok (.iload_n 3, 1) := dk_29 (dk_at dksX5_unlike_0 10 rfl rfl)
theorem dX5_unlike_11 : decode cX5_unlike 11 = .ok (.invokevirtual 54, 3) := dk_182 0 54 (dk_at dksX5_unlike_0 11 rfl rfl)
theorem dX5_unlike_14 : decode cX5_unlike 14 = .ok (.checkcast 123, 3) := dk_192 0 123 (dk_at dksX5_unlike_0 14 rfl rfl)
theorem dX5_unlike_17 : decode cX5_unlike 17 = .ok (.getfield 125, 3) := dk_180 0 125 (dk_at dksX5_unlike_0 17 rfl rfl)
theorem dX5_unlike_20 : decode cX5_unlike 20 = .ok (.invokestatic 92, 3) := dk_184 0 92 (dk_at dksX5_unlike_0 20 rfl rfl)
theorem dX5_unlike_23 : decode cX5_unlike 23 = .ok (.ireturn, 1) := dk_172 (dk_at dksX5_unlike_0 23 rfl rfl)
abbrev cX5_isKept : ByteArray := prog_18_method_5_code
def yX5_isKept : MethodName := ⟨RX5, "isKept", "(I)Z"⟩
def dkwX5_isKept_0 : List UInt8 := [42, 180, 0, 65, 27, 122, 4, 126, 4, 160, 0, 7, 4, 167, 0, 4, 3, 172]
abbrev dktX5_isKept_0 : List UInt8 := dkwX5_isKept_0 ++ []
theorem dksX5_isKept_0 : cX5_isKept.data.toList.drop 0 = dktX5_isKept_0 := by decide +kernel
theorem dX5_isKept_0 : decode cX5_isKept 0 = .ok (.aload_n 0, 1) := dk_42 (dk_at dksX5_isKept_0 0 rfl rfl)
theorem dX5_isKept_1 : decode cX5_isKept 1 = .ok (.getfield 65, 3) := dk_180 0 65 (dk_at dksX5_isKept_0 1 rfl rfl)
theorem dX5_isKept_4 : decode cX5_isKept 4 = .ok (.iload_n 1, 1) := dk_27 (dk_at dksX5_isKept_0 4 rfl rfl)
theorem dX5_isKept_5 : decode cX5_isKept 5 = .ok (.ishr, 1) := dk_122 (dk_at dksX5_isKept_0 5 rfl rfl)
theorem dX5_isKept_6 : decode cX5_isKept 6 = .ok (.iconst 1, 1) := dk_4 (dk_at dksX5_isKept_0 6 rfl rfl)
theorem dX5_isKept_7 : decode cX5_isKept 7 = .ok (.iand, 1) := dk_126 (dk_at dksX5_isKept_0 7 rfl rfl)
theorem dX5_isKept_8 : decode cX5_isKept 8 = .ok (.iconst 1, 1) := dk_4 (dk_at dksX5_isKept_0 8 rfl rfl)
theorem dX5_isKept_9 : decode cX5_isKept 9 = .ok (.if_icmp .ne 7, 3) := dk_160 0 7 (dk_at dksX5_isKept_0 9 rfl rfl)
theorem dX5_isKept_12 : decode cX5_isKept 12 = .ok (.iconst 1, 1) := dk_4 (dk_at dksX5_isKept_0 12 rfl rfl)
theorem dX5_isKept_13 : decode cX5_isKept 13 = .ok (.goto 4, 3) := dk_167 0 4 (dk_at dksX5_isKept_0 13 rfl rfl)
theorem dX5_isKept_16 : decode cX5_isKept 16 = .ok (.iconst 0, 1) := dk_3 (dk_at dksX5_isKept_0 16 rfl rfl)
theorem dX5_isKept_17 : decode cX5_isKept 17 = .ok (.ireturn, 1) := dk_172 (dk_at dksX5_isKept_0 17 rfl rfl)
abbrev cX5_pays : ByteArray := prog_18_method_9_code
def yX5_pays : MethodName := ⟨RX5, "pays", "(LKnockerFaces$Text;II)I"⟩
def dkwX5_pays_1 : List UInt8 := [43, 180, 0, 120, 29, 182, 0, 54, 192, 0, 123, 180, 0, 125, 182, 0, 110, 182, 0, 114, 184, 0, 106, 172]
abbrev dktX5_pays_1 : List UInt8 := dkwX5_pays_1 ++ []
def dkwX5_pays_0 : List UInt8 := [43, 180, 0, 102, 5, 50, 199, 0, 7, 4, 167, 0, 37, 16, 99, 43, 180, 0, 102, 5, 50, 42, 28, 29]
abbrev dktX5_pays_0 : List UInt8 := dkwX5_pays_0 ++ dktX5_pays_1
theorem dksX5_pays_0 : cX5_pays.data.toList.drop 0 = dktX5_pays_0 := by decide +kernel
theorem dksX5_pays_1 : cX5_pays.data.toList.drop 24 = dktX5_pays_1 := dk_seg dksX5_pays_0 24 rfl rfl
theorem dX5_pays_0 : decode cX5_pays 0 = .ok (.aload_n 1, 1) := dk_43 (dk_at dksX5_pays_0 0 rfl rfl)
theorem dX5_pays_1 : decode cX5_pays 1 = .ok (.getfield 102, 3) := dk_180 0 102 (dk_at dksX5_pays_0 1 rfl rfl)
theorem dX5_pays_4 : decode cX5_pays 4 = .ok (.iconst 2, 1) := dk_5 (dk_at dksX5_pays_0 4 rfl rfl)
theorem dX5_pays_5 : decode cX5_pays 5 = .ok (.aaload, 1) := dk_50 (dk_at dksX5_pays_0 5 rfl rfl)
theorem dX5_pays_6 : decode cX5_pays 6 = .ok (.ifnonnull 7, 3) := dk_199 0 7 (dk_at dksX5_pays_0 6 rfl rfl)
theorem dX5_pays_9 : decode cX5_pays 9 = .ok (.iconst 1, 1) := dk_4 (dk_at dksX5_pays_0 9 rfl rfl)
theorem dX5_pays_10 : decode cX5_pays 10 = .ok (.goto 37, 3) := dk_167 0 37 (dk_at dksX5_pays_0 10 rfl rfl)
theorem dX5_pays_13 : decode cX5_pays 13 = .ok (.bipush 99, 2) := dk_16 99 (dk_at dksX5_pays_0 13 rfl rfl)
theorem dX5_pays_15 : decode cX5_pays 15 = .ok (.aload_n 1, 1) := dk_43 (dk_at dksX5_pays_0 15 rfl rfl)
theorem dX5_pays_16 : decode cX5_pays 16 = .ok (.getfield 102, 3) := dk_180 0 102 (dk_at dksX5_pays_0 16 rfl rfl)
theorem dX5_pays_19 : decode cX5_pays 19 = .ok (.iconst 2, 1) := dk_5 (dk_at dksX5_pays_0 19 rfl rfl)
theorem dX5_pays_20 : decode cX5_pays 20 = .ok (.aaload, 1) := dk_50 (dk_at dksX5_pays_0 20 rfl rfl)
theorem dX5_pays_21 : decode cX5_pays 21 = .ok (.aload_n 0, 1) := dk_42 (dk_at dksX5_pays_0 21 rfl rfl)
theorem dX5_pays_22 : decode cX5_pays 22 = .ok (.iload_n 2, 1) := dk_28 (dk_at dksX5_pays_0 22 rfl rfl)
theorem dX5_pays_23 : decode cX5_pays 23 = .ok (.iload_n 3, 1) := dk_29 (dk_at dksX5_pays_0 23 rfl rfl)
theorem dX5_pays_24 : decode cX5_pays 24 = .ok (.aload_n 1, 1) := dk_43 (dk_at dksX5_pays_1 0 rfl rfl)
theorem dX5_pays_25 : decode cX5_pays 25 = .ok (.getfield 120, 3) := dk_180 0 120 (dk_at dksX5_pays_1 1 rfl rfl)
theorem dX5_pays_28 : decode cX5_pays 28 = .ok (.iload_n 3, 1) := dk_29 (dk_at dksX5_pays_1 4 rfl rfl)
theorem dX5_pays_29 : decode cX5_pays 29 = .ok (.invokevirtual 54, 3) := dk_182 0 54 (dk_at dksX5_pays_1 5 rfl rfl)
theorem dX5_pays_32 : decode cX5_pays 32 = .ok (.checkcast 123, 3) := dk_192 0 123 (dk_at dksX5_pays_1 8 rfl rfl)
theorem dX5_pays_35 : decode cX5_pays 35 = .ok (.getfield 125, 3) := dk_180 0 125 (dk_at dksX5_pays_1 11 rfl rfl)
theorem dX5_pays_38 : decode cX5_pays 38 = .ok (.invokevirtual 110, 3) := dk_182 0 110 (dk_at dksX5_pays_1 14 rfl rfl)
theorem dX5_pays_41 : decode cX5_pays 41 = .ok (.invokevirtual 114, 3) := dk_182 0 114 (dk_at dksX5_pays_1 17 rfl rfl)
theorem dX5_pays_44 : decode cX5_pays 44 = .ok (.invokestatic 106, 3) := dk_184 0 106 (dk_at dksX5_pays_1 20 rfl rfl)
theorem dX5_pays_47 : decode cX5_pays 47 = .ok (.ireturn, 1) := dk_172 (dk_at dksX5_pays_1 23 rfl rfl)
abbrev cX5_asks : ByteArray := prog_18_method_6_code
def yX5_asks : MethodName := ⟨RX5, "asks", "(II[I)LKnockerFaces$Asked;"⟩
def dkwX5_asks_5 : List UInt8 := [46, 79, 42, 180, 0, 38, 176]
abbrev dktX5_asks_5 : List UInt8 := dkwX5_asks_5 ++ []
def dkwX5_asks_4 : List UInt8 := [180, 0, 38, 180, 0, 89, 16, 7, 28, 79, 42, 180, 0, 38, 180, 0, 89, 16, 8, 42, 180, 0, 23, 27]
abbrev dktX5_asks_4 : List UInt8 := dkwX5_asks_4 ++ dktX5_asks_5
def dkwX5_asks_3 : List UInt8 := [79, 42, 180, 0, 38, 180, 0, 89, 16, 6, 42, 180, 0, 11, 27, 50, 45, 184, 0, 92, 79, 42]
abbrev dktX5_asks_3 : List UInt8 := dkwX5_asks_3 ++ dktX5_asks_4
def dkwX5_asks_2 : List UInt8 := [46, 79, 42, 180, 0, 38, 180, 0, 89, 7, 42, 180, 0, 72, 79, 42, 180, 0, 38, 180, 0, 89, 8, 3]
abbrev dktX5_asks_2 : List UInt8 := dkwX5_asks_2 ++ dktX5_asks_3
def dkwX5_asks_1 : List UInt8 := [180, 0, 89, 5, 42, 180, 0, 16, 27, 46, 79, 42, 180, 0, 38, 180, 0, 89, 6, 42, 180, 0, 20, 27]
abbrev dktX5_asks_1 : List UInt8 := dkwX5_asks_1 ++ dktX5_asks_2
def dkwX5_asks_0 : List UInt8 := [42, 180, 0, 38, 180, 0, 89, 3, 3, 79, 42, 180, 0, 38, 180, 0, 89, 4, 3, 79, 42, 180, 0, 38]
abbrev dktX5_asks_0 : List UInt8 := dkwX5_asks_0 ++ dktX5_asks_1
theorem dksX5_asks_0 : cX5_asks.data.toList.drop 0 = dktX5_asks_0 := by decide +kernel
theorem dksX5_asks_1 : cX5_asks.data.toList.drop 24 = dktX5_asks_1 := dk_seg dksX5_asks_0 24 rfl rfl
theorem dksX5_asks_2 : cX5_asks.data.toList.drop 48 = dktX5_asks_2 := dk_seg dksX5_asks_1 24 rfl rfl
theorem dksX5_asks_3 : cX5_asks.data.toList.drop 72 = dktX5_asks_3 := dk_seg dksX5_asks_2 24 rfl rfl
theorem dksX5_asks_4 : cX5_asks.data.toList.drop 94 = dktX5_asks_4 := dk_seg dksX5_asks_3 22 rfl rfl
theorem dksX5_asks_5 : cX5_asks.data.toList.drop 118 = dktX5_asks_5 := dk_seg dksX5_asks_4 24 rfl rfl
theorem dX5_asks_0 : decode cX5_asks 0 = .ok (.aload_n 0, 1) := dk_42 (dk_at dksX5_asks_0 0 rfl rfl)
theorem dX5_asks_1 : decode cX5_asks 1 = .ok (.getfield 38, 3) := dk_180 0 38 (dk_at dksX5_asks_0 1 rfl rfl)
theorem dX5_asks_4 : decode cX5_asks 4 = .ok (.getfield 89, 3) := dk_180 0 89 (dk_at dksX5_asks_0 4 rfl rfl)
theorem dX5_asks_7 : decode cX5_asks 7 = .ok (.iconst 0, 1) := dk_3 (dk_at dksX5_asks_0 7 rfl rfl)
theorem dX5_asks_8 : decode cX5_asks 8 = .ok (.iconst 0, 1) := dk_3 (dk_at dksX5_asks_0 8 rfl rfl)
theorem dX5_asks_9 : decode cX5_asks 9 = .ok (.iastore, 1) := dk_79 (dk_at dksX5_asks_0 9 rfl rfl)
theorem dX5_asks_10 : decode cX5_asks 10 = .ok (.aload_n 0, 1) := dk_42 (dk_at dksX5_asks_0 10 rfl rfl)
theorem dX5_asks_11 : decode cX5_asks 11 = .ok (.getfield 38, 3) := dk_180 0 38 (dk_at dksX5_asks_0 11 rfl rfl)
theorem dX5_asks_14 : decode cX5_asks 14 = .ok (.getfield 89, 3) := dk_180 0 89 (dk_at dksX5_asks_0 14 rfl rfl)
theorem dX5_asks_17 : decode cX5_asks 17 = .ok (.iconst 1, 1) := dk_4 (dk_at dksX5_asks_0 17 rfl rfl)
theorem dX5_asks_18 : decode cX5_asks 18 = .ok (.iconst 0, 1) := dk_3 (dk_at dksX5_asks_0 18 rfl rfl)
theorem dX5_asks_19 : decode cX5_asks 19 = .ok (.iastore, 1) := dk_79 (dk_at dksX5_asks_0 19 rfl rfl)
theorem dX5_asks_20 : decode cX5_asks 20 = .ok (.aload_n 0, 1) := dk_42 (dk_at dksX5_asks_0 20 rfl rfl)
theorem dX5_asks_21 : decode cX5_asks 21 = .ok (.getfield 38, 3) := dk_180 0 38 (dk_at dksX5_asks_0 21 rfl rfl)
theorem dX5_asks_24 : decode cX5_asks 24 = .ok (.getfield 89, 3) := dk_180 0 89 (dk_at dksX5_asks_1 0 rfl rfl)
theorem dX5_asks_27 : decode cX5_asks 27 = .ok (.iconst 2, 1) := dk_5 (dk_at dksX5_asks_1 3 rfl rfl)
theorem dX5_asks_28 : decode cX5_asks 28 = .ok (.aload_n 0, 1) := dk_42 (dk_at dksX5_asks_1 4 rfl rfl)
theorem dX5_asks_29 : decode cX5_asks 29 = .ok (.getfield 16, 3) := dk_180 0 16 (dk_at dksX5_asks_1 5 rfl rfl)
theorem dX5_asks_32 : decode cX5_asks 32 = .ok (.iload_n 1, 1) := dk_27 (dk_at dksX5_asks_1 8 rfl rfl)
theorem dX5_asks_33 : decode cX5_asks 33 = .ok (.iaload, 1) := dk_46 (dk_at dksX5_asks_1 9 rfl rfl)
theorem dX5_asks_34 : decode cX5_asks 34 = .ok (.iastore, 1) := dk_79 (dk_at dksX5_asks_1 10 rfl rfl)
theorem dX5_asks_35 : decode cX5_asks 35 = .ok (.aload_n 0, 1) := dk_42 (dk_at dksX5_asks_1 11 rfl rfl)
theorem dX5_asks_36 : decode cX5_asks 36 = .ok (.getfield 38, 3) := dk_180 0 38 (dk_at dksX5_asks_1 12 rfl rfl)
theorem dX5_asks_39 : decode cX5_asks 39 = .ok (.getfield 89, 3) := dk_180 0 89 (dk_at dksX5_asks_1 15 rfl rfl)
theorem dX5_asks_42 : decode cX5_asks 42 = .ok (.iconst 3, 1) := dk_6 (dk_at dksX5_asks_1 18 rfl rfl)
theorem dX5_asks_43 : decode cX5_asks 43 = .ok (.aload_n 0, 1) := dk_42 (dk_at dksX5_asks_1 19 rfl rfl)
theorem dX5_asks_44 : decode cX5_asks 44 = .ok (.getfield 20, 3) := dk_180 0 20 (dk_at dksX5_asks_1 20 rfl rfl)
theorem dX5_asks_47 : decode cX5_asks 47 = .ok (.iload_n 1, 1) := dk_27 (dk_at dksX5_asks_1 23 rfl rfl)
theorem dX5_asks_48 : decode cX5_asks 48 = .ok (.iaload, 1) := dk_46 (dk_at dksX5_asks_2 0 rfl rfl)
theorem dX5_asks_49 : decode cX5_asks 49 = .ok (.iastore, 1) := dk_79 (dk_at dksX5_asks_2 1 rfl rfl)
theorem dX5_asks_50 : decode cX5_asks 50 = .ok (.aload_n 0, 1) := dk_42 (dk_at dksX5_asks_2 2 rfl rfl)
theorem dX5_asks_51 : decode cX5_asks 51 = .ok (.getfield 38, 3) := dk_180 0 38 (dk_at dksX5_asks_2 3 rfl rfl)
theorem dX5_asks_54 : decode cX5_asks 54 = .ok (.getfield 89, 3) := dk_180 0 89 (dk_at dksX5_asks_2 6 rfl rfl)
theorem dX5_asks_57 : decode cX5_asks 57 = .ok (.iconst 4, 1) := dk_7 (dk_at dksX5_asks_2 9 rfl rfl)
theorem dX5_asks_58 : decode cX5_asks 58 = .ok (.aload_n 0, 1) := dk_42 (dk_at dksX5_asks_2 10 rfl rfl)
theorem dX5_asks_59 : decode cX5_asks 59 = .ok (.getfield 72, 3) := dk_180 0 72 (dk_at dksX5_asks_2 11 rfl rfl)
theorem dX5_asks_62 : decode cX5_asks 62 = .ok (.iastore, 1) := dk_79 (dk_at dksX5_asks_2 14 rfl rfl)
theorem dX5_asks_63 : decode cX5_asks 63 = .ok (.aload_n 0, 1) := dk_42 (dk_at dksX5_asks_2 15 rfl rfl)
theorem dX5_asks_64 : decode cX5_asks 64 = .ok (.getfield 38, 3) := dk_180 0 38 (dk_at dksX5_asks_2 16 rfl rfl)
theorem dX5_asks_67 : decode cX5_asks 67 = .ok (.getfield 89, 3) := dk_180 0 89 (dk_at dksX5_asks_2 19 rfl rfl)
theorem dX5_asks_70 : decode cX5_asks 70 = .ok (.iconst 5, 1) := dk_8 (dk_at dksX5_asks_2 22 rfl rfl)
theorem dX5_asks_71 : decode cX5_asks 71 = .ok (.iconst 0, 1) := dk_3 (dk_at dksX5_asks_2 23 rfl rfl)
theorem dX5_asks_72 : decode cX5_asks 72 = .ok (.iastore, 1) := dk_79 (dk_at dksX5_asks_3 0 rfl rfl)
theorem dX5_asks_73 : decode cX5_asks 73 = .ok (.aload_n 0, 1) := dk_42 (dk_at dksX5_asks_3 1 rfl rfl)
theorem dX5_asks_74 : decode cX5_asks 74 = .ok (.getfield 38, 3) := dk_180 0 38 (dk_at dksX5_asks_3 2 rfl rfl)
theorem dX5_asks_77 : decode cX5_asks 77 = .ok (.getfield 89, 3) := dk_180 0 89 (dk_at dksX5_asks_3 5 rfl rfl)
theorem dX5_asks_80 : decode cX5_asks 80 = .ok (.bipush 6, 2) := dk_16 6 (dk_at dksX5_asks_3 8 rfl rfl)
theorem dX5_asks_82 : decode cX5_asks 82 = .ok (.aload_n 0, 1) := dk_42 (dk_at dksX5_asks_3 10 rfl rfl)
theorem dX5_asks_83 : decode cX5_asks 83 = .ok (.getfield 11, 3) := dk_180 0 11 (dk_at dksX5_asks_3 11 rfl rfl)
theorem dX5_asks_86 : decode cX5_asks 86 = .ok (.iload_n 1, 1) := dk_27 (dk_at dksX5_asks_3 14 rfl rfl)
theorem dX5_asks_87 : decode cX5_asks 87 = .ok (.aaload, 1) := dk_50 (dk_at dksX5_asks_3 15 rfl rfl)
theorem dX5_asks_88 : decode cX5_asks 88 = .ok (.aload_n 3, 1) := dk_45 (dk_at dksX5_asks_3 16 rfl rfl)
theorem dX5_asks_89 : decode cX5_asks 89 = .ok (.invokestatic 92, 3) := dk_184 0 92 (dk_at dksX5_asks_3 17 rfl rfl)
theorem dX5_asks_92 : decode cX5_asks 92 = .ok (.iastore, 1) := dk_79 (dk_at dksX5_asks_3 20 rfl rfl)
theorem dX5_asks_93 : decode cX5_asks 93 = .ok (.aload_n 0, 1) := dk_42 (dk_at dksX5_asks_3 21 rfl rfl)
theorem dX5_asks_94 : decode cX5_asks 94 = .ok (.getfield 38, 3) := dk_180 0 38 (dk_at dksX5_asks_4 0 rfl rfl)
theorem dX5_asks_97 : decode cX5_asks 97 = .ok (.getfield 89, 3) := dk_180 0 89 (dk_at dksX5_asks_4 3 rfl rfl)
theorem dX5_asks_100 : decode cX5_asks 100 = .ok (.bipush 7, 2) := dk_16 7 (dk_at dksX5_asks_4 6 rfl rfl)
theorem dX5_asks_102 : decode cX5_asks 102 = .ok (.iload_n 2, 1) := dk_28 (dk_at dksX5_asks_4 8 rfl rfl)
theorem dX5_asks_103 : decode cX5_asks 103 = .ok (.iastore, 1) := dk_79 (dk_at dksX5_asks_4 9 rfl rfl)
theorem dX5_asks_104 : decode cX5_asks 104 = .ok (.aload_n 0, 1) := dk_42 (dk_at dksX5_asks_4 10 rfl rfl)
theorem dX5_asks_105 : decode cX5_asks 105 = .ok (.getfield 38, 3) := dk_180 0 38 (dk_at dksX5_asks_4 11 rfl rfl)
theorem dX5_asks_108 : decode cX5_asks 108 = .ok (.getfield 89, 3) := dk_180 0 89 (dk_at dksX5_asks_4 14 rfl rfl)
theorem dX5_asks_111 : decode cX5_asks 111 = .ok (.bipush 8, 2) := dk_16 8 (dk_at dksX5_asks_4 17 rfl rfl)
theorem dX5_asks_113 : decode cX5_asks 113 = .ok (.aload_n 0, 1) := dk_42 (dk_at dksX5_asks_4 19 rfl rfl)
theorem dX5_asks_114 : decode cX5_asks 114 = .ok (.getfield 23, 3) := dk_180 0 23 (dk_at dksX5_asks_4 20 rfl rfl)
theorem dX5_asks_117 : decode cX5_asks 117 = .ok (.iload_n 1, 1) := dk_27 (dk_at dksX5_asks_4 23 rfl rfl)
theorem dX5_asks_118 : decode cX5_asks 118 = .ok (.iaload, 1) := dk_46 (dk_at dksX5_asks_5 0 rfl rfl)
theorem dX5_asks_119 : decode cX5_asks 119 = .ok (.iastore, 1) := dk_79 (dk_at dksX5_asks_5 1 rfl rfl)
theorem dX5_asks_120 : decode cX5_asks 120 = .ok (.aload_n 0, 1) := dk_42 (dk_at dksX5_asks_5 2 rfl rfl)
theorem dX5_asks_121 : decode cX5_asks 121 = .ok (.getfield 38, 3) := dk_180 0 38 (dk_at dksX5_asks_5 3 rfl rfl)
theorem dX5_asks_124 : decode cX5_asks 124 = .ok (.areturn, 1) := dk_176 (dk_at dksX5_asks_5 6 rfl rfl)
abbrev cX5_gives : ByteArray := prog_18_method_8_code
def yX5_gives : MethodName := ⟨RX5, "gives", "(LKnockerFaces$Text;III)I"⟩
def dkwX5_gives_1 : List UInt8 := [182, 0, 126, 172]
abbrev dktX5_gives_1 : List UInt8 := dkwX5_gives_1 ++ []
def dkwX5_gives_0 : List UInt8 := [42, 43, 3, 28, 21, 4, 29, 43, 180, 0, 120, 29, 182, 0, 54, 192, 0, 123, 180, 0, 125, 4]
abbrev dktX5_gives_0 : List UInt8 := dkwX5_gives_0 ++ dktX5_gives_1
theorem dksX5_gives_0 : cX5_gives.data.toList.drop 0 = dktX5_gives_0 := by decide +kernel
theorem dksX5_gives_1 : cX5_gives.data.toList.drop 22 = dktX5_gives_1 := dk_seg dksX5_gives_0 22 rfl rfl
theorem dX5_gives_0 : decode cX5_gives 0 = .ok (.aload_n 0, 1) := dk_42 (dk_at dksX5_gives_0 0 rfl rfl)
theorem dX5_gives_1 : decode cX5_gives 1 = .ok (.aload_n 1, 1) := dk_43 (dk_at dksX5_gives_0 1 rfl rfl)
theorem dX5_gives_2 : decode cX5_gives 2 = .ok (.iconst 0, 1) := dk_3 (dk_at dksX5_gives_0 2 rfl rfl)
theorem dX5_gives_3 : decode cX5_gives 3 = .ok (.iload_n 2, 1) := dk_28 (dk_at dksX5_gives_0 3 rfl rfl)
theorem dX5_gives_4 : decode cX5_gives 4 = .ok (.iload 4, 2) := dk_21 4 (dk_at dksX5_gives_0 4 rfl rfl)
theorem dX5_gives_6 : decode cX5_gives 6 = .ok (.iload_n 3, 1) := dk_29 (dk_at dksX5_gives_0 6 rfl rfl)
theorem dX5_gives_7 : decode cX5_gives 7 = .ok (.aload_n 1, 1) := dk_43 (dk_at dksX5_gives_0 7 rfl rfl)
theorem dX5_gives_8 : decode cX5_gives 8 = .ok (.getfield 120, 3) := dk_180 0 120 (dk_at dksX5_gives_0 8 rfl rfl)
theorem dX5_gives_11 : decode cX5_gives 11 = .ok (.iload_n 3, 1) := dk_29 (dk_at dksX5_gives_0 11 rfl rfl)
theorem dX5_gives_12 : decode cX5_gives 12 = .ok (.invokevirtual 54, 3) := dk_182 0 54 (dk_at dksX5_gives_0 12 rfl rfl)
theorem dX5_gives_15 : decode cX5_gives 15 = .ok (.checkcast 123, 3) := dk_192 0 123 (dk_at dksX5_gives_0 15 rfl rfl)
theorem dX5_gives_18 : decode cX5_gives 18 = .ok (.getfield 125, 3) := dk_180 0 125 (dk_at dksX5_gives_0 18 rfl rfl)
theorem dX5_gives_21 : decode cX5_gives 21 = .ok (.iconst 1, 1) := dk_4 (dk_at dksX5_gives_0 21 rfl rfl)
theorem dX5_gives_22 : decode cX5_gives 22 = .ok (.invokevirtual 126, 3) := dk_182 0 126 (dk_at dksX5_gives_1 0 rfl rfl)
theorem dX5_gives_25 : decode cX5_gives 25 = .ok (.ireturn, 1) := dk_172 (dk_at dksX5_gives_1 3 rfl rfl)
abbrev cX5_muchBy : ByteArray := prog_18_method_7_code
def yX5_muchBy : MethodName := ⟨RX5, "muchBy", "(LKnockerFaces$Text;IIII[II)I"⟩
def dkwX5_muchBy_4 : List UInt8 := [50, 42, 180, 0, 38, 182, 0, 114, 184, 0, 106, 172]
abbrev dktX5_muchBy_4 : List UInt8 := dkwX5_muchBy_4 ++ []
def dkwX5_muchBy_3 : List UInt8 := [180, 0, 38, 180, 0, 89, 8, 42, 180, 0, 11, 29, 50, 21, 4, 46, 79, 21, 8, 43, 180, 0, 102, 28]
abbrev dktX5_muchBy_3 : List UInt8 := dkwX5_muchBy_3 ++ dktX5_muchBy_4
def dkwX5_muchBy_2 : List UInt8 := [180, 0, 38, 180, 0, 89, 3, 21, 8, 79, 42, 180, 0, 38, 180, 0, 89, 4, 21, 4, 79, 42]
abbrev dktX5_muchBy_2 : List UInt8 := dkwX5_muchBy_2 ++ dktX5_muchBy_3
def dkwX5_muchBy_1 : List UInt8 := [28, 50, 199, 0, 11, 21, 8, 21, 7, 184, 0, 106, 172, 42, 29, 21, 5, 25, 6, 182, 0, 110, 87, 42]
abbrev dktX5_muchBy_1 : List UInt8 := dkwX5_muchBy_1 ++ dktX5_muchBy_2
def dkwX5_muchBy_0 : List UInt8 := [42, 180, 0, 11, 29, 50, 21, 4, 46, 25, 6, 21, 4, 46, 100, 184, 0, 96, 54, 8, 43, 180, 0, 102]
abbrev dktX5_muchBy_0 : List UInt8 := dkwX5_muchBy_0 ++ dktX5_muchBy_1
theorem dksX5_muchBy_0 : cX5_muchBy.data.toList.drop 0 = dktX5_muchBy_0 := by decide +kernel
theorem dksX5_muchBy_1 : cX5_muchBy.data.toList.drop 24 = dktX5_muchBy_1 := dk_seg dksX5_muchBy_0 24 rfl rfl
theorem dksX5_muchBy_2 : cX5_muchBy.data.toList.drop 48 = dktX5_muchBy_2 := dk_seg dksX5_muchBy_1 24 rfl rfl
theorem dksX5_muchBy_3 : cX5_muchBy.data.toList.drop 70 = dktX5_muchBy_3 := dk_seg dksX5_muchBy_2 22 rfl rfl
theorem dksX5_muchBy_4 : cX5_muchBy.data.toList.drop 94 = dktX5_muchBy_4 := dk_seg dksX5_muchBy_3 24 rfl rfl
theorem dX5_muchBy_0 : decode cX5_muchBy 0 = .ok (.aload_n 0, 1) := dk_42 (dk_at dksX5_muchBy_0 0 rfl rfl)
theorem dX5_muchBy_1 : decode cX5_muchBy 1 = .ok (.getfield 11, 3) := dk_180 0 11 (dk_at dksX5_muchBy_0 1 rfl rfl)
theorem dX5_muchBy_4 : decode cX5_muchBy 4 = .ok (.iload_n 3, 1) := dk_29 (dk_at dksX5_muchBy_0 4 rfl rfl)
theorem dX5_muchBy_5 : decode cX5_muchBy 5 = .ok (.aaload, 1) := dk_50 (dk_at dksX5_muchBy_0 5 rfl rfl)
theorem dX5_muchBy_6 : decode cX5_muchBy 6 = .ok (.iload 4, 2) := dk_21 4 (dk_at dksX5_muchBy_0 6 rfl rfl)
theorem dX5_muchBy_8 : decode cX5_muchBy 8 = .ok (.iaload, 1) := dk_46 (dk_at dksX5_muchBy_0 8 rfl rfl)
theorem dX5_muchBy_9 : decode cX5_muchBy 9 = .ok (.aload 6, 2) := dk_25 6 (dk_at dksX5_muchBy_0 9 rfl rfl)
theorem dX5_muchBy_11 : decode cX5_muchBy 11 = .ok (.iload 4, 2) := dk_21 4 (dk_at dksX5_muchBy_0 11 rfl rfl)
theorem dX5_muchBy_13 : decode cX5_muchBy 13 = .ok (.iaload, 1) := dk_46 (dk_at dksX5_muchBy_0 13 rfl rfl)
theorem dX5_muchBy_14 : decode cX5_muchBy 14 = .ok (.isub, 1) := dk_100 (dk_at dksX5_muchBy_0 14 rfl rfl)
theorem dX5_muchBy_15 : decode cX5_muchBy 15 = .ok (.invokestatic 96, 3) := dk_184 0 96 (dk_at dksX5_muchBy_0 15 rfl rfl)
theorem dX5_muchBy_18 : decode cX5_muchBy 18 = .ok (.istore 8, 2) := dk_54 8 (dk_at dksX5_muchBy_0 18 rfl rfl)
theorem dX5_muchBy_20 : decode cX5_muchBy 20 = .ok (.aload_n 1, 1) := dk_43 (dk_at dksX5_muchBy_0 20 rfl rfl)
theorem dX5_muchBy_21 : decode cX5_muchBy 21 = .ok (.getfield 102, 3) := dk_180 0 102 (dk_at dksX5_muchBy_0 21 rfl rfl)
theorem dX5_muchBy_24 : decode cX5_muchBy 24 = .ok (.iload_n 2, 1) := dk_28 (dk_at dksX5_muchBy_1 0 rfl rfl)
theorem dX5_muchBy_25 : decode cX5_muchBy 25 = .ok (.aaload, 1) := dk_50 (dk_at dksX5_muchBy_1 1 rfl rfl)
theorem dX5_muchBy_26 : decode cX5_muchBy 26 = .ok (.ifnonnull 11, 3) := dk_199 0 11 (dk_at dksX5_muchBy_1 2 rfl rfl)
theorem dX5_muchBy_29 : decode cX5_muchBy 29 = .ok (.iload 8, 2) := dk_21 8 (dk_at dksX5_muchBy_1 5 rfl rfl)
theorem dX5_muchBy_31 : decode cX5_muchBy 31 = .ok (.iload 7, 2) := dk_21 7 (dk_at dksX5_muchBy_1 7 rfl rfl)
theorem dX5_muchBy_33 : decode cX5_muchBy 33 = .ok (.invokestatic 106, 3) := dk_184 0 106 (dk_at dksX5_muchBy_1 9 rfl rfl)
theorem dX5_muchBy_36 : decode cX5_muchBy 36 = .ok (.ireturn, 1) := dk_172 (dk_at dksX5_muchBy_1 12 rfl rfl)
theorem dX5_muchBy_37 : decode cX5_muchBy 37 = .ok (.aload_n 0, 1) := dk_42 (dk_at dksX5_muchBy_1 13 rfl rfl)
theorem dX5_muchBy_38 : decode cX5_muchBy 38 = .ok (.iload_n 3, 1) := dk_29 (dk_at dksX5_muchBy_1 14 rfl rfl)
theorem dX5_muchBy_39 : decode cX5_muchBy 39 = .ok (.iload 5, 2) := dk_21 5 (dk_at dksX5_muchBy_1 15 rfl rfl)
theorem dX5_muchBy_41 : decode cX5_muchBy 41 = .ok (.aload 6, 2) := dk_25 6 (dk_at dksX5_muchBy_1 17 rfl rfl)
theorem dX5_muchBy_43 : decode cX5_muchBy 43 = .ok (.invokevirtual 110, 3) := dk_182 0 110 (dk_at dksX5_muchBy_1 19 rfl rfl)
theorem dX5_muchBy_46 : decode cX5_muchBy 46 = .ok (.pop, 1) := dk_87 (dk_at dksX5_muchBy_1 22 rfl rfl)
theorem dX5_muchBy_47 : decode cX5_muchBy 47 = .ok (.aload_n 0, 1) := dk_42 (dk_at dksX5_muchBy_1 23 rfl rfl)
theorem dX5_muchBy_48 : decode cX5_muchBy 48 = .ok (.getfield 38, 3) := dk_180 0 38 (dk_at dksX5_muchBy_2 0 rfl rfl)
theorem dX5_muchBy_51 : decode cX5_muchBy 51 = .ok (.getfield 89, 3) := dk_180 0 89 (dk_at dksX5_muchBy_2 3 rfl rfl)
theorem dX5_muchBy_54 : decode cX5_muchBy 54 = .ok (.iconst 0, 1) := dk_3 (dk_at dksX5_muchBy_2 6 rfl rfl)
theorem dX5_muchBy_55 : decode cX5_muchBy 55 = .ok (.iload 8, 2) := dk_21 8 (dk_at dksX5_muchBy_2 7 rfl rfl)
theorem dX5_muchBy_57 : decode cX5_muchBy 57 = .ok (.iastore, 1) := dk_79 (dk_at dksX5_muchBy_2 9 rfl rfl)
theorem dX5_muchBy_58 : decode cX5_muchBy 58 = .ok (.aload_n 0, 1) := dk_42 (dk_at dksX5_muchBy_2 10 rfl rfl)
theorem dX5_muchBy_59 : decode cX5_muchBy 59 = .ok (.getfield 38, 3) := dk_180 0 38 (dk_at dksX5_muchBy_2 11 rfl rfl)
theorem dX5_muchBy_62 : decode cX5_muchBy 62 = .ok (.getfield 89, 3) := dk_180 0 89 (dk_at dksX5_muchBy_2 14 rfl rfl)
theorem dX5_muchBy_65 : decode cX5_muchBy 65 = .ok (.iconst 1, 1) := dk_4 (dk_at dksX5_muchBy_2 17 rfl rfl)
theorem dX5_muchBy_66 : decode cX5_muchBy 66 = .ok (.iload 4, 2) := dk_21 4 (dk_at dksX5_muchBy_2 18 rfl rfl)
theorem dX5_muchBy_68 : decode cX5_muchBy 68 = .ok (.iastore, 1) := dk_79 (dk_at dksX5_muchBy_2 20 rfl rfl)
theorem dX5_muchBy_69 : decode cX5_muchBy 69 = .ok (.aload_n 0, 1) := dk_42 (dk_at dksX5_muchBy_2 21 rfl rfl)
theorem dX5_muchBy_70 : decode cX5_muchBy 70 = .ok (.getfield 38, 3) := dk_180 0 38 (dk_at dksX5_muchBy_3 0 rfl rfl)
theorem dX5_muchBy_73 : decode cX5_muchBy 73 = .ok (.getfield 89, 3) := dk_180 0 89 (dk_at dksX5_muchBy_3 3 rfl rfl)
theorem dX5_muchBy_76 : decode cX5_muchBy 76 = .ok (.iconst 5, 1) := dk_8 (dk_at dksX5_muchBy_3 6 rfl rfl)
theorem dX5_muchBy_77 : decode cX5_muchBy 77 = .ok (.aload_n 0, 1) := dk_42 (dk_at dksX5_muchBy_3 7 rfl rfl)
theorem dX5_muchBy_78 : decode cX5_muchBy 78 = .ok (.getfield 11, 3) := dk_180 0 11 (dk_at dksX5_muchBy_3 8 rfl rfl)
theorem dX5_muchBy_81 : decode cX5_muchBy 81 = .ok (.iload_n 3, 1) := dk_29 (dk_at dksX5_muchBy_3 11 rfl rfl)
theorem dX5_muchBy_82 : decode cX5_muchBy 82 = .ok (.aaload, 1) := dk_50 (dk_at dksX5_muchBy_3 12 rfl rfl)
theorem dX5_muchBy_83 : decode cX5_muchBy 83 = .ok (.iload 4, 2) := dk_21 4 (dk_at dksX5_muchBy_3 13 rfl rfl)
theorem dX5_muchBy_85 : decode cX5_muchBy 85 = .ok (.iaload, 1) := dk_46 (dk_at dksX5_muchBy_3 15 rfl rfl)
theorem dX5_muchBy_86 : decode cX5_muchBy 86 = .ok (.iastore, 1) := dk_79 (dk_at dksX5_muchBy_3 16 rfl rfl)
theorem dX5_muchBy_87 : decode cX5_muchBy 87 = .ok (.iload 8, 2) := dk_21 8 (dk_at dksX5_muchBy_3 17 rfl rfl)
theorem dX5_muchBy_89 : decode cX5_muchBy 89 = .ok (.aload_n 1, 1) := dk_43 (dk_at dksX5_muchBy_3 19 rfl rfl)
theorem dX5_muchBy_90 : decode cX5_muchBy 90 = .ok (.getfield 102, 3) := dk_180 0 102 (dk_at dksX5_muchBy_3 20 rfl rfl)
theorem dX5_muchBy_93 : decode cX5_muchBy 93 = .ok (.iload_n 2, 1) := dk_28 (dk_at dksX5_muchBy_3 23 rfl rfl)
theorem dX5_muchBy_94 : decode cX5_muchBy 94 = .ok (.aaload, 1) := dk_50 (dk_at dksX5_muchBy_4 0 rfl rfl)
theorem dX5_muchBy_95 : decode cX5_muchBy 95 = .ok (.aload_n 0, 1) := dk_42 (dk_at dksX5_muchBy_4 1 rfl rfl)
theorem dX5_muchBy_96 : decode cX5_muchBy 96 = .ok (.getfield 38, 3) := dk_180 0 38 (dk_at dksX5_muchBy_4 2 rfl rfl)
theorem dX5_muchBy_99 : decode cX5_muchBy 99 = .ok (.invokevirtual 114, 3) := dk_182 0 114 (dk_at dksX5_muchBy_4 5 rfl rfl)
theorem dX5_muchBy_102 : decode cX5_muchBy 102 = .ok (.invokestatic 106, 3) := dk_184 0 106 (dk_at dksX5_muchBy_4 8 rfl rfl)
theorem dX5_muchBy_105 : decode cX5_muchBy 105 = .ok (.ireturn, 1) := dk_172 (dk_at dksX5_muchBy_4 11 rfl rfl)
abbrev cX5_takes : ByteArray := prog_18_method_4_code
def yX5_takes : MethodName := ⟨RX5, "takes", "(LKnockerFaces$Town;)V"⟩
def dkwX5_takes_5 : List UInt8 := [181, 0, 78, 177]
abbrev dktX5_takes_5 : List UInt8 := dkwX5_takes_5 ++ []
def dkwX5_takes_4 : List UInt8 := [181, 0, 65, 42, 43, 180, 0, 69, 181, 0, 69, 42, 43, 180, 0, 72, 181, 0, 72, 42, 43, 180, 0, 78]
abbrev dktX5_takes_4 : List UInt8 := dkwX5_takes_4 ++ dktX5_takes_5
def dkwX5_takes_3 : List UInt8 := [180, 0, 26, 184, 0, 85, 43, 180, 0, 29, 42, 180, 0, 29, 184, 0, 85, 42, 43, 180, 0, 65]
abbrev dktX5_takes_3 : List UInt8 := dkwX5_takes_3 ++ dktX5_takes_4
def dkwX5_takes_2 : List UInt8 := [180, 0, 20, 184, 0, 85, 43, 180, 0, 23, 42, 180, 0, 23, 184, 0, 85, 43, 180, 0, 26, 42]
abbrev dktX5_takes_2 : List UInt8 := dkwX5_takes_2 ++ dktX5_takes_3
def dkwX5_takes_1 : List UInt8 := [132, 2, 1, 167, 255, 232, 43, 180, 0, 16, 42, 180, 0, 16, 184, 0, 85, 43, 180, 0, 20, 42]
abbrev dktX5_takes_1 : List UInt8 := dkwX5_takes_1 ++ dktX5_takes_2
def dkwX5_takes_0 : List UInt8 := [3, 61, 28, 16, 6, 162, 0, 24, 43, 180, 0, 11, 28, 50, 42, 180, 0, 11, 28, 50, 184, 0, 85]
abbrev dktX5_takes_0 : List UInt8 := dkwX5_takes_0 ++ dktX5_takes_1
theorem dksX5_takes_0 : cX5_takes.data.toList.drop 0 = dktX5_takes_0 := by decide +kernel
theorem dksX5_takes_1 : cX5_takes.data.toList.drop 23 = dktX5_takes_1 := dk_seg dksX5_takes_0 23 rfl rfl
theorem dksX5_takes_2 : cX5_takes.data.toList.drop 45 = dktX5_takes_2 := dk_seg dksX5_takes_1 22 rfl rfl
theorem dksX5_takes_3 : cX5_takes.data.toList.drop 67 = dktX5_takes_3 := dk_seg dksX5_takes_2 22 rfl rfl
theorem dksX5_takes_4 : cX5_takes.data.toList.drop 89 = dktX5_takes_4 := dk_seg dksX5_takes_3 22 rfl rfl
theorem dksX5_takes_5 : cX5_takes.data.toList.drop 113 = dktX5_takes_5 := dk_seg dksX5_takes_4 24 rfl rfl
theorem dX5_takes_0 : decode cX5_takes 0 = .ok (.iconst 0, 1) := dk_3 (dk_at dksX5_takes_0 0 rfl rfl)
theorem dX5_takes_1 : decode cX5_takes 1 = .ok (.istore_n 2, 1) := dk_61 (dk_at dksX5_takes_0 1 rfl rfl)
theorem dX5_takes_2 : decode cX5_takes 2 = .ok (.iload_n 2, 1) := dk_28 (dk_at dksX5_takes_0 2 rfl rfl)
theorem dX5_takes_3 : decode cX5_takes 3 = .ok (.bipush 6, 2) := dk_16 6 (dk_at dksX5_takes_0 3 rfl rfl)
theorem dX5_takes_5 : decode cX5_takes 5 = .ok (.if_icmp .ge 24, 3) := dk_162 0 24 (dk_at dksX5_takes_0 5 rfl rfl)
theorem dX5_takes_8 : decode cX5_takes 8 = .ok (.aload_n 1, 1) := dk_43 (dk_at dksX5_takes_0 8 rfl rfl)
theorem dX5_takes_9 : decode cX5_takes 9 = .ok (.getfield 11, 3) := dk_180 0 11 (dk_at dksX5_takes_0 9 rfl rfl)
theorem dX5_takes_12 : decode cX5_takes 12 = .ok (.iload_n 2, 1) := dk_28 (dk_at dksX5_takes_0 12 rfl rfl)
theorem dX5_takes_13 : decode cX5_takes 13 = .ok (.aaload, 1) := dk_50 (dk_at dksX5_takes_0 13 rfl rfl)
theorem dX5_takes_14 : decode cX5_takes 14 = .ok (.aload_n 0, 1) := dk_42 (dk_at dksX5_takes_0 14 rfl rfl)
theorem dX5_takes_15 : decode cX5_takes 15 = .ok (.getfield 11, 3) := dk_180 0 11 (dk_at dksX5_takes_0 15 rfl rfl)
theorem dX5_takes_18 : decode cX5_takes 18 = .ok (.iload_n 2, 1) := dk_28 (dk_at dksX5_takes_0 18 rfl rfl)
theorem dX5_takes_19 : decode cX5_takes 19 = .ok (.aaload, 1) := dk_50 (dk_at dksX5_takes_0 19 rfl rfl)
theorem dX5_takes_20 : decode cX5_takes 20 = .ok (.invokestatic 85, 3) := dk_184 0 85 (dk_at dksX5_takes_0 20 rfl rfl)
theorem dX5_takes_23 : decode cX5_takes 23 = .ok (.iinc 2 1, 3) := dk_132 2 1 (dk_at dksX5_takes_1 0 rfl rfl)
theorem dX5_takes_26 : decode cX5_takes 26 = .ok (.goto (-24), 3) := dk_167 255 232 (dk_at dksX5_takes_1 3 rfl rfl)
theorem dX5_takes_29 : decode cX5_takes 29 = .ok (.aload_n 1, 1) := dk_43 (dk_at dksX5_takes_1 6 rfl rfl)
theorem dX5_takes_30 : decode cX5_takes 30 = .ok (.getfield 16, 3) := dk_180 0 16 (dk_at dksX5_takes_1 7 rfl rfl)
theorem dX5_takes_33 : decode cX5_takes 33 = .ok (.aload_n 0, 1) := dk_42 (dk_at dksX5_takes_1 10 rfl rfl)
theorem dX5_takes_34 : decode cX5_takes 34 = .ok (.getfield 16, 3) := dk_180 0 16 (dk_at dksX5_takes_1 11 rfl rfl)
theorem dX5_takes_37 : decode cX5_takes 37 = .ok (.invokestatic 85, 3) := dk_184 0 85 (dk_at dksX5_takes_1 14 rfl rfl)
theorem dX5_takes_40 : decode cX5_takes 40 = .ok (.aload_n 1, 1) := dk_43 (dk_at dksX5_takes_1 17 rfl rfl)
theorem dX5_takes_41 : decode cX5_takes 41 = .ok (.getfield 20, 3) := dk_180 0 20 (dk_at dksX5_takes_1 18 rfl rfl)
theorem dX5_takes_44 : decode cX5_takes 44 = .ok (.aload_n 0, 1) := dk_42 (dk_at dksX5_takes_1 21 rfl rfl)
theorem dX5_takes_45 : decode cX5_takes 45 = .ok (.getfield 20, 3) := dk_180 0 20 (dk_at dksX5_takes_2 0 rfl rfl)
theorem dX5_takes_48 : decode cX5_takes 48 = .ok (.invokestatic 85, 3) := dk_184 0 85 (dk_at dksX5_takes_2 3 rfl rfl)
theorem dX5_takes_51 : decode cX5_takes 51 = .ok (.aload_n 1, 1) := dk_43 (dk_at dksX5_takes_2 6 rfl rfl)
theorem dX5_takes_52 : decode cX5_takes 52 = .ok (.getfield 23, 3) := dk_180 0 23 (dk_at dksX5_takes_2 7 rfl rfl)
theorem dX5_takes_55 : decode cX5_takes 55 = .ok (.aload_n 0, 1) := dk_42 (dk_at dksX5_takes_2 10 rfl rfl)
theorem dX5_takes_56 : decode cX5_takes 56 = .ok (.getfield 23, 3) := dk_180 0 23 (dk_at dksX5_takes_2 11 rfl rfl)
theorem dX5_takes_59 : decode cX5_takes 59 = .ok (.invokestatic 85, 3) := dk_184 0 85 (dk_at dksX5_takes_2 14 rfl rfl)
theorem dX5_takes_62 : decode cX5_takes 62 = .ok (.aload_n 1, 1) := dk_43 (dk_at dksX5_takes_2 17 rfl rfl)
theorem dX5_takes_63 : decode cX5_takes 63 = .ok (.getfield 26, 3) := dk_180 0 26 (dk_at dksX5_takes_2 18 rfl rfl)
theorem dX5_takes_66 : decode cX5_takes 66 = .ok (.aload_n 0, 1) := dk_42 (dk_at dksX5_takes_2 21 rfl rfl)
theorem dX5_takes_67 : decode cX5_takes 67 = .ok (.getfield 26, 3) := dk_180 0 26 (dk_at dksX5_takes_3 0 rfl rfl)
theorem dX5_takes_70 : decode cX5_takes 70 = .ok (.invokestatic 85, 3) := dk_184 0 85 (dk_at dksX5_takes_3 3 rfl rfl)
theorem dX5_takes_73 : decode cX5_takes 73 = .ok (.aload_n 1, 1) := dk_43 (dk_at dksX5_takes_3 6 rfl rfl)
theorem dX5_takes_74 : decode cX5_takes 74 = .ok (.getfield 29, 3) := dk_180 0 29 (dk_at dksX5_takes_3 7 rfl rfl)
theorem dX5_takes_77 : decode cX5_takes 77 = .ok (.aload_n 0, 1) := dk_42 (dk_at dksX5_takes_3 10 rfl rfl)
theorem dX5_takes_78 : decode cX5_takes 78 = .ok (.getfield 29, 3) := dk_180 0 29 (dk_at dksX5_takes_3 11 rfl rfl)
theorem dX5_takes_81 : decode cX5_takes 81 = .ok (.invokestatic 85, 3) := dk_184 0 85 (dk_at dksX5_takes_3 14 rfl rfl)
theorem dX5_takes_84 : decode cX5_takes 84 = .ok (.aload_n 0, 1) := dk_42 (dk_at dksX5_takes_3 17 rfl rfl)
theorem dX5_takes_85 : decode cX5_takes 85 = .ok (.aload_n 1, 1) := dk_43 (dk_at dksX5_takes_3 18 rfl rfl)
theorem dX5_takes_86 : decode cX5_takes 86 = .ok (.getfield 65, 3) := dk_180 0 65 (dk_at dksX5_takes_3 19 rfl rfl)
theorem dX5_takes_89 : decode cX5_takes 89 = .ok (.putfield 65, 3) := dk_181 0 65 (dk_at dksX5_takes_4 0 rfl rfl)
theorem dX5_takes_92 : decode cX5_takes 92 = .ok (.aload_n 0, 1) := dk_42 (dk_at dksX5_takes_4 3 rfl rfl)
theorem dX5_takes_93 : decode cX5_takes 93 = .ok (.aload_n 1, 1) := dk_43 (dk_at dksX5_takes_4 4 rfl rfl)
theorem dX5_takes_94 : decode cX5_takes 94 = .ok (.getfield 69, 3) := dk_180 0 69 (dk_at dksX5_takes_4 5 rfl rfl)
theorem dX5_takes_97 : decode cX5_takes 97 = .ok (.putfield 69, 3) := dk_181 0 69 (dk_at dksX5_takes_4 8 rfl rfl)
theorem dX5_takes_100 : decode cX5_takes 100 = .ok (.aload_n 0, 1) := dk_42 (dk_at dksX5_takes_4 11 rfl rfl)
theorem dX5_takes_101 : decode cX5_takes 101 = .ok (.aload_n 1, 1) := dk_43 (dk_at dksX5_takes_4 12 rfl rfl)
theorem dX5_takes_102 : decode cX5_takes 102 = .ok (.getfield 72, 3) := dk_180 0 72 (dk_at dksX5_takes_4 13 rfl rfl)
theorem dX5_takes_105 : decode cX5_takes 105 = .ok (.putfield 72, 3) := dk_181 0 72 (dk_at dksX5_takes_4 16 rfl rfl)
theorem dX5_takes_108 : decode cX5_takes 108 = .ok (.aload_n 0, 1) := dk_42 (dk_at dksX5_takes_4 19 rfl rfl)
theorem dX5_takes_109 : decode cX5_takes 109 = .ok (.aload_n 1, 1) := dk_43 (dk_at dksX5_takes_4 20 rfl rfl)
theorem dX5_takes_110 : decode cX5_takes 110 = .ok (.getfield 78, 3) := dk_180 0 78 (dk_at dksX5_takes_4 21 rfl rfl)
theorem dX5_takes_113 : decode cX5_takes 113 = .ok (.putfield 78, 3) := dk_181 0 78 (dk_at dksX5_takes_5 0 rfl rfl)
theorem dX5_takes_116 : decode cX5_takes 116 = .ok (.return_, 1) := dk_177 (dk_at dksX5_takes_5 3 rfl rfl)
abbrev cX5_copies : ByteArray := prog_18_method_3_code
def yX5_copies : MethodName := ⟨RX5, "copies", "([I[I)V"⟩
def dkwX5_copies_0 : List UInt8 := [42, 3, 43, 3, 42, 190, 184, 0, 79, 177]
abbrev dktX5_copies_0 : List UInt8 := dkwX5_copies_0 ++ []
theorem dksX5_copies_0 : cX5_copies.data.toList.drop 0 = dktX5_copies_0 := by decide +kernel
theorem dX5_copies_0 : decode cX5_copies 0 = .ok (.aload_n 0, 1) := dk_42 (dk_at dksX5_copies_0 0 rfl rfl)
theorem dX5_copies_1 : decode cX5_copies 1 = .ok (.iconst 0, 1) := dk_3 (dk_at dksX5_copies_0 1 rfl rfl)
theorem dX5_copies_2 : decode cX5_copies 2 = .ok (.aload_n 1, 1) := dk_43 (dk_at dksX5_copies_0 2 rfl rfl)
theorem dX5_copies_3 : decode cX5_copies 3 = .ok (.iconst 0, 1) := dk_3 (dk_at dksX5_copies_0 3 rfl rfl)
theorem dX5_copies_4 : decode cX5_copies 4 = .ok (.aload_n 0, 1) := dk_42 (dk_at dksX5_copies_0 4 rfl rfl)
theorem dX5_copies_5 : decode cX5_copies 5 = .ok (.arraylength, 1) := dk_190 (dk_at dksX5_copies_0 5 rfl rfl)
theorem dX5_copies_6 : decode cX5_copies 6 = .ok (.invokestatic 79, 3) := dk_184 0 79 (dk_at dksX5_copies_0 6 rfl rfl)
theorem dX5_copies_9 : decode cX5_copies 9 = .ok (.return_, 1) := dk_177 (dk_at dksX5_copies_0 9 rfl rfl)
abbrev cX5_lift : ByteArray := prog_18_method_11_code
def yX5_lift : MethodName := ⟨RX5, "lift", "(LKnockerFaces$Text;II)V"⟩
def dkwX5_lift_4 : List UInt8 := [92, 46, 4, 96, 79, 42, 89, 180, 0, 69, 4, 28, 120, 128, 181, 0, 69, 177]
abbrev dktX5_lift_4 : List UInt8 := dkwX5_lift_4 ++ []
def dkwX5_lift_3 : List UInt8 := [192, 0, 123, 180, 0, 125, 182, 0, 143, 42, 180, 0, 16, 28, 92, 46, 4, 96, 79, 42, 180, 0, 29, 29]
abbrev dktX5_lift_3 : List UInt8 := dkwX5_lift_3 ++ dktX5_lift_4
def dkwX5_lift_2 : List UInt8 := [180, 0, 26, 28, 46, 21, 4, 96, 184, 0, 106, 79, 42, 28, 43, 180, 0, 120, 29, 182, 0, 54]
abbrev dktX5_lift_2 : List UInt8 := dkwX5_lift_2 ++ dktX5_lift_3
def dkwX5_lift_1 : List UInt8 := [42, 43, 28, 29, 21, 5, 182, 0, 138, 79, 132, 5, 1, 167, 255, 231, 42, 180, 0, 26, 28, 18, 142, 42]
abbrev dktX5_lift_1 : List UInt8 := dkwX5_lift_1 ++ dktX5_lift_2
def dkwX5_lift_0 : List UInt8 := [42, 43, 28, 29, 182, 0, 134, 54, 4, 3, 54, 5, 21, 5, 7, 162, 0, 25, 42, 180, 0, 32, 21, 5]
abbrev dktX5_lift_0 : List UInt8 := dkwX5_lift_0 ++ dktX5_lift_1
theorem dksX5_lift_0 : cX5_lift.data.toList.drop 0 = dktX5_lift_0 := by decide +kernel
theorem dksX5_lift_1 : cX5_lift.data.toList.drop 24 = dktX5_lift_1 := dk_seg dksX5_lift_0 24 rfl rfl
theorem dksX5_lift_2 : cX5_lift.data.toList.drop 48 = dktX5_lift_2 := dk_seg dksX5_lift_1 24 rfl rfl
theorem dksX5_lift_3 : cX5_lift.data.toList.drop 70 = dktX5_lift_3 := dk_seg dksX5_lift_2 22 rfl rfl
theorem dksX5_lift_4 : cX5_lift.data.toList.drop 94 = dktX5_lift_4 := dk_seg dksX5_lift_3 24 rfl rfl
theorem dX5_lift_0 : decode cX5_lift 0 = .ok (.aload_n 0, 1) := dk_42 (dk_at dksX5_lift_0 0 rfl rfl)
theorem dX5_lift_1 : decode cX5_lift 1 = .ok (.aload_n 1, 1) := dk_43 (dk_at dksX5_lift_0 1 rfl rfl)
theorem dX5_lift_2 : decode cX5_lift 2 = .ok (.iload_n 2, 1) := dk_28 (dk_at dksX5_lift_0 2 rfl rfl)
theorem dX5_lift_3 : decode cX5_lift 3 = .ok (.iload_n 3, 1) := dk_29 (dk_at dksX5_lift_0 3 rfl rfl)
theorem dX5_lift_4 : decode cX5_lift 4 = .ok (.invokevirtual 134, 3) := dk_182 0 134 (dk_at dksX5_lift_0 4 rfl rfl)
theorem dX5_lift_7 : decode cX5_lift 7 = .ok (.istore 4, 2) := dk_54 4 (dk_at dksX5_lift_0 7 rfl rfl)
theorem dX5_lift_9 : decode cX5_lift 9 = .ok (.iconst 0, 1) := dk_3 (dk_at dksX5_lift_0 9 rfl rfl)
theorem dX5_lift_10 : decode cX5_lift 10 = .ok (.istore 5, 2) := dk_54 5 (dk_at dksX5_lift_0 10 rfl rfl)
theorem dX5_lift_12 : decode cX5_lift 12 = .ok (.iload 5, 2) := dk_21 5 (dk_at dksX5_lift_0 12 rfl rfl)
theorem dX5_lift_14 : decode cX5_lift 14 = .ok (.iconst 4, 1) := dk_7 (dk_at dksX5_lift_0 14 rfl rfl)
theorem dX5_lift_15 : decode cX5_lift 15 = .ok (.if_icmp .ge 25, 3) := dk_162 0 25 (dk_at dksX5_lift_0 15 rfl rfl)
theorem dX5_lift_18 : decode cX5_lift 18 = .ok (.aload_n 0, 1) := dk_42 (dk_at dksX5_lift_0 18 rfl rfl)
theorem dX5_lift_19 : decode cX5_lift 19 = .ok (.getfield 32, 3) := dk_180 0 32 (dk_at dksX5_lift_0 19 rfl rfl)
theorem dX5_lift_22 : decode cX5_lift 22 = .ok (.iload 5, 2) := dk_21 5 (dk_at dksX5_lift_0 22 rfl rfl)
theorem dX5_lift_24 : decode cX5_lift 24 = .ok (.aload_n 0, 1) := dk_42 (dk_at dksX5_lift_1 0 rfl rfl)
theorem dX5_lift_25 : decode cX5_lift 25 = .ok (.aload_n 1, 1) := dk_43 (dk_at dksX5_lift_1 1 rfl rfl)
theorem dX5_lift_26 : decode cX5_lift 26 = .ok (.iload_n 2, 1) := dk_28 (dk_at dksX5_lift_1 2 rfl rfl)
theorem dX5_lift_27 : decode cX5_lift 27 = .ok (.iload_n 3, 1) := dk_29 (dk_at dksX5_lift_1 3 rfl rfl)
theorem dX5_lift_28 : decode cX5_lift 28 = .ok (.iload 5, 2) := dk_21 5 (dk_at dksX5_lift_1 4 rfl rfl)
theorem dX5_lift_30 : decode cX5_lift 30 = .ok (.invokevirtual 138, 3) := dk_182 0 138 (dk_at dksX5_lift_1 6 rfl rfl)
theorem dX5_lift_33 : decode cX5_lift 33 = .ok (.iastore, 1) := dk_79 (dk_at dksX5_lift_1 9 rfl rfl)
theorem dX5_lift_34 : decode cX5_lift 34 = .ok (.iinc 5 1, 3) := dk_132 5 1 (dk_at dksX5_lift_1 10 rfl rfl)
theorem dX5_lift_37 : decode cX5_lift 37 = .ok (.goto (-25), 3) := dk_167 255 231 (dk_at dksX5_lift_1 13 rfl rfl)
theorem dX5_lift_40 : decode cX5_lift 40 = .ok (.aload_n 0, 1) := dk_42 (dk_at dksX5_lift_1 16 rfl rfl)
theorem dX5_lift_41 : decode cX5_lift 41 = .ok (.getfield 26, 3) := dk_180 0 26 (dk_at dksX5_lift_1 17 rfl rfl)
theorem dX5_lift_44 : decode cX5_lift 44 = .ok (.iload_n 2, 1) := dk_28 (dk_at dksX5_lift_1 20 rfl rfl)
theorem dX5_lift_45 : decode cX5_lift 45 = .ok (.ldc 142, 2) := dk_18 142 (dk_at dksX5_lift_1 21 rfl rfl)
theorem dX5_lift_47 : decode cX5_lift 47 = .ok (.aload_n 0, 1) := dk_42 (dk_at dksX5_lift_1 23 rfl rfl)
theorem dX5_lift_48 : decode cX5_lift 48 = .ok (.getfield 26, 3) := dk_180 0 26 (dk_at dksX5_lift_2 0 rfl rfl)
theorem dX5_lift_51 : decode cX5_lift 51 = .ok (.iload_n 2, 1) := dk_28 (dk_at dksX5_lift_2 3 rfl rfl)
theorem dX5_lift_52 : decode cX5_lift 52 = .ok (.iaload, 1) := dk_46 (dk_at dksX5_lift_2 4 rfl rfl)
theorem dX5_lift_53 : decode cX5_lift 53 = .ok (.iload 4, 2) := dk_21 4 (dk_at dksX5_lift_2 5 rfl rfl)
theorem dX5_lift_55 : decode cX5_lift 55 = .ok (.iadd, 1) := dk_96 (dk_at dksX5_lift_2 7 rfl rfl)
theorem dX5_lift_56 : decode cX5_lift 56 = .ok (.invokestatic 106, 3) := dk_184 0 106 (dk_at dksX5_lift_2 8 rfl rfl)
theorem dX5_lift_59 : decode cX5_lift 59 = .ok (.iastore, 1) := dk_79 (dk_at dksX5_lift_2 11 rfl rfl)
theorem dX5_lift_60 : decode cX5_lift 60 = .ok (.aload_n 0, 1) := dk_42 (dk_at dksX5_lift_2 12 rfl rfl)
theorem dX5_lift_61 : decode cX5_lift 61 = .ok (.iload_n 2, 1) := dk_28 (dk_at dksX5_lift_2 13 rfl rfl)
theorem dX5_lift_62 : decode cX5_lift 62 = .ok (.aload_n 1, 1) := dk_43 (dk_at dksX5_lift_2 14 rfl rfl)
theorem dX5_lift_63 : decode cX5_lift 63 = .ok (.getfield 120, 3) := dk_180 0 120 (dk_at dksX5_lift_2 15 rfl rfl)
theorem dX5_lift_66 : decode cX5_lift 66 = .ok (.iload_n 3, 1) := dk_29 (dk_at dksX5_lift_2 18 rfl rfl)
theorem dX5_lift_67 : decode cX5_lift 67 = .ok (.invokevirtual 54, 3) := dk_182 0 54 (dk_at dksX5_lift_2 19 rfl rfl)
theorem dX5_lift_70 : decode cX5_lift 70 = .ok (.checkcast 123, 3) := dk_192 0 123 (dk_at dksX5_lift_3 0 rfl rfl)
theorem dX5_lift_73 : decode cX5_lift 73 = .ok (.getfield 125, 3) := dk_180 0 125 (dk_at dksX5_lift_3 3 rfl rfl)
theorem dX5_lift_76 : decode cX5_lift 76 = .ok (.invokevirtual 143, 3) := dk_182 0 143 (dk_at dksX5_lift_3 6 rfl rfl)
theorem dX5_lift_79 : decode cX5_lift 79 = .ok (.aload_n 0, 1) := dk_42 (dk_at dksX5_lift_3 9 rfl rfl)
theorem dX5_lift_80 : decode cX5_lift 80 = .ok (.getfield 16, 3) := dk_180 0 16 (dk_at dksX5_lift_3 10 rfl rfl)
theorem dX5_lift_83 : decode cX5_lift 83 = .ok (.iload_n 2, 1) := dk_28 (dk_at dksX5_lift_3 13 rfl rfl)
theorem dX5_lift_84 : decode cX5_lift 84 = .ok (.dup2, 1) := dk_92 (dk_at dksX5_lift_3 14 rfl rfl)
theorem dX5_lift_85 : decode cX5_lift 85 = .ok (.iaload, 1) := dk_46 (dk_at dksX5_lift_3 15 rfl rfl)
theorem dX5_lift_86 : decode cX5_lift 86 = .ok (.iconst 1, 1) := dk_4 (dk_at dksX5_lift_3 16 rfl rfl)
theorem dX5_lift_87 : decode cX5_lift 87 = .ok (.iadd, 1) := dk_96 (dk_at dksX5_lift_3 17 rfl rfl)
theorem dX5_lift_88 : decode cX5_lift 88 = .ok (.iastore, 1) := dk_79 (dk_at dksX5_lift_3 18 rfl rfl)
theorem dX5_lift_89 : decode cX5_lift 89 = .ok (.aload_n 0, 1) := dk_42 (dk_at dksX5_lift_3 19 rfl rfl)
theorem dX5_lift_90 : decode cX5_lift 90 = .ok (.getfield 29, 3) := dk_180 0 29 (dk_at dksX5_lift_3 20 rfl rfl)
theorem dX5_lift_93 : decode cX5_lift 93 = .ok (.iload_n 3, 1) := dk_29 (dk_at dksX5_lift_3 23 rfl rfl)
theorem dX5_lift_94 : decode cX5_lift 94 = .ok (.dup2, 1) := dk_92 (dk_at dksX5_lift_4 0 rfl rfl)
theorem dX5_lift_95 : decode cX5_lift 95 = .ok (.iaload, 1) := dk_46 (dk_at dksX5_lift_4 1 rfl rfl)
theorem dX5_lift_96 : decode cX5_lift 96 = .ok (.iconst 1, 1) := dk_4 (dk_at dksX5_lift_4 2 rfl rfl)
theorem dX5_lift_97 : decode cX5_lift 97 = .ok (.iadd, 1) := dk_96 (dk_at dksX5_lift_4 3 rfl rfl)
theorem dX5_lift_98 : decode cX5_lift 98 = .ok (.iastore, 1) := dk_79 (dk_at dksX5_lift_4 4 rfl rfl)
theorem dX5_lift_99 : decode cX5_lift 99 = .ok (.aload_n 0, 1) := dk_42 (dk_at dksX5_lift_4 5 rfl rfl)
theorem dX5_lift_100 : decode cX5_lift 100 = .ok (.dup, 1) := dk_89 (dk_at dksX5_lift_4 6 rfl rfl)
theorem dX5_lift_101 : decode cX5_lift 101 = .ok (.getfield 69, 3) := dk_180 0 69 (dk_at dksX5_lift_4 7 rfl rfl)
theorem dX5_lift_104 : decode cX5_lift 104 = .ok (.iconst 1, 1) := dk_4 (dk_at dksX5_lift_4 10 rfl rfl)
theorem dX5_lift_105 : decode cX5_lift 105 = .ok (.iload_n 2, 1) := dk_28 (dk_at dksX5_lift_4 11 rfl rfl)
theorem dX5_lift_106 : decode cX5_lift 106 = .ok (.ishl, 1) := dk_120 (dk_at dksX5_lift_4 12 rfl rfl)
theorem dX5_lift_107 : decode cX5_lift 107 = .ok (.ior, 1) := dk_128 (dk_at dksX5_lift_4 13 rfl rfl)
theorem dX5_lift_108 : decode cX5_lift 108 = .ok (.putfield 69, 3) := dk_181 0 69 (dk_at dksX5_lift_4 14 rfl rfl)
theorem dX5_lift_111 : decode cX5_lift 111 = .ok (.return_, 1) := dk_177 (dk_at dksX5_lift_4 17 rfl rfl)
abbrev cX5_goAll : ByteArray := prog_18_method_10_code
def yX5_goAll : MethodName := ⟨RX5, "goAll", "(I[I)V"⟩
def dkwX5_goAll_1 : List UInt8 := [46, 42, 180, 0, 32, 29, 46, 184, 0, 130, 79, 132, 3, 1, 167, 255, 220, 177]
abbrev dktX5_goAll_1 : List UInt8 := dkwX5_goAll_1 ++ []
def dkwX5_goAll_0 : List UInt8 := [3, 62, 29, 7, 162, 0, 37, 42, 180, 0, 11, 27, 50, 29, 42, 180, 0, 11, 27, 50, 29, 46, 44, 29]
abbrev dktX5_goAll_0 : List UInt8 := dkwX5_goAll_0 ++ dktX5_goAll_1
theorem dksX5_goAll_0 : cX5_goAll.data.toList.drop 0 = dktX5_goAll_0 := by decide +kernel
theorem dksX5_goAll_1 : cX5_goAll.data.toList.drop 24 = dktX5_goAll_1 := dk_seg dksX5_goAll_0 24 rfl rfl
theorem dX5_goAll_0 : decode cX5_goAll 0 = .ok (.iconst 0, 1) := dk_3 (dk_at dksX5_goAll_0 0 rfl rfl)
theorem dX5_goAll_1 : decode cX5_goAll 1 = .ok (.istore_n 3, 1) := dk_62 (dk_at dksX5_goAll_0 1 rfl rfl)
theorem dX5_goAll_2 : decode cX5_goAll 2 = .ok (.iload_n 3, 1) := dk_29 (dk_at dksX5_goAll_0 2 rfl rfl)
theorem dX5_goAll_3 : decode cX5_goAll 3 = .ok (.iconst 4, 1) := dk_7 (dk_at dksX5_goAll_0 3 rfl rfl)
theorem dX5_goAll_4 : decode cX5_goAll 4 = .ok (.if_icmp .ge 37, 3) := dk_162 0 37 (dk_at dksX5_goAll_0 4 rfl rfl)
theorem dX5_goAll_7 : decode cX5_goAll 7 = .ok (.aload_n 0, 1) := dk_42 (dk_at dksX5_goAll_0 7 rfl rfl)
theorem dX5_goAll_8 : decode cX5_goAll 8 = .ok (.getfield 11, 3) := dk_180 0 11 (dk_at dksX5_goAll_0 8 rfl rfl)
theorem dX5_goAll_11 : decode cX5_goAll 11 = .ok (.iload_n 1, 1) := dk_27 (dk_at dksX5_goAll_0 11 rfl rfl)
theorem dX5_goAll_12 : decode cX5_goAll 12 = .ok (.aaload, 1) := dk_50 (dk_at dksX5_goAll_0 12 rfl rfl)
theorem dX5_goAll_13 : decode cX5_goAll 13 = .ok (.iload_n 3, 1) := dk_29 (dk_at dksX5_goAll_0 13 rfl rfl)
theorem dX5_goAll_14 : decode cX5_goAll 14 = .ok (.aload_n 0, 1) := dk_42 (dk_at dksX5_goAll_0 14 rfl rfl)
theorem dX5_goAll_15 : decode cX5_goAll 15 = .ok (.getfield 11, 3) := dk_180 0 11 (dk_at dksX5_goAll_0 15 rfl rfl)
theorem dX5_goAll_18 : decode cX5_goAll 18 = .ok (.iload_n 1, 1) := dk_27 (dk_at dksX5_goAll_0 18 rfl rfl)
theorem dX5_goAll_19 : decode cX5_goAll 19 = .ok (.aaload, 1) := dk_50 (dk_at dksX5_goAll_0 19 rfl rfl)
theorem dX5_goAll_20 : decode cX5_goAll 20 = .ok (.iload_n 3, 1) := dk_29 (dk_at dksX5_goAll_0 20 rfl rfl)
theorem dX5_goAll_21 : decode cX5_goAll 21 = .ok (.iaload, 1) := dk_46 (dk_at dksX5_goAll_0 21 rfl rfl)
theorem dX5_goAll_22 : decode cX5_goAll 22 = .ok (.aload_n 2, 1) := dk_44 (dk_at dksX5_goAll_0 22 rfl rfl)
theorem dX5_goAll_23 : decode cX5_goAll 23 = .ok (.iload_n 3, 1) := dk_29 (dk_at dksX5_goAll_0 23 rfl rfl)
theorem dX5_goAll_24 : decode cX5_goAll 24 = .ok (.iaload, 1) := dk_46 (dk_at dksX5_goAll_1 0 rfl rfl)
theorem dX5_goAll_25 : decode cX5_goAll 25 = .ok (.aload_n 0, 1) := dk_42 (dk_at dksX5_goAll_1 1 rfl rfl)
theorem dX5_goAll_26 : decode cX5_goAll 26 = .ok (.getfield 32, 3) := dk_180 0 32 (dk_at dksX5_goAll_1 2 rfl rfl)
theorem dX5_goAll_29 : decode cX5_goAll 29 = .ok (.iload_n 3, 1) := dk_29 (dk_at dksX5_goAll_1 5 rfl rfl)
theorem dX5_goAll_30 : decode cX5_goAll 30 = .ok (.iaload, 1) := dk_46 (dk_at dksX5_goAll_1 6 rfl rfl)
theorem dX5_goAll_31 : decode cX5_goAll 31 = .ok (.invokestatic 130, 3) := dk_184 0 130 (dk_at dksX5_goAll_1 7 rfl rfl)
theorem dX5_goAll_34 : decode cX5_goAll 34 = .ok (.iastore, 1) := dk_79 (dk_at dksX5_goAll_1 10 rfl rfl)
theorem dX5_goAll_35 : decode cX5_goAll 35 = .ok (.iinc 3 1, 3) := dk_132 3 1 (dk_at dksX5_goAll_1 11 rfl rfl)
theorem dX5_goAll_38 : decode cX5_goAll 38 = .ok (.goto (-36), 3) := dk_167 255 220 (dk_at dksX5_goAll_1 14 rfl rfl)
theorem dX5_goAll_41 : decode cX5_goAll 41 = .ok (.return_, 1) := dk_177 (dk_at dksX5_goAll_1 17 rfl rfl)
abbrev cX5_polish : ByteArray := prog_18_method_12_code
def yX5_polish : MethodName := ⟨RX5, "polish", "(LKnockerFaces$Text;I)V"⟩
def dkwX5_polish_3 : List UInt8 := [177]
abbrev dktX5_polish_3 : List UInt8 := dkwX5_polish_3 ++ []
def dkwX5_polish_2 : List UInt8 := [108, 79, 132, 4, 1, 167, 255, 221, 42, 28, 45, 182, 0, 143, 42, 180, 0, 23, 28, 92, 46, 4, 96, 79]
abbrev dktX5_polish_2 : List UInt8 := dkwX5_polish_2 ++ dktX5_polish_3
def dkwX5_polish_1 : List UInt8 := [42, 180, 0, 32, 21, 4, 42, 180, 0, 11, 28, 50, 21, 4, 46, 45, 21, 4, 46, 100, 184, 0, 96, 5]
abbrev dktX5_polish_1 : List UInt8 := dkwX5_polish_1 ++ dktX5_polish_2
def dkwX5_polish_0 : List UInt8 := [43, 180, 0, 42, 28, 182, 0, 54, 192, 0, 58, 180, 0, 60, 78, 3, 54, 4, 21, 4, 7, 162, 0, 35]
abbrev dktX5_polish_0 : List UInt8 := dkwX5_polish_0 ++ dktX5_polish_1
theorem dksX5_polish_0 : cX5_polish.data.toList.drop 0 = dktX5_polish_0 := by decide +kernel
theorem dksX5_polish_1 : cX5_polish.data.toList.drop 24 = dktX5_polish_1 := dk_seg dksX5_polish_0 24 rfl rfl
theorem dksX5_polish_2 : cX5_polish.data.toList.drop 48 = dktX5_polish_2 := dk_seg dksX5_polish_1 24 rfl rfl
theorem dksX5_polish_3 : cX5_polish.data.toList.drop 72 = dktX5_polish_3 := dk_seg dksX5_polish_2 24 rfl rfl
theorem dX5_polish_0 : decode cX5_polish 0 = .ok (.aload_n 1, 1) := dk_43 (dk_at dksX5_polish_0 0 rfl rfl)
theorem dX5_polish_1 : decode cX5_polish 1 = .ok (.getfield 42, 3) := dk_180 0 42 (dk_at dksX5_polish_0 1 rfl rfl)
theorem dX5_polish_4 : decode cX5_polish 4 = .ok (.iload_n 2, 1) := dk_28 (dk_at dksX5_polish_0 4 rfl rfl)
theorem dX5_polish_5 : decode cX5_polish 5 = .ok (.invokevirtual 54, 3) := dk_182 0 54 (dk_at dksX5_polish_0 5 rfl rfl)
theorem dX5_polish_8 : decode cX5_polish 8 = .ok (.checkcast 58, 3) := dk_192 0 58 (dk_at dksX5_polish_0 8 rfl rfl)
theorem dX5_polish_11 : decode cX5_polish 11 = .ok (.getfield 60, 3) := dk_180 0 60 (dk_at dksX5_polish_0 11 rfl rfl)
theorem dX5_polish_14 : decode cX5_polish 14 = .ok (.astore_n 3, 1) := dk_78 (dk_at dksX5_polish_0 14 rfl rfl)
theorem dX5_polish_15 : decode cX5_polish 15 = .ok (.iconst 0, 1) := dk_3 (dk_at dksX5_polish_0 15 rfl rfl)
theorem dX5_polish_16 : decode cX5_polish 16 = .ok (.istore 4, 2) := dk_54 4 (dk_at dksX5_polish_0 16 rfl rfl)
theorem dX5_polish_18 : decode cX5_polish 18 = .ok (.iload 4, 2) := dk_21 4 (dk_at dksX5_polish_0 18 rfl rfl)
theorem dX5_polish_20 : decode cX5_polish 20 = .ok (.iconst 4, 1) := dk_7 (dk_at dksX5_polish_0 20 rfl rfl)
theorem dX5_polish_21 : decode cX5_polish 21 = .ok (.if_icmp .ge 35, 3) := dk_162 0 35 (dk_at dksX5_polish_0 21 rfl rfl)
theorem dX5_polish_24 : decode cX5_polish 24 = .ok (.aload_n 0, 1) := dk_42 (dk_at dksX5_polish_1 0 rfl rfl)
theorem dX5_polish_25 : decode cX5_polish 25 = .ok (.getfield 32, 3) := dk_180 0 32 (dk_at dksX5_polish_1 1 rfl rfl)
theorem dX5_polish_28 : decode cX5_polish 28 = .ok (.iload 4, 2) := dk_21 4 (dk_at dksX5_polish_1 4 rfl rfl)
theorem dX5_polish_30 : decode cX5_polish 30 = .ok (.aload_n 0, 1) := dk_42 (dk_at dksX5_polish_1 6 rfl rfl)
theorem dX5_polish_31 : decode cX5_polish 31 = .ok (.getfield 11, 3) := dk_180 0 11 (dk_at dksX5_polish_1 7 rfl rfl)
theorem dX5_polish_34 : decode cX5_polish 34 = .ok (.iload_n 2, 1) := dk_28 (dk_at dksX5_polish_1 10 rfl rfl)
theorem dX5_polish_35 : decode cX5_polish 35 = .ok (.aaload, 1) := dk_50 (dk_at dksX5_polish_1 11 rfl rfl)
theorem dX5_polish_36 : decode cX5_polish 36 = .ok (.iload 4, 2) := dk_21 4 (dk_at dksX5_polish_1 12 rfl rfl)
theorem dX5_polish_38 : decode cX5_polish 38 = .ok (.iaload, 1) := dk_46 (dk_at dksX5_polish_1 14 rfl rfl)
theorem dX5_polish_39 : decode cX5_polish 39 = .ok (.aload_n 3, 1) := dk_45 (dk_at dksX5_polish_1 15 rfl rfl)
theorem dX5_polish_40 : decode cX5_polish 40 = .ok (.iload 4, 2) := dk_21 4 (dk_at dksX5_polish_1 16 rfl rfl)
theorem dX5_polish_42 : decode cX5_polish 42 = .ok (.iaload, 1) := dk_46 (dk_at dksX5_polish_1 18 rfl rfl)
theorem dX5_polish_43 : decode cX5_polish 43 = .ok (.isub, 1) := dk_100 (dk_at dksX5_polish_1 19 rfl rfl)
theorem dX5_polish_44 : decode cX5_polish 44 = .ok (.invokestatic 96, 3) := dk_184 0 96 (dk_at dksX5_polish_1 20 rfl rfl)
theorem dX5_polish_47 : decode cX5_polish 47 = .ok (.iconst 2, 1) := dk_5 (dk_at dksX5_polish_1 23 rfl rfl)
theorem dX5_polish_48 : decode cX5_polish 48 = .ok (.idiv, 1) := dk_108 (dk_at dksX5_polish_2 0 rfl rfl)
theorem dX5_polish_49 : decode cX5_polish 49 = .ok (.iastore, 1) := dk_79 (dk_at dksX5_polish_2 1 rfl rfl)
theorem dX5_polish_50 : decode cX5_polish 50 = .ok (.iinc 4 1, 3) := dk_132 4 1 (dk_at dksX5_polish_2 2 rfl rfl)
theorem dX5_polish_53 : decode cX5_polish 53 = .ok (.goto (-35), 3) := dk_167 255 221 (dk_at dksX5_polish_2 5 rfl rfl)
theorem dX5_polish_56 : decode cX5_polish 56 = .ok (.aload_n 0, 1) := dk_42 (dk_at dksX5_polish_2 8 rfl rfl)
theorem dX5_polish_57 : decode cX5_polish 57 = .ok (.iload_n 2, 1) := dk_28 (dk_at dksX5_polish_2 9 rfl rfl)
theorem dX5_polish_58 : decode cX5_polish 58 = .ok (.aload_n 3, 1) := dk_45 (dk_at dksX5_polish_2 10 rfl rfl)
theorem dX5_polish_59 : decode cX5_polish 59 = .ok (.invokevirtual 143, 3) := dk_182 0 143 (dk_at dksX5_polish_2 11 rfl rfl)
theorem dX5_polish_62 : decode cX5_polish 62 = .ok (.aload_n 0, 1) := dk_42 (dk_at dksX5_polish_2 14 rfl rfl)
theorem dX5_polish_63 : decode cX5_polish 63 = .ok (.getfield 23, 3) := dk_180 0 23 (dk_at dksX5_polish_2 15 rfl rfl)
theorem dX5_polish_66 : decode cX5_polish 66 = .ok (.iload_n 2, 1) := dk_28 (dk_at dksX5_polish_2 18 rfl rfl)
theorem dX5_polish_67 : decode cX5_polish 67 = .ok (.dup2, 1) := dk_92 (dk_at dksX5_polish_2 19 rfl rfl)
theorem dX5_polish_68 : decode cX5_polish 68 = .ok (.iaload, 1) := dk_46 (dk_at dksX5_polish_2 20 rfl rfl)
theorem dX5_polish_69 : decode cX5_polish 69 = .ok (.iconst 1, 1) := dk_4 (dk_at dksX5_polish_2 21 rfl rfl)
theorem dX5_polish_70 : decode cX5_polish 70 = .ok (.iadd, 1) := dk_96 (dk_at dksX5_polish_2 22 rfl rfl)
theorem dX5_polish_71 : decode cX5_polish 71 = .ok (.iastore, 1) := dk_79 (dk_at dksX5_polish_2 23 rfl rfl)
theorem dX5_polish_72 : decode cX5_polish 72 = .ok (.return_, 1) := dk_177 (dk_at dksX5_polish_3 0 rfl rfl)
abbrev cX5_goesBy : ByteArray := prog_18_method_15_code
def yX5_goesBy : MethodName := ⟨RX5, "goesBy", "(LKnockerFaces$Text;LKnockerFaces$Sky;)V"⟩
def dkwX5_goesBy_7 : List UInt8 := [132, 3, 1, 167, 255, 206, 42, 3, 181, 0, 69, 42, 89, 180, 0, 72, 4, 96, 181, 0, 72, 177]
abbrev dktX5_goesBy_7 : List UInt8 := dkwX5_goesBy_7 ++ []
def dkwX5_goesBy_6 : List UInt8 := [160, 0, 7, 3, 167, 0, 17, 17, 3, 231, 42, 180, 0, 20, 29, 46, 4, 96, 184, 0, 106, 79]
abbrev dktX5_goesBy_6 : List UInt8 := dkwX5_goesBy_6 ++ dktX5_goesBy_7
def dkwX5_goesBy_5 : List UInt8 := [43, 180, 0, 42, 182, 0, 48, 162, 0, 45, 42, 180, 0, 20, 29, 42, 180, 0, 69, 29, 122, 4, 126, 4]
abbrev dktX5_goesBy_5 : List UInt8 := dkwX5_goesBy_5 ++ dktX5_goesBy_6
def dkwX5_goesBy_4 : List UInt8 := [180, 0, 42, 182, 0, 48, 162, 0, 15, 42, 43, 29, 182, 0, 178, 132, 3, 1, 167, 255, 236, 3, 62, 29]
abbrev dktX5_goesBy_4 : List UInt8 := dkwX5_goesBy_4 ++ dktX5_goesBy_5
def dkwX5_goesBy_3 : List UInt8 := [180, 0, 165, 182, 0, 168, 132, 3, 1, 167, 255, 180, 44, 42, 43, 182, 0, 172, 3, 62, 29, 43]
abbrev dktX5_goesBy_3 : List UInt8 := dkwX5_goesBy_3 ++ dktX5_goesBy_4
def dkwX5_goesBy_2 : List UInt8 := [180, 0, 62, 29, 182, 0, 54, 192, 0, 157, 180, 0, 162, 43, 180, 0, 62, 29, 182, 0, 54, 192, 0, 157]
abbrev dktX5_goesBy_2 : List UInt8 := dkwX5_goesBy_2 ++ dktX5_goesBy_3
def dkwX5_goesBy_1 : List UInt8 := [180, 0, 62, 29, 182, 0, 54, 192, 0, 157, 42, 180, 0, 72, 182, 0, 159, 153, 0, 36, 42, 43, 43]
abbrev dktX5_goesBy_1 : List UInt8 := dkwX5_goesBy_1 ++ dktX5_goesBy_2
def dkwX5_goesBy_0 : List UInt8 := [3, 62, 29, 43, 180, 0, 62, 182, 0, 48, 162, 0, 71, 42, 29, 182, 0, 153, 153, 0, 57, 43]
abbrev dktX5_goesBy_0 : List UInt8 := dkwX5_goesBy_0 ++ dktX5_goesBy_1
theorem dksX5_goesBy_0 : cX5_goesBy.data.toList.drop 0 = dktX5_goesBy_0 := by decide +kernel
theorem dksX5_goesBy_1 : cX5_goesBy.data.toList.drop 22 = dktX5_goesBy_1 := dk_seg dksX5_goesBy_0 22 rfl rfl
theorem dksX5_goesBy_2 : cX5_goesBy.data.toList.drop 45 = dktX5_goesBy_2 := dk_seg dksX5_goesBy_1 23 rfl rfl
theorem dksX5_goesBy_3 : cX5_goesBy.data.toList.drop 69 = dktX5_goesBy_3 := dk_seg dksX5_goesBy_2 24 rfl rfl
theorem dksX5_goesBy_4 : cX5_goesBy.data.toList.drop 91 = dktX5_goesBy_4 := dk_seg dksX5_goesBy_3 22 rfl rfl
theorem dksX5_goesBy_5 : cX5_goesBy.data.toList.drop 115 = dktX5_goesBy_5 := dk_seg dksX5_goesBy_4 24 rfl rfl
theorem dksX5_goesBy_6 : cX5_goesBy.data.toList.drop 139 = dktX5_goesBy_6 := dk_seg dksX5_goesBy_5 24 rfl rfl
theorem dksX5_goesBy_7 : cX5_goesBy.data.toList.drop 161 = dktX5_goesBy_7 := dk_seg dksX5_goesBy_6 22 rfl rfl
theorem dX5_goesBy_0 : decode cX5_goesBy 0 = .ok (.iconst 0, 1) := dk_3 (dk_at dksX5_goesBy_0 0 rfl rfl)
theorem dX5_goesBy_1 : decode cX5_goesBy 1 = .ok (.istore_n 3, 1) := dk_62 (dk_at dksX5_goesBy_0 1 rfl rfl)
theorem dX5_goesBy_2 : decode cX5_goesBy 2 = .ok (.iload_n 3, 1) := dk_29 (dk_at dksX5_goesBy_0 2 rfl rfl)
theorem dX5_goesBy_3 : decode cX5_goesBy 3 = .ok (.aload_n 1, 1) := dk_43 (dk_at dksX5_goesBy_0 3 rfl rfl)
theorem dX5_goesBy_4 : decode cX5_goesBy 4 = .ok (.getfield 62, 3) := dk_180 0 62 (dk_at dksX5_goesBy_0 4 rfl rfl)
theorem dX5_goesBy_7 : decode cX5_goesBy 7 = .ok (.invokevirtual 48, 3) := dk_182 0 48 (dk_at dksX5_goesBy_0 7 rfl rfl)
theorem dX5_goesBy_10 : decode cX5_goesBy 10 = .ok (.if_icmp .ge 71, 3) := dk_162 0 71 (dk_at dksX5_goesBy_0 10 rfl rfl)
theorem dX5_goesBy_13 : decode cX5_goesBy 13 = .ok (.aload_n 0, 1) := dk_42 (dk_at dksX5_goesBy_0 13 rfl rfl)
theorem dX5_goesBy_14 : decode cX5_goesBy 14 = .ok (.iload_n 3, 1) := dk_29 (dk_at dksX5_goesBy_0 14 rfl rfl)
theorem dX5_goesBy_15 : decode cX5_goesBy 15 = .ok (.invokevirtual 153, 3) := dk_182 0 153 (dk_at dksX5_goesBy_0 15 rfl rfl)
theorem dX5_goesBy_18 : decode cX5_goesBy 18 = .ok (.ifCond .eq 57, 3) := dk_153 0 57 (dk_at dksX5_goesBy_0 18 rfl rfl)
theorem dX5_goesBy_21 : decode cX5_goesBy 21 = .ok (.aload_n 1, 1) := dk_43 (dk_at dksX5_goesBy_0 21 rfl rfl)
theorem dX5_goesBy_22 : decode cX5_goesBy 22 = .ok (.getfield 62, 3) := dk_180 0 62 (dk_at dksX5_goesBy_1 0 rfl rfl)
theorem dX5_goesBy_25 : decode cX5_goesBy 25 = .ok (.iload_n 3, 1) := dk_29 (dk_at dksX5_goesBy_1 3 rfl rfl)
theorem dX5_goesBy_26 : decode cX5_goesBy 26 = .ok (.invokevirtual 54, 3) := dk_182 0 54 (dk_at dksX5_goesBy_1 4 rfl rfl)
theorem dX5_goesBy_29 : decode cX5_goesBy 29 = .ok (.checkcast 157, 3) := dk_192 0 157 (dk_at dksX5_goesBy_1 7 rfl rfl)
theorem dX5_goesBy_32 : decode cX5_goesBy 32 = .ok (.aload_n 0, 1) := dk_42 (dk_at dksX5_goesBy_1 10 rfl rfl)
theorem dX5_goesBy_33 : decode cX5_goesBy 33 = .ok (.getfield 72, 3) := dk_180 0 72 (dk_at dksX5_goesBy_1 11 rfl rfl)
theorem dX5_goesBy_36 : decode cX5_goesBy 36 = .ok (.invokevirtual 159, 3) := dk_182 0 159 (dk_at dksX5_goesBy_1 14 rfl rfl)
theorem dX5_goesBy_39 : decode cX5_goesBy 39 = .ok (.ifCond .eq 36, 3) := dk_153 0 36 (dk_at dksX5_goesBy_1 17 rfl rfl)
theorem dX5_goesBy_42 : decode cX5_goesBy 42 = .ok (.aload_n 0, 1) := dk_42 (dk_at dksX5_goesBy_1 20 rfl rfl)
theorem dX5_goesBy_43 : decode cX5_goesBy 43 = .ok (.aload_n 1, 1) := dk_43 (dk_at dksX5_goesBy_1 21 rfl rfl)
theorem dX5_goesBy_44 : decode cX5_goesBy 44 = .ok (.aload_n 1, 1) := dk_43 (dk_at dksX5_goesBy_1 22 rfl rfl)
theorem dX5_goesBy_45 : decode cX5_goesBy 45 = .ok (.getfield 62, 3) := dk_180 0 62 (dk_at dksX5_goesBy_2 0 rfl rfl)
theorem dX5_goesBy_48 : decode cX5_goesBy 48 = .ok (.iload_n 3, 1) := dk_29 (dk_at dksX5_goesBy_2 3 rfl rfl)
theorem dX5_goesBy_49 : decode cX5_goesBy 49 = .ok (.invokevirtual 54, 3) := dk_182 0 54 (dk_at dksX5_goesBy_2 4 rfl rfl)
theorem dX5_goesBy_52 : decode cX5_goesBy 52 = .ok (.checkcast 157, 3) := dk_192 0 157 (dk_at dksX5_goesBy_2 7 rfl rfl)
theorem dX5_goesBy_55 : decode cX5_goesBy 55 = .ok (.getfield 162, 3) := dk_180 0 162 (dk_at dksX5_goesBy_2 10 rfl rfl)
theorem dX5_goesBy_58 : decode cX5_goesBy 58 = .ok (.aload_n 1, 1) := dk_43 (dk_at dksX5_goesBy_2 13 rfl rfl)
theorem dX5_goesBy_59 : decode cX5_goesBy 59 = .ok (.getfield 62, 3) := dk_180 0 62 (dk_at dksX5_goesBy_2 14 rfl rfl)
theorem dX5_goesBy_62 : decode cX5_goesBy 62 = .ok (.iload_n 3, 1) := dk_29 (dk_at dksX5_goesBy_2 17 rfl rfl)
theorem dX5_goesBy_63 : decode cX5_goesBy 63 = .ok (.invokevirtual 54, 3) := dk_182 0 54 (dk_at dksX5_goesBy_2 18 rfl rfl)
theorem dX5_goesBy_66 : decode cX5_goesBy 66 = .ok (.checkcast 157, 3) := dk_192 0 157 (dk_at dksX5_goesBy_2 21 rfl rfl)
theorem dX5_goesBy_69 : decode cX5_goesBy 69 = .ok (.getfield 165, 3) := dk_180 0 165 (dk_at dksX5_goesBy_3 0 rfl rfl)
theorem dX5_goesBy_72 : decode cX5_goesBy 72 = .ok (.invokevirtual 168, 3) := dk_182 0 168 (dk_at dksX5_goesBy_3 3 rfl rfl)
theorem dX5_goesBy_75 : decode cX5_goesBy 75 = .ok (.iinc 3 1, 3) := dk_132 3 1 (dk_at dksX5_goesBy_3 6 rfl rfl)
theorem dX5_goesBy_78 : decode cX5_goesBy 78 = .ok (.goto (-76), 3) := dk_167 255 180 (dk_at dksX5_goesBy_3 9 rfl rfl)
theorem dX5_goesBy_81 : decode cX5_goesBy 81 = .ok (.aload_n 2, 1) := dk_44 (dk_at dksX5_goesBy_3 12 rfl rfl)
theorem dX5_goesBy_82 : decode cX5_goesBy 82 = .ok (.aload_n 0, 1) := dk_42 (dk_at dksX5_goesBy_3 13 rfl rfl)
theorem dX5_goesBy_83 : decode cX5_goesBy 83 = .ok (.aload_n 1, 1) := dk_43 (dk_at dksX5_goesBy_3 14 rfl rfl)
theorem dX5_goesBy_84 : decode cX5_goesBy 84 = .ok (.invokevirtual 172, 3) := dk_182 0 172 (dk_at dksX5_goesBy_3 15 rfl rfl)
theorem dX5_goesBy_87 : decode cX5_goesBy 87 = .ok (.iconst 0, 1) := dk_3 (dk_at dksX5_goesBy_3 18 rfl rfl)
theorem dX5_goesBy_88 : decode cX5_goesBy 88 = .ok (.istore_n 3, 1) := dk_62 (dk_at dksX5_goesBy_3 19 rfl rfl)
theorem dX5_goesBy_89 : decode cX5_goesBy 89 = .ok (.iload_n 3, 1) := dk_29 (dk_at dksX5_goesBy_3 20 rfl rfl)
theorem dX5_goesBy_90 : decode cX5_goesBy 90 = .ok (.aload_n 1, 1) := dk_43 (dk_at dksX5_goesBy_3 21 rfl rfl)
theorem dX5_goesBy_91 : decode cX5_goesBy 91 = .ok (.getfield 42, 3) := dk_180 0 42 (dk_at dksX5_goesBy_4 0 rfl rfl)
theorem dX5_goesBy_94 : decode cX5_goesBy 94 = .ok (.invokevirtual 48, 3) := dk_182 0 48 (dk_at dksX5_goesBy_4 3 rfl rfl)
theorem dX5_goesBy_97 : decode cX5_goesBy 97 = .ok (.if_icmp .ge 15, 3) := dk_162 0 15 (dk_at dksX5_goesBy_4 6 rfl rfl)
theorem dX5_goesBy_100 : decode cX5_goesBy 100 = .ok (.aload_n 0, 1) := dk_42 (dk_at dksX5_goesBy_4 9 rfl rfl)
theorem dX5_goesBy_101 : decode cX5_goesBy 101 = .ok (.aload_n 1, 1) := dk_43 (dk_at dksX5_goesBy_4 10 rfl rfl)
theorem dX5_goesBy_102 : decode cX5_goesBy 102 = .ok (.iload_n 3, 1) := dk_29 (dk_at dksX5_goesBy_4 11 rfl rfl)
theorem dX5_goesBy_103 : decode cX5_goesBy 103 = .ok (.invokevirtual 178, 3) := dk_182 0 178 (dk_at dksX5_goesBy_4 12 rfl rfl)
theorem dX5_goesBy_106 : decode cX5_goesBy 106 = .ok (.iinc 3 1, 3) := dk_132 3 1 (dk_at dksX5_goesBy_4 15 rfl rfl)
theorem dX5_goesBy_109 : decode cX5_goesBy 109 = .ok (.goto (-20), 3) := dk_167 255 236 (dk_at dksX5_goesBy_4 18 rfl rfl)
theorem dX5_goesBy_112 : decode cX5_goesBy 112 = .ok (.iconst 0, 1) := dk_3 (dk_at dksX5_goesBy_4 21 rfl rfl)
theorem dX5_goesBy_113 : decode cX5_goesBy 113 = .ok (.istore_n 3, 1) := dk_62 (dk_at dksX5_goesBy_4 22 rfl rfl)
theorem dX5_goesBy_114 : decode cX5_goesBy 114 = .ok (.iload_n 3, 1) := dk_29 (dk_at dksX5_goesBy_4 23 rfl rfl)
theorem dX5_goesBy_115 : decode cX5_goesBy 115 = .ok (.aload_n 1, 1) := dk_43 (dk_at dksX5_goesBy_5 0 rfl rfl)
theorem dX5_goesBy_116 : decode cX5_goesBy 116 = .ok (.getfield 42, 3) := dk_180 0 42 (dk_at dksX5_goesBy_5 1 rfl rfl)
theorem dX5_goesBy_119 : decode cX5_goesBy 119 = .ok (.invokevirtual 48, 3) := dk_182 0 48 (dk_at dksX5_goesBy_5 4 rfl rfl)
theorem dX5_goesBy_122 : decode cX5_goesBy 122 = .ok (.if_icmp .ge 45, 3) := dk_162 0 45 (dk_at dksX5_goesBy_5 7 rfl rfl)
theorem dX5_goesBy_125 : decode cX5_goesBy 125 = .ok (.aload_n 0, 1) := dk_42 (dk_at dksX5_goesBy_5 10 rfl rfl)
theorem dX5_goesBy_126 : decode cX5_goesBy 126 = .ok (.getfield 20, 3) := dk_180 0 20 (dk_at dksX5_goesBy_5 11 rfl rfl)
theorem dX5_goesBy_129 : decode cX5_goesBy 129 = .ok (.iload_n 3, 1) := dk_29 (dk_at dksX5_goesBy_5 14 rfl rfl)
theorem dX5_goesBy_130 : decode cX5_goesBy 130 = .ok (.aload_n 0, 1) := dk_42 (dk_at dksX5_goesBy_5 15 rfl rfl)
theorem dX5_goesBy_131 : decode cX5_goesBy 131 = .ok (.getfield 69, 3) := dk_180 0 69 (dk_at dksX5_goesBy_5 16 rfl rfl)
theorem dX5_goesBy_134 : decode cX5_goesBy 134 = .ok (.iload_n 3, 1) := dk_29 (dk_at dksX5_goesBy_5 19 rfl rfl)
theorem dX5_goesBy_135 : decode cX5_goesBy 135 = .ok (.ishr, 1) := dk_122 (dk_at dksX5_goesBy_5 20 rfl rfl)
theorem dX5_goesBy_136 : decode cX5_goesBy 136 = .ok (.iconst 1, 1) := dk_4 (dk_at dksX5_goesBy_5 21 rfl rfl)
theorem dX5_goesBy_137 : decode cX5_goesBy 137 = .ok (.iand, 1) := dk_126 (dk_at dksX5_goesBy_5 22 rfl rfl)
theorem dX5_goesBy_138 : decode cX5_goesBy 138 = .ok (.iconst 1, 1) := dk_4 (dk_at dksX5_goesBy_5 23 rfl rfl)
theorem dX5_goesBy_139 : decode cX5_goesBy 139 = .ok (.if_icmp .ne 7, 3) := dk_160 0 7 (dk_at dksX5_goesBy_6 0 rfl rfl)
theorem dX5_goesBy_142 : decode cX5_goesBy 142 = .ok (.iconst 0, 1) := dk_3 (dk_at dksX5_goesBy_6 3 rfl rfl)
theorem dX5_goesBy_143 : decode cX5_goesBy 143 = .ok (.goto 17, 3) := dk_167 0 17 (dk_at dksX5_goesBy_6 4 rfl rfl)
theorem dX5_goesBy_146 : decode cX5_goesBy 146 = .ok (.sipush 999, 3) := dk_17 3 231 (dk_at dksX5_goesBy_6 7 rfl rfl)
theorem dX5_goesBy_149 : decode cX5_goesBy 149 = .ok (.aload_n 0, 1) := dk_42 (dk_at dksX5_goesBy_6 10 rfl rfl)
theorem dX5_goesBy_150 : decode cX5_goesBy 150 = .ok (.getfield 20, 3) := dk_180 0 20 (dk_at dksX5_goesBy_6 11 rfl rfl)
theorem dX5_goesBy_153 : decode cX5_goesBy 153 = .ok (.iload_n 3, 1) := dk_29 (dk_at dksX5_goesBy_6 14 rfl rfl)
theorem dX5_goesBy_154 : decode cX5_goesBy 154 = .ok (.iaload, 1) := dk_46 (dk_at dksX5_goesBy_6 15 rfl rfl)
theorem dX5_goesBy_155 : decode cX5_goesBy 155 = .ok (.iconst 1, 1) := dk_4 (dk_at dksX5_goesBy_6 16 rfl rfl)
theorem dX5_goesBy_156 : decode cX5_goesBy 156 = .ok (.iadd, 1) := dk_96 (dk_at dksX5_goesBy_6 17 rfl rfl)
theorem dX5_goesBy_157 : decode cX5_goesBy 157 = .ok (.invokestatic 106, 3) := dk_184 0 106 (dk_at dksX5_goesBy_6 18 rfl rfl)
theorem dX5_goesBy_160 : decode cX5_goesBy 160 = .ok (.iastore, 1) := dk_79 (dk_at dksX5_goesBy_6 21 rfl rfl)
theorem dX5_goesBy_161 : decode cX5_goesBy 161 = .ok (.iinc 3 1, 3) := dk_132 3 1 (dk_at dksX5_goesBy_7 0 rfl rfl)
theorem dX5_goesBy_164 : decode cX5_goesBy 164 = .ok (.goto (-50), 3) := dk_167 255 206 (dk_at dksX5_goesBy_7 3 rfl rfl)
theorem dX5_goesBy_167 : decode cX5_goesBy 167 = .ok (.aload_n 0, 1) := dk_42 (dk_at dksX5_goesBy_7 6 rfl rfl)
theorem dX5_goesBy_168 : decode cX5_goesBy 168 = .ok (.iconst 0, 1) := dk_3 (dk_at dksX5_goesBy_7 7 rfl rfl)
theorem dX5_goesBy_169 : decode cX5_goesBy 169 = .ok (.putfield 69, 3) := dk_181 0 69 (dk_at dksX5_goesBy_7 8 rfl rfl)
theorem dX5_goesBy_172 : decode cX5_goesBy 172 = .ok (.aload_n 0, 1) := dk_42 (dk_at dksX5_goesBy_7 11 rfl rfl)
theorem dX5_goesBy_173 : decode cX5_goesBy 173 = .ok (.dup, 1) := dk_89 (dk_at dksX5_goesBy_7 12 rfl rfl)
theorem dX5_goesBy_174 : decode cX5_goesBy 174 = .ok (.getfield 72, 3) := dk_180 0 72 (dk_at dksX5_goesBy_7 13 rfl rfl)
theorem dX5_goesBy_177 : decode cX5_goesBy 177 = .ok (.iconst 1, 1) := dk_4 (dk_at dksX5_goesBy_7 16 rfl rfl)
theorem dX5_goesBy_178 : decode cX5_goesBy 178 = .ok (.iadd, 1) := dk_96 (dk_at dksX5_goesBy_7 17 rfl rfl)
theorem dX5_goesBy_179 : decode cX5_goesBy 179 = .ok (.putfield 72, 3) := dk_181 0 72 (dk_at dksX5_goesBy_7 18 rfl rfl)
theorem dX5_goesBy_182 : decode cX5_goesBy 182 = .ok (.return_, 1) := dk_177 (dk_at dksX5_goesBy_7 21 rfl rfl)
abbrev cX5_isWind : ByteArray := prog_18_method_14_code
def yX5_isWind : MethodName := ⟨RX5, "isWind", "(LKnockerFaces$Text;)Z"⟩
def dkwX5_isWind_1 : List UInt8 := [167, 0, 4, 3, 172]
abbrev dktX5_isWind_1 : List UInt8 := dkwX5_isWind_1 ++ []
def dkwX5_isWind_0 : List UInt8 := [42, 180, 0, 78, 16, 16, 42, 180, 0, 72, 104, 16, 100, 184, 0, 147, 43, 180, 0, 150, 162, 0, 7, 4]
abbrev dktX5_isWind_0 : List UInt8 := dkwX5_isWind_0 ++ dktX5_isWind_1
theorem dksX5_isWind_0 : cX5_isWind.data.toList.drop 0 = dktX5_isWind_0 := by decide +kernel
theorem dksX5_isWind_1 : cX5_isWind.data.toList.drop 24 = dktX5_isWind_1 := dk_seg dksX5_isWind_0 24 rfl rfl
theorem dX5_isWind_0 : decode cX5_isWind 0 = .ok (.aload_n 0, 1) := dk_42 (dk_at dksX5_isWind_0 0 rfl rfl)
theorem dX5_isWind_1 : decode cX5_isWind 1 = .ok (.getfield 78, 3) := dk_180 0 78 (dk_at dksX5_isWind_0 1 rfl rfl)
theorem dX5_isWind_4 : decode cX5_isWind 4 = .ok (.bipush 16, 2) := dk_16 16 (dk_at dksX5_isWind_0 4 rfl rfl)
theorem dX5_isWind_6 : decode cX5_isWind 6 = .ok (.aload_n 0, 1) := dk_42 (dk_at dksX5_isWind_0 6 rfl rfl)
theorem dX5_isWind_7 : decode cX5_isWind 7 = .ok (.getfield 72, 3) := dk_180 0 72 (dk_at dksX5_isWind_0 7 rfl rfl)
theorem dX5_isWind_10 : decode cX5_isWind 10 = .ok (.imul, 1) := dk_104 (dk_at dksX5_isWind_0 10 rfl rfl)
theorem dX5_isWind_11 : decode cX5_isWind 11 = .ok (.bipush 100, 2) := dk_16 100 (dk_at dksX5_isWind_0 11 rfl rfl)
theorem dX5_isWind_13 : decode cX5_isWind 13 = .ok (.invokestatic 147, 3) := dk_184 0 147 (dk_at dksX5_isWind_0 13 rfl rfl)
theorem dX5_isWind_16 : decode cX5_isWind 16 = .ok (.aload_n 1, 1) := dk_43 (dk_at dksX5_isWind_0 16 rfl rfl)
theorem dX5_isWind_17 : decode cX5_isWind 17 = .ok (.getfield 150, 3) := dk_180 0 150 (dk_at dksX5_isWind_0 17 rfl rfl)
theorem dX5_isWind_20 : decode cX5_isWind 20 = .ok (.if_icmp .ge 7, 3) := dk_162 0 7 (dk_at dksX5_isWind_0 20 rfl rfl)
theorem dX5_isWind_23 : decode cX5_isWind 23 = .ok (.iconst 1, 1) := dk_4 (dk_at dksX5_isWind_0 23 rfl rfl)
theorem dX5_isWind_24 : decode cX5_isWind 24 = .ok (.goto 4, 3) := dk_167 0 4 (dk_at dksX5_isWind_1 0 rfl rfl)
theorem dX5_isWind_27 : decode cX5_isWind 27 = .ok (.iconst 0, 1) := dk_3 (dk_at dksX5_isWind_1 3 rfl rfl)
theorem dX5_isWind_28 : decode cX5_isWind 28 = .ok (.ireturn, 1) := dk_172 (dk_at dksX5_isWind_1 4 rfl rfl)
abbrev cX5_wears : ByteArray := prog_18_method_13_code
def yX5_wears : MethodName := ⟨RX5, "wears", "(LKnockerFaces$Text;I)V"⟩
def dkwX5_wears_2 : List UInt8 := [167, 255, 228, 42, 28, 45, 182, 0, 143, 177]
abbrev dktX5_wears_2 : List UInt8 := dkwX5_wears_2 ++ []
def dkwX5_wears_1 : List UInt8 := [42, 180, 0, 32, 21, 4, 42, 43, 4, 28, 21, 4, 28, 45, 3, 182, 0, 126, 79, 132, 4, 1]
abbrev dktX5_wears_1 : List UInt8 := dkwX5_wears_1 ++ dktX5_wears_2
def dkwX5_wears_0 : List UInt8 := [43, 180, 0, 42, 28, 182, 0, 54, 192, 0, 58, 180, 0, 60, 78, 3, 54, 4, 21, 4, 7, 162, 0, 28]
abbrev dktX5_wears_0 : List UInt8 := dkwX5_wears_0 ++ dktX5_wears_1
theorem dksX5_wears_0 : cX5_wears.data.toList.drop 0 = dktX5_wears_0 := by decide +kernel
theorem dksX5_wears_1 : cX5_wears.data.toList.drop 24 = dktX5_wears_1 := dk_seg dksX5_wears_0 24 rfl rfl
theorem dksX5_wears_2 : cX5_wears.data.toList.drop 46 = dktX5_wears_2 := dk_seg dksX5_wears_1 22 rfl rfl
theorem dX5_wears_0 : decode cX5_wears 0 = .ok (.aload_n 1, 1) := dk_43 (dk_at dksX5_wears_0 0 rfl rfl)
theorem dX5_wears_1 : decode cX5_wears 1 = .ok (.getfield 42, 3) := dk_180 0 42 (dk_at dksX5_wears_0 1 rfl rfl)
theorem dX5_wears_4 : decode cX5_wears 4 = .ok (.iload_n 2, 1) := dk_28 (dk_at dksX5_wears_0 4 rfl rfl)
theorem dX5_wears_5 : decode cX5_wears 5 = .ok (.invokevirtual 54, 3) := dk_182 0 54 (dk_at dksX5_wears_0 5 rfl rfl)
theorem dX5_wears_8 : decode cX5_wears 8 = .ok (.checkcast 58, 3) := dk_192 0 58 (dk_at dksX5_wears_0 8 rfl rfl)
theorem dX5_wears_11 : decode cX5_wears 11 = .ok (.getfield 60, 3) := dk_180 0 60 (dk_at dksX5_wears_0 11 rfl rfl)
theorem dX5_wears_14 : decode cX5_wears 14 = .ok (.astore_n 3, 1) := dk_78 (dk_at dksX5_wears_0 14 rfl rfl)
theorem dX5_wears_15 : decode cX5_wears 15 = .ok (.iconst 0, 1) := dk_3 (dk_at dksX5_wears_0 15 rfl rfl)
theorem dX5_wears_16 : decode cX5_wears 16 = .ok (.istore 4, 2) := dk_54 4 (dk_at dksX5_wears_0 16 rfl rfl)
theorem dX5_wears_18 : decode cX5_wears 18 = .ok (.iload 4, 2) := dk_21 4 (dk_at dksX5_wears_0 18 rfl rfl)
theorem dX5_wears_20 : decode cX5_wears 20 = .ok (.iconst 4, 1) := dk_7 (dk_at dksX5_wears_0 20 rfl rfl)
theorem dX5_wears_21 : decode cX5_wears 21 = .ok (.if_icmp .ge 28, 3) := dk_162 0 28 (dk_at dksX5_wears_0 21 rfl rfl)
theorem dX5_wears_24 : decode cX5_wears 24 = .ok (.aload_n 0, 1) := dk_42 (dk_at dksX5_wears_1 0 rfl rfl)
theorem dX5_wears_25 : decode cX5_wears 25 = .ok (.getfield 32, 3) := dk_180 0 32 (dk_at dksX5_wears_1 1 rfl rfl)
theorem dX5_wears_28 : decode cX5_wears 28 = .ok (.iload 4, 2) := dk_21 4 (dk_at dksX5_wears_1 4 rfl rfl)
theorem dX5_wears_30 : decode cX5_wears 30 = .ok (.aload_n 0, 1) := dk_42 (dk_at dksX5_wears_1 6 rfl rfl)
theorem dX5_wears_31 : decode cX5_wears 31 = .ok (.aload_n 1, 1) := dk_43 (dk_at dksX5_wears_1 7 rfl rfl)
theorem dX5_wears_32 : decode cX5_wears 32 = .ok (.iconst 1, 1) := dk_4 (dk_at dksX5_wears_1 8 rfl rfl)
theorem dX5_wears_33 : decode cX5_wears 33 = .ok (.iload_n 2, 1) := dk_28 (dk_at dksX5_wears_1 9 rfl rfl)
theorem dX5_wears_34 : decode cX5_wears 34 = .ok (.iload 4, 2) := dk_21 4 (dk_at dksX5_wears_1 10 rfl rfl)
theorem dX5_wears_36 : decode cX5_wears 36 = .ok (.iload_n 2, 1) := dk_28 (dk_at dksX5_wears_1 12 rfl rfl)
theorem dX5_wears_37 : decode cX5_wears 37 = .ok (.aload_n 3, 1) := dk_45 (dk_at dksX5_wears_1 13 rfl rfl)
theorem dX5_wears_38 : decode cX5_wears 38 = .ok (.iconst 0, 1) := dk_3 (dk_at dksX5_wears_1 14 rfl rfl)
theorem dX5_wears_39 : decode cX5_wears 39 = .ok (.invokevirtual 126, 3) := dk_182 0 126 (dk_at dksX5_wears_1 15 rfl rfl)
theorem dX5_wears_42 : decode cX5_wears 42 = .ok (.iastore, 1) := dk_79 (dk_at dksX5_wears_1 18 rfl rfl)
theorem dX5_wears_43 : decode cX5_wears 43 = .ok (.iinc 4 1, 3) := dk_132 4 1 (dk_at dksX5_wears_1 19 rfl rfl)
theorem dX5_wears_46 : decode cX5_wears 46 = .ok (.goto (-28), 3) := dk_167 255 228 (dk_at dksX5_wears_2 0 rfl rfl)
theorem dX5_wears_49 : decode cX5_wears 49 = .ok (.aload_n 0, 1) := dk_42 (dk_at dksX5_wears_2 3 rfl rfl)
theorem dX5_wears_50 : decode cX5_wears 50 = .ok (.iload_n 2, 1) := dk_28 (dk_at dksX5_wears_2 4 rfl rfl)
theorem dX5_wears_51 : decode cX5_wears 51 = .ok (.aload_n 3, 1) := dk_45 (dk_at dksX5_wears_2 5 rfl rfl)
theorem dX5_wears_52 : decode cX5_wears 52 = .ok (.invokevirtual 143, 3) := dk_182 0 143 (dk_at dksX5_wears_2 6 rfl rfl)
theorem dX5_wears_55 : decode cX5_wears 55 = .ok (.return_, 1) := dk_177 (dk_at dksX5_wears_2 9 rfl rfl)
theorem q126 : (Jvm.Cond.initialized "KnockerFaces$Town") ∈ lw_all := lw_g (lw_at lw_m1 12 rfl) rfl
theorem q359 : (Jvm.Cond.fieldLink "KnockerFaces$Town" (42 : Nat) "KnockerFaces$Text" "doors" "Ljava/util/ArrayList;") ∈ lw_all := lw_g (lw_at lw_m2 5 rfl) rfl
theorem q363 : (Jvm.Cond.fieldLink "KnockerFaces$Town" (120 : Nat) "KnockerFaces$Text" "callers" "Ljava/util/ArrayList;") ∈ lw_all := lw_g (lw_at lw_m2 9 rfl) rfl
theorem q367 : (Jvm.Cond.fieldLink "KnockerFaces$Town" (62 : Nat) "KnockerFaces$Text" "rounds" "Ljava/util/ArrayList;") ∈ lw_all := lw_g (lw_at lw_m2 13 rfl) rfl
theorem q371 : (Jvm.Cond.fieldLink "KnockerFaces$Town" (102 : Nat) "KnockerFaces$Text" "laws" "[LKnockerFaces$Law;") ∈ lw_all := lw_g (lw_at lw_m2 17 rfl) rfl
theorem q373 : (Jvm.Cond.fieldLink "KnockerFaces$Town" (150 : Nat) "KnockerFaces$Text" "wind" "I") ∈ lw_all := lw_g (lw_at lw_m2 19 rfl) rfl
theorem q376 : (Jvm.Cond.fieldLink "KnockerFaces$Town" (186 : Nat) "KnockerFaces$Text" "near" "I") ∈ lw_all := lw_g (lw_at lw_m2 22 rfl) rfl
theorem q378 : (Jvm.Cond.fieldLink "KnockerFaces$Town" (75 : Nat) "KnockerFaces$Text" "seed" "I") ∈ lw_all := lw_g (lw_at lw_m2 24 rfl) rfl
theorem q397 : (Jvm.Cond.instantiable "KnockerFaces$Town" (12 : Nat)) ∈ lw_all := lw_g (lw_at lw_m2 43 rfl) rfl
theorem q399 : (Jvm.Cond.instanceMethod ({ cls := "KnockerFaces$Town", name := "<init>", desc := "()V" } : Jvm.MethodName)) ∈ lw_all := lw_g (lw_at lw_m2 45 rfl) rfl
theorem q400 : (Jvm.Cond.code ({ cls := "KnockerFaces$Town", name := "<init>", desc := "()V" } : Jvm.MethodName) prog_18_method_1_code (1 : Nat) (Option.none : Option Jvm.ClassFile.FieldType)) ∈ lw_all := lw_g (lw_at lw_m2 46 rfl) rfl
theorem q401 : (Jvm.Cond.methodLink "KnockerFaces$Town" (3 : Nat) ({ cls := "java/lang/Object", name := "<init>", desc := "()V" } : Jvm.MethodName)) ∈ lw_all := lw_g (lw_at lw_m2 47 rfl) rfl
theorem q402 : (Jvm.Cond.classLink "KnockerFaces$Town" (9 : Nat) "[[I") ∈ lw_all := lw_g (lw_at lw_m2 48 rfl) rfl
theorem q404 : (Jvm.Cond.classLink "KnockerFaces$Town" (35 : Nat) "KnockerFaces$Asked") ∈ lw_all := lw_g (lw_at lw_m2 50 rfl) rfl
theorem q406 : (Jvm.Cond.methodLinkNest "KnockerFaces$Town" (37 : Nat) ({ cls := "KnockerFaces$Asked", name := "<init>", desc := "()V" } : Jvm.MethodName) "KnockerFaces") ∈ lw_tbl := lw_at lw_m2 52 rfl
theorem q412 : (Jvm.Cond.fieldLink "KnockerFaces$Town" (89 : Nat) "KnockerFaces$Asked" "v" "[I") ∈ lw_all := lw_g (lw_at lw_m2 58 rfl) rfl
theorem q421 : (Jvm.Cond.fieldLink "KnockerFaces$Town" (11 : Nat) "KnockerFaces$Town" "face" "[[I") ∈ lw_all := lw_g (lw_at lw_m2 67 rfl) rfl
theorem q424 : (Jvm.Cond.fieldLink "KnockerFaces$Town" (16 : Nat) "KnockerFaces$Town" "lifts" "[I") ∈ lw_all := lw_g (lw_at lw_m2 70 rfl) rfl
theorem q426 : (Jvm.Cond.fieldLink "KnockerFaces$Town" (20 : Nat) "KnockerFaces$Town" "idle" "[I") ∈ lw_all := lw_g (lw_at lw_m2 72 rfl) rfl
theorem q428 : (Jvm.Cond.fieldLink "KnockerFaces$Town" (23 : Nat) "KnockerFaces$Town" "rubbed" "[I") ∈ lw_all := lw_g (lw_at lw_m2 74 rfl) rfl
theorem q430 : (Jvm.Cond.fieldLink "KnockerFaces$Town" (26 : Nat) "KnockerFaces$Town" "money" "[I") ∈ lw_all := lw_g (lw_at lw_m2 76 rfl) rfl
theorem q432 : (Jvm.Cond.fieldLink "KnockerFaces$Town" (29 : Nat) "KnockerFaces$Town" "lifted" "[I") ∈ lw_all := lw_g (lw_at lw_m2 78 rfl) rfl
theorem q434 : (Jvm.Cond.fieldLink "KnockerFaces$Town" (65 : Nat) "KnockerFaces$Town" "kept" "I") ∈ lw_all := lw_g (lw_at lw_m2 80 rfl) rfl
theorem q436 : (Jvm.Cond.fieldLink "KnockerFaces$Town" (69 : Nat) "KnockerFaces$Town" "today" "I") ∈ lw_all := lw_g (lw_at lw_m2 82 rfl) rfl
theorem q438 : (Jvm.Cond.fieldLink "KnockerFaces$Town" (72 : Nat) "KnockerFaces$Town" "day" "I") ∈ lw_all := lw_g (lw_at lw_m2 84 rfl) rfl
theorem q441 : (Jvm.Cond.fieldLink "KnockerFaces$Town" (78 : Nat) "KnockerFaces$Town" "seed" "I") ∈ lw_all := lw_g (lw_at lw_m2 87 rfl) rfl
theorem q443 : (Jvm.Cond.fieldLink "KnockerFaces$Town" (32 : Nat) "KnockerFaces$Town" "more" "[I") ∈ lw_all := lw_g (lw_at lw_m2 89 rfl) rfl
theorem q444 : (Jvm.Cond.fieldLink "KnockerFaces$Town" (38 : Nat) "KnockerFaces$Town" "asked" "LKnockerFaces$Asked;") ∈ lw_all := lw_g (lw_at lw_m2 90 rfl) rfl
theorem q445 : (Jvm.Cond.laysFinal "KnockerFaces$Town" "KnockerFaces$Town" "face" "[[I") ∈ lw_all := lw_g (lw_at lw_m2 91 rfl) rfl
theorem q446 : (Jvm.Cond.soleField "KnockerFaces$Town" "face") ∈ lw_all := lw_g (lw_at lw_m2 92 rfl) rfl
theorem q447 : (Jvm.Cond.laysFinal "KnockerFaces$Town" "KnockerFaces$Town" "lifts" "[I") ∈ lw_all := lw_g (lw_at lw_m2 93 rfl) rfl
theorem q448 : (Jvm.Cond.soleField "KnockerFaces$Town" "lifts") ∈ lw_all := lw_g (lw_at lw_m2 94 rfl) rfl
theorem q449 : (Jvm.Cond.laysFinal "KnockerFaces$Town" "KnockerFaces$Town" "idle" "[I") ∈ lw_all := lw_g (lw_at lw_m2 95 rfl) rfl
theorem q450 : (Jvm.Cond.soleField "KnockerFaces$Town" "idle") ∈ lw_all := lw_g (lw_at lw_m2 96 rfl) rfl
theorem q451 : (Jvm.Cond.laysFinal "KnockerFaces$Town" "KnockerFaces$Town" "rubbed" "[I") ∈ lw_all := lw_g (lw_at lw_m2 97 rfl) rfl
theorem q452 : (Jvm.Cond.soleField "KnockerFaces$Town" "rubbed") ∈ lw_all := lw_g (lw_at lw_m2 98 rfl) rfl
theorem q453 : (Jvm.Cond.laysFinal "KnockerFaces$Town" "KnockerFaces$Town" "money" "[I") ∈ lw_all := lw_g (lw_at lw_m2 99 rfl) rfl
theorem q454 : (Jvm.Cond.soleField "KnockerFaces$Town" "money") ∈ lw_all := lw_g (lw_at lw_m2 100 rfl) rfl
theorem q455 : (Jvm.Cond.laysFinal "KnockerFaces$Town" "KnockerFaces$Town" "lifted" "[I") ∈ lw_all := lw_g (lw_at lw_m2 101 rfl) rfl
theorem q456 : (Jvm.Cond.soleField "KnockerFaces$Town" "lifted") ∈ lw_all := lw_g (lw_at lw_m2 102 rfl) rfl
theorem q457 : (Jvm.Cond.lays "KnockerFaces$Town" "KnockerFaces$Town" "kept" "I") ∈ lw_all := lw_g (lw_at lw_m2 103 rfl) rfl
theorem q458 : (Jvm.Cond.soleField "KnockerFaces$Town" "kept") ∈ lw_all := lw_g (lw_at lw_m2 104 rfl) rfl
theorem q459 : (Jvm.Cond.lays "KnockerFaces$Town" "KnockerFaces$Town" "today" "I") ∈ lw_all := lw_g (lw_at lw_m2 105 rfl) rfl
theorem q460 : (Jvm.Cond.soleField "KnockerFaces$Town" "today") ∈ lw_all := lw_g (lw_at lw_m2 106 rfl) rfl
theorem q461 : (Jvm.Cond.lays "KnockerFaces$Town" "KnockerFaces$Town" "day" "I") ∈ lw_all := lw_g (lw_at lw_m2 107 rfl) rfl
theorem q462 : (Jvm.Cond.soleField "KnockerFaces$Town" "day") ∈ lw_all := lw_g (lw_at lw_m2 108 rfl) rfl
theorem q463 : (Jvm.Cond.lays "KnockerFaces$Town" "KnockerFaces$Town" "seed" "I") ∈ lw_all := lw_g (lw_at lw_m2 109 rfl) rfl
theorem q464 : (Jvm.Cond.soleField "KnockerFaces$Town" "seed") ∈ lw_all := lw_g (lw_at lw_m2 110 rfl) rfl
theorem q465 : (Jvm.Cond.laysFinal "KnockerFaces$Town" "KnockerFaces$Town" "more" "[I") ∈ lw_all := lw_g (lw_at lw_m2 111 rfl) rfl
theorem q466 : (Jvm.Cond.soleField "KnockerFaces$Town" "more") ∈ lw_all := lw_g (lw_at lw_m2 112 rfl) rfl
theorem q467 : (Jvm.Cond.laysFinal "KnockerFaces$Town" "KnockerFaces$Town" "asked" "LKnockerFaces$Asked;") ∈ lw_all := lw_g (lw_at lw_m2 113 rfl) rfl
theorem q468 : (Jvm.Cond.soleField "KnockerFaces$Town" "asked") ∈ lw_all := lw_g (lw_at lw_m2 114 rfl) rfl
theorem q469 : (Jvm.Cond.superclass "KnockerFaces$Town" "java/lang/Object") ∈ lw_all := lw_g (lw_at lw_m2 115 rfl) rfl
theorem q490 : (Jvm.Cond.instanceMethod ({ cls := "KnockerFaces$Town", name := "begins", desc := "(LKnockerFaces$Text;)V" } : Jvm.MethodName)) ∈ lw_all := lw_g (lw_at lw_m2 136 rfl) rfl
theorem q491 : (Jvm.Cond.selects "KnockerFaces$Town" ({ cls := "KnockerFaces$Town", name := "begins", desc := "(LKnockerFaces$Text;)V" } : Jvm.MethodName) ({ cls := "KnockerFaces$Town", name := "begins", desc := "(LKnockerFaces$Text;)V" } : Jvm.MethodName)) ∈ lw_all := lw_g (lw_at lw_m2 137 rfl) rfl
theorem q492 : (Jvm.Cond.code ({ cls := "KnockerFaces$Town", name := "begins", desc := "(LKnockerFaces$Text;)V" } : Jvm.MethodName) prog_18_method_2_code (4 : Nat) (Option.none : Option Jvm.ClassFile.FieldType)) ∈ lw_all := lw_g (lw_at lw_m2 138 rfl) rfl
theorem q493 : (Jvm.Cond.methodLink "KnockerFaces$Town" (48 : Nat) ({ cls := "java/util/ArrayList", name := "size", desc := "()I" } : Jvm.MethodName)) ∈ lw_all := lw_g (lw_at lw_m2 139 rfl) rfl
theorem q497 : (Jvm.Cond.methodLink "KnockerFaces$Town" (54 : Nat) ({ cls := "java/util/ArrayList", name := "get", desc := "(I)Ljava/lang/Object;" } : Jvm.MethodName)) ∈ lw_all := lw_g (lw_at lw_m2 143 rfl) rfl
theorem q511 : (Jvm.Cond.classLink "KnockerFaces$Town" (58 : Nat) "KnockerFaces$Door") ∈ lw_all := lw_g (lw_at lw_m2 157 rfl) rfl
theorem q1013 : (Jvm.Cond.fieldLink "KnockerFaces$Town" (60 : Nat) "KnockerFaces$Door" "face" "[I") ∈ lw_all := lw_g (lw_at lw_m4 179 rfl) rfl
theorem q1015 : (Jvm.Cond.fieldLink "KnockerFaces$Town" (125 : Nat) "KnockerFaces$Caller" "face" "[I") ∈ lw_all := lw_g (lw_at lw_m4 181 rfl) rfl
theorem q1070 : (Jvm.Cond.selects "KnockerFaces$Town" ({ cls := "java/lang/Object", name := "getClass", desc := "()Ljava/lang/Class;" } : Jvm.MethodName) ({ cls := "java/lang/Object", name := "getClass", desc := "()Ljava/lang/Class;" } : Jvm.MethodName)) ∈ lw_all := lw_g (lw_at lw_m4 236 rfl) rfl
theorem q1100 : (Jvm.Cond.fieldLink "KnockerFaces$Town" (165 : Nat) "KnockerFaces$Round" "caller" "I") ∈ lw_all := lw_g (lw_at lw_m5 26 rfl) rfl
theorem q1103 : (Jvm.Cond.fieldLink "KnockerFaces$Town" (162 : Nat) "KnockerFaces$Round" "door" "I") ∈ lw_all := lw_g (lw_at lw_m5 29 rfl) rfl
theorem q1150 : (Jvm.Cond.instanceMethod ({ cls := "KnockerFaces$Town", name := "known", desc := "(LKnockerFaces$Text;I)I" } : Jvm.MethodName)) ∈ lw_all := lw_g (lw_at lw_m5 76 rfl) rfl
theorem q1151 : (Jvm.Cond.selects "KnockerFaces$Town" ({ cls := "KnockerFaces$Town", name := "known", desc := "(LKnockerFaces$Text;I)I" } : Jvm.MethodName) ({ cls := "KnockerFaces$Town", name := "known", desc := "(LKnockerFaces$Text;I)I" } : Jvm.MethodName)) ∈ lw_all := lw_g (lw_at lw_m5 77 rfl) rfl
theorem q1152 : (Jvm.Cond.code ({ cls := "KnockerFaces$Town", name := "known", desc := "(LKnockerFaces$Text;I)I" } : Jvm.MethodName) prog_18_method_17_code (7 : Nat) (Option.some Jvm.ClassFile.FieldType.int)) ∈ lw_all := lw_g (lw_at lw_m5 78 rfl) rfl
theorem q1153 : (Jvm.Cond.constant "KnockerFaces$Town" (182 : Nat) (1000000 : Int32)) ∈ lw_all := lw_g (lw_at lw_m5 79 rfl) rfl
theorem q1154 : (Jvm.Cond.methodLink "KnockerFaces$Town" (183 : Nat) ({ cls := "KnockerFaces$Town", name := "unlike", desc := "(LKnockerFaces$Text;II)I" } : Jvm.MethodName)) ∈ lw_all := lw_g (lw_at lw_m5 80 rfl) rfl
theorem q1155 : (Jvm.Cond.instanceMethod ({ cls := "KnockerFaces$Town", name := "unlike", desc := "(LKnockerFaces$Text;II)I" } : Jvm.MethodName)) ∈ lw_all := lw_g (lw_at lw_m5 81 rfl) rfl
theorem q1156 : (Jvm.Cond.selects "KnockerFaces$Town" ({ cls := "KnockerFaces$Town", name := "unlike", desc := "(LKnockerFaces$Text;II)I" } : Jvm.MethodName) ({ cls := "KnockerFaces$Town", name := "unlike", desc := "(LKnockerFaces$Text;II)I" } : Jvm.MethodName)) ∈ lw_all := lw_g (lw_at lw_m5 82 rfl) rfl
theorem q1157 : (Jvm.Cond.code ({ cls := "KnockerFaces$Town", name := "unlike", desc := "(LKnockerFaces$Text;II)I" } : Jvm.MethodName) prog_18_method_16_code (4 : Nat) (Option.some Jvm.ClassFile.FieldType.int)) ∈ lw_all := lw_g (lw_at lw_m5 83 rfl) rfl
theorem q1158 : (Jvm.Cond.classLink "KnockerFaces$Town" (123 : Nat) "KnockerFaces$Caller") ∈ lw_all := lw_g (lw_at lw_m5 84 rfl) rfl
theorem q1159 : (Jvm.Cond.methodLinkNest "KnockerFaces$Town" (92 : Nat) ({ cls := "KnockerFaces", name := "unlikeOf", desc := "([I[I)I" } : Jvm.MethodName) "KnockerFaces") ∈ lw_tbl := lw_at lw_m5 85 rfl
theorem q1195 : (Jvm.Cond.instanceMethod ({ cls := "KnockerFaces$Town", name := "isKept", desc := "(I)Z" } : Jvm.MethodName)) ∈ lw_all := lw_g (lw_at lw_m5 121 rfl) rfl
theorem q1196 : (Jvm.Cond.selects "KnockerFaces$Town" ({ cls := "KnockerFaces$Town", name := "isKept", desc := "(I)Z" } : Jvm.MethodName) ({ cls := "KnockerFaces$Town", name := "isKept", desc := "(I)Z" } : Jvm.MethodName)) ∈ lw_all := lw_g (lw_at lw_m5 122 rfl) rfl
theorem q1197 : (Jvm.Cond.code ({ cls := "KnockerFaces$Town", name := "isKept", desc := "(I)Z" } : Jvm.MethodName) prog_18_method_5_code (2 : Nat) (Option.some Jvm.ClassFile.FieldType.boolean)) ∈ lw_all := lw_g (lw_at lw_m5 123 rfl) rfl
theorem q1212 : (Jvm.Cond.instanceMethod ({ cls := "KnockerFaces$Town", name := "pays", desc := "(LKnockerFaces$Text;II)I" } : Jvm.MethodName)) ∈ lw_all := lw_g (lw_at lw_m5 138 rfl) rfl
theorem q1213 : (Jvm.Cond.selects "KnockerFaces$Town" ({ cls := "KnockerFaces$Town", name := "pays", desc := "(LKnockerFaces$Text;II)I" } : Jvm.MethodName) ({ cls := "KnockerFaces$Town", name := "pays", desc := "(LKnockerFaces$Text;II)I" } : Jvm.MethodName)) ∈ lw_all := lw_g (lw_at lw_m5 139 rfl) rfl
theorem q1214 : (Jvm.Cond.code ({ cls := "KnockerFaces$Town", name := "pays", desc := "(LKnockerFaces$Text;II)I" } : Jvm.MethodName) prog_18_method_9_code (4 : Nat) (Option.some Jvm.ClassFile.FieldType.int)) ∈ lw_all := lw_g (lw_at lw_m5 140 rfl) rfl
theorem q1215 : (Jvm.Cond.methodLink "KnockerFaces$Town" (110 : Nat) ({ cls := "KnockerFaces$Town", name := "asks", desc := "(II[I)LKnockerFaces$Asked;" } : Jvm.MethodName)) ∈ lw_all := lw_g (lw_at lw_m5 141 rfl) rfl
theorem q1216 : (Jvm.Cond.privateMethod ({ cls := "KnockerFaces$Town", name := "asks", desc := "(II[I)LKnockerFaces$Asked;" } : Jvm.MethodName)) ∈ lw_tbl := lw_at lw_m5 142 rfl
theorem q1217 : (Jvm.Cond.instanceMethod ({ cls := "KnockerFaces$Town", name := "asks", desc := "(II[I)LKnockerFaces$Asked;" } : Jvm.MethodName)) ∈ lw_all := lw_g (lw_at lw_m5 143 rfl) rfl
theorem q1218 : (Jvm.Cond.code ({ cls := "KnockerFaces$Town", name := "asks", desc := "(II[I)LKnockerFaces$Asked;" } : Jvm.MethodName) prog_18_method_6_code (4 : Nat) (Option.some (Jvm.ClassFile.FieldType.object "KnockerFaces$Asked"))) ∈ lw_all := lw_g (lw_at lw_m5 144 rfl) rfl
theorem q1219 : (Jvm.Cond.methodLink "KnockerFaces$Town" (114 : Nat) ({ cls := "KnockerFaces$Law", name := "of", desc := "(LKnockerFaces$Asked;)I" } : Jvm.MethodName)) ∈ lw_all := lw_g (lw_at lw_m5 145 rfl) rfl
theorem q1237 : (Jvm.Cond.methodLink "KnockerFaces$Town" (106 : Nat) ({ cls := "java/lang/Math", name := "min", desc := "(II)I" } : Jvm.MethodName)) ∈ lw_all := lw_g (lw_at lw_m5 163 rfl) rfl
theorem q1239 : (Jvm.Cond.instanceMethod ({ cls := "KnockerFaces$Town", name := "gives", desc := "(LKnockerFaces$Text;III)I" } : Jvm.MethodName)) ∈ lw_all := lw_g (lw_at lw_m5 165 rfl) rfl
theorem q1240 : (Jvm.Cond.selects "KnockerFaces$Town" ({ cls := "KnockerFaces$Town", name := "gives", desc := "(LKnockerFaces$Text;III)I" } : Jvm.MethodName) ({ cls := "KnockerFaces$Town", name := "gives", desc := "(LKnockerFaces$Text;III)I" } : Jvm.MethodName)) ∈ lw_all := lw_g (lw_at lw_m5 166 rfl) rfl
theorem q1241 : (Jvm.Cond.code ({ cls := "KnockerFaces$Town", name := "gives", desc := "(LKnockerFaces$Text;III)I" } : Jvm.MethodName) prog_18_method_8_code (5 : Nat) (Option.some Jvm.ClassFile.FieldType.int)) ∈ lw_all := lw_g (lw_at lw_m5 167 rfl) rfl
theorem q1242 : (Jvm.Cond.methodLink "KnockerFaces$Town" (126 : Nat) ({ cls := "KnockerFaces$Town", name := "muchBy", desc := "(LKnockerFaces$Text;IIII[II)I" } : Jvm.MethodName)) ∈ lw_all := lw_g (lw_at lw_m5 168 rfl) rfl
theorem q1243 : (Jvm.Cond.privateMethod ({ cls := "KnockerFaces$Town", name := "muchBy", desc := "(LKnockerFaces$Text;IIII[II)I" } : Jvm.MethodName)) ∈ lw_tbl := lw_at lw_m5 169 rfl
theorem q1244 : (Jvm.Cond.instanceMethod ({ cls := "KnockerFaces$Town", name := "muchBy", desc := "(LKnockerFaces$Text;IIII[II)I" } : Jvm.MethodName)) ∈ lw_all := lw_g (lw_at lw_m5 170 rfl) rfl
theorem q1245 : (Jvm.Cond.code ({ cls := "KnockerFaces$Town", name := "muchBy", desc := "(LKnockerFaces$Text;IIII[II)I" } : Jvm.MethodName) prog_18_method_7_code (9 : Nat) (Option.some Jvm.ClassFile.FieldType.int)) ∈ lw_all := lw_g (lw_at lw_m5 171 rfl) rfl
theorem q1246 : (Jvm.Cond.methodLink "KnockerFaces$Town" (96 : Nat) ({ cls := "java/lang/Math", name := "abs", desc := "(I)I" } : Jvm.MethodName)) ∈ lw_all := lw_g (lw_at lw_m5 172 rfl) rfl
theorem q1256 : (Jvm.Cond.instanceMethod ({ cls := "KnockerFaces$Town", name := "takes", desc := "(LKnockerFaces$Town;)V" } : Jvm.MethodName)) ∈ lw_all := lw_g (lw_at lw_m5 182 rfl) rfl
theorem q1257 : (Jvm.Cond.selects "KnockerFaces$Town" ({ cls := "KnockerFaces$Town", name := "takes", desc := "(LKnockerFaces$Town;)V" } : Jvm.MethodName) ({ cls := "KnockerFaces$Town", name := "takes", desc := "(LKnockerFaces$Town;)V" } : Jvm.MethodName)) ∈ lw_all := lw_g (lw_at lw_m5 183 rfl) rfl
theorem q1258 : (Jvm.Cond.code ({ cls := "KnockerFaces$Town", name := "takes", desc := "(LKnockerFaces$Town;)V" } : Jvm.MethodName) prog_18_method_4_code (3 : Nat) (Option.none : Option Jvm.ClassFile.FieldType)) ∈ lw_all := lw_g (lw_at lw_m5 184 rfl) rfl
theorem q1259 : (Jvm.Cond.methodLink "KnockerFaces$Town" (85 : Nat) ({ cls := "KnockerFaces$Town", name := "copies", desc := "([I[I)V" } : Jvm.MethodName)) ∈ lw_all := lw_g (lw_at lw_m5 185 rfl) rfl
theorem q1260 : (Jvm.Cond.static ({ cls := "KnockerFaces$Town", name := "copies", desc := "([I[I)V" } : Jvm.MethodName)) ∈ lw_all := lw_g (lw_at lw_m5 186 rfl) rfl
theorem q1261 : (Jvm.Cond.code ({ cls := "KnockerFaces$Town", name := "copies", desc := "([I[I)V" } : Jvm.MethodName) prog_18_method_3_code (2 : Nat) (Option.none : Option Jvm.ClassFile.FieldType)) ∈ lw_all := lw_g (lw_at lw_m5 187 rfl) rfl
theorem q1262 : (Jvm.Cond.methodLink "KnockerFaces$Town" (79 : Nat) ({ cls := "java/lang/System", name := "arraycopy", desc := "(Ljava/lang/Object;ILjava/lang/Object;II)V" } : Jvm.MethodName)) ∈ lw_all := lw_g (lw_at lw_m5 188 rfl) rfl
theorem q1265 : (Jvm.Cond.instanceMethod ({ cls := "KnockerFaces$Town", name := "lift", desc := "(LKnockerFaces$Text;II)V" } : Jvm.MethodName)) ∈ lw_all := lw_g (lw_at lw_m5 191 rfl) rfl
theorem q1266 : (Jvm.Cond.selects "KnockerFaces$Town" ({ cls := "KnockerFaces$Town", name := "lift", desc := "(LKnockerFaces$Text;II)V" } : Jvm.MethodName) ({ cls := "KnockerFaces$Town", name := "lift", desc := "(LKnockerFaces$Text;II)V" } : Jvm.MethodName)) ∈ lw_all := lw_g (lw_at lw_m5 192 rfl) rfl
theorem q1267 : (Jvm.Cond.code ({ cls := "KnockerFaces$Town", name := "lift", desc := "(LKnockerFaces$Text;II)V" } : Jvm.MethodName) prog_18_method_11_code (6 : Nat) (Option.none : Option Jvm.ClassFile.FieldType)) ∈ lw_all := lw_g (lw_at lw_m5 193 rfl) rfl
theorem q1268 : (Jvm.Cond.methodLink "KnockerFaces$Town" (134 : Nat) ({ cls := "KnockerFaces$Town", name := "pays", desc := "(LKnockerFaces$Text;II)I" } : Jvm.MethodName)) ∈ lw_all := lw_g (lw_at lw_m5 194 rfl) rfl
theorem q1269 : (Jvm.Cond.methodLink "KnockerFaces$Town" (138 : Nat) ({ cls := "KnockerFaces$Town", name := "gives", desc := "(LKnockerFaces$Text;III)I" } : Jvm.MethodName)) ∈ lw_all := lw_g (lw_at lw_m5 195 rfl) rfl
theorem q1270 : (Jvm.Cond.constant "KnockerFaces$Town" (142 : Nat) (999999 : Int32)) ∈ lw_all := lw_g (lw_at lw_m5 196 rfl) rfl
theorem q1271 : (Jvm.Cond.methodLink "KnockerFaces$Town" (143 : Nat) ({ cls := "KnockerFaces$Town", name := "goAll", desc := "(I[I)V" } : Jvm.MethodName)) ∈ lw_all := lw_g (lw_at lw_m5 197 rfl) rfl
theorem q1272 : (Jvm.Cond.privateMethod ({ cls := "KnockerFaces$Town", name := "goAll", desc := "(I[I)V" } : Jvm.MethodName)) ∈ lw_tbl := lw_at lw_m5 198 rfl
theorem q1273 : (Jvm.Cond.instanceMethod ({ cls := "KnockerFaces$Town", name := "goAll", desc := "(I[I)V" } : Jvm.MethodName)) ∈ lw_all := lw_g (lw_at lw_m5 199 rfl) rfl
theorem q1274 : (Jvm.Cond.code ({ cls := "KnockerFaces$Town", name := "goAll", desc := "(I[I)V" } : Jvm.MethodName) prog_18_method_10_code (4 : Nat) (Option.none : Option Jvm.ClassFile.FieldType)) ∈ lw_all := lw_g (lw_at lw_m5 200 rfl) rfl
theorem q1275 : (Jvm.Cond.methodLinkNest "KnockerFaces$Town" (130 : Nat) ({ cls := "KnockerFaces", name := "towardsBy", desc := "(III)I" } : Jvm.MethodName) "KnockerFaces") ∈ lw_tbl := lw_at lw_m5 201 rfl
theorem q1286 : (Jvm.Cond.instanceMethod ({ cls := "KnockerFaces$Town", name := "polish", desc := "(LKnockerFaces$Text;I)V" } : Jvm.MethodName)) ∈ lw_all := lw_g (lw_at lw_m5 212 rfl) rfl
theorem q1287 : (Jvm.Cond.selects "KnockerFaces$Town" ({ cls := "KnockerFaces$Town", name := "polish", desc := "(LKnockerFaces$Text;I)V" } : Jvm.MethodName) ({ cls := "KnockerFaces$Town", name := "polish", desc := "(LKnockerFaces$Text;I)V" } : Jvm.MethodName)) ∈ lw_all := lw_g (lw_at lw_m5 213 rfl) rfl
theorem q1288 : (Jvm.Cond.code ({ cls := "KnockerFaces$Town", name := "polish", desc := "(LKnockerFaces$Text;I)V" } : Jvm.MethodName) prog_18_method_12_code (5 : Nat) (Option.none : Option Jvm.ClassFile.FieldType)) ∈ lw_all := lw_g (lw_at lw_m5 214 rfl) rfl
theorem q1309 : (Jvm.Cond.instanceMethod ({ cls := "KnockerFaces$Town", name := "goesBy", desc := "(LKnockerFaces$Text;LKnockerFaces$Sky;)V" } : Jvm.MethodName)) ∈ lw_all := lw_g (lw_at lw_m5 235 rfl) rfl
theorem q1310 : (Jvm.Cond.selects "KnockerFaces$Town" ({ cls := "KnockerFaces$Town", name := "goesBy", desc := "(LKnockerFaces$Text;LKnockerFaces$Sky;)V" } : Jvm.MethodName) ({ cls := "KnockerFaces$Town", name := "goesBy", desc := "(LKnockerFaces$Text;LKnockerFaces$Sky;)V" } : Jvm.MethodName)) ∈ lw_all := lw_g (lw_at lw_m5 236 rfl) rfl
theorem q1311 : (Jvm.Cond.code ({ cls := "KnockerFaces$Town", name := "goesBy", desc := "(LKnockerFaces$Text;LKnockerFaces$Sky;)V" } : Jvm.MethodName) prog_18_method_15_code (4 : Nat) (Option.none : Option Jvm.ClassFile.FieldType)) ∈ lw_all := lw_g (lw_at lw_m5 237 rfl) rfl
theorem q1312 : (Jvm.Cond.methodLink "KnockerFaces$Town" (153 : Nat) ({ cls := "KnockerFaces$Town", name := "isKept", desc := "(I)Z" } : Jvm.MethodName)) ∈ lw_all := lw_g (lw_at lw_m5 238 rfl) rfl
theorem q1313 : (Jvm.Cond.classLink "KnockerFaces$Town" (157 : Nat) "KnockerFaces$Round") ∈ lw_all := lw_g (lw_at lw_m5 239 rfl) rfl
theorem q1314 : (Jvm.Cond.methodLink "KnockerFaces$Town" (159 : Nat) ({ cls := "KnockerFaces$Round", name := "isDue", desc := "(I)Z" } : Jvm.MethodName)) ∈ lw_all := lw_g (lw_at lw_m6 0 rfl) rfl
theorem q1315 : (Jvm.Cond.methodLink "KnockerFaces$Town" (168 : Nat) ({ cls := "KnockerFaces$Town", name := "lift", desc := "(LKnockerFaces$Text;II)V" } : Jvm.MethodName)) ∈ lw_all := lw_g (lw_at lw_m6 1 rfl) rfl
theorem q1316 : (Jvm.Cond.methodLink "KnockerFaces$Town" (172 : Nat) ({ cls := "KnockerFaces$Sky", name := "blows", desc := "(LKnockerFaces$Town;LKnockerFaces$Text;)V" } : Jvm.MethodName)) ∈ lw_all := lw_g (lw_at lw_m6 2 rfl) rfl
theorem q1323 : (Jvm.Cond.instanceMethod ({ cls := "KnockerFaces$Town", name := "isWind", desc := "(LKnockerFaces$Text;)Z" } : Jvm.MethodName)) ∈ lw_all := lw_g (lw_at lw_m6 9 rfl) rfl
theorem q1324 : (Jvm.Cond.selects "KnockerFaces$Town" ({ cls := "KnockerFaces$Town", name := "isWind", desc := "(LKnockerFaces$Text;)Z" } : Jvm.MethodName) ({ cls := "KnockerFaces$Town", name := "isWind", desc := "(LKnockerFaces$Text;)Z" } : Jvm.MethodName)) ∈ lw_all := lw_g (lw_at lw_m6 10 rfl) rfl
theorem q1325 : (Jvm.Cond.code ({ cls := "KnockerFaces$Town", name := "isWind", desc := "(LKnockerFaces$Text;)Z" } : Jvm.MethodName) prog_18_method_14_code (2 : Nat) (Option.some Jvm.ClassFile.FieldType.boolean)) ∈ lw_all := lw_g (lw_at lw_m6 11 rfl) rfl
theorem q1326 : (Jvm.Cond.methodLinkNest "KnockerFaces$Town" (147 : Nat) ({ cls := "KnockerFaces", name := "lot", desc := "(III)I" } : Jvm.MethodName) "KnockerFaces") ∈ lw_tbl := lw_at lw_m6 12 rfl
theorem q1339 : (Jvm.Cond.methodLink "KnockerFaces$Town" (178 : Nat) ({ cls := "KnockerFaces$Town", name := "wears", desc := "(LKnockerFaces$Text;I)V" } : Jvm.MethodName)) ∈ lw_all := lw_g (lw_at lw_m6 25 rfl) rfl
theorem q1340 : (Jvm.Cond.privateMethod ({ cls := "KnockerFaces$Town", name := "wears", desc := "(LKnockerFaces$Text;I)V" } : Jvm.MethodName)) ∈ lw_tbl := lw_at lw_m6 26 rfl
theorem q1341 : (Jvm.Cond.instanceMethod ({ cls := "KnockerFaces$Town", name := "wears", desc := "(LKnockerFaces$Text;I)V" } : Jvm.MethodName)) ∈ lw_all := lw_g (lw_at lw_m6 27 rfl) rfl
theorem q1342 : (Jvm.Cond.code ({ cls := "KnockerFaces$Town", name := "wears", desc := "(LKnockerFaces$Text;I)V" } : Jvm.MethodName) prog_18_method_13_code (5 : Nat) (Option.none : Option Jvm.ClassFile.FieldType)) ∈ lw_all := lw_g (lw_at lw_m6 28 rfl) rfl
theorem q2170 : (Jvm.Cond.castable "KnockerFaces$Town" "java/lang/Object") ∈ lw_tbl := lw_at lw_m9 136 rfl
theorem in_X5 : ∀ w ∈ wsX50, w ∈ lw_all := lw_in wsX50 [445, 447, 449, 451, 453, 455, 457, 459, 461, 463, 465, 467] (by decide +kernel) (by decide +kernel)
/-! KnockerFaces$Asked -/
set_option maxRecDepth 100000
def RX6 : String := "KnockerFaces$Asked"
def TX6 : u_T := fun k => match k with
  | 0 => ("KnockerFaces$Asked", "v", "[I", true)
  | _ => ("KnockerFaces$Asked", "nought", "Z", false)
def tyX6 : Nat → FieldType := fun k => match k with
  | 0 => .array .int
  | _ => .boolean
abbrev wsX60 : List Cond := u_ws RX6 TX6 2
theorem nmX6 : ∀ a, a < 2 → ∀ b, b < 2 → a ≠ b → (TX6 a).2.1 ≠ (TX6 b).2.1 := by decide +kernel
theorem tyX6_ok : ∀ k, k < 2 → parseFieldDescriptor (TX6 k).2.2.1 = some (tyX6 k) := by decide +kernel
abbrev cX6_init : ByteArray := prog_2_method_1_code
def yX6_init : MethodName := ⟨RX6, "<init>", "()V"⟩
def dkwX6_init_0 : List UInt8 := [42, 183, 0, 1, 42, 16, 9, 188, 10, 181, 0, 7, 177]
abbrev dktX6_init_0 : List UInt8 := dkwX6_init_0 ++ []
theorem dksX6_init_0 : cX6_init.data.toList.drop 0 = dktX6_init_0 := by decide +kernel
theorem dX6_init_0 : decode cX6_init 0 = .ok (.aload_n 0, 1) := dk_42 (dk_at dksX6_init_0 0 rfl rfl)
theorem dX6_init_1 : decode cX6_init 1 = .ok (.invokespecial 1, 3) := dk_183 0 1 (dk_at dksX6_init_0 1 rfl rfl)
theorem dX6_init_4 : decode cX6_init 4 = .ok (.aload_n 0, 1) := dk_42 (dk_at dksX6_init_0 4 rfl rfl)
theorem dX6_init_5 : decode cX6_init 5 = .ok (.bipush 9, 2) := dk_16 9 (dk_at dksX6_init_0 5 rfl rfl)
theorem dX6_init_7 : decode cX6_init 7 = .ok (.newarray .int, 2) := dk_188_10 (dk_at dksX6_init_0 7 rfl rfl)
theorem dX6_init_9 : decode cX6_init 9 = .ok (.putfield 7, 3) := dk_181 0 7 (dk_at dksX6_init_0 9 rfl rfl)
theorem dX6_init_12 : decode cX6_init 12 = .ok (.return_, 1) := dk_177 (dk_at dksX6_init_0 12 rfl rfl)
theorem q127 : (Jvm.Cond.initialized "KnockerFaces$Asked") ∈ lw_all := lw_g (lw_at lw_m1 13 rfl) rfl
theorem q405 : (Jvm.Cond.instantiable "KnockerFaces$Asked" (2 : Nat)) ∈ lw_all := lw_g (lw_at lw_m2 51 rfl) rfl
theorem q407 : (Jvm.Cond.instanceMethod ({ cls := "KnockerFaces$Asked", name := "<init>", desc := "()V" } : Jvm.MethodName)) ∈ lw_all := lw_g (lw_at lw_m2 53 rfl) rfl
theorem q408 : (Jvm.Cond.code ({ cls := "KnockerFaces$Asked", name := "<init>", desc := "()V" } : Jvm.MethodName) prog_2_method_1_code (1 : Nat) (Option.none : Option Jvm.ClassFile.FieldType)) ∈ lw_all := lw_g (lw_at lw_m2 54 rfl) rfl
theorem q409 : (Jvm.Cond.methodLink "KnockerFaces$Asked" (1 : Nat) ({ cls := "java/lang/Object", name := "<init>", desc := "()V" } : Jvm.MethodName)) ∈ lw_all := lw_g (lw_at lw_m2 55 rfl) rfl
theorem q410 : (Jvm.Cond.fieldLink "KnockerFaces$Asked" (7 : Nat) "KnockerFaces$Asked" "v" "[I") ∈ lw_all := lw_g (lw_at lw_m2 56 rfl) rfl
theorem q415 : (Jvm.Cond.laysFinal "KnockerFaces$Asked" "KnockerFaces$Asked" "v" "[I") ∈ lw_all := lw_g (lw_at lw_m2 61 rfl) rfl
theorem q416 : (Jvm.Cond.soleField "KnockerFaces$Asked" "v") ∈ lw_all := lw_g (lw_at lw_m2 62 rfl) rfl
theorem q417 : (Jvm.Cond.lays "KnockerFaces$Asked" "KnockerFaces$Asked" "nought" "Z") ∈ lw_all := lw_g (lw_at lw_m2 63 rfl) rfl
theorem q418 : (Jvm.Cond.soleField "KnockerFaces$Asked" "nought") ∈ lw_all := lw_g (lw_at lw_m2 64 rfl) rfl
theorem q419 : (Jvm.Cond.superclass "KnockerFaces$Asked" "java/lang/Object") ∈ lw_all := lw_g (lw_at lw_m2 65 rfl) rfl
theorem q1057 : (Jvm.Cond.selects "KnockerFaces$Asked" ({ cls := "java/lang/Object", name := "getClass", desc := "()Ljava/lang/Class;" } : Jvm.MethodName) ({ cls := "java/lang/Object", name := "getClass", desc := "()Ljava/lang/Class;" } : Jvm.MethodName)) ∈ lw_all := lw_g (lw_at lw_m4 223 rfl) rfl
theorem q2178 : (Jvm.Cond.castable "KnockerFaces$Asked" "java/lang/Object") ∈ lw_tbl := lw_at lw_m9 144 rfl
theorem in_X6 : ∀ w ∈ wsX60, w ∈ lw_all := lw_in wsX60 [415, 417] (by decide +kernel) (by decide +kernel)
/-! KnockerFaces$Sky -/
set_option maxRecDepth 100000
def RX7 : String := "KnockerFaces$Sky"
abbrev cX7_init : ByteArray := prog_13_method_1_code
def yX7_init : MethodName := ⟨RX7, "<init>", "()V"⟩
theorem dX7_init_0 : decode cX7_init 0 = .ok (.aload_n 0, 1) := by decide +kernel
theorem dX7_init_1 : decode cX7_init 1 = .ok (.invokespecial 1, 3) := by decide +kernel
theorem dX7_init_4 : decode cX7_init 4 = .ok (.return_, 1) := by decide +kernel
theorem q128 : (Jvm.Cond.initialized "KnockerFaces$Sky") ∈ lw_all := lw_g (lw_at lw_m1 14 rfl) rfl
theorem q477 : (Jvm.Cond.instanceMethod ({ cls := "KnockerFaces$Sky", name := "<init>", desc := "()V" } : Jvm.MethodName)) ∈ lw_all := lw_g (lw_at lw_m2 123 rfl) rfl
theorem q478 : (Jvm.Cond.code ({ cls := "KnockerFaces$Sky", name := "<init>", desc := "()V" } : Jvm.MethodName) prog_13_method_1_code (1 : Nat) (Option.none : Option Jvm.ClassFile.FieldType)) ∈ lw_all := lw_g (lw_at lw_m2 124 rfl) rfl
theorem q479 : (Jvm.Cond.methodLink "KnockerFaces$Sky" (1 : Nat) ({ cls := "java/lang/Object", name := "<init>", desc := "()V" } : Jvm.MethodName)) ∈ lw_all := lw_g (lw_at lw_m2 125 rfl) rfl
theorem q1317 : (Jvm.Cond.declares ({ cls := "KnockerFaces$Sky", name := "blows", desc := "(LKnockerFaces$Town;LKnockerFaces$Text;)V" } : Jvm.MethodName)) ∈ lw_tbl := lw_at lw_m6 3 rfl
theorem q1318 : (Jvm.Cond.sameMethod "KnockerFaces$Sky" "KnockerFaces$Sky" "blows" "(LKnockerFaces$Town;LKnockerFaces$Text;)V") ∈ lw_all := lw_g (lw_at lw_m6 4 rfl) rfl
/-! KnockerFaces$Drawn -/
set_option maxRecDepth 100000
def RX8 : String := "KnockerFaces$Drawn"
abbrev cX8_init : ByteArray := prog_5_method_1_code
def yX8_init : MethodName := ⟨RX8, "<init>", "()V"⟩
theorem dX8_init_0 : decode cX8_init 0 = .ok (.aload_n 0, 1) := by decide +kernel
theorem dX8_init_1 : decode cX8_init 1 = .ok (.invokespecial 3, 3) := by decide +kernel
theorem dX8_init_4 : decode cX8_init 4 = .ok (.return_, 1) := by decide +kernel
abbrev cX8_blows : ByteArray := prog_5_method_2_code
def yX8_blows : MethodName := ⟨RX8, "blows", "(LKnockerFaces$Town;LKnockerFaces$Text;)V"⟩
def dkwX8_blows_3 : List UInt8 := [167, 255, 197, 177]
abbrev dktX8_blows_3 : List UInt8 := dkwX8_blows_3 ++ []
def dkwX8_blows_2 : List UInt8 := [29, 50, 21, 4, 3, 43, 180, 0, 38, 29, 50, 21, 4, 46, 4, 100, 184, 0, 42, 79, 132, 3, 1]
abbrev dktX8_blows_2 : List UInt8 := dkwX8_blows_2 ++ dktX8_blows_3
def dkwX8_blows_1 : List UInt8 := [180, 0, 27, 16, 16, 43, 180, 0, 31, 104, 4, 96, 29, 96, 7, 184, 0, 34, 54, 4, 43, 180, 0, 38]
abbrev dktX8_blows_1 : List UInt8 := dkwX8_blows_1 ++ dktX8_blows_2
def dkwX8_blows_0 : List UInt8 := [43, 44, 182, 0, 9, 154, 0, 4, 177, 3, 62, 29, 44, 180, 0, 15, 182, 0, 21, 162, 0, 54, 43]
abbrev dktX8_blows_0 : List UInt8 := dkwX8_blows_0 ++ dktX8_blows_1
theorem dksX8_blows_0 : cX8_blows.data.toList.drop 0 = dktX8_blows_0 := by decide +kernel
theorem dksX8_blows_1 : cX8_blows.data.toList.drop 23 = dktX8_blows_1 := dk_seg dksX8_blows_0 23 rfl rfl
theorem dksX8_blows_2 : cX8_blows.data.toList.drop 47 = dktX8_blows_2 := dk_seg dksX8_blows_1 24 rfl rfl
theorem dksX8_blows_3 : cX8_blows.data.toList.drop 70 = dktX8_blows_3 := dk_seg dksX8_blows_2 23 rfl rfl
theorem dX8_blows_0 : decode cX8_blows 0 = .ok (.aload_n 1, 1) := dk_43 (dk_at dksX8_blows_0 0 rfl rfl)
theorem dX8_blows_1 : decode cX8_blows 1 = .ok (.aload_n 2, 1) := dk_44 (dk_at dksX8_blows_0 1 rfl rfl)
theorem dX8_blows_2 : decode cX8_blows 2 = .ok (.invokevirtual 9, 3) := dk_182 0 9 (dk_at dksX8_blows_0 2 rfl rfl)
theorem dX8_blows_5 : decode cX8_blows 5 = .ok (.ifCond .ne 4, 3) := dk_154 0 4 (dk_at dksX8_blows_0 5 rfl rfl)
theorem dX8_blows_8 : decode cX8_blows 8 = .ok (.return_, 1) := dk_177 (dk_at dksX8_blows_0 8 rfl rfl)
theorem dX8_blows_9 : decode cX8_blows 9 = .ok (.iconst 0, 1) := dk_3 (dk_at dksX8_blows_0 9 rfl rfl)
theorem dX8_blows_10 : decode cX8_blows 10 = .ok (.istore_n 3, 1) := dk_62 (dk_at dksX8_blows_0 10 rfl rfl)
theorem dX8_blows_11 : decode cX8_blows 11 = .ok (.iload_n 3, 1) := dk_29 (dk_at dksX8_blows_0 11 rfl rfl)
theorem dX8_blows_12 : decode cX8_blows 12 = .ok (.aload_n 2, 1) := dk_44 (dk_at dksX8_blows_0 12 rfl rfl)
theorem dX8_blows_13 : decode cX8_blows 13 = .ok (.getfield 15, 3) := dk_180 0 15 (dk_at dksX8_blows_0 13 rfl rfl)
theorem dX8_blows_16 : decode cX8_blows 16 = .ok (.invokevirtual 21, 3) := dk_182 0 21 (dk_at dksX8_blows_0 16 rfl rfl)
theorem dX8_blows_19 : decode cX8_blows 19 = .ok (.if_icmp .ge 54, 3) := dk_162 0 54 (dk_at dksX8_blows_0 19 rfl rfl)
theorem dX8_blows_22 : decode cX8_blows 22 = .ok (.aload_n 1, 1) := dk_43 (dk_at dksX8_blows_0 22 rfl rfl)
theorem dX8_blows_23 : decode cX8_blows 23 = .ok (.getfield 27, 3) := dk_180 0 27 (dk_at dksX8_blows_1 0 rfl rfl)
theorem dX8_blows_26 : decode cX8_blows 26 = .ok (.bipush 16, 2) := dk_16 16 (dk_at dksX8_blows_1 3 rfl rfl)
theorem dX8_blows_28 : decode cX8_blows 28 = .ok (.aload_n 1, 1) := dk_43 (dk_at dksX8_blows_1 5 rfl rfl)
theorem dX8_blows_29 : decode cX8_blows 29 = .ok (.getfield 31, 3) := dk_180 0 31 (dk_at dksX8_blows_1 6 rfl rfl)
theorem dX8_blows_32 : decode cX8_blows 32 = .ok (.imul, 1) := dk_104 (dk_at dksX8_blows_1 9 rfl rfl)
theorem dX8_blows_33 : decode cX8_blows 33 = .ok (.iconst 1, 1) := dk_4 (dk_at dksX8_blows_1 10 rfl rfl)
theorem dX8_blows_34 : decode cX8_blows 34 = .ok (.iadd, 1) := dk_96 (dk_at dksX8_blows_1 11 rfl rfl)
theorem dX8_blows_35 : decode cX8_blows 35 = .ok (.iload_n 3, 1) := dk_29 (dk_at dksX8_blows_1 12 rfl rfl)
theorem dX8_blows_36 : decode cX8_blows 36 = .ok (.iadd, 1) := dk_96 (dk_at dksX8_blows_1 13 rfl rfl)
theorem dX8_blows_37 : decode cX8_blows 37 = .ok (.iconst 4, 1) := dk_7 (dk_at dksX8_blows_1 14 rfl rfl)
theorem dX8_blows_38 : decode cX8_blows 38 = .ok (.invokestatic 34, 3) := dk_184 0 34 (dk_at dksX8_blows_1 15 rfl rfl)
theorem dX8_blows_41 : decode cX8_blows 41 = .ok (.istore 4, 2) := dk_54 4 (dk_at dksX8_blows_1 18 rfl rfl)
theorem dX8_blows_43 : decode cX8_blows 43 = .ok (.aload_n 1, 1) := dk_43 (dk_at dksX8_blows_1 20 rfl rfl)
theorem dX8_blows_44 : decode cX8_blows 44 = .ok (.getfield 38, 3) := dk_180 0 38 (dk_at dksX8_blows_1 21 rfl rfl)
theorem dX8_blows_47 : decode cX8_blows 47 = .ok (.iload_n 3, 1) := dk_29 (dk_at dksX8_blows_2 0 rfl rfl)
theorem dX8_blows_48 : decode cX8_blows 48 = .ok (.aaload, 1) := dk_50 (dk_at dksX8_blows_2 1 rfl rfl)
theorem dX8_blows_49 : decode cX8_blows 49 = .ok (.iload 4, 2) := dk_21 4 (dk_at dksX8_blows_2 2 rfl rfl)
theorem dX8_blows_51 : decode cX8_blows 51 = .ok (.iconst 0, 1) := dk_3 (dk_at dksX8_blows_2 4 rfl rfl)
theorem dX8_blows_52 : decode cX8_blows 52 = .ok (.aload_n 1, 1) := dk_43 (dk_at dksX8_blows_2 5 rfl rfl)
theorem dX8_blows_53 : decode cX8_blows 53 = .ok (.getfield 38, 3) := dk_180 0 38 (dk_at dksX8_blows_2 6 rfl rfl)
theorem dX8_blows_56 : decode cX8_blows 56 = .ok (.iload_n 3, 1) := dk_29 (dk_at dksX8_blows_2 9 rfl rfl)
theorem dX8_blows_57 : decode cX8_blows 57 = .ok (.aaload, 1) := dk_50 (dk_at dksX8_blows_2 10 rfl rfl)
theorem dX8_blows_58 : decode cX8_blows 58 = .ok (.iload 4, 2) := dk_21 4 (dk_at dksX8_blows_2 11 rfl rfl)
theorem dX8_blows_60 : decode cX8_blows 60 = .ok (.iaload, 1) := dk_46 (dk_at dksX8_blows_2 13 rfl rfl)
theorem dX8_blows_61 : decode cX8_blows 61 = .ok (.iconst 1, 1) := dk_4 (dk_at dksX8_blows_2 14 rfl rfl)
theorem dX8_blows_62 : decode cX8_blows 62 = .ok (.isub, 1) := dk_100 (dk_at dksX8_blows_2 15 rfl rfl)
theorem dX8_blows_63 : decode cX8_blows 63 = .ok (.invokestatic 42, 3) := dk_184 0 42 (dk_at dksX8_blows_2 16 rfl rfl)
theorem dX8_blows_66 : decode cX8_blows 66 = .ok (.iastore, 1) := dk_79 (dk_at dksX8_blows_2 19 rfl rfl)
theorem dX8_blows_67 : decode cX8_blows 67 = .ok (.iinc 3 1, 3) := dk_132 3 1 (dk_at dksX8_blows_2 20 rfl rfl)
theorem dX8_blows_70 : decode cX8_blows 70 = .ok (.goto (-59), 3) := dk_167 255 197 (dk_at dksX8_blows_3 0 rfl rfl)
theorem dX8_blows_73 : decode cX8_blows 73 = .ok (.return_, 1) := dk_177 (dk_at dksX8_blows_3 3 rfl rfl)
theorem q129 : (Jvm.Cond.initialized "KnockerFaces$Drawn") ∈ lw_all := lw_g (lw_at lw_m1 15 rfl) rfl
theorem q358 : (Jvm.Cond.fieldLink "KnockerFaces$Drawn" (15 : Nat) "KnockerFaces$Text" "doors" "Ljava/util/ArrayList;") ∈ lw_all := lw_g (lw_at lw_m2 4 rfl) rfl
theorem q422 : (Jvm.Cond.fieldLink "KnockerFaces$Drawn" (38 : Nat) "KnockerFaces$Town" "face" "[[I") ∈ lw_all := lw_g (lw_at lw_m2 68 rfl) rfl
theorem q437 : (Jvm.Cond.fieldLink "KnockerFaces$Drawn" (31 : Nat) "KnockerFaces$Town" "day" "I") ∈ lw_all := lw_g (lw_at lw_m2 83 rfl) rfl
theorem q440 : (Jvm.Cond.fieldLink "KnockerFaces$Drawn" (27 : Nat) "KnockerFaces$Town" "seed" "I") ∈ lw_all := lw_g (lw_at lw_m2 86 rfl) rfl
theorem q472 : (Jvm.Cond.instantiable "KnockerFaces$Drawn" (0 : Nat)) ∈ lw_all := lw_g (lw_at lw_m2 118 rfl) rfl
theorem q474 : (Jvm.Cond.instanceMethod ({ cls := "KnockerFaces$Drawn", name := "<init>", desc := "()V" } : Jvm.MethodName)) ∈ lw_all := lw_g (lw_at lw_m2 120 rfl) rfl
theorem q475 : (Jvm.Cond.code ({ cls := "KnockerFaces$Drawn", name := "<init>", desc := "()V" } : Jvm.MethodName) prog_5_method_1_code (1 : Nat) (Option.none : Option Jvm.ClassFile.FieldType)) ∈ lw_all := lw_g (lw_at lw_m2 121 rfl) rfl
theorem q476 : (Jvm.Cond.methodLinkNest "KnockerFaces$Drawn" (3 : Nat) ({ cls := "KnockerFaces$Sky", name := "<init>", desc := "()V" } : Jvm.MethodName) "KnockerFaces") ∈ lw_tbl := lw_at lw_m2 122 rfl
theorem q480 : (Jvm.Cond.superclass "KnockerFaces$Drawn" "KnockerFaces$Sky") ∈ lw_all := lw_g (lw_at lw_m2 126 rfl) rfl
theorem q1060 : (Jvm.Cond.selects "KnockerFaces$Drawn" ({ cls := "java/lang/Object", name := "getClass", desc := "()Ljava/lang/Class;" } : Jvm.MethodName) ({ cls := "java/lang/Object", name := "getClass", desc := "()Ljava/lang/Class;" } : Jvm.MethodName)) ∈ lw_all := lw_g (lw_at lw_m4 226 rfl) rfl
theorem q1319 : (Jvm.Cond.selects "KnockerFaces$Drawn" ({ cls := "KnockerFaces$Sky", name := "blows", desc := "(LKnockerFaces$Town;LKnockerFaces$Text;)V" } : Jvm.MethodName) ({ cls := "KnockerFaces$Drawn", name := "blows", desc := "(LKnockerFaces$Town;LKnockerFaces$Text;)V" } : Jvm.MethodName)) ∈ lw_all := lw_g (lw_at lw_m6 5 rfl) rfl
theorem q1320 : (Jvm.Cond.instanceMethod ({ cls := "KnockerFaces$Drawn", name := "blows", desc := "(LKnockerFaces$Town;LKnockerFaces$Text;)V" } : Jvm.MethodName)) ∈ lw_all := lw_g (lw_at lw_m6 6 rfl) rfl
theorem q1321 : (Jvm.Cond.code ({ cls := "KnockerFaces$Drawn", name := "blows", desc := "(LKnockerFaces$Town;LKnockerFaces$Text;)V" } : Jvm.MethodName) prog_5_method_2_code (5 : Nat) (Option.none : Option Jvm.ClassFile.FieldType)) ∈ lw_all := lw_g (lw_at lw_m6 7 rfl) rfl
theorem q1322 : (Jvm.Cond.methodLink "KnockerFaces$Drawn" (9 : Nat) ({ cls := "KnockerFaces$Town", name := "isWind", desc := "(LKnockerFaces$Text;)Z" } : Jvm.MethodName)) ∈ lw_all := lw_g (lw_at lw_m6 8 rfl) rfl
theorem q1333 : (Jvm.Cond.methodLink "KnockerFaces$Drawn" (21 : Nat) ({ cls := "java/util/ArrayList", name := "size", desc := "()I" } : Jvm.MethodName)) ∈ lw_all := lw_g (lw_at lw_m6 19 rfl) rfl
theorem q1334 : (Jvm.Cond.methodLinkNest "KnockerFaces$Drawn" (34 : Nat) ({ cls := "KnockerFaces", name := "lot", desc := "(III)I" } : Jvm.MethodName) "KnockerFaces") ∈ lw_tbl := lw_at lw_m6 20 rfl
theorem q1335 : (Jvm.Cond.methodLink "KnockerFaces$Drawn" (42 : Nat) ({ cls := "java/lang/Math", name := "max", desc := "(II)I" } : Jvm.MethodName)) ∈ lw_all := lw_g (lw_at lw_m6 21 rfl) rfl
theorem q2179 : (Jvm.Cond.castable "KnockerFaces$Drawn" "java/lang/Object") ∈ lw_tbl := lw_at lw_m9 145 rfl
/-! KnockerFaces$Still -/
set_option maxRecDepth 100000
def RX9 : String := "KnockerFaces$Still"
abbrev cX9_init : ByteArray := prog_14_method_1_code
def yX9_init : MethodName := ⟨RX9, "<init>", "()V"⟩
theorem dX9_init_0 : decode cX9_init 0 = .ok (.aload_n 0, 1) := by decide +kernel
theorem dX9_init_1 : decode cX9_init 1 = .ok (.invokespecial 1, 3) := by decide +kernel
theorem dX9_init_4 : decode cX9_init 4 = .ok (.return_, 1) := by decide +kernel
abbrev cX9_blows : ByteArray := prog_14_method_2_code
def yX9_blows : MethodName := ⟨RX9, "blows", "(LKnockerFaces$Town;LKnockerFaces$Text;)V"⟩
theorem dX9_blows_0 : decode cX9_blows 0 = .ok (.return_, 1) := by decide +kernel
theorem q130 : (Jvm.Cond.initialized "KnockerFaces$Still") ∈ lw_all := lw_g (lw_at lw_m1 16 rfl) rfl
theorem q482 : (Jvm.Cond.instantiable "KnockerFaces$Still" (0 : Nat)) ∈ lw_all := lw_g (lw_at lw_m2 128 rfl) rfl
theorem q484 : (Jvm.Cond.instanceMethod ({ cls := "KnockerFaces$Still", name := "<init>", desc := "()V" } : Jvm.MethodName)) ∈ lw_all := lw_g (lw_at lw_m2 130 rfl) rfl
theorem q485 : (Jvm.Cond.code ({ cls := "KnockerFaces$Still", name := "<init>", desc := "()V" } : Jvm.MethodName) prog_14_method_1_code (1 : Nat) (Option.none : Option Jvm.ClassFile.FieldType)) ∈ lw_all := lw_g (lw_at lw_m2 131 rfl) rfl
theorem q486 : (Jvm.Cond.methodLinkNest "KnockerFaces$Still" (1 : Nat) ({ cls := "KnockerFaces$Sky", name := "<init>", desc := "()V" } : Jvm.MethodName) "KnockerFaces") ∈ lw_tbl := lw_at lw_m2 132 rfl
theorem q487 : (Jvm.Cond.superclass "KnockerFaces$Still" "KnockerFaces$Sky") ∈ lw_all := lw_g (lw_at lw_m2 133 rfl) rfl
theorem q1067 : (Jvm.Cond.selects "KnockerFaces$Still" ({ cls := "java/lang/Object", name := "getClass", desc := "()Ljava/lang/Class;" } : Jvm.MethodName) ({ cls := "java/lang/Object", name := "getClass", desc := "()Ljava/lang/Class;" } : Jvm.MethodName)) ∈ lw_all := lw_g (lw_at lw_m4 233 rfl) rfl
theorem q1336 : (Jvm.Cond.selects "KnockerFaces$Still" ({ cls := "KnockerFaces$Sky", name := "blows", desc := "(LKnockerFaces$Town;LKnockerFaces$Text;)V" } : Jvm.MethodName) ({ cls := "KnockerFaces$Still", name := "blows", desc := "(LKnockerFaces$Town;LKnockerFaces$Text;)V" } : Jvm.MethodName)) ∈ lw_all := lw_g (lw_at lw_m6 22 rfl) rfl
theorem q1337 : (Jvm.Cond.instanceMethod ({ cls := "KnockerFaces$Still", name := "blows", desc := "(LKnockerFaces$Town;LKnockerFaces$Text;)V" } : Jvm.MethodName)) ∈ lw_all := lw_g (lw_at lw_m6 23 rfl) rfl
theorem q1338 : (Jvm.Cond.code ({ cls := "KnockerFaces$Still", name := "blows", desc := "(LKnockerFaces$Town;LKnockerFaces$Text;)V" } : Jvm.MethodName) prog_14_method_2_code (3 : Nat) (Option.none : Option Jvm.ClassFile.FieldType)) ∈ lw_all := lw_g (lw_at lw_m6 24 rfl) rfl
theorem q2180 : (Jvm.Cond.castable "KnockerFaces$Still" "java/lang/Object") ∈ lw_tbl := lw_at lw_m9 146 rfl
/-! KnockerFaces$Law -/
set_option maxRecDepth 100000
def RX11 : String := "KnockerFaces$Law"
def TX11 : u_T := fun k => match k with
  | 0 => ("KnockerFaces$Law", "less", "[LKnockerFaces$Sum;", true)
  | 1 => ("KnockerFaces$Law", "than", "[LKnockerFaces$Sum;", true)
  | 2 => ("KnockerFaces$Law", "then", "[LKnockerFaces$Sum;", true)
  | _ => ("KnockerFaces$Law", "ifs", "I", false)
def tyX11 : Nat → FieldType := fun k => match k with
  | 0 => .array (.object "KnockerFaces$Sum")
  | 1 => .array (.object "KnockerFaces$Sum")
  | 2 => .array (.object "KnockerFaces$Sum")
  | _ => .int
abbrev wsX110 : List Cond := u_ws RX11 TX11 4
theorem nmX11 : ∀ a, a < 4 → ∀ b, b < 4 → a ≠ b → (TX11 a).2.1 ≠ (TX11 b).2.1 := by decide +kernel
theorem tyX11_ok : ∀ k, k < 4 → parseFieldDescriptor (TX11 k).2.2.1 = some (tyX11 k) := by decide +kernel
abbrev cX11_init : ByteArray := prog_8_method_1_code
def yX11_init : MethodName := ⟨RX11, "<init>", "()V"⟩
def dkwX11_init_1 : List UInt8 := [189, 0, 9, 181, 0, 20, 177]
abbrev dktX11_init_1 : List UInt8 := dkwX11_init_1 ++ []
def dkwX11_init_0 : List UInt8 := [42, 183, 0, 3, 42, 7, 189, 0, 9, 181, 0, 11, 42, 7, 189, 0, 9, 181, 0, 17, 42, 8]
abbrev dktX11_init_0 : List UInt8 := dkwX11_init_0 ++ dktX11_init_1
theorem dksX11_init_0 : cX11_init.data.toList.drop 0 = dktX11_init_0 := by decide +kernel
theorem dksX11_init_1 : cX11_init.data.toList.drop 22 = dktX11_init_1 := dk_seg dksX11_init_0 22 rfl rfl
theorem dX11_init_0 : decode cX11_init 0 = .ok (.aload_n 0, 1) := dk_42 (dk_at dksX11_init_0 0 rfl rfl)
theorem dX11_init_1 : decode cX11_init 1 = .ok (.invokespecial 3, 3) := dk_183 0 3 (dk_at dksX11_init_0 1 rfl rfl)
theorem dX11_init_4 : decode cX11_init 4 = .ok (.aload_n 0, 1) := dk_42 (dk_at dksX11_init_0 4 rfl rfl)
theorem dX11_init_5 : decode cX11_init 5 = .ok (.iconst 4, 1) := dk_7 (dk_at dksX11_init_0 5 rfl rfl)
theorem dX11_init_6 : decode cX11_init 6 = .ok (.anewarray 9, 3) := dk_189 0 9 (dk_at dksX11_init_0 6 rfl rfl)
theorem dX11_init_9 : decode cX11_init 9 = .ok (.putfield 11, 3) := dk_181 0 11 (dk_at dksX11_init_0 9 rfl rfl)
theorem dX11_init_12 : decode cX11_init 12 = .ok (.aload_n 0, 1) := dk_42 (dk_at dksX11_init_0 12 rfl rfl)
theorem dX11_init_13 : decode cX11_init 13 = .ok (.iconst 4, 1) := dk_7 (dk_at dksX11_init_0 13 rfl rfl)
theorem dX11_init_14 : decode cX11_init 14 = .ok (.anewarray 9, 3) := dk_189 0 9 (dk_at dksX11_init_0 14 rfl rfl)
theorem dX11_init_17 : decode cX11_init 17 = .ok (.putfield 17, 3) := dk_181 0 17 (dk_at dksX11_init_0 17 rfl rfl)
theorem dX11_init_20 : decode cX11_init 20 = .ok (.aload_n 0, 1) := dk_42 (dk_at dksX11_init_0 20 rfl rfl)
theorem dX11_init_21 : decode cX11_init 21 = .ok (.iconst 5, 1) := dk_8 (dk_at dksX11_init_0 21 rfl rfl)
theorem dX11_init_22 : decode cX11_init 22 = .ok (.anewarray 9, 3) := dk_189 0 9 (dk_at dksX11_init_1 0 rfl rfl)
theorem dX11_init_25 : decode cX11_init 25 = .ok (.putfield 20, 3) := dk_181 0 20 (dk_at dksX11_init_1 3 rfl rfl)
theorem dX11_init_28 : decode cX11_init 28 = .ok (.return_, 1) := dk_177 (dk_at dksX11_init_1 6 rfl rfl)
abbrev cX11_of : ByteArray := prog_8_method_2_code
def yX11_of : MethodName := ⟨RX11, "of", "(LKnockerFaces$Asked;)I"⟩
def dkwX11_of_3 : List UInt8 := [184, 0, 37, 172]
abbrev dktX11_of_3 : List UInt8 := dkwX11_of_3 ++ []
def dkwX11_of_2 : List UInt8 := [180, 0, 20, 28, 50, 43, 182, 0, 33, 62, 43, 180, 0, 23, 153, 0, 7, 3, 167, 0, 8, 3, 29]
abbrev dktX11_of_2 : List UInt8 := dkwX11_of_2 ++ dktX11_of_3
def dkwX11_of_1 : List UInt8 := [182, 0, 33, 42, 180, 0, 17, 28, 50, 43, 182, 0, 33, 161, 0, 9, 132, 2, 1, 167, 255, 222, 42]
abbrev dktX11_of_1 : List UInt8 := dkwX11_of_1 ++ dktX11_of_2
def dkwX11_of_0 : List UInt8 := [43, 3, 181, 0, 23, 3, 61, 28, 42, 180, 0, 29, 162, 0, 32, 42, 180, 0, 11, 28, 50, 43]
abbrev dktX11_of_0 : List UInt8 := dkwX11_of_0 ++ dktX11_of_1
theorem dksX11_of_0 : cX11_of.data.toList.drop 0 = dktX11_of_0 := by decide +kernel
theorem dksX11_of_1 : cX11_of.data.toList.drop 22 = dktX11_of_1 := dk_seg dksX11_of_0 22 rfl rfl
theorem dksX11_of_2 : cX11_of.data.toList.drop 45 = dktX11_of_2 := dk_seg dksX11_of_1 23 rfl rfl
theorem dksX11_of_3 : cX11_of.data.toList.drop 68 = dktX11_of_3 := dk_seg dksX11_of_2 23 rfl rfl
theorem dX11_of_0 : decode cX11_of 0 = .ok (.aload_n 1, 1) := dk_43 (dk_at dksX11_of_0 0 rfl rfl)
theorem dX11_of_1 : decode cX11_of 1 = .ok (.iconst 0, 1) := dk_3 (dk_at dksX11_of_0 1 rfl rfl)
theorem dX11_of_2 : decode cX11_of 2 = .ok (.putfield 23, 3) := dk_181 0 23 (dk_at dksX11_of_0 2 rfl rfl)
theorem dX11_of_5 : decode cX11_of 5 = .ok (.iconst 0, 1) := dk_3 (dk_at dksX11_of_0 5 rfl rfl)
theorem dX11_of_6 : decode cX11_of 6 = .ok (.istore_n 2, 1) := dk_61 (dk_at dksX11_of_0 6 rfl rfl)
theorem dX11_of_7 : decode cX11_of 7 = .ok (.iload_n 2, 1) := dk_28 (dk_at dksX11_of_0 7 rfl rfl)
theorem dX11_of_8 : decode cX11_of 8 = .ok (.aload_n 0, 1) := dk_42 (dk_at dksX11_of_0 8 rfl rfl)
theorem dX11_of_9 : decode cX11_of 9 = .ok (.getfield 29, 3) := dk_180 0 29 (dk_at dksX11_of_0 9 rfl rfl)
theorem dX11_of_12 : decode cX11_of 12 = .ok (.if_icmp .ge 32, 3) := dk_162 0 32 (dk_at dksX11_of_0 12 rfl rfl)
theorem dX11_of_15 : decode cX11_of 15 = .ok (.aload_n 0, 1) := dk_42 (dk_at dksX11_of_0 15 rfl rfl)
theorem dX11_of_16 : decode cX11_of 16 = .ok (.getfield 11, 3) := dk_180 0 11 (dk_at dksX11_of_0 16 rfl rfl)
theorem dX11_of_19 : decode cX11_of 19 = .ok (.iload_n 2, 1) := dk_28 (dk_at dksX11_of_0 19 rfl rfl)
theorem dX11_of_20 : decode cX11_of 20 = .ok (.aaload, 1) := dk_50 (dk_at dksX11_of_0 20 rfl rfl)
theorem dX11_of_21 : decode cX11_of 21 = .ok (.aload_n 1, 1) := dk_43 (dk_at dksX11_of_0 21 rfl rfl)
theorem dX11_of_22 : decode cX11_of 22 = .ok (.invokevirtual 33, 3) := dk_182 0 33 (dk_at dksX11_of_1 0 rfl rfl)
theorem dX11_of_25 : decode cX11_of 25 = .ok (.aload_n 0, 1) := dk_42 (dk_at dksX11_of_1 3 rfl rfl)
theorem dX11_of_26 : decode cX11_of 26 = .ok (.getfield 17, 3) := dk_180 0 17 (dk_at dksX11_of_1 4 rfl rfl)
theorem dX11_of_29 : decode cX11_of 29 = .ok (.iload_n 2, 1) := dk_28 (dk_at dksX11_of_1 7 rfl rfl)
theorem dX11_of_30 : decode cX11_of 30 = .ok (.aaload, 1) := dk_50 (dk_at dksX11_of_1 8 rfl rfl)
theorem dX11_of_31 : decode cX11_of 31 = .ok (.aload_n 1, 1) := dk_43 (dk_at dksX11_of_1 9 rfl rfl)
theorem dX11_of_32 : decode cX11_of 32 = .ok (.invokevirtual 33, 3) := dk_182 0 33 (dk_at dksX11_of_1 10 rfl rfl)
theorem dX11_of_35 : decode cX11_of 35 = .ok (.if_icmp .lt 9, 3) := dk_161 0 9 (dk_at dksX11_of_1 13 rfl rfl)
theorem dX11_of_38 : decode cX11_of 38 = .ok (.iinc 2 1, 3) := dk_132 2 1 (dk_at dksX11_of_1 16 rfl rfl)
theorem dX11_of_41 : decode cX11_of 41 = .ok (.goto (-34), 3) := dk_167 255 222 (dk_at dksX11_of_1 19 rfl rfl)
theorem dX11_of_44 : decode cX11_of 44 = .ok (.aload_n 0, 1) := dk_42 (dk_at dksX11_of_1 22 rfl rfl)
theorem dX11_of_45 : decode cX11_of 45 = .ok (.getfield 20, 3) := dk_180 0 20 (dk_at dksX11_of_2 0 rfl rfl)
theorem dX11_of_48 : decode cX11_of 48 = .ok (.iload_n 2, 1) := dk_28 (dk_at dksX11_of_2 3 rfl rfl)
theorem dX11_of_49 : decode cX11_of 49 = .ok (.aaload, 1) := dk_50 (dk_at dksX11_of_2 4 rfl rfl)
theorem dX11_of_50 : decode cX11_of 50 = .ok (.aload_n 1, 1) := dk_43 (dk_at dksX11_of_2 5 rfl rfl)
theorem dX11_of_51 : decode cX11_of 51 = .ok (.invokevirtual 33, 3) := dk_182 0 33 (dk_at dksX11_of_2 6 rfl rfl)
theorem dX11_of_54 : decode cX11_of 54 = .ok (.istore_n 3, 1) := dk_62 (dk_at dksX11_of_2 9 rfl rfl)
theorem dX11_of_55 : decode cX11_of 55 = .ok (.aload_n 1, 1) := dk_43 (dk_at dksX11_of_2 10 rfl rfl)
theorem dX11_of_56 : decode cX11_of 56 = .ok (.getfield 23, 3) := dk_180 0 23 (dk_at dksX11_of_2 11 rfl rfl)
theorem dX11_of_59 : decode cX11_of 59 = .ok (.ifCond .eq 7, 3) := dk_153 0 7 (dk_at dksX11_of_2 14 rfl rfl)
theorem dX11_of_62 : decode cX11_of 62 = .ok (.iconst 0, 1) := dk_3 (dk_at dksX11_of_2 17 rfl rfl)
theorem dX11_of_63 : decode cX11_of 63 = .ok (.goto 8, 3) := dk_167 0 8 (dk_at dksX11_of_2 18 rfl rfl)
theorem dX11_of_66 : decode cX11_of 66 = .ok (.iconst 0, 1) := dk_3 (dk_at dksX11_of_2 21 rfl rfl)
theorem dX11_of_67 : decode cX11_of 67 = .ok (.iload_n 3, 1) := dk_29 (dk_at dksX11_of_2 22 rfl rfl)
theorem dX11_of_68 : decode cX11_of 68 = .ok (.invokestatic 37, 3) := dk_184 0 37 (dk_at dksX11_of_3 0 rfl rfl)
theorem dX11_of_71 : decode cX11_of 71 = .ok (.ireturn, 1) := dk_172 (dk_at dksX11_of_3 3 rfl rfl)
theorem q137 : (Jvm.Cond.initialized "KnockerFaces$Law") ∈ lw_all := lw_g (lw_at lw_m1 23 rfl) rfl
theorem q413 : (Jvm.Cond.fieldLink "KnockerFaces$Law" (23 : Nat) "KnockerFaces$Asked" "nought" "Z") ∈ lw_all := lw_g (lw_at lw_m2 59 rfl) rfl
theorem q705 : (Jvm.Cond.instantiable "KnockerFaces$Law" (4 : Nat)) ∈ lw_all := lw_g (lw_at lw_m3 111 rfl) rfl
theorem q707 : (Jvm.Cond.instanceMethod ({ cls := "KnockerFaces$Law", name := "<init>", desc := "()V" } : Jvm.MethodName)) ∈ lw_all := lw_g (lw_at lw_m3 113 rfl) rfl
theorem q708 : (Jvm.Cond.code ({ cls := "KnockerFaces$Law", name := "<init>", desc := "()V" } : Jvm.MethodName) prog_8_method_1_code (1 : Nat) (Option.none : Option Jvm.ClassFile.FieldType)) ∈ lw_all := lw_g (lw_at lw_m3 114 rfl) rfl
theorem q709 : (Jvm.Cond.methodLink "KnockerFaces$Law" (3 : Nat) ({ cls := "java/lang/Object", name := "<init>", desc := "()V" } : Jvm.MethodName)) ∈ lw_all := lw_g (lw_at lw_m3 115 rfl) rfl
theorem q710 : (Jvm.Cond.classLink "KnockerFaces$Law" (9 : Nat) "KnockerFaces$Sum") ∈ lw_all := lw_g (lw_at lw_m3 116 rfl) rfl
theorem q712 : (Jvm.Cond.fieldLink "KnockerFaces$Law" (11 : Nat) "KnockerFaces$Law" "less" "[LKnockerFaces$Sum;") ∈ lw_all := lw_g (lw_at lw_m3 118 rfl) rfl
theorem q714 : (Jvm.Cond.fieldLink "KnockerFaces$Law" (17 : Nat) "KnockerFaces$Law" "than" "[LKnockerFaces$Sum;") ∈ lw_all := lw_g (lw_at lw_m3 120 rfl) rfl
theorem q716 : (Jvm.Cond.fieldLink "KnockerFaces$Law" (20 : Nat) "KnockerFaces$Law" "then" "[LKnockerFaces$Sum;") ∈ lw_all := lw_g (lw_at lw_m3 122 rfl) rfl
theorem q718 : (Jvm.Cond.fieldLink "KnockerFaces$Law" (29 : Nat) "KnockerFaces$Law" "ifs" "I") ∈ lw_all := lw_g (lw_at lw_m3 124 rfl) rfl
theorem q720 : (Jvm.Cond.laysFinal "KnockerFaces$Law" "KnockerFaces$Law" "less" "[LKnockerFaces$Sum;") ∈ lw_all := lw_g (lw_at lw_m3 126 rfl) rfl
theorem q721 : (Jvm.Cond.soleField "KnockerFaces$Law" "less") ∈ lw_all := lw_g (lw_at lw_m3 127 rfl) rfl
theorem q722 : (Jvm.Cond.laysFinal "KnockerFaces$Law" "KnockerFaces$Law" "than" "[LKnockerFaces$Sum;") ∈ lw_all := lw_g (lw_at lw_m3 128 rfl) rfl
theorem q723 : (Jvm.Cond.soleField "KnockerFaces$Law" "than") ∈ lw_all := lw_g (lw_at lw_m3 129 rfl) rfl
theorem q724 : (Jvm.Cond.laysFinal "KnockerFaces$Law" "KnockerFaces$Law" "then" "[LKnockerFaces$Sum;") ∈ lw_all := lw_g (lw_at lw_m3 130 rfl) rfl
theorem q725 : (Jvm.Cond.soleField "KnockerFaces$Law" "then") ∈ lw_all := lw_g (lw_at lw_m3 131 rfl) rfl
theorem q726 : (Jvm.Cond.lays "KnockerFaces$Law" "KnockerFaces$Law" "ifs" "I") ∈ lw_all := lw_g (lw_at lw_m3 132 rfl) rfl
theorem q727 : (Jvm.Cond.soleField "KnockerFaces$Law" "ifs") ∈ lw_all := lw_g (lw_at lw_m3 133 rfl) rfl
theorem q728 : (Jvm.Cond.superclass "KnockerFaces$Law" "java/lang/Object") ∈ lw_all := lw_g (lw_at lw_m3 134 rfl) rfl
theorem q1063 : (Jvm.Cond.selects "KnockerFaces$Law" ({ cls := "java/lang/Object", name := "getClass", desc := "()Ljava/lang/Class;" } : Jvm.MethodName) ({ cls := "java/lang/Object", name := "getClass", desc := "()Ljava/lang/Class;" } : Jvm.MethodName)) ∈ lw_all := lw_g (lw_at lw_m4 229 rfl) rfl
theorem q1220 : (Jvm.Cond.instanceMethod ({ cls := "KnockerFaces$Law", name := "of", desc := "(LKnockerFaces$Asked;)I" } : Jvm.MethodName)) ∈ lw_all := lw_g (lw_at lw_m5 146 rfl) rfl
theorem q1221 : (Jvm.Cond.selects "KnockerFaces$Law" ({ cls := "KnockerFaces$Law", name := "of", desc := "(LKnockerFaces$Asked;)I" } : Jvm.MethodName) ({ cls := "KnockerFaces$Law", name := "of", desc := "(LKnockerFaces$Asked;)I" } : Jvm.MethodName)) ∈ lw_all := lw_g (lw_at lw_m5 147 rfl) rfl
theorem q1222 : (Jvm.Cond.code ({ cls := "KnockerFaces$Law", name := "of", desc := "(LKnockerFaces$Asked;)I" } : Jvm.MethodName) prog_8_method_2_code (4 : Nat) (Option.some Jvm.ClassFile.FieldType.int)) ∈ lw_all := lw_g (lw_at lw_m5 148 rfl) rfl
theorem q1223 : (Jvm.Cond.methodLink "KnockerFaces$Law" (33 : Nat) ({ cls := "KnockerFaces$Sum", name := "of", desc := "(LKnockerFaces$Asked;)I" } : Jvm.MethodName)) ∈ lw_all := lw_g (lw_at lw_m5 149 rfl) rfl
theorem q1236 : (Jvm.Cond.methodLink "KnockerFaces$Law" (37 : Nat) ({ cls := "java/lang/Math", name := "max", desc := "(II)I" } : Jvm.MethodName)) ∈ lw_all := lw_g (lw_at lw_m5 162 rfl) rfl
theorem q2169 : (Jvm.Cond.castable "KnockerFaces$Law" "java/lang/Object") ∈ lw_tbl := lw_at lw_m9 135 rfl
theorem in_X11 : ∀ w ∈ wsX110, w ∈ lw_all := lw_in wsX110 [720, 722, 724, 726] (by decide +kernel) (by decide +kernel)
/-! KnockerFaces$Sum -/
set_option maxRecDepth 100000
def RX12 : String := "KnockerFaces$Sum"
abbrev cX12_init : ByteArray := prog_15_method_1_code
def yX12_init : MethodName := ⟨RX12, "<init>", "()V"⟩
theorem dX12_init_0 : decode cX12_init 0 = .ok (.aload_n 0, 1) := by decide +kernel
theorem dX12_init_1 : decode cX12_init 1 = .ok (.invokespecial 1, 3) := by decide +kernel
theorem dX12_init_4 : decode cX12_init 4 = .ok (.return_, 1) := by decide +kernel
theorem q138 : (Jvm.Cond.initialized "KnockerFaces$Sum") ∈ lw_all := lw_g (lw_at lw_m1 24 rfl) rfl
theorem q767 : (Jvm.Cond.instanceMethod ({ cls := "KnockerFaces$Sum", name := "<init>", desc := "()V" } : Jvm.MethodName)) ∈ lw_all := lw_g (lw_at lw_m3 173 rfl) rfl
theorem q768 : (Jvm.Cond.code ({ cls := "KnockerFaces$Sum", name := "<init>", desc := "()V" } : Jvm.MethodName) prog_15_method_1_code (1 : Nat) (Option.none : Option Jvm.ClassFile.FieldType)) ∈ lw_all := lw_g (lw_at lw_m3 174 rfl) rfl
theorem q769 : (Jvm.Cond.methodLink "KnockerFaces$Sum" (1 : Nat) ({ cls := "java/lang/Object", name := "<init>", desc := "()V" } : Jvm.MethodName)) ∈ lw_all := lw_g (lw_at lw_m3 175 rfl) rfl
theorem q1224 : (Jvm.Cond.declares ({ cls := "KnockerFaces$Sum", name := "of", desc := "(LKnockerFaces$Asked;)I" } : Jvm.MethodName)) ∈ lw_tbl := lw_at lw_m5 150 rfl
theorem q1225 : (Jvm.Cond.sameMethod "KnockerFaces$Sum" "KnockerFaces$Sum" "of" "(LKnockerFaces$Asked;)I") ∈ lw_all := lw_g (lw_at lw_m5 151 rfl) rfl
theorem q2171 : (Jvm.Cond.castable "KnockerFaces$Sum" "java/lang/Object") ∈ lw_tbl := lw_at lw_m9 137 rfl
/-! KnockerFaces$Number -/
set_option maxRecDepth 100000
def RX13 : String := "KnockerFaces$Number"
def TX13 : u_T := fun k => match k with
  | _ => ("KnockerFaces$Number", "v", "I", true)
def tyX13 : Nat → FieldType := fun k => match k with
  | _ => .int
abbrev wsX130 : List Cond := u_ws RX13 TX13 1
theorem nmX13 : ∀ a, a < 1 → ∀ b, b < 1 → a ≠ b → (TX13 a).2.1 ≠ (TX13 b).2.1 := by decide +kernel
theorem tyX13_ok : ∀ k, k < 1 → parseFieldDescriptor (TX13 k).2.2.1 = some (tyX13 k) := by decide +kernel
abbrev cX13_init : ByteArray := prog_10_method_1_code
def yX13_init : MethodName := ⟨RX13, "<init>", "(I)V"⟩
def dkwX13_init_0 : List UInt8 := [42, 183, 0, 1, 42, 27, 181, 0, 7, 177]
abbrev dktX13_init_0 : List UInt8 := dkwX13_init_0 ++ []
theorem dksX13_init_0 : cX13_init.data.toList.drop 0 = dktX13_init_0 := by decide +kernel
theorem dX13_init_0 : decode cX13_init 0 = .ok (.aload_n 0, 1) := dk_42 (dk_at dksX13_init_0 0 rfl rfl)
theorem dX13_init_1 : decode cX13_init 1 = .ok (.invokespecial 1, 3) := dk_183 0 1 (dk_at dksX13_init_0 1 rfl rfl)
theorem dX13_init_4 : decode cX13_init 4 = .ok (.aload_n 0, 1) := dk_42 (dk_at dksX13_init_0 4 rfl rfl)
theorem dX13_init_5 : decode cX13_init 5 = .ok (.iload_n 1, 1) := dk_27 (dk_at dksX13_init_0 5 rfl rfl)
theorem dX13_init_6 : decode cX13_init 6 = .ok (.putfield 7, 3) := dk_181 0 7 (dk_at dksX13_init_0 6 rfl rfl)
theorem dX13_init_9 : decode cX13_init 9 = .ok (.return_, 1) := dk_177 (dk_at dksX13_init_0 9 rfl rfl)
abbrev cX13_of : ByteArray := prog_10_method_2_code
def yX13_of : MethodName := ⟨RX13, "of", "(LKnockerFaces$Asked;)I"⟩
theorem dX13_of_0 : decode cX13_of 0 = .ok (.aload_n 0, 1) := by decide +kernel
theorem dX13_of_1 : decode cX13_of 1 = .ok (.getfield 7, 3) := by decide +kernel
theorem dX13_of_4 : decode cX13_of 4 = .ok (.ireturn, 1) := by decide +kernel
theorem q139 : (Jvm.Cond.initialized "KnockerFaces$Number") ∈ lw_all := lw_g (lw_at lw_m1 25 rfl) rfl
theorem q758 : (Jvm.Cond.instantiable "KnockerFaces$Number" (1 : Nat)) ∈ lw_all := lw_g (lw_at lw_m3 164 rfl) rfl
theorem q764 : (Jvm.Cond.instanceMethod ({ cls := "KnockerFaces$Number", name := "<init>", desc := "(I)V" } : Jvm.MethodName)) ∈ lw_all := lw_g (lw_at lw_m3 170 rfl) rfl
theorem q765 : (Jvm.Cond.code ({ cls := "KnockerFaces$Number", name := "<init>", desc := "(I)V" } : Jvm.MethodName) prog_10_method_1_code (2 : Nat) (Option.none : Option Jvm.ClassFile.FieldType)) ∈ lw_all := lw_g (lw_at lw_m3 171 rfl) rfl
theorem q766 : (Jvm.Cond.methodLinkNest "KnockerFaces$Number" (1 : Nat) ({ cls := "KnockerFaces$Sum", name := "<init>", desc := "()V" } : Jvm.MethodName) "KnockerFaces") ∈ lw_tbl := lw_at lw_m3 172 rfl
theorem q770 : (Jvm.Cond.fieldLink "KnockerFaces$Number" (7 : Nat) "KnockerFaces$Number" "v" "I") ∈ lw_all := lw_g (lw_at lw_m3 176 rfl) rfl
theorem q771 : (Jvm.Cond.laysFinal "KnockerFaces$Number" "KnockerFaces$Number" "v" "I") ∈ lw_all := lw_g (lw_at lw_m3 177 rfl) rfl
theorem q772 : (Jvm.Cond.soleField "KnockerFaces$Number" "v") ∈ lw_all := lw_g (lw_at lw_m3 178 rfl) rfl
theorem q773 : (Jvm.Cond.superclass "KnockerFaces$Number" "KnockerFaces$Sum") ∈ lw_all := lw_g (lw_at lw_m3 179 rfl) rfl
theorem q1064 : (Jvm.Cond.selects "KnockerFaces$Number" ({ cls := "java/lang/Object", name := "getClass", desc := "()Ljava/lang/Class;" } : Jvm.MethodName) ({ cls := "java/lang/Object", name := "getClass", desc := "()Ljava/lang/Class;" } : Jvm.MethodName)) ∈ lw_all := lw_g (lw_at lw_m4 230 rfl) rfl
theorem q1230 : (Jvm.Cond.instanceMethod ({ cls := "KnockerFaces$Number", name := "of", desc := "(LKnockerFaces$Asked;)I" } : Jvm.MethodName)) ∈ lw_all := lw_g (lw_at lw_m5 156 rfl) rfl
theorem q1231 : (Jvm.Cond.code ({ cls := "KnockerFaces$Number", name := "of", desc := "(LKnockerFaces$Asked;)I" } : Jvm.MethodName) prog_10_method_2_code (2 : Nat) (Option.some Jvm.ClassFile.FieldType.int)) ∈ lw_all := lw_g (lw_at lw_m5 157 rfl) rfl
theorem q1234 : (Jvm.Cond.selects "KnockerFaces$Number" ({ cls := "KnockerFaces$Sum", name := "of", desc := "(LKnockerFaces$Asked;)I" } : Jvm.MethodName) ({ cls := "KnockerFaces$Number", name := "of", desc := "(LKnockerFaces$Asked;)I" } : Jvm.MethodName)) ∈ lw_all := lw_g (lw_at lw_m5 160 rfl) rfl
theorem q2182 : (Jvm.Cond.castable "KnockerFaces$Number" "java/lang/Object") ∈ lw_tbl := lw_at lw_m9 148 rfl
theorem q2190 : (Jvm.Cond.castable "KnockerFaces$Number" "KnockerFaces$Sum") ∈ lw_tbl := lw_at lw_m9 156 rfl
theorem in_X13 : ∀ w ∈ wsX130, w ∈ lw_all := lw_in wsX130 [771] (by decide +kernel) (by decide +kernel)
/-! KnockerFaces$Var -/
set_option maxRecDepth 100000
def RX14 : String := "KnockerFaces$Var"
def TX14 : u_T := fun k => match k with
  | _ => ("KnockerFaces$Var", "k", "I", true)
def tyX14 : Nat → FieldType := fun k => match k with
  | _ => .int
abbrev wsX140 : List Cond := u_ws RX14 TX14 1
theorem nmX14 : ∀ a, a < 1 → ∀ b, b < 1 → a ≠ b → (TX14 a).2.1 ≠ (TX14 b).2.1 := by decide +kernel
theorem tyX14_ok : ∀ k, k < 1 → parseFieldDescriptor (TX14 k).2.2.1 = some (tyX14 k) := by decide +kernel
abbrev cX14_init : ByteArray := prog_19_method_1_code
def yX14_init : MethodName := ⟨RX14, "<init>", "(I)V"⟩
def dkwX14_init_0 : List UInt8 := [42, 183, 0, 1, 42, 27, 181, 0, 7, 177]
abbrev dktX14_init_0 : List UInt8 := dkwX14_init_0 ++ []
theorem dksX14_init_0 : cX14_init.data.toList.drop 0 = dktX14_init_0 := by decide +kernel
theorem dX14_init_0 : decode cX14_init 0 = .ok (.aload_n 0, 1) := dk_42 (dk_at dksX14_init_0 0 rfl rfl)
theorem dX14_init_1 : decode cX14_init 1 = .ok (.invokespecial 1, 3) := dk_183 0 1 (dk_at dksX14_init_0 1 rfl rfl)
theorem dX14_init_4 : decode cX14_init 4 = .ok (.aload_n 0, 1) := dk_42 (dk_at dksX14_init_0 4 rfl rfl)
theorem dX14_init_5 : decode cX14_init 5 = .ok (.iload_n 1, 1) := dk_27 (dk_at dksX14_init_0 5 rfl rfl)
theorem dX14_init_6 : decode cX14_init 6 = .ok (.putfield 7, 3) := dk_181 0 7 (dk_at dksX14_init_0 6 rfl rfl)
theorem dX14_init_9 : decode cX14_init 9 = .ok (.return_, 1) := dk_177 (dk_at dksX14_init_0 9 rfl rfl)
abbrev cX14_of : ByteArray := prog_19_method_2_code
def yX14_of : MethodName := ⟨RX14, "of", "(LKnockerFaces$Asked;)I"⟩
def dkwX14_of_0 : List UInt8 := [43, 180, 0, 13, 42, 180, 0, 7, 46, 172]
abbrev dktX14_of_0 : List UInt8 := dkwX14_of_0 ++ []
theorem dksX14_of_0 : cX14_of.data.toList.drop 0 = dktX14_of_0 := by decide +kernel
theorem dX14_of_0 : decode cX14_of 0 = .ok (.aload_n 1, 1) := dk_43 (dk_at dksX14_of_0 0 rfl rfl)
theorem dX14_of_1 : decode cX14_of 1 = .ok (.getfield 13, 3) := dk_180 0 13 (dk_at dksX14_of_0 1 rfl rfl)
theorem dX14_of_4 : decode cX14_of 4 = .ok (.aload_n 0, 1) := dk_42 (dk_at dksX14_of_0 4 rfl rfl)
theorem dX14_of_5 : decode cX14_of 5 = .ok (.getfield 7, 3) := dk_180 0 7 (dk_at dksX14_of_0 5 rfl rfl)
theorem dX14_of_8 : decode cX14_of 8 = .ok (.iaload, 1) := dk_46 (dk_at dksX14_of_0 8 rfl rfl)
theorem dX14_of_9 : decode cX14_of 9 = .ok (.ireturn, 1) := dk_172 (dk_at dksX14_of_0 9 rfl rfl)
theorem q140 : (Jvm.Cond.initialized "KnockerFaces$Var") ∈ lw_all := lw_g (lw_at lw_m1 26 rfl) rfl
theorem q411 : (Jvm.Cond.fieldLink "KnockerFaces$Var" (13 : Nat) "KnockerFaces$Asked" "v" "[I") ∈ lw_all := lw_g (lw_at lw_m2 57 rfl) rfl
theorem q775 : (Jvm.Cond.instantiable "KnockerFaces$Var" (1 : Nat)) ∈ lw_all := lw_g (lw_at lw_m3 181 rfl) rfl
theorem q777 : (Jvm.Cond.instanceMethod ({ cls := "KnockerFaces$Var", name := "<init>", desc := "(I)V" } : Jvm.MethodName)) ∈ lw_all := lw_g (lw_at lw_m3 183 rfl) rfl
theorem q778 : (Jvm.Cond.code ({ cls := "KnockerFaces$Var", name := "<init>", desc := "(I)V" } : Jvm.MethodName) prog_19_method_1_code (2 : Nat) (Option.none : Option Jvm.ClassFile.FieldType)) ∈ lw_all := lw_g (lw_at lw_m3 184 rfl) rfl
theorem q779 : (Jvm.Cond.methodLinkNest "KnockerFaces$Var" (1 : Nat) ({ cls := "KnockerFaces$Sum", name := "<init>", desc := "()V" } : Jvm.MethodName) "KnockerFaces") ∈ lw_tbl := lw_at lw_m3 185 rfl
theorem q780 : (Jvm.Cond.fieldLink "KnockerFaces$Var" (7 : Nat) "KnockerFaces$Var" "k" "I") ∈ lw_all := lw_g (lw_at lw_m3 186 rfl) rfl
theorem q781 : (Jvm.Cond.laysFinal "KnockerFaces$Var" "KnockerFaces$Var" "k" "I") ∈ lw_all := lw_g (lw_at lw_m3 187 rfl) rfl
theorem q782 : (Jvm.Cond.soleField "KnockerFaces$Var" "k") ∈ lw_all := lw_g (lw_at lw_m3 188 rfl) rfl
theorem q783 : (Jvm.Cond.superclass "KnockerFaces$Var" "KnockerFaces$Sum") ∈ lw_all := lw_g (lw_at lw_m3 189 rfl) rfl
theorem q1071 : (Jvm.Cond.selects "KnockerFaces$Var" ({ cls := "java/lang/Object", name := "getClass", desc := "()Ljava/lang/Class;" } : Jvm.MethodName) ({ cls := "java/lang/Object", name := "getClass", desc := "()Ljava/lang/Class;" } : Jvm.MethodName)) ∈ lw_all := lw_g (lw_at lw_m4 237 rfl) rfl
theorem q1232 : (Jvm.Cond.instanceMethod ({ cls := "KnockerFaces$Var", name := "of", desc := "(LKnockerFaces$Asked;)I" } : Jvm.MethodName)) ∈ lw_all := lw_g (lw_at lw_m5 158 rfl) rfl
theorem q1233 : (Jvm.Cond.code ({ cls := "KnockerFaces$Var", name := "of", desc := "(LKnockerFaces$Asked;)I" } : Jvm.MethodName) prog_19_method_2_code (2 : Nat) (Option.some Jvm.ClassFile.FieldType.int)) ∈ lw_all := lw_g (lw_at lw_m5 159 rfl) rfl
theorem q1235 : (Jvm.Cond.selects "KnockerFaces$Var" ({ cls := "KnockerFaces$Sum", name := "of", desc := "(LKnockerFaces$Asked;)I" } : Jvm.MethodName) ({ cls := "KnockerFaces$Var", name := "of", desc := "(LKnockerFaces$Asked;)I" } : Jvm.MethodName)) ∈ lw_all := lw_g (lw_at lw_m5 161 rfl) rfl
theorem q2183 : (Jvm.Cond.castable "KnockerFaces$Var" "java/lang/Object") ∈ lw_tbl := lw_at lw_m9 149 rfl
theorem q2191 : (Jvm.Cond.castable "KnockerFaces$Var" "KnockerFaces$Sum") ∈ lw_tbl := lw_at lw_m9 157 rfl
theorem in_X14 : ∀ w ∈ wsX140, w ∈ lw_all := lw_in wsX140 [781] (by decide +kernel) (by decide +kernel)
/-! KnockerFaces$Joined -/
set_option maxRecDepth 100000
def RX15 : String := "KnockerFaces$Joined"
def TX15 : u_T := fun k => match k with
  | 0 => ("KnockerFaces$Joined", "op", "I", true)
  | 1 => ("KnockerFaces$Joined", "a", "LKnockerFaces$Sum;", true)
  | _ => ("KnockerFaces$Joined", "b", "LKnockerFaces$Sum;", true)
def tyX15 : Nat → FieldType := fun k => match k with
  | 0 => .int
  | 1 => .object "KnockerFaces$Sum"
  | _ => .object "KnockerFaces$Sum"
abbrev wsX150 : List Cond := u_ws RX15 TX15 3
theorem nmX15 : ∀ a, a < 3 → ∀ b, b < 3 → a ≠ b → (TX15 a).2.1 ≠ (TX15 b).2.1 := by decide +kernel
theorem tyX15_ok : ∀ k, k < 3 → parseFieldDescriptor (TX15 k).2.2.1 = some (tyX15 k) := by decide +kernel
abbrev cX15_init : ByteArray := prog_7_method_1_code
def yX15_init : MethodName := ⟨RX15, "<init>", "(ILKnockerFaces$Sum;LKnockerFaces$Sum;)V"⟩
def dkwX15_init_0 : List UInt8 := [42, 183, 0, 1, 42, 27, 181, 0, 7, 42, 44, 181, 0, 13, 42, 45, 181, 0, 17, 177]
abbrev dktX15_init_0 : List UInt8 := dkwX15_init_0 ++ []
theorem dksX15_init_0 : cX15_init.data.toList.drop 0 = dktX15_init_0 := by decide +kernel
theorem dX15_init_0 : decode cX15_init 0 = .ok (.aload_n 0, 1) := dk_42 (dk_at dksX15_init_0 0 rfl rfl)
theorem dX15_init_1 : decode cX15_init 1 = .ok (.invokespecial 1, 3) := dk_183 0 1 (dk_at dksX15_init_0 1 rfl rfl)
theorem dX15_init_4 : decode cX15_init 4 = .ok (.aload_n 0, 1) := dk_42 (dk_at dksX15_init_0 4 rfl rfl)
theorem dX15_init_5 : decode cX15_init 5 = .ok (.iload_n 1, 1) := dk_27 (dk_at dksX15_init_0 5 rfl rfl)
theorem dX15_init_6 : decode cX15_init 6 = .ok (.putfield 7, 3) := dk_181 0 7 (dk_at dksX15_init_0 6 rfl rfl)
theorem dX15_init_9 : decode cX15_init 9 = .ok (.aload_n 0, 1) := dk_42 (dk_at dksX15_init_0 9 rfl rfl)
theorem dX15_init_10 : decode cX15_init 10 = .ok (.aload_n 2, 1) := dk_44 (dk_at dksX15_init_0 10 rfl rfl)
theorem dX15_init_11 : decode cX15_init 11 = .ok (.putfield 13, 3) := dk_181 0 13 (dk_at dksX15_init_0 11 rfl rfl)
theorem dX15_init_14 : decode cX15_init 14 = .ok (.aload_n 0, 1) := dk_42 (dk_at dksX15_init_0 14 rfl rfl)
theorem dX15_init_15 : decode cX15_init 15 = .ok (.aload_n 3, 1) := dk_45 (dk_at dksX15_init_0 15 rfl rfl)
theorem dX15_init_16 : decode cX15_init 16 = .ok (.putfield 17, 3) := dk_181 0 17 (dk_at dksX15_init_0 16 rfl rfl)
theorem dX15_init_19 : decode cX15_init 19 = .ok (.return_, 1) := dk_177 (dk_at dksX15_init_0 19 rfl rfl)
abbrev cX15_of : ByteArray := prog_7_method_2_code
def yX15_of : MethodName := ⟨RX15, "of", "(LKnockerFaces$Asked;)I"⟩
def dkwX15_of_3 : List UInt8 := [181, 0, 24, 3, 172]
abbrev dktX15_of_3 : List UInt8 := dkwX15_of_3 ++ []
def dkwX15_of_2 : List UInt8 := [28, 29, 96, 172, 28, 29, 100, 172, 28, 29, 104, 172, 29, 153, 0, 7, 28, 29, 108, 172, 43, 4]
abbrev dktX15_of_2 : List UInt8 := dkwX15_of_2 ++ dktX15_of_3
def dkwX15_of_1 : List UInt8 := [170, 0, 0, 0, 0, 42, 0, 0, 0, 42, 0, 0, 0, 45, 0, 0, 0, 38, 0, 0, 0, 30, 0, 0, 0, 42, 0, 0, 0, 34]
abbrev dktX15_of_1 : List UInt8 := dkwX15_of_1 ++ dktX15_of_2
def dkwX15_of_0 : List UInt8 := [42, 180, 0, 13, 43, 182, 0, 20, 61, 42, 180, 0, 17, 43, 182, 0, 20, 62, 42, 180, 0, 7]
abbrev dktX15_of_0 : List UInt8 := dkwX15_of_0 ++ dktX15_of_1
theorem dksX15_of_0 : cX15_of.data.toList.drop 0 = dktX15_of_0 := by decide +kernel
theorem dksX15_of_1 : cX15_of.data.toList.drop 22 = dktX15_of_1 := dk_seg dksX15_of_0 22 rfl rfl
theorem dksX15_of_2 : cX15_of.data.toList.drop 52 = dktX15_of_2 := dk_seg dksX15_of_1 30 rfl rfl
theorem dksX15_of_3 : cX15_of.data.toList.drop 74 = dktX15_of_3 := dk_seg dksX15_of_2 22 rfl rfl
theorem dX15_of_0 : decode cX15_of 0 = .ok (.aload_n 0, 1) := dk_42 (dk_at dksX15_of_0 0 rfl rfl)
theorem dX15_of_1 : decode cX15_of 1 = .ok (.getfield 13, 3) := dk_180 0 13 (dk_at dksX15_of_0 1 rfl rfl)
theorem dX15_of_4 : decode cX15_of 4 = .ok (.aload_n 1, 1) := dk_43 (dk_at dksX15_of_0 4 rfl rfl)
theorem dX15_of_5 : decode cX15_of 5 = .ok (.invokevirtual 20, 3) := dk_182 0 20 (dk_at dksX15_of_0 5 rfl rfl)
theorem dX15_of_8 : decode cX15_of 8 = .ok (.istore_n 2, 1) := dk_61 (dk_at dksX15_of_0 8 rfl rfl)
theorem dX15_of_9 : decode cX15_of 9 = .ok (.aload_n 0, 1) := dk_42 (dk_at dksX15_of_0 9 rfl rfl)
theorem dX15_of_10 : decode cX15_of 10 = .ok (.getfield 17, 3) := dk_180 0 17 (dk_at dksX15_of_0 10 rfl rfl)
theorem dX15_of_13 : decode cX15_of 13 = .ok (.aload_n 1, 1) := dk_43 (dk_at dksX15_of_0 13 rfl rfl)
theorem dX15_of_14 : decode cX15_of 14 = .ok (.invokevirtual 20, 3) := dk_182 0 20 (dk_at dksX15_of_0 14 rfl rfl)
theorem dX15_of_17 : decode cX15_of 17 = .ok (.istore_n 3, 1) := dk_62 (dk_at dksX15_of_0 17 rfl rfl)
theorem dX15_of_18 : decode cX15_of 18 = .ok (.aload_n 0, 1) := dk_42 (dk_at dksX15_of_0 18 rfl rfl)
theorem dX15_of_19 : decode cX15_of 19 = .ok (.getfield 7, 3) := dk_180 0 7 (dk_at dksX15_of_0 19 rfl rfl)
theorem dX15_of_22 : decode cX15_of 22 = .ok (.tableswitch 42 42 45 #[38, 30, 42, 34], 30) := by decide +kernel
theorem dX15_of_52 : decode cX15_of 52 = .ok (.iload_n 2, 1) := dk_28 (dk_at dksX15_of_2 0 rfl rfl)
theorem dX15_of_53 : decode cX15_of 53 = .ok (.iload_n 3, 1) := dk_29 (dk_at dksX15_of_2 1 rfl rfl)
theorem dX15_of_54 : decode cX15_of 54 = .ok (.iadd, 1) := dk_96 (dk_at dksX15_of_2 2 rfl rfl)
theorem dX15_of_55 : decode cX15_of 55 = .ok (.ireturn, 1) := dk_172 (dk_at dksX15_of_2 3 rfl rfl)
theorem dX15_of_56 : decode cX15_of 56 = .ok (.iload_n 2, 1) := dk_28 (dk_at dksX15_of_2 4 rfl rfl)
theorem dX15_of_57 : decode cX15_of 57 = .ok (.iload_n 3, 1) := dk_29 (dk_at dksX15_of_2 5 rfl rfl)
theorem dX15_of_58 : decode cX15_of 58 = .ok (.isub, 1) := dk_100 (dk_at dksX15_of_2 6 rfl rfl)
theorem dX15_of_59 : decode cX15_of 59 = .ok (.ireturn, 1) := dk_172 (dk_at dksX15_of_2 7 rfl rfl)
theorem dX15_of_60 : decode cX15_of 60 = .ok (.iload_n 2, 1) := dk_28 (dk_at dksX15_of_2 8 rfl rfl)
theorem dX15_of_61 : decode cX15_of 61 = .ok (.iload_n 3, 1) := dk_29 (dk_at dksX15_of_2 9 rfl rfl)
theorem dX15_of_62 : decode cX15_of 62 = .ok (.imul, 1) := dk_104 (dk_at dksX15_of_2 10 rfl rfl)
theorem dX15_of_63 : decode cX15_of 63 = .ok (.ireturn, 1) := dk_172 (dk_at dksX15_of_2 11 rfl rfl)
theorem dX15_of_64 : decode cX15_of 64 = .ok (.iload_n 3, 1) := dk_29 (dk_at dksX15_of_2 12 rfl rfl)
theorem dX15_of_65 : decode cX15_of 65 = .ok (.ifCond .eq 7, 3) := dk_153 0 7 (dk_at dksX15_of_2 13 rfl rfl)
theorem dX15_of_68 : decode cX15_of 68 = .ok (.iload_n 2, 1) := dk_28 (dk_at dksX15_of_2 16 rfl rfl)
theorem dX15_of_69 : decode cX15_of 69 = .ok (.iload_n 3, 1) := dk_29 (dk_at dksX15_of_2 17 rfl rfl)
theorem dX15_of_70 : decode cX15_of 70 = .ok (.idiv, 1) := dk_108 (dk_at dksX15_of_2 18 rfl rfl)
theorem dX15_of_71 : decode cX15_of 71 = .ok (.ireturn, 1) := dk_172 (dk_at dksX15_of_2 19 rfl rfl)
theorem dX15_of_72 : decode cX15_of 72 = .ok (.aload_n 1, 1) := dk_43 (dk_at dksX15_of_2 20 rfl rfl)
theorem dX15_of_73 : decode cX15_of 73 = .ok (.iconst 1, 1) := dk_4 (dk_at dksX15_of_2 21 rfl rfl)
theorem dX15_of_74 : decode cX15_of 74 = .ok (.putfield 24, 3) := dk_181 0 24 (dk_at dksX15_of_3 0 rfl rfl)
theorem dX15_of_77 : decode cX15_of 77 = .ok (.iconst 0, 1) := dk_3 (dk_at dksX15_of_3 3 rfl rfl)
theorem dX15_of_78 : decode cX15_of 78 = .ok (.ireturn, 1) := dk_172 (dk_at dksX15_of_3 4 rfl rfl)
theorem q141 : (Jvm.Cond.initialized "KnockerFaces$Joined") ∈ lw_all := lw_g (lw_at lw_m1 27 rfl) rfl
theorem q414 : (Jvm.Cond.fieldLink "KnockerFaces$Joined" (24 : Nat) "KnockerFaces$Asked" "nought" "Z") ∈ lw_all := lw_g (lw_at lw_m2 60 rfl) rfl
theorem q785 : (Jvm.Cond.instantiable "KnockerFaces$Joined" (3 : Nat)) ∈ lw_all := lw_g (lw_at lw_m3 191 rfl) rfl
theorem q787 : (Jvm.Cond.instanceMethod ({ cls := "KnockerFaces$Joined", name := "<init>", desc := "(ILKnockerFaces$Sum;LKnockerFaces$Sum;)V" } : Jvm.MethodName)) ∈ lw_all := lw_g (lw_at lw_m3 193 rfl) rfl
theorem q788 : (Jvm.Cond.code ({ cls := "KnockerFaces$Joined", name := "<init>", desc := "(ILKnockerFaces$Sum;LKnockerFaces$Sum;)V" } : Jvm.MethodName) prog_7_method_1_code (4 : Nat) (Option.none : Option Jvm.ClassFile.FieldType)) ∈ lw_all := lw_g (lw_at lw_m3 194 rfl) rfl
theorem q789 : (Jvm.Cond.methodLinkNest "KnockerFaces$Joined" (1 : Nat) ({ cls := "KnockerFaces$Sum", name := "<init>", desc := "()V" } : Jvm.MethodName) "KnockerFaces") ∈ lw_tbl := lw_at lw_m3 195 rfl
theorem q790 : (Jvm.Cond.fieldLink "KnockerFaces$Joined" (7 : Nat) "KnockerFaces$Joined" "op" "I") ∈ lw_all := lw_g (lw_at lw_m3 196 rfl) rfl
theorem q791 : (Jvm.Cond.fieldLink "KnockerFaces$Joined" (13 : Nat) "KnockerFaces$Joined" "a" "LKnockerFaces$Sum;") ∈ lw_all := lw_g (lw_at lw_m3 197 rfl) rfl
theorem q792 : (Jvm.Cond.fieldLink "KnockerFaces$Joined" (17 : Nat) "KnockerFaces$Joined" "b" "LKnockerFaces$Sum;") ∈ lw_all := lw_g (lw_at lw_m3 198 rfl) rfl
theorem q793 : (Jvm.Cond.laysFinal "KnockerFaces$Joined" "KnockerFaces$Joined" "op" "I") ∈ lw_all := lw_g (lw_at lw_m3 199 rfl) rfl
theorem q794 : (Jvm.Cond.soleField "KnockerFaces$Joined" "op") ∈ lw_all := lw_g (lw_at lw_m3 200 rfl) rfl
theorem q795 : (Jvm.Cond.laysFinal "KnockerFaces$Joined" "KnockerFaces$Joined" "a" "LKnockerFaces$Sum;") ∈ lw_all := lw_g (lw_at lw_m3 201 rfl) rfl
theorem q796 : (Jvm.Cond.soleField "KnockerFaces$Joined" "a") ∈ lw_all := lw_g (lw_at lw_m3 202 rfl) rfl
theorem q797 : (Jvm.Cond.laysFinal "KnockerFaces$Joined" "KnockerFaces$Joined" "b" "LKnockerFaces$Sum;") ∈ lw_all := lw_g (lw_at lw_m3 203 rfl) rfl
theorem q798 : (Jvm.Cond.soleField "KnockerFaces$Joined" "b") ∈ lw_all := lw_g (lw_at lw_m3 204 rfl) rfl
theorem q799 : (Jvm.Cond.superclass "KnockerFaces$Joined" "KnockerFaces$Sum") ∈ lw_all := lw_g (lw_at lw_m3 205 rfl) rfl
theorem q1062 : (Jvm.Cond.selects "KnockerFaces$Joined" ({ cls := "java/lang/Object", name := "getClass", desc := "()Ljava/lang/Class;" } : Jvm.MethodName) ({ cls := "java/lang/Object", name := "getClass", desc := "()Ljava/lang/Class;" } : Jvm.MethodName)) ∈ lw_all := lw_g (lw_at lw_m4 228 rfl) rfl
theorem q1226 : (Jvm.Cond.selects "KnockerFaces$Joined" ({ cls := "KnockerFaces$Sum", name := "of", desc := "(LKnockerFaces$Asked;)I" } : Jvm.MethodName) ({ cls := "KnockerFaces$Joined", name := "of", desc := "(LKnockerFaces$Asked;)I" } : Jvm.MethodName)) ∈ lw_all := lw_g (lw_at lw_m5 152 rfl) rfl
theorem q1227 : (Jvm.Cond.instanceMethod ({ cls := "KnockerFaces$Joined", name := "of", desc := "(LKnockerFaces$Asked;)I" } : Jvm.MethodName)) ∈ lw_all := lw_g (lw_at lw_m5 153 rfl) rfl
theorem q1228 : (Jvm.Cond.code ({ cls := "KnockerFaces$Joined", name := "of", desc := "(LKnockerFaces$Asked;)I" } : Jvm.MethodName) prog_7_method_2_code (4 : Nat) (Option.some Jvm.ClassFile.FieldType.int)) ∈ lw_all := lw_g (lw_at lw_m5 154 rfl) rfl
theorem q1229 : (Jvm.Cond.methodLink "KnockerFaces$Joined" (20 : Nat) ({ cls := "KnockerFaces$Sum", name := "of", desc := "(LKnockerFaces$Asked;)I" } : Jvm.MethodName)) ∈ lw_all := lw_g (lw_at lw_m5 155 rfl) rfl
theorem q2184 : (Jvm.Cond.castable "KnockerFaces$Joined" "java/lang/Object") ∈ lw_tbl := lw_at lw_m9 150 rfl
theorem q2192 : (Jvm.Cond.castable "KnockerFaces$Joined" "KnockerFaces$Sum") ∈ lw_tbl := lw_at lw_m9 158 rfl
theorem in_X15 : ∀ w ∈ wsX150, w ∈ lw_all := lw_in wsX150 [793, 795, 797] (by decide +kernel) (by decide +kernel)
/-! KnockerFaces$Named -/
set_option maxRecDepth 100000
def RX16 : String := "KnockerFaces$Named"
abbrev cX16_init : ByteArray := prog_9_method_1_code
def yX16_init : MethodName := ⟨RX16, "<init>", "(Ljava/lang/String;)V"⟩
def dkwX16_init_0 : List UInt8 := [42, 183, 0, 3, 42, 7, 188, 10, 181, 0, 9, 42, 43, 181, 0, 15, 177]
abbrev dktX16_init_0 : List UInt8 := dkwX16_init_0 ++ []
theorem dksX16_init_0 : cX16_init.data.toList.drop 0 = dktX16_init_0 := by decide +kernel
theorem dX16_init_0 : decode cX16_init 0 = .ok (.aload_n 0, 1) := dk_42 (dk_at dksX16_init_0 0 rfl rfl)
theorem dX16_init_1 : decode cX16_init 1 = .ok (.invokespecial 3, 3) := dk_183 0 3 (dk_at dksX16_init_0 1 rfl rfl)
theorem dX16_init_4 : decode cX16_init 4 = .ok (.aload_n 0, 1) := dk_42 (dk_at dksX16_init_0 4 rfl rfl)
theorem dX16_init_5 : decode cX16_init 5 = .ok (.iconst 4, 1) := dk_7 (dk_at dksX16_init_0 5 rfl rfl)
theorem dX16_init_6 : decode cX16_init 6 = .ok (.newarray .int, 2) := dk_188_10 (dk_at dksX16_init_0 6 rfl rfl)
theorem dX16_init_8 : decode cX16_init 8 = .ok (.putfield 9, 3) := dk_181 0 9 (dk_at dksX16_init_0 8 rfl rfl)
theorem dX16_init_11 : decode cX16_init 11 = .ok (.aload_n 0, 1) := dk_42 (dk_at dksX16_init_0 11 rfl rfl)
theorem dX16_init_12 : decode cX16_init 12 = .ok (.aload_n 1, 1) := dk_43 (dk_at dksX16_init_0 12 rfl rfl)
theorem dX16_init_13 : decode cX16_init 13 = .ok (.putfield 15, 3) := dk_181 0 15 (dk_at dksX16_init_0 13 rfl rfl)
theorem dX16_init_16 : decode cX16_init 16 = .ok (.return_, 1) := dk_177 (dk_at dksX16_init_0 16 rfl rfl)
theorem q142 : (Jvm.Cond.initialized "KnockerFaces$Named") ∈ lw_all := lw_g (lw_at lw_m1 28 rfl) rfl
theorem q1007 : (Jvm.Cond.instanceMethod ({ cls := "KnockerFaces$Named", name := "<init>", desc := "(Ljava/lang/String;)V" } : Jvm.MethodName)) ∈ lw_all := lw_g (lw_at lw_m4 173 rfl) rfl
theorem q1008 : (Jvm.Cond.code ({ cls := "KnockerFaces$Named", name := "<init>", desc := "(Ljava/lang/String;)V" } : Jvm.MethodName) prog_9_method_1_code (2 : Nat) (Option.none : Option Jvm.ClassFile.FieldType)) ∈ lw_all := lw_g (lw_at lw_m4 174 rfl) rfl
theorem q1009 : (Jvm.Cond.methodLink "KnockerFaces$Named" (3 : Nat) ({ cls := "java/lang/Object", name := "<init>", desc := "()V" } : Jvm.MethodName)) ∈ lw_all := lw_g (lw_at lw_m4 175 rfl) rfl
theorem q1010 : (Jvm.Cond.fieldLink "KnockerFaces$Named" (15 : Nat) "KnockerFaces$Named" "name" "Ljava/lang/String;") ∈ lw_all := lw_g (lw_at lw_m4 176 rfl) rfl
theorem q1012 : (Jvm.Cond.fieldLink "KnockerFaces$Named" (9 : Nat) "KnockerFaces$Named" "face" "[I") ∈ lw_all := lw_g (lw_at lw_m4 178 rfl) rfl
theorem q1021 : (Jvm.Cond.soleField "KnockerFaces$Named" "name") ∈ lw_all := lw_g (lw_at lw_m4 187 rfl) rfl
theorem q1023 : (Jvm.Cond.soleField "KnockerFaces$Named" "face") ∈ lw_all := lw_g (lw_at lw_m4 189 rfl) rfl
/-! KnockerFaces$Door -/
set_option maxRecDepth 100000
def RX17 : String := "KnockerFaces$Door"
def TX17 : u_T := fun k => match k with
  | 0 => ("KnockerFaces$Named", "name", "Ljava/lang/String;", true)
  | _ => ("KnockerFaces$Named", "face", "[I", true)
def tyX17 : Nat → FieldType := fun k => match k with
  | 0 => .object "java/lang/String"
  | _ => .array .int
abbrev wsX170 : List Cond := u_ws RX17 TX17 2
theorem nmX17 : ∀ a, a < 2 → ∀ b, b < 2 → a ≠ b → (TX17 a).2.1 ≠ (TX17 b).2.1 := by decide +kernel
theorem tyX17_ok : ∀ k, k < 2 → parseFieldDescriptor (TX17 k).2.2.1 = some (tyX17 k) := by decide +kernel
abbrev cX17_init : ByteArray := prog_4_method_1_code
def yX17_init : MethodName := ⟨RX17, "<init>", "(Ljava/lang/String;)V"⟩
def dkwX17_init_0 : List UInt8 := [42, 43, 183, 0, 1, 177]
abbrev dktX17_init_0 : List UInt8 := dkwX17_init_0 ++ []
theorem dksX17_init_0 : cX17_init.data.toList.drop 0 = dktX17_init_0 := by decide +kernel
theorem dX17_init_0 : decode cX17_init 0 = .ok (.aload_n 0, 1) := dk_42 (dk_at dksX17_init_0 0 rfl rfl)
theorem dX17_init_1 : decode cX17_init 1 = .ok (.aload_n 1, 1) := dk_43 (dk_at dksX17_init_0 1 rfl rfl)
theorem dX17_init_2 : decode cX17_init 2 = .ok (.invokespecial 1, 3) := dk_183 0 1 (dk_at dksX17_init_0 2 rfl rfl)
theorem dX17_init_5 : decode cX17_init 5 = .ok (.return_, 1) := dk_177 (dk_at dksX17_init_0 5 rfl rfl)
theorem q143 : (Jvm.Cond.initialized "KnockerFaces$Door") ∈ lw_all := lw_g (lw_at lw_m1 29 rfl) rfl
theorem q806 : (Jvm.Cond.instantiable "KnockerFaces$Door" (2 : Nat)) ∈ lw_all := lw_g (lw_at lw_m3 212 rfl) rfl
theorem q1004 : (Jvm.Cond.instanceMethod ({ cls := "KnockerFaces$Door", name := "<init>", desc := "(Ljava/lang/String;)V" } : Jvm.MethodName)) ∈ lw_all := lw_g (lw_at lw_m4 170 rfl) rfl
theorem q1005 : (Jvm.Cond.code ({ cls := "KnockerFaces$Door", name := "<init>", desc := "(Ljava/lang/String;)V" } : Jvm.MethodName) prog_4_method_1_code (2 : Nat) (Option.none : Option Jvm.ClassFile.FieldType)) ∈ lw_all := lw_g (lw_at lw_m4 171 rfl) rfl
theorem q1006 : (Jvm.Cond.methodLink "KnockerFaces$Door" (1 : Nat) ({ cls := "KnockerFaces$Named", name := "<init>", desc := "(Ljava/lang/String;)V" } : Jvm.MethodName)) ∈ lw_all := lw_g (lw_at lw_m4 172 rfl) rfl
theorem q1014 : (Jvm.Cond.sameField "KnockerFaces$Door" "KnockerFaces$Named" "face" "[I") ∈ lw_all := lw_g (lw_at lw_m4 180 rfl) rfl
theorem q1020 : (Jvm.Cond.laysFinal "KnockerFaces$Door" "KnockerFaces$Named" "name" "Ljava/lang/String;") ∈ lw_all := lw_g (lw_at lw_m4 186 rfl) rfl
theorem q1022 : (Jvm.Cond.laysFinal "KnockerFaces$Door" "KnockerFaces$Named" "face" "[I") ∈ lw_all := lw_g (lw_at lw_m4 188 rfl) rfl
theorem q1024 : (Jvm.Cond.superclass "KnockerFaces$Door" "KnockerFaces$Named") ∈ lw_all := lw_g (lw_at lw_m4 190 rfl) rfl
theorem q1059 : (Jvm.Cond.selects "KnockerFaces$Door" ({ cls := "java/lang/Object", name := "getClass", desc := "()Ljava/lang/Class;" } : Jvm.MethodName) ({ cls := "java/lang/Object", name := "getClass", desc := "()Ljava/lang/Class;" } : Jvm.MethodName)) ∈ lw_all := lw_g (lw_at lw_m4 225 rfl) rfl
theorem q2167 : (Jvm.Cond.castable "KnockerFaces$Door" "KnockerFaces$Named") ∈ lw_tbl := lw_at lw_m9 133 rfl
theorem q2185 : (Jvm.Cond.castable "KnockerFaces$Door" "java/lang/Object") ∈ lw_tbl := lw_at lw_m9 151 rfl
theorem in_X17 : ∀ w ∈ wsX170, w ∈ lw_all := lw_in wsX170 [1020, 1022] (by decide +kernel) (by decide +kernel)
/-! KnockerFaces$Caller -/
set_option maxRecDepth 100000
def RX18 : String := "KnockerFaces$Caller"
def TX18 : u_T := fun k => match k with
  | 0 => ("KnockerFaces$Named", "name", "Ljava/lang/String;", true)
  | _ => ("KnockerFaces$Named", "face", "[I", true)
def tyX18 : Nat → FieldType := fun k => match k with
  | 0 => .object "java/lang/String"
  | _ => .array .int
abbrev wsX180 : List Cond := u_ws RX18 TX18 2
theorem nmX18 : ∀ a, a < 2 → ∀ b, b < 2 → a ≠ b → (TX18 a).2.1 ≠ (TX18 b).2.1 := by decide +kernel
theorem tyX18_ok : ∀ k, k < 2 → parseFieldDescriptor (TX18 k).2.2.1 = some (tyX18 k) := by decide +kernel
abbrev cX18_init : ByteArray := prog_3_method_1_code
def yX18_init : MethodName := ⟨RX18, "<init>", "(Ljava/lang/String;)V"⟩
def dkwX18_init_0 : List UInt8 := [42, 43, 183, 0, 1, 177]
abbrev dktX18_init_0 : List UInt8 := dkwX18_init_0 ++ []
theorem dksX18_init_0 : cX18_init.data.toList.drop 0 = dktX18_init_0 := by decide +kernel
theorem dX18_init_0 : decode cX18_init 0 = .ok (.aload_n 0, 1) := dk_42 (dk_at dksX18_init_0 0 rfl rfl)
theorem dX18_init_1 : decode cX18_init 1 = .ok (.aload_n 1, 1) := dk_43 (dk_at dksX18_init_0 1 rfl rfl)
theorem dX18_init_2 : decode cX18_init 2 = .ok (.invokespecial 1, 3) := dk_183 0 1 (dk_at dksX18_init_0 2 rfl rfl)
theorem dX18_init_5 : decode cX18_init 5 = .ok (.return_, 1) := dk_177 (dk_at dksX18_init_0 5 rfl rfl)
theorem q150 : (Jvm.Cond.initialized "KnockerFaces$Caller") ∈ lw_all := lw_g (lw_at lw_m1 36 rfl) rfl
theorem q1016 : (Jvm.Cond.sameField "KnockerFaces$Caller" "KnockerFaces$Named" "face" "[I") ∈ lw_all := lw_g (lw_at lw_m4 182 rfl) rfl
theorem q1058 : (Jvm.Cond.selects "KnockerFaces$Caller" ({ cls := "java/lang/Object", name := "getClass", desc := "()Ljava/lang/Class;" } : Jvm.MethodName) ({ cls := "java/lang/Object", name := "getClass", desc := "()Ljava/lang/Class;" } : Jvm.MethodName)) ∈ lw_all := lw_g (lw_at lw_m4 224 rfl) rfl
theorem q1086 : (Jvm.Cond.instantiable "KnockerFaces$Caller" (2 : Nat)) ∈ lw_all := lw_g (lw_at lw_m5 12 rfl) rfl
theorem q1088 : (Jvm.Cond.instanceMethod ({ cls := "KnockerFaces$Caller", name := "<init>", desc := "(Ljava/lang/String;)V" } : Jvm.MethodName)) ∈ lw_all := lw_g (lw_at lw_m5 14 rfl) rfl
theorem q1089 : (Jvm.Cond.code ({ cls := "KnockerFaces$Caller", name := "<init>", desc := "(Ljava/lang/String;)V" } : Jvm.MethodName) prog_3_method_1_code (2 : Nat) (Option.none : Option Jvm.ClassFile.FieldType)) ∈ lw_all := lw_g (lw_at lw_m5 15 rfl) rfl
theorem q1090 : (Jvm.Cond.methodLink "KnockerFaces$Caller" (1 : Nat) ({ cls := "KnockerFaces$Named", name := "<init>", desc := "(Ljava/lang/String;)V" } : Jvm.MethodName)) ∈ lw_all := lw_g (lw_at lw_m5 16 rfl) rfl
theorem q1091 : (Jvm.Cond.laysFinal "KnockerFaces$Caller" "KnockerFaces$Named" "name" "Ljava/lang/String;") ∈ lw_all := lw_g (lw_at lw_m5 17 rfl) rfl
theorem q1092 : (Jvm.Cond.laysFinal "KnockerFaces$Caller" "KnockerFaces$Named" "face" "[I") ∈ lw_all := lw_g (lw_at lw_m5 18 rfl) rfl
theorem q1093 : (Jvm.Cond.superclass "KnockerFaces$Caller" "KnockerFaces$Named") ∈ lw_all := lw_g (lw_at lw_m5 19 rfl) rfl
theorem q2166 : (Jvm.Cond.castable "KnockerFaces$Caller" "KnockerFaces$Named") ∈ lw_tbl := lw_at lw_m9 132 rfl
theorem q2187 : (Jvm.Cond.castable "KnockerFaces$Caller" "java/lang/Object") ∈ lw_tbl := lw_at lw_m9 153 rfl
theorem in_X18 : ∀ w ∈ wsX180, w ∈ lw_all := lw_in wsX180 [1091, 1092] (by decide +kernel) (by decide +kernel)
/-! KnockerFaces$Round -/
set_option maxRecDepth 100000
def RX19 : String := "KnockerFaces$Round"
def TX19 : u_T := fun k => match k with
  | 0 => ("KnockerFaces$Round", "caller", "I", false)
  | 1 => ("KnockerFaces$Round", "door", "I", false)
  | 2 => ("KnockerFaces$Round", "every", "I", false)
  | _ => ("KnockerFaces$Round", "from", "I", false)
def tyX19 : Nat → FieldType := fun k => match k with
  | 0 => .int
  | 1 => .int
  | 2 => .int
  | _ => .int
abbrev wsX190 : List Cond := u_ws RX19 TX19 4
theorem nmX19 : ∀ a, a < 4 → ∀ b, b < 4 → a ≠ b → (TX19 a).2.1 ≠ (TX19 b).2.1 := by decide +kernel
theorem tyX19_ok : ∀ k, k < 4 → parseFieldDescriptor (TX19 k).2.2.1 = some (tyX19 k) := by decide +kernel
abbrev cX19_init : ByteArray := prog_12_method_1_code
def yX19_init : MethodName := ⟨RX19, "<init>", "()V"⟩
theorem dX19_init_0 : decode cX19_init 0 = .ok (.aload_n 0, 1) := by decide +kernel
theorem dX19_init_1 : decode cX19_init 1 = .ok (.invokespecial 1, 3) := by decide +kernel
theorem dX19_init_4 : decode cX19_init 4 = .ok (.return_, 1) := by decide +kernel
abbrev cX19_isDue : ByteArray := prog_12_method_2_code
def yX19_isDue : MethodName := ⟨RX19, "isDue", "(I)Z"⟩
def dkwX19_isDue_1 : List UInt8 := [167, 0, 4, 3, 172]
abbrev dktX19_isDue_1 : List UInt8 := dkwX19_isDue_1 ++ []
def dkwX19_isDue_0 : List UInt8 := [27, 42, 180, 0, 7, 161, 0, 21, 27, 42, 180, 0, 7, 100, 42, 180, 0, 13, 112, 154, 0, 7, 4]
abbrev dktX19_isDue_0 : List UInt8 := dkwX19_isDue_0 ++ dktX19_isDue_1
theorem dksX19_isDue_0 : cX19_isDue.data.toList.drop 0 = dktX19_isDue_0 := by decide +kernel
theorem dksX19_isDue_1 : cX19_isDue.data.toList.drop 23 = dktX19_isDue_1 := dk_seg dksX19_isDue_0 23 rfl rfl
theorem dX19_isDue_0 : decode cX19_isDue 0 = .ok (.iload_n 1, 1) := dk_27 (dk_at dksX19_isDue_0 0 rfl rfl)
theorem dX19_isDue_1 : decode cX19_isDue 1 = .ok (.aload_n 0, 1) := dk_42 (dk_at dksX19_isDue_0 1 rfl rfl)
theorem dX19_isDue_2 : decode cX19_isDue 2 = .ok (.getfield 7, 3) := dk_180 0 7 (dk_at dksX19_isDue_0 2 rfl rfl)
theorem dX19_isDue_5 : decode cX19_isDue 5 = .ok (.if_icmp .lt 21, 3) := dk_161 0 21 (dk_at dksX19_isDue_0 5 rfl rfl)
theorem dX19_isDue_8 : decode cX19_isDue 8 = .ok (.iload_n 1, 1) := dk_27 (dk_at dksX19_isDue_0 8 rfl rfl)
theorem dX19_isDue_9 : decode cX19_isDue 9 = .ok (.aload_n 0, 1) := dk_42 (dk_at dksX19_isDue_0 9 rfl rfl)
theorem dX19_isDue_10 : decode cX19_isDue 10 = .ok (.getfield 7, 3) := dk_180 0 7 (dk_at dksX19_isDue_0 10 rfl rfl)
theorem dX19_isDue_13 : decode cX19_isDue 13 = .ok (.isub, 1) := dk_100 (dk_at dksX19_isDue_0 13 rfl rfl)
theorem dX19_isDue_14 : decode cX19_isDue 14 = .ok (.aload_n 0, 1) := dk_42 (dk_at dksX19_isDue_0 14 rfl rfl)
theorem dX19_isDue_15 : decode cX19_isDue 15 = .ok (.getfield 13, 3) := dk_180 0 13 (dk_at dksX19_isDue_0 15 rfl rfl)
theorem dX19_isDue_18 : decode cX19_isDue 18 = .ok (.irem, 1) := dk_112 (dk_at dksX19_isDue_0 18 rfl rfl)
theorem dX19_isDue_19 : decode cX19_isDue 19 = .ok (.ifCond .ne 7, 3) := dk_154 0 7 (dk_at dksX19_isDue_0 19 rfl rfl)
theorem dX19_isDue_22 : decode cX19_isDue 22 = .ok (.iconst 1, 1) := dk_4 (dk_at dksX19_isDue_0 22 rfl rfl)
theorem dX19_isDue_23 : decode cX19_isDue 23 = .ok (.goto 4, 3) := dk_167 0 4 (dk_at dksX19_isDue_1 0 rfl rfl)
theorem dX19_isDue_26 : decode cX19_isDue 26 = .ok (.iconst 0, 1) := dk_3 (dk_at dksX19_isDue_1 3 rfl rfl)
theorem dX19_isDue_27 : decode cX19_isDue 27 = .ok (.ireturn, 1) := dk_172 (dk_at dksX19_isDue_1 4 rfl rfl)
theorem q151 : (Jvm.Cond.initialized "KnockerFaces$Round") ∈ lw_all := lw_g (lw_at lw_m1 37 rfl) rfl
theorem q1066 : (Jvm.Cond.selects "KnockerFaces$Round" ({ cls := "java/lang/Object", name := "getClass", desc := "()Ljava/lang/Class;" } : Jvm.MethodName) ({ cls := "java/lang/Object", name := "getClass", desc := "()Ljava/lang/Class;" } : Jvm.MethodName)) ∈ lw_all := lw_g (lw_at lw_m4 232 rfl) rfl
theorem q1095 : (Jvm.Cond.instantiable "KnockerFaces$Round" (4 : Nat)) ∈ lw_all := lw_g (lw_at lw_m5 21 rfl) rfl
theorem q1097 : (Jvm.Cond.instanceMethod ({ cls := "KnockerFaces$Round", name := "<init>", desc := "()V" } : Jvm.MethodName)) ∈ lw_all := lw_g (lw_at lw_m5 23 rfl) rfl
theorem q1098 : (Jvm.Cond.code ({ cls := "KnockerFaces$Round", name := "<init>", desc := "()V" } : Jvm.MethodName) prog_12_method_1_code (1 : Nat) (Option.none : Option Jvm.ClassFile.FieldType)) ∈ lw_all := lw_g (lw_at lw_m5 24 rfl) rfl
theorem q1099 : (Jvm.Cond.methodLink "KnockerFaces$Round" (1 : Nat) ({ cls := "java/lang/Object", name := "<init>", desc := "()V" } : Jvm.MethodName)) ∈ lw_all := lw_g (lw_at lw_m5 25 rfl) rfl
theorem q1106 : (Jvm.Cond.fieldLink "KnockerFaces$Round" (13 : Nat) "KnockerFaces$Round" "every" "I") ∈ lw_all := lw_g (lw_at lw_m5 32 rfl) rfl
theorem q1109 : (Jvm.Cond.fieldLink "KnockerFaces$Round" (7 : Nat) "KnockerFaces$Round" "from" "I") ∈ lw_all := lw_g (lw_at lw_m5 35 rfl) rfl
theorem q1112 : (Jvm.Cond.lays "KnockerFaces$Round" "KnockerFaces$Round" "caller" "I") ∈ lw_all := lw_g (lw_at lw_m5 38 rfl) rfl
theorem q1113 : (Jvm.Cond.soleField "KnockerFaces$Round" "caller") ∈ lw_all := lw_g (lw_at lw_m5 39 rfl) rfl
theorem q1114 : (Jvm.Cond.lays "KnockerFaces$Round" "KnockerFaces$Round" "door" "I") ∈ lw_all := lw_g (lw_at lw_m5 40 rfl) rfl
theorem q1115 : (Jvm.Cond.soleField "KnockerFaces$Round" "door") ∈ lw_all := lw_g (lw_at lw_m5 41 rfl) rfl
theorem q1116 : (Jvm.Cond.lays "KnockerFaces$Round" "KnockerFaces$Round" "every" "I") ∈ lw_all := lw_g (lw_at lw_m5 42 rfl) rfl
theorem q1117 : (Jvm.Cond.soleField "KnockerFaces$Round" "every") ∈ lw_all := lw_g (lw_at lw_m5 43 rfl) rfl
theorem q1118 : (Jvm.Cond.lays "KnockerFaces$Round" "KnockerFaces$Round" "from" "I") ∈ lw_all := lw_g (lw_at lw_m5 44 rfl) rfl
theorem q1119 : (Jvm.Cond.soleField "KnockerFaces$Round" "from") ∈ lw_all := lw_g (lw_at lw_m5 45 rfl) rfl
theorem q1120 : (Jvm.Cond.superclass "KnockerFaces$Round" "java/lang/Object") ∈ lw_all := lw_g (lw_at lw_m5 46 rfl) rfl
theorem q1199 : (Jvm.Cond.instanceMethod ({ cls := "KnockerFaces$Round", name := "isDue", desc := "(I)Z" } : Jvm.MethodName)) ∈ lw_all := lw_g (lw_at lw_m5 125 rfl) rfl
theorem q1200 : (Jvm.Cond.selects "KnockerFaces$Round" ({ cls := "KnockerFaces$Round", name := "isDue", desc := "(I)Z" } : Jvm.MethodName) ({ cls := "KnockerFaces$Round", name := "isDue", desc := "(I)Z" } : Jvm.MethodName)) ∈ lw_all := lw_g (lw_at lw_m5 126 rfl) rfl
theorem q1201 : (Jvm.Cond.code ({ cls := "KnockerFaces$Round", name := "isDue", desc := "(I)Z" } : Jvm.MethodName) prog_12_method_2_code (2 : Nat) (Option.some Jvm.ClassFile.FieldType.boolean)) ∈ lw_all := lw_g (lw_at lw_m5 127 rfl) rfl
theorem q2188 : (Jvm.Cond.castable "KnockerFaces$Round" "java/lang/Object") ∈ lw_tbl := lw_at lw_m9 154 rfl
theorem in_X19 : ∀ w ∈ wsX190, w ∈ lw_all := lw_in wsX190 [1112, 1114, 1116, 1118] (by decide +kernel) (by decide +kernel)
