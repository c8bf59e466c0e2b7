/-! KnockerFaces -/
set_option maxRecDepth 100000
def RX0 : String := "KnockerFaces"
def TX0 : u_T := fun k => match k with
  | 0 => ("KnockerFaces", "fault", "LKnockerFaces$Fault;", true)
  | 1 => ("KnockerFaces", "tokens", "LKnockerFaces$Tokens;", true)
  | 2 => ("KnockerFaces", "parser", "LKnockerFaces$Parser;", true)
  | 3 => ("KnockerFaces", "text", "LKnockerFaces$Text;", false)
  | 4 => ("KnockerFaces", "place", "I", false)
  | 5 => ("KnockerFaces", "undos", "I", false)
  | 6 => ("KnockerFaces", "undoAt", "I", false)
  | 7 => ("KnockerFaces", "town", "LKnockerFaces$Town;", true)
  | 8 => ("KnockerFaces", "trial", "LKnockerFaces$Town;", true)
  | 9 => ("KnockerFaces", "past", "[LKnockerFaces$Town;", true)
  | 10 => ("KnockerFaces", "slots", "[LKnockerFaces$Town;", true)
  | 11 => ("KnockerFaces", "laid", "[LKnockerFaces$Town;", true)
  | 12 => ("KnockerFaces", "drawn", "LKnockerFaces$Sky;", true)
  | 13 => ("KnockerFaces", "still", "LKnockerFaces$Sky;", true)
  | 14 => ("KnockerFaces", "held", "[Z", true)
  | 15 => ("KnockerFaces", "by", "[I", true)
  | 16 => ("KnockerFaces", "least", "[[I", true)
  | 17 => ("KnockerFaces", "tolds", "I", false)
  | 18 => ("KnockerFaces", "toldDoor", "[I", true)
  | 19 => ("KnockerFaces", "toldPart", "[I", true)
  | 20 => ("KnockerFaces", "toldWay", "[I", true)
  | _ => ("KnockerFaces", "ways", "[I", true)
def tyX0 : Nat → FieldType := fun k => match k with
  | 0 => .object "KnockerFaces$Fault"
  | 1 => .object "KnockerFaces$Tokens"
  | 2 => .object "KnockerFaces$Parser"
  | 3 => .object "KnockerFaces$Text"
  | 4 => .int
  | 5 => .int
  | 6 => .int
  | 7 => .object "KnockerFaces$Town"
  | 8 => .object "KnockerFaces$Town"
  | 9 => .array (.object "KnockerFaces$Town")
  | 10 => .array (.object "KnockerFaces$Town")
  | 11 => .array (.object "KnockerFaces$Town")
  | 12 => .object "KnockerFaces$Sky"
  | 13 => .object "KnockerFaces$Sky"
  | 14 => .array .boolean
  | 15 => .array .int
  | 16 => .array (.array .int)
  | 17 => .int
  | 18 => .array .int
  | 19 => .array .int
  | 20 => .array .int
  | _ => .array .int
abbrev wsX00 : List Cond := u_ws RX0 TX0 22
set_option maxRecDepth 100000 in
theorem nmX0 : ∀ a, a < 22 → ∀ b, b < 22 → a ≠ b → (TX0 a).2.1 ≠ (TX0 b).2.1 := by decide +kernel
set_option maxRecDepth 100000 in
theorem tyX0_ok : ∀ k, k < 22 → parseFieldDescriptor (TX0 k).2.2.1 = some (tyX0 k) := by decide +kernel
abbrev cX0_init : ByteArray := prog_1_method_5_code
def yX0_init : MethodName := ⟨RX0, "<init>", "()V"⟩
def dkwX0_init_12 : List UInt8 := [183, 0, 61, 83, 132, 1, 1, 167, 255, 234, 42, 180, 0, 62, 42, 180, 0, 51, 182, 0, 117, 177]
abbrev dktX0_init_12 : List UInt8 := dkwX0_init_12 ++ []
def dkwX0_init_11 : List UInt8 := [42, 6, 188, 10, 181, 0, 114, 3, 60, 27, 16, 40, 162, 0, 22, 42, 180, 0, 69, 27, 187, 0, 59, 89]
abbrev dktX0_init_11 : List UInt8 := dkwX0_init_11 ++ dktX0_init_12
def dkwX0_init_10 : List UInt8 := [42, 16, 20, 188, 10, 181, 0, 105, 42, 16, 20, 188, 10, 181, 0, 108, 42, 16, 20, 188, 10, 181, 0, 111]
abbrev dktX0_init_10 : List UInt8 := dkwX0_init_10 ++ dktX0_init_11
def dkwX0_init_9 : List UInt8 := [188, 4, 181, 0, 92, 42, 7, 188, 10, 181, 0, 96, 42, 16, 7, 16, 32, 197, 0, 100, 2, 181, 0, 102]
abbrev dktX0_init_9 : List UInt8 := dkwX0_init_9 ++ dktX0_init_10
def dkwX0_init_8 : List UInt8 := [187, 0, 79, 89, 183, 0, 81, 181, 0, 82, 42, 187, 0, 86, 89, 183, 0, 88, 181, 0, 89, 42, 6]
abbrev dktX0_init_8 : List UInt8 := dkwX0_init_8 ++ dktX0_init_9
def dkwX0_init_7 : List UInt8 := [89, 6, 187, 0, 59, 89, 183, 0, 61, 83, 89, 7, 187, 0, 59, 89, 183, 0, 61, 83, 181, 0, 76, 42]
abbrev dktX0_init_7 : List UInt8 := dkwX0_init_7 ++ dktX0_init_8
def dkwX0_init_6 : List UInt8 := [183, 0, 61, 83, 89, 4, 187, 0, 59, 89, 183, 0, 61, 83, 89, 5, 187, 0, 59, 89, 183, 0, 61, 83]
abbrev dktX0_init_6 : List UInt8 := dkwX0_init_6 ++ dktX0_init_7
def dkwX0_init_5 : List UInt8 := [89, 5, 187, 0, 59, 89, 183, 0, 61, 83, 181, 0, 73, 42, 8, 189, 0, 59, 89, 3, 187, 0, 59, 89]
abbrev dktX0_init_5 : List UInt8 := dkwX0_init_5 ++ dktX0_init_6
def dkwX0_init_4 : List UInt8 := [6, 189, 0, 59, 89, 3, 187, 0, 59, 89, 183, 0, 61, 83, 89, 4, 187, 0, 59, 89, 183, 0, 61, 83]
abbrev dktX0_init_4 : List UInt8 := dkwX0_init_4 ++ dktX0_init_5
def dkwX0_init_3 : List UInt8 := [181, 0, 62, 42, 187, 0, 59, 89, 183, 0, 61, 181, 0, 66, 42, 16, 40, 189, 0, 59, 181, 0, 69, 42]
abbrev dktX0_init_3 : List UInt8 := dkwX0_init_3 ++ dktX0_init_4
def dkwX0_init_2 : List UInt8 := [187, 0, 48, 89, 183, 0, 50, 181, 0, 51, 42, 2, 181, 0, 55, 42, 187, 0, 59, 89, 183, 0, 61]
abbrev dktX0_init_2 : List UInt8 := dkwX0_init_2 ++ dktX0_init_3
def dkwX0_init_1 : List UInt8 := [181, 0, 35, 42, 187, 0, 39, 89, 42, 180, 0, 35, 42, 180, 0, 28, 183, 0, 41, 181, 0, 44, 42]
abbrev dktX0_init_1 : List UInt8 := dkwX0_init_1 ++ dktX0_init_2
def dkwX0_init_0 : List UInt8 := [42, 183, 0, 19, 42, 187, 0, 25, 89, 183, 0, 27, 181, 0, 28, 42, 187, 0, 32, 89, 183, 0, 34]
abbrev dktX0_init_0 : List UInt8 := dkwX0_init_0 ++ dktX0_init_1
theorem dksX0_init_0 : cX0_init.data.toList.drop 0 = dktX0_init_0 := by decide +kernel
theorem dksX0_init_1 : cX0_init.data.toList.drop 23 = dktX0_init_1 := dk_seg dksX0_init_0 23 rfl rfl
theorem dksX0_init_2 : cX0_init.data.toList.drop 46 = dktX0_init_2 := dk_seg dksX0_init_1 23 rfl rfl
theorem dksX0_init_3 : cX0_init.data.toList.drop 69 = dktX0_init_3 := dk_seg dksX0_init_2 23 rfl rfl
theorem dksX0_init_4 : cX0_init.data.toList.drop 93 = dktX0_init_4 := dk_seg dksX0_init_3 24 rfl rfl
theorem dksX0_init_5 : cX0_init.data.toList.drop 117 = dktX0_init_5 := dk_seg dksX0_init_4 24 rfl rfl
theorem dksX0_init_6 : cX0_init.data.toList.drop 141 = dktX0_init_6 := dk_seg dksX0_init_5 24 rfl rfl
theorem dksX0_init_7 : cX0_init.data.toList.drop 165 = dktX0_init_7 := dk_seg dksX0_init_6 24 rfl rfl
theorem dksX0_init_8 : cX0_init.data.toList.drop 189 = dktX0_init_8 := dk_seg dksX0_init_7 24 rfl rfl
theorem dksX0_init_9 : cX0_init.data.toList.drop 212 = dktX0_init_9 := dk_seg dksX0_init_8 23 rfl rfl
theorem dksX0_init_10 : cX0_init.data.toList.drop 236 = dktX0_init_10 := dk_seg dksX0_init_9 24 rfl rfl
theorem dksX0_init_11 : cX0_init.data.toList.drop 260 = dktX0_init_11 := dk_seg dksX0_init_10 24 rfl rfl
theorem dksX0_init_12 : cX0_init.data.toList.drop 284 = dktX0_init_12 := dk_seg dksX0_init_11 24 rfl rfl
theorem dX0_init_0 : decode cX0_init 0 = .ok (.aload_n 0, 1) := dk_42 (dk_at dksX0_init_0 0 rfl rfl)
theorem dX0_init_1 : decode cX0_init 1 = .ok (.invokespecial 19, 3) := dk_183 0 19 (dk_at dksX0_init_0 1 rfl rfl)
theorem dX0_init_4 : decode cX0_init 4 = .ok (.aload_n 0, 1) := dk_42 (dk_at dksX0_init_0 4 rfl rfl)
theorem dX0_init_5 : decode cX0_init 5 = .ok (.new 25, 3) := dk_187 0 25 (dk_at dksX0_init_0 5 rfl rfl)
theorem dX0_init_8 : decode cX0_init 8 = .ok (.dup, 1) := dk_89 (dk_at dksX0_init_0 8 rfl rfl)
theorem dX0_init_9 : decode cX0_init 9 = .ok (.invokespecial 27, 3) := dk_183 0 27 (dk_at dksX0_init_0 9 rfl rfl)
theorem dX0_init_12 : decode cX0_init 12 = .ok (.putfield 28, 3) := dk_181 0 28 (dk_at dksX0_init_0 12 rfl rfl)
theorem dX0_init_15 : decode cX0_init 15 = .ok (.aload_n 0, 1) := dk_42 (dk_at dksX0_init_0 15 rfl rfl)
theorem dX0_init_16 : decode cX0_init 16 = .ok (.new 32, 3) := dk_187 0 32 (dk_at dksX0_init_0 16 rfl rfl)
theorem dX0_init_19 : decode cX0_init 19 = .ok (.dup, 1) := dk_89 (dk_at dksX0_init_0 19 rfl rfl)
theorem dX0_init_20 : decode cX0_init 20 = .ok (.invokespecial 34, 3) := dk_183 0 34 (dk_at dksX0_init_0 20 rfl rfl)
theorem dX0_init_23 : decode cX0_init 23 = .ok (.putfield 35, 3) := dk_181 0 35 (dk_at dksX0_init_1 0 rfl rfl)
theorem dX0_init_26 : decode cX0_init 26 = .ok (.aload_n 0, 1) := dk_42 (dk_at dksX0_init_1 3 rfl rfl)
theorem dX0_init_27 : decode cX0_init 27 = .ok (.new 39, 3) := dk_187 0 39 (dk_at dksX0_init_1 4 rfl rfl)
theorem dX0_init_30 : decode cX0_init 30 = .ok (.dup, 1) := dk_89 (dk_at dksX0_init_1 7 rfl rfl)
theorem dX0_init_31 : decode cX0_init 31 = .ok (.aload_n 0, 1) := dk_42 (dk_at dksX0_init_1 8 rfl rfl)
theorem dX0_init_32 : decode cX0_init 32 = .ok (.getfield 35, 3) := dk_180 0 35 (dk_at dksX0_init_1 9 rfl rfl)
theorem dX0_init_35 : decode cX0_init 35 = .ok (.aload_n 0, 1) := dk_42 (dk_at dksX0_init_1 12 rfl rfl)
theorem dX0_init_36 : decode cX0_init 36 = .ok (.getfield 28, 3) := dk_180 0 28 (dk_at dksX0_init_1 13 rfl rfl)
theorem dX0_init_39 : decode cX0_init 39 = .ok (.invokespecial 41, 3) := dk_183 0 41 (dk_at dksX0_init_1 16 rfl rfl)
theorem dX0_init_42 : decode cX0_init 42 = .ok (.putfield 44, 3) := dk_181 0 44 (dk_at dksX0_init_1 19 rfl rfl)
theorem dX0_init_45 : decode cX0_init 45 = .ok (.aload_n 0, 1) := dk_42 (dk_at dksX0_init_1 22 rfl rfl)
theorem dX0_init_46 : decode cX0_init 46 = .ok (.new 48, 3) := dk_187 0 48 (dk_at dksX0_init_2 0 rfl rfl)
theorem dX0_init_49 : decode cX0_init 49 = .ok (.dup, 1) := dk_89 (dk_at dksX0_init_2 3 rfl rfl)
theorem dX0_init_50 : decode cX0_init 50 = .ok (.invokespecial 50, 3) := dk_183 0 50 (dk_at dksX0_init_2 4 rfl rfl)
theorem dX0_init_53 : decode cX0_init 53 = .ok (.putfield 51, 3) := dk_181 0 51 (dk_at dksX0_init_2 7 rfl rfl)
theorem dX0_init_56 : decode cX0_init 56 = .ok (.aload_n 0, 1) := dk_42 (dk_at dksX0_init_2 10 rfl rfl)
theorem dX0_init_57 : decode cX0_init 57 = .ok (.iconst (-1), 1) := dk_2 (dk_at dksX0_init_2 11 rfl rfl)
theorem dX0_init_58 : decode cX0_init 58 = .ok (.putfield 55, 3) := dk_181 0 55 (dk_at dksX0_init_2 12 rfl rfl)
theorem dX0_init_61 : decode cX0_init 61 = .ok (.aload_n 0, 1) := dk_42 (dk_at dksX0_init_2 15 rfl rfl)
theorem dX0_init_62 : decode cX0_init 62 = .ok (.new 59, 3) := dk_187 0 59 (dk_at dksX0_init_2 16 rfl rfl)
theorem dX0_init_65 : decode cX0_init 65 = .ok (.dup, 1) := dk_89 (dk_at dksX0_init_2 19 rfl rfl)
theorem dX0_init_66 : decode cX0_init 66 = .ok (.invokespecial 61, 3) := dk_183 0 61 (dk_at dksX0_init_2 20 rfl rfl)
theorem dX0_init_69 : decode cX0_init 69 = .ok (.putfield 62, 3) := dk_181 0 62 (dk_at dksX0_init_3 0 rfl rfl)
theorem dX0_init_72 : decode cX0_init 72 = .ok (.aload_n 0, 1) := dk_42 (dk_at dksX0_init_3 3 rfl rfl)
theorem dX0_init_73 : decode cX0_init 73 = .ok (.new 59, 3) := dk_187 0 59 (dk_at dksX0_init_3 4 rfl rfl)
theorem dX0_init_76 : decode cX0_init 76 = .ok (.dup, 1) := dk_89 (dk_at dksX0_init_3 7 rfl rfl)
theorem dX0_init_77 : decode cX0_init 77 = .ok (.invokespecial 61, 3) := dk_183 0 61 (dk_at dksX0_init_3 8 rfl rfl)
theorem dX0_init_80 : decode cX0_init 80 = .ok (.putfield 66, 3) := dk_181 0 66 (dk_at dksX0_init_3 11 rfl rfl)
theorem dX0_init_83 : decode cX0_init 83 = .ok (.aload_n 0, 1) := dk_42 (dk_at dksX0_init_3 14 rfl rfl)
theorem dX0_init_84 : decode cX0_init 84 = .ok (.bipush 40, 2) := dk_16 40 (dk_at dksX0_init_3 15 rfl rfl)
theorem dX0_init_86 : decode cX0_init 86 = .ok (.anewarray 59, 3) := dk_189 0 59 (dk_at dksX0_init_3 17 rfl rfl)
theorem dX0_init_89 : decode cX0_init 89 = .ok (.putfield 69, 3) := dk_181 0 69 (dk_at dksX0_init_3 20 rfl rfl)
theorem dX0_init_92 : decode cX0_init 92 = .ok (.aload_n 0, 1) := dk_42 (dk_at dksX0_init_3 23 rfl rfl)
theorem dX0_init_93 : decode cX0_init 93 = .ok (.iconst 3, 1) := dk_6 (dk_at dksX0_init_4 0 rfl rfl)
theorem dX0_init_94 : decode cX0_init 94 = .ok (.anewarray 59, 3) := dk_189 0 59 (dk_at dksX0_init_4 1 rfl rfl)
theorem dX0_init_97 : decode cX0_init 97 = .ok (.dup, 1) := dk_89 (dk_at dksX0_init_4 4 rfl rfl)
theorem dX0_init_98 : decode cX0_init 98 = .ok (.iconst 0, 1) := dk_3 (dk_at dksX0_init_4 5 rfl rfl)
theorem dX0_init_99 : decode cX0_init 99 = .ok (.new 59, 3) := dk_187 0 59 (dk_at dksX0_init_4 6 rfl rfl)
theorem dX0_init_102 : decode cX0_init 102 = .ok (.dup, 1) := dk_89 (dk_at dksX0_init_4 9 rfl rfl)
theorem dX0_init_103 : decode cX0_init 103 = .ok (.invokespecial 61, 3) := dk_183 0 61 (dk_at dksX0_init_4 10 rfl rfl)
theorem dX0_init_106 : decode cX0_init 106 = .ok (.aastore, 1) := dk_83 (dk_at dksX0_init_4 13 rfl rfl)
theorem dX0_init_107 : decode cX0_init 107 = .ok (.dup, 1) := dk_89 (dk_at dksX0_init_4 14 rfl rfl)
theorem dX0_init_108 : decode cX0_init 108 = .ok (.iconst 1, 1) := dk_4 (dk_at dksX0_init_4 15 rfl rfl)
theorem dX0_init_109 : decode cX0_init 109 = .ok (.new 59, 3) := dk_187 0 59 (dk_at dksX0_init_4 16 rfl rfl)
theorem dX0_init_112 : decode cX0_init 112 = .ok (.dup, 1) := dk_89 (dk_at dksX0_init_4 19 rfl rfl)
theorem dX0_init_113 : decode cX0_init 113 = .ok (.invokespecial 61, 3) := dk_183 0 61 (dk_at dksX0_init_4 20 rfl rfl)
theorem dX0_init_116 : decode cX0_init 116 = .ok (.aastore, 1) := dk_83 (dk_at dksX0_init_4 23 rfl rfl)
theorem dX0_init_117 : decode cX0_init 117 = .ok (.dup, 1) := dk_89 (dk_at dksX0_init_5 0 rfl rfl)
theorem dX0_init_118 : decode cX0_init 118 = .ok (.iconst 2, 1) := dk_5 (dk_at dksX0_init_5 1 rfl rfl)
theorem dX0_init_119 : decode cX0_init 119 = .ok (.new 59, 3) := dk_187 0 59 (dk_at dksX0_init_5 2 rfl rfl)
theorem dX0_init_122 : decode cX0_init 122 = .ok (.dup, 1) := dk_89 (dk_at dksX0_init_5 5 rfl rfl)
theorem dX0_init_123 : decode cX0_init 123 = .ok (.invokespecial 61, 3) := dk_183 0 61 (dk_at dksX0_init_5 6 rfl rfl)
theorem dX0_init_126 : decode cX0_init 126 = .ok (.aastore, 1) := dk_83 (dk_at dksX0_init_5 9 rfl rfl)
theorem dX0_init_127 : decode cX0_init 127 = .ok (.putfield 73, 3) := dk_181 0 73 (dk_at dksX0_init_5 10 rfl rfl)
theorem dX0_init_130 : decode cX0_init 130 = .ok (.aload_n 0, 1) := dk_42 (dk_at dksX0_init_5 13 rfl rfl)
theorem dX0_init_131 : decode cX0_init 131 = .ok (.iconst 5, 1) := dk_8 (dk_at dksX0_init_5 14 rfl rfl)
theorem dX0_init_132 : decode cX0_init 132 = .ok (.anewarray 59, 3) := dk_189 0 59 (dk_at dksX0_init_5 15 rfl rfl)
theorem dX0_init_135 : decode cX0_init 135 = .ok (.dup, 1) := dk_89 (dk_at dksX0_init_5 18 rfl rfl)
theorem dX0_init_136 : decode cX0_init 136 = .ok (.iconst 0, 1) := dk_3 (dk_at dksX0_init_5 19 rfl rfl)
theorem dX0_init_137 : decode cX0_init 137 = .ok (.new 59, 3) := dk_187 0 59 (dk_at dksX0_init_5 20 rfl rfl)
theorem dX0_init_140 : decode cX0_init 140 = .ok (.dup, 1) := dk_89 (dk_at dksX0_init_5 23 rfl rfl)
theorem dX0_init_141 : decode cX0_init 141 = .ok (.invokespecial 61, 3) := dk_183 0 61 (dk_at dksX0_init_6 0 rfl rfl)
theorem dX0_init_144 : decode cX0_init 144 = .ok (.aastore, 1) := dk_83 (dk_at dksX0_init_6 3 rfl rfl)
theorem dX0_init_145 : decode cX0_init 145 = .ok (.dup, 1) := dk_89 (dk_at dksX0_init_6 4 rfl rfl)
theorem dX0_init_146 : decode cX0_init 146 = .ok (.iconst 1, 1) := dk_4 (dk_at dksX0_init_6 5 rfl rfl)
theorem dX0_init_147 : decode cX0_init 147 = .ok (.new 59, 3) := dk_187 0 59 (dk_at dksX0_init_6 6 rfl rfl)
theorem dX0_init_150 : decode cX0_init 150 = .ok (.dup, 1) := dk_89 (dk_at dksX0_init_6 9 rfl rfl)
theorem dX0_init_151 : decode cX0_init 151 = .ok (.invokespecial 61, 3) := dk_183 0 61 (dk_at dksX0_init_6 10 rfl rfl)
theorem dX0_init_154 : decode cX0_init 154 = .ok (.aastore, 1) := dk_83 (dk_at dksX0_init_6 13 rfl rfl)
theorem dX0_init_155 : decode cX0_init 155 = .ok (.dup, 1) := dk_89 (dk_at dksX0_init_6 14 rfl rfl)
theorem dX0_init_156 : decode cX0_init 156 = .ok (.iconst 2, 1) := dk_5 (dk_at dksX0_init_6 15 rfl rfl)
theorem dX0_init_157 : decode cX0_init 157 = .ok (.new 59, 3) := dk_187 0 59 (dk_at dksX0_init_6 16 rfl rfl)
theorem dX0_init_160 : decode cX0_init 160 = .ok (.dup, 1) := dk_89 (dk_at dksX0_init_6 19 rfl rfl)
theorem dX0_init_161 : decode cX0_init 161 = .ok (.invokespecial 61, 3) := dk_183 0 61 (dk_at dksX0_init_6 20 rfl rfl)
theorem dX0_init_164 : decode cX0_init 164 = .ok (.aastore, 1) := dk_83 (dk_at dksX0_init_6 23 rfl rfl)
theorem dX0_init_165 : decode cX0_init 165 = .ok (.dup, 1) := dk_89 (dk_at dksX0_init_7 0 rfl rfl)
theorem dX0_init_166 : decode cX0_init 166 = .ok (.iconst 3, 1) := dk_6 (dk_at dksX0_init_7 1 rfl rfl)
theorem dX0_init_167 : decode cX0_init 167 = .ok (.new 59, 3) := dk_187 0 59 (dk_at dksX0_init_7 2 rfl rfl)
theorem dX0_init_170 : decode cX0_init 170 = .ok (.dup, 1) := dk_89 (dk_at dksX0_init_7 5 rfl rfl)
theorem dX0_init_171 : decode cX0_init 171 = .ok (.invokespecial 61, 3) := dk_183 0 61 (dk_at dksX0_init_7 6 rfl rfl)
theorem dX0_init_174 : decode cX0_init 174 = .ok (.aastore, 1) := dk_83 (dk_at dksX0_init_7 9 rfl rfl)
theorem dX0_init_175 : decode cX0_init 175 = .ok (.dup, 1) := dk_89 (dk_at dksX0_init_7 10 rfl rfl)
theorem dX0_init_176 : decode cX0_init 176 = .ok (.iconst 4, 1) := dk_7 (dk_at dksX0_init_7 11 rfl rfl)
theorem dX0_init_177 : decode cX0_init 177 = .ok (.new 59, 3) := dk_187 0 59 (dk_at dksX0_init_7 12 rfl rfl)
theorem dX0_init_180 : decode cX0_init 180 = .ok (.dup, 1) := dk_89 (dk_at dksX0_init_7 15 rfl rfl)
theorem dX0_init_181 : decode cX0_init 181 = .ok (.invokespecial 61, 3) := dk_183 0 61 (dk_at dksX0_init_7 16 rfl rfl)
theorem dX0_init_184 : decode cX0_init 184 = .ok (.aastore, 1) := dk_83 (dk_at dksX0_init_7 19 rfl rfl)
theorem dX0_init_185 : decode cX0_init 185 = .ok (.putfield 76, 3) := dk_181 0 76 (dk_at dksX0_init_7 20 rfl rfl)
theorem dX0_init_188 : decode cX0_init 188 = .ok (.aload_n 0, 1) := dk_42 (dk_at dksX0_init_7 23 rfl rfl)
theorem dX0_init_189 : decode cX0_init 189 = .ok (.new 79, 3) := dk_187 0 79 (dk_at dksX0_init_8 0 rfl rfl)
theorem dX0_init_192 : decode cX0_init 192 = .ok (.dup, 1) := dk_89 (dk_at dksX0_init_8 3 rfl rfl)
theorem dX0_init_193 : decode cX0_init 193 = .ok (.invokespecial 81, 3) := dk_183 0 81 (dk_at dksX0_init_8 4 rfl rfl)
theorem dX0_init_196 : decode cX0_init 196 = .ok (.putfield 82, 3) := dk_181 0 82 (dk_at dksX0_init_8 7 rfl rfl)
theorem dX0_init_199 : decode cX0_init 199 = .ok (.aload_n 0, 1) := dk_42 (dk_at dksX0_init_8 10 rfl rfl)
theorem dX0_init_200 : decode cX0_init 200 = .ok (.new 86, 3) := dk_187 0 86 (dk_at dksX0_init_8 11 rfl rfl)
theorem dX0_init_203 : decode cX0_init 203 = .ok (.dup, 1) := dk_89 (dk_at dksX0_init_8 14 rfl rfl)
theorem dX0_init_204 : decode cX0_init 204 = .ok (.invokespecial 88, 3) := dk_183 0 88 (dk_at dksX0_init_8 15 rfl rfl)
theorem dX0_init_207 : decode cX0_init 207 = .ok (.putfield 89, 3) := dk_181 0 89 (dk_at dksX0_init_8 18 rfl rfl)
theorem dX0_init_210 : decode cX0_init 210 = .ok (.aload_n 0, 1) := dk_42 (dk_at dksX0_init_8 21 rfl rfl)
theorem dX0_init_211 : decode cX0_init 211 = .ok (.iconst 3, 1) := dk_6 (dk_at dksX0_init_8 22 rfl rfl)
theorem dX0_init_212 : decode cX0_init 212 = .ok (.newarray .boolean, 2) := dk_188_4 (dk_at dksX0_init_9 0 rfl rfl)
theorem dX0_init_214 : decode cX0_init 214 = .ok (.putfield 92, 3) := dk_181 0 92 (dk_at dksX0_init_9 2 rfl rfl)
theorem dX0_init_217 : decode cX0_init 217 = .ok (.aload_n 0, 1) := dk_42 (dk_at dksX0_init_9 5 rfl rfl)
theorem dX0_init_218 : decode cX0_init 218 = .ok (.iconst 4, 1) := dk_7 (dk_at dksX0_init_9 6 rfl rfl)
theorem dX0_init_219 : decode cX0_init 219 = .ok (.newarray .int, 2) := dk_188_10 (dk_at dksX0_init_9 7 rfl rfl)
theorem dX0_init_221 : decode cX0_init 221 = .ok (.putfield 96, 3) := dk_181 0 96 (dk_at dksX0_init_9 9 rfl rfl)
theorem dX0_init_224 : decode cX0_init 224 = .ok (.aload_n 0, 1) := dk_42 (dk_at dksX0_init_9 12 rfl rfl)
theorem dX0_init_225 : decode cX0_init 225 = .ok (.bipush 7, 2) := dk_16 7 (dk_at dksX0_init_9 13 rfl rfl)
theorem dX0_init_227 : decode cX0_init 227 = .ok (.bipush 32, 2) := dk_16 32 (dk_at dksX0_init_9 15 rfl rfl)
theorem dX0_init_229 : decode cX0_init 229 = .ok (.multianewarray 100 2, 4) := by decide +kernel
theorem dX0_init_233 : decode cX0_init 233 = .ok (.putfield 102, 3) := dk_181 0 102 (dk_at dksX0_init_9 21 rfl rfl)
theorem dX0_init_236 : decode cX0_init 236 = .ok (.aload_n 0, 1) := dk_42 (dk_at dksX0_init_10 0 rfl rfl)
theorem dX0_init_237 : decode cX0_init 237 = .ok (.bipush 20, 2) := dk_16 20 (dk_at dksX0_init_10 1 rfl rfl)
theorem dX0_init_239 : decode cX0_init 239 = .ok (.newarray .int, 2) := dk_188_10 (dk_at dksX0_init_10 3 rfl rfl)
theorem dX0_init_241 : decode cX0_init 241 = .ok (.putfield 105, 3) := dk_181 0 105 (dk_at dksX0_init_10 5 rfl rfl)
theorem dX0_init_244 : decode cX0_init 244 = .ok (.aload_n 0, 1) := dk_42 (dk_at dksX0_init_10 8 rfl rfl)
theorem dX0_init_245 : decode cX0_init 245 = .ok (.bipush 20, 2) := dk_16 20 (dk_at dksX0_init_10 9 rfl rfl)
theorem dX0_init_247 : decode cX0_init 247 = .ok (.newarray .int, 2) := dk_188_10 (dk_at dksX0_init_10 11 rfl rfl)
theorem dX0_init_249 : decode cX0_init 249 = .ok (.putfield 108, 3) := dk_181 0 108 (dk_at dksX0_init_10 13 rfl rfl)
theorem dX0_init_252 : decode cX0_init 252 = .ok (.aload_n 0, 1) := dk_42 (dk_at dksX0_init_10 16 rfl rfl)
theorem dX0_init_253 : decode cX0_init 253 = .ok (.bipush 20, 2) := dk_16 20 (dk_at dksX0_init_10 17 rfl rfl)
theorem dX0_init_255 : decode cX0_init 255 = .ok (.newarray .int, 2) := dk_188_10 (dk_at dksX0_init_10 19 rfl rfl)
theorem dX0_init_257 : decode cX0_init 257 = .ok (.putfield 111, 3) := dk_181 0 111 (dk_at dksX0_init_10 21 rfl rfl)
theorem dX0_init_260 : decode cX0_init 260 = .ok (.aload_n 0, 1) := dk_42 (dk_at dksX0_init_11 0 rfl rfl)
theorem dX0_init_261 : decode cX0_init 261 = .ok (.iconst 3, 1) := dk_6 (dk_at dksX0_init_11 1 rfl rfl)
theorem dX0_init_262 : decode cX0_init 262 = .ok (.newarray .int, 2) := dk_188_10 (dk_at dksX0_init_11 2 rfl rfl)
theorem dX0_init_264 : decode cX0_init 264 = .ok (.putfield 114, 3) := dk_181 0 114 (dk_at dksX0_init_11 4 rfl rfl)
theorem dX0_init_267 : decode cX0_init 267 = .ok (.iconst 0, 1) := dk_3 (dk_at dksX0_init_11 7 rfl rfl)
theorem dX0_init_268 : decode cX0_init 268 = .ok (.istore_n 1, 1) := dk_60 (dk_at dksX0_init_11 8 rfl rfl)
theorem dX0_init_269 : decode cX0_init 269 = .ok (.iload_n 1, 1) := dk_27 (dk_at dksX0_init_11 9 rfl rfl)
theorem dX0_init_270 : decode cX0_init 270 = .ok (.bipush 40, 2) := dk_16 40 (dk_at dksX0_init_11 10 rfl rfl)
theorem dX0_init_272 : decode cX0_init 272 = .ok (.if_icmp .ge 22, 3) := dk_162 0 22 (dk_at dksX0_init_11 12 rfl rfl)
theorem dX0_init_275 : decode cX0_init 275 = .ok (.aload_n 0, 1) := dk_42 (dk_at dksX0_init_11 15 rfl rfl)
theorem dX0_init_276 : decode cX0_init 276 = .ok (.getfield 69, 3) := dk_180 0 69 (dk_at dksX0_init_11 16 rfl rfl)
theorem dX0_init_279 : decode cX0_init 279 = .ok (.iload_n 1, 1) := dk_27 (dk_at dksX0_init_11 19 rfl rfl)
theorem dX0_init_280 : decode cX0_init 280 = .ok (.new 59, 3) := dk_187 0 59 (dk_at dksX0_init_11 20 rfl rfl)
theorem dX0_init_283 : decode cX0_init 283 = .ok (.dup, 1) := dk_89 (dk_at dksX0_init_11 23 rfl rfl)
theorem dX0_init_284 : decode cX0_init 284 = .ok (.invokespecial 61, 3) := dk_183 0 61 (dk_at dksX0_init_12 0 rfl rfl)
theorem dX0_init_287 : decode cX0_init 287 = .ok (.aastore, 1) := dk_83 (dk_at dksX0_init_12 3 rfl rfl)
theorem dX0_init_288 : decode cX0_init 288 = .ok (.iinc 1 1, 3) := dk_132 1 1 (dk_at dksX0_init_12 4 rfl rfl)
theorem dX0_init_291 : decode cX0_init 291 = .ok (.goto (-22), 3) := dk_167 255 234 (dk_at dksX0_init_12 7 rfl rfl)
theorem dX0_init_294 : decode cX0_init 294 = .ok (.aload_n 0, 1) := dk_42 (dk_at dksX0_init_12 10 rfl rfl)
theorem dX0_init_295 : decode cX0_init 295 = .ok (.getfield 62, 3) := dk_180 0 62 (dk_at dksX0_init_12 11 rfl rfl)
theorem dX0_init_298 : decode cX0_init 298 = .ok (.aload_n 0, 1) := dk_42 (dk_at dksX0_init_12 14 rfl rfl)
theorem dX0_init_299 : decode cX0_init 299 = .ok (.getfield 51, 3) := dk_180 0 51 (dk_at dksX0_init_12 15 rfl rfl)
theorem dX0_init_302 : decode cX0_init 302 = .ok (.invokevirtual 117, 3) := dk_182 0 117 (dk_at dksX0_init_12 18 rfl rfl)
theorem dX0_init_305 : decode cX0_init 305 = .ok (.return_, 1) := dk_177 (dk_at dksX0_init_12 21 rfl rfl)
abbrev cX0_feed : ByteArray := prog_1_method_6_code
def yX0_feed : MethodName := ⟨RX0, "feed", "(IIIII)I"⟩
def dkwX0_feed_2 : List UInt8 := [180, 0, 35, 180, 0, 121, 172]
abbrev dktX0_feed_2 : List UInt8 := dkwX0_feed_2 ++ []
def dkwX0_feed_1 : List UInt8 := [28, 182, 0, 124, 42, 29, 182, 0, 124, 42, 21, 4, 182, 0, 124, 42, 21, 5, 182, 0, 124, 42]
abbrev dktX0_feed_1 : List UInt8 := dkwX0_feed_1 ++ dktX0_feed_2
def dkwX0_feed_0 : List UInt8 := [42, 180, 0, 35, 180, 0, 121, 16, 20, 96, 17, 7, 208, 164, 0, 5, 2, 172, 42, 27, 182, 0, 124, 42]
abbrev dktX0_feed_0 : List UInt8 := dkwX0_feed_0 ++ dktX0_feed_1
theorem dksX0_feed_0 : cX0_feed.data.toList.drop 0 = dktX0_feed_0 := by decide +kernel
theorem dksX0_feed_1 : cX0_feed.data.toList.drop 24 = dktX0_feed_1 := dk_seg dksX0_feed_0 24 rfl rfl
theorem dksX0_feed_2 : cX0_feed.data.toList.drop 46 = dktX0_feed_2 := dk_seg dksX0_feed_1 22 rfl rfl
theorem dX0_feed_0 : decode cX0_feed 0 = .ok (.aload_n 0, 1) := dk_42 (dk_at dksX0_feed_0 0 rfl rfl)
theorem dX0_feed_1 : decode cX0_feed 1 = .ok (.getfield 35, 3) := dk_180 0 35 (dk_at dksX0_feed_0 1 rfl rfl)
theorem dX0_feed_4 : decode cX0_feed 4 = .ok (.getfield 121, 3) := dk_180 0 121 (dk_at dksX0_feed_0 4 rfl rfl)
theorem dX0_feed_7 : decode cX0_feed 7 = .ok (.bipush 20, 2) := dk_16 20 (dk_at dksX0_feed_0 7 rfl rfl)
theorem dX0_feed_9 : decode cX0_feed 9 = .ok (.iadd, 1) := dk_96 (dk_at dksX0_feed_0 9 rfl rfl)
theorem dX0_feed_10 : decode cX0_feed 10 = .ok (.sipush 2000, 3) := dk_17 7 208 (dk_at dksX0_feed_0 10 rfl rfl)
theorem dX0_feed_13 : decode cX0_feed 13 = .ok (.if_icmp .le 5, 3) := dk_164 0 5 (dk_at dksX0_feed_0 13 rfl rfl)
theorem dX0_feed_16 : decode cX0_feed 16 = .ok (.iconst (-1), 1) := dk_2 (dk_at dksX0_feed_0 16 rfl rfl)
theorem dX0_feed_17 : decode cX0_feed 17 = .ok (.ireturn, 1) := dk_172 (dk_at dksX0_feed_0 17 rfl rfl)
theorem dX0_feed_18 : decode cX0_feed 18 = .ok (.aload_n 0, 1) := dk_42 (dk_at dksX0_feed_0 18 rfl rfl)
theorem dX0_feed_19 : decode cX0_feed 19 = .ok (.iload_n 1, 1) := dk_27 (dk_at dksX0_feed_0 19 rfl rfl)
theorem dX0_feed_20 : decode cX0_feed 20 = .ok (.invokevirtual 124, 3) := dk_182 0 124 (dk_at dksX0_feed_0 20 rfl rfl)
theorem dX0_feed_23 : decode cX0_feed 23 = .ok (.aload_n 0, 1) := dk_42 (dk_at dksX0_feed_0 23 rfl rfl)
theorem dX0_feed_24 : decode cX0_feed 24 = .ok (.iload_n 2, 1) := dk_28 (dk_at dksX0_feed_1 0 rfl rfl)
theorem dX0_feed_25 : decode cX0_feed 25 = .ok (.invokevirtual 124, 3) := dk_182 0 124 (dk_at dksX0_feed_1 1 rfl rfl)
theorem dX0_feed_28 : decode cX0_feed 28 = .ok (.aload_n 0, 1) := dk_42 (dk_at dksX0_feed_1 4 rfl rfl)
theorem dX0_feed_29 : decode cX0_feed 29 = .ok (.iload_n 3, 1) := dk_29 (dk_at dksX0_feed_1 5 rfl rfl)
theorem dX0_feed_30 : decode cX0_feed 30 = .ok (.invokevirtual 124, 3) := dk_182 0 124 (dk_at dksX0_feed_1 6 rfl rfl)
theorem dX0_feed_33 : decode cX0_feed 33 = .ok (.aload_n 0, 1) := dk_42 (dk_at dksX0_feed_1 9 rfl rfl)
theorem dX0_feed_34 : decode cX0_feed 34 = .ok (.iload 4, 2) := dk_21 4 (dk_at dksX0_feed_1 10 rfl rfl)
theorem dX0_feed_36 : decode cX0_feed 36 = .ok (.invokevirtual 124, 3) := dk_182 0 124 (dk_at dksX0_feed_1 12 rfl rfl)
theorem dX0_feed_39 : decode cX0_feed 39 = .ok (.aload_n 0, 1) := dk_42 (dk_at dksX0_feed_1 15 rfl rfl)
theorem dX0_feed_40 : decode cX0_feed 40 = .ok (.iload 5, 2) := dk_21 5 (dk_at dksX0_feed_1 16 rfl rfl)
theorem dX0_feed_42 : decode cX0_feed 42 = .ok (.invokevirtual 124, 3) := dk_182 0 124 (dk_at dksX0_feed_1 18 rfl rfl)
theorem dX0_feed_45 : decode cX0_feed 45 = .ok (.aload_n 0, 1) := dk_42 (dk_at dksX0_feed_1 21 rfl rfl)
theorem dX0_feed_46 : decode cX0_feed 46 = .ok (.getfield 35, 3) := dk_180 0 35 (dk_at dksX0_feed_2 0 rfl rfl)
theorem dX0_feed_49 : decode cX0_feed 49 = .ok (.getfield 121, 3) := dk_180 0 121 (dk_at dksX0_feed_2 3 rfl rfl)
theorem dX0_feed_52 : decode cX0_feed 52 = .ok (.ireturn, 1) := dk_172 (dk_at dksX0_feed_2 6 rfl rfl)
abbrev cX0_typed : ByteArray := prog_1_method_7_code
def yX0_typed : MethodName := ⟨RX0, "typed", "(I)V"⟩
def dkwX0_typed_1 : List UInt8 := [145, 84, 42, 180, 0, 35, 89, 180, 0, 121, 4, 96, 181, 0, 121, 132, 2, 248, 167, 255, 217, 177]
abbrev dktX0_typed_1 : List UInt8 := dkwX0_typed_1 ++ []
def dkwX0_typed_0 : List UInt8 := [16, 24, 61, 28, 155, 0, 41, 42, 180, 0, 35, 180, 0, 128, 42, 180, 0, 35, 180, 0, 121, 27, 28, 122]
abbrev dktX0_typed_0 : List UInt8 := dkwX0_typed_0 ++ dktX0_typed_1
theorem dksX0_typed_0 : cX0_typed.data.toList.drop 0 = dktX0_typed_0 := by decide +kernel
theorem dksX0_typed_1 : cX0_typed.data.toList.drop 24 = dktX0_typed_1 := dk_seg dksX0_typed_0 24 rfl rfl
theorem dX0_typed_0 : decode cX0_typed 0 = .ok (.bipush 24, 2) := dk_16 24 (dk_at dksX0_typed_0 0 rfl rfl)
theorem dX0_typed_2 : decode cX0_typed 2 = .ok (.istore_n 2, 1) := dk_61 (dk_at dksX0_typed_0 2 rfl rfl)
theorem dX0_typed_3 : decode cX0_typed 3 = .ok (.iload_n 2, 1) := dk_28 (dk_at dksX0_typed_0 3 rfl rfl)
theorem dX0_typed_4 : decode cX0_typed 4 = .ok (.ifCond .lt 41, 3) := dk_155 0 41 (dk_at dksX0_typed_0 4 rfl rfl)
theorem dX0_typed_7 : decode cX0_typed 7 = .ok (.aload_n 0, 1) := dk_42 (dk_at dksX0_typed_0 7 rfl rfl)
theorem dX0_typed_8 : decode cX0_typed 8 = .ok (.getfield 35, 3) := dk_180 0 35 (dk_at dksX0_typed_0 8 rfl rfl)
theorem dX0_typed_11 : decode cX0_typed 11 = .ok (.getfield 128, 3) := dk_180 0 128 (dk_at dksX0_typed_0 11 rfl rfl)
theorem dX0_typed_14 : decode cX0_typed 14 = .ok (.aload_n 0, 1) := dk_42 (dk_at dksX0_typed_0 14 rfl rfl)
theorem dX0_typed_15 : decode cX0_typed 15 = .ok (.getfield 35, 3) := dk_180 0 35 (dk_at dksX0_typed_0 15 rfl rfl)
theorem dX0_typed_18 : decode cX0_typed 18 = .ok (.getfield 121, 3) := dk_180 0 121 (dk_at dksX0_typed_0 18 rfl rfl)
theorem dX0_typed_21 : decode cX0_typed 21 = .ok (.iload_n 1, 1) := dk_27 (dk_at dksX0_typed_0 21 rfl rfl)
theorem dX0_typed_22 : decode cX0_typed 22 = .ok (.iload_n 2, 1) := dk_28 (dk_at dksX0_typed_0 22 rfl rfl)
theorem dX0_typed_23 : decode cX0_typed 23 = .ok (.ishr, 1) := dk_122 (dk_at dksX0_typed_0 23 rfl rfl)
theorem dX0_typed_24 : decode cX0_typed 24 = .ok (.i2b, 1) := dk_145 (dk_at dksX0_typed_1 0 rfl rfl)
theorem dX0_typed_25 : decode cX0_typed 25 = .ok (.bastore, 1) := dk_84 (dk_at dksX0_typed_1 1 rfl rfl)
theorem dX0_typed_26 : decode cX0_typed 26 = .ok (.aload_n 0, 1) := dk_42 (dk_at dksX0_typed_1 2 rfl rfl)
theorem dX0_typed_27 : decode cX0_typed 27 = .ok (.getfield 35, 3) := dk_180 0 35 (dk_at dksX0_typed_1 3 rfl rfl)
theorem dX0_typed_30 : decode cX0_typed 30 = .ok (.dup, 1) := dk_89 (dk_at dksX0_typed_1 6 rfl rfl)
theorem dX0_typed_31 : decode cX0_typed 31 = .ok (.getfield 121, 3) := dk_180 0 121 (dk_at dksX0_typed_1 7 rfl rfl)
theorem dX0_typed_34 : decode cX0_typed 34 = .ok (.iconst 1, 1) := dk_4 (dk_at dksX0_typed_1 10 rfl rfl)
theorem dX0_typed_35 : decode cX0_typed 35 = .ok (.iadd, 1) := dk_96 (dk_at dksX0_typed_1 11 rfl rfl)
theorem dX0_typed_36 : decode cX0_typed 36 = .ok (.putfield 121, 3) := dk_181 0 121 (dk_at dksX0_typed_1 12 rfl rfl)
theorem dX0_typed_39 : decode cX0_typed 39 = .ok (.iinc 2 (-8), 3) := dk_132 2 248 (dk_at dksX0_typed_1 15 rfl rfl)
theorem dX0_typed_42 : decode cX0_typed 42 = .ok (.goto (-39), 3) := dk_167 255 217 (dk_at dksX0_typed_1 18 rfl rfl)
theorem dX0_typed_45 : decode cX0_typed 45 = .ok (.return_, 1) := dk_177 (dk_at dksX0_typed_1 21 rfl rfl)
abbrev cX0_back : ByteArray := prog_1_method_8_code
def yX0_back : MethodName := ⟨RX0, "back", "(I)I"⟩
def dkwX0_back_1 : List UInt8 := [180, 0, 121, 27, 100, 181, 0, 121, 42, 180, 0, 35, 180, 0, 121, 172]
abbrev dktX0_back_1 : List UInt8 := dkwX0_back_1 ++ []
def dkwX0_back_0 : List UInt8 := [27, 155, 0, 14, 27, 42, 180, 0, 35, 180, 0, 121, 164, 0, 5, 2, 172, 42, 180, 0, 35, 89]
abbrev dktX0_back_0 : List UInt8 := dkwX0_back_0 ++ dktX0_back_1
theorem dksX0_back_0 : cX0_back.data.toList.drop 0 = dktX0_back_0 := by decide +kernel
theorem dksX0_back_1 : cX0_back.data.toList.drop 22 = dktX0_back_1 := dk_seg dksX0_back_0 22 rfl rfl
theorem dX0_back_0 : decode cX0_back 0 = .ok (.iload_n 1, 1) := dk_27 (dk_at dksX0_back_0 0 rfl rfl)
theorem dX0_back_1 : decode cX0_back 1 = .ok (.ifCond .lt 14, 3) := dk_155 0 14 (dk_at dksX0_back_0 1 rfl rfl)
theorem dX0_back_4 : decode cX0_back 4 = .ok (.iload_n 1, 1) := dk_27 (dk_at dksX0_back_0 4 rfl rfl)
theorem dX0_back_5 : decode cX0_back 5 = .ok (.aload_n 0, 1) := dk_42 (dk_at dksX0_back_0 5 rfl rfl)
theorem dX0_back_6 : decode cX0_back 6 = .ok (.getfield 35, 3) := dk_180 0 35 (dk_at dksX0_back_0 6 rfl rfl)
theorem dX0_back_9 : decode cX0_back 9 = .ok (.getfield 121, 3) := dk_180 0 121 (dk_at dksX0_back_0 9 rfl rfl)
theorem dX0_back_12 : decode cX0_back 12 = .ok (.if_icmp .le 5, 3) := dk_164 0 5 (dk_at dksX0_back_0 12 rfl rfl)
theorem dX0_back_15 : decode cX0_back 15 = .ok (.iconst (-1), 1) := dk_2 (dk_at dksX0_back_0 15 rfl rfl)
theorem dX0_back_16 : decode cX0_back 16 = .ok (.ireturn, 1) := dk_172 (dk_at dksX0_back_0 16 rfl rfl)
theorem dX0_back_17 : decode cX0_back 17 = .ok (.aload_n 0, 1) := dk_42 (dk_at dksX0_back_0 17 rfl rfl)
theorem dX0_back_18 : decode cX0_back 18 = .ok (.getfield 35, 3) := dk_180 0 35 (dk_at dksX0_back_0 18 rfl rfl)
theorem dX0_back_21 : decode cX0_back 21 = .ok (.dup, 1) := dk_89 (dk_at dksX0_back_0 21 rfl rfl)
theorem dX0_back_22 : decode cX0_back 22 = .ok (.getfield 121, 3) := dk_180 0 121 (dk_at dksX0_back_1 0 rfl rfl)
theorem dX0_back_25 : decode cX0_back 25 = .ok (.iload_n 1, 1) := dk_27 (dk_at dksX0_back_1 3 rfl rfl)
theorem dX0_back_26 : decode cX0_back 26 = .ok (.isub, 1) := dk_100 (dk_at dksX0_back_1 4 rfl rfl)
theorem dX0_back_27 : decode cX0_back 27 = .ok (.putfield 121, 3) := dk_181 0 121 (dk_at dksX0_back_1 5 rfl rfl)
theorem dX0_back_30 : decode cX0_back 30 = .ok (.aload_n 0, 1) := dk_42 (dk_at dksX0_back_1 8 rfl rfl)
theorem dX0_back_31 : decode cX0_back 31 = .ok (.getfield 35, 3) := dk_180 0 35 (dk_at dksX0_back_1 9 rfl rfl)
theorem dX0_back_34 : decode cX0_back 34 = .ok (.getfield 121, 3) := dk_180 0 121 (dk_at dksX0_back_1 12 rfl rfl)
theorem dX0_back_37 : decode cX0_back 37 = .ok (.ireturn, 1) := dk_172 (dk_at dksX0_back_1 15 rfl rfl)
abbrev cX0_read : ByteArray := prog_1_method_9_code
def yX0_read : MethodName := ⟨RX0, "read", "()I"⟩
def dkwX0_read_3 : List UInt8 := [180, 0, 145, 181, 0, 55, 42, 180, 0, 35, 3, 181, 0, 121, 27, 172]
abbrev dktX0_read_3 : List UInt8 := dkwX0_read_3 ++ []
def dkwX0_read_2 : List UInt8 := [180, 0, 92, 28, 3, 84, 132, 2, 1, 167, 255, 241, 167, 0, 17, 77, 44, 180, 0, 142, 60, 42, 44]
abbrev dktX0_read_2 : List UInt8 := dkwX0_read_2 ++ dktX0_read_3
def dkwX0_read_1 : List UInt8 := [180, 0, 51, 182, 0, 117, 42, 3, 181, 0, 136, 42, 3, 181, 0, 139, 3, 61, 28, 6, 162, 0, 16, 42]
abbrev dktX0_read_1 : List UInt8 := dkwX0_read_1 ++ dktX0_read_2
def dkwX0_read_0 : List UInt8 := [3, 60, 42, 2, 181, 0, 55, 42, 42, 180, 0, 44, 182, 0, 132, 181, 0, 51, 42, 180, 0, 62, 42]
abbrev dktX0_read_0 : List UInt8 := dkwX0_read_0 ++ dktX0_read_1
theorem dksX0_read_0 : cX0_read.data.toList.drop 0 = dktX0_read_0 := by decide +kernel
theorem dksX0_read_1 : cX0_read.data.toList.drop 23 = dktX0_read_1 := dk_seg dksX0_read_0 23 rfl rfl
theorem dksX0_read_2 : cX0_read.data.toList.drop 47 = dktX0_read_2 := dk_seg dksX0_read_1 24 rfl rfl
theorem dksX0_read_3 : cX0_read.data.toList.drop 70 = dktX0_read_3 := dk_seg dksX0_read_2 23 rfl rfl
theorem dX0_read_0 : decode cX0_read 0 = .ok (.iconst 0, 1) := dk_3 (dk_at dksX0_read_0 0 rfl rfl)
theorem dX0_read_1 : decode cX0_read 1 = .ok (.istore_n 1, 1) := dk_60 (dk_at dksX0_read_0 1 rfl rfl)
theorem dX0_read_2 : decode cX0_read 2 = .ok (.aload_n 0, 1) := dk_42 (dk_at dksX0_read_0 2 rfl rfl)
theorem dX0_read_3 : decode cX0_read 3 = .ok (.iconst (-1), 1) := dk_2 (dk_at dksX0_read_0 3 rfl rfl)
theorem dX0_read_4 : decode cX0_read 4 = .ok (.putfield 55, 3) := dk_181 0 55 (dk_at dksX0_read_0 4 rfl rfl)
theorem dX0_read_7 : decode cX0_read 7 = .ok (.aload_n 0, 1) := dk_42 (dk_at dksX0_read_0 7 rfl rfl)
theorem dX0_read_8 : decode cX0_read 8 = .ok (.aload_n 0, 1) := dk_42 (dk_at dksX0_read_0 8 rfl rfl)
theorem dX0_read_9 : decode cX0_read 9 = .ok (.getfield 44, 3) := dk_180 0 44 (dk_at dksX0_read_0 9 rfl rfl)
theorem dX0_read_12 : decode cX0_read 12 = .ok (.invokevirtual 132, 3) := dk_182 0 132 (dk_at dksX0_read_0 12 rfl rfl)
theorem dX0_read_15 : decode cX0_read 15 = .ok (.putfield 51, 3) := dk_181 0 51 (dk_at dksX0_read_0 15 rfl rfl)
theorem dX0_read_18 : decode cX0_read 18 = .ok (.aload_n 0, 1) := dk_42 (dk_at dksX0_read_0 18 rfl rfl)
theorem dX0_read_19 : decode cX0_read 19 = .ok (.getfield 62, 3) := dk_180 0 62 (dk_at dksX0_read_0 19 rfl rfl)
theorem dX0_read_22 : decode cX0_read 22 = .ok (.aload_n 0, 1) := dk_42 (dk_at dksX0_read_0 22 rfl rfl)
theorem dX0_read_23 : decode cX0_read 23 = .ok (.getfield 51, 3) := dk_180 0 51 (dk_at dksX0_read_1 0 rfl rfl)
theorem dX0_read_26 : decode cX0_read 26 = .ok (.invokevirtual 117, 3) := dk_182 0 117 (dk_at dksX0_read_1 3 rfl rfl)
theorem dX0_read_29 : decode cX0_read 29 = .ok (.aload_n 0, 1) := dk_42 (dk_at dksX0_read_1 6 rfl rfl)
theorem dX0_read_30 : decode cX0_read 30 = .ok (.iconst 0, 1) := dk_3 (dk_at dksX0_read_1 7 rfl rfl)
theorem dX0_read_31 : decode cX0_read 31 = .ok (.putfield 136, 3) := dk_181 0 136 (dk_at dksX0_read_1 8 rfl rfl)
theorem dX0_read_34 : decode cX0_read 34 = .ok (.aload_n 0, 1) := dk_42 (dk_at dksX0_read_1 11 rfl rfl)
theorem dX0_read_35 : decode cX0_read 35 = .ok (.iconst 0, 1) := dk_3 (dk_at dksX0_read_1 12 rfl rfl)
theorem dX0_read_36 : decode cX0_read 36 = .ok (.putfield 139, 3) := dk_181 0 139 (dk_at dksX0_read_1 13 rfl rfl)
theorem dX0_read_39 : decode cX0_read 39 = .ok (.iconst 0, 1) := dk_3 (dk_at dksX0_read_1 16 rfl rfl)
theorem dX0_read_40 : decode cX0_read 40 = .ok (.istore_n 2, 1) := dk_61 (dk_at dksX0_read_1 17 rfl rfl)
theorem dX0_read_41 : decode cX0_read 41 = .ok (.iload_n 2, 1) := dk_28 (dk_at dksX0_read_1 18 rfl rfl)
theorem dX0_read_42 : decode cX0_read 42 = .ok (.iconst 3, 1) := dk_6 (dk_at dksX0_read_1 19 rfl rfl)
theorem dX0_read_43 : decode cX0_read 43 = .ok (.if_icmp .ge 16, 3) := dk_162 0 16 (dk_at dksX0_read_1 20 rfl rfl)
theorem dX0_read_46 : decode cX0_read 46 = .ok (.aload_n 0, 1) := dk_42 (dk_at dksX0_read_1 23 rfl rfl)
theorem dX0_read_47 : decode cX0_read 47 = .ok (.getfield 92, 3) := dk_180 0 92 (dk_at dksX0_read_2 0 rfl rfl)
theorem dX0_read_50 : decode cX0_read 50 = .ok (.iload_n 2, 1) := dk_28 (dk_at dksX0_read_2 3 rfl rfl)
theorem dX0_read_51 : decode cX0_read 51 = .ok (.iconst 0, 1) := dk_3 (dk_at dksX0_read_2 4 rfl rfl)
theorem dX0_read_52 : decode cX0_read 52 = .ok (.bastore, 1) := dk_84 (dk_at dksX0_read_2 5 rfl rfl)
theorem dX0_read_53 : decode cX0_read 53 = .ok (.iinc 2 1, 3) := dk_132 2 1 (dk_at dksX0_read_2 6 rfl rfl)
theorem dX0_read_56 : decode cX0_read 56 = .ok (.goto (-15), 3) := dk_167 255 241 (dk_at dksX0_read_2 9 rfl rfl)
theorem dX0_read_59 : decode cX0_read 59 = .ok (.goto 17, 3) := dk_167 0 17 (dk_at dksX0_read_2 12 rfl rfl)
theorem dX0_read_62 : decode cX0_read 62 = .ok (.astore_n 2, 1) := dk_77 (dk_at dksX0_read_2 15 rfl rfl)
theorem dX0_read_63 : decode cX0_read 63 = .ok (.aload_n 2, 1) := dk_44 (dk_at dksX0_read_2 16 rfl rfl)
theorem dX0_read_64 : decode cX0_read 64 = .ok (.getfield 142, 3) := dk_180 0 142 (dk_at dksX0_read_2 17 rfl rfl)
theorem dX0_read_67 : decode cX0_read 67 = .ok (.istore_n 1, 1) := dk_60 (dk_at dksX0_read_2 20 rfl rfl)
theorem dX0_read_68 : decode cX0_read 68 = .ok (.aload_n 0, 1) := dk_42 (dk_at dksX0_read_2 21 rfl rfl)
theorem dX0_read_69 : decode cX0_read 69 = .ok (.aload_n 2, 1) := dk_44 (dk_at dksX0_read_2 22 rfl rfl)
theorem dX0_read_70 : decode cX0_read 70 = .ok (.getfield 145, 3) := dk_180 0 145 (dk_at dksX0_read_3 0 rfl rfl)
theorem dX0_read_73 : decode cX0_read 73 = .ok (.putfield 55, 3) := dk_181 0 55 (dk_at dksX0_read_3 3 rfl rfl)
theorem dX0_read_76 : decode cX0_read 76 = .ok (.aload_n 0, 1) := dk_42 (dk_at dksX0_read_3 6 rfl rfl)
theorem dX0_read_77 : decode cX0_read 77 = .ok (.getfield 35, 3) := dk_180 0 35 (dk_at dksX0_read_3 7 rfl rfl)
theorem dX0_read_80 : decode cX0_read 80 = .ok (.iconst 0, 1) := dk_3 (dk_at dksX0_read_3 10 rfl rfl)
theorem dX0_read_81 : decode cX0_read 81 = .ok (.putfield 121, 3) := dk_181 0 121 (dk_at dksX0_read_3 11 rfl rfl)
theorem dX0_read_84 : decode cX0_read 84 = .ok (.iload_n 1, 1) := dk_27 (dk_at dksX0_read_3 14 rfl rfl)
theorem dX0_read_85 : decode cX0_read 85 = .ok (.ireturn, 1) := dk_172 (dk_at dksX0_read_3 15 rfl rfl)
abbrev cX0_place : ByteArray := prog_1_method_10_code
def yX0_place : MethodName := ⟨RX0, "place", "()I"⟩
theorem dX0_place_0 : decode cX0_place 0 = .ok (.aload_n 0, 1) := by decide +kernel
theorem dX0_place_1 : decode cX0_place 1 = .ok (.getfield 55, 3) := by decide +kernel
theorem dX0_place_4 : decode cX0_place 4 = .ok (.ireturn, 1) := by decide +kernel
abbrev cX0_door : ByteArray := prog_1_method_20_code
def yX0_door : MethodName := ⟨RX0, "door", "(II)I"⟩
def dkwX0_door_5 : List UInt8 := [27, 182, 0, 204, 172, 42, 42, 180, 0, 62, 27, 182, 0, 208, 172, 2, 172]
abbrev dktX0_door_5 : List UInt8 := dkwX0_door_5 ++ []
def dkwX0_door_4 : List UInt8 := [180, 0, 198, 27, 46, 172, 42, 180, 0, 62, 180, 0, 201, 27, 46, 172, 42, 180, 0, 62, 42, 180, 0, 51]
abbrev dktX0_door_4 : List UInt8 := dkwX0_door_4 ++ dktX0_door_5
def dkwX0_door_3 : List UInt8 := [42, 180, 0, 62, 180, 0, 192, 27, 46, 172, 42, 180, 0, 62, 180, 0, 195, 27, 46, 172, 42, 180, 0, 62]
abbrev dktX0_door_3 : List UInt8 := dkwX0_door_3 ++ dktX0_door_4
def dkwX0_door_2 : List UInt8 := [170, 0, 0, 0, 0, 101, 0, 0, 0, 4, 0, 0, 0, 9, 0, 0, 0, 38, 0, 0, 0, 48, 0, 0, 0, 58, 0, 0, 0, 68, 0, 0, 0, 78, 0, 0, 0, 91]
abbrev dktX0_door_2 : List UInt8 := dkwX0_door_2 ++ dktX0_door_3
def dkwX0_door_1 : List UInt8 := [27, 50, 28, 46, 172, 28]
abbrev dktX0_door_1 : List UInt8 := dkwX0_door_1 ++ dktX0_door_2
def dkwX0_door_0 : List UInt8 := [42, 27, 182, 0, 185, 154, 0, 5, 2, 172, 28, 184, 0, 189, 153, 0, 15, 42, 180, 0, 62, 180, 0, 170]
abbrev dktX0_door_0 : List UInt8 := dkwX0_door_0 ++ dktX0_door_1
theorem dksX0_door_0 : cX0_door.data.toList.drop 0 = dktX0_door_0 := by decide +kernel
theorem dksX0_door_1 : cX0_door.data.toList.drop 24 = dktX0_door_1 := dk_seg dksX0_door_0 24 rfl rfl
theorem dksX0_door_2 : cX0_door.data.toList.drop 30 = dktX0_door_2 := dk_seg dksX0_door_1 6 rfl rfl
theorem dksX0_door_3 : cX0_door.data.toList.drop 68 = dktX0_door_3 := dk_seg dksX0_door_2 38 rfl rfl
theorem dksX0_door_4 : cX0_door.data.toList.drop 92 = dktX0_door_4 := dk_seg dksX0_door_3 24 rfl rfl
theorem dksX0_door_5 : cX0_door.data.toList.drop 116 = dktX0_door_5 := dk_seg dksX0_door_4 24 rfl rfl
theorem dX0_door_0 : decode cX0_door 0 = .ok (.aload_n 0, 1) := dk_42 (dk_at dksX0_door_0 0 rfl rfl)
theorem dX0_door_1 : decode cX0_door 1 = .ok (.iload_n 1, 1) := dk_27 (dk_at dksX0_door_0 1 rfl rfl)
theorem dX0_door_2 : decode cX0_door 2 = .ok (.invokevirtual 185, 3) := dk_182 0 185 (dk_at dksX0_door_0 2 rfl rfl)
theorem dX0_door_5 : decode cX0_door 5 = .ok (.ifCond .ne 5, 3) := dk_154 0 5 (dk_at dksX0_door_0 5 rfl rfl)
theorem dX0_door_8 : decode cX0_door 8 = .ok (.iconst (-1), 1) := dk_2 (dk_at dksX0_door_0 8 rfl rfl)
theorem dX0_door_9 : decode cX0_door 9 = .ok (.ireturn, 1) := dk_172 (dk_at dksX0_door_0 9 rfl rfl)
theorem dX0_door_10 : decode cX0_door 10 = .ok (.iload_n 2, 1) := dk_28 (dk_at dksX0_door_0 10 rfl rfl)
theorem dX0_door_11 : decode cX0_door 11 = .ok (.invokestatic 189, 3) := dk_184 0 189 (dk_at dksX0_door_0 11 rfl rfl)
theorem dX0_door_14 : decode cX0_door 14 = .ok (.ifCond .eq 15, 3) := dk_153 0 15 (dk_at dksX0_door_0 14 rfl rfl)
theorem dX0_door_17 : decode cX0_door 17 = .ok (.aload_n 0, 1) := dk_42 (dk_at dksX0_door_0 17 rfl rfl)
theorem dX0_door_18 : decode cX0_door 18 = .ok (.getfield 62, 3) := dk_180 0 62 (dk_at dksX0_door_0 18 rfl rfl)
theorem dX0_door_21 : decode cX0_door 21 = .ok (.getfield 170, 3) := dk_180 0 170 (dk_at dksX0_door_0 21 rfl rfl)
theorem dX0_door_24 : decode cX0_door 24 = .ok (.iload_n 1, 1) := dk_27 (dk_at dksX0_door_1 0 rfl rfl)
theorem dX0_door_25 : decode cX0_door 25 = .ok (.aaload, 1) := dk_50 (dk_at dksX0_door_1 1 rfl rfl)
theorem dX0_door_26 : decode cX0_door 26 = .ok (.iload_n 2, 1) := dk_28 (dk_at dksX0_door_1 2 rfl rfl)
theorem dX0_door_27 : decode cX0_door 27 = .ok (.iaload, 1) := dk_46 (dk_at dksX0_door_1 3 rfl rfl)
theorem dX0_door_28 : decode cX0_door 28 = .ok (.ireturn, 1) := dk_172 (dk_at dksX0_door_1 4 rfl rfl)
theorem dX0_door_29 : decode cX0_door 29 = .ok (.iload_n 2, 1) := dk_28 (dk_at dksX0_door_1 5 rfl rfl)
theorem dX0_door_30 : decode cX0_door 30 = .ok (.tableswitch 101 4 9 #[38, 48, 58, 68, 78, 91], 38) := by decide +kernel
theorem dX0_door_68 : decode cX0_door 68 = .ok (.aload_n 0, 1) := dk_42 (dk_at dksX0_door_3 0 rfl rfl)
theorem dX0_door_69 : decode cX0_door 69 = .ok (.getfield 62, 3) := dk_180 0 62 (dk_at dksX0_door_3 1 rfl rfl)
theorem dX0_door_72 : decode cX0_door 72 = .ok (.getfield 192, 3) := dk_180 0 192 (dk_at dksX0_door_3 4 rfl rfl)
theorem dX0_door_75 : decode cX0_door 75 = .ok (.iload_n 1, 1) := dk_27 (dk_at dksX0_door_3 7 rfl rfl)
theorem dX0_door_76 : decode cX0_door 76 = .ok (.iaload, 1) := dk_46 (dk_at dksX0_door_3 8 rfl rfl)
theorem dX0_door_77 : decode cX0_door 77 = .ok (.ireturn, 1) := dk_172 (dk_at dksX0_door_3 9 rfl rfl)
theorem dX0_door_78 : decode cX0_door 78 = .ok (.aload_n 0, 1) := dk_42 (dk_at dksX0_door_3 10 rfl rfl)
theorem dX0_door_79 : decode cX0_door 79 = .ok (.getfield 62, 3) := dk_180 0 62 (dk_at dksX0_door_3 11 rfl rfl)
theorem dX0_door_82 : decode cX0_door 82 = .ok (.getfield 195, 3) := dk_180 0 195 (dk_at dksX0_door_3 14 rfl rfl)
theorem dX0_door_85 : decode cX0_door 85 = .ok (.iload_n 1, 1) := dk_27 (dk_at dksX0_door_3 17 rfl rfl)
theorem dX0_door_86 : decode cX0_door 86 = .ok (.iaload, 1) := dk_46 (dk_at dksX0_door_3 18 rfl rfl)
theorem dX0_door_87 : decode cX0_door 87 = .ok (.ireturn, 1) := dk_172 (dk_at dksX0_door_3 19 rfl rfl)
theorem dX0_door_88 : decode cX0_door 88 = .ok (.aload_n 0, 1) := dk_42 (dk_at dksX0_door_3 20 rfl rfl)
theorem dX0_door_89 : decode cX0_door 89 = .ok (.getfield 62, 3) := dk_180 0 62 (dk_at dksX0_door_3 21 rfl rfl)
theorem dX0_door_92 : decode cX0_door 92 = .ok (.getfield 198, 3) := dk_180 0 198 (dk_at dksX0_door_4 0 rfl rfl)
theorem dX0_door_95 : decode cX0_door 95 = .ok (.iload_n 1, 1) := dk_27 (dk_at dksX0_door_4 3 rfl rfl)
theorem dX0_door_96 : decode cX0_door 96 = .ok (.iaload, 1) := dk_46 (dk_at dksX0_door_4 4 rfl rfl)
theorem dX0_door_97 : decode cX0_door 97 = .ok (.ireturn, 1) := dk_172 (dk_at dksX0_door_4 5 rfl rfl)
theorem dX0_door_98 : decode cX0_door 98 = .ok (.aload_n 0, 1) := dk_42 (dk_at dksX0_door_4 6 rfl rfl)
theorem dX0_door_99 : decode cX0_door 99 = .ok (.getfield 62, 3) := dk_180 0 62 (dk_at dksX0_door_4 7 rfl rfl)
theorem dX0_door_102 : decode cX0_door 102 = .ok (.getfield 201, 3) := dk_180 0 201 (dk_at dksX0_door_4 10 rfl rfl)
theorem dX0_door_105 : decode cX0_door 105 = .ok (.iload_n 1, 1) := dk_27 (dk_at dksX0_door_4 13 rfl rfl)
theorem dX0_door_106 : decode cX0_door 106 = .ok (.iaload, 1) := dk_46 (dk_at dksX0_door_4 14 rfl rfl)
theorem dX0_door_107 : decode cX0_door 107 = .ok (.ireturn, 1) := dk_172 (dk_at dksX0_door_4 15 rfl rfl)
theorem dX0_door_108 : decode cX0_door 108 = .ok (.aload_n 0, 1) := dk_42 (dk_at dksX0_door_4 16 rfl rfl)
theorem dX0_door_109 : decode cX0_door 109 = .ok (.getfield 62, 3) := dk_180 0 62 (dk_at dksX0_door_4 17 rfl rfl)
theorem dX0_door_112 : decode cX0_door 112 = .ok (.aload_n 0, 1) := dk_42 (dk_at dksX0_door_4 20 rfl rfl)
theorem dX0_door_113 : decode cX0_door 113 = .ok (.getfield 51, 3) := dk_180 0 51 (dk_at dksX0_door_4 21 rfl rfl)
theorem dX0_door_116 : decode cX0_door 116 = .ok (.iload_n 1, 1) := dk_27 (dk_at dksX0_door_5 0 rfl rfl)
theorem dX0_door_117 : decode cX0_door 117 = .ok (.invokevirtual 204, 3) := dk_182 0 204 (dk_at dksX0_door_5 1 rfl rfl)
theorem dX0_door_120 : decode cX0_door 120 = .ok (.ireturn, 1) := dk_172 (dk_at dksX0_door_5 4 rfl rfl)
theorem dX0_door_121 : decode cX0_door 121 = .ok (.aload_n 0, 1) := dk_42 (dk_at dksX0_door_5 5 rfl rfl)
theorem dX0_door_122 : decode cX0_door 122 = .ok (.aload_n 0, 1) := dk_42 (dk_at dksX0_door_5 6 rfl rfl)
theorem dX0_door_123 : decode cX0_door 123 = .ok (.getfield 62, 3) := dk_180 0 62 (dk_at dksX0_door_5 7 rfl rfl)
theorem dX0_door_126 : decode cX0_door 126 = .ok (.iload_n 1, 1) := dk_27 (dk_at dksX0_door_5 10 rfl rfl)
theorem dX0_door_127 : decode cX0_door 127 = .ok (.invokevirtual 208, 3) := dk_182 0 208 (dk_at dksX0_door_5 11 rfl rfl)
theorem dX0_door_130 : decode cX0_door 130 = .ok (.ireturn, 1) := dk_172 (dk_at dksX0_door_5 14 rfl rfl)
theorem dX0_door_131 : decode cX0_door 131 = .ok (.iconst (-1), 1) := dk_2 (dk_at dksX0_door_5 15 rfl rfl)
theorem dX0_door_132 : decode cX0_door 132 = .ok (.ireturn, 1) := dk_172 (dk_at dksX0_door_5 16 rfl rfl)
abbrev cX0_isDoor : ByteArray := prog_1_method_14_code
def yX0_isDoor : MethodName := ⟨RX0, "isDoor", "(I)Z"⟩
def dkwX0_isDoor_0 : List UInt8 := [27, 3, 42, 182, 0, 159, 4, 100, 184, 0, 161, 172]
abbrev dktX0_isDoor_0 : List UInt8 := dkwX0_isDoor_0 ++ []
theorem dksX0_isDoor_0 : cX0_isDoor.data.toList.drop 0 = dktX0_isDoor_0 := by decide +kernel
theorem dX0_isDoor_0 : decode cX0_isDoor 0 = .ok (.iload_n 1, 1) := dk_27 (dk_at dksX0_isDoor_0 0 rfl rfl)
theorem dX0_isDoor_1 : decode cX0_isDoor 1 = .ok (.iconst 0, 1) := dk_3 (dk_at dksX0_isDoor_0 1 rfl rfl)
theorem dX0_isDoor_2 : decode cX0_isDoor 2 = .ok (.aload_n 0, 1) := dk_42 (dk_at dksX0_isDoor_0 2 rfl rfl)
theorem dX0_isDoor_3 : decode cX0_isDoor 3 = .ok (.invokevirtual 159, 3) := dk_182 0 159 (dk_at dksX0_isDoor_0 3 rfl rfl)
theorem dX0_isDoor_6 : decode cX0_isDoor 6 = .ok (.iconst 1, 1) := dk_4 (dk_at dksX0_isDoor_0 6 rfl rfl)
theorem dX0_isDoor_7 : decode cX0_isDoor 7 = .ok (.isub, 1) := dk_100 (dk_at dksX0_isDoor_0 7 rfl rfl)
theorem dX0_isDoor_8 : decode cX0_isDoor 8 = .ok (.invokestatic 161, 3) := dk_184 0 161 (dk_at dksX0_isDoor_0 8 rfl rfl)
theorem dX0_isDoor_11 : decode cX0_isDoor 11 = .ok (.ireturn, 1) := dk_172 (dk_at dksX0_isDoor_0 11 rfl rfl)
abbrev cX0_doors : ByteArray := prog_1_method_12_code
def yX0_doors : MethodName := ⟨RX0, "doors", "()I"⟩
def dkwX0_doors_0 : List UInt8 := [42, 180, 0, 51, 180, 0, 146, 182, 0, 150, 172]
abbrev dktX0_doors_0 : List UInt8 := dkwX0_doors_0 ++ []
theorem dksX0_doors_0 : cX0_doors.data.toList.drop 0 = dktX0_doors_0 := by decide +kernel
theorem dX0_doors_0 : decode cX0_doors 0 = .ok (.aload_n 0, 1) := dk_42 (dk_at dksX0_doors_0 0 rfl rfl)
theorem dX0_doors_1 : decode cX0_doors 1 = .ok (.getfield 51, 3) := dk_180 0 51 (dk_at dksX0_doors_0 1 rfl rfl)
theorem dX0_doors_4 : decode cX0_doors 4 = .ok (.getfield 146, 3) := dk_180 0 146 (dk_at dksX0_doors_0 4 rfl rfl)
theorem dX0_doors_7 : decode cX0_doors 7 = .ok (.invokevirtual 150, 3) := dk_182 0 150 (dk_at dksX0_doors_0 7 rfl rfl)
theorem dX0_doors_10 : decode cX0_doors 10 = .ok (.ireturn, 1) := dk_172 (dk_at dksX0_doors_0 10 rfl rfl)
abbrev cX0_isIn : ByteArray := prog_1_method_11_code
def yX0_isIn : MethodName := ⟨RX0, "isIn", "(III)Z"⟩
def dkwX0_isIn_0 : List UInt8 := [26, 27, 161, 0, 12, 26, 28, 163, 0, 7, 4, 167, 0, 4, 3, 172]
abbrev dktX0_isIn_0 : List UInt8 := dkwX0_isIn_0 ++ []
theorem dksX0_isIn_0 : cX0_isIn.data.toList.drop 0 = dktX0_isIn_0 := by decide +kernel
theorem dX0_isIn_0 : decode cX0_isIn 0 = .ok (.iload_n 0, 1) := dk_26 (dk_at dksX0_isIn_0 0 rfl rfl)
theorem dX0_isIn_1 : decode cX0_isIn 1 = .ok (.iload_n 1, 1) := dk_27 (dk_at dksX0_isIn_0 1 rfl rfl)
theorem dX0_isIn_2 : decode cX0_isIn 2 = .ok (.if_icmp .lt 12, 3) := dk_161 0 12 (dk_at dksX0_isIn_0 2 rfl rfl)
theorem dX0_isIn_5 : decode cX0_isIn 5 = .ok (.iload_n 0, 1) := dk_26 (dk_at dksX0_isIn_0 5 rfl rfl)
theorem dX0_isIn_6 : decode cX0_isIn 6 = .ok (.iload_n 2, 1) := dk_28 (dk_at dksX0_isIn_0 6 rfl rfl)
theorem dX0_isIn_7 : decode cX0_isIn 7 = .ok (.if_icmp .gt 7, 3) := dk_163 0 7 (dk_at dksX0_isIn_0 7 rfl rfl)
theorem dX0_isIn_10 : decode cX0_isIn 10 = .ok (.iconst 1, 1) := dk_4 (dk_at dksX0_isIn_0 10 rfl rfl)
theorem dX0_isIn_11 : decode cX0_isIn 11 = .ok (.goto 4, 3) := dk_167 0 4 (dk_at dksX0_isIn_0 11 rfl rfl)
theorem dX0_isIn_14 : decode cX0_isIn 14 = .ok (.iconst 0, 1) := dk_3 (dk_at dksX0_isIn_0 14 rfl rfl)
theorem dX0_isIn_15 : decode cX0_isIn 15 = .ok (.ireturn, 1) := dk_172 (dk_at dksX0_isIn_0 15 rfl rfl)
abbrev cX0_isPart : ByteArray := prog_1_method_17_code
def yX0_isPart : MethodName := ⟨RX0, "isPart", "(I)Z"⟩
def dkwX0_isPart_0 : List UInt8 := [26, 3, 6, 184, 0, 161, 172]
abbrev dktX0_isPart_0 : List UInt8 := dkwX0_isPart_0 ++ []
theorem dksX0_isPart_0 : cX0_isPart.data.toList.drop 0 = dktX0_isPart_0 := by decide +kernel
theorem dX0_isPart_0 : decode cX0_isPart 0 = .ok (.iload_n 0, 1) := dk_26 (dk_at dksX0_isPart_0 0 rfl rfl)
theorem dX0_isPart_1 : decode cX0_isPart 1 = .ok (.iconst 0, 1) := dk_3 (dk_at dksX0_isPart_0 1 rfl rfl)
theorem dX0_isPart_2 : decode cX0_isPart 2 = .ok (.iconst 3, 1) := dk_6 (dk_at dksX0_isPart_0 2 rfl rfl)
theorem dX0_isPart_3 : decode cX0_isPart 3 = .ok (.invokestatic 161, 3) := dk_184 0 161 (dk_at dksX0_isPart_0 3 rfl rfl)
theorem dX0_isPart_6 : decode cX0_isPart 6 = .ok (.ireturn, 1) := dk_172 (dk_at dksX0_isPart_0 6 rfl rfl)
abbrev cX0_unlikeOf : ByteArray := prog_1_method_3_code
def yX0_unlikeOf : MethodName := ⟨RX0, "unlikeOf", "([I[I)I"⟩
def dkwX0_unlikeOf_1 : List UInt8 := [132, 3, 1, 167, 255, 235, 28, 172]
abbrev dktX0_unlikeOf_1 : List UInt8 := dkwX0_unlikeOf_1 ++ []
def dkwX0_unlikeOf_0 : List UInt8 := [3, 61, 3, 62, 29, 7, 162, 0, 22, 28, 42, 29, 46, 43, 29, 46, 100, 184, 0, 8, 96, 61]
abbrev dktX0_unlikeOf_0 : List UInt8 := dkwX0_unlikeOf_0 ++ dktX0_unlikeOf_1
theorem dksX0_unlikeOf_0 : cX0_unlikeOf.data.toList.drop 0 = dktX0_unlikeOf_0 := by decide +kernel
theorem dksX0_unlikeOf_1 : cX0_unlikeOf.data.toList.drop 22 = dktX0_unlikeOf_1 := dk_seg dksX0_unlikeOf_0 22 rfl rfl
theorem dX0_unlikeOf_0 : decode cX0_unlikeOf 0 = .ok (.iconst 0, 1) := dk_3 (dk_at dksX0_unlikeOf_0 0 rfl rfl)
theorem dX0_unlikeOf_1 : decode cX0_unlikeOf 1 = .ok (.istore_n 2, 1) := dk_61 (dk_at dksX0_unlikeOf_0 1 rfl rfl)
theorem dX0_unlikeOf_2 : decode cX0_unlikeOf 2 = .ok (.iconst 0, 1) := dk_3 (dk_at dksX0_unlikeOf_0 2 rfl rfl)
theorem dX0_unlikeOf_3 : decode cX0_unlikeOf 3 = .ok (.istore_n 3, 1) := dk_62 (dk_at dksX0_unlikeOf_0 3 rfl rfl)
theorem dX0_unlikeOf_4 : decode cX0_unlikeOf 4 = .ok (.iload_n 3, 1) := dk_29 (dk_at dksX0_unlikeOf_0 4 rfl rfl)
theorem dX0_unlikeOf_5 : decode cX0_unlikeOf 5 = .ok (.iconst 4, 1) := dk_7 (dk_at dksX0_unlikeOf_0 5 rfl rfl)
theorem dX0_unlikeOf_6 : decode cX0_unlikeOf 6 = .ok (.if_icmp .ge 22, 3) := dk_162 0 22 (dk_at dksX0_unlikeOf_0 6 rfl rfl)
theorem dX0_unlikeOf_9 : decode cX0_unlikeOf 9 = .ok (.iload_n 2, 1) := dk_28 (dk_at dksX0_unlikeOf_0 9 rfl rfl)
theorem dX0_unlikeOf_10 : decode cX0_unlikeOf 10 = .ok (.aload_n 0, 1) := dk_42 (dk_at dksX0_unlikeOf_0 10 rfl rfl)
theorem dX0_unlikeOf_11 : decode cX0_unlikeOf 11 = .ok (.iload_n 3, 1) := dk_29 (dk_at dksX0_unlikeOf_0 11 rfl rfl)
theorem dX0_unlikeOf_12 : decode cX0_unlikeOf 12 = .ok (.iaload, 1) := dk_46 (dk_at dksX0_unlikeOf_0 12 rfl rfl)
theorem dX0_unlikeOf_13 : decode cX0_unlikeOf 13 = .ok (.aload_n 1, 1) := dk_43 (dk_at dksX0_unlikeOf_0 13 rfl rfl)
theorem dX0_unlikeOf_14 : decode cX0_unlikeOf 14 = .ok (.iload_n 3, 1) := dk_29 (dk_at dksX0_unlikeOf_0 14 rfl rfl)
theorem dX0_unlikeOf_15 : decode cX0_unlikeOf 15 = .ok (.iaload, 1) := dk_46 (dk_at dksX0_unlikeOf_0 15 rfl rfl)
theorem dX0_unlikeOf_16 : decode cX0_unlikeOf 16 = .ok (.isub, 1) := dk_100 (dk_at dksX0_unlikeOf_0 16 rfl rfl)
theorem dX0_unlikeOf_17 : decode cX0_unlikeOf 17 = .ok (.invokestatic 8, 3) := dk_184 0 8 (dk_at dksX0_unlikeOf_0 17 rfl rfl)
theorem dX0_unlikeOf_20 : decode cX0_unlikeOf 20 = .ok (.iadd, 1) := dk_96 (dk_at dksX0_unlikeOf_0 20 rfl rfl)
theorem dX0_unlikeOf_21 : decode cX0_unlikeOf 21 = .ok (.istore_n 2, 1) := dk_61 (dk_at dksX0_unlikeOf_0 21 rfl rfl)
theorem dX0_unlikeOf_22 : decode cX0_unlikeOf 22 = .ok (.iinc 3 1, 3) := dk_132 3 1 (dk_at dksX0_unlikeOf_1 0 rfl rfl)
theorem dX0_unlikeOf_25 : decode cX0_unlikeOf 25 = .ok (.goto (-21), 3) := dk_167 255 235 (dk_at dksX0_unlikeOf_1 3 rfl rfl)
theorem dX0_unlikeOf_28 : decode cX0_unlikeOf 28 = .ok (.iload_n 2, 1) := dk_28 (dk_at dksX0_unlikeOf_1 6 rfl rfl)
theorem dX0_unlikeOf_29 : decode cX0_unlikeOf 29 = .ok (.ireturn, 1) := dk_172 (dk_at dksX0_unlikeOf_1 7 rfl rfl)
abbrev cX0_worn : ByteArray := prog_1_method_19_code
def yX0_worn : MethodName := ⟨RX0, "worn", "(LKnockerFaces$Town;I)I"⟩
def dkwX0_worn_1 : List UInt8 := [184, 0, 181, 172]
abbrev dktX0_worn_1 : List UInt8 := dkwX0_worn_1 ++ []
def dkwX0_worn_0 : List UInt8 := [43, 180, 0, 170, 28, 50, 42, 180, 0, 51, 180, 0, 146, 28, 182, 0, 173, 192, 0, 177, 180, 0, 179]
abbrev dktX0_worn_0 : List UInt8 := dkwX0_worn_0 ++ dktX0_worn_1
theorem dksX0_worn_0 : cX0_worn.data.toList.drop 0 = dktX0_worn_0 := by decide +kernel
theorem dksX0_worn_1 : cX0_worn.data.toList.drop 23 = dktX0_worn_1 := dk_seg dksX0_worn_0 23 rfl rfl
theorem dX0_worn_0 : decode cX0_worn 0 = .ok (.aload_n 1, 1) := dk_43 (dk_at dksX0_worn_0 0 rfl rfl)
theorem dX0_worn_1 : decode cX0_worn 1 = .ok (.getfield 170, 3) := dk_180 0 170 (dk_at dksX0_worn_0 1 rfl rfl)
theorem dX0_worn_4 : decode cX0_worn 4 = .ok (.iload_n 2, 1) := dk_28 (dk_at dksX0_worn_0 4 rfl rfl)
theorem dX0_worn_5 : decode cX0_worn 5 = .ok (.aaload, 1) := dk_50 (dk_at dksX0_worn_0 5 rfl rfl)
theorem dX0_worn_6 : decode cX0_worn 6 = .ok (.aload_n 0, 1) := dk_42 (dk_at dksX0_worn_0 6 rfl rfl)
theorem dX0_worn_7 : decode cX0_worn 7 = .ok (.getfield 51, 3) := dk_180 0 51 (dk_at dksX0_worn_0 7 rfl rfl)
theorem dX0_worn_10 : decode cX0_worn 10 = .ok (.getfield 146, 3) := dk_180 0 146 (dk_at dksX0_worn_0 10 rfl rfl)
theorem dX0_worn_13 : decode cX0_worn 13 = .ok (.iload_n 2, 1) := dk_28 (dk_at dksX0_worn_0 13 rfl rfl)
theorem dX0_worn_14 : decode cX0_worn 14 = .ok (.invokevirtual 173, 3) := dk_182 0 173 (dk_at dksX0_worn_0 14 rfl rfl)
theorem dX0_worn_17 : decode cX0_worn 17 = .ok (.checkcast 177, 3) := dk_192 0 177 (dk_at dksX0_worn_0 17 rfl rfl)
theorem dX0_worn_20 : decode cX0_worn 20 = .ok (.getfield 179, 3) := dk_180 0 179 (dk_at dksX0_worn_0 20 rfl rfl)
theorem dX0_worn_23 : decode cX0_worn 23 = .ok (.invokestatic 181, 3) := dk_184 0 181 (dk_at dksX0_worn_1 0 rfl rfl)
theorem dX0_worn_26 : decode cX0_worn 26 = .ok (.ireturn, 1) := dk_172 (dk_at dksX0_worn_1 3 rfl rfl)
abbrev cX0_caller : ByteArray := prog_1_method_21_code
def yX0_caller : MethodName := ⟨RX0, "caller", "(II)I"⟩
def dkwX0_caller_4 : List UInt8 := [180, 0, 218, 27, 46, 167, 0, 13, 28, 8, 160, 0, 7, 29, 167, 0, 4, 2, 172]
abbrev dktX0_caller_4 : List UInt8 := dkwX0_caller_4 ++ []
def dkwX0_caller_3 : List UInt8 := [120, 167, 0, 4, 3, 128, 62, 132, 4, 1, 167, 255, 216, 28, 7, 160, 0, 15, 42, 180, 0, 62]
abbrev dktX0_caller_3 : List UInt8 := dkwX0_caller_3 ++ dktX0_caller_4
def dkwX0_caller_2 : List UInt8 := [162, 0, 37, 29, 42, 180, 0, 62, 42, 180, 0, 51, 21, 4, 182, 0, 204, 27, 160, 0, 10, 4, 21, 4]
abbrev dktX0_caller_2 : List UInt8 := dkwX0_caller_2 ++ dktX0_caller_3
def dkwX0_caller_1 : List UInt8 := [27, 182, 0, 173, 192, 0, 215, 180, 0, 217, 28, 46, 172, 3, 62, 3, 54, 4, 21, 4, 42, 182, 0, 159]
abbrev dktX0_caller_1 : List UInt8 := dkwX0_caller_1 ++ dktX0_caller_2
def dkwX0_caller_0 : List UInt8 := [42, 27, 182, 0, 212, 154, 0, 5, 2, 172, 28, 184, 0, 189, 153, 0, 23, 42, 180, 0, 51, 180, 0, 156]
abbrev dktX0_caller_0 : List UInt8 := dkwX0_caller_0 ++ dktX0_caller_1
theorem dksX0_caller_0 : cX0_caller.data.toList.drop 0 = dktX0_caller_0 := by decide +kernel
theorem dksX0_caller_1 : cX0_caller.data.toList.drop 24 = dktX0_caller_1 := dk_seg dksX0_caller_0 24 rfl rfl
theorem dksX0_caller_2 : cX0_caller.data.toList.drop 48 = dktX0_caller_2 := dk_seg dksX0_caller_1 24 rfl rfl
theorem dksX0_caller_3 : cX0_caller.data.toList.drop 72 = dktX0_caller_3 := dk_seg dksX0_caller_2 24 rfl rfl
theorem dksX0_caller_4 : cX0_caller.data.toList.drop 94 = dktX0_caller_4 := dk_seg dksX0_caller_3 22 rfl rfl
theorem dX0_caller_0 : decode cX0_caller 0 = .ok (.aload_n 0, 1) := dk_42 (dk_at dksX0_caller_0 0 rfl rfl)
theorem dX0_caller_1 : decode cX0_caller 1 = .ok (.iload_n 1, 1) := dk_27 (dk_at dksX0_caller_0 1 rfl rfl)
theorem dX0_caller_2 : decode cX0_caller 2 = .ok (.invokevirtual 212, 3) := dk_182 0 212 (dk_at dksX0_caller_0 2 rfl rfl)
theorem dX0_caller_5 : decode cX0_caller 5 = .ok (.ifCond .ne 5, 3) := dk_154 0 5 (dk_at dksX0_caller_0 5 rfl rfl)
theorem dX0_caller_8 : decode cX0_caller 8 = .ok (.iconst (-1), 1) := dk_2 (dk_at dksX0_caller_0 8 rfl rfl)
theorem dX0_caller_9 : decode cX0_caller 9 = .ok (.ireturn, 1) := dk_172 (dk_at dksX0_caller_0 9 rfl rfl)
theorem dX0_caller_10 : decode cX0_caller 10 = .ok (.iload_n 2, 1) := dk_28 (dk_at dksX0_caller_0 10 rfl rfl)
theorem dX0_caller_11 : decode cX0_caller 11 = .ok (.invokestatic 189, 3) := dk_184 0 189 (dk_at dksX0_caller_0 11 rfl rfl)
theorem dX0_caller_14 : decode cX0_caller 14 = .ok (.ifCond .eq 23, 3) := dk_153 0 23 (dk_at dksX0_caller_0 14 rfl rfl)
theorem dX0_caller_17 : decode cX0_caller 17 = .ok (.aload_n 0, 1) := dk_42 (dk_at dksX0_caller_0 17 rfl rfl)
theorem dX0_caller_18 : decode cX0_caller 18 = .ok (.getfield 51, 3) := dk_180 0 51 (dk_at dksX0_caller_0 18 rfl rfl)
theorem dX0_caller_21 : decode cX0_caller 21 = .ok (.getfield 156, 3) := dk_180 0 156 (dk_at dksX0_caller_0 21 rfl rfl)
theorem dX0_caller_24 : decode cX0_caller 24 = .ok (.iload_n 1, 1) := dk_27 (dk_at dksX0_caller_1 0 rfl rfl)
theorem dX0_caller_25 : decode cX0_caller 25 = .ok (.invokevirtual 173, 3) := dk_182 0 173 (dk_at dksX0_caller_1 1 rfl rfl)
theorem dX0_caller_28 : decode cX0_caller 28 = .ok (.checkcast 215, 3) := dk_192 0 215 (dk_at dksX0_caller_1 4 rfl rfl)
theorem dX0_caller_31 : decode cX0_caller 31 = .ok (.getfield 217, 3) := dk_180 0 217 (dk_at dksX0_caller_1 7 rfl rfl)
theorem dX0_caller_34 : decode cX0_caller 34 = .ok (.iload_n 2, 1) := dk_28 (dk_at dksX0_caller_1 10 rfl rfl)
theorem dX0_caller_35 : decode cX0_caller 35 = .ok (.iaload, 1) := dk_46 (dk_at dksX0_caller_1 11 rfl rfl)
theorem dX0_caller_36 : decode cX0_caller 36 = .ok (.ireturn, 1) := dk_172 (dk_at dksX0_caller_1 12 rfl rfl)
theorem dX0_caller_37 : decode cX0_caller 37 = .ok (.iconst 0, 1) := dk_3 (dk_at dksX0_caller_1 13 rfl rfl)
theorem dX0_caller_38 : decode cX0_caller 38 = .ok (.istore_n 3, 1) := dk_62 (dk_at dksX0_caller_1 14 rfl rfl)
theorem dX0_caller_39 : decode cX0_caller 39 = .ok (.iconst 0, 1) := dk_3 (dk_at dksX0_caller_1 15 rfl rfl)
theorem dX0_caller_40 : decode cX0_caller 40 = .ok (.istore 4, 2) := dk_54 4 (dk_at dksX0_caller_1 16 rfl rfl)
theorem dX0_caller_42 : decode cX0_caller 42 = .ok (.iload 4, 2) := dk_21 4 (dk_at dksX0_caller_1 18 rfl rfl)
theorem dX0_caller_44 : decode cX0_caller 44 = .ok (.aload_n 0, 1) := dk_42 (dk_at dksX0_caller_1 20 rfl rfl)
theorem dX0_caller_45 : decode cX0_caller 45 = .ok (.invokevirtual 159, 3) := dk_182 0 159 (dk_at dksX0_caller_1 21 rfl rfl)
theorem dX0_caller_48 : decode cX0_caller 48 = .ok (.if_icmp .ge 37, 3) := dk_162 0 37 (dk_at dksX0_caller_2 0 rfl rfl)
theorem dX0_caller_51 : decode cX0_caller 51 = .ok (.iload_n 3, 1) := dk_29 (dk_at dksX0_caller_2 3 rfl rfl)
theorem dX0_caller_52 : decode cX0_caller 52 = .ok (.aload_n 0, 1) := dk_42 (dk_at dksX0_caller_2 4 rfl rfl)
theorem dX0_caller_53 : decode cX0_caller 53 = .ok (.getfield 62, 3) := dk_180 0 62 (dk_at dksX0_caller_2 5 rfl rfl)
theorem dX0_caller_56 : decode cX0_caller 56 = .ok (.aload_n 0, 1) := dk_42 (dk_at dksX0_caller_2 8 rfl rfl)
theorem dX0_caller_57 : decode cX0_caller 57 = .ok (.getfield 51, 3) := dk_180 0 51 (dk_at dksX0_caller_2 9 rfl rfl)
theorem dX0_caller_60 : decode cX0_caller 60 = .ok (.iload 4, 2) := dk_21 4 (dk_at dksX0_caller_2 12 rfl rfl)
theorem dX0_caller_62 : decode cX0_caller 62 = .ok (.invokevirtual 204, 3) := dk_182 0 204 (dk_at dksX0_caller_2 14 rfl rfl)
theorem dX0_caller_65 : decode cX0_caller 65 = .ok (.iload_n 1, 1) := dk_27 (dk_at dksX0_caller_2 17 rfl rfl)
theorem dX0_caller_66 : decode cX0_caller 66 = .ok (.if_icmp .ne 10, 3) := dk_160 0 10 (dk_at dksX0_caller_2 18 rfl rfl)
theorem dX0_caller_69 : decode cX0_caller 69 = .ok (.iconst 1, 1) := dk_4 (dk_at dksX0_caller_2 21 rfl rfl)
theorem dX0_caller_70 : decode cX0_caller 70 = .ok (.iload 4, 2) := dk_21 4 (dk_at dksX0_caller_2 22 rfl rfl)
theorem dX0_caller_72 : decode cX0_caller 72 = .ok (.ishl, 1) := dk_120 (dk_at dksX0_caller_3 0 rfl rfl)
theorem dX0_caller_73 : decode cX0_caller 73 = .ok (.goto 4, 3) := dk_167 0 4 (dk_at dksX0_caller_3 1 rfl rfl)
theorem dX0_caller_76 : decode cX0_caller 76 = .ok (.iconst 0, 1) := dk_3 (dk_at dksX0_caller_3 4 rfl rfl)
theorem dX0_caller_77 : decode cX0_caller 77 = .ok (.ior, 1) := dk_128 (dk_at dksX0_caller_3 5 rfl rfl)
theorem dX0_caller_78 : decode cX0_caller 78 = .ok (.istore_n 3, 1) := dk_62 (dk_at dksX0_caller_3 6 rfl rfl)
theorem dX0_caller_79 : decode cX0_caller 79 = .ok (.iinc 4 1, 3) := dk_132 4 1 (dk_at dksX0_caller_3 7 rfl rfl)
theorem dX0_caller_82 : decode cX0_caller 82 = .ok (.goto (-40), 3) := dk_167 255 216 (dk_at dksX0_caller_3 10 rfl rfl)
theorem dX0_caller_85 : decode cX0_caller 85 = .ok (.iload_n 2, 1) := dk_28 (dk_at dksX0_caller_3 13 rfl rfl)
theorem dX0_caller_86 : decode cX0_caller 86 = .ok (.iconst 4, 1) := dk_7 (dk_at dksX0_caller_3 14 rfl rfl)
theorem dX0_caller_87 : decode cX0_caller 87 = .ok (.if_icmp .ne 15, 3) := dk_160 0 15 (dk_at dksX0_caller_3 15 rfl rfl)
theorem dX0_caller_90 : decode cX0_caller 90 = .ok (.aload_n 0, 1) := dk_42 (dk_at dksX0_caller_3 18 rfl rfl)
theorem dX0_caller_91 : decode cX0_caller 91 = .ok (.getfield 62, 3) := dk_180 0 62 (dk_at dksX0_caller_3 19 rfl rfl)
theorem dX0_caller_94 : decode cX0_caller 94 = .ok (.getfield 218, 3) := dk_180 0 218 (dk_at dksX0_caller_4 0 rfl rfl)
theorem dX0_caller_97 : decode cX0_caller 97 = .ok (.iload_n 1, 1) := dk_27 (dk_at dksX0_caller_4 3 rfl rfl)
theorem dX0_caller_98 : decode cX0_caller 98 = .ok (.iaload, 1) := dk_46 (dk_at dksX0_caller_4 4 rfl rfl)
theorem dX0_caller_99 : decode cX0_caller 99 = .ok (.goto 13, 3) := dk_167 0 13 (dk_at dksX0_caller_4 5 rfl rfl)
theorem dX0_caller_102 : decode cX0_caller 102 = .ok (.iload_n 2, 1) := dk_28 (dk_at dksX0_caller_4 8 rfl rfl)
theorem dX0_caller_103 : decode cX0_caller 103 = .ok (.iconst 5, 1) := dk_8 (dk_at dksX0_caller_4 9 rfl rfl)
theorem dX0_caller_104 : decode cX0_caller 104 = .ok (.if_icmp .ne 7, 3) := dk_160 0 7 (dk_at dksX0_caller_4 10 rfl rfl)
theorem dX0_caller_107 : decode cX0_caller 107 = .ok (.iload_n 3, 1) := dk_29 (dk_at dksX0_caller_4 13 rfl rfl)
theorem dX0_caller_108 : decode cX0_caller 108 = .ok (.goto 4, 3) := dk_167 0 4 (dk_at dksX0_caller_4 14 rfl rfl)
theorem dX0_caller_111 : decode cX0_caller 111 = .ok (.iconst (-1), 1) := dk_2 (dk_at dksX0_caller_4 17 rfl rfl)
theorem dX0_caller_112 : decode cX0_caller 112 = .ok (.ireturn, 1) := dk_172 (dk_at dksX0_caller_4 18 rfl rfl)
abbrev cX0_isCaller : ByteArray := prog_1_method_15_code
def yX0_isCaller : MethodName := ⟨RX0, "isCaller", "(I)Z"⟩
def dkwX0_isCaller_0 : List UInt8 := [27, 3, 42, 182, 0, 165, 4, 100, 184, 0, 161, 172]
abbrev dktX0_isCaller_0 : List UInt8 := dkwX0_isCaller_0 ++ []
theorem dksX0_isCaller_0 : cX0_isCaller.data.toList.drop 0 = dktX0_isCaller_0 := by decide +kernel
theorem dX0_isCaller_0 : decode cX0_isCaller 0 = .ok (.iload_n 1, 1) := dk_27 (dk_at dksX0_isCaller_0 0 rfl rfl)
theorem dX0_isCaller_1 : decode cX0_isCaller 1 = .ok (.iconst 0, 1) := dk_3 (dk_at dksX0_isCaller_0 1 rfl rfl)
theorem dX0_isCaller_2 : decode cX0_isCaller 2 = .ok (.aload_n 0, 1) := dk_42 (dk_at dksX0_isCaller_0 2 rfl rfl)
theorem dX0_isCaller_3 : decode cX0_isCaller 3 = .ok (.invokevirtual 165, 3) := dk_182 0 165 (dk_at dksX0_isCaller_0 3 rfl rfl)
theorem dX0_isCaller_6 : decode cX0_isCaller 6 = .ok (.iconst 1, 1) := dk_4 (dk_at dksX0_isCaller_0 6 rfl rfl)
theorem dX0_isCaller_7 : decode cX0_isCaller 7 = .ok (.isub, 1) := dk_100 (dk_at dksX0_isCaller_0 7 rfl rfl)
theorem dX0_isCaller_8 : decode cX0_isCaller 8 = .ok (.invokestatic 161, 3) := dk_184 0 161 (dk_at dksX0_isCaller_0 8 rfl rfl)
theorem dX0_isCaller_11 : decode cX0_isCaller 11 = .ok (.ireturn, 1) := dk_172 (dk_at dksX0_isCaller_0 11 rfl rfl)
abbrev cX0_callers : ByteArray := prog_1_method_13_code
def yX0_callers : MethodName := ⟨RX0, "callers", "()I"⟩
def dkwX0_callers_0 : List UInt8 := [42, 180, 0, 51, 180, 0, 156, 182, 0, 150, 172]
abbrev dktX0_callers_0 : List UInt8 := dkwX0_callers_0 ++ []
theorem dksX0_callers_0 : cX0_callers.data.toList.drop 0 = dktX0_callers_0 := by decide +kernel
theorem dX0_callers_0 : decode cX0_callers 0 = .ok (.aload_n 0, 1) := dk_42 (dk_at dksX0_callers_0 0 rfl rfl)
theorem dX0_callers_1 : decode cX0_callers 1 = .ok (.getfield 51, 3) := dk_180 0 51 (dk_at dksX0_callers_0 1 rfl rfl)
theorem dX0_callers_4 : decode cX0_callers 4 = .ok (.getfield 156, 3) := dk_180 0 156 (dk_at dksX0_callers_0 4 rfl rfl)
theorem dX0_callers_7 : decode cX0_callers 7 = .ok (.invokevirtual 150, 3) := dk_182 0 150 (dk_at dksX0_callers_0 7 rfl rfl)
theorem dX0_callers_10 : decode cX0_callers 10 = .ok (.ireturn, 1) := dk_172 (dk_at dksX0_callers_0 10 rfl rfl)
abbrev cX0_round : ByteArray := prog_1_method_22_code
def yX0_round : MethodName := ⟨RX0, "round", "(II)I"⟩
def dkwX0_round_5 : List UInt8 := [153, 0, 7, 4, 167, 0, 4, 3, 172, 2, 172]
abbrev dktX0_round_5 : List UInt8 := dkwX0_round_5 ++ []
def dkwX0_round_4 : List UInt8 := [27, 182, 0, 238, 153, 0, 7, 4, 167, 0, 4, 3, 172, 45, 42, 180, 0, 62, 180, 0, 241, 182, 0, 244]
abbrev dktX0_round_4 : List UInt8 := dkwX0_round_4 ++ dktX0_round_5
def dkwX0_round_3 : List UInt8 := [45, 180, 0, 226, 172, 45, 180, 0, 229, 172, 45, 180, 0, 232, 172, 45, 180, 0, 235, 172, 42, 180, 0, 62]
abbrev dktX0_round_3 : List UInt8 := dkwX0_round_3 ++ dktX0_round_4
def dkwX0_round_2 : List UInt8 := [170, 0, 0, 0, 0, 95, 0, 0, 0, 0, 0, 0, 0, 5, 0, 0, 0, 38, 0, 0, 0, 43, 0, 0, 0, 48, 0, 0, 0, 53, 0, 0, 0, 58, 0, 0, 0, 75]
abbrev dktX0_round_2 : List UInt8 := dkwX0_round_2 ++ dktX0_round_3
def dkwX0_round_1 : List UInt8 := [78, 28]
abbrev dktX0_round_1 : List UInt8 := dkwX0_round_1 ++ dktX0_round_2
def dkwX0_round_0 : List UInt8 := [42, 27, 182, 0, 221, 154, 0, 5, 2, 172, 42, 180, 0, 51, 180, 0, 167, 27, 182, 0, 173, 192, 0, 224]
abbrev dktX0_round_0 : List UInt8 := dkwX0_round_0 ++ dktX0_round_1
theorem dksX0_round_0 : cX0_round.data.toList.drop 0 = dktX0_round_0 := by decide +kernel
theorem dksX0_round_1 : cX0_round.data.toList.drop 24 = dktX0_round_1 := dk_seg dksX0_round_0 24 rfl rfl
theorem dksX0_round_2 : cX0_round.data.toList.drop 26 = dktX0_round_2 := dk_seg dksX0_round_1 2 rfl rfl
theorem dksX0_round_3 : cX0_round.data.toList.drop 64 = dktX0_round_3 := dk_seg dksX0_round_2 38 rfl rfl
theorem dksX0_round_4 : cX0_round.data.toList.drop 88 = dktX0_round_4 := dk_seg dksX0_round_3 24 rfl rfl
theorem dksX0_round_5 : cX0_round.data.toList.drop 112 = dktX0_round_5 := dk_seg dksX0_round_4 24 rfl rfl
theorem dX0_round_0 : decode cX0_round 0 = .ok (.aload_n 0, 1) := dk_42 (dk_at dksX0_round_0 0 rfl rfl)
theorem dX0_round_1 : decode cX0_round 1 = .ok (.iload_n 1, 1) := dk_27 (dk_at dksX0_round_0 1 rfl rfl)
theorem dX0_round_2 : decode cX0_round 2 = .ok (.invokevirtual 221, 3) := dk_182 0 221 (dk_at dksX0_round_0 2 rfl rfl)
theorem dX0_round_5 : decode cX0_round 5 = .ok (.ifCond .ne 5, 3) := dk_154 0 5 (dk_at dksX0_round_0 5 rfl rfl)
theorem dX0_round_8 : decode cX0_round 8 = .ok (.iconst (-1), 1) := dk_2 (dk_at dksX0_round_0 8 rfl rfl)
theorem dX0_round_9 : decode cX0_round 9 = .ok (.ireturn, 1) := dk_172 (dk_at dksX0_round_0 9 rfl rfl)
theorem dX0_round_10 : decode cX0_round 10 = .ok (.aload_n 0, 1) := dk_42 (dk_at dksX0_round_0 10 rfl rfl)
theorem dX0_round_11 : decode cX0_round 11 = .ok (.getfield 51, 3) := dk_180 0 51 (dk_at dksX0_round_0 11 rfl rfl)
theorem dX0_round_14 : decode cX0_round 14 = .ok (.getfield 167, 3) := dk_180 0 167 (dk_at dksX0_round_0 14 rfl rfl)
theorem dX0_round_17 : decode cX0_round 17 = .ok (.iload_n 1, 1) := dk_27 (dk_at dksX0_round_0 17 rfl rfl)
theorem dX0_round_18 : decode cX0_round 18 = .ok (.invokevirtual 173, 3) := dk_182 0 173 (dk_at dksX0_round_0 18 rfl rfl)
theorem dX0_round_21 : decode cX0_round 21 = .ok (.checkcast 224, 3) := dk_192 0 224 (dk_at dksX0_round_0 21 rfl rfl)
theorem dX0_round_24 : decode cX0_round 24 = .ok (.astore_n 3, 1) := dk_78 (dk_at dksX0_round_1 0 rfl rfl)
theorem dX0_round_25 : decode cX0_round 25 = .ok (.iload_n 2, 1) := dk_28 (dk_at dksX0_round_1 1 rfl rfl)
theorem dX0_round_26 : decode cX0_round 26 = .ok (.tableswitch 95 0 5 #[38, 43, 48, 53, 58, 75], 38) := by decide +kernel
theorem dX0_round_64 : decode cX0_round 64 = .ok (.aload_n 3, 1) := dk_45 (dk_at dksX0_round_3 0 rfl rfl)
theorem dX0_round_65 : decode cX0_round 65 = .ok (.getfield 226, 3) := dk_180 0 226 (dk_at dksX0_round_3 1 rfl rfl)
theorem dX0_round_68 : decode cX0_round 68 = .ok (.ireturn, 1) := dk_172 (dk_at dksX0_round_3 4 rfl rfl)
theorem dX0_round_69 : decode cX0_round 69 = .ok (.aload_n 3, 1) := dk_45 (dk_at dksX0_round_3 5 rfl rfl)
theorem dX0_round_70 : decode cX0_round 70 = .ok (.getfield 229, 3) := dk_180 0 229 (dk_at dksX0_round_3 6 rfl rfl)
theorem dX0_round_73 : decode cX0_round 73 = .ok (.ireturn, 1) := dk_172 (dk_at dksX0_round_3 9 rfl rfl)
theorem dX0_round_74 : decode cX0_round 74 = .ok (.aload_n 3, 1) := dk_45 (dk_at dksX0_round_3 10 rfl rfl)
theorem dX0_round_75 : decode cX0_round 75 = .ok (.getfield 232, 3) := dk_180 0 232 (dk_at dksX0_round_3 11 rfl rfl)
theorem dX0_round_78 : decode cX0_round 78 = .ok (.ireturn, 1) := dk_172 (dk_at dksX0_round_3 14 rfl rfl)
theorem dX0_round_79 : decode cX0_round 79 = .ok (.aload_n 3, 1) := dk_45 (dk_at dksX0_round_3 15 rfl rfl)
theorem dX0_round_80 : decode cX0_round 80 = .ok (.getfield 235, 3) := dk_180 0 235 (dk_at dksX0_round_3 16 rfl rfl)
theorem dX0_round_83 : decode cX0_round 83 = .ok (.ireturn, 1) := dk_172 (dk_at dksX0_round_3 19 rfl rfl)
theorem dX0_round_84 : decode cX0_round 84 = .ok (.aload_n 0, 1) := dk_42 (dk_at dksX0_round_3 20 rfl rfl)
theorem dX0_round_85 : decode cX0_round 85 = .ok (.getfield 62, 3) := dk_180 0 62 (dk_at dksX0_round_3 21 rfl rfl)
theorem dX0_round_88 : decode cX0_round 88 = .ok (.iload_n 1, 1) := dk_27 (dk_at dksX0_round_4 0 rfl rfl)
theorem dX0_round_89 : decode cX0_round 89 = .ok (.invokevirtual 238, 3) := dk_182 0 238 (dk_at dksX0_round_4 1 rfl rfl)
theorem dX0_round_92 : decode cX0_round 92 = .ok (.ifCond .eq 7, 3) := dk_153 0 7 (dk_at dksX0_round_4 4 rfl rfl)
theorem dX0_round_95 : decode cX0_round 95 = .ok (.iconst 1, 1) := dk_4 (dk_at dksX0_round_4 7 rfl rfl)
theorem dX0_round_96 : decode cX0_round 96 = .ok (.goto 4, 3) := dk_167 0 4 (dk_at dksX0_round_4 8 rfl rfl)
theorem dX0_round_99 : decode cX0_round 99 = .ok (.iconst 0, 1) := dk_3 (dk_at dksX0_round_4 11 rfl rfl)
theorem dX0_round_100 : decode cX0_round 100 = .ok (.ireturn, 1) := dk_172 (dk_at dksX0_round_4 12 rfl rfl)
theorem dX0_round_101 : decode cX0_round 101 = .ok (.aload_n 3, 1) := dk_45 (dk_at dksX0_round_4 13 rfl rfl)
theorem dX0_round_102 : decode cX0_round 102 = .ok (.aload_n 0, 1) := dk_42 (dk_at dksX0_round_4 14 rfl rfl)
theorem dX0_round_103 : decode cX0_round 103 = .ok (.getfield 62, 3) := dk_180 0 62 (dk_at dksX0_round_4 15 rfl rfl)
theorem dX0_round_106 : decode cX0_round 106 = .ok (.getfield 241, 3) := dk_180 0 241 (dk_at dksX0_round_4 18 rfl rfl)
theorem dX0_round_109 : decode cX0_round 109 = .ok (.invokevirtual 244, 3) := dk_182 0 244 (dk_at dksX0_round_4 21 rfl rfl)
theorem dX0_round_112 : decode cX0_round 112 = .ok (.ifCond .eq 7, 3) := dk_153 0 7 (dk_at dksX0_round_5 0 rfl rfl)
theorem dX0_round_115 : decode cX0_round 115 = .ok (.iconst 1, 1) := dk_4 (dk_at dksX0_round_5 3 rfl rfl)
theorem dX0_round_116 : decode cX0_round 116 = .ok (.goto 4, 3) := dk_167 0 4 (dk_at dksX0_round_5 4 rfl rfl)
theorem dX0_round_119 : decode cX0_round 119 = .ok (.iconst 0, 1) := dk_3 (dk_at dksX0_round_5 7 rfl rfl)
theorem dX0_round_120 : decode cX0_round 120 = .ok (.ireturn, 1) := dk_172 (dk_at dksX0_round_5 8 rfl rfl)
theorem dX0_round_121 : decode cX0_round 121 = .ok (.iconst (-1), 1) := dk_2 (dk_at dksX0_round_5 9 rfl rfl)
theorem dX0_round_122 : decode cX0_round 122 = .ok (.ireturn, 1) := dk_172 (dk_at dksX0_round_5 10 rfl rfl)
abbrev cX0_isRound : ByteArray := prog_1_method_16_code
def yX0_isRound : MethodName := ⟨RX0, "isRound", "(I)Z"⟩
def dkwX0_isRound_0 : List UInt8 := [27, 3, 42, 180, 0, 51, 180, 0, 167, 182, 0, 150, 4, 100, 184, 0, 161, 172]
abbrev dktX0_isRound_0 : List UInt8 := dkwX0_isRound_0 ++ []
theorem dksX0_isRound_0 : cX0_isRound.data.toList.drop 0 = dktX0_isRound_0 := by decide +kernel
theorem dX0_isRound_0 : decode cX0_isRound 0 = .ok (.iload_n 1, 1) := dk_27 (dk_at dksX0_isRound_0 0 rfl rfl)
theorem dX0_isRound_1 : decode cX0_isRound 1 = .ok (.iconst 0, 1) := dk_3 (dk_at dksX0_isRound_0 1 rfl rfl)
theorem dX0_isRound_2 : decode cX0_isRound 2 = .ok (.aload_n 0, 1) := dk_42 (dk_at dksX0_isRound_0 2 rfl rfl)
theorem dX0_isRound_3 : decode cX0_isRound 3 = .ok (.getfield 51, 3) := dk_180 0 51 (dk_at dksX0_isRound_0 3 rfl rfl)
theorem dX0_isRound_6 : decode cX0_isRound 6 = .ok (.getfield 167, 3) := dk_180 0 167 (dk_at dksX0_isRound_0 6 rfl rfl)
theorem dX0_isRound_9 : decode cX0_isRound 9 = .ok (.invokevirtual 150, 3) := dk_182 0 150 (dk_at dksX0_isRound_0 9 rfl rfl)
theorem dX0_isRound_12 : decode cX0_isRound 12 = .ok (.iconst 1, 1) := dk_4 (dk_at dksX0_isRound_0 12 rfl rfl)
theorem dX0_isRound_13 : decode cX0_isRound 13 = .ok (.isub, 1) := dk_100 (dk_at dksX0_isRound_0 13 rfl rfl)
theorem dX0_isRound_14 : decode cX0_isRound 14 = .ok (.invokestatic 161, 3) := dk_184 0 161 (dk_at dksX0_isRound_0 14 rfl rfl)
theorem dX0_isRound_17 : decode cX0_isRound 17 = .ok (.ireturn, 1) := dk_172 (dk_at dksX0_isRound_0 17 rfl rfl)
abbrev cX0_unlike : ByteArray := prog_1_method_23_code
def yX0_unlike : MethodName := ⟨RX0, "unlike", "(II)I"⟩
def dkwX0_unlike_1 : List UInt8 := [27, 28, 182, 0, 247, 167, 0, 4, 2, 172]
abbrev dktX0_unlike_1 : List UInt8 := dkwX0_unlike_1 ++ []
def dkwX0_unlike_0 : List UInt8 := [42, 27, 182, 0, 185, 153, 0, 27, 42, 28, 182, 0, 212, 153, 0, 19, 42, 180, 0, 62, 42, 180, 0, 51]
abbrev dktX0_unlike_0 : List UInt8 := dkwX0_unlike_0 ++ dktX0_unlike_1
theorem dksX0_unlike_0 : cX0_unlike.data.toList.drop 0 = dktX0_unlike_0 := by decide +kernel
theorem dksX0_unlike_1 : cX0_unlike.data.toList.drop 24 = dktX0_unlike_1 := dk_seg dksX0_unlike_0 24 rfl rfl
theorem dX0_unlike_0 : decode cX0_unlike 0 = .ok (.aload_n 0, 1) := dk_42 (dk_at dksX0_unlike_0 0 rfl rfl)
theorem dX0_unlike_1 : decode cX0_unlike 1 = .ok (.iload_n 1, 1) := dk_27 (dk_at dksX0_unlike_0 1 rfl rfl)
theorem dX0_unlike_2 : decode cX0_unlike 2 = .ok (.invokevirtual 185, 3) := dk_182 0 185 (dk_at dksX0_unlike_0 2 rfl rfl)
theorem dX0_unlike_5 : decode cX0_unlike 5 = .ok (.ifCond .eq 27, 3) := dk_153 0 27 (dk_at dksX0_unlike_0 5 rfl rfl)
theorem dX0_unlike_8 : decode cX0_unlike 8 = .ok (.aload_n 0, 1) := dk_42 (dk_at dksX0_unlike_0 8 rfl rfl)
theorem dX0_unlike_9 : decode cX0_unlike 9 = .ok (.iload_n 2, 1) := dk_28 (dk_at dksX0_unlike_0 9 rfl rfl)
theorem dX0_unlike_10 : decode cX0_unlike 10 = .ok (.invokevirtual 212, 3) := dk_182 0 212 (dk_at dksX0_unlike_0 10 rfl rfl)
theorem dX0_unlike_13 : decode cX0_unlike 13 = .ok (.ifCond .eq 19, 3) := dk_153 0 19 (dk_at dksX0_unlike_0 13 rfl rfl)
theorem dX0_unlike_16 : decode cX0_unlike 16 = .ok (.aload_n 0, 1) := dk_42 (dk_at dksX0_unlike_0 16 rfl rfl)
theorem dX0_unlike_17 : decode cX0_unlike 17 = .ok (.getfield 62, 3) := dk_180 0 62 (dk_at dksX0_unlike_0 17 rfl rfl)
theorem dX0_unlike_20 : decode cX0_unlike 20 = .ok (.aload_n 0, 1) := dk_42 (dk_at dksX0_unlike_0 20 rfl rfl)
theorem dX0_unlike_21 : decode cX0_unlike 21 = .ok (.getfield 51, 3) := dk_180 0 51 (dk_at dksX0_unlike_0 21 rfl rfl)
theorem dX0_unlike_24 : decode cX0_unlike 24 = .ok (.iload_n 1, 1) := dk_27 (dk_at dksX0_unlike_1 0 rfl rfl)
theorem dX0_unlike_25 : decode cX0_unlike 25 = .ok (.iload_n 2, 1) := dk_28 (dk_at dksX0_unlike_1 1 rfl rfl)
theorem dX0_unlike_26 : decode cX0_unlike 26 = .ok (.invokevirtual 247, 3) := dk_182 0 247 (dk_at dksX0_unlike_1 2 rfl rfl)
theorem dX0_unlike_29 : decode cX0_unlike 29 = .ok (.goto 4, 3) := dk_167 0 4 (dk_at dksX0_unlike_1 5 rfl rfl)
theorem dX0_unlike_32 : decode cX0_unlike 32 = .ok (.iconst (-1), 1) := dk_2 (dk_at dksX0_unlike_1 8 rfl rfl)
theorem dX0_unlike_33 : decode cX0_unlike 33 = .ok (.ireturn, 1) := dk_172 (dk_at dksX0_unlike_1 9 rfl rfl)
abbrev cX0_tells : ByteArray := prog_1_method_24_code
def yX0_tells : MethodName := ⟨RX0, "tells", "(III)I"⟩
def dkwX0_tells_2 : List UInt8 := [167, 0, 17, 42, 180, 0, 62, 42, 180, 0, 51, 27, 28, 29, 182, 0, 254, 172]
abbrev dktX0_tells_2 : List UInt8 := dkwX0_tells_2 ++ []
def dkwX0_tells_1 : List UInt8 := [154, 0, 5, 2, 172, 29, 7, 160, 0, 19, 42, 180, 0, 62, 42, 180, 0, 51, 27, 28, 182, 0, 251]
abbrev dktX0_tells_1 : List UInt8 := dkwX0_tells_1 ++ dktX0_tells_2
def dkwX0_tells_0 : List UInt8 := [42, 27, 182, 0, 185, 153, 0, 20, 42, 28, 182, 0, 212, 153, 0, 12, 29, 3, 7, 184, 0, 161]
abbrev dktX0_tells_0 : List UInt8 := dkwX0_tells_0 ++ dktX0_tells_1
theorem dksX0_tells_0 : cX0_tells.data.toList.drop 0 = dktX0_tells_0 := by decide +kernel
theorem dksX0_tells_1 : cX0_tells.data.toList.drop 22 = dktX0_tells_1 := dk_seg dksX0_tells_0 22 rfl rfl
theorem dksX0_tells_2 : cX0_tells.data.toList.drop 45 = dktX0_tells_2 := dk_seg dksX0_tells_1 23 rfl rfl
theorem dX0_tells_0 : decode cX0_tells 0 = .ok (.aload_n 0, 1) := dk_42 (dk_at dksX0_tells_0 0 rfl rfl)
theorem dX0_tells_1 : decode cX0_tells 1 = .ok (.iload_n 1, 1) := dk_27 (dk_at dksX0_tells_0 1 rfl rfl)
theorem dX0_tells_2 : decode cX0_tells 2 = .ok (.invokevirtual 185, 3) := dk_182 0 185 (dk_at dksX0_tells_0 2 rfl rfl)
theorem dX0_tells_5 : decode cX0_tells 5 = .ok (.ifCond .eq 20, 3) := dk_153 0 20 (dk_at dksX0_tells_0 5 rfl rfl)
theorem dX0_tells_8 : decode cX0_tells 8 = .ok (.aload_n 0, 1) := dk_42 (dk_at dksX0_tells_0 8 rfl rfl)
theorem dX0_tells_9 : decode cX0_tells 9 = .ok (.iload_n 2, 1) := dk_28 (dk_at dksX0_tells_0 9 rfl rfl)
theorem dX0_tells_10 : decode cX0_tells 10 = .ok (.invokevirtual 212, 3) := dk_182 0 212 (dk_at dksX0_tells_0 10 rfl rfl)
theorem dX0_tells_13 : decode cX0_tells 13 = .ok (.ifCond .eq 12, 3) := dk_153 0 12 (dk_at dksX0_tells_0 13 rfl rfl)
theorem dX0_tells_16 : decode cX0_tells 16 = .ok (.iload_n 3, 1) := dk_29 (dk_at dksX0_tells_0 16 rfl rfl)
theorem dX0_tells_17 : decode cX0_tells 17 = .ok (.iconst 0, 1) := dk_3 (dk_at dksX0_tells_0 17 rfl rfl)
theorem dX0_tells_18 : decode cX0_tells 18 = .ok (.iconst 4, 1) := dk_7 (dk_at dksX0_tells_0 18 rfl rfl)
theorem dX0_tells_19 : decode cX0_tells 19 = .ok (.invokestatic 161, 3) := dk_184 0 161 (dk_at dksX0_tells_0 19 rfl rfl)
theorem dX0_tells_22 : decode cX0_tells 22 = .ok (.ifCond .ne 5, 3) := dk_154 0 5 (dk_at dksX0_tells_1 0 rfl rfl)
theorem dX0_tells_25 : decode cX0_tells 25 = .ok (.iconst (-1), 1) := dk_2 (dk_at dksX0_tells_1 3 rfl rfl)
theorem dX0_tells_26 : decode cX0_tells 26 = .ok (.ireturn, 1) := dk_172 (dk_at dksX0_tells_1 4 rfl rfl)
theorem dX0_tells_27 : decode cX0_tells 27 = .ok (.iload_n 3, 1) := dk_29 (dk_at dksX0_tells_1 5 rfl rfl)
theorem dX0_tells_28 : decode cX0_tells 28 = .ok (.iconst 4, 1) := dk_7 (dk_at dksX0_tells_1 6 rfl rfl)
theorem dX0_tells_29 : decode cX0_tells 29 = .ok (.if_icmp .ne 19, 3) := dk_160 0 19 (dk_at dksX0_tells_1 7 rfl rfl)
theorem dX0_tells_32 : decode cX0_tells 32 = .ok (.aload_n 0, 1) := dk_42 (dk_at dksX0_tells_1 10 rfl rfl)
theorem dX0_tells_33 : decode cX0_tells 33 = .ok (.getfield 62, 3) := dk_180 0 62 (dk_at dksX0_tells_1 11 rfl rfl)
theorem dX0_tells_36 : decode cX0_tells 36 = .ok (.aload_n 0, 1) := dk_42 (dk_at dksX0_tells_1 14 rfl rfl)
theorem dX0_tells_37 : decode cX0_tells 37 = .ok (.getfield 51, 3) := dk_180 0 51 (dk_at dksX0_tells_1 15 rfl rfl)
theorem dX0_tells_40 : decode cX0_tells 40 = .ok (.iload_n 1, 1) := dk_27 (dk_at dksX0_tells_1 18 rfl rfl)
theorem dX0_tells_41 : decode cX0_tells 41 = .ok (.iload_n 2, 1) := dk_28 (dk_at dksX0_tells_1 19 rfl rfl)
theorem dX0_tells_42 : decode cX0_tells 42 = .ok (.invokevirtual 251, 3) := dk_182 0 251 (dk_at dksX0_tells_1 20 rfl rfl)
theorem dX0_tells_45 : decode cX0_tells 45 = .ok (.goto 17, 3) := dk_167 0 17 (dk_at dksX0_tells_2 0 rfl rfl)
theorem dX0_tells_48 : decode cX0_tells 48 = .ok (.aload_n 0, 1) := dk_42 (dk_at dksX0_tells_2 3 rfl rfl)
theorem dX0_tells_49 : decode cX0_tells 49 = .ok (.getfield 62, 3) := dk_180 0 62 (dk_at dksX0_tells_2 4 rfl rfl)
theorem dX0_tells_52 : decode cX0_tells 52 = .ok (.aload_n 0, 1) := dk_42 (dk_at dksX0_tells_2 7 rfl rfl)
theorem dX0_tells_53 : decode cX0_tells 53 = .ok (.getfield 51, 3) := dk_180 0 51 (dk_at dksX0_tells_2 8 rfl rfl)
theorem dX0_tells_56 : decode cX0_tells 56 = .ok (.iload_n 1, 1) := dk_27 (dk_at dksX0_tells_2 11 rfl rfl)
theorem dX0_tells_57 : decode cX0_tells 57 = .ok (.iload_n 2, 1) := dk_28 (dk_at dksX0_tells_2 12 rfl rfl)
theorem dX0_tells_58 : decode cX0_tells 58 = .ok (.iload_n 3, 1) := dk_29 (dk_at dksX0_tells_2 13 rfl rfl)
theorem dX0_tells_59 : decode cX0_tells 59 = .ok (.invokevirtual 254, 3) := dk_182 0 254 (dk_at dksX0_tells_2 14 rfl rfl)
theorem dX0_tells_62 : decode cX0_tells 62 = .ok (.ireturn, 1) := dk_172 (dk_at dksX0_tells_2 17 rfl rfl)
abbrev cX0_lift : ByteArray := prog_1_method_26_code
def yX0_lift : MethodName := ⟨RX0, "lift", "(II)Z"⟩
def dkwX0_lift_1 : List UInt8 := [180, 0, 62, 42, 180, 0, 51, 27, 28, 182, 1, 15, 4, 172]
abbrev dktX0_lift_1 : List UInt8 := dkwX0_lift_1 ++ []
def dkwX0_lift_0 : List UInt8 := [42, 27, 182, 0, 185, 153, 0, 11, 42, 28, 182, 0, 212, 154, 0, 5, 3, 172, 42, 182, 1, 12, 42]
abbrev dktX0_lift_0 : List UInt8 := dkwX0_lift_0 ++ dktX0_lift_1
theorem dksX0_lift_0 : cX0_lift.data.toList.drop 0 = dktX0_lift_0 := by decide +kernel
theorem dksX0_lift_1 : cX0_lift.data.toList.drop 23 = dktX0_lift_1 := dk_seg dksX0_lift_0 23 rfl rfl
theorem dX0_lift_0 : decode cX0_lift 0 = .ok (.aload_n 0, 1) := dk_42 (dk_at dksX0_lift_0 0 rfl rfl)
theorem dX0_lift_1 : decode cX0_lift 1 = .ok (.iload_n 1, 1) := dk_27 (dk_at dksX0_lift_0 1 rfl rfl)
theorem dX0_lift_2 : decode cX0_lift 2 = .ok (.invokevirtual 185, 3) := dk_182 0 185 (dk_at dksX0_lift_0 2 rfl rfl)
theorem dX0_lift_5 : decode cX0_lift 5 = .ok (.ifCond .eq 11, 3) := dk_153 0 11 (dk_at dksX0_lift_0 5 rfl rfl)
theorem dX0_lift_8 : decode cX0_lift 8 = .ok (.aload_n 0, 1) := dk_42 (dk_at dksX0_lift_0 8 rfl rfl)
theorem dX0_lift_9 : decode cX0_lift 9 = .ok (.iload_n 2, 1) := dk_28 (dk_at dksX0_lift_0 9 rfl rfl)
theorem dX0_lift_10 : decode cX0_lift 10 = .ok (.invokevirtual 212, 3) := dk_182 0 212 (dk_at dksX0_lift_0 10 rfl rfl)
theorem dX0_lift_13 : decode cX0_lift 13 = .ok (.ifCond .ne 5, 3) := dk_154 0 5 (dk_at dksX0_lift_0 13 rfl rfl)
theorem dX0_lift_16 : decode cX0_lift 16 = .ok (.iconst 0, 1) := dk_3 (dk_at dksX0_lift_0 16 rfl rfl)
theorem dX0_lift_17 : decode cX0_lift 17 = .ok (.ireturn, 1) := dk_172 (dk_at dksX0_lift_0 17 rfl rfl)
theorem dX0_lift_18 : decode cX0_lift 18 = .ok (.aload_n 0, 1) := dk_42 (dk_at dksX0_lift_0 18 rfl rfl)
theorem dX0_lift_19 : decode cX0_lift 19 = .ok (.invokevirtual 268, 3) := dk_182 1 12 (dk_at dksX0_lift_0 19 rfl rfl)
theorem dX0_lift_22 : decode cX0_lift 22 = .ok (.aload_n 0, 1) := dk_42 (dk_at dksX0_lift_0 22 rfl rfl)
theorem dX0_lift_23 : decode cX0_lift 23 = .ok (.getfield 62, 3) := dk_180 0 62 (dk_at dksX0_lift_1 0 rfl rfl)
theorem dX0_lift_26 : decode cX0_lift 26 = .ok (.aload_n 0, 1) := dk_42 (dk_at dksX0_lift_1 3 rfl rfl)
theorem dX0_lift_27 : decode cX0_lift 27 = .ok (.getfield 51, 3) := dk_180 0 51 (dk_at dksX0_lift_1 4 rfl rfl)
theorem dX0_lift_30 : decode cX0_lift 30 = .ok (.iload_n 1, 1) := dk_27 (dk_at dksX0_lift_1 7 rfl rfl)
theorem dX0_lift_31 : decode cX0_lift 31 = .ok (.iload_n 2, 1) := dk_28 (dk_at dksX0_lift_1 8 rfl rfl)
theorem dX0_lift_32 : decode cX0_lift 32 = .ok (.invokevirtual 271, 3) := dk_182 1 15 (dk_at dksX0_lift_1 9 rfl rfl)
theorem dX0_lift_35 : decode cX0_lift 35 = .ok (.iconst 1, 1) := dk_4 (dk_at dksX0_lift_1 12 rfl rfl)
theorem dX0_lift_36 : decode cX0_lift 36 = .ok (.ireturn, 1) := dk_172 (dk_at dksX0_lift_1 13 rfl rfl)
abbrev cX0_keeps : ByteArray := prog_1_method_25_code
def yX0_keeps : MethodName := ⟨RX0, "keeps", "()V"⟩
def dkwX0_keeps_1 : List UInt8 := [16, 40, 112, 181, 1, 2, 42, 16, 40, 42, 180, 0, 136, 4, 96, 184, 1, 9, 181, 0, 136, 177]
abbrev dktX0_keeps_1 : List UInt8 := dkwX0_keeps_1 ++ []
def dkwX0_keeps_0 : List UInt8 := [42, 180, 0, 69, 42, 180, 1, 2, 50, 42, 180, 0, 62, 182, 1, 5, 42, 42, 180, 1, 2, 4, 96]
abbrev dktX0_keeps_0 : List UInt8 := dkwX0_keeps_0 ++ dktX0_keeps_1
theorem dksX0_keeps_0 : cX0_keeps.data.toList.drop 0 = dktX0_keeps_0 := by decide +kernel
theorem dksX0_keeps_1 : cX0_keeps.data.toList.drop 23 = dktX0_keeps_1 := dk_seg dksX0_keeps_0 23 rfl rfl
theorem dX0_keeps_0 : decode cX0_keeps 0 = .ok (.aload_n 0, 1) := dk_42 (dk_at dksX0_keeps_0 0 rfl rfl)
theorem dX0_keeps_1 : decode cX0_keeps 1 = .ok (.getfield 69, 3) := dk_180 0 69 (dk_at dksX0_keeps_0 1 rfl rfl)
theorem dX0_keeps_4 : decode cX0_keeps 4 = .ok (.aload_n 0, 1) := dk_42 (dk_at dksX0_keeps_0 4 rfl rfl)
theorem dX0_keeps_5 : decode cX0_keeps 5 = .ok (.getfield 258, 3) := dk_180 1 2 (dk_at dksX0_keeps_0 5 rfl rfl)
theorem dX0_keeps_8 : decode cX0_keeps 8 = .ok (.aaload, 1) := dk_50 (dk_at dksX0_keeps_0 8 rfl rfl)
theorem dX0_keeps_9 : decode cX0_keeps 9 = .ok (.aload_n 0, 1) := dk_42 (dk_at dksX0_keeps_0 9 rfl rfl)
theorem dX0_keeps_10 : decode cX0_keeps 10 = .ok (.getfield 62, 3) := dk_180 0 62 (dk_at dksX0_keeps_0 10 rfl rfl)
theorem dX0_keeps_13 : decode cX0_keeps 13 = .ok (.invokevirtual 261, 3) := dk_182 1 5 (dk_at dksX0_keeps_0 13 rfl rfl)
theorem dX0_keeps_16 : decode cX0_keeps 16 = .ok (.aload_n 0, 1) := dk_42 (dk_at dksX0_keeps_0 16 rfl rfl)
theorem dX0_keeps_17 : decode cX0_keeps 17 = .ok (.aload_n 0, 1) := dk_42 (dk_at dksX0_keeps_0 17 rfl rfl)
theorem dX0_keeps_18 : decode cX0_keeps 18 = .ok (.getfield 258, 3) := dk_180 1 2 (dk_at dksX0_keeps_0 18 rfl rfl)
theorem dX0_keeps_21 : decode cX0_keeps 21 = .ok (.iconst 1, 1) := dk_4 (dk_at dksX0_keeps_0 21 rfl rfl)
theorem dX0_keeps_22 : decode cX0_keeps 22 = .ok (.iadd, 1) := dk_96 (dk_at dksX0_keeps_0 22 rfl rfl)
theorem dX0_keeps_23 : decode cX0_keeps 23 = .ok (.bipush 40, 2) := dk_16 40 (dk_at dksX0_keeps_1 0 rfl rfl)
theorem dX0_keeps_25 : decode cX0_keeps 25 = .ok (.irem, 1) := dk_112 (dk_at dksX0_keeps_1 2 rfl rfl)
theorem dX0_keeps_26 : decode cX0_keeps 26 = .ok (.putfield 258, 3) := dk_181 1 2 (dk_at dksX0_keeps_1 3 rfl rfl)
theorem dX0_keeps_29 : decode cX0_keeps 29 = .ok (.aload_n 0, 1) := dk_42 (dk_at dksX0_keeps_1 6 rfl rfl)
theorem dX0_keeps_30 : decode cX0_keeps 30 = .ok (.bipush 40, 2) := dk_16 40 (dk_at dksX0_keeps_1 7 rfl rfl)
theorem dX0_keeps_32 : decode cX0_keeps 32 = .ok (.aload_n 0, 1) := dk_42 (dk_at dksX0_keeps_1 9 rfl rfl)
theorem dX0_keeps_33 : decode cX0_keeps 33 = .ok (.getfield 136, 3) := dk_180 0 136 (dk_at dksX0_keeps_1 10 rfl rfl)
theorem dX0_keeps_36 : decode cX0_keeps 36 = .ok (.iconst 1, 1) := dk_4 (dk_at dksX0_keeps_1 13 rfl rfl)
theorem dX0_keeps_37 : decode cX0_keeps 37 = .ok (.iadd, 1) := dk_96 (dk_at dksX0_keeps_1 14 rfl rfl)
theorem dX0_keeps_38 : decode cX0_keeps 38 = .ok (.invokestatic 265, 3) := dk_184 1 9 (dk_at dksX0_keeps_1 15 rfl rfl)
theorem dX0_keeps_41 : decode cX0_keeps 41 = .ok (.putfield 136, 3) := dk_181 0 136 (dk_at dksX0_keeps_1 18 rfl rfl)
theorem dX0_keeps_44 : decode cX0_keeps 44 = .ok (.return_, 1) := dk_177 (dk_at dksX0_keeps_1 21 rfl rfl)
abbrev cX0_towardsBy : ByteArray := prog_1_method_4_code
def yX0_towardsBy : MethodName := ⟨RX0, "towardsBy", "(III)I"⟩
def dkwX0_towardsBy_0 : List UInt8 := [26, 27, 26, 100, 184, 0, 14, 28, 104, 96, 172]
abbrev dktX0_towardsBy_0 : List UInt8 := dkwX0_towardsBy_0 ++ []
theorem dksX0_towardsBy_0 : cX0_towardsBy.data.toList.drop 0 = dktX0_towardsBy_0 := by decide +kernel
theorem dX0_towardsBy_0 : decode cX0_towardsBy 0 = .ok (.iload_n 0, 1) := dk_26 (dk_at dksX0_towardsBy_0 0 rfl rfl)
theorem dX0_towardsBy_1 : decode cX0_towardsBy 1 = .ok (.iload_n 1, 1) := dk_27 (dk_at dksX0_towardsBy_0 1 rfl rfl)
theorem dX0_towardsBy_2 : decode cX0_towardsBy 2 = .ok (.iload_n 0, 1) := dk_26 (dk_at dksX0_towardsBy_0 2 rfl rfl)
theorem dX0_towardsBy_3 : decode cX0_towardsBy 3 = .ok (.isub, 1) := dk_100 (dk_at dksX0_towardsBy_0 3 rfl rfl)
theorem dX0_towardsBy_4 : decode cX0_towardsBy 4 = .ok (.invokestatic 14, 3) := dk_184 0 14 (dk_at dksX0_towardsBy_0 4 rfl rfl)
theorem dX0_towardsBy_7 : decode cX0_towardsBy 7 = .ok (.iload_n 2, 1) := dk_28 (dk_at dksX0_towardsBy_0 7 rfl rfl)
theorem dX0_towardsBy_8 : decode cX0_towardsBy 8 = .ok (.imul, 1) := dk_104 (dk_at dksX0_towardsBy_0 8 rfl rfl)
theorem dX0_towardsBy_9 : decode cX0_towardsBy 9 = .ok (.iadd, 1) := dk_96 (dk_at dksX0_towardsBy_0 9 rfl rfl)
theorem dX0_towardsBy_10 : decode cX0_towardsBy 10 = .ok (.ireturn, 1) := dk_172 (dk_at dksX0_towardsBy_0 10 rfl rfl)
abbrev cX0_polish : ByteArray := prog_1_method_27_code
def yX0_polish : MethodName := ⟨RX0, "polish", "(I)Z"⟩
def dkwX0_polish_1 : List UInt8 := [182, 1, 19, 4, 172]
abbrev dktX0_polish_1 : List UInt8 := dkwX0_polish_1 ++ []
def dkwX0_polish_0 : List UInt8 := [42, 27, 182, 0, 185, 154, 0, 5, 3, 172, 42, 182, 1, 12, 42, 180, 0, 62, 42, 180, 0, 51, 27]
abbrev dktX0_polish_0 : List UInt8 := dkwX0_polish_0 ++ dktX0_polish_1
theorem dksX0_polish_0 : cX0_polish.data.toList.drop 0 = dktX0_polish_0 := by decide +kernel
theorem dksX0_polish_1 : cX0_polish.data.toList.drop 23 = dktX0_polish_1 := dk_seg dksX0_polish_0 23 rfl rfl
theorem dX0_polish_0 : decode cX0_polish 0 = .ok (.aload_n 0, 1) := dk_42 (dk_at dksX0_polish_0 0 rfl rfl)
theorem dX0_polish_1 : decode cX0_polish 1 = .ok (.iload_n 1, 1) := dk_27 (dk_at dksX0_polish_0 1 rfl rfl)
theorem dX0_polish_2 : decode cX0_polish 2 = .ok (.invokevirtual 185, 3) := dk_182 0 185 (dk_at dksX0_polish_0 2 rfl rfl)
theorem dX0_polish_5 : decode cX0_polish 5 = .ok (.ifCond .ne 5, 3) := dk_154 0 5 (dk_at dksX0_polish_0 5 rfl rfl)
theorem dX0_polish_8 : decode cX0_polish 8 = .ok (.iconst 0, 1) := dk_3 (dk_at dksX0_polish_0 8 rfl rfl)
theorem dX0_polish_9 : decode cX0_polish 9 = .ok (.ireturn, 1) := dk_172 (dk_at dksX0_polish_0 9 rfl rfl)
theorem dX0_polish_10 : decode cX0_polish 10 = .ok (.aload_n 0, 1) := dk_42 (dk_at dksX0_polish_0 10 rfl rfl)
theorem dX0_polish_11 : decode cX0_polish 11 = .ok (.invokevirtual 268, 3) := dk_182 1 12 (dk_at dksX0_polish_0 11 rfl rfl)
theorem dX0_polish_14 : decode cX0_polish 14 = .ok (.aload_n 0, 1) := dk_42 (dk_at dksX0_polish_0 14 rfl rfl)
theorem dX0_polish_15 : decode cX0_polish 15 = .ok (.getfield 62, 3) := dk_180 0 62 (dk_at dksX0_polish_0 15 rfl rfl)
theorem dX0_polish_18 : decode cX0_polish 18 = .ok (.aload_n 0, 1) := dk_42 (dk_at dksX0_polish_0 18 rfl rfl)
theorem dX0_polish_19 : decode cX0_polish 19 = .ok (.getfield 51, 3) := dk_180 0 51 (dk_at dksX0_polish_0 19 rfl rfl)
theorem dX0_polish_22 : decode cX0_polish 22 = .ok (.iload_n 1, 1) := dk_27 (dk_at dksX0_polish_0 22 rfl rfl)
theorem dX0_polish_23 : decode cX0_polish 23 = .ok (.invokevirtual 275, 3) := dk_182 1 19 (dk_at dksX0_polish_1 0 rfl rfl)
theorem dX0_polish_26 : decode cX0_polish 26 = .ok (.iconst 1, 1) := dk_4 (dk_at dksX0_polish_1 3 rfl rfl)
theorem dX0_polish_27 : decode cX0_polish 27 = .ok (.ireturn, 1) := dk_172 (dk_at dksX0_polish_1 4 rfl rfl)
abbrev cX0_file : ByteArray := prog_1_method_28_code
def yX0_file : MethodName := ⟨RX0, "file", "(II)Z"⟩
def dkwX0_file_2 : List UInt8 := [172]
abbrev dktX0_file_2 : List UInt8 := dkwX0_file_2 ++ []
def dkwX0_file_1 : List UInt8 := [28, 46, 154, 0, 5, 3, 172, 42, 182, 1, 12, 42, 180, 0, 62, 180, 0, 170, 27, 50, 28, 3, 79, 4]
abbrev dktX0_file_1 : List UInt8 := dkwX0_file_1 ++ dktX0_file_2
def dkwX0_file_0 : List UInt8 := [42, 27, 182, 0, 185, 153, 0, 24, 28, 184, 0, 189, 153, 0, 17, 42, 180, 0, 62, 180, 0, 170, 27, 50]
abbrev dktX0_file_0 : List UInt8 := dkwX0_file_0 ++ dktX0_file_1
theorem dksX0_file_0 : cX0_file.data.toList.drop 0 = dktX0_file_0 := by decide +kernel
theorem dksX0_file_1 : cX0_file.data.toList.drop 24 = dktX0_file_1 := dk_seg dksX0_file_0 24 rfl rfl
theorem dksX0_file_2 : cX0_file.data.toList.drop 48 = dktX0_file_2 := dk_seg dksX0_file_1 24 rfl rfl
theorem dX0_file_0 : decode cX0_file 0 = .ok (.aload_n 0, 1) := dk_42 (dk_at dksX0_file_0 0 rfl rfl)
theorem dX0_file_1 : decode cX0_file 1 = .ok (.iload_n 1, 1) := dk_27 (dk_at dksX0_file_0 1 rfl rfl)
theorem dX0_file_2 : decode cX0_file 2 = .ok (.invokevirtual 185, 3) := dk_182 0 185 (dk_at dksX0_file_0 2 rfl rfl)
theorem dX0_file_5 : decode cX0_file 5 = .ok (.ifCond .eq 24, 3) := dk_153 0 24 (dk_at dksX0_file_0 5 rfl rfl)
theorem dX0_file_8 : decode cX0_file 8 = .ok (.iload_n 2, 1) := dk_28 (dk_at dksX0_file_0 8 rfl rfl)
theorem dX0_file_9 : decode cX0_file 9 = .ok (.invokestatic 189, 3) := dk_184 0 189 (dk_at dksX0_file_0 9 rfl rfl)
theorem dX0_file_12 : decode cX0_file 12 = .ok (.ifCond .eq 17, 3) := dk_153 0 17 (dk_at dksX0_file_0 12 rfl rfl)
theorem dX0_file_15 : decode cX0_file 15 = .ok (.aload_n 0, 1) := dk_42 (dk_at dksX0_file_0 15 rfl rfl)
theorem dX0_file_16 : decode cX0_file 16 = .ok (.getfield 62, 3) := dk_180 0 62 (dk_at dksX0_file_0 16 rfl rfl)
theorem dX0_file_19 : decode cX0_file 19 = .ok (.getfield 170, 3) := dk_180 0 170 (dk_at dksX0_file_0 19 rfl rfl)
theorem dX0_file_22 : decode cX0_file 22 = .ok (.iload_n 1, 1) := dk_27 (dk_at dksX0_file_0 22 rfl rfl)
theorem dX0_file_23 : decode cX0_file 23 = .ok (.aaload, 1) := dk_50 (dk_at dksX0_file_0 23 rfl rfl)
theorem dX0_file_24 : decode cX0_file 24 = .ok (.iload_n 2, 1) := dk_28 (dk_at dksX0_file_1 0 rfl rfl)
theorem dX0_file_25 : decode cX0_file 25 = .ok (.iaload, 1) := dk_46 (dk_at dksX0_file_1 1 rfl rfl)
theorem dX0_file_26 : decode cX0_file 26 = .ok (.ifCond .ne 5, 3) := dk_154 0 5 (dk_at dksX0_file_1 2 rfl rfl)
theorem dX0_file_29 : decode cX0_file 29 = .ok (.iconst 0, 1) := dk_3 (dk_at dksX0_file_1 5 rfl rfl)
theorem dX0_file_30 : decode cX0_file 30 = .ok (.ireturn, 1) := dk_172 (dk_at dksX0_file_1 6 rfl rfl)
theorem dX0_file_31 : decode cX0_file 31 = .ok (.aload_n 0, 1) := dk_42 (dk_at dksX0_file_1 7 rfl rfl)
theorem dX0_file_32 : decode cX0_file 32 = .ok (.invokevirtual 268, 3) := dk_182 1 12 (dk_at dksX0_file_1 8 rfl rfl)
theorem dX0_file_35 : decode cX0_file 35 = .ok (.aload_n 0, 1) := dk_42 (dk_at dksX0_file_1 11 rfl rfl)
theorem dX0_file_36 : decode cX0_file 36 = .ok (.getfield 62, 3) := dk_180 0 62 (dk_at dksX0_file_1 12 rfl rfl)
theorem dX0_file_39 : decode cX0_file 39 = .ok (.getfield 170, 3) := dk_180 0 170 (dk_at dksX0_file_1 15 rfl rfl)
theorem dX0_file_42 : decode cX0_file 42 = .ok (.iload_n 1, 1) := dk_27 (dk_at dksX0_file_1 18 rfl rfl)
theorem dX0_file_43 : decode cX0_file 43 = .ok (.aaload, 1) := dk_50 (dk_at dksX0_file_1 19 rfl rfl)
theorem dX0_file_44 : decode cX0_file 44 = .ok (.iload_n 2, 1) := dk_28 (dk_at dksX0_file_1 20 rfl rfl)
theorem dX0_file_45 : decode cX0_file 45 = .ok (.iconst 0, 1) := dk_3 (dk_at dksX0_file_1 21 rfl rfl)
theorem dX0_file_46 : decode cX0_file 46 = .ok (.iastore, 1) := dk_79 (dk_at dksX0_file_1 22 rfl rfl)
theorem dX0_file_47 : decode cX0_file 47 = .ok (.iconst 1, 1) := dk_4 (dk_at dksX0_file_1 23 rfl rfl)
theorem dX0_file_48 : decode cX0_file 48 = .ok (.ireturn, 1) := dk_172 (dk_at dksX0_file_2 0 rfl rfl)
abbrev cX0_keep : ByteArray := prog_1_method_29_code
def yX0_keep : MethodName := ⟨RX0, "keep", "(IZ)Z"⟩
def dkwX0_keep_1 : List UInt8 := [182, 1, 12, 42, 180, 0, 62, 89, 180, 1, 23, 4, 27, 120, 130, 181, 1, 23, 4, 172]
abbrev dktX0_keep_1 : List UInt8 := dkwX0_keep_1 ++ []
def dkwX0_keep_0 : List UInt8 := [42, 27, 182, 0, 221, 153, 0, 15, 42, 180, 0, 62, 27, 182, 0, 238, 28, 160, 0, 5, 3, 172, 42]
abbrev dktX0_keep_0 : List UInt8 := dkwX0_keep_0 ++ dktX0_keep_1
theorem dksX0_keep_0 : cX0_keep.data.toList.drop 0 = dktX0_keep_0 := by decide +kernel
theorem dksX0_keep_1 : cX0_keep.data.toList.drop 23 = dktX0_keep_1 := dk_seg dksX0_keep_0 23 rfl rfl
theorem dX0_keep_0 : decode cX0_keep 0 = .ok (.aload_n 0, 1) := dk_42 (dk_at dksX0_keep_0 0 rfl rfl)
theorem dX0_keep_1 : decode cX0_keep 1 = .ok (.iload_n 1, 1) := dk_27 (dk_at dksX0_keep_0 1 rfl rfl)
theorem dX0_keep_2 : decode cX0_keep 2 = .ok (.invokevirtual 221, 3) := dk_182 0 221 (dk_at dksX0_keep_0 2 rfl rfl)
theorem dX0_keep_5 : decode cX0_keep 5 = .ok (.ifCond .eq 15, 3) := dk_153 0 15 (dk_at dksX0_keep_0 5 rfl rfl)
theorem dX0_keep_8 : decode cX0_keep 8 = .ok (.aload_n 0, 1) := dk_42 (dk_at dksX0_keep_0 8 rfl rfl)
theorem dX0_keep_9 : decode cX0_keep 9 = .ok (.getfield 62, 3) := dk_180 0 62 (dk_at dksX0_keep_0 9 rfl rfl)
theorem dX0_keep_12 : decode cX0_keep 12 = .ok (.iload_n 1, 1) := dk_27 (dk_at dksX0_keep_0 12 rfl rfl)
theorem dX0_keep_13 : decode cX0_keep 13 = .ok (.invokevirtual 238, 3) := dk_182 0 238 (dk_at dksX0_keep_0 13 rfl rfl)
theorem dX0_keep_16 : decode cX0_keep 16 = .ok (.iload_n 2, 1) := dk_28 (dk_at dksX0_keep_0 16 rfl rfl)
theorem dX0_keep_17 : decode cX0_keep 17 = .ok (.if_icmp .ne 5, 3) := dk_160 0 5 (dk_at dksX0_keep_0 17 rfl rfl)
theorem dX0_keep_20 : decode cX0_keep 20 = .ok (.iconst 0, 1) := dk_3 (dk_at dksX0_keep_0 20 rfl rfl)
theorem dX0_keep_21 : decode cX0_keep 21 = .ok (.ireturn, 1) := dk_172 (dk_at dksX0_keep_0 21 rfl rfl)
theorem dX0_keep_22 : decode cX0_keep 22 = .ok (.aload_n 0, 1) := dk_42 (dk_at dksX0_keep_0 22 rfl rfl)
theorem dX0_keep_23 : decode cX0_keep 23 = .ok (.invokevirtual 268, 3) := dk_182 1 12 (dk_at dksX0_keep_1 0 rfl rfl)
theorem dX0_keep_26 : decode cX0_keep 26 = .ok (.aload_n 0, 1) := dk_42 (dk_at dksX0_keep_1 3 rfl rfl)
theorem dX0_keep_27 : decode cX0_keep 27 = .ok (.getfield 62, 3) := dk_180 0 62 (dk_at dksX0_keep_1 4 rfl rfl)
theorem dX0_keep_30 : decode cX0_keep 30 = .ok (.dup, 1) := dk_89 (dk_at dksX0_keep_1 7 rfl rfl)
theorem dX0_keep_31 : decode cX0_keep 31 = .ok (.getfield 279, 3) := dk_180 1 23 (dk_at dksX0_keep_1 8 rfl rfl)
theorem dX0_keep_34 : decode cX0_keep 34 = .ok (.iconst 1, 1) := dk_4 (dk_at dksX0_keep_1 11 rfl rfl)
theorem dX0_keep_35 : decode cX0_keep 35 = .ok (.iload_n 1, 1) := dk_27 (dk_at dksX0_keep_1 12 rfl rfl)
theorem dX0_keep_36 : decode cX0_keep 36 = .ok (.ishl, 1) := dk_120 (dk_at dksX0_keep_1 13 rfl rfl)
theorem dX0_keep_37 : decode cX0_keep 37 = .ok (.ixor, 1) := dk_130 (dk_at dksX0_keep_1 14 rfl rfl)
theorem dX0_keep_38 : decode cX0_keep 38 = .ok (.putfield 279, 3) := dk_181 1 23 (dk_at dksX0_keep_1 15 rfl rfl)
theorem dX0_keep_41 : decode cX0_keep 41 = .ok (.iconst 1, 1) := dk_4 (dk_at dksX0_keep_1 18 rfl rfl)
theorem dX0_keep_42 : decode cX0_keep 42 = .ok (.ireturn, 1) := dk_172 (dk_at dksX0_keep_1 19 rfl rfl)
abbrev cX0_days : ByteArray := prog_1_method_31_code
def yX0_days : MethodName := ⟨RX0, "days", "(I)I"⟩
def dkwX0_days_1 : List UInt8 := [180, 0, 82, 182, 1, 33, 42, 180, 0, 62, 180, 0, 241, 172]
abbrev dktX0_days_1 : List UInt8 := dkwX0_days_1 ++ []
def dkwX0_days_0 : List UInt8 := [27, 184, 1, 30, 154, 0, 5, 2, 172, 27, 158, 0, 7, 42, 182, 1, 12, 42, 42, 180, 0, 62, 27, 42]
abbrev dktX0_days_0 : List UInt8 := dkwX0_days_0 ++ dktX0_days_1
theorem dksX0_days_0 : cX0_days.data.toList.drop 0 = dktX0_days_0 := by decide +kernel
theorem dksX0_days_1 : cX0_days.data.toList.drop 24 = dktX0_days_1 := dk_seg dksX0_days_0 24 rfl rfl
theorem dX0_days_0 : decode cX0_days 0 = .ok (.iload_n 1, 1) := dk_27 (dk_at dksX0_days_0 0 rfl rfl)
theorem dX0_days_1 : decode cX0_days 1 = .ok (.invokestatic 286, 3) := dk_184 1 30 (dk_at dksX0_days_0 1 rfl rfl)
theorem dX0_days_4 : decode cX0_days 4 = .ok (.ifCond .ne 5, 3) := dk_154 0 5 (dk_at dksX0_days_0 4 rfl rfl)
theorem dX0_days_7 : decode cX0_days 7 = .ok (.iconst (-1), 1) := dk_2 (dk_at dksX0_days_0 7 rfl rfl)
theorem dX0_days_8 : decode cX0_days 8 = .ok (.ireturn, 1) := dk_172 (dk_at dksX0_days_0 8 rfl rfl)
theorem dX0_days_9 : decode cX0_days 9 = .ok (.iload_n 1, 1) := dk_27 (dk_at dksX0_days_0 9 rfl rfl)
theorem dX0_days_10 : decode cX0_days 10 = .ok (.ifCond .le 7, 3) := dk_158 0 7 (dk_at dksX0_days_0 10 rfl rfl)
theorem dX0_days_13 : decode cX0_days 13 = .ok (.aload_n 0, 1) := dk_42 (dk_at dksX0_days_0 13 rfl rfl)
theorem dX0_days_14 : decode cX0_days 14 = .ok (.invokevirtual 268, 3) := dk_182 1 12 (dk_at dksX0_days_0 14 rfl rfl)
theorem dX0_days_17 : decode cX0_days 17 = .ok (.aload_n 0, 1) := dk_42 (dk_at dksX0_days_0 17 rfl rfl)
theorem dX0_days_18 : decode cX0_days 18 = .ok (.aload_n 0, 1) := dk_42 (dk_at dksX0_days_0 18 rfl rfl)
theorem dX0_days_19 : decode cX0_days 19 = .ok (.getfield 62, 3) := dk_180 0 62 (dk_at dksX0_days_0 19 rfl rfl)
theorem dX0_days_22 : decode cX0_days 22 = .ok (.iload_n 1, 1) := dk_27 (dk_at dksX0_days_0 22 rfl rfl)
theorem dX0_days_23 : decode cX0_days 23 = .ok (.aload_n 0, 1) := dk_42 (dk_at dksX0_days_0 23 rfl rfl)
theorem dX0_days_24 : decode cX0_days 24 = .ok (.getfield 82, 3) := dk_180 0 82 (dk_at dksX0_days_1 0 rfl rfl)
theorem dX0_days_27 : decode cX0_days 27 = .ok (.invokevirtual 289, 3) := dk_182 1 33 (dk_at dksX0_days_1 3 rfl rfl)
theorem dX0_days_30 : decode cX0_days 30 = .ok (.aload_n 0, 1) := dk_42 (dk_at dksX0_days_1 6 rfl rfl)
theorem dX0_days_31 : decode cX0_days 31 = .ok (.getfield 62, 3) := dk_180 0 62 (dk_at dksX0_days_1 7 rfl rfl)
theorem dX0_days_34 : decode cX0_days 34 = .ok (.getfield 241, 3) := dk_180 0 241 (dk_at dksX0_days_1 10 rfl rfl)
theorem dX0_days_37 : decode cX0_days 37 = .ok (.ireturn, 1) := dk_172 (dk_at dksX0_days_1 13 rfl rfl)
abbrev cX0_isAhead : ByteArray := prog_1_method_18_code
def yX0_isAhead : MethodName := ⟨RX0, "isAhead", "(I)Z"⟩
def dkwX0_isAhead_0 : List UInt8 := [26, 3, 16, 60, 184, 0, 161, 172]
abbrev dktX0_isAhead_0 : List UInt8 := dkwX0_isAhead_0 ++ []
theorem dksX0_isAhead_0 : cX0_isAhead.data.toList.drop 0 = dktX0_isAhead_0 := by decide +kernel
theorem dX0_isAhead_0 : decode cX0_isAhead 0 = .ok (.iload_n 0, 1) := dk_26 (dk_at dksX0_isAhead_0 0 rfl rfl)
theorem dX0_isAhead_1 : decode cX0_isAhead 1 = .ok (.iconst 0, 1) := dk_3 (dk_at dksX0_isAhead_0 1 rfl rfl)
theorem dX0_isAhead_2 : decode cX0_isAhead 2 = .ok (.bipush 60, 2) := dk_16 60 (dk_at dksX0_isAhead_0 2 rfl rfl)
theorem dX0_isAhead_4 : decode cX0_isAhead 4 = .ok (.invokestatic 161, 3) := dk_184 0 161 (dk_at dksX0_isAhead_0 4 rfl rfl)
theorem dX0_isAhead_7 : decode cX0_isAhead 7 = .ok (.ireturn, 1) := dk_172 (dk_at dksX0_isAhead_0 7 rfl rfl)
abbrev cX0_runs : ByteArray := prog_1_method_30_code
def yX0_runs : MethodName := ⟨RX0, "runs", "(LKnockerFaces$Town;ILKnockerFaces$Sky;)V"⟩
def dkwX0_runs_1 : List UInt8 := [177]
abbrev dktX0_runs_1 : List UInt8 := dkwX0_runs_1 ++ []
def dkwX0_runs_0 : List UInt8 := [3, 54, 4, 21, 4, 28, 162, 0, 18, 43, 42, 180, 0, 51, 45, 182, 1, 26, 132, 4, 1, 167, 255, 238]
abbrev dktX0_runs_0 : List UInt8 := dkwX0_runs_0 ++ dktX0_runs_1
theorem dksX0_runs_0 : cX0_runs.data.toList.drop 0 = dktX0_runs_0 := by decide +kernel
theorem dksX0_runs_1 : cX0_runs.data.toList.drop 24 = dktX0_runs_1 := dk_seg dksX0_runs_0 24 rfl rfl
theorem dX0_runs_0 : decode cX0_runs 0 = .ok (.iconst 0, 1) := dk_3 (dk_at dksX0_runs_0 0 rfl rfl)
theorem dX0_runs_1 : decode cX0_runs 1 = .ok (.istore 4, 2) := dk_54 4 (dk_at dksX0_runs_0 1 rfl rfl)
theorem dX0_runs_3 : decode cX0_runs 3 = .ok (.iload 4, 2) := dk_21 4 (dk_at dksX0_runs_0 3 rfl rfl)
theorem dX0_runs_5 : decode cX0_runs 5 = .ok (.iload_n 2, 1) := dk_28 (dk_at dksX0_runs_0 5 rfl rfl)
theorem dX0_runs_6 : decode cX0_runs 6 = .ok (.if_icmp .ge 18, 3) := dk_162 0 18 (dk_at dksX0_runs_0 6 rfl rfl)
theorem dX0_runs_9 : decode cX0_runs 9 = .ok (.aload_n 1, 1) := dk_43 (dk_at dksX0_runs_0 9 rfl rfl)
theorem dX0_runs_10 : decode cX0_runs 10 = .ok (.aload_n 0, 1) := dk_42 (dk_at dksX0_runs_0 10 rfl rfl)
theorem dX0_runs_11 : decode cX0_runs 11 = .ok (.getfield 51, 3) := dk_180 0 51 (dk_at dksX0_runs_0 11 rfl rfl)
theorem dX0_runs_14 : decode cX0_runs 14 = .ok (.aload_n 3, 1) := dk_45 (dk_at dksX0_runs_0 14 rfl rfl)
theorem dX0_runs_15 : decode cX0_runs 15 = .ok (.invokevirtual 282, 3) := dk_182 1 26 (dk_at dksX0_runs_0 15 rfl rfl)
theorem dX0_runs_18 : decode cX0_runs 18 = .ok (.iinc 4 1, 3) := dk_132 4 1 (dk_at dksX0_runs_0 18 rfl rfl)
theorem dX0_runs_21 : decode cX0_runs 21 = .ok (.goto (-18), 3) := dk_167 255 238 (dk_at dksX0_runs_0 21 rfl rfl)
theorem dX0_runs_24 : decode cX0_runs 24 = .ok (.return_, 1) := dk_177 (dk_at dksX0_runs_1 0 rfl rfl)
abbrev cX0_lot : ByteArray := prog_1_method_2_code
def yX0_lot : MethodName := ⟨RX0, "lot", "(III)I"⟩
def dkwX0_lot_0 : List UInt8 := [26, 17, 0, 151, 184, 0, 2, 27, 184, 0, 2, 4, 124, 28, 112, 172]
abbrev dktX0_lot_0 : List UInt8 := dkwX0_lot_0 ++ []
theorem dksX0_lot_0 : cX0_lot.data.toList.drop 0 = dktX0_lot_0 := by decide +kernel
theorem dX0_lot_0 : decode cX0_lot 0 = .ok (.iload_n 0, 1) := dk_26 (dk_at dksX0_lot_0 0 rfl rfl)
theorem dX0_lot_1 : decode cX0_lot 1 = .ok (.sipush 151, 3) := dk_17 0 151 (dk_at dksX0_lot_0 1 rfl rfl)
theorem dX0_lot_4 : decode cX0_lot 4 = .ok (.invokestatic 2, 3) := dk_184 0 2 (dk_at dksX0_lot_0 4 rfl rfl)
theorem dX0_lot_7 : decode cX0_lot 7 = .ok (.iload_n 1, 1) := dk_27 (dk_at dksX0_lot_0 7 rfl rfl)
theorem dX0_lot_8 : decode cX0_lot 8 = .ok (.invokestatic 2, 3) := dk_184 0 2 (dk_at dksX0_lot_0 8 rfl rfl)
theorem dX0_lot_11 : decode cX0_lot 11 = .ok (.iconst 1, 1) := dk_4 (dk_at dksX0_lot_0 11 rfl rfl)
theorem dX0_lot_12 : decode cX0_lot 12 = .ok (.iushr, 1) := dk_124 (dk_at dksX0_lot_0 12 rfl rfl)
theorem dX0_lot_13 : decode cX0_lot 13 = .ok (.iload_n 2, 1) := dk_28 (dk_at dksX0_lot_0 13 rfl rfl)
theorem dX0_lot_14 : decode cX0_lot 14 = .ok (.irem, 1) := dk_112 (dk_at dksX0_lot_0 14 rfl rfl)
theorem dX0_lot_15 : decode cX0_lot 15 = .ok (.ireturn, 1) := dk_172 (dk_at dksX0_lot_0 15 rfl rfl)
abbrev cX0_mixed : ByteArray := prog_1_method_1_code
def yX0_mixed : MethodName := ⟨RX0, "mixed", "(II)I"⟩
def dkwX0_mixed_0 : List UInt8 := [26, 27, 130, 18, 1, 104, 17, 48, 57, 96, 61, 28, 28, 16, 15, 124, 130, 172]
abbrev dktX0_mixed_0 : List UInt8 := dkwX0_mixed_0 ++ []
theorem dksX0_mixed_0 : cX0_mixed.data.toList.drop 0 = dktX0_mixed_0 := by decide +kernel
theorem dX0_mixed_0 : decode cX0_mixed 0 = .ok (.iload_n 0, 1) := dk_26 (dk_at dksX0_mixed_0 0 rfl rfl)
theorem dX0_mixed_1 : decode cX0_mixed 1 = .ok (.iload_n 1, 1) := dk_27 (dk_at dksX0_mixed_0 1 rfl rfl)
theorem dX0_mixed_2 : decode cX0_mixed 2 = .ok (.ixor, 1) := dk_130 (dk_at dksX0_mixed_0 2 rfl rfl)
theorem dX0_mixed_3 : decode cX0_mixed 3 = .ok (.ldc 1, 2) := dk_18 1 (dk_at dksX0_mixed_0 3 rfl rfl)
theorem dX0_mixed_5 : decode cX0_mixed 5 = .ok (.imul, 1) := dk_104 (dk_at dksX0_mixed_0 5 rfl rfl)
theorem dX0_mixed_6 : decode cX0_mixed 6 = .ok (.sipush 12345, 3) := dk_17 48 57 (dk_at dksX0_mixed_0 6 rfl rfl)
theorem dX0_mixed_9 : decode cX0_mixed 9 = .ok (.iadd, 1) := dk_96 (dk_at dksX0_mixed_0 9 rfl rfl)
theorem dX0_mixed_10 : decode cX0_mixed 10 = .ok (.istore_n 2, 1) := dk_61 (dk_at dksX0_mixed_0 10 rfl rfl)
theorem dX0_mixed_11 : decode cX0_mixed 11 = .ok (.iload_n 2, 1) := dk_28 (dk_at dksX0_mixed_0 11 rfl rfl)
theorem dX0_mixed_12 : decode cX0_mixed 12 = .ok (.iload_n 2, 1) := dk_28 (dk_at dksX0_mixed_0 12 rfl rfl)
theorem dX0_mixed_13 : decode cX0_mixed 13 = .ok (.bipush 15, 2) := dk_16 15 (dk_at dksX0_mixed_0 13 rfl rfl)
theorem dX0_mixed_15 : decode cX0_mixed 15 = .ok (.iushr, 1) := dk_124 (dk_at dksX0_mixed_0 15 rfl rfl)
theorem dX0_mixed_16 : decode cX0_mixed 16 = .ok (.ixor, 1) := dk_130 (dk_at dksX0_mixed_0 16 rfl rfl)
theorem dX0_mixed_17 : decode cX0_mixed 17 = .ok (.ireturn, 1) := dk_172 (dk_at dksX0_mixed_0 17 rfl rfl)
abbrev cX0_undo : ByteArray := prog_1_method_32_code
def yX0_undo : MethodName := ⟨RX0, "undo", "()Z"⟩
def dkwX0_undo_2 : List UInt8 := [182, 1, 5, 4, 172]
abbrev dktX0_undo_2 : List UInt8 := dkwX0_undo_2 ++ []
def dkwX0_undo_1 : List UInt8 := [16, 40, 96, 4, 100, 16, 40, 112, 181, 1, 2, 42, 180, 0, 62, 42, 180, 0, 69, 42, 180, 1, 2, 50]
abbrev dktX0_undo_1 : List UInt8 := dkwX0_undo_1 ++ dktX0_undo_2
def dkwX0_undo_0 : List UInt8 := [42, 180, 0, 136, 154, 0, 5, 3, 172, 42, 89, 180, 0, 136, 4, 100, 181, 0, 136, 42, 42, 180, 1, 2]
abbrev dktX0_undo_0 : List UInt8 := dkwX0_undo_0 ++ dktX0_undo_1
theorem dksX0_undo_0 : cX0_undo.data.toList.drop 0 = dktX0_undo_0 := by decide +kernel
theorem dksX0_undo_1 : cX0_undo.data.toList.drop 24 = dktX0_undo_1 := dk_seg dksX0_undo_0 24 rfl rfl
theorem dksX0_undo_2 : cX0_undo.data.toList.drop 48 = dktX0_undo_2 := dk_seg dksX0_undo_1 24 rfl rfl
theorem dX0_undo_0 : decode cX0_undo 0 = .ok (.aload_n 0, 1) := dk_42 (dk_at dksX0_undo_0 0 rfl rfl)
theorem dX0_undo_1 : decode cX0_undo 1 = .ok (.getfield 136, 3) := dk_180 0 136 (dk_at dksX0_undo_0 1 rfl rfl)
theorem dX0_undo_4 : decode cX0_undo 4 = .ok (.ifCond .ne 5, 3) := dk_154 0 5 (dk_at dksX0_undo_0 4 rfl rfl)
theorem dX0_undo_7 : decode cX0_undo 7 = .ok (.iconst 0, 1) := dk_3 (dk_at dksX0_undo_0 7 rfl rfl)
theorem dX0_undo_8 : decode cX0_undo 8 = .ok (.ireturn, 1) := dk_172 (dk_at dksX0_undo_0 8 rfl rfl)
theorem dX0_undo_9 : decode cX0_undo 9 = .ok (.aload_n 0, 1) := dk_42 (dk_at dksX0_undo_0 9 rfl rfl)
theorem dX0_undo_10 : decode cX0_undo 10 = .ok (.dup, 1) := dk_89 (dk_at dksX0_undo_0 10 rfl rfl)
theorem dX0_undo_11 : decode cX0_undo 11 = .ok (.getfield 136, 3) := dk_180 0 136 (dk_at dksX0_undo_0 11 rfl rfl)
theorem dX0_undo_14 : decode cX0_undo 14 = .ok (.iconst 1, 1) := dk_4 (dk_at dksX0_undo_0 14 rfl rfl)
theorem dX0_undo_15 : decode cX0_undo 15 = .ok (.isub, 1) := dk_100 (dk_at dksX0_undo_0 15 rfl rfl)
theorem dX0_undo_16 : decode cX0_undo 16 = .ok (.putfield 136, 3) := dk_181 0 136 (dk_at dksX0_undo_0 16 rfl rfl)
theorem dX0_undo_19 : decode cX0_undo 19 = .ok (.aload_n 0, 1) := dk_42 (dk_at dksX0_undo_0 19 rfl rfl)
theorem dX0_undo_20 : decode cX0_undo 20 = .ok (.aload_n 0, 1) := dk_42 (dk_at dksX0_undo_0 20 rfl rfl)
theorem dX0_undo_21 : decode cX0_undo 21 = .ok (.getfield 258, 3) := dk_180 1 2 (dk_at dksX0_undo_0 21 rfl rfl)
theorem dX0_undo_24 : decode cX0_undo 24 = .ok (.bipush 40, 2) := dk_16 40 (dk_at dksX0_undo_1 0 rfl rfl)
theorem dX0_undo_26 : decode cX0_undo 26 = .ok (.iadd, 1) := dk_96 (dk_at dksX0_undo_1 2 rfl rfl)
theorem dX0_undo_27 : decode cX0_undo 27 = .ok (.iconst 1, 1) := dk_4 (dk_at dksX0_undo_1 3 rfl rfl)
theorem dX0_undo_28 : decode cX0_undo 28 = .ok (.isub, 1) := dk_100 (dk_at dksX0_undo_1 4 rfl rfl)
theorem dX0_undo_29 : decode cX0_undo 29 = .ok (.bipush 40, 2) := dk_16 40 (dk_at dksX0_undo_1 5 rfl rfl)
theorem dX0_undo_31 : decode cX0_undo 31 = .ok (.irem, 1) := dk_112 (dk_at dksX0_undo_1 7 rfl rfl)
theorem dX0_undo_32 : decode cX0_undo 32 = .ok (.putfield 258, 3) := dk_181 1 2 (dk_at dksX0_undo_1 8 rfl rfl)
theorem dX0_undo_35 : decode cX0_undo 35 = .ok (.aload_n 0, 1) := dk_42 (dk_at dksX0_undo_1 11 rfl rfl)
theorem dX0_undo_36 : decode cX0_undo 36 = .ok (.getfield 62, 3) := dk_180 0 62 (dk_at dksX0_undo_1 12 rfl rfl)
theorem dX0_undo_39 : decode cX0_undo 39 = .ok (.aload_n 0, 1) := dk_42 (dk_at dksX0_undo_1 15 rfl rfl)
theorem dX0_undo_40 : decode cX0_undo 40 = .ok (.getfield 69, 3) := dk_180 0 69 (dk_at dksX0_undo_1 16 rfl rfl)
theorem dX0_undo_43 : decode cX0_undo 43 = .ok (.aload_n 0, 1) := dk_42 (dk_at dksX0_undo_1 19 rfl rfl)
theorem dX0_undo_44 : decode cX0_undo 44 = .ok (.getfield 258, 3) := dk_180 1 2 (dk_at dksX0_undo_1 20 rfl rfl)
theorem dX0_undo_47 : decode cX0_undo 47 = .ok (.aaload, 1) := dk_50 (dk_at dksX0_undo_1 23 rfl rfl)
theorem dX0_undo_48 : decode cX0_undo 48 = .ok (.invokevirtual 261, 3) := dk_182 1 5 (dk_at dksX0_undo_2 0 rfl rfl)
theorem dX0_undo_51 : decode cX0_undo 51 = .ok (.iconst 1, 1) := dk_4 (dk_at dksX0_undo_2 3 rfl rfl)
theorem dX0_undo_52 : decode cX0_undo 52 = .ok (.ireturn, 1) := dk_172 (dk_at dksX0_undo_2 4 rfl rfl)
abbrev cX0_lifts : ByteArray := prog_1_method_34_code
def yX0_lifts : MethodName := ⟨RX0, "lifts", "(III)I"⟩
def dkwX0_lifts_4 : List UInt8 := [167, 255, 208, 16, 254, 172]
abbrev dktX0_lifts_4 : List UInt8 := dkwX0_lifts_4 ++ []
def dkwX0_lifts_3 : List UInt8 := [167, 0, 19, 29, 21, 4, 162, 0, 12, 42, 180, 0, 96, 29, 46, 167, 0, 4, 2, 172, 132, 4, 1]
abbrev dktX0_lifts_3 : List UInt8 := dkwX0_lifts_3 ++ dktX0_lifts_4
def dkwX0_lifts_2 : List UInt8 := [163, 0, 48, 42, 3, 21, 4, 27, 28, 182, 1, 37, 153, 0, 30, 29, 2, 160, 0, 8, 21, 4]
abbrev dktX0_lifts_2 : List UInt8 := dkwX0_lifts_2 ++ dktX0_lifts_3
def dkwX0_lifts_1 : List UInt8 := [154, 0, 5, 2, 172, 42, 180, 0, 76, 3, 50, 42, 180, 0, 62, 182, 1, 5, 3, 54, 4, 21, 4, 7]
abbrev dktX0_lifts_1 : List UInt8 := dkwX0_lifts_1 ++ dktX0_lifts_2
def dkwX0_lifts_0 : List UInt8 := [42, 27, 182, 0, 185, 153, 0, 20, 42, 28, 182, 0, 212, 153, 0, 12, 29, 2, 6, 184, 0, 161]
abbrev dktX0_lifts_0 : List UInt8 := dkwX0_lifts_0 ++ dktX0_lifts_1
theorem dksX0_lifts_0 : cX0_lifts.data.toList.drop 0 = dktX0_lifts_0 := by decide +kernel
theorem dksX0_lifts_1 : cX0_lifts.data.toList.drop 22 = dktX0_lifts_1 := dk_seg dksX0_lifts_0 22 rfl rfl
theorem dksX0_lifts_2 : cX0_lifts.data.toList.drop 46 = dktX0_lifts_2 := dk_seg dksX0_lifts_1 24 rfl rfl
theorem dksX0_lifts_3 : cX0_lifts.data.toList.drop 68 = dktX0_lifts_3 := dk_seg dksX0_lifts_2 22 rfl rfl
theorem dksX0_lifts_4 : cX0_lifts.data.toList.drop 91 = dktX0_lifts_4 := dk_seg dksX0_lifts_3 23 rfl rfl
theorem dX0_lifts_0 : decode cX0_lifts 0 = .ok (.aload_n 0, 1) := dk_42 (dk_at dksX0_lifts_0 0 rfl rfl)
theorem dX0_lifts_1 : decode cX0_lifts 1 = .ok (.iload_n 1, 1) := dk_27 (dk_at dksX0_lifts_0 1 rfl rfl)
theorem dX0_lifts_2 : decode cX0_lifts 2 = .ok (.invokevirtual 185, 3) := dk_182 0 185 (dk_at dksX0_lifts_0 2 rfl rfl)
theorem dX0_lifts_5 : decode cX0_lifts 5 = .ok (.ifCond .eq 20, 3) := dk_153 0 20 (dk_at dksX0_lifts_0 5 rfl rfl)
theorem dX0_lifts_8 : decode cX0_lifts 8 = .ok (.aload_n 0, 1) := dk_42 (dk_at dksX0_lifts_0 8 rfl rfl)
theorem dX0_lifts_9 : decode cX0_lifts 9 = .ok (.iload_n 2, 1) := dk_28 (dk_at dksX0_lifts_0 9 rfl rfl)
theorem dX0_lifts_10 : decode cX0_lifts 10 = .ok (.invokevirtual 212, 3) := dk_182 0 212 (dk_at dksX0_lifts_0 10 rfl rfl)
theorem dX0_lifts_13 : decode cX0_lifts 13 = .ok (.ifCond .eq 12, 3) := dk_153 0 12 (dk_at dksX0_lifts_0 13 rfl rfl)
theorem dX0_lifts_16 : decode cX0_lifts 16 = .ok (.iload_n 3, 1) := dk_29 (dk_at dksX0_lifts_0 16 rfl rfl)
theorem dX0_lifts_17 : decode cX0_lifts 17 = .ok (.iconst (-1), 1) := dk_2 (dk_at dksX0_lifts_0 17 rfl rfl)
theorem dX0_lifts_18 : decode cX0_lifts 18 = .ok (.iconst 3, 1) := dk_6 (dk_at dksX0_lifts_0 18 rfl rfl)
theorem dX0_lifts_19 : decode cX0_lifts 19 = .ok (.invokestatic 161, 3) := dk_184 0 161 (dk_at dksX0_lifts_0 19 rfl rfl)
theorem dX0_lifts_22 : decode cX0_lifts 22 = .ok (.ifCond .ne 5, 3) := dk_154 0 5 (dk_at dksX0_lifts_1 0 rfl rfl)
theorem dX0_lifts_25 : decode cX0_lifts 25 = .ok (.iconst (-1), 1) := dk_2 (dk_at dksX0_lifts_1 3 rfl rfl)
theorem dX0_lifts_26 : decode cX0_lifts 26 = .ok (.ireturn, 1) := dk_172 (dk_at dksX0_lifts_1 4 rfl rfl)
theorem dX0_lifts_27 : decode cX0_lifts 27 = .ok (.aload_n 0, 1) := dk_42 (dk_at dksX0_lifts_1 5 rfl rfl)
theorem dX0_lifts_28 : decode cX0_lifts 28 = .ok (.getfield 76, 3) := dk_180 0 76 (dk_at dksX0_lifts_1 6 rfl rfl)
theorem dX0_lifts_31 : decode cX0_lifts 31 = .ok (.iconst 0, 1) := dk_3 (dk_at dksX0_lifts_1 9 rfl rfl)
theorem dX0_lifts_32 : decode cX0_lifts 32 = .ok (.aaload, 1) := dk_50 (dk_at dksX0_lifts_1 10 rfl rfl)
theorem dX0_lifts_33 : decode cX0_lifts 33 = .ok (.aload_n 0, 1) := dk_42 (dk_at dksX0_lifts_1 11 rfl rfl)
theorem dX0_lifts_34 : decode cX0_lifts 34 = .ok (.getfield 62, 3) := dk_180 0 62 (dk_at dksX0_lifts_1 12 rfl rfl)
theorem dX0_lifts_37 : decode cX0_lifts 37 = .ok (.invokevirtual 261, 3) := dk_182 1 5 (dk_at dksX0_lifts_1 15 rfl rfl)
theorem dX0_lifts_40 : decode cX0_lifts 40 = .ok (.iconst 0, 1) := dk_3 (dk_at dksX0_lifts_1 18 rfl rfl)
theorem dX0_lifts_41 : decode cX0_lifts 41 = .ok (.istore 4, 2) := dk_54 4 (dk_at dksX0_lifts_1 19 rfl rfl)
theorem dX0_lifts_43 : decode cX0_lifts 43 = .ok (.iload 4, 2) := dk_21 4 (dk_at dksX0_lifts_1 21 rfl rfl)
theorem dX0_lifts_45 : decode cX0_lifts 45 = .ok (.iconst 4, 1) := dk_7 (dk_at dksX0_lifts_1 23 rfl rfl)
theorem dX0_lifts_46 : decode cX0_lifts 46 = .ok (.if_icmp .gt 48, 3) := dk_163 0 48 (dk_at dksX0_lifts_2 0 rfl rfl)
theorem dX0_lifts_49 : decode cX0_lifts 49 = .ok (.aload_n 0, 1) := dk_42 (dk_at dksX0_lifts_2 3 rfl rfl)
theorem dX0_lifts_50 : decode cX0_lifts 50 = .ok (.iconst 0, 1) := dk_3 (dk_at dksX0_lifts_2 4 rfl rfl)
theorem dX0_lifts_51 : decode cX0_lifts 51 = .ok (.iload 4, 2) := dk_21 4 (dk_at dksX0_lifts_2 5 rfl rfl)
theorem dX0_lifts_53 : decode cX0_lifts 53 = .ok (.iload_n 1, 1) := dk_27 (dk_at dksX0_lifts_2 7 rfl rfl)
theorem dX0_lifts_54 : decode cX0_lifts 54 = .ok (.iload_n 2, 1) := dk_28 (dk_at dksX0_lifts_2 8 rfl rfl)
theorem dX0_lifts_55 : decode cX0_lifts 55 = .ok (.invokevirtual 293, 3) := dk_182 1 37 (dk_at dksX0_lifts_2 9 rfl rfl)
theorem dX0_lifts_58 : decode cX0_lifts 58 = .ok (.ifCond .eq 30, 3) := dk_153 0 30 (dk_at dksX0_lifts_2 12 rfl rfl)
theorem dX0_lifts_61 : decode cX0_lifts 61 = .ok (.iload_n 3, 1) := dk_29 (dk_at dksX0_lifts_2 15 rfl rfl)
theorem dX0_lifts_62 : decode cX0_lifts 62 = .ok (.iconst (-1), 1) := dk_2 (dk_at dksX0_lifts_2 16 rfl rfl)
theorem dX0_lifts_63 : decode cX0_lifts 63 = .ok (.if_icmp .ne 8, 3) := dk_160 0 8 (dk_at dksX0_lifts_2 17 rfl rfl)
theorem dX0_lifts_66 : decode cX0_lifts 66 = .ok (.iload 4, 2) := dk_21 4 (dk_at dksX0_lifts_2 20 rfl rfl)
theorem dX0_lifts_68 : decode cX0_lifts 68 = .ok (.goto 19, 3) := dk_167 0 19 (dk_at dksX0_lifts_3 0 rfl rfl)
theorem dX0_lifts_71 : decode cX0_lifts 71 = .ok (.iload_n 3, 1) := dk_29 (dk_at dksX0_lifts_3 3 rfl rfl)
theorem dX0_lifts_72 : decode cX0_lifts 72 = .ok (.iload 4, 2) := dk_21 4 (dk_at dksX0_lifts_3 4 rfl rfl)
theorem dX0_lifts_74 : decode cX0_lifts 74 = .ok (.if_icmp .ge 12, 3) := dk_162 0 12 (dk_at dksX0_lifts_3 6 rfl rfl)
theorem dX0_lifts_77 : decode cX0_lifts 77 = .ok (.aload_n 0, 1) := dk_42 (dk_at dksX0_lifts_3 9 rfl rfl)
theorem dX0_lifts_78 : decode cX0_lifts 78 = .ok (.getfield 96, 3) := dk_180 0 96 (dk_at dksX0_lifts_3 10 rfl rfl)
theorem dX0_lifts_81 : decode cX0_lifts 81 = .ok (.iload_n 3, 1) := dk_29 (dk_at dksX0_lifts_3 13 rfl rfl)
theorem dX0_lifts_82 : decode cX0_lifts 82 = .ok (.iaload, 1) := dk_46 (dk_at dksX0_lifts_3 14 rfl rfl)
theorem dX0_lifts_83 : decode cX0_lifts 83 = .ok (.goto 4, 3) := dk_167 0 4 (dk_at dksX0_lifts_3 15 rfl rfl)
theorem dX0_lifts_86 : decode cX0_lifts 86 = .ok (.iconst (-1), 1) := dk_2 (dk_at dksX0_lifts_3 18 rfl rfl)
theorem dX0_lifts_87 : decode cX0_lifts 87 = .ok (.ireturn, 1) := dk_172 (dk_at dksX0_lifts_3 19 rfl rfl)
theorem dX0_lifts_88 : decode cX0_lifts 88 = .ok (.iinc 4 1, 3) := dk_132 4 1 (dk_at dksX0_lifts_3 20 rfl rfl)
theorem dX0_lifts_91 : decode cX0_lifts 91 = .ok (.goto (-48), 3) := dk_167 255 208 (dk_at dksX0_lifts_4 0 rfl rfl)
theorem dX0_lifts_94 : decode cX0_lifts 94 = .ok (.bipush (-2), 2) := dk_16 254 (dk_at dksX0_lifts_4 3 rfl rfl)
theorem dX0_lifts_96 : decode cX0_lifts 96 = .ok (.ireturn, 1) := dk_172 (dk_at dksX0_lifts_4 5 rfl rfl)
abbrev cX0_laysLifts : ByteArray := prog_1_method_33_code
def yX0_laysLifts : MethodName := ⟨RX0, "laysLifts", "(IIII)Z"⟩
def dkwX0_laysLifts_4 : List UInt8 := [182, 1, 37, 153, 0, 5, 4, 172, 132, 5, 1, 167, 255, 185, 3, 172]
abbrev dktX0_laysLifts_4 : List UInt8 := dkwX0_laysLifts_4 ++ []
def dkwX0_laysLifts_3 : List UInt8 := [27, 4, 96, 50, 42, 180, 0, 51, 29, 21, 5, 182, 1, 15, 42, 27, 4, 96, 28, 29, 21, 4]
abbrev dktX0_laysLifts_3 : List UInt8 := dkwX0_laysLifts_3 ++ dktX0_laysLifts_4
def dkwX0_laysLifts_2 : List UInt8 := [21, 5, 79, 42, 180, 0, 76, 27, 4, 96, 50, 42, 180, 0, 76, 27, 50, 182, 1, 5, 42, 180, 0, 76]
abbrev dktX0_laysLifts_2 : List UInt8 := dkwX0_laysLifts_2 ++ dktX0_laysLifts_3
def dkwX0_laysLifts_1 : List UInt8 := [4, 167, 0, 4, 3, 172, 3, 54, 5, 21, 5, 42, 182, 0, 165, 162, 0, 68, 42, 180, 0, 96, 27]
abbrev dktX0_laysLifts_1 : List UInt8 := dkwX0_laysLifts_1 ++ dktX0_laysLifts_2
def dkwX0_laysLifts_0 : List UInt8 := [27, 28, 160, 0, 28, 42, 180, 0, 76, 27, 50, 42, 180, 0, 51, 29, 182, 0, 204, 21, 4, 160, 0, 7]
abbrev dktX0_laysLifts_0 : List UInt8 := dkwX0_laysLifts_0 ++ dktX0_laysLifts_1
theorem dksX0_laysLifts_0 : cX0_laysLifts.data.toList.drop 0 = dktX0_laysLifts_0 := by decide +kernel
theorem dksX0_laysLifts_1 : cX0_laysLifts.data.toList.drop 24 = dktX0_laysLifts_1 := dk_seg dksX0_laysLifts_0 24 rfl rfl
theorem dksX0_laysLifts_2 : cX0_laysLifts.data.toList.drop 47 = dktX0_laysLifts_2 := dk_seg dksX0_laysLifts_1 23 rfl rfl
theorem dksX0_laysLifts_3 : cX0_laysLifts.data.toList.drop 71 = dktX0_laysLifts_3 := dk_seg dksX0_laysLifts_2 24 rfl rfl
theorem dksX0_laysLifts_4 : cX0_laysLifts.data.toList.drop 93 = dktX0_laysLifts_4 := dk_seg dksX0_laysLifts_3 22 rfl rfl
theorem dX0_laysLifts_0 : decode cX0_laysLifts 0 = .ok (.iload_n 1, 1) := dk_27 (dk_at dksX0_laysLifts_0 0 rfl rfl)
theorem dX0_laysLifts_1 : decode cX0_laysLifts 1 = .ok (.iload_n 2, 1) := dk_28 (dk_at dksX0_laysLifts_0 1 rfl rfl)
theorem dX0_laysLifts_2 : decode cX0_laysLifts 2 = .ok (.if_icmp .ne 28, 3) := dk_160 0 28 (dk_at dksX0_laysLifts_0 2 rfl rfl)
theorem dX0_laysLifts_5 : decode cX0_laysLifts 5 = .ok (.aload_n 0, 1) := dk_42 (dk_at dksX0_laysLifts_0 5 rfl rfl)
theorem dX0_laysLifts_6 : decode cX0_laysLifts 6 = .ok (.getfield 76, 3) := dk_180 0 76 (dk_at dksX0_laysLifts_0 6 rfl rfl)
theorem dX0_laysLifts_9 : decode cX0_laysLifts 9 = .ok (.iload_n 1, 1) := dk_27 (dk_at dksX0_laysLifts_0 9 rfl rfl)
theorem dX0_laysLifts_10 : decode cX0_laysLifts 10 = .ok (.aaload, 1) := dk_50 (dk_at dksX0_laysLifts_0 10 rfl rfl)
theorem dX0_laysLifts_11 : decode cX0_laysLifts 11 = .ok (.aload_n 0, 1) := dk_42 (dk_at dksX0_laysLifts_0 11 rfl rfl)
theorem dX0_laysLifts_12 : decode cX0_laysLifts 12 = .ok (.getfield 51, 3) := dk_180 0 51 (dk_at dksX0_laysLifts_0 12 rfl rfl)
theorem dX0_laysLifts_15 : decode cX0_laysLifts 15 = .ok (.iload_n 3, 1) := dk_29 (dk_at dksX0_laysLifts_0 15 rfl rfl)
theorem dX0_laysLifts_16 : decode cX0_laysLifts 16 = .ok (.invokevirtual 204, 3) := dk_182 0 204 (dk_at dksX0_laysLifts_0 16 rfl rfl)
theorem dX0_laysLifts_19 : decode cX0_laysLifts 19 = .ok (.iload 4, 2) := dk_21 4 (dk_at dksX0_laysLifts_0 19 rfl rfl)
theorem dX0_laysLifts_21 : decode cX0_laysLifts 21 = .ok (.if_icmp .ne 7, 3) := dk_160 0 7 (dk_at dksX0_laysLifts_0 21 rfl rfl)
theorem dX0_laysLifts_24 : decode cX0_laysLifts 24 = .ok (.iconst 1, 1) := dk_4 (dk_at dksX0_laysLifts_1 0 rfl rfl)
theorem dX0_laysLifts_25 : decode cX0_laysLifts 25 = .ok (.goto 4, 3) := dk_167 0 4 (dk_at dksX0_laysLifts_1 1 rfl rfl)
theorem dX0_laysLifts_28 : decode cX0_laysLifts 28 = .ok (.iconst 0, 1) := dk_3 (dk_at dksX0_laysLifts_1 4 rfl rfl)
theorem dX0_laysLifts_29 : decode cX0_laysLifts 29 = .ok (.ireturn, 1) := dk_172 (dk_at dksX0_laysLifts_1 5 rfl rfl)
theorem dX0_laysLifts_30 : decode cX0_laysLifts 30 = .ok (.iconst 0, 1) := dk_3 (dk_at dksX0_laysLifts_1 6 rfl rfl)
theorem dX0_laysLifts_31 : decode cX0_laysLifts 31 = .ok (.istore 5, 2) := dk_54 5 (dk_at dksX0_laysLifts_1 7 rfl rfl)
theorem dX0_laysLifts_33 : decode cX0_laysLifts 33 = .ok (.iload 5, 2) := dk_21 5 (dk_at dksX0_laysLifts_1 9 rfl rfl)
theorem dX0_laysLifts_35 : decode cX0_laysLifts 35 = .ok (.aload_n 0, 1) := dk_42 (dk_at dksX0_laysLifts_1 11 rfl rfl)
theorem dX0_laysLifts_36 : decode cX0_laysLifts 36 = .ok (.invokevirtual 165, 3) := dk_182 0 165 (dk_at dksX0_laysLifts_1 12 rfl rfl)
theorem dX0_laysLifts_39 : decode cX0_laysLifts 39 = .ok (.if_icmp .ge 68, 3) := dk_162 0 68 (dk_at dksX0_laysLifts_1 15 rfl rfl)
theorem dX0_laysLifts_42 : decode cX0_laysLifts 42 = .ok (.aload_n 0, 1) := dk_42 (dk_at dksX0_laysLifts_1 18 rfl rfl)
theorem dX0_laysLifts_43 : decode cX0_laysLifts 43 = .ok (.getfield 96, 3) := dk_180 0 96 (dk_at dksX0_laysLifts_1 19 rfl rfl)
theorem dX0_laysLifts_46 : decode cX0_laysLifts 46 = .ok (.iload_n 1, 1) := dk_27 (dk_at dksX0_laysLifts_1 22 rfl rfl)
theorem dX0_laysLifts_47 : decode cX0_laysLifts 47 = .ok (.iload 5, 2) := dk_21 5 (dk_at dksX0_laysLifts_2 0 rfl rfl)
theorem dX0_laysLifts_49 : decode cX0_laysLifts 49 = .ok (.iastore, 1) := dk_79 (dk_at dksX0_laysLifts_2 2 rfl rfl)
theorem dX0_laysLifts_50 : decode cX0_laysLifts 50 = .ok (.aload_n 0, 1) := dk_42 (dk_at dksX0_laysLifts_2 3 rfl rfl)
theorem dX0_laysLifts_51 : decode cX0_laysLifts 51 = .ok (.getfield 76, 3) := dk_180 0 76 (dk_at dksX0_laysLifts_2 4 rfl rfl)
theorem dX0_laysLifts_54 : decode cX0_laysLifts 54 = .ok (.iload_n 1, 1) := dk_27 (dk_at dksX0_laysLifts_2 7 rfl rfl)
theorem dX0_laysLifts_55 : decode cX0_laysLifts 55 = .ok (.iconst 1, 1) := dk_4 (dk_at dksX0_laysLifts_2 8 rfl rfl)
theorem dX0_laysLifts_56 : decode cX0_laysLifts 56 = .ok (.iadd, 1) := dk_96 (dk_at dksX0_laysLifts_2 9 rfl rfl)
theorem dX0_laysLifts_57 : decode cX0_laysLifts 57 = .ok (.aaload, 1) := dk_50 (dk_at dksX0_laysLifts_2 10 rfl rfl)
theorem dX0_laysLifts_58 : decode cX0_laysLifts 58 = .ok (.aload_n 0, 1) := dk_42 (dk_at dksX0_laysLifts_2 11 rfl rfl)
theorem dX0_laysLifts_59 : decode cX0_laysLifts 59 = .ok (.getfield 76, 3) := dk_180 0 76 (dk_at dksX0_laysLifts_2 12 rfl rfl)
theorem dX0_laysLifts_62 : decode cX0_laysLifts 62 = .ok (.iload_n 1, 1) := dk_27 (dk_at dksX0_laysLifts_2 15 rfl rfl)
theorem dX0_laysLifts_63 : decode cX0_laysLifts 63 = .ok (.aaload, 1) := dk_50 (dk_at dksX0_laysLifts_2 16 rfl rfl)
theorem dX0_laysLifts_64 : decode cX0_laysLifts 64 = .ok (.invokevirtual 261, 3) := dk_182 1 5 (dk_at dksX0_laysLifts_2 17 rfl rfl)
theorem dX0_laysLifts_67 : decode cX0_laysLifts 67 = .ok (.aload_n 0, 1) := dk_42 (dk_at dksX0_laysLifts_2 20 rfl rfl)
theorem dX0_laysLifts_68 : decode cX0_laysLifts 68 = .ok (.getfield 76, 3) := dk_180 0 76 (dk_at dksX0_laysLifts_2 21 rfl rfl)
theorem dX0_laysLifts_71 : decode cX0_laysLifts 71 = .ok (.iload_n 1, 1) := dk_27 (dk_at dksX0_laysLifts_3 0 rfl rfl)
theorem dX0_laysLifts_72 : decode cX0_laysLifts 72 = .ok (.iconst 1, 1) := dk_4 (dk_at dksX0_laysLifts_3 1 rfl rfl)
theorem dX0_laysLifts_73 : decode cX0_laysLifts 73 = .ok (.iadd, 1) := dk_96 (dk_at dksX0_laysLifts_3 2 rfl rfl)
theorem dX0_laysLifts_74 : decode cX0_laysLifts 74 = .ok (.aaload, 1) := dk_50 (dk_at dksX0_laysLifts_3 3 rfl rfl)
theorem dX0_laysLifts_75 : decode cX0_laysLifts 75 = .ok (.aload_n 0, 1) := dk_42 (dk_at dksX0_laysLifts_3 4 rfl rfl)
theorem dX0_laysLifts_76 : decode cX0_laysLifts 76 = .ok (.getfield 51, 3) := dk_180 0 51 (dk_at dksX0_laysLifts_3 5 rfl rfl)
theorem dX0_laysLifts_79 : decode cX0_laysLifts 79 = .ok (.iload_n 3, 1) := dk_29 (dk_at dksX0_laysLifts_3 8 rfl rfl)
theorem dX0_laysLifts_80 : decode cX0_laysLifts 80 = .ok (.iload 5, 2) := dk_21 5 (dk_at dksX0_laysLifts_3 9 rfl rfl)
theorem dX0_laysLifts_82 : decode cX0_laysLifts 82 = .ok (.invokevirtual 271, 3) := dk_182 1 15 (dk_at dksX0_laysLifts_3 11 rfl rfl)
theorem dX0_laysLifts_85 : decode cX0_laysLifts 85 = .ok (.aload_n 0, 1) := dk_42 (dk_at dksX0_laysLifts_3 14 rfl rfl)
theorem dX0_laysLifts_86 : decode cX0_laysLifts 86 = .ok (.iload_n 1, 1) := dk_27 (dk_at dksX0_laysLifts_3 15 rfl rfl)
theorem dX0_laysLifts_87 : decode cX0_laysLifts 87 = .ok (.iconst 1, 1) := dk_4 (dk_at dksX0_laysLifts_3 16 rfl rfl)
theorem dX0_laysLifts_88 : decode cX0_laysLifts 88 = .ok (.iadd, 1) := dk_96 (dk_at dksX0_laysLifts_3 17 rfl rfl)
theorem dX0_laysLifts_89 : decode cX0_laysLifts 89 = .ok (.iload_n 2, 1) := dk_28 (dk_at dksX0_laysLifts_3 18 rfl rfl)
theorem dX0_laysLifts_90 : decode cX0_laysLifts 90 = .ok (.iload_n 3, 1) := dk_29 (dk_at dksX0_laysLifts_3 19 rfl rfl)
theorem dX0_laysLifts_91 : decode cX0_laysLifts 91 = .ok (.iload 4, 2) := dk_21 4 (dk_at dksX0_laysLifts_3 20 rfl rfl)
theorem dX0_laysLifts_93 : decode cX0_laysLifts 93 = .ok (.invokevirtual 293, 3) := dk_182 1 37 (dk_at dksX0_laysLifts_4 0 rfl rfl)
theorem dX0_laysLifts_96 : decode cX0_laysLifts 96 = .ok (.ifCond .eq 5, 3) := dk_153 0 5 (dk_at dksX0_laysLifts_4 3 rfl rfl)
theorem dX0_laysLifts_99 : decode cX0_laysLifts 99 = .ok (.iconst 1, 1) := dk_4 (dk_at dksX0_laysLifts_4 6 rfl rfl)
theorem dX0_laysLifts_100 : decode cX0_laysLifts 100 = .ok (.ireturn, 1) := dk_172 (dk_at dksX0_laysLifts_4 7 rfl rfl)
theorem dX0_laysLifts_101 : decode cX0_laysLifts 101 = .ok (.iinc 5 1, 3) := dk_132 5 1 (dk_at dksX0_laysLifts_4 8 rfl rfl)
theorem dX0_laysLifts_104 : decode cX0_laysLifts 104 = .ok (.goto (-71), 3) := dk_167 255 185 (dk_at dksX0_laysLifts_4 11 rfl rfl)
theorem dX0_laysLifts_107 : decode cX0_laysLifts 107 = .ok (.iconst 0, 1) := dk_3 (dk_at dksX0_laysLifts_4 14 rfl rfl)
theorem dX0_laysLifts_108 : decode cX0_laysLifts 108 = .ok (.ireturn, 1) := dk_172 (dk_at dksX0_laysLifts_4 15 rfl rfl)
abbrev cX0_towards : ByteArray := prog_1_method_35_code
def yX0_towards : MethodName := ⟨RX0, "towards", "(III)I"⟩
def dkwX0_towards_5 : List UInt8 := [21, 4, 167, 0, 5, 21, 5, 172]
abbrev dktX0_towards_5 : List UInt8 := dkwX0_towards_5 ++ []
def dkwX0_towards_4 : List UInt8 := [161, 0, 6, 167, 0, 11, 21, 6, 54, 4, 21, 7, 54, 5, 132, 6, 1, 167, 255, 186, 29, 154, 0, 8]
abbrev dktX0_towards_4 : List UInt8 := dkwX0_towards_4 ++ dktX0_towards_5
def dkwX0_towards_3 : List UInt8 := [21, 6, 182, 1, 15, 42, 180, 0, 66, 42, 180, 0, 51, 27, 28, 182, 0, 247, 54, 7, 21, 7, 21, 5]
abbrev dktX0_towards_3 : List UInt8 := dkwX0_towards_3 ++ dktX0_towards_4
def dkwX0_towards_2 : List UInt8 := [162, 0, 67, 42, 180, 0, 66, 42, 180, 0, 62, 182, 1, 5, 42, 180, 0, 66, 42, 180, 0, 51, 27]
abbrev dktX0_towards_2 : List UInt8 := dkwX0_towards_2 ++ dktX0_towards_3
def dkwX0_towards_1 : List UInt8 := [154, 0, 5, 2, 172, 3, 54, 4, 19, 1, 41, 54, 5, 3, 54, 6, 21, 6, 42, 182, 0, 165]
abbrev dktX0_towards_1 : List UInt8 := dkwX0_towards_1 ++ dktX0_towards_2
def dkwX0_towards_0 : List UInt8 := [42, 27, 182, 0, 185, 153, 0, 20, 42, 28, 182, 0, 212, 153, 0, 12, 29, 3, 4, 184, 0, 161]
abbrev dktX0_towards_0 : List UInt8 := dkwX0_towards_0 ++ dktX0_towards_1
theorem dksX0_towards_0 : cX0_towards.data.toList.drop 0 = dktX0_towards_0 := by decide +kernel
theorem dksX0_towards_1 : cX0_towards.data.toList.drop 22 = dktX0_towards_1 := dk_seg dksX0_towards_0 22 rfl rfl
theorem dksX0_towards_2 : cX0_towards.data.toList.drop 44 = dktX0_towards_2 := dk_seg dksX0_towards_1 22 rfl rfl
theorem dksX0_towards_3 : cX0_towards.data.toList.drop 67 = dktX0_towards_3 := dk_seg dksX0_towards_2 23 rfl rfl
theorem dksX0_towards_4 : cX0_towards.data.toList.drop 91 = dktX0_towards_4 := dk_seg dksX0_towards_3 24 rfl rfl
theorem dksX0_towards_5 : cX0_towards.data.toList.drop 115 = dktX0_towards_5 := dk_seg dksX0_towards_4 24 rfl rfl
theorem dX0_towards_0 : decode cX0_towards 0 = .ok (.aload_n 0, 1) := dk_42 (dk_at dksX0_towards_0 0 rfl rfl)
theorem dX0_towards_1 : decode cX0_towards 1 = .ok (.iload_n 1, 1) := dk_27 (dk_at dksX0_towards_0 1 rfl rfl)
theorem dX0_towards_2 : decode cX0_towards 2 = .ok (.invokevirtual 185, 3) := dk_182 0 185 (dk_at dksX0_towards_0 2 rfl rfl)
theorem dX0_towards_5 : decode cX0_towards 5 = .ok (.ifCond .eq 20, 3) := dk_153 0 20 (dk_at dksX0_towards_0 5 rfl rfl)
theorem dX0_towards_8 : decode cX0_towards 8 = .ok (.aload_n 0, 1) := dk_42 (dk_at dksX0_towards_0 8 rfl rfl)
theorem dX0_towards_9 : decode cX0_towards 9 = .ok (.iload_n 2, 1) := dk_28 (dk_at dksX0_towards_0 9 rfl rfl)
theorem dX0_towards_10 : decode cX0_towards 10 = .ok (.invokevirtual 212, 3) := dk_182 0 212 (dk_at dksX0_towards_0 10 rfl rfl)
theorem dX0_towards_13 : decode cX0_towards 13 = .ok (.ifCond .eq 12, 3) := dk_153 0 12 (dk_at dksX0_towards_0 13 rfl rfl)
theorem dX0_towards_16 : decode cX0_towards 16 = .ok (.iload_n 3, 1) := dk_29 (dk_at dksX0_towards_0 16 rfl rfl)
theorem dX0_towards_17 : decode cX0_towards 17 = .ok (.iconst 0, 1) := dk_3 (dk_at dksX0_towards_0 17 rfl rfl)
theorem dX0_towards_18 : decode cX0_towards 18 = .ok (.iconst 1, 1) := dk_4 (dk_at dksX0_towards_0 18 rfl rfl)
theorem dX0_towards_19 : decode cX0_towards 19 = .ok (.invokestatic 161, 3) := dk_184 0 161 (dk_at dksX0_towards_0 19 rfl rfl)
theorem dX0_towards_22 : decode cX0_towards 22 = .ok (.ifCond .ne 5, 3) := dk_154 0 5 (dk_at dksX0_towards_1 0 rfl rfl)
theorem dX0_towards_25 : decode cX0_towards 25 = .ok (.iconst (-1), 1) := dk_2 (dk_at dksX0_towards_1 3 rfl rfl)
theorem dX0_towards_26 : decode cX0_towards 26 = .ok (.ireturn, 1) := dk_172 (dk_at dksX0_towards_1 4 rfl rfl)
theorem dX0_towards_27 : decode cX0_towards 27 = .ok (.iconst 0, 1) := dk_3 (dk_at dksX0_towards_1 5 rfl rfl)
theorem dX0_towards_28 : decode cX0_towards 28 = .ok (.istore 4, 2) := dk_54 4 (dk_at dksX0_towards_1 6 rfl rfl)
theorem dX0_towards_30 : decode cX0_towards 30 = .ok (.ldc_w 297, 3) := dk_19 1 41 (dk_at dksX0_towards_1 8 rfl rfl)
theorem dX0_towards_33 : decode cX0_towards 33 = .ok (.istore 5, 2) := dk_54 5 (dk_at dksX0_towards_1 11 rfl rfl)
theorem dX0_towards_35 : decode cX0_towards 35 = .ok (.iconst 0, 1) := dk_3 (dk_at dksX0_towards_1 13 rfl rfl)
theorem dX0_towards_36 : decode cX0_towards 36 = .ok (.istore 6, 2) := dk_54 6 (dk_at dksX0_towards_1 14 rfl rfl)
theorem dX0_towards_38 : decode cX0_towards 38 = .ok (.iload 6, 2) := dk_21 6 (dk_at dksX0_towards_1 16 rfl rfl)
theorem dX0_towards_40 : decode cX0_towards 40 = .ok (.aload_n 0, 1) := dk_42 (dk_at dksX0_towards_1 18 rfl rfl)
theorem dX0_towards_41 : decode cX0_towards 41 = .ok (.invokevirtual 165, 3) := dk_182 0 165 (dk_at dksX0_towards_1 19 rfl rfl)
theorem dX0_towards_44 : decode cX0_towards 44 = .ok (.if_icmp .ge 67, 3) := dk_162 0 67 (dk_at dksX0_towards_2 0 rfl rfl)
theorem dX0_towards_47 : decode cX0_towards 47 = .ok (.aload_n 0, 1) := dk_42 (dk_at dksX0_towards_2 3 rfl rfl)
theorem dX0_towards_48 : decode cX0_towards 48 = .ok (.getfield 66, 3) := dk_180 0 66 (dk_at dksX0_towards_2 4 rfl rfl)
theorem dX0_towards_51 : decode cX0_towards 51 = .ok (.aload_n 0, 1) := dk_42 (dk_at dksX0_towards_2 7 rfl rfl)
theorem dX0_towards_52 : decode cX0_towards 52 = .ok (.getfield 62, 3) := dk_180 0 62 (dk_at dksX0_towards_2 8 rfl rfl)
theorem dX0_towards_55 : decode cX0_towards 55 = .ok (.invokevirtual 261, 3) := dk_182 1 5 (dk_at dksX0_towards_2 11 rfl rfl)
theorem dX0_towards_58 : decode cX0_towards 58 = .ok (.aload_n 0, 1) := dk_42 (dk_at dksX0_towards_2 14 rfl rfl)
theorem dX0_towards_59 : decode cX0_towards 59 = .ok (.getfield 66, 3) := dk_180 0 66 (dk_at dksX0_towards_2 15 rfl rfl)
theorem dX0_towards_62 : decode cX0_towards 62 = .ok (.aload_n 0, 1) := dk_42 (dk_at dksX0_towards_2 18 rfl rfl)
theorem dX0_towards_63 : decode cX0_towards 63 = .ok (.getfield 51, 3) := dk_180 0 51 (dk_at dksX0_towards_2 19 rfl rfl)
theorem dX0_towards_66 : decode cX0_towards 66 = .ok (.iload_n 1, 1) := dk_27 (dk_at dksX0_towards_2 22 rfl rfl)
theorem dX0_towards_67 : decode cX0_towards 67 = .ok (.iload 6, 2) := dk_21 6 (dk_at dksX0_towards_3 0 rfl rfl)
theorem dX0_towards_69 : decode cX0_towards 69 = .ok (.invokevirtual 271, 3) := dk_182 1 15 (dk_at dksX0_towards_3 2 rfl rfl)
theorem dX0_towards_72 : decode cX0_towards 72 = .ok (.aload_n 0, 1) := dk_42 (dk_at dksX0_towards_3 5 rfl rfl)
theorem dX0_towards_73 : decode cX0_towards 73 = .ok (.getfield 66, 3) := dk_180 0 66 (dk_at dksX0_towards_3 6 rfl rfl)
theorem dX0_towards_76 : decode cX0_towards 76 = .ok (.aload_n 0, 1) := dk_42 (dk_at dksX0_towards_3 9 rfl rfl)
theorem dX0_towards_77 : decode cX0_towards 77 = .ok (.getfield 51, 3) := dk_180 0 51 (dk_at dksX0_towards_3 10 rfl rfl)
theorem dX0_towards_80 : decode cX0_towards 80 = .ok (.iload_n 1, 1) := dk_27 (dk_at dksX0_towards_3 13 rfl rfl)
theorem dX0_towards_81 : decode cX0_towards 81 = .ok (.iload_n 2, 1) := dk_28 (dk_at dksX0_towards_3 14 rfl rfl)
theorem dX0_towards_82 : decode cX0_towards 82 = .ok (.invokevirtual 247, 3) := dk_182 0 247 (dk_at dksX0_towards_3 15 rfl rfl)
theorem dX0_towards_85 : decode cX0_towards 85 = .ok (.istore 7, 2) := dk_54 7 (dk_at dksX0_towards_3 18 rfl rfl)
theorem dX0_towards_87 : decode cX0_towards 87 = .ok (.iload 7, 2) := dk_21 7 (dk_at dksX0_towards_3 20 rfl rfl)
theorem dX0_towards_89 : decode cX0_towards 89 = .ok (.iload 5, 2) := dk_21 5 (dk_at dksX0_towards_3 22 rfl rfl)
theorem dX0_towards_91 : decode cX0_towards 91 = .ok (.if_icmp .lt 6, 3) := dk_161 0 6 (dk_at dksX0_towards_4 0 rfl rfl)
theorem dX0_towards_94 : decode cX0_towards 94 = .ok (.goto 11, 3) := dk_167 0 11 (dk_at dksX0_towards_4 3 rfl rfl)
theorem dX0_towards_97 : decode cX0_towards 97 = .ok (.iload 6, 2) := dk_21 6 (dk_at dksX0_towards_4 6 rfl rfl)
theorem dX0_towards_99 : decode cX0_towards 99 = .ok (.istore 4, 2) := dk_54 4 (dk_at dksX0_towards_4 8 rfl rfl)
theorem dX0_towards_101 : decode cX0_towards 101 = .ok (.iload 7, 2) := dk_21 7 (dk_at dksX0_towards_4 10 rfl rfl)
theorem dX0_towards_103 : decode cX0_towards 103 = .ok (.istore 5, 2) := dk_54 5 (dk_at dksX0_towards_4 12 rfl rfl)
theorem dX0_towards_105 : decode cX0_towards 105 = .ok (.iinc 6 1, 3) := dk_132 6 1 (dk_at dksX0_towards_4 14 rfl rfl)
theorem dX0_towards_108 : decode cX0_towards 108 = .ok (.goto (-70), 3) := dk_167 255 186 (dk_at dksX0_towards_4 17 rfl rfl)
theorem dX0_towards_111 : decode cX0_towards 111 = .ok (.iload_n 3, 1) := dk_29 (dk_at dksX0_towards_4 20 rfl rfl)
theorem dX0_towards_112 : decode cX0_towards 112 = .ok (.ifCond .ne 8, 3) := dk_154 0 8 (dk_at dksX0_towards_4 21 rfl rfl)
theorem dX0_towards_115 : decode cX0_towards 115 = .ok (.iload 4, 2) := dk_21 4 (dk_at dksX0_towards_5 0 rfl rfl)
theorem dX0_towards_117 : decode cX0_towards 117 = .ok (.goto 5, 3) := dk_167 0 5 (dk_at dksX0_towards_5 2 rfl rfl)
theorem dX0_towards_120 : decode cX0_towards 120 = .ok (.iload 5, 2) := dk_21 5 (dk_at dksX0_towards_5 5 rfl rfl)
theorem dX0_towards_122 : decode cX0_towards 122 = .ok (.ireturn, 1) := dk_172 (dk_at dksX0_towards_5 7 rfl rfl)
abbrev cX0_without : ByteArray := prog_1_method_36_code
def yX0_without : MethodName := ⟨RX0, "without", "(II)I"⟩
def dkwX0_without_3 : List UInt8 := [180, 0, 51, 180, 0, 167, 27, 182, 0, 173, 192, 0, 224, 180, 0, 229, 182, 0, 204, 172]
abbrev dktX0_without_3 : List UInt8 := dkwX0_without_3 ++ []
def dkwX0_without_2 : List UInt8 := [42, 42, 180, 0, 66, 28, 42, 180, 0, 89, 182, 1, 33, 42, 180, 0, 66, 42, 180, 0, 51, 42]
abbrev dktX0_without_2 : List UInt8 := dkwX0_without_2 ++ dktX0_without_3
def dkwX0_without_1 : List UInt8 := [42, 180, 0, 62, 182, 1, 5, 42, 180, 0, 66, 89, 180, 1, 23, 4, 27, 120, 2, 130, 126, 181, 1, 23]
abbrev dktX0_without_1 : List UInt8 := dkwX0_without_1 ++ dktX0_without_2
def dkwX0_without_0 : List UInt8 := [42, 27, 182, 0, 221, 153, 0, 13, 28, 4, 16, 60, 184, 0, 161, 154, 0, 5, 2, 172, 42, 180, 0, 66]
abbrev dktX0_without_0 : List UInt8 := dkwX0_without_0 ++ dktX0_without_1
theorem dksX0_without_0 : cX0_without.data.toList.drop 0 = dktX0_without_0 := by decide +kernel
theorem dksX0_without_1 : cX0_without.data.toList.drop 24 = dktX0_without_1 := dk_seg dksX0_without_0 24 rfl rfl
theorem dksX0_without_2 : cX0_without.data.toList.drop 48 = dktX0_without_2 := dk_seg dksX0_without_1 24 rfl rfl
theorem dksX0_without_3 : cX0_without.data.toList.drop 70 = dktX0_without_3 := dk_seg dksX0_without_2 22 rfl rfl
theorem dX0_without_0 : decode cX0_without 0 = .ok (.aload_n 0, 1) := dk_42 (dk_at dksX0_without_0 0 rfl rfl)
theorem dX0_without_1 : decode cX0_without 1 = .ok (.iload_n 1, 1) := dk_27 (dk_at dksX0_without_0 1 rfl rfl)
theorem dX0_without_2 : decode cX0_without 2 = .ok (.invokevirtual 221, 3) := dk_182 0 221 (dk_at dksX0_without_0 2 rfl rfl)
theorem dX0_without_5 : decode cX0_without 5 = .ok (.ifCond .eq 13, 3) := dk_153 0 13 (dk_at dksX0_without_0 5 rfl rfl)
theorem dX0_without_8 : decode cX0_without 8 = .ok (.iload_n 2, 1) := dk_28 (dk_at dksX0_without_0 8 rfl rfl)
theorem dX0_without_9 : decode cX0_without 9 = .ok (.iconst 1, 1) := dk_4 (dk_at dksX0_without_0 9 rfl rfl)
theorem dX0_without_10 : decode cX0_without 10 = .ok (.bipush 60, 2) := dk_16 60 (dk_at dksX0_without_0 10 rfl rfl)
theorem dX0_without_12 : decode cX0_without 12 = .ok (.invokestatic 161, 3) := dk_184 0 161 (dk_at dksX0_without_0 12 rfl rfl)
theorem dX0_without_15 : decode cX0_without 15 = .ok (.ifCond .ne 5, 3) := dk_154 0 5 (dk_at dksX0_without_0 15 rfl rfl)
theorem dX0_without_18 : decode cX0_without 18 = .ok (.iconst (-1), 1) := dk_2 (dk_at dksX0_without_0 18 rfl rfl)
theorem dX0_without_19 : decode cX0_without 19 = .ok (.ireturn, 1) := dk_172 (dk_at dksX0_without_0 19 rfl rfl)
theorem dX0_without_20 : decode cX0_without 20 = .ok (.aload_n 0, 1) := dk_42 (dk_at dksX0_without_0 20 rfl rfl)
theorem dX0_without_21 : decode cX0_without 21 = .ok (.getfield 66, 3) := dk_180 0 66 (dk_at dksX0_without_0 21 rfl rfl)
theorem dX0_without_24 : decode cX0_without 24 = .ok (.aload_n 0, 1) := dk_42 (dk_at dksX0_without_1 0 rfl rfl)
theorem dX0_without_25 : decode cX0_without 25 = .ok (.getfield 62, 3) := dk_180 0 62 (dk_at dksX0_without_1 1 rfl rfl)
theorem dX0_without_28 : decode cX0_without 28 = .ok (.invokevirtual 261, 3) := dk_182 1 5 (dk_at dksX0_without_1 4 rfl rfl)
theorem dX0_without_31 : decode cX0_without 31 = .ok (.aload_n 0, 1) := dk_42 (dk_at dksX0_without_1 7 rfl rfl)
theorem dX0_without_32 : decode cX0_without 32 = .ok (.getfield 66, 3) := dk_180 0 66 (dk_at dksX0_without_1 8 rfl rfl)
theorem dX0_without_35 : decode cX0_without 35 = .ok (.dup, 1) := dk_89 (dk_at dksX0_without_1 11 rfl rfl)
theorem dX0_without_36 : decode cX0_without 36 = .ok (.getfield 279, 3) := dk_180 1 23 (dk_at dksX0_without_1 12 rfl rfl)
theorem dX0_without_39 : decode cX0_without 39 = .ok (.iconst 1, 1) := dk_4 (dk_at dksX0_without_1 15 rfl rfl)
theorem dX0_without_40 : decode cX0_without 40 = .ok (.iload_n 1, 1) := dk_27 (dk_at dksX0_without_1 16 rfl rfl)
theorem dX0_without_41 : decode cX0_without 41 = .ok (.ishl, 1) := dk_120 (dk_at dksX0_without_1 17 rfl rfl)
theorem dX0_without_42 : decode cX0_without 42 = .ok (.iconst (-1), 1) := dk_2 (dk_at dksX0_without_1 18 rfl rfl)
theorem dX0_without_43 : decode cX0_without 43 = .ok (.ixor, 1) := dk_130 (dk_at dksX0_without_1 19 rfl rfl)
theorem dX0_without_44 : decode cX0_without 44 = .ok (.iand, 1) := dk_126 (dk_at dksX0_without_1 20 rfl rfl)
theorem dX0_without_45 : decode cX0_without 45 = .ok (.putfield 279, 3) := dk_181 1 23 (dk_at dksX0_without_1 21 rfl rfl)
theorem dX0_without_48 : decode cX0_without 48 = .ok (.aload_n 0, 1) := dk_42 (dk_at dksX0_without_2 0 rfl rfl)
theorem dX0_without_49 : decode cX0_without 49 = .ok (.aload_n 0, 1) := dk_42 (dk_at dksX0_without_2 1 rfl rfl)
theorem dX0_without_50 : decode cX0_without 50 = .ok (.getfield 66, 3) := dk_180 0 66 (dk_at dksX0_without_2 2 rfl rfl)
theorem dX0_without_53 : decode cX0_without 53 = .ok (.iload_n 2, 1) := dk_28 (dk_at dksX0_without_2 5 rfl rfl)
theorem dX0_without_54 : decode cX0_without 54 = .ok (.aload_n 0, 1) := dk_42 (dk_at dksX0_without_2 6 rfl rfl)
theorem dX0_without_55 : decode cX0_without 55 = .ok (.getfield 89, 3) := dk_180 0 89 (dk_at dksX0_without_2 7 rfl rfl)
theorem dX0_without_58 : decode cX0_without 58 = .ok (.invokevirtual 289, 3) := dk_182 1 33 (dk_at dksX0_without_2 10 rfl rfl)
theorem dX0_without_61 : decode cX0_without 61 = .ok (.aload_n 0, 1) := dk_42 (dk_at dksX0_without_2 13 rfl rfl)
theorem dX0_without_62 : decode cX0_without 62 = .ok (.getfield 66, 3) := dk_180 0 66 (dk_at dksX0_without_2 14 rfl rfl)
theorem dX0_without_65 : decode cX0_without 65 = .ok (.aload_n 0, 1) := dk_42 (dk_at dksX0_without_2 17 rfl rfl)
theorem dX0_without_66 : decode cX0_without 66 = .ok (.getfield 51, 3) := dk_180 0 51 (dk_at dksX0_without_2 18 rfl rfl)
theorem dX0_without_69 : decode cX0_without 69 = .ok (.aload_n 0, 1) := dk_42 (dk_at dksX0_without_2 21 rfl rfl)
theorem dX0_without_70 : decode cX0_without 70 = .ok (.getfield 51, 3) := dk_180 0 51 (dk_at dksX0_without_3 0 rfl rfl)
theorem dX0_without_73 : decode cX0_without 73 = .ok (.getfield 167, 3) := dk_180 0 167 (dk_at dksX0_without_3 3 rfl rfl)
theorem dX0_without_76 : decode cX0_without 76 = .ok (.iload_n 1, 1) := dk_27 (dk_at dksX0_without_3 6 rfl rfl)
theorem dX0_without_77 : decode cX0_without 77 = .ok (.invokevirtual 173, 3) := dk_182 0 173 (dk_at dksX0_without_3 7 rfl rfl)
theorem dX0_without_80 : decode cX0_without 80 = .ok (.checkcast 224, 3) := dk_192 0 224 (dk_at dksX0_without_3 10 rfl rfl)
theorem dX0_without_83 : decode cX0_without 83 = .ok (.getfield 229, 3) := dk_180 0 229 (dk_at dksX0_without_3 13 rfl rfl)
theorem dX0_without_86 : decode cX0_without 86 = .ok (.invokevirtual 204, 3) := dk_182 0 204 (dk_at dksX0_without_3 16 rfl rfl)
theorem dX0_without_89 : decode cX0_without 89 = .ok (.ireturn, 1) := dk_172 (dk_at dksX0_without_3 19 rfl rfl)
abbrev cX0_twins : ByteArray := prog_1_method_37_code
def yX0_twins : MethodName := ⟨RX0, "twins", "(I)I"⟩
def dkwX0_twins_4 : List UInt8 := [167, 255, 198, 132, 4, 1, 167, 255, 177, 28, 155, 0, 7, 27, 154, 0, 7, 28, 167, 0, 4, 29, 172]
abbrev dktX0_twins_4 : List UInt8 := dkwX0_twins_4 ++ []
def dkwX0_twins_3 : List UInt8 := [21, 6, 29, 161, 0, 6, 167, 0, 15, 16, 10, 21, 4, 104, 21, 5, 96, 61, 21, 6, 62, 132, 5, 1]
abbrev dktX0_twins_3 : List UInt8 := dkwX0_twins_3 ++ dktX0_twins_4
def dkwX0_twins_2 : List UInt8 := [180, 0, 62, 180, 0, 170, 21, 4, 50, 42, 180, 0, 62, 180, 0, 170, 21, 5, 50, 184, 0, 181, 54, 6]
abbrev dktX0_twins_2 : List UInt8 := dkwX0_twins_2 ++ dktX0_twins_3
def dkwX0_twins_1 : List UInt8 := [182, 0, 159, 162, 0, 76, 21, 4, 4, 96, 54, 5, 21, 5, 42, 182, 0, 159, 162, 0, 55, 42]
abbrev dktX0_twins_1 : List UInt8 := dkwX0_twins_1 ++ dktX0_twins_2
def dkwX0_twins_0 : List UInt8 := [27, 3, 4, 184, 0, 161, 154, 0, 5, 2, 172, 16, 254, 61, 19, 1, 41, 62, 3, 54, 4, 21, 4, 42]
abbrev dktX0_twins_0 : List UInt8 := dkwX0_twins_0 ++ dktX0_twins_1
theorem dksX0_twins_0 : cX0_twins.data.toList.drop 0 = dktX0_twins_0 := by decide +kernel
theorem dksX0_twins_1 : cX0_twins.data.toList.drop 24 = dktX0_twins_1 := dk_seg dksX0_twins_0 24 rfl rfl
theorem dksX0_twins_2 : cX0_twins.data.toList.drop 46 = dktX0_twins_2 := dk_seg dksX0_twins_1 22 rfl rfl
theorem dksX0_twins_3 : cX0_twins.data.toList.drop 70 = dktX0_twins_3 := dk_seg dksX0_twins_2 24 rfl rfl
theorem dksX0_twins_4 : cX0_twins.data.toList.drop 94 = dktX0_twins_4 := dk_seg dksX0_twins_3 24 rfl rfl
theorem dX0_twins_0 : decode cX0_twins 0 = .ok (.iload_n 1, 1) := dk_27 (dk_at dksX0_twins_0 0 rfl rfl)
theorem dX0_twins_1 : decode cX0_twins 1 = .ok (.iconst 0, 1) := dk_3 (dk_at dksX0_twins_0 1 rfl rfl)
theorem dX0_twins_2 : decode cX0_twins 2 = .ok (.iconst 1, 1) := dk_4 (dk_at dksX0_twins_0 2 rfl rfl)
theorem dX0_twins_3 : decode cX0_twins 3 = .ok (.invokestatic 161, 3) := dk_184 0 161 (dk_at dksX0_twins_0 3 rfl rfl)
theorem dX0_twins_6 : decode cX0_twins 6 = .ok (.ifCond .ne 5, 3) := dk_154 0 5 (dk_at dksX0_twins_0 6 rfl rfl)
theorem dX0_twins_9 : decode cX0_twins 9 = .ok (.iconst (-1), 1) := dk_2 (dk_at dksX0_twins_0 9 rfl rfl)
theorem dX0_twins_10 : decode cX0_twins 10 = .ok (.ireturn, 1) := dk_172 (dk_at dksX0_twins_0 10 rfl rfl)
theorem dX0_twins_11 : decode cX0_twins 11 = .ok (.bipush (-2), 2) := dk_16 254 (dk_at dksX0_twins_0 11 rfl rfl)
theorem dX0_twins_13 : decode cX0_twins 13 = .ok (.istore_n 2, 1) := dk_61 (dk_at dksX0_twins_0 13 rfl rfl)
theorem dX0_twins_14 : decode cX0_twins 14 = .ok (.ldc_w 297, 3) := dk_19 1 41 (dk_at dksX0_twins_0 14 rfl rfl)
theorem dX0_twins_17 : decode cX0_twins 17 = .ok (.istore_n 3, 1) := dk_62 (dk_at dksX0_twins_0 17 rfl rfl)
theorem dX0_twins_18 : decode cX0_twins 18 = .ok (.iconst 0, 1) := dk_3 (dk_at dksX0_twins_0 18 rfl rfl)
theorem dX0_twins_19 : decode cX0_twins 19 = .ok (.istore 4, 2) := dk_54 4 (dk_at dksX0_twins_0 19 rfl rfl)
theorem dX0_twins_21 : decode cX0_twins 21 = .ok (.iload 4, 2) := dk_21 4 (dk_at dksX0_twins_0 21 rfl rfl)
theorem dX0_twins_23 : decode cX0_twins 23 = .ok (.aload_n 0, 1) := dk_42 (dk_at dksX0_twins_0 23 rfl rfl)
theorem dX0_twins_24 : decode cX0_twins 24 = .ok (.invokevirtual 159, 3) := dk_182 0 159 (dk_at dksX0_twins_1 0 rfl rfl)
theorem dX0_twins_27 : decode cX0_twins 27 = .ok (.if_icmp .ge 76, 3) := dk_162 0 76 (dk_at dksX0_twins_1 3 rfl rfl)
theorem dX0_twins_30 : decode cX0_twins 30 = .ok (.iload 4, 2) := dk_21 4 (dk_at dksX0_twins_1 6 rfl rfl)
theorem dX0_twins_32 : decode cX0_twins 32 = .ok (.iconst 1, 1) := dk_4 (dk_at dksX0_twins_1 8 rfl rfl)
theorem dX0_twins_33 : decode cX0_twins 33 = .ok (.iadd, 1) := dk_96 (dk_at dksX0_twins_1 9 rfl rfl)
theorem dX0_twins_34 : decode cX0_twins 34 = .ok (.istore 5, 2) := dk_54 5 (dk_at dksX0_twins_1 10 rfl rfl)
theorem dX0_twins_36 : decode cX0_twins 36 = .ok (.iload 5, 2) := dk_21 5 (dk_at dksX0_twins_1 12 rfl rfl)
theorem dX0_twins_38 : decode cX0_twins 38 = .ok (.aload_n 0, 1) := dk_42 (dk_at dksX0_twins_1 14 rfl rfl)
theorem dX0_twins_39 : decode cX0_twins 39 = .ok (.invokevirtual 159, 3) := dk_182 0 159 (dk_at dksX0_twins_1 15 rfl rfl)
theorem dX0_twins_42 : decode cX0_twins 42 = .ok (.if_icmp .ge 55, 3) := dk_162 0 55 (dk_at dksX0_twins_1 18 rfl rfl)
theorem dX0_twins_45 : decode cX0_twins 45 = .ok (.aload_n 0, 1) := dk_42 (dk_at dksX0_twins_1 21 rfl rfl)
theorem dX0_twins_46 : decode cX0_twins 46 = .ok (.getfield 62, 3) := dk_180 0 62 (dk_at dksX0_twins_2 0 rfl rfl)
theorem dX0_twins_49 : decode cX0_twins 49 = .ok (.getfield 170, 3) := dk_180 0 170 (dk_at dksX0_twins_2 3 rfl rfl)
theorem dX0_twins_52 : decode cX0_twins 52 = .ok (.iload 4, 2) := dk_21 4 (dk_at dksX0_twins_2 6 rfl rfl)
theorem dX0_twins_54 : decode cX0_twins 54 = .ok (.aaload, 1) := dk_50 (dk_at dksX0_twins_2 8 rfl rfl)
theorem dX0_twins_55 : decode cX0_twins 55 = .ok (.aload_n 0, 1) := dk_42 (dk_at dksX0_twins_2 9 rfl rfl)
theorem dX0_twins_56 : decode cX0_twins 56 = .ok (.getfield 62, 3) := dk_180 0 62 (dk_at dksX0_twins_2 10 rfl rfl)
theorem dX0_twins_59 : decode cX0_twins 59 = .ok (.getfield 170, 3) := dk_180 0 170 (dk_at dksX0_twins_2 13 rfl rfl)
theorem dX0_twins_62 : decode cX0_twins 62 = .ok (.iload 5, 2) := dk_21 5 (dk_at dksX0_twins_2 16 rfl rfl)
theorem dX0_twins_64 : decode cX0_twins 64 = .ok (.aaload, 1) := dk_50 (dk_at dksX0_twins_2 18 rfl rfl)
theorem dX0_twins_65 : decode cX0_twins 65 = .ok (.invokestatic 181, 3) := dk_184 0 181 (dk_at dksX0_twins_2 19 rfl rfl)
theorem dX0_twins_68 : decode cX0_twins 68 = .ok (.istore 6, 2) := dk_54 6 (dk_at dksX0_twins_2 22 rfl rfl)
theorem dX0_twins_70 : decode cX0_twins 70 = .ok (.iload 6, 2) := dk_21 6 (dk_at dksX0_twins_3 0 rfl rfl)
theorem dX0_twins_72 : decode cX0_twins 72 = .ok (.iload_n 3, 1) := dk_29 (dk_at dksX0_twins_3 2 rfl rfl)
theorem dX0_twins_73 : decode cX0_twins 73 = .ok (.if_icmp .lt 6, 3) := dk_161 0 6 (dk_at dksX0_twins_3 3 rfl rfl)
theorem dX0_twins_76 : decode cX0_twins 76 = .ok (.goto 15, 3) := dk_167 0 15 (dk_at dksX0_twins_3 6 rfl rfl)
theorem dX0_twins_79 : decode cX0_twins 79 = .ok (.bipush 10, 2) := dk_16 10 (dk_at dksX0_twins_3 9 rfl rfl)
theorem dX0_twins_81 : decode cX0_twins 81 = .ok (.iload 4, 2) := dk_21 4 (dk_at dksX0_twins_3 11 rfl rfl)
theorem dX0_twins_83 : decode cX0_twins 83 = .ok (.imul, 1) := dk_104 (dk_at dksX0_twins_3 13 rfl rfl)
theorem dX0_twins_84 : decode cX0_twins 84 = .ok (.iload 5, 2) := dk_21 5 (dk_at dksX0_twins_3 14 rfl rfl)
theorem dX0_twins_86 : decode cX0_twins 86 = .ok (.iadd, 1) := dk_96 (dk_at dksX0_twins_3 16 rfl rfl)
theorem dX0_twins_87 : decode cX0_twins 87 = .ok (.istore_n 2, 1) := dk_61 (dk_at dksX0_twins_3 17 rfl rfl)
theorem dX0_twins_88 : decode cX0_twins 88 = .ok (.iload 6, 2) := dk_21 6 (dk_at dksX0_twins_3 18 rfl rfl)
theorem dX0_twins_90 : decode cX0_twins 90 = .ok (.istore_n 3, 1) := dk_62 (dk_at dksX0_twins_3 20 rfl rfl)
theorem dX0_twins_91 : decode cX0_twins 91 = .ok (.iinc 5 1, 3) := dk_132 5 1 (dk_at dksX0_twins_3 21 rfl rfl)
theorem dX0_twins_94 : decode cX0_twins 94 = .ok (.goto (-58), 3) := dk_167 255 198 (dk_at dksX0_twins_4 0 rfl rfl)
theorem dX0_twins_97 : decode cX0_twins 97 = .ok (.iinc 4 1, 3) := dk_132 4 1 (dk_at dksX0_twins_4 3 rfl rfl)
theorem dX0_twins_100 : decode cX0_twins 100 = .ok (.goto (-79), 3) := dk_167 255 177 (dk_at dksX0_twins_4 6 rfl rfl)
theorem dX0_twins_103 : decode cX0_twins 103 = .ok (.iload_n 2, 1) := dk_28 (dk_at dksX0_twins_4 9 rfl rfl)
theorem dX0_twins_104 : decode cX0_twins 104 = .ok (.ifCond .lt 7, 3) := dk_155 0 7 (dk_at dksX0_twins_4 10 rfl rfl)
theorem dX0_twins_107 : decode cX0_twins 107 = .ok (.iload_n 1, 1) := dk_27 (dk_at dksX0_twins_4 13 rfl rfl)
theorem dX0_twins_108 : decode cX0_twins 108 = .ok (.ifCond .ne 7, 3) := dk_154 0 7 (dk_at dksX0_twins_4 14 rfl rfl)
theorem dX0_twins_111 : decode cX0_twins 111 = .ok (.iload_n 2, 1) := dk_28 (dk_at dksX0_twins_4 17 rfl rfl)
theorem dX0_twins_112 : decode cX0_twins 112 = .ok (.goto 4, 3) := dk_167 0 4 (dk_at dksX0_twins_4 18 rfl rfl)
theorem dX0_twins_115 : decode cX0_twins 115 = .ok (.iload_n 3, 1) := dk_29 (dk_at dksX0_twins_4 21 rfl rfl)
theorem dX0_twins_116 : decode cX0_twins 116 = .ok (.ireturn, 1) := dk_172 (dk_at dksX0_twins_4 22 rfl rfl)
abbrev cX0_paired : ByteArray := prog_1_method_41_code
def yX0_paired : MethodName := ⟨RX0, "paired", "(I)I"⟩
def dkwX0_paired_3 : List UInt8 := [132, 3, 1, 167, 255, 224, 42, 27, 28, 182, 1, 49, 172]
abbrev dktX0_paired_3 : List UInt8 := dkwX0_paired_3 ++ []
def dkwX0_paired_2 : List UInt8 := [29, 28, 182, 1, 49, 156, 0, 7, 3, 167, 0, 11, 4, 42, 29, 28, 182, 1, 49, 120, 128, 61]
abbrev dktX0_paired_2 : List UInt8 := dkwX0_paired_2 ++ dktX0_paired_3
def dkwX0_paired_1 : List UInt8 := [42, 180, 0, 102, 3, 50, 3, 46, 19, 1, 41, 112, 172, 3, 61, 3, 62, 29, 27, 162, 0, 33, 28, 42]
abbrev dktX0_paired_1 : List UInt8 := dkwX0_paired_1 ++ dktX0_paired_2
def dkwX0_paired_0 : List UInt8 := [27, 2, 159, 0, 13, 42, 27, 182, 0, 185, 154, 0, 5, 2, 172, 42, 182, 1, 46, 27, 2, 160, 0, 16]
abbrev dktX0_paired_0 : List UInt8 := dkwX0_paired_0 ++ dktX0_paired_1
theorem dksX0_paired_0 : cX0_paired.data.toList.drop 0 = dktX0_paired_0 := by decide +kernel
theorem dksX0_paired_1 : cX0_paired.data.toList.drop 24 = dktX0_paired_1 := dk_seg dksX0_paired_0 24 rfl rfl
theorem dksX0_paired_2 : cX0_paired.data.toList.drop 48 = dktX0_paired_2 := dk_seg dksX0_paired_1 24 rfl rfl
theorem dksX0_paired_3 : cX0_paired.data.toList.drop 70 = dktX0_paired_3 := dk_seg dksX0_paired_2 22 rfl rfl
theorem dX0_paired_0 : decode cX0_paired 0 = .ok (.iload_n 1, 1) := dk_27 (dk_at dksX0_paired_0 0 rfl rfl)
theorem dX0_paired_1 : decode cX0_paired 1 = .ok (.iconst (-1), 1) := dk_2 (dk_at dksX0_paired_0 1 rfl rfl)
theorem dX0_paired_2 : decode cX0_paired 2 = .ok (.if_icmp .eq 13, 3) := dk_159 0 13 (dk_at dksX0_paired_0 2 rfl rfl)
theorem dX0_paired_5 : decode cX0_paired 5 = .ok (.aload_n 0, 1) := dk_42 (dk_at dksX0_paired_0 5 rfl rfl)
theorem dX0_paired_6 : decode cX0_paired 6 = .ok (.iload_n 1, 1) := dk_27 (dk_at dksX0_paired_0 6 rfl rfl)
theorem dX0_paired_7 : decode cX0_paired 7 = .ok (.invokevirtual 185, 3) := dk_182 0 185 (dk_at dksX0_paired_0 7 rfl rfl)
theorem dX0_paired_10 : decode cX0_paired 10 = .ok (.ifCond .ne 5, 3) := dk_154 0 5 (dk_at dksX0_paired_0 10 rfl rfl)
theorem dX0_paired_13 : decode cX0_paired 13 = .ok (.iconst (-1), 1) := dk_2 (dk_at dksX0_paired_0 13 rfl rfl)
theorem dX0_paired_14 : decode cX0_paired 14 = .ok (.ireturn, 1) := dk_172 (dk_at dksX0_paired_0 14 rfl rfl)
theorem dX0_paired_15 : decode cX0_paired 15 = .ok (.aload_n 0, 1) := dk_42 (dk_at dksX0_paired_0 15 rfl rfl)
theorem dX0_paired_16 : decode cX0_paired 16 = .ok (.invokevirtual 302, 3) := dk_182 1 46 (dk_at dksX0_paired_0 16 rfl rfl)
theorem dX0_paired_19 : decode cX0_paired 19 = .ok (.iload_n 1, 1) := dk_27 (dk_at dksX0_paired_0 19 rfl rfl)
theorem dX0_paired_20 : decode cX0_paired 20 = .ok (.iconst (-1), 1) := dk_2 (dk_at dksX0_paired_0 20 rfl rfl)
theorem dX0_paired_21 : decode cX0_paired 21 = .ok (.if_icmp .ne 16, 3) := dk_160 0 16 (dk_at dksX0_paired_0 21 rfl rfl)
theorem dX0_paired_24 : decode cX0_paired 24 = .ok (.aload_n 0, 1) := dk_42 (dk_at dksX0_paired_1 0 rfl rfl)
theorem dX0_paired_25 : decode cX0_paired 25 = .ok (.getfield 102, 3) := dk_180 0 102 (dk_at dksX0_paired_1 1 rfl rfl)
theorem dX0_paired_28 : decode cX0_paired 28 = .ok (.iconst 0, 1) := dk_3 (dk_at dksX0_paired_1 4 rfl rfl)
theorem dX0_paired_29 : decode cX0_paired 29 = .ok (.aaload, 1) := dk_50 (dk_at dksX0_paired_1 5 rfl rfl)
theorem dX0_paired_30 : decode cX0_paired 30 = .ok (.iconst 0, 1) := dk_3 (dk_at dksX0_paired_1 6 rfl rfl)
theorem dX0_paired_31 : decode cX0_paired 31 = .ok (.iaload, 1) := dk_46 (dk_at dksX0_paired_1 7 rfl rfl)
theorem dX0_paired_32 : decode cX0_paired 32 = .ok (.ldc_w 297, 3) := dk_19 1 41 (dk_at dksX0_paired_1 8 rfl rfl)
theorem dX0_paired_35 : decode cX0_paired 35 = .ok (.irem, 1) := dk_112 (dk_at dksX0_paired_1 11 rfl rfl)
theorem dX0_paired_36 : decode cX0_paired 36 = .ok (.ireturn, 1) := dk_172 (dk_at dksX0_paired_1 12 rfl rfl)
theorem dX0_paired_37 : decode cX0_paired 37 = .ok (.iconst 0, 1) := dk_3 (dk_at dksX0_paired_1 13 rfl rfl)
theorem dX0_paired_38 : decode cX0_paired 38 = .ok (.istore_n 2, 1) := dk_61 (dk_at dksX0_paired_1 14 rfl rfl)
theorem dX0_paired_39 : decode cX0_paired 39 = .ok (.iconst 0, 1) := dk_3 (dk_at dksX0_paired_1 15 rfl rfl)
theorem dX0_paired_40 : decode cX0_paired 40 = .ok (.istore_n 3, 1) := dk_62 (dk_at dksX0_paired_1 16 rfl rfl)
theorem dX0_paired_41 : decode cX0_paired 41 = .ok (.iload_n 3, 1) := dk_29 (dk_at dksX0_paired_1 17 rfl rfl)
theorem dX0_paired_42 : decode cX0_paired 42 = .ok (.iload_n 1, 1) := dk_27 (dk_at dksX0_paired_1 18 rfl rfl)
theorem dX0_paired_43 : decode cX0_paired 43 = .ok (.if_icmp .ge 33, 3) := dk_162 0 33 (dk_at dksX0_paired_1 19 rfl rfl)
theorem dX0_paired_46 : decode cX0_paired 46 = .ok (.iload_n 2, 1) := dk_28 (dk_at dksX0_paired_1 22 rfl rfl)
theorem dX0_paired_47 : decode cX0_paired 47 = .ok (.aload_n 0, 1) := dk_42 (dk_at dksX0_paired_1 23 rfl rfl)
theorem dX0_paired_48 : decode cX0_paired 48 = .ok (.iload_n 3, 1) := dk_29 (dk_at dksX0_paired_2 0 rfl rfl)
theorem dX0_paired_49 : decode cX0_paired 49 = .ok (.iload_n 2, 1) := dk_28 (dk_at dksX0_paired_2 1 rfl rfl)
theorem dX0_paired_50 : decode cX0_paired 50 = .ok (.invokevirtual 305, 3) := dk_182 1 49 (dk_at dksX0_paired_2 2 rfl rfl)
theorem dX0_paired_53 : decode cX0_paired 53 = .ok (.ifCond .ge 7, 3) := dk_156 0 7 (dk_at dksX0_paired_2 5 rfl rfl)
theorem dX0_paired_56 : decode cX0_paired 56 = .ok (.iconst 0, 1) := dk_3 (dk_at dksX0_paired_2 8 rfl rfl)
theorem dX0_paired_57 : decode cX0_paired 57 = .ok (.goto 11, 3) := dk_167 0 11 (dk_at dksX0_paired_2 9 rfl rfl)
theorem dX0_paired_60 : decode cX0_paired 60 = .ok (.iconst 1, 1) := dk_4 (dk_at dksX0_paired_2 12 rfl rfl)
theorem dX0_paired_61 : decode cX0_paired 61 = .ok (.aload_n 0, 1) := dk_42 (dk_at dksX0_paired_2 13 rfl rfl)
theorem dX0_paired_62 : decode cX0_paired 62 = .ok (.iload_n 3, 1) := dk_29 (dk_at dksX0_paired_2 14 rfl rfl)
theorem dX0_paired_63 : decode cX0_paired 63 = .ok (.iload_n 2, 1) := dk_28 (dk_at dksX0_paired_2 15 rfl rfl)
theorem dX0_paired_64 : decode cX0_paired 64 = .ok (.invokevirtual 305, 3) := dk_182 1 49 (dk_at dksX0_paired_2 16 rfl rfl)
theorem dX0_paired_67 : decode cX0_paired 67 = .ok (.ishl, 1) := dk_120 (dk_at dksX0_paired_2 19 rfl rfl)
theorem dX0_paired_68 : decode cX0_paired 68 = .ok (.ior, 1) := dk_128 (dk_at dksX0_paired_2 20 rfl rfl)
theorem dX0_paired_69 : decode cX0_paired 69 = .ok (.istore_n 2, 1) := dk_61 (dk_at dksX0_paired_2 21 rfl rfl)
theorem dX0_paired_70 : decode cX0_paired 70 = .ok (.iinc 3 1, 3) := dk_132 3 1 (dk_at dksX0_paired_3 0 rfl rfl)
theorem dX0_paired_73 : decode cX0_paired 73 = .ok (.goto (-32), 3) := dk_167 255 224 (dk_at dksX0_paired_3 3 rfl rfl)
theorem dX0_paired_76 : decode cX0_paired 76 = .ok (.aload_n 0, 1) := dk_42 (dk_at dksX0_paired_3 6 rfl rfl)
theorem dX0_paired_77 : decode cX0_paired 77 = .ok (.iload_n 1, 1) := dk_27 (dk_at dksX0_paired_3 7 rfl rfl)
theorem dX0_paired_78 : decode cX0_paired 78 = .ok (.iload_n 2, 1) := dk_28 (dk_at dksX0_paired_3 8 rfl rfl)
theorem dX0_paired_79 : decode cX0_paired 79 = .ok (.invokevirtual 305, 3) := dk_182 1 49 (dk_at dksX0_paired_3 9 rfl rfl)
theorem dX0_paired_82 : decode cX0_paired 82 = .ok (.ireturn, 1) := dk_172 (dk_at dksX0_paired_3 12 rfl rfl)
abbrev cX0_laysPaired : ByteArray := prog_1_method_39_code
def yX0_laysPaired : MethodName := ⟨RX0, "laysPaired", "()V"⟩
def dkwX0_laysPaired_5 : List UInt8 := [79, 132, 3, 1, 167, 255, 211, 132, 2, 1, 167, 255, 171, 132, 1, 255, 167, 255, 159, 177]
abbrev dktX0_laysPaired_5 : List UInt8 := dkwX0_laysPaired_5 ++ []
def dkwX0_laysPaired_4 : List UInt8 := [180, 0, 102, 27, 50, 28, 42, 180, 0, 102, 27, 50, 28, 46, 42, 27, 28, 29, 182, 1, 42, 184, 1, 9]
abbrev dktX0_laysPaired_4 : List UInt8 := dkwX0_laysPaired_4 ++ dktX0_laysPaired_5
def dkwX0_laysPaired_3 : List UInt8 := [50, 28, 46, 96, 79, 3, 62, 29, 42, 182, 0, 165, 162, 0, 43, 28, 29, 122, 4, 126, 154, 0, 29, 42]
abbrev dktX0_laysPaired_3 : List UInt8 := dkwX0_laysPaired_3 ++ dktX0_laysPaired_4
def dkwX0_laysPaired_2 : List UInt8 := [182, 0, 165, 120, 162, 0, 81, 42, 180, 0, 102, 27, 50, 28, 19, 1, 41, 42, 180, 0, 102, 27, 4, 96]
abbrev dktX0_laysPaired_2 : List UInt8 := dkwX0_laysPaired_2 ++ dktX0_laysPaired_3
def dkwX0_laysPaired_1 : List UInt8 := [132, 1, 1, 167, 255, 231, 42, 182, 0, 159, 4, 100, 60, 27, 155, 0, 99, 3, 61, 28, 4, 42]
abbrev dktX0_laysPaired_1 : List UInt8 := dkwX0_laysPaired_1 ++ dktX0_laysPaired_2
def dkwX0_laysPaired_0 : List UInt8 := [3, 60, 27, 4, 42, 182, 0, 165, 120, 162, 0, 21, 42, 180, 0, 102, 42, 182, 0, 159, 50, 27, 3, 79]
abbrev dktX0_laysPaired_0 : List UInt8 := dkwX0_laysPaired_0 ++ dktX0_laysPaired_1
theorem dksX0_laysPaired_0 : cX0_laysPaired.data.toList.drop 0 = dktX0_laysPaired_0 := by decide +kernel
theorem dksX0_laysPaired_1 : cX0_laysPaired.data.toList.drop 24 = dktX0_laysPaired_1 := dk_seg dksX0_laysPaired_0 24 rfl rfl
theorem dksX0_laysPaired_2 : cX0_laysPaired.data.toList.drop 46 = dktX0_laysPaired_2 := dk_seg dksX0_laysPaired_1 22 rfl rfl
theorem dksX0_laysPaired_3 : cX0_laysPaired.data.toList.drop 70 = dktX0_laysPaired_3 := dk_seg dksX0_laysPaired_2 24 rfl rfl
theorem dksX0_laysPaired_4 : cX0_laysPaired.data.toList.drop 94 = dktX0_laysPaired_4 := dk_seg dksX0_laysPaired_3 24 rfl rfl
theorem dksX0_laysPaired_5 : cX0_laysPaired.data.toList.drop 118 = dktX0_laysPaired_5 := dk_seg dksX0_laysPaired_4 24 rfl rfl
theorem dX0_laysPaired_0 : decode cX0_laysPaired 0 = .ok (.iconst 0, 1) := dk_3 (dk_at dksX0_laysPaired_0 0 rfl rfl)
theorem dX0_laysPaired_1 : decode cX0_laysPaired 1 = .ok (.istore_n 1, 1) := dk_60 (dk_at dksX0_laysPaired_0 1 rfl rfl)
theorem dX0_laysPaired_2 : decode cX0_laysPaired 2 = .ok (.iload_n 1, 1) := dk_27 (dk_at dksX0_laysPaired_0 2 rfl rfl)
theorem dX0_laysPaired_3 : decode cX0_laysPaired 3 = .ok (.iconst 1, 1) := dk_4 (dk_at dksX0_laysPaired_0 3 rfl rfl)
theorem dX0_laysPaired_4 : decode cX0_laysPaired 4 = .ok (.aload_n 0, 1) := dk_42 (dk_at dksX0_laysPaired_0 4 rfl rfl)
theorem dX0_laysPaired_5 : decode cX0_laysPaired 5 = .ok (.invokevirtual 165, 3) := dk_182 0 165 (dk_at dksX0_laysPaired_0 5 rfl rfl)
theorem dX0_laysPaired_8 : decode cX0_laysPaired 8 = .ok (.ishl, 1) := dk_120 (dk_at dksX0_laysPaired_0 8 rfl rfl)
theorem dX0_laysPaired_9 : decode cX0_laysPaired 9 = .ok (.if_icmp .ge 21, 3) := dk_162 0 21 (dk_at dksX0_laysPaired_0 9 rfl rfl)
theorem dX0_laysPaired_12 : decode cX0_laysPaired 12 = .ok (.aload_n 0, 1) := dk_42 (dk_at dksX0_laysPaired_0 12 rfl rfl)
theorem dX0_laysPaired_13 : decode cX0_laysPaired 13 = .ok (.getfield 102, 3) := dk_180 0 102 (dk_at dksX0_laysPaired_0 13 rfl rfl)
theorem dX0_laysPaired_16 : decode cX0_laysPaired 16 = .ok (.aload_n 0, 1) := dk_42 (dk_at dksX0_laysPaired_0 16 rfl rfl)
theorem dX0_laysPaired_17 : decode cX0_laysPaired 17 = .ok (.invokevirtual 159, 3) := dk_182 0 159 (dk_at dksX0_laysPaired_0 17 rfl rfl)
theorem dX0_laysPaired_20 : decode cX0_laysPaired 20 = .ok (.aaload, 1) := dk_50 (dk_at dksX0_laysPaired_0 20 rfl rfl)
theorem dX0_laysPaired_21 : decode cX0_laysPaired 21 = .ok (.iload_n 1, 1) := dk_27 (dk_at dksX0_laysPaired_0 21 rfl rfl)
theorem dX0_laysPaired_22 : decode cX0_laysPaired 22 = .ok (.iconst 0, 1) := dk_3 (dk_at dksX0_laysPaired_0 22 rfl rfl)
theorem dX0_laysPaired_23 : decode cX0_laysPaired 23 = .ok (.iastore, 1) := dk_79 (dk_at dksX0_laysPaired_0 23 rfl rfl)
theorem dX0_laysPaired_24 : decode cX0_laysPaired 24 = .ok (.iinc 1 1, 3) := dk_132 1 1 (dk_at dksX0_laysPaired_1 0 rfl rfl)
theorem dX0_laysPaired_27 : decode cX0_laysPaired 27 = .ok (.goto (-25), 3) := dk_167 255 231 (dk_at dksX0_laysPaired_1 3 rfl rfl)
theorem dX0_laysPaired_30 : decode cX0_laysPaired 30 = .ok (.aload_n 0, 1) := dk_42 (dk_at dksX0_laysPaired_1 6 rfl rfl)
theorem dX0_laysPaired_31 : decode cX0_laysPaired 31 = .ok (.invokevirtual 159, 3) := dk_182 0 159 (dk_at dksX0_laysPaired_1 7 rfl rfl)
theorem dX0_laysPaired_34 : decode cX0_laysPaired 34 = .ok (.iconst 1, 1) := dk_4 (dk_at dksX0_laysPaired_1 10 rfl rfl)
theorem dX0_laysPaired_35 : decode cX0_laysPaired 35 = .ok (.isub, 1) := dk_100 (dk_at dksX0_laysPaired_1 11 rfl rfl)
theorem dX0_laysPaired_36 : decode cX0_laysPaired 36 = .ok (.istore_n 1, 1) := dk_60 (dk_at dksX0_laysPaired_1 12 rfl rfl)
theorem dX0_laysPaired_37 : decode cX0_laysPaired 37 = .ok (.iload_n 1, 1) := dk_27 (dk_at dksX0_laysPaired_1 13 rfl rfl)
theorem dX0_laysPaired_38 : decode cX0_laysPaired 38 = .ok (.ifCond .lt 99, 3) := dk_155 0 99 (dk_at dksX0_laysPaired_1 14 rfl rfl)
theorem dX0_laysPaired_41 : decode cX0_laysPaired 41 = .ok (.iconst 0, 1) := dk_3 (dk_at dksX0_laysPaired_1 17 rfl rfl)
theorem dX0_laysPaired_42 : decode cX0_laysPaired 42 = .ok (.istore_n 2, 1) := dk_61 (dk_at dksX0_laysPaired_1 18 rfl rfl)
theorem dX0_laysPaired_43 : decode cX0_laysPaired 43 = .ok (.iload_n 2, 1) := dk_28 (dk_at dksX0_laysPaired_1 19 rfl rfl)
theorem dX0_laysPaired_44 : decode cX0_laysPaired 44 = .ok (.iconst 1, 1) := dk_4 (dk_at dksX0_laysPaired_1 20 rfl rfl)
theorem dX0_laysPaired_45 : decode cX0_laysPaired 45 = .ok (.aload_n 0, 1) := dk_42 (dk_at dksX0_laysPaired_1 21 rfl rfl)
theorem dX0_laysPaired_46 : decode cX0_laysPaired 46 = .ok (.invokevirtual 165, 3) := dk_182 0 165 (dk_at dksX0_laysPaired_2 0 rfl rfl)
theorem dX0_laysPaired_49 : decode cX0_laysPaired 49 = .ok (.ishl, 1) := dk_120 (dk_at dksX0_laysPaired_2 3 rfl rfl)
theorem dX0_laysPaired_50 : decode cX0_laysPaired 50 = .ok (.if_icmp .ge 81, 3) := dk_162 0 81 (dk_at dksX0_laysPaired_2 4 rfl rfl)
theorem dX0_laysPaired_53 : decode cX0_laysPaired 53 = .ok (.aload_n 0, 1) := dk_42 (dk_at dksX0_laysPaired_2 7 rfl rfl)
theorem dX0_laysPaired_54 : decode cX0_laysPaired 54 = .ok (.getfield 102, 3) := dk_180 0 102 (dk_at dksX0_laysPaired_2 8 rfl rfl)
theorem dX0_laysPaired_57 : decode cX0_laysPaired 57 = .ok (.iload_n 1, 1) := dk_27 (dk_at dksX0_laysPaired_2 11 rfl rfl)
theorem dX0_laysPaired_58 : decode cX0_laysPaired 58 = .ok (.aaload, 1) := dk_50 (dk_at dksX0_laysPaired_2 12 rfl rfl)
theorem dX0_laysPaired_59 : decode cX0_laysPaired 59 = .ok (.iload_n 2, 1) := dk_28 (dk_at dksX0_laysPaired_2 13 rfl rfl)
theorem dX0_laysPaired_60 : decode cX0_laysPaired 60 = .ok (.ldc_w 297, 3) := dk_19 1 41 (dk_at dksX0_laysPaired_2 14 rfl rfl)
theorem dX0_laysPaired_63 : decode cX0_laysPaired 63 = .ok (.aload_n 0, 1) := dk_42 (dk_at dksX0_laysPaired_2 17 rfl rfl)
theorem dX0_laysPaired_64 : decode cX0_laysPaired 64 = .ok (.getfield 102, 3) := dk_180 0 102 (dk_at dksX0_laysPaired_2 18 rfl rfl)
theorem dX0_laysPaired_67 : decode cX0_laysPaired 67 = .ok (.iload_n 1, 1) := dk_27 (dk_at dksX0_laysPaired_2 21 rfl rfl)
theorem dX0_laysPaired_68 : decode cX0_laysPaired 68 = .ok (.iconst 1, 1) := dk_4 (dk_at dksX0_laysPaired_2 22 rfl rfl)
theorem dX0_laysPaired_69 : decode cX0_laysPaired 69 = .ok (.iadd, 1) := dk_96 (dk_at dksX0_laysPaired_2 23 rfl rfl)
theorem dX0_laysPaired_70 : decode cX0_laysPaired 70 = .ok (.aaload, 1) := dk_50 (dk_at dksX0_laysPaired_3 0 rfl rfl)
theorem dX0_laysPaired_71 : decode cX0_laysPaired 71 = .ok (.iload_n 2, 1) := dk_28 (dk_at dksX0_laysPaired_3 1 rfl rfl)
theorem dX0_laysPaired_72 : decode cX0_laysPaired 72 = .ok (.iaload, 1) := dk_46 (dk_at dksX0_laysPaired_3 2 rfl rfl)
theorem dX0_laysPaired_73 : decode cX0_laysPaired 73 = .ok (.iadd, 1) := dk_96 (dk_at dksX0_laysPaired_3 3 rfl rfl)
theorem dX0_laysPaired_74 : decode cX0_laysPaired 74 = .ok (.iastore, 1) := dk_79 (dk_at dksX0_laysPaired_3 4 rfl rfl)
theorem dX0_laysPaired_75 : decode cX0_laysPaired 75 = .ok (.iconst 0, 1) := dk_3 (dk_at dksX0_laysPaired_3 5 rfl rfl)
theorem dX0_laysPaired_76 : decode cX0_laysPaired 76 = .ok (.istore_n 3, 1) := dk_62 (dk_at dksX0_laysPaired_3 6 rfl rfl)
theorem dX0_laysPaired_77 : decode cX0_laysPaired 77 = .ok (.iload_n 3, 1) := dk_29 (dk_at dksX0_laysPaired_3 7 rfl rfl)
theorem dX0_laysPaired_78 : decode cX0_laysPaired 78 = .ok (.aload_n 0, 1) := dk_42 (dk_at dksX0_laysPaired_3 8 rfl rfl)
theorem dX0_laysPaired_79 : decode cX0_laysPaired 79 = .ok (.invokevirtual 165, 3) := dk_182 0 165 (dk_at dksX0_laysPaired_3 9 rfl rfl)
theorem dX0_laysPaired_82 : decode cX0_laysPaired 82 = .ok (.if_icmp .ge 43, 3) := dk_162 0 43 (dk_at dksX0_laysPaired_3 12 rfl rfl)
theorem dX0_laysPaired_85 : decode cX0_laysPaired 85 = .ok (.iload_n 2, 1) := dk_28 (dk_at dksX0_laysPaired_3 15 rfl rfl)
theorem dX0_laysPaired_86 : decode cX0_laysPaired 86 = .ok (.iload_n 3, 1) := dk_29 (dk_at dksX0_laysPaired_3 16 rfl rfl)
theorem dX0_laysPaired_87 : decode cX0_laysPaired 87 = .ok (.ishr, 1) := dk_122 (dk_at dksX0_laysPaired_3 17 rfl rfl)
theorem dX0_laysPaired_88 : decode cX0_laysPaired 88 = .ok (.iconst 1, 1) := dk_4 (dk_at dksX0_laysPaired_3 18 rfl rfl)
theorem dX0_laysPaired_89 : decode cX0_laysPaired 89 = .ok (.iand, 1) := dk_126 (dk_at dksX0_laysPaired_3 19 rfl rfl)
theorem dX0_laysPaired_90 : decode cX0_laysPaired 90 = .ok (.ifCond .ne 29, 3) := dk_154 0 29 (dk_at dksX0_laysPaired_3 20 rfl rfl)
theorem dX0_laysPaired_93 : decode cX0_laysPaired 93 = .ok (.aload_n 0, 1) := dk_42 (dk_at dksX0_laysPaired_3 23 rfl rfl)
theorem dX0_laysPaired_94 : decode cX0_laysPaired 94 = .ok (.getfield 102, 3) := dk_180 0 102 (dk_at dksX0_laysPaired_4 0 rfl rfl)
theorem dX0_laysPaired_97 : decode cX0_laysPaired 97 = .ok (.iload_n 1, 1) := dk_27 (dk_at dksX0_laysPaired_4 3 rfl rfl)
theorem dX0_laysPaired_98 : decode cX0_laysPaired 98 = .ok (.aaload, 1) := dk_50 (dk_at dksX0_laysPaired_4 4 rfl rfl)
theorem dX0_laysPaired_99 : decode cX0_laysPaired 99 = .ok (.iload_n 2, 1) := dk_28 (dk_at dksX0_laysPaired_4 5 rfl rfl)
theorem dX0_laysPaired_100 : decode cX0_laysPaired 100 = .ok (.aload_n 0, 1) := dk_42 (dk_at dksX0_laysPaired_4 6 rfl rfl)
theorem dX0_laysPaired_101 : decode cX0_laysPaired 101 = .ok (.getfield 102, 3) := dk_180 0 102 (dk_at dksX0_laysPaired_4 7 rfl rfl)
theorem dX0_laysPaired_104 : decode cX0_laysPaired 104 = .ok (.iload_n 1, 1) := dk_27 (dk_at dksX0_laysPaired_4 10 rfl rfl)
theorem dX0_laysPaired_105 : decode cX0_laysPaired 105 = .ok (.aaload, 1) := dk_50 (dk_at dksX0_laysPaired_4 11 rfl rfl)
theorem dX0_laysPaired_106 : decode cX0_laysPaired 106 = .ok (.iload_n 2, 1) := dk_28 (dk_at dksX0_laysPaired_4 12 rfl rfl)
theorem dX0_laysPaired_107 : decode cX0_laysPaired 107 = .ok (.iaload, 1) := dk_46 (dk_at dksX0_laysPaired_4 13 rfl rfl)
theorem dX0_laysPaired_108 : decode cX0_laysPaired 108 = .ok (.aload_n 0, 1) := dk_42 (dk_at dksX0_laysPaired_4 14 rfl rfl)
theorem dX0_laysPaired_109 : decode cX0_laysPaired 109 = .ok (.iload_n 1, 1) := dk_27 (dk_at dksX0_laysPaired_4 15 rfl rfl)
theorem dX0_laysPaired_110 : decode cX0_laysPaired 110 = .ok (.iload_n 2, 1) := dk_28 (dk_at dksX0_laysPaired_4 16 rfl rfl)
theorem dX0_laysPaired_111 : decode cX0_laysPaired 111 = .ok (.iload_n 3, 1) := dk_29 (dk_at dksX0_laysPaired_4 17 rfl rfl)
theorem dX0_laysPaired_112 : decode cX0_laysPaired 112 = .ok (.invokevirtual 298, 3) := dk_182 1 42 (dk_at dksX0_laysPaired_4 18 rfl rfl)
theorem dX0_laysPaired_115 : decode cX0_laysPaired 115 = .ok (.invokestatic 265, 3) := dk_184 1 9 (dk_at dksX0_laysPaired_4 21 rfl rfl)
theorem dX0_laysPaired_118 : decode cX0_laysPaired 118 = .ok (.iastore, 1) := dk_79 (dk_at dksX0_laysPaired_5 0 rfl rfl)
theorem dX0_laysPaired_119 : decode cX0_laysPaired 119 = .ok (.iinc 3 1, 3) := dk_132 3 1 (dk_at dksX0_laysPaired_5 1 rfl rfl)
theorem dX0_laysPaired_122 : decode cX0_laysPaired 122 = .ok (.goto (-45), 3) := dk_167 255 211 (dk_at dksX0_laysPaired_5 4 rfl rfl)
theorem dX0_laysPaired_125 : decode cX0_laysPaired 125 = .ok (.iinc 2 1, 3) := dk_132 2 1 (dk_at dksX0_laysPaired_5 7 rfl rfl)
theorem dX0_laysPaired_128 : decode cX0_laysPaired 128 = .ok (.goto (-85), 3) := dk_167 255 171 (dk_at dksX0_laysPaired_5 10 rfl rfl)
theorem dX0_laysPaired_131 : decode cX0_laysPaired 131 = .ok (.iinc 1 (-1), 3) := dk_132 1 255 (dk_at dksX0_laysPaired_5 13 rfl rfl)
theorem dX0_laysPaired_134 : decode cX0_laysPaired 134 = .ok (.goto (-97), 3) := dk_167 255 159 (dk_at dksX0_laysPaired_5 16 rfl rfl)
theorem dX0_laysPaired_137 : decode cX0_laysPaired 137 = .ok (.return_, 1) := dk_177 (dk_at dksX0_laysPaired_5 19 rfl rfl)
abbrev cX0_pairedBy : ByteArray := prog_1_method_38_code
def yX0_pairedBy : MethodName := ⟨RX0, "pairedBy", "(III)I"⟩
def dkwX0_pairedBy_1 : List UInt8 := [120, 128, 46, 96, 172]
abbrev dktX0_pairedBy_1 : List UInt8 := dkwX0_pairedBy_1 ++ []
def dkwX0_pairedBy_0 : List UInt8 := [42, 180, 0, 62, 42, 180, 0, 51, 27, 29, 182, 0, 247, 42, 180, 0, 102, 27, 4, 96, 50, 28, 4, 29]
abbrev dktX0_pairedBy_0 : List UInt8 := dkwX0_pairedBy_0 ++ dktX0_pairedBy_1
theorem dksX0_pairedBy_0 : cX0_pairedBy.data.toList.drop 0 = dktX0_pairedBy_0 := by decide +kernel
theorem dksX0_pairedBy_1 : cX0_pairedBy.data.toList.drop 24 = dktX0_pairedBy_1 := dk_seg dksX0_pairedBy_0 24 rfl rfl
theorem dX0_pairedBy_0 : decode cX0_pairedBy 0 = .ok (.aload_n 0, 1) := dk_42 (dk_at dksX0_pairedBy_0 0 rfl rfl)
theorem dX0_pairedBy_1 : decode cX0_pairedBy 1 = .ok (.getfield 62, 3) := dk_180 0 62 (dk_at dksX0_pairedBy_0 1 rfl rfl)
theorem dX0_pairedBy_4 : decode cX0_pairedBy 4 = .ok (.aload_n 0, 1) := dk_42 (dk_at dksX0_pairedBy_0 4 rfl rfl)
theorem dX0_pairedBy_5 : decode cX0_pairedBy 5 = .ok (.getfield 51, 3) := dk_180 0 51 (dk_at dksX0_pairedBy_0 5 rfl rfl)
theorem dX0_pairedBy_8 : decode cX0_pairedBy 8 = .ok (.iload_n 1, 1) := dk_27 (dk_at dksX0_pairedBy_0 8 rfl rfl)
theorem dX0_pairedBy_9 : decode cX0_pairedBy 9 = .ok (.iload_n 3, 1) := dk_29 (dk_at dksX0_pairedBy_0 9 rfl rfl)
theorem dX0_pairedBy_10 : decode cX0_pairedBy 10 = .ok (.invokevirtual 247, 3) := dk_182 0 247 (dk_at dksX0_pairedBy_0 10 rfl rfl)
theorem dX0_pairedBy_13 : decode cX0_pairedBy 13 = .ok (.aload_n 0, 1) := dk_42 (dk_at dksX0_pairedBy_0 13 rfl rfl)
theorem dX0_pairedBy_14 : decode cX0_pairedBy 14 = .ok (.getfield 102, 3) := dk_180 0 102 (dk_at dksX0_pairedBy_0 14 rfl rfl)
theorem dX0_pairedBy_17 : decode cX0_pairedBy 17 = .ok (.iload_n 1, 1) := dk_27 (dk_at dksX0_pairedBy_0 17 rfl rfl)
theorem dX0_pairedBy_18 : decode cX0_pairedBy 18 = .ok (.iconst 1, 1) := dk_4 (dk_at dksX0_pairedBy_0 18 rfl rfl)
theorem dX0_pairedBy_19 : decode cX0_pairedBy 19 = .ok (.iadd, 1) := dk_96 (dk_at dksX0_pairedBy_0 19 rfl rfl)
theorem dX0_pairedBy_20 : decode cX0_pairedBy 20 = .ok (.aaload, 1) := dk_50 (dk_at dksX0_pairedBy_0 20 rfl rfl)
theorem dX0_pairedBy_21 : decode cX0_pairedBy 21 = .ok (.iload_n 2, 1) := dk_28 (dk_at dksX0_pairedBy_0 21 rfl rfl)
theorem dX0_pairedBy_22 : decode cX0_pairedBy 22 = .ok (.iconst 1, 1) := dk_4 (dk_at dksX0_pairedBy_0 22 rfl rfl)
theorem dX0_pairedBy_23 : decode cX0_pairedBy 23 = .ok (.iload_n 3, 1) := dk_29 (dk_at dksX0_pairedBy_0 23 rfl rfl)
theorem dX0_pairedBy_24 : decode cX0_pairedBy 24 = .ok (.ishl, 1) := dk_120 (dk_at dksX0_pairedBy_1 0 rfl rfl)
theorem dX0_pairedBy_25 : decode cX0_pairedBy 25 = .ok (.ior, 1) := dk_128 (dk_at dksX0_pairedBy_1 1 rfl rfl)
theorem dX0_pairedBy_26 : decode cX0_pairedBy 26 = .ok (.iaload, 1) := dk_46 (dk_at dksX0_pairedBy_1 2 rfl rfl)
theorem dX0_pairedBy_27 : decode cX0_pairedBy 27 = .ok (.iadd, 1) := dk_96 (dk_at dksX0_pairedBy_1 3 rfl rfl)
theorem dX0_pairedBy_28 : decode cX0_pairedBy 28 = .ok (.ireturn, 1) := dk_172 (dk_at dksX0_pairedBy_1 4 rfl rfl)
abbrev cX0_pairedTo : ByteArray := prog_1_method_40_code
def yX0_pairedTo : MethodName := ⟨RX0, "pairedTo", "(II)I"⟩
def dkwX0_pairedTo_2 : List UInt8 := [172]
abbrev dktX0_pairedTo_2 : List UInt8 := dkwX0_pairedTo_2 ++ []
def dkwX0_pairedTo_1 : List UInt8 := [182, 1, 42, 42, 180, 0, 102, 27, 50, 28, 46, 160, 0, 5, 29, 172, 132, 3, 1, 167, 255, 217, 16, 254]
abbrev dktX0_pairedTo_1 : List UInt8 := dkwX0_pairedTo_1 ++ dktX0_pairedTo_2
def dkwX0_pairedTo_0 : List UInt8 := [3, 62, 29, 42, 182, 0, 165, 162, 0, 37, 28, 29, 122, 4, 126, 154, 0, 23, 42, 27, 28, 29]
abbrev dktX0_pairedTo_0 : List UInt8 := dkwX0_pairedTo_0 ++ dktX0_pairedTo_1
theorem dksX0_pairedTo_0 : cX0_pairedTo.data.toList.drop 0 = dktX0_pairedTo_0 := by decide +kernel
theorem dksX0_pairedTo_1 : cX0_pairedTo.data.toList.drop 22 = dktX0_pairedTo_1 := dk_seg dksX0_pairedTo_0 22 rfl rfl
theorem dksX0_pairedTo_2 : cX0_pairedTo.data.toList.drop 46 = dktX0_pairedTo_2 := dk_seg dksX0_pairedTo_1 24 rfl rfl
theorem dX0_pairedTo_0 : decode cX0_pairedTo 0 = .ok (.iconst 0, 1) := dk_3 (dk_at dksX0_pairedTo_0 0 rfl rfl)
theorem dX0_pairedTo_1 : decode cX0_pairedTo 1 = .ok (.istore_n 3, 1) := dk_62 (dk_at dksX0_pairedTo_0 1 rfl rfl)
theorem dX0_pairedTo_2 : decode cX0_pairedTo 2 = .ok (.iload_n 3, 1) := dk_29 (dk_at dksX0_pairedTo_0 2 rfl rfl)
theorem dX0_pairedTo_3 : decode cX0_pairedTo 3 = .ok (.aload_n 0, 1) := dk_42 (dk_at dksX0_pairedTo_0 3 rfl rfl)
theorem dX0_pairedTo_4 : decode cX0_pairedTo 4 = .ok (.invokevirtual 165, 3) := dk_182 0 165 (dk_at dksX0_pairedTo_0 4 rfl rfl)
theorem dX0_pairedTo_7 : decode cX0_pairedTo 7 = .ok (.if_icmp .ge 37, 3) := dk_162 0 37 (dk_at dksX0_pairedTo_0 7 rfl rfl)
theorem dX0_pairedTo_10 : decode cX0_pairedTo 10 = .ok (.iload_n 2, 1) := dk_28 (dk_at dksX0_pairedTo_0 10 rfl rfl)
theorem dX0_pairedTo_11 : decode cX0_pairedTo 11 = .ok (.iload_n 3, 1) := dk_29 (dk_at dksX0_pairedTo_0 11 rfl rfl)
theorem dX0_pairedTo_12 : decode cX0_pairedTo 12 = .ok (.ishr, 1) := dk_122 (dk_at dksX0_pairedTo_0 12 rfl rfl)
theorem dX0_pairedTo_13 : decode cX0_pairedTo 13 = .ok (.iconst 1, 1) := dk_4 (dk_at dksX0_pairedTo_0 13 rfl rfl)
theorem dX0_pairedTo_14 : decode cX0_pairedTo 14 = .ok (.iand, 1) := dk_126 (dk_at dksX0_pairedTo_0 14 rfl rfl)
theorem dX0_pairedTo_15 : decode cX0_pairedTo 15 = .ok (.ifCond .ne 23, 3) := dk_154 0 23 (dk_at dksX0_pairedTo_0 15 rfl rfl)
theorem dX0_pairedTo_18 : decode cX0_pairedTo 18 = .ok (.aload_n 0, 1) := dk_42 (dk_at dksX0_pairedTo_0 18 rfl rfl)
theorem dX0_pairedTo_19 : decode cX0_pairedTo 19 = .ok (.iload_n 1, 1) := dk_27 (dk_at dksX0_pairedTo_0 19 rfl rfl)
theorem dX0_pairedTo_20 : decode cX0_pairedTo 20 = .ok (.iload_n 2, 1) := dk_28 (dk_at dksX0_pairedTo_0 20 rfl rfl)
theorem dX0_pairedTo_21 : decode cX0_pairedTo 21 = .ok (.iload_n 3, 1) := dk_29 (dk_at dksX0_pairedTo_0 21 rfl rfl)
theorem dX0_pairedTo_22 : decode cX0_pairedTo 22 = .ok (.invokevirtual 298, 3) := dk_182 1 42 (dk_at dksX0_pairedTo_1 0 rfl rfl)
theorem dX0_pairedTo_25 : decode cX0_pairedTo 25 = .ok (.aload_n 0, 1) := dk_42 (dk_at dksX0_pairedTo_1 3 rfl rfl)
theorem dX0_pairedTo_26 : decode cX0_pairedTo 26 = .ok (.getfield 102, 3) := dk_180 0 102 (dk_at dksX0_pairedTo_1 4 rfl rfl)
theorem dX0_pairedTo_29 : decode cX0_pairedTo 29 = .ok (.iload_n 1, 1) := dk_27 (dk_at dksX0_pairedTo_1 7 rfl rfl)
theorem dX0_pairedTo_30 : decode cX0_pairedTo 30 = .ok (.aaload, 1) := dk_50 (dk_at dksX0_pairedTo_1 8 rfl rfl)
theorem dX0_pairedTo_31 : decode cX0_pairedTo 31 = .ok (.iload_n 2, 1) := dk_28 (dk_at dksX0_pairedTo_1 9 rfl rfl)
theorem dX0_pairedTo_32 : decode cX0_pairedTo 32 = .ok (.iaload, 1) := dk_46 (dk_at dksX0_pairedTo_1 10 rfl rfl)
theorem dX0_pairedTo_33 : decode cX0_pairedTo 33 = .ok (.if_icmp .ne 5, 3) := dk_160 0 5 (dk_at dksX0_pairedTo_1 11 rfl rfl)
theorem dX0_pairedTo_36 : decode cX0_pairedTo 36 = .ok (.iload_n 3, 1) := dk_29 (dk_at dksX0_pairedTo_1 14 rfl rfl)
theorem dX0_pairedTo_37 : decode cX0_pairedTo 37 = .ok (.ireturn, 1) := dk_172 (dk_at dksX0_pairedTo_1 15 rfl rfl)
theorem dX0_pairedTo_38 : decode cX0_pairedTo 38 = .ok (.iinc 3 1, 3) := dk_132 3 1 (dk_at dksX0_pairedTo_1 16 rfl rfl)
theorem dX0_pairedTo_41 : decode cX0_pairedTo 41 = .ok (.goto (-39), 3) := dk_167 255 217 (dk_at dksX0_pairedTo_1 19 rfl rfl)
theorem dX0_pairedTo_44 : decode cX0_pairedTo 44 = .ok (.bipush (-2), 2) := dk_16 254 (dk_at dksX0_pairedTo_1 22 rfl rfl)
theorem dX0_pairedTo_46 : decode cX0_pairedTo 46 = .ok (.ireturn, 1) := dk_172 (dk_at dksX0_pairedTo_2 0 rfl rfl)
abbrev cX0_flat : ByteArray := prog_1_method_42_code
def yX0_flat : MethodName := ⟨RX0, "flat", "(I)I"⟩
def dkwX0_flat_3 : List UInt8 := [27, 154, 0, 7, 28, 167, 0, 4, 29, 172]
abbrev dktX0_flat_3 : List UInt8 := dkwX0_flat_3 ++ []
def dkwX0_flat_2 : List UInt8 := [21, 4, 61, 42, 42, 180, 0, 62, 21, 4, 182, 0, 208, 62, 132, 4, 1, 167, 255, 213, 28, 155, 0, 7]
abbrev dktX0_flat_2 : List UInt8 := dkwX0_flat_2 ++ dktX0_flat_3
def dkwX0_flat_1 : List UInt8 := [182, 0, 159, 162, 0, 40, 42, 42, 180, 0, 62, 21, 4, 182, 0, 208, 29, 161, 0, 6, 167, 0, 17]
abbrev dktX0_flat_1 : List UInt8 := dkwX0_flat_1 ++ dktX0_flat_2
def dkwX0_flat_0 : List UInt8 := [27, 3, 4, 184, 0, 161, 154, 0, 5, 2, 172, 16, 254, 61, 19, 1, 41, 62, 3, 54, 4, 21, 4, 42]
abbrev dktX0_flat_0 : List UInt8 := dkwX0_flat_0 ++ dktX0_flat_1
theorem dksX0_flat_0 : cX0_flat.data.toList.drop 0 = dktX0_flat_0 := by decide +kernel
theorem dksX0_flat_1 : cX0_flat.data.toList.drop 24 = dktX0_flat_1 := dk_seg dksX0_flat_0 24 rfl rfl
theorem dksX0_flat_2 : cX0_flat.data.toList.drop 47 = dktX0_flat_2 := dk_seg dksX0_flat_1 23 rfl rfl
theorem dksX0_flat_3 : cX0_flat.data.toList.drop 71 = dktX0_flat_3 := dk_seg dksX0_flat_2 24 rfl rfl
theorem dX0_flat_0 : decode cX0_flat 0 = .ok (.iload_n 1, 1) := dk_27 (dk_at dksX0_flat_0 0 rfl rfl)
theorem dX0_flat_1 : decode cX0_flat 1 = .ok (.iconst 0, 1) := dk_3 (dk_at dksX0_flat_0 1 rfl rfl)
theorem dX0_flat_2 : decode cX0_flat 2 = .ok (.iconst 1, 1) := dk_4 (dk_at dksX0_flat_0 2 rfl rfl)
theorem dX0_flat_3 : decode cX0_flat 3 = .ok (.invokestatic 161, 3) := dk_184 0 161 (dk_at dksX0_flat_0 3 rfl rfl)
theorem dX0_flat_6 : decode cX0_flat 6 = .ok (.ifCond .ne 5, 3) := dk_154 0 5 (dk_at dksX0_flat_0 6 rfl rfl)
theorem dX0_flat_9 : decode cX0_flat 9 = .ok (.iconst (-1), 1) := dk_2 (dk_at dksX0_flat_0 9 rfl rfl)
theorem dX0_flat_10 : decode cX0_flat 10 = .ok (.ireturn, 1) := dk_172 (dk_at dksX0_flat_0 10 rfl rfl)
theorem dX0_flat_11 : decode cX0_flat 11 = .ok (.bipush (-2), 2) := dk_16 254 (dk_at dksX0_flat_0 11 rfl rfl)
theorem dX0_flat_13 : decode cX0_flat 13 = .ok (.istore_n 2, 1) := dk_61 (dk_at dksX0_flat_0 13 rfl rfl)
theorem dX0_flat_14 : decode cX0_flat 14 = .ok (.ldc_w 297, 3) := dk_19 1 41 (dk_at dksX0_flat_0 14 rfl rfl)
theorem dX0_flat_17 : decode cX0_flat 17 = .ok (.istore_n 3, 1) := dk_62 (dk_at dksX0_flat_0 17 rfl rfl)
theorem dX0_flat_18 : decode cX0_flat 18 = .ok (.iconst 0, 1) := dk_3 (dk_at dksX0_flat_0 18 rfl rfl)
theorem dX0_flat_19 : decode cX0_flat 19 = .ok (.istore 4, 2) := dk_54 4 (dk_at dksX0_flat_0 19 rfl rfl)
theorem dX0_flat_21 : decode cX0_flat 21 = .ok (.iload 4, 2) := dk_21 4 (dk_at dksX0_flat_0 21 rfl rfl)
theorem dX0_flat_23 : decode cX0_flat 23 = .ok (.aload_n 0, 1) := dk_42 (dk_at dksX0_flat_0 23 rfl rfl)
theorem dX0_flat_24 : decode cX0_flat 24 = .ok (.invokevirtual 159, 3) := dk_182 0 159 (dk_at dksX0_flat_1 0 rfl rfl)
theorem dX0_flat_27 : decode cX0_flat 27 = .ok (.if_icmp .ge 40, 3) := dk_162 0 40 (dk_at dksX0_flat_1 3 rfl rfl)
theorem dX0_flat_30 : decode cX0_flat 30 = .ok (.aload_n 0, 1) := dk_42 (dk_at dksX0_flat_1 6 rfl rfl)
theorem dX0_flat_31 : decode cX0_flat 31 = .ok (.aload_n 0, 1) := dk_42 (dk_at dksX0_flat_1 7 rfl rfl)
theorem dX0_flat_32 : decode cX0_flat 32 = .ok (.getfield 62, 3) := dk_180 0 62 (dk_at dksX0_flat_1 8 rfl rfl)
theorem dX0_flat_35 : decode cX0_flat 35 = .ok (.iload 4, 2) := dk_21 4 (dk_at dksX0_flat_1 11 rfl rfl)
theorem dX0_flat_37 : decode cX0_flat 37 = .ok (.invokevirtual 208, 3) := dk_182 0 208 (dk_at dksX0_flat_1 13 rfl rfl)
theorem dX0_flat_40 : decode cX0_flat 40 = .ok (.iload_n 3, 1) := dk_29 (dk_at dksX0_flat_1 16 rfl rfl)
theorem dX0_flat_41 : decode cX0_flat 41 = .ok (.if_icmp .lt 6, 3) := dk_161 0 6 (dk_at dksX0_flat_1 17 rfl rfl)
theorem dX0_flat_44 : decode cX0_flat 44 = .ok (.goto 17, 3) := dk_167 0 17 (dk_at dksX0_flat_1 20 rfl rfl)
theorem dX0_flat_47 : decode cX0_flat 47 = .ok (.iload 4, 2) := dk_21 4 (dk_at dksX0_flat_2 0 rfl rfl)
theorem dX0_flat_49 : decode cX0_flat 49 = .ok (.istore_n 2, 1) := dk_61 (dk_at dksX0_flat_2 2 rfl rfl)
theorem dX0_flat_50 : decode cX0_flat 50 = .ok (.aload_n 0, 1) := dk_42 (dk_at dksX0_flat_2 3 rfl rfl)
theorem dX0_flat_51 : decode cX0_flat 51 = .ok (.aload_n 0, 1) := dk_42 (dk_at dksX0_flat_2 4 rfl rfl)
theorem dX0_flat_52 : decode cX0_flat 52 = .ok (.getfield 62, 3) := dk_180 0 62 (dk_at dksX0_flat_2 5 rfl rfl)
theorem dX0_flat_55 : decode cX0_flat 55 = .ok (.iload 4, 2) := dk_21 4 (dk_at dksX0_flat_2 8 rfl rfl)
theorem dX0_flat_57 : decode cX0_flat 57 = .ok (.invokevirtual 208, 3) := dk_182 0 208 (dk_at dksX0_flat_2 10 rfl rfl)
theorem dX0_flat_60 : decode cX0_flat 60 = .ok (.istore_n 3, 1) := dk_62 (dk_at dksX0_flat_2 13 rfl rfl)
theorem dX0_flat_61 : decode cX0_flat 61 = .ok (.iinc 4 1, 3) := dk_132 4 1 (dk_at dksX0_flat_2 14 rfl rfl)
theorem dX0_flat_64 : decode cX0_flat 64 = .ok (.goto (-43), 3) := dk_167 255 213 (dk_at dksX0_flat_2 17 rfl rfl)
theorem dX0_flat_67 : decode cX0_flat 67 = .ok (.iload_n 2, 1) := dk_28 (dk_at dksX0_flat_2 20 rfl rfl)
theorem dX0_flat_68 : decode cX0_flat 68 = .ok (.ifCond .lt 7, 3) := dk_155 0 7 (dk_at dksX0_flat_2 21 rfl rfl)
theorem dX0_flat_71 : decode cX0_flat 71 = .ok (.iload_n 1, 1) := dk_27 (dk_at dksX0_flat_3 0 rfl rfl)
theorem dX0_flat_72 : decode cX0_flat 72 = .ok (.ifCond .ne 7, 3) := dk_154 0 7 (dk_at dksX0_flat_3 1 rfl rfl)
theorem dX0_flat_75 : decode cX0_flat 75 = .ok (.iload_n 2, 1) := dk_28 (dk_at dksX0_flat_3 4 rfl rfl)
theorem dX0_flat_76 : decode cX0_flat 76 = .ok (.goto 4, 3) := dk_167 0 4 (dk_at dksX0_flat_3 5 rfl rfl)
theorem dX0_flat_79 : decode cX0_flat 79 = .ok (.iload_n 3, 1) := dk_29 (dk_at dksX0_flat_3 8 rfl rfl)
theorem dX0_flat_80 : decode cX0_flat 80 = .ok (.ireturn, 1) := dk_172 (dk_at dksX0_flat_3 9 rfl rfl)
abbrev cX0_confused : ByteArray := prog_1_method_43_code
def yX0_confused : MethodName := ⟨RX0, "confused", "(I)I"⟩
def dkwX0_confused_5 : List UInt8 := [167, 255, 161, 28, 155, 0, 7, 27, 154, 0, 7, 28, 167, 0, 4, 29, 172]
abbrev dktX0_confused_5 : List UInt8 := dkwX0_confused_5 ++ []
def dkwX0_confused_4 : List UInt8 := [167, 0, 15, 16, 10, 21, 4, 104, 21, 5, 96, 61, 21, 6, 62, 132, 5, 1, 167, 255, 182, 132, 4, 1]
abbrev dktX0_confused_4 : List UInt8 := dkwX0_confused_4 ++ dktX0_confused_5
def dkwX0_confused_3 : List UInt8 := [21, 5, 182, 0, 173, 192, 0, 215, 180, 0, 217, 184, 0, 181, 54, 6, 21, 6, 29, 161, 0, 6]
abbrev dktX0_confused_3 : List UInt8 := dkwX0_confused_3 ++ dktX0_confused_4
def dkwX0_confused_2 : List UInt8 := [180, 0, 51, 180, 0, 156, 21, 4, 182, 0, 173, 192, 0, 215, 180, 0, 217, 42, 180, 0, 51, 180, 0, 156]
abbrev dktX0_confused_2 : List UInt8 := dkwX0_confused_2 ++ dktX0_confused_3
def dkwX0_confused_1 : List UInt8 := [182, 0, 165, 162, 0, 92, 21, 4, 4, 96, 54, 5, 21, 5, 42, 182, 0, 165, 162, 0, 71, 42]
abbrev dktX0_confused_1 : List UInt8 := dkwX0_confused_1 ++ dktX0_confused_2
def dkwX0_confused_0 : List UInt8 := [27, 3, 4, 184, 0, 161, 154, 0, 5, 2, 172, 16, 254, 61, 19, 1, 41, 62, 3, 54, 4, 21, 4, 42]
abbrev dktX0_confused_0 : List UInt8 := dkwX0_confused_0 ++ dktX0_confused_1
theorem dksX0_confused_0 : cX0_confused.data.toList.drop 0 = dktX0_confused_0 := by decide +kernel
theorem dksX0_confused_1 : cX0_confused.data.toList.drop 24 = dktX0_confused_1 := dk_seg dksX0_confused_0 24 rfl rfl
theorem dksX0_confused_2 : cX0_confused.data.toList.drop 46 = dktX0_confused_2 := dk_seg dksX0_confused_1 22 rfl rfl
theorem dksX0_confused_3 : cX0_confused.data.toList.drop 70 = dktX0_confused_3 := dk_seg dksX0_confused_2 24 rfl rfl
theorem dksX0_confused_4 : cX0_confused.data.toList.drop 92 = dktX0_confused_4 := dk_seg dksX0_confused_3 22 rfl rfl
theorem dksX0_confused_5 : cX0_confused.data.toList.drop 116 = dktX0_confused_5 := dk_seg dksX0_confused_4 24 rfl rfl
theorem dX0_confused_0 : decode cX0_confused 0 = .ok (.iload_n 1, 1) := dk_27 (dk_at dksX0_confused_0 0 rfl rfl)
theorem dX0_confused_1 : decode cX0_confused 1 = .ok (.iconst 0, 1) := dk_3 (dk_at dksX0_confused_0 1 rfl rfl)
theorem dX0_confused_2 : decode cX0_confused 2 = .ok (.iconst 1, 1) := dk_4 (dk_at dksX0_confused_0 2 rfl rfl)
theorem dX0_confused_3 : decode cX0_confused 3 = .ok (.invokestatic 161, 3) := dk_184 0 161 (dk_at dksX0_confused_0 3 rfl rfl)
theorem dX0_confused_6 : decode cX0_confused 6 = .ok (.ifCond .ne 5, 3) := dk_154 0 5 (dk_at dksX0_confused_0 6 rfl rfl)
theorem dX0_confused_9 : decode cX0_confused 9 = .ok (.iconst (-1), 1) := dk_2 (dk_at dksX0_confused_0 9 rfl rfl)
theorem dX0_confused_10 : decode cX0_confused 10 = .ok (.ireturn, 1) := dk_172 (dk_at dksX0_confused_0 10 rfl rfl)
theorem dX0_confused_11 : decode cX0_confused 11 = .ok (.bipush (-2), 2) := dk_16 254 (dk_at dksX0_confused_0 11 rfl rfl)
theorem dX0_confused_13 : decode cX0_confused 13 = .ok (.istore_n 2, 1) := dk_61 (dk_at dksX0_confused_0 13 rfl rfl)
theorem dX0_confused_14 : decode cX0_confused 14 = .ok (.ldc_w 297, 3) := dk_19 1 41 (dk_at dksX0_confused_0 14 rfl rfl)
theorem dX0_confused_17 : decode cX0_confused 17 = .ok (.istore_n 3, 1) := dk_62 (dk_at dksX0_confused_0 17 rfl rfl)
theorem dX0_confused_18 : decode cX0_confused 18 = .ok (.iconst 0, 1) := dk_3 (dk_at dksX0_confused_0 18 rfl rfl)
theorem dX0_confused_19 : decode cX0_confused 19 = .ok (.istore 4, 2) := dk_54 4 (dk_at dksX0_confused_0 19 rfl rfl)
theorem dX0_confused_21 : decode cX0_confused 21 = .ok (.iload 4, 2) := dk_21 4 (dk_at dksX0_confused_0 21 rfl rfl)
theorem dX0_confused_23 : decode cX0_confused 23 = .ok (.aload_n 0, 1) := dk_42 (dk_at dksX0_confused_0 23 rfl rfl)
theorem dX0_confused_24 : decode cX0_confused 24 = .ok (.invokevirtual 165, 3) := dk_182 0 165 (dk_at dksX0_confused_1 0 rfl rfl)
theorem dX0_confused_27 : decode cX0_confused 27 = .ok (.if_icmp .ge 92, 3) := dk_162 0 92 (dk_at dksX0_confused_1 3 rfl rfl)
theorem dX0_confused_30 : decode cX0_confused 30 = .ok (.iload 4, 2) := dk_21 4 (dk_at dksX0_confused_1 6 rfl rfl)
theorem dX0_confused_32 : decode cX0_confused 32 = .ok (.iconst 1, 1) := dk_4 (dk_at dksX0_confused_1 8 rfl rfl)
theorem dX0_confused_33 : decode cX0_confused 33 = .ok (.iadd, 1) := dk_96 (dk_at dksX0_confused_1 9 rfl rfl)
theorem dX0_confused_34 : decode cX0_confused 34 = .ok (.istore 5, 2) := dk_54 5 (dk_at dksX0_confused_1 10 rfl rfl)
theorem dX0_confused_36 : decode cX0_confused 36 = .ok (.iload 5, 2) := dk_21 5 (dk_at dksX0_confused_1 12 rfl rfl)
theorem dX0_confused_38 : decode cX0_confused 38 = .ok (.aload_n 0, 1) := dk_42 (dk_at dksX0_confused_1 14 rfl rfl)
theorem dX0_confused_39 : decode cX0_confused 39 = .ok (.invokevirtual 165, 3) := dk_182 0 165 (dk_at dksX0_confused_1 15 rfl rfl)
theorem dX0_confused_42 : decode cX0_confused 42 = .ok (.if_icmp .ge 71, 3) := dk_162 0 71 (dk_at dksX0_confused_1 18 rfl rfl)
theorem dX0_confused_45 : decode cX0_confused 45 = .ok (.aload_n 0, 1) := dk_42 (dk_at dksX0_confused_1 21 rfl rfl)
theorem dX0_confused_46 : decode cX0_confused 46 = .ok (.getfield 51, 3) := dk_180 0 51 (dk_at dksX0_confused_2 0 rfl rfl)
theorem dX0_confused_49 : decode cX0_confused 49 = .ok (.getfield 156, 3) := dk_180 0 156 (dk_at dksX0_confused_2 3 rfl rfl)
theorem dX0_confused_52 : decode cX0_confused 52 = .ok (.iload 4, 2) := dk_21 4 (dk_at dksX0_confused_2 6 rfl rfl)
theorem dX0_confused_54 : decode cX0_confused 54 = .ok (.invokevirtual 173, 3) := dk_182 0 173 (dk_at dksX0_confused_2 8 rfl rfl)
theorem dX0_confused_57 : decode cX0_confused 57 = .ok (.checkcast 215, 3) := dk_192 0 215 (dk_at dksX0_confused_2 11 rfl rfl)
theorem dX0_confused_60 : decode cX0_confused 60 = .ok (.getfield 217, 3) := dk_180 0 217 (dk_at dksX0_confused_2 14 rfl rfl)
theorem dX0_confused_63 : decode cX0_confused 63 = .ok (.aload_n 0, 1) := dk_42 (dk_at dksX0_confused_2 17 rfl rfl)
theorem dX0_confused_64 : decode cX0_confused 64 = .ok (.getfield 51, 3) := dk_180 0 51 (dk_at dksX0_confused_2 18 rfl rfl)
theorem dX0_confused_67 : decode cX0_confused 67 = .ok (.getfield 156, 3) := dk_180 0 156 (dk_at dksX0_confused_2 21 rfl rfl)
theorem dX0_confused_70 : decode cX0_confused 70 = .ok (.iload 5, 2) := dk_21 5 (dk_at dksX0_confused_3 0 rfl rfl)
theorem dX0_confused_72 : decode cX0_confused 72 = .ok (.invokevirtual 173, 3) := dk_182 0 173 (dk_at dksX0_confused_3 2 rfl rfl)
theorem dX0_confused_75 : decode cX0_confused 75 = .ok (.checkcast 215, 3) := dk_192 0 215 (dk_at dksX0_confused_3 5 rfl rfl)
theorem dX0_confused_78 : decode cX0_confused 78 = .ok (.getfield 217, 3) := dk_180 0 217 (dk_at dksX0_confused_3 8 rfl rfl)
theorem dX0_confused_81 : decode cX0_confused 81 = .ok (.invokestatic 181, 3) := dk_184 0 181 (dk_at dksX0_confused_3 11 rfl rfl)
theorem dX0_confused_84 : decode cX0_confused 84 = .ok (.istore 6, 2) := dk_54 6 (dk_at dksX0_confused_3 14 rfl rfl)
theorem dX0_confused_86 : decode cX0_confused 86 = .ok (.iload 6, 2) := dk_21 6 (dk_at dksX0_confused_3 16 rfl rfl)
theorem dX0_confused_88 : decode cX0_confused 88 = .ok (.iload_n 3, 1) := dk_29 (dk_at dksX0_confused_3 18 rfl rfl)
theorem dX0_confused_89 : decode cX0_confused 89 = .ok (.if_icmp .lt 6, 3) := dk_161 0 6 (dk_at dksX0_confused_3 19 rfl rfl)
theorem dX0_confused_92 : decode cX0_confused 92 = .ok (.goto 15, 3) := dk_167 0 15 (dk_at dksX0_confused_4 0 rfl rfl)
theorem dX0_confused_95 : decode cX0_confused 95 = .ok (.bipush 10, 2) := dk_16 10 (dk_at dksX0_confused_4 3 rfl rfl)
theorem dX0_confused_97 : decode cX0_confused 97 = .ok (.iload 4, 2) := dk_21 4 (dk_at dksX0_confused_4 5 rfl rfl)
theorem dX0_confused_99 : decode cX0_confused 99 = .ok (.imul, 1) := dk_104 (dk_at dksX0_confused_4 7 rfl rfl)
theorem dX0_confused_100 : decode cX0_confused 100 = .ok (.iload 5, 2) := dk_21 5 (dk_at dksX0_confused_4 8 rfl rfl)
theorem dX0_confused_102 : decode cX0_confused 102 = .ok (.iadd, 1) := dk_96 (dk_at dksX0_confused_4 10 rfl rfl)
theorem dX0_confused_103 : decode cX0_confused 103 = .ok (.istore_n 2, 1) := dk_61 (dk_at dksX0_confused_4 11 rfl rfl)
theorem dX0_confused_104 : decode cX0_confused 104 = .ok (.iload 6, 2) := dk_21 6 (dk_at dksX0_confused_4 12 rfl rfl)
theorem dX0_confused_106 : decode cX0_confused 106 = .ok (.istore_n 3, 1) := dk_62 (dk_at dksX0_confused_4 14 rfl rfl)
theorem dX0_confused_107 : decode cX0_confused 107 = .ok (.iinc 5 1, 3) := dk_132 5 1 (dk_at dksX0_confused_4 15 rfl rfl)
theorem dX0_confused_110 : decode cX0_confused 110 = .ok (.goto (-74), 3) := dk_167 255 182 (dk_at dksX0_confused_4 18 rfl rfl)
theorem dX0_confused_113 : decode cX0_confused 113 = .ok (.iinc 4 1, 3) := dk_132 4 1 (dk_at dksX0_confused_4 21 rfl rfl)
theorem dX0_confused_116 : decode cX0_confused 116 = .ok (.goto (-95), 3) := dk_167 255 161 (dk_at dksX0_confused_5 0 rfl rfl)
theorem dX0_confused_119 : decode cX0_confused 119 = .ok (.iload_n 2, 1) := dk_28 (dk_at dksX0_confused_5 3 rfl rfl)
theorem dX0_confused_120 : decode cX0_confused 120 = .ok (.ifCond .lt 7, 3) := dk_155 0 7 (dk_at dksX0_confused_5 4 rfl rfl)
theorem dX0_confused_123 : decode cX0_confused 123 = .ok (.iload_n 1, 1) := dk_27 (dk_at dksX0_confused_5 7 rfl rfl)
theorem dX0_confused_124 : decode cX0_confused 124 = .ok (.ifCond .ne 7, 3) := dk_154 0 7 (dk_at dksX0_confused_5 8 rfl rfl)
theorem dX0_confused_127 : decode cX0_confused 127 = .ok (.iload_n 2, 1) := dk_28 (dk_at dksX0_confused_5 11 rfl rfl)
theorem dX0_confused_128 : decode cX0_confused 128 = .ok (.goto 4, 3) := dk_167 0 4 (dk_at dksX0_confused_5 12 rfl rfl)
theorem dX0_confused_131 : decode cX0_confused 131 = .ok (.iload_n 3, 1) := dk_29 (dk_at dksX0_confused_5 15 rfl rfl)
theorem dX0_confused_132 : decode cX0_confused 132 = .ok (.ireturn, 1) := dk_172 (dk_at dksX0_confused_5 16 rfl rfl)
abbrev cX0_nearest : ByteArray := prog_1_method_44_code
def yX0_nearest : MethodName := ⟨RX0, "nearest", "(II)I"⟩
def dkwX0_nearest_4 : List UInt8 := [132, 5, 1, 167, 255, 190, 29, 172]
abbrev dktX0_nearest_4 : List UInt8 := dkwX0_nearest_4 ++ []
def dkwX0_nearest_3 : List UInt8 := [184, 0, 8, 54, 6, 21, 6, 21, 4, 161, 0, 6, 167, 0, 10, 21, 5, 62, 21, 6, 54, 4]
abbrev dktX0_nearest_3 : List UInt8 := dkwX0_nearest_3 ++ dktX0_nearest_4
def dkwX0_nearest_2 : List UInt8 := [46, 42, 180, 0, 51, 180, 0, 156, 21, 5, 182, 0, 173, 192, 0, 215, 180, 0, 217, 28, 46, 100]
abbrev dktX0_nearest_2 : List UInt8 := dkwX0_nearest_2 ++ dktX0_nearest_3
def dkwX0_nearest_1 : List UInt8 := [54, 4, 3, 54, 5, 21, 5, 42, 182, 0, 165, 162, 0, 63, 42, 180, 0, 62, 180, 0, 170, 27, 50, 28]
abbrev dktX0_nearest_1 : List UInt8 := dkwX0_nearest_1 ++ dktX0_nearest_2
def dkwX0_nearest_0 : List UInt8 := [42, 27, 182, 0, 185, 153, 0, 10, 28, 184, 0, 189, 154, 0, 5, 2, 172, 16, 254, 62, 19, 1, 41]
abbrev dktX0_nearest_0 : List UInt8 := dkwX0_nearest_0 ++ dktX0_nearest_1
theorem dksX0_nearest_0 : cX0_nearest.data.toList.drop 0 = dktX0_nearest_0 := by decide +kernel
theorem dksX0_nearest_1 : cX0_nearest.data.toList.drop 23 = dktX0_nearest_1 := dk_seg dksX0_nearest_0 23 rfl rfl
theorem dksX0_nearest_2 : cX0_nearest.data.toList.drop 47 = dktX0_nearest_2 := dk_seg dksX0_nearest_1 24 rfl rfl
theorem dksX0_nearest_3 : cX0_nearest.data.toList.drop 69 = dktX0_nearest_3 := dk_seg dksX0_nearest_2 22 rfl rfl
theorem dksX0_nearest_4 : cX0_nearest.data.toList.drop 91 = dktX0_nearest_4 := dk_seg dksX0_nearest_3 22 rfl rfl
theorem dX0_nearest_0 : decode cX0_nearest 0 = .ok (.aload_n 0, 1) := dk_42 (dk_at dksX0_nearest_0 0 rfl rfl)
theorem dX0_nearest_1 : decode cX0_nearest 1 = .ok (.iload_n 1, 1) := dk_27 (dk_at dksX0_nearest_0 1 rfl rfl)
theorem dX0_nearest_2 : decode cX0_nearest 2 = .ok (.invokevirtual 185, 3) := dk_182 0 185 (dk_at dksX0_nearest_0 2 rfl rfl)
theorem dX0_nearest_5 : decode cX0_nearest 5 = .ok (.ifCond .eq 10, 3) := dk_153 0 10 (dk_at dksX0_nearest_0 5 rfl rfl)
theorem dX0_nearest_8 : decode cX0_nearest 8 = .ok (.iload_n 2, 1) := dk_28 (dk_at dksX0_nearest_0 8 rfl rfl)
theorem dX0_nearest_9 : decode cX0_nearest 9 = .ok (.invokestatic 189, 3) := dk_184 0 189 (dk_at dksX0_nearest_0 9 rfl rfl)
theorem dX0_nearest_12 : decode cX0_nearest 12 = .ok (.ifCond .ne 5, 3) := dk_154 0 5 (dk_at dksX0_nearest_0 12 rfl rfl)
theorem dX0_nearest_15 : decode cX0_nearest 15 = .ok (.iconst (-1), 1) := dk_2 (dk_at dksX0_nearest_0 15 rfl rfl)
theorem dX0_nearest_16 : decode cX0_nearest 16 = .ok (.ireturn, 1) := dk_172 (dk_at dksX0_nearest_0 16 rfl rfl)
theorem dX0_nearest_17 : decode cX0_nearest 17 = .ok (.bipush (-2), 2) := dk_16 254 (dk_at dksX0_nearest_0 17 rfl rfl)
theorem dX0_nearest_19 : decode cX0_nearest 19 = .ok (.istore_n 3, 1) := dk_62 (dk_at dksX0_nearest_0 19 rfl rfl)
theorem dX0_nearest_20 : decode cX0_nearest 20 = .ok (.ldc_w 297, 3) := dk_19 1 41 (dk_at dksX0_nearest_0 20 rfl rfl)
theorem dX0_nearest_23 : decode cX0_nearest 23 = .ok (.istore 4, 2) := dk_54 4 (dk_at dksX0_nearest_1 0 rfl rfl)
theorem dX0_nearest_25 : decode cX0_nearest 25 = .ok (.iconst 0, 1) := dk_3 (dk_at dksX0_nearest_1 2 rfl rfl)
theorem dX0_nearest_26 : decode cX0_nearest 26 = .ok (.istore 5, 2) := dk_54 5 (dk_at dksX0_nearest_1 3 rfl rfl)
theorem dX0_nearest_28 : decode cX0_nearest 28 = .ok (.iload 5, 2) := dk_21 5 (dk_at dksX0_nearest_1 5 rfl rfl)
theorem dX0_nearest_30 : decode cX0_nearest 30 = .ok (.aload_n 0, 1) := dk_42 (dk_at dksX0_nearest_1 7 rfl rfl)
theorem dX0_nearest_31 : decode cX0_nearest 31 = .ok (.invokevirtual 165, 3) := dk_182 0 165 (dk_at dksX0_nearest_1 8 rfl rfl)
theorem dX0_nearest_34 : decode cX0_nearest 34 = .ok (.if_icmp .ge 63, 3) := dk_162 0 63 (dk_at dksX0_nearest_1 11 rfl rfl)
theorem dX0_nearest_37 : decode cX0_nearest 37 = .ok (.aload_n 0, 1) := dk_42 (dk_at dksX0_nearest_1 14 rfl rfl)
theorem dX0_nearest_38 : decode cX0_nearest 38 = .ok (.getfield 62, 3) := dk_180 0 62 (dk_at dksX0_nearest_1 15 rfl rfl)
theorem dX0_nearest_41 : decode cX0_nearest 41 = .ok (.getfield 170, 3) := dk_180 0 170 (dk_at dksX0_nearest_1 18 rfl rfl)
theorem dX0_nearest_44 : decode cX0_nearest 44 = .ok (.iload_n 1, 1) := dk_27 (dk_at dksX0_nearest_1 21 rfl rfl)
theorem dX0_nearest_45 : decode cX0_nearest 45 = .ok (.aaload, 1) := dk_50 (dk_at dksX0_nearest_1 22 rfl rfl)
theorem dX0_nearest_46 : decode cX0_nearest 46 = .ok (.iload_n 2, 1) := dk_28 (dk_at dksX0_nearest_1 23 rfl rfl)
theorem dX0_nearest_47 : decode cX0_nearest 47 = .ok (.iaload, 1) := dk_46 (dk_at dksX0_nearest_2 0 rfl rfl)
theorem dX0_nearest_48 : decode cX0_nearest 48 = .ok (.aload_n 0, 1) := dk_42 (dk_at dksX0_nearest_2 1 rfl rfl)
theorem dX0_nearest_49 : decode cX0_nearest 49 = .ok (.getfield 51, 3) := dk_180 0 51 (dk_at dksX0_nearest_2 2 rfl rfl)
theorem dX0_nearest_52 : decode cX0_nearest 52 = .ok (.getfield 156, 3) := dk_180 0 156 (dk_at dksX0_nearest_2 5 rfl rfl)
theorem dX0_nearest_55 : decode cX0_nearest 55 = .ok (.iload 5, 2) := dk_21 5 (dk_at dksX0_nearest_2 8 rfl rfl)
theorem dX0_nearest_57 : decode cX0_nearest 57 = .ok (.invokevirtual 173, 3) := dk_182 0 173 (dk_at dksX0_nearest_2 10 rfl rfl)
theorem dX0_nearest_60 : decode cX0_nearest 60 = .ok (.checkcast 215, 3) := dk_192 0 215 (dk_at dksX0_nearest_2 13 rfl rfl)
theorem dX0_nearest_63 : decode cX0_nearest 63 = .ok (.getfield 217, 3) := dk_180 0 217 (dk_at dksX0_nearest_2 16 rfl rfl)
theorem dX0_nearest_66 : decode cX0_nearest 66 = .ok (.iload_n 2, 1) := dk_28 (dk_at dksX0_nearest_2 19 rfl rfl)
theorem dX0_nearest_67 : decode cX0_nearest 67 = .ok (.iaload, 1) := dk_46 (dk_at dksX0_nearest_2 20 rfl rfl)
theorem dX0_nearest_68 : decode cX0_nearest 68 = .ok (.isub, 1) := dk_100 (dk_at dksX0_nearest_2 21 rfl rfl)
theorem dX0_nearest_69 : decode cX0_nearest 69 = .ok (.invokestatic 8, 3) := dk_184 0 8 (dk_at dksX0_nearest_3 0 rfl rfl)
theorem dX0_nearest_72 : decode cX0_nearest 72 = .ok (.istore 6, 2) := dk_54 6 (dk_at dksX0_nearest_3 3 rfl rfl)
theorem dX0_nearest_74 : decode cX0_nearest 74 = .ok (.iload 6, 2) := dk_21 6 (dk_at dksX0_nearest_3 5 rfl rfl)
theorem dX0_nearest_76 : decode cX0_nearest 76 = .ok (.iload 4, 2) := dk_21 4 (dk_at dksX0_nearest_3 7 rfl rfl)
theorem dX0_nearest_78 : decode cX0_nearest 78 = .ok (.if_icmp .lt 6, 3) := dk_161 0 6 (dk_at dksX0_nearest_3 9 rfl rfl)
theorem dX0_nearest_81 : decode cX0_nearest 81 = .ok (.goto 10, 3) := dk_167 0 10 (dk_at dksX0_nearest_3 12 rfl rfl)
theorem dX0_nearest_84 : decode cX0_nearest 84 = .ok (.iload 5, 2) := dk_21 5 (dk_at dksX0_nearest_3 15 rfl rfl)
theorem dX0_nearest_86 : decode cX0_nearest 86 = .ok (.istore_n 3, 1) := dk_62 (dk_at dksX0_nearest_3 17 rfl rfl)
theorem dX0_nearest_87 : decode cX0_nearest 87 = .ok (.iload 6, 2) := dk_21 6 (dk_at dksX0_nearest_3 18 rfl rfl)
theorem dX0_nearest_89 : decode cX0_nearest 89 = .ok (.istore 4, 2) := dk_54 4 (dk_at dksX0_nearest_3 20 rfl rfl)
theorem dX0_nearest_91 : decode cX0_nearest 91 = .ok (.iinc 5 1, 3) := dk_132 5 1 (dk_at dksX0_nearest_4 0 rfl rfl)
theorem dX0_nearest_94 : decode cX0_nearest 94 = .ok (.goto (-66), 3) := dk_167 255 190 (dk_at dksX0_nearest_4 3 rfl rfl)
theorem dX0_nearest_97 : decode cX0_nearest 97 = .ok (.iload_n 3, 1) := dk_29 (dk_at dksX0_nearest_4 6 rfl rfl)
theorem dX0_nearest_98 : decode cX0_nearest 98 = .ok (.ireturn, 1) := dk_172 (dk_at dksX0_nearest_4 7 rfl rfl)
abbrev cX0_same : ByteArray := prog_1_method_45_code
def yX0_same : MethodName := ⟨RX0, "same", "(II)I"⟩
def dkwX0_same_3 : List UInt8 := [167, 0, 4, 3, 128, 62, 132, 4, 1, 167, 255, 201, 29, 172]
abbrev dktX0_same_3 : List UInt8 := dkwX0_same_3 ++ []
def dkwX0_same_2 : List UInt8 := [180, 0, 156, 28, 182, 0, 173, 192, 0, 215, 180, 0, 217, 21, 4, 46, 160, 0, 10, 4, 21, 4, 120]
abbrev dktX0_same_2 : List UInt8 := dkwX0_same_2 ++ dktX0_same_3
def dkwX0_same_1 : List UInt8 := [21, 4, 7, 162, 0, 55, 29, 42, 180, 0, 62, 180, 0, 170, 27, 50, 21, 4, 46, 42, 180, 0, 51]
abbrev dktX0_same_1 : List UInt8 := dkwX0_same_1 ++ dktX0_same_2
def dkwX0_same_0 : List UInt8 := [42, 27, 182, 0, 185, 153, 0, 11, 42, 28, 182, 0, 212, 154, 0, 5, 2, 172, 3, 62, 3, 54, 4]
abbrev dktX0_same_0 : List UInt8 := dkwX0_same_0 ++ dktX0_same_1
theorem dksX0_same_0 : cX0_same.data.toList.drop 0 = dktX0_same_0 := by decide +kernel
theorem dksX0_same_1 : cX0_same.data.toList.drop 23 = dktX0_same_1 := dk_seg dksX0_same_0 23 rfl rfl
theorem dksX0_same_2 : cX0_same.data.toList.drop 46 = dktX0_same_2 := dk_seg dksX0_same_1 23 rfl rfl
theorem dksX0_same_3 : cX0_same.data.toList.drop 69 = dktX0_same_3 := dk_seg dksX0_same_2 23 rfl rfl
theorem dX0_same_0 : decode cX0_same 0 = .ok (.aload_n 0, 1) := dk_42 (dk_at dksX0_same_0 0 rfl rfl)
theorem dX0_same_1 : decode cX0_same 1 = .ok (.iload_n 1, 1) := dk_27 (dk_at dksX0_same_0 1 rfl rfl)
theorem dX0_same_2 : decode cX0_same 2 = .ok (.invokevirtual 185, 3) := dk_182 0 185 (dk_at dksX0_same_0 2 rfl rfl)
theorem dX0_same_5 : decode cX0_same 5 = .ok (.ifCond .eq 11, 3) := dk_153 0 11 (dk_at dksX0_same_0 5 rfl rfl)
theorem dX0_same_8 : decode cX0_same 8 = .ok (.aload_n 0, 1) := dk_42 (dk_at dksX0_same_0 8 rfl rfl)
theorem dX0_same_9 : decode cX0_same 9 = .ok (.iload_n 2, 1) := dk_28 (dk_at dksX0_same_0 9 rfl rfl)
theorem dX0_same_10 : decode cX0_same 10 = .ok (.invokevirtual 212, 3) := dk_182 0 212 (dk_at dksX0_same_0 10 rfl rfl)
theorem dX0_same_13 : decode cX0_same 13 = .ok (.ifCond .ne 5, 3) := dk_154 0 5 (dk_at dksX0_same_0 13 rfl rfl)
theorem dX0_same_16 : decode cX0_same 16 = .ok (.iconst (-1), 1) := dk_2 (dk_at dksX0_same_0 16 rfl rfl)
theorem dX0_same_17 : decode cX0_same 17 = .ok (.ireturn, 1) := dk_172 (dk_at dksX0_same_0 17 rfl rfl)
theorem dX0_same_18 : decode cX0_same 18 = .ok (.iconst 0, 1) := dk_3 (dk_at dksX0_same_0 18 rfl rfl)
theorem dX0_same_19 : decode cX0_same 19 = .ok (.istore_n 3, 1) := dk_62 (dk_at dksX0_same_0 19 rfl rfl)
theorem dX0_same_20 : decode cX0_same 20 = .ok (.iconst 0, 1) := dk_3 (dk_at dksX0_same_0 20 rfl rfl)
theorem dX0_same_21 : decode cX0_same 21 = .ok (.istore 4, 2) := dk_54 4 (dk_at dksX0_same_0 21 rfl rfl)
theorem dX0_same_23 : decode cX0_same 23 = .ok (.iload 4, 2) := dk_21 4 (dk_at dksX0_same_1 0 rfl rfl)
theorem dX0_same_25 : decode cX0_same 25 = .ok (.iconst 4, 1) := dk_7 (dk_at dksX0_same_1 2 rfl rfl)
theorem dX0_same_26 : decode cX0_same 26 = .ok (.if_icmp .ge 55, 3) := dk_162 0 55 (dk_at dksX0_same_1 3 rfl rfl)
theorem dX0_same_29 : decode cX0_same 29 = .ok (.iload_n 3, 1) := dk_29 (dk_at dksX0_same_1 6 rfl rfl)
theorem dX0_same_30 : decode cX0_same 30 = .ok (.aload_n 0, 1) := dk_42 (dk_at dksX0_same_1 7 rfl rfl)
theorem dX0_same_31 : decode cX0_same 31 = .ok (.getfield 62, 3) := dk_180 0 62 (dk_at dksX0_same_1 8 rfl rfl)
theorem dX0_same_34 : decode cX0_same 34 = .ok (.getfield 170, 3) := dk_180 0 170 (dk_at dksX0_same_1 11 rfl rfl)
theorem dX0_same_37 : decode cX0_same 37 = .ok (.iload_n 1, 1) := dk_27 (dk_at dksX0_same_1 14 rfl rfl)
theorem dX0_same_38 : decode cX0_same 38 = .ok (.aaload, 1) := dk_50 (dk_at dksX0_same_1 15 rfl rfl)
theorem dX0_same_39 : decode cX0_same 39 = .ok (.iload 4, 2) := dk_21 4 (dk_at dksX0_same_1 16 rfl rfl)
theorem dX0_same_41 : decode cX0_same 41 = .ok (.iaload, 1) := dk_46 (dk_at dksX0_same_1 18 rfl rfl)
theorem dX0_same_42 : decode cX0_same 42 = .ok (.aload_n 0, 1) := dk_42 (dk_at dksX0_same_1 19 rfl rfl)
theorem dX0_same_43 : decode cX0_same 43 = .ok (.getfield 51, 3) := dk_180 0 51 (dk_at dksX0_same_1 20 rfl rfl)
theorem dX0_same_46 : decode cX0_same 46 = .ok (.getfield 156, 3) := dk_180 0 156 (dk_at dksX0_same_2 0 rfl rfl)
theorem dX0_same_49 : decode cX0_same 49 = .ok (.iload_n 2, 1) := dk_28 (dk_at dksX0_same_2 3 rfl rfl)
theorem dX0_same_50 : decode cX0_same 50 = .ok (.invokevirtual 173, 3) := dk_182 0 173 (dk_at dksX0_same_2 4 rfl rfl)
theorem dX0_same_53 : decode cX0_same 53 = .ok (.checkcast 215, 3) := dk_192 0 215 (dk_at dksX0_same_2 7 rfl rfl)
theorem dX0_same_56 : decode cX0_same 56 = .ok (.getfield 217, 3) := dk_180 0 217 (dk_at dksX0_same_2 10 rfl rfl)
theorem dX0_same_59 : decode cX0_same 59 = .ok (.iload 4, 2) := dk_21 4 (dk_at dksX0_same_2 13 rfl rfl)
theorem dX0_same_61 : decode cX0_same 61 = .ok (.iaload, 1) := dk_46 (dk_at dksX0_same_2 15 rfl rfl)
theorem dX0_same_62 : decode cX0_same 62 = .ok (.if_icmp .ne 10, 3) := dk_160 0 10 (dk_at dksX0_same_2 16 rfl rfl)
theorem dX0_same_65 : decode cX0_same 65 = .ok (.iconst 1, 1) := dk_4 (dk_at dksX0_same_2 19 rfl rfl)
theorem dX0_same_66 : decode cX0_same 66 = .ok (.iload 4, 2) := dk_21 4 (dk_at dksX0_same_2 20 rfl rfl)
theorem dX0_same_68 : decode cX0_same 68 = .ok (.ishl, 1) := dk_120 (dk_at dksX0_same_2 22 rfl rfl)
theorem dX0_same_69 : decode cX0_same 69 = .ok (.goto 4, 3) := dk_167 0 4 (dk_at dksX0_same_3 0 rfl rfl)
theorem dX0_same_72 : decode cX0_same 72 = .ok (.iconst 0, 1) := dk_3 (dk_at dksX0_same_3 3 rfl rfl)
theorem dX0_same_73 : decode cX0_same 73 = .ok (.ior, 1) := dk_128 (dk_at dksX0_same_3 4 rfl rfl)
theorem dX0_same_74 : decode cX0_same 74 = .ok (.istore_n 3, 1) := dk_62 (dk_at dksX0_same_3 5 rfl rfl)
theorem dX0_same_75 : decode cX0_same 75 = .ok (.iinc 4 1, 3) := dk_132 4 1 (dk_at dksX0_same_3 6 rfl rfl)
theorem dX0_same_78 : decode cX0_same 78 = .ok (.goto (-55), 3) := dk_167 255 201 (dk_at dksX0_same_3 9 rfl rfl)
theorem dX0_same_81 : decode cX0_same 81 = .ok (.iload_n 3, 1) := dk_29 (dk_at dksX0_same_3 12 rfl rfl)
theorem dX0_same_82 : decode cX0_same 82 = .ok (.ireturn, 1) := dk_172 (dk_at dksX0_same_3 13 rfl rfl)
abbrev cX0_when : ByteArray := prog_1_method_46_code
def yX0_when : MethodName := ⟨RX0, "when", "(II)I"⟩
def dkwX0_when_3 : List UInt8 := [132, 3, 1, 167, 255, 214, 16, 254, 172]
abbrev dktX0_when_3 : List UInt8 := dkwX0_when_3 ++ []
def dkwX0_when_2 : List UInt8 := [182, 0, 204, 28, 160, 0, 5, 29, 172, 42, 180, 0, 66, 42, 180, 0, 51, 42, 180, 0, 89, 182, 1, 26]
abbrev dktX0_when_2 : List UInt8 := dkwX0_when_2 ++ dktX0_when_3
def dkwX0_when_1 : List UInt8 := [180, 0, 62, 182, 1, 5, 3, 62, 29, 16, 60, 163, 0, 42, 42, 180, 0, 66, 42, 180, 0, 51, 27]
abbrev dktX0_when_1 : List UInt8 := dkwX0_when_1 ++ dktX0_when_2
def dkwX0_when_0 : List UInt8 := [42, 27, 182, 0, 185, 153, 0, 11, 42, 28, 182, 0, 212, 154, 0, 5, 2, 172, 42, 180, 0, 66, 42]
abbrev dktX0_when_0 : List UInt8 := dkwX0_when_0 ++ dktX0_when_1
theorem dksX0_when_0 : cX0_when.data.toList.drop 0 = dktX0_when_0 := by decide +kernel
theorem dksX0_when_1 : cX0_when.data.toList.drop 23 = dktX0_when_1 := dk_seg dksX0_when_0 23 rfl rfl
theorem dksX0_when_2 : cX0_when.data.toList.drop 46 = dktX0_when_2 := dk_seg dksX0_when_1 23 rfl rfl
theorem dksX0_when_3 : cX0_when.data.toList.drop 70 = dktX0_when_3 := dk_seg dksX0_when_2 24 rfl rfl
theorem dX0_when_0 : decode cX0_when 0 = .ok (.aload_n 0, 1) := dk_42 (dk_at dksX0_when_0 0 rfl rfl)
theorem dX0_when_1 : decode cX0_when 1 = .ok (.iload_n 1, 1) := dk_27 (dk_at dksX0_when_0 1 rfl rfl)
theorem dX0_when_2 : decode cX0_when 2 = .ok (.invokevirtual 185, 3) := dk_182 0 185 (dk_at dksX0_when_0 2 rfl rfl)
theorem dX0_when_5 : decode cX0_when 5 = .ok (.ifCond .eq 11, 3) := dk_153 0 11 (dk_at dksX0_when_0 5 rfl rfl)
theorem dX0_when_8 : decode cX0_when 8 = .ok (.aload_n 0, 1) := dk_42 (dk_at dksX0_when_0 8 rfl rfl)
theorem dX0_when_9 : decode cX0_when 9 = .ok (.iload_n 2, 1) := dk_28 (dk_at dksX0_when_0 9 rfl rfl)
theorem dX0_when_10 : decode cX0_when 10 = .ok (.invokevirtual 212, 3) := dk_182 0 212 (dk_at dksX0_when_0 10 rfl rfl)
theorem dX0_when_13 : decode cX0_when 13 = .ok (.ifCond .ne 5, 3) := dk_154 0 5 (dk_at dksX0_when_0 13 rfl rfl)
theorem dX0_when_16 : decode cX0_when 16 = .ok (.iconst (-1), 1) := dk_2 (dk_at dksX0_when_0 16 rfl rfl)
theorem dX0_when_17 : decode cX0_when 17 = .ok (.ireturn, 1) := dk_172 (dk_at dksX0_when_0 17 rfl rfl)
theorem dX0_when_18 : decode cX0_when 18 = .ok (.aload_n 0, 1) := dk_42 (dk_at dksX0_when_0 18 rfl rfl)
theorem dX0_when_19 : decode cX0_when 19 = .ok (.getfield 66, 3) := dk_180 0 66 (dk_at dksX0_when_0 19 rfl rfl)
theorem dX0_when_22 : decode cX0_when 22 = .ok (.aload_n 0, 1) := dk_42 (dk_at dksX0_when_0 22 rfl rfl)
theorem dX0_when_23 : decode cX0_when 23 = .ok (.getfield 62, 3) := dk_180 0 62 (dk_at dksX0_when_1 0 rfl rfl)
theorem dX0_when_26 : decode cX0_when 26 = .ok (.invokevirtual 261, 3) := dk_182 1 5 (dk_at dksX0_when_1 3 rfl rfl)
theorem dX0_when_29 : decode cX0_when 29 = .ok (.iconst 0, 1) := dk_3 (dk_at dksX0_when_1 6 rfl rfl)
theorem dX0_when_30 : decode cX0_when 30 = .ok (.istore_n 3, 1) := dk_62 (dk_at dksX0_when_1 7 rfl rfl)
theorem dX0_when_31 : decode cX0_when 31 = .ok (.iload_n 3, 1) := dk_29 (dk_at dksX0_when_1 8 rfl rfl)
theorem dX0_when_32 : decode cX0_when 32 = .ok (.bipush 60, 2) := dk_16 60 (dk_at dksX0_when_1 9 rfl rfl)
theorem dX0_when_34 : decode cX0_when 34 = .ok (.if_icmp .gt 42, 3) := dk_163 0 42 (dk_at dksX0_when_1 11 rfl rfl)
theorem dX0_when_37 : decode cX0_when 37 = .ok (.aload_n 0, 1) := dk_42 (dk_at dksX0_when_1 14 rfl rfl)
theorem dX0_when_38 : decode cX0_when 38 = .ok (.getfield 66, 3) := dk_180 0 66 (dk_at dksX0_when_1 15 rfl rfl)
theorem dX0_when_41 : decode cX0_when 41 = .ok (.aload_n 0, 1) := dk_42 (dk_at dksX0_when_1 18 rfl rfl)
theorem dX0_when_42 : decode cX0_when 42 = .ok (.getfield 51, 3) := dk_180 0 51 (dk_at dksX0_when_1 19 rfl rfl)
theorem dX0_when_45 : decode cX0_when 45 = .ok (.iload_n 1, 1) := dk_27 (dk_at dksX0_when_1 22 rfl rfl)
theorem dX0_when_46 : decode cX0_when 46 = .ok (.invokevirtual 204, 3) := dk_182 0 204 (dk_at dksX0_when_2 0 rfl rfl)
theorem dX0_when_49 : decode cX0_when 49 = .ok (.iload_n 2, 1) := dk_28 (dk_at dksX0_when_2 3 rfl rfl)
theorem dX0_when_50 : decode cX0_when 50 = .ok (.if_icmp .ne 5, 3) := dk_160 0 5 (dk_at dksX0_when_2 4 rfl rfl)
theorem dX0_when_53 : decode cX0_when 53 = .ok (.iload_n 3, 1) := dk_29 (dk_at dksX0_when_2 7 rfl rfl)
theorem dX0_when_54 : decode cX0_when 54 = .ok (.ireturn, 1) := dk_172 (dk_at dksX0_when_2 8 rfl rfl)
theorem dX0_when_55 : decode cX0_when 55 = .ok (.aload_n 0, 1) := dk_42 (dk_at dksX0_when_2 9 rfl rfl)
theorem dX0_when_56 : decode cX0_when 56 = .ok (.getfield 66, 3) := dk_180 0 66 (dk_at dksX0_when_2 10 rfl rfl)
theorem dX0_when_59 : decode cX0_when 59 = .ok (.aload_n 0, 1) := dk_42 (dk_at dksX0_when_2 13 rfl rfl)
theorem dX0_when_60 : decode cX0_when 60 = .ok (.getfield 51, 3) := dk_180 0 51 (dk_at dksX0_when_2 14 rfl rfl)
theorem dX0_when_63 : decode cX0_when 63 = .ok (.aload_n 0, 1) := dk_42 (dk_at dksX0_when_2 17 rfl rfl)
theorem dX0_when_64 : decode cX0_when 64 = .ok (.getfield 89, 3) := dk_180 0 89 (dk_at dksX0_when_2 18 rfl rfl)
theorem dX0_when_67 : decode cX0_when 67 = .ok (.invokevirtual 282, 3) := dk_182 1 26 (dk_at dksX0_when_2 21 rfl rfl)
theorem dX0_when_70 : decode cX0_when 70 = .ok (.iinc 3 1, 3) := dk_132 3 1 (dk_at dksX0_when_3 0 rfl rfl)
theorem dX0_when_73 : decode cX0_when 73 = .ok (.goto (-42), 3) := dk_167 255 214 (dk_at dksX0_when_3 3 rfl rfl)
theorem dX0_when_76 : decode cX0_when 76 = .ok (.bipush (-2), 2) := dk_16 254 (dk_at dksX0_when_3 6 rfl rfl)
theorem dX0_when_78 : decode cX0_when 78 = .ok (.ireturn, 1) := dk_172 (dk_at dksX0_when_3 8 rfl rfl)
abbrev cX0_alone : ByteArray := prog_1_method_47_code
def yX0_alone : MethodName := ⟨RX0, "alone", "(II)I"⟩
def dkwX0_alone_3 : List UInt8 := [132, 3, 1, 167, 255, 216, 16, 254, 172]
abbrev dktX0_alone_3 : List UInt8 := dkwX0_alone_3 ++ []
def dkwX0_alone_2 : List UInt8 := [182, 0, 204, 28, 160, 0, 5, 29, 172, 42, 180, 0, 66, 42, 180, 0, 51, 27, 28, 182, 1, 15]
abbrev dktX0_alone_2 : List UInt8 := dkwX0_alone_2 ++ dktX0_alone_3
def dkwX0_alone_1 : List UInt8 := [180, 0, 62, 182, 1, 5, 3, 62, 29, 16, 60, 163, 0, 40, 42, 180, 0, 66, 42, 180, 0, 51, 27]
abbrev dktX0_alone_1 : List UInt8 := dkwX0_alone_1 ++ dktX0_alone_2
def dkwX0_alone_0 : List UInt8 := [42, 27, 182, 0, 185, 153, 0, 11, 42, 28, 182, 0, 212, 154, 0, 5, 2, 172, 42, 180, 0, 66, 42]
abbrev dktX0_alone_0 : List UInt8 := dkwX0_alone_0 ++ dktX0_alone_1
theorem dksX0_alone_0 : cX0_alone.data.toList.drop 0 = dktX0_alone_0 := by decide +kernel
theorem dksX0_alone_1 : cX0_alone.data.toList.drop 23 = dktX0_alone_1 := dk_seg dksX0_alone_0 23 rfl rfl
theorem dksX0_alone_2 : cX0_alone.data.toList.drop 46 = dktX0_alone_2 := dk_seg dksX0_alone_1 23 rfl rfl
theorem dksX0_alone_3 : cX0_alone.data.toList.drop 68 = dktX0_alone_3 := dk_seg dksX0_alone_2 22 rfl rfl
theorem dX0_alone_0 : decode cX0_alone 0 = .ok (.aload_n 0, 1) := dk_42 (dk_at dksX0_alone_0 0 rfl rfl)
theorem dX0_alone_1 : decode cX0_alone 1 = .ok (.iload_n 1, 1) := dk_27 (dk_at dksX0_alone_0 1 rfl rfl)
theorem dX0_alone_2 : decode cX0_alone 2 = .ok (.invokevirtual 185, 3) := dk_182 0 185 (dk_at dksX0_alone_0 2 rfl rfl)
theorem dX0_alone_5 : decode cX0_alone 5 = .ok (.ifCond .eq 11, 3) := dk_153 0 11 (dk_at dksX0_alone_0 5 rfl rfl)
theorem dX0_alone_8 : decode cX0_alone 8 = .ok (.aload_n 0, 1) := dk_42 (dk_at dksX0_alone_0 8 rfl rfl)
theorem dX0_alone_9 : decode cX0_alone 9 = .ok (.iload_n 2, 1) := dk_28 (dk_at dksX0_alone_0 9 rfl rfl)
theorem dX0_alone_10 : decode cX0_alone 10 = .ok (.invokevirtual 212, 3) := dk_182 0 212 (dk_at dksX0_alone_0 10 rfl rfl)
theorem dX0_alone_13 : decode cX0_alone 13 = .ok (.ifCond .ne 5, 3) := dk_154 0 5 (dk_at dksX0_alone_0 13 rfl rfl)
theorem dX0_alone_16 : decode cX0_alone 16 = .ok (.iconst (-1), 1) := dk_2 (dk_at dksX0_alone_0 16 rfl rfl)
theorem dX0_alone_17 : decode cX0_alone 17 = .ok (.ireturn, 1) := dk_172 (dk_at dksX0_alone_0 17 rfl rfl)
theorem dX0_alone_18 : decode cX0_alone 18 = .ok (.aload_n 0, 1) := dk_42 (dk_at dksX0_alone_0 18 rfl rfl)
theorem dX0_alone_19 : decode cX0_alone 19 = .ok (.getfield 66, 3) := dk_180 0 66 (dk_at dksX0_alone_0 19 rfl rfl)
theorem dX0_alone_22 : decode cX0_alone 22 = .ok (.aload_n 0, 1) := dk_42 (dk_at dksX0_alone_0 22 rfl rfl)
theorem dX0_alone_23 : decode cX0_alone 23 = .ok (.getfield 62, 3) := dk_180 0 62 (dk_at dksX0_alone_1 0 rfl rfl)
theorem dX0_alone_26 : decode cX0_alone 26 = .ok (.invokevirtual 261, 3) := dk_182 1 5 (dk_at dksX0_alone_1 3 rfl rfl)
theorem dX0_alone_29 : decode cX0_alone 29 = .ok (.iconst 0, 1) := dk_3 (dk_at dksX0_alone_1 6 rfl rfl)
theorem dX0_alone_30 : decode cX0_alone 30 = .ok (.istore_n 3, 1) := dk_62 (dk_at dksX0_alone_1 7 rfl rfl)
theorem dX0_alone_31 : decode cX0_alone 31 = .ok (.iload_n 3, 1) := dk_29 (dk_at dksX0_alone_1 8 rfl rfl)
theorem dX0_alone_32 : decode cX0_alone 32 = .ok (.bipush 60, 2) := dk_16 60 (dk_at dksX0_alone_1 9 rfl rfl)
theorem dX0_alone_34 : decode cX0_alone 34 = .ok (.if_icmp .gt 40, 3) := dk_163 0 40 (dk_at dksX0_alone_1 11 rfl rfl)
theorem dX0_alone_37 : decode cX0_alone 37 = .ok (.aload_n 0, 1) := dk_42 (dk_at dksX0_alone_1 14 rfl rfl)
theorem dX0_alone_38 : decode cX0_alone 38 = .ok (.getfield 66, 3) := dk_180 0 66 (dk_at dksX0_alone_1 15 rfl rfl)
theorem dX0_alone_41 : decode cX0_alone 41 = .ok (.aload_n 0, 1) := dk_42 (dk_at dksX0_alone_1 18 rfl rfl)
theorem dX0_alone_42 : decode cX0_alone 42 = .ok (.getfield 51, 3) := dk_180 0 51 (dk_at dksX0_alone_1 19 rfl rfl)
theorem dX0_alone_45 : decode cX0_alone 45 = .ok (.iload_n 1, 1) := dk_27 (dk_at dksX0_alone_1 22 rfl rfl)
theorem dX0_alone_46 : decode cX0_alone 46 = .ok (.invokevirtual 204, 3) := dk_182 0 204 (dk_at dksX0_alone_2 0 rfl rfl)
theorem dX0_alone_49 : decode cX0_alone 49 = .ok (.iload_n 2, 1) := dk_28 (dk_at dksX0_alone_2 3 rfl rfl)
theorem dX0_alone_50 : decode cX0_alone 50 = .ok (.if_icmp .ne 5, 3) := dk_160 0 5 (dk_at dksX0_alone_2 4 rfl rfl)
theorem dX0_alone_53 : decode cX0_alone 53 = .ok (.iload_n 3, 1) := dk_29 (dk_at dksX0_alone_2 7 rfl rfl)
theorem dX0_alone_54 : decode cX0_alone 54 = .ok (.ireturn, 1) := dk_172 (dk_at dksX0_alone_2 8 rfl rfl)
theorem dX0_alone_55 : decode cX0_alone 55 = .ok (.aload_n 0, 1) := dk_42 (dk_at dksX0_alone_2 9 rfl rfl)
theorem dX0_alone_56 : decode cX0_alone 56 = .ok (.getfield 66, 3) := dk_180 0 66 (dk_at dksX0_alone_2 10 rfl rfl)
theorem dX0_alone_59 : decode cX0_alone 59 = .ok (.aload_n 0, 1) := dk_42 (dk_at dksX0_alone_2 13 rfl rfl)
theorem dX0_alone_60 : decode cX0_alone 60 = .ok (.getfield 51, 3) := dk_180 0 51 (dk_at dksX0_alone_2 14 rfl rfl)
theorem dX0_alone_63 : decode cX0_alone 63 = .ok (.iload_n 1, 1) := dk_27 (dk_at dksX0_alone_2 17 rfl rfl)
theorem dX0_alone_64 : decode cX0_alone 64 = .ok (.iload_n 2, 1) := dk_28 (dk_at dksX0_alone_2 18 rfl rfl)
theorem dX0_alone_65 : decode cX0_alone 65 = .ok (.invokevirtual 271, 3) := dk_182 1 15 (dk_at dksX0_alone_2 19 rfl rfl)
theorem dX0_alone_68 : decode cX0_alone 68 = .ok (.iinc 3 1, 3) := dk_132 3 1 (dk_at dksX0_alone_3 0 rfl rfl)
theorem dX0_alone_71 : decode cX0_alone 71 = .ok (.goto (-40), 3) := dk_167 255 216 (dk_at dksX0_alone_3 3 rfl rfl)
theorem dX0_alone_74 : decode cX0_alone 74 = .ok (.bipush (-2), 2) := dk_16 254 (dk_at dksX0_alone_3 6 rfl rfl)
theorem dX0_alone_76 : decode cX0_alone 76 = .ok (.ireturn, 1) := dk_172 (dk_at dksX0_alone_3 8 rfl rfl)
abbrev cX0_shift : ByteArray := prog_1_method_48_code
def yX0_shift : MethodName := ⟨RX0, "shift", "(II)I"⟩
def dkwX0_shift_2 : List UInt8 := [180, 0, 170, 27, 50, 42, 180, 0, 62, 180, 0, 170, 27, 50, 184, 0, 181, 172]
abbrev dktX0_shift_2 : List UInt8 := dkwX0_shift_2 ++ []
def dkwX0_shift_1 : List UInt8 := [180, 0, 62, 182, 1, 5, 42, 42, 180, 0, 66, 28, 42, 180, 0, 89, 182, 1, 33, 42, 180, 0, 66]
abbrev dktX0_shift_1 : List UInt8 := dkwX0_shift_1 ++ dktX0_shift_2
def dkwX0_shift_0 : List UInt8 := [42, 27, 182, 0, 185, 153, 0, 10, 28, 184, 1, 30, 154, 0, 5, 2, 172, 42, 180, 0, 66, 42]
abbrev dktX0_shift_0 : List UInt8 := dkwX0_shift_0 ++ dktX0_shift_1
theorem dksX0_shift_0 : cX0_shift.data.toList.drop 0 = dktX0_shift_0 := by decide +kernel
theorem dksX0_shift_1 : cX0_shift.data.toList.drop 22 = dktX0_shift_1 := dk_seg dksX0_shift_0 22 rfl rfl
theorem dksX0_shift_2 : cX0_shift.data.toList.drop 45 = dktX0_shift_2 := dk_seg dksX0_shift_1 23 rfl rfl
theorem dX0_shift_0 : decode cX0_shift 0 = .ok (.aload_n 0, 1) := dk_42 (dk_at dksX0_shift_0 0 rfl rfl)
theorem dX0_shift_1 : decode cX0_shift 1 = .ok (.iload_n 1, 1) := dk_27 (dk_at dksX0_shift_0 1 rfl rfl)
theorem dX0_shift_2 : decode cX0_shift 2 = .ok (.invokevirtual 185, 3) := dk_182 0 185 (dk_at dksX0_shift_0 2 rfl rfl)
theorem dX0_shift_5 : decode cX0_shift 5 = .ok (.ifCond .eq 10, 3) := dk_153 0 10 (dk_at dksX0_shift_0 5 rfl rfl)
theorem dX0_shift_8 : decode cX0_shift 8 = .ok (.iload_n 2, 1) := dk_28 (dk_at dksX0_shift_0 8 rfl rfl)
theorem dX0_shift_9 : decode cX0_shift 9 = .ok (.invokestatic 286, 3) := dk_184 1 30 (dk_at dksX0_shift_0 9 rfl rfl)
theorem dX0_shift_12 : decode cX0_shift 12 = .ok (.ifCond .ne 5, 3) := dk_154 0 5 (dk_at dksX0_shift_0 12 rfl rfl)
theorem dX0_shift_15 : decode cX0_shift 15 = .ok (.iconst (-1), 1) := dk_2 (dk_at dksX0_shift_0 15 rfl rfl)
theorem dX0_shift_16 : decode cX0_shift 16 = .ok (.ireturn, 1) := dk_172 (dk_at dksX0_shift_0 16 rfl rfl)
theorem dX0_shift_17 : decode cX0_shift 17 = .ok (.aload_n 0, 1) := dk_42 (dk_at dksX0_shift_0 17 rfl rfl)
theorem dX0_shift_18 : decode cX0_shift 18 = .ok (.getfield 66, 3) := dk_180 0 66 (dk_at dksX0_shift_0 18 rfl rfl)
theorem dX0_shift_21 : decode cX0_shift 21 = .ok (.aload_n 0, 1) := dk_42 (dk_at dksX0_shift_0 21 rfl rfl)
theorem dX0_shift_22 : decode cX0_shift 22 = .ok (.getfield 62, 3) := dk_180 0 62 (dk_at dksX0_shift_1 0 rfl rfl)
theorem dX0_shift_25 : decode cX0_shift 25 = .ok (.invokevirtual 261, 3) := dk_182 1 5 (dk_at dksX0_shift_1 3 rfl rfl)
theorem dX0_shift_28 : decode cX0_shift 28 = .ok (.aload_n 0, 1) := dk_42 (dk_at dksX0_shift_1 6 rfl rfl)
theorem dX0_shift_29 : decode cX0_shift 29 = .ok (.aload_n 0, 1) := dk_42 (dk_at dksX0_shift_1 7 rfl rfl)
theorem dX0_shift_30 : decode cX0_shift 30 = .ok (.getfield 66, 3) := dk_180 0 66 (dk_at dksX0_shift_1 8 rfl rfl)
theorem dX0_shift_33 : decode cX0_shift 33 = .ok (.iload_n 2, 1) := dk_28 (dk_at dksX0_shift_1 11 rfl rfl)
theorem dX0_shift_34 : decode cX0_shift 34 = .ok (.aload_n 0, 1) := dk_42 (dk_at dksX0_shift_1 12 rfl rfl)
theorem dX0_shift_35 : decode cX0_shift 35 = .ok (.getfield 89, 3) := dk_180 0 89 (dk_at dksX0_shift_1 13 rfl rfl)
theorem dX0_shift_38 : decode cX0_shift 38 = .ok (.invokevirtual 289, 3) := dk_182 1 33 (dk_at dksX0_shift_1 16 rfl rfl)
theorem dX0_shift_41 : decode cX0_shift 41 = .ok (.aload_n 0, 1) := dk_42 (dk_at dksX0_shift_1 19 rfl rfl)
theorem dX0_shift_42 : decode cX0_shift 42 = .ok (.getfield 66, 3) := dk_180 0 66 (dk_at dksX0_shift_1 20 rfl rfl)
theorem dX0_shift_45 : decode cX0_shift 45 = .ok (.getfield 170, 3) := dk_180 0 170 (dk_at dksX0_shift_2 0 rfl rfl)
theorem dX0_shift_48 : decode cX0_shift 48 = .ok (.iload_n 1, 1) := dk_27 (dk_at dksX0_shift_2 3 rfl rfl)
theorem dX0_shift_49 : decode cX0_shift 49 = .ok (.aaload, 1) := dk_50 (dk_at dksX0_shift_2 4 rfl rfl)
theorem dX0_shift_50 : decode cX0_shift 50 = .ok (.aload_n 0, 1) := dk_42 (dk_at dksX0_shift_2 5 rfl rfl)
theorem dX0_shift_51 : decode cX0_shift 51 = .ok (.getfield 62, 3) := dk_180 0 62 (dk_at dksX0_shift_2 6 rfl rfl)
theorem dX0_shift_54 : decode cX0_shift 54 = .ok (.getfield 170, 3) := dk_180 0 170 (dk_at dksX0_shift_2 9 rfl rfl)
theorem dX0_shift_57 : decode cX0_shift 57 = .ok (.iload_n 1, 1) := dk_27 (dk_at dksX0_shift_2 12 rfl rfl)
theorem dX0_shift_58 : decode cX0_shift 58 = .ok (.aaload, 1) := dk_50 (dk_at dksX0_shift_2 13 rfl rfl)
theorem dX0_shift_59 : decode cX0_shift 59 = .ok (.invokestatic 181, 3) := dk_184 0 181 (dk_at dksX0_shift_2 14 rfl rfl)
theorem dX0_shift_62 : decode cX0_shift 62 = .ok (.ireturn, 1) := dk_172 (dk_at dksX0_shift_2 17 rfl rfl)
abbrev cX0_calls : ByteArray := prog_1_method_49_code
def yX0_calls : MethodName := ⟨RX0, "calls", "(II)I"⟩
def dkwX0_calls_2 : List UInt8 := [180, 0, 192, 27, 46, 42, 180, 0, 62, 180, 0, 192, 27, 46, 100, 172]
abbrev dktX0_calls_2 : List UInt8 := dkwX0_calls_2 ++ []
def dkwX0_calls_1 : List UInt8 := [42, 180, 0, 62, 182, 1, 5, 42, 42, 180, 0, 66, 28, 42, 180, 0, 89, 182, 1, 33, 42, 180, 0, 66]
abbrev dktX0_calls_1 : List UInt8 := dkwX0_calls_1 ++ dktX0_calls_2
def dkwX0_calls_0 : List UInt8 := [42, 27, 182, 0, 185, 153, 0, 13, 28, 4, 16, 60, 184, 0, 161, 154, 0, 5, 2, 172, 42, 180, 0, 66]
abbrev dktX0_calls_0 : List UInt8 := dkwX0_calls_0 ++ dktX0_calls_1
theorem dksX0_calls_0 : cX0_calls.data.toList.drop 0 = dktX0_calls_0 := by decide +kernel
theorem dksX0_calls_1 : cX0_calls.data.toList.drop 24 = dktX0_calls_1 := dk_seg dksX0_calls_0 24 rfl rfl
theorem dksX0_calls_2 : cX0_calls.data.toList.drop 48 = dktX0_calls_2 := dk_seg dksX0_calls_1 24 rfl rfl
theorem dX0_calls_0 : decode cX0_calls 0 = .ok (.aload_n 0, 1) := dk_42 (dk_at dksX0_calls_0 0 rfl rfl)
theorem dX0_calls_1 : decode cX0_calls 1 = .ok (.iload_n 1, 1) := dk_27 (dk_at dksX0_calls_0 1 rfl rfl)
theorem dX0_calls_2 : decode cX0_calls 2 = .ok (.invokevirtual 185, 3) := dk_182 0 185 (dk_at dksX0_calls_0 2 rfl rfl)
theorem dX0_calls_5 : decode cX0_calls 5 = .ok (.ifCond .eq 13, 3) := dk_153 0 13 (dk_at dksX0_calls_0 5 rfl rfl)
theorem dX0_calls_8 : decode cX0_calls 8 = .ok (.iload_n 2, 1) := dk_28 (dk_at dksX0_calls_0 8 rfl rfl)
theorem dX0_calls_9 : decode cX0_calls 9 = .ok (.iconst 1, 1) := dk_4 (dk_at dksX0_calls_0 9 rfl rfl)
theorem dX0_calls_10 : decode cX0_calls 10 = .ok (.bipush 60, 2) := dk_16 60 (dk_at dksX0_calls_0 10 rfl rfl)
theorem dX0_calls_12 : decode cX0_calls 12 = .ok (.invokestatic 161, 3) := dk_184 0 161 (dk_at dksX0_calls_0 12 rfl rfl)
theorem dX0_calls_15 : decode cX0_calls 15 = .ok (.ifCond .ne 5, 3) := dk_154 0 5 (dk_at dksX0_calls_0 15 rfl rfl)
theorem dX0_calls_18 : decode cX0_calls 18 = .ok (.iconst (-1), 1) := dk_2 (dk_at dksX0_calls_0 18 rfl rfl)
theorem dX0_calls_19 : decode cX0_calls 19 = .ok (.ireturn, 1) := dk_172 (dk_at dksX0_calls_0 19 rfl rfl)
theorem dX0_calls_20 : decode cX0_calls 20 = .ok (.aload_n 0, 1) := dk_42 (dk_at dksX0_calls_0 20 rfl rfl)
theorem dX0_calls_21 : decode cX0_calls 21 = .ok (.getfield 66, 3) := dk_180 0 66 (dk_at dksX0_calls_0 21 rfl rfl)
theorem dX0_calls_24 : decode cX0_calls 24 = .ok (.aload_n 0, 1) := dk_42 (dk_at dksX0_calls_1 0 rfl rfl)
theorem dX0_calls_25 : decode cX0_calls 25 = .ok (.getfield 62, 3) := dk_180 0 62 (dk_at dksX0_calls_1 1 rfl rfl)
theorem dX0_calls_28 : decode cX0_calls 28 = .ok (.invokevirtual 261, 3) := dk_182 1 5 (dk_at dksX0_calls_1 4 rfl rfl)
theorem dX0_calls_31 : decode cX0_calls 31 = .ok (.aload_n 0, 1) := dk_42 (dk_at dksX0_calls_1 7 rfl rfl)
theorem dX0_calls_32 : decode cX0_calls 32 = .ok (.aload_n 0, 1) := dk_42 (dk_at dksX0_calls_1 8 rfl rfl)
theorem dX0_calls_33 : decode cX0_calls 33 = .ok (.getfield 66, 3) := dk_180 0 66 (dk_at dksX0_calls_1 9 rfl rfl)
theorem dX0_calls_36 : decode cX0_calls 36 = .ok (.iload_n 2, 1) := dk_28 (dk_at dksX0_calls_1 12 rfl rfl)
theorem dX0_calls_37 : decode cX0_calls 37 = .ok (.aload_n 0, 1) := dk_42 (dk_at dksX0_calls_1 13 rfl rfl)
theorem dX0_calls_38 : decode cX0_calls 38 = .ok (.getfield 89, 3) := dk_180 0 89 (dk_at dksX0_calls_1 14 rfl rfl)
theorem dX0_calls_41 : decode cX0_calls 41 = .ok (.invokevirtual 289, 3) := dk_182 1 33 (dk_at dksX0_calls_1 17 rfl rfl)
theorem dX0_calls_44 : decode cX0_calls 44 = .ok (.aload_n 0, 1) := dk_42 (dk_at dksX0_calls_1 20 rfl rfl)
theorem dX0_calls_45 : decode cX0_calls 45 = .ok (.getfield 66, 3) := dk_180 0 66 (dk_at dksX0_calls_1 21 rfl rfl)
theorem dX0_calls_48 : decode cX0_calls 48 = .ok (.getfield 192, 3) := dk_180 0 192 (dk_at dksX0_calls_2 0 rfl rfl)
theorem dX0_calls_51 : decode cX0_calls 51 = .ok (.iload_n 1, 1) := dk_27 (dk_at dksX0_calls_2 3 rfl rfl)
theorem dX0_calls_52 : decode cX0_calls 52 = .ok (.iaload, 1) := dk_46 (dk_at dksX0_calls_2 4 rfl rfl)
theorem dX0_calls_53 : decode cX0_calls 53 = .ok (.aload_n 0, 1) := dk_42 (dk_at dksX0_calls_2 5 rfl rfl)
theorem dX0_calls_54 : decode cX0_calls 54 = .ok (.getfield 62, 3) := dk_180 0 62 (dk_at dksX0_calls_2 6 rfl rfl)
theorem dX0_calls_57 : decode cX0_calls 57 = .ok (.getfield 192, 3) := dk_180 0 192 (dk_at dksX0_calls_2 9 rfl rfl)
theorem dX0_calls_60 : decode cX0_calls 60 = .ok (.iload_n 1, 1) := dk_27 (dk_at dksX0_calls_2 12 rfl rfl)
theorem dX0_calls_61 : decode cX0_calls 61 = .ok (.iaload, 1) := dk_46 (dk_at dksX0_calls_2 13 rfl rfl)
theorem dX0_calls_62 : decode cX0_calls 62 = .ok (.isub, 1) := dk_100 (dk_at dksX0_calls_2 14 rfl rfl)
theorem dX0_calls_63 : decode cX0_calls 63 = .ok (.ireturn, 1) := dk_172 (dk_at dksX0_calls_2 15 rfl rfl)
abbrev cX0_richest : ByteArray := prog_1_method_50_code
def yX0_richest : MethodName := ⟨RX0, "richest", "(II)I"⟩
def dkwX0_richest_4 : List UInt8 := [155, 0, 7, 28, 154, 0, 7, 29, 167, 0, 12, 42, 180, 0, 66, 180, 0, 201, 29, 46, 172]
abbrev dktX0_richest_4 : List UInt8 := dkwX0_richest_4 ++ []
def dkwX0_richest_3 : List UInt8 := [46, 42, 180, 0, 66, 180, 0, 201, 29, 46, 164, 0, 6, 21, 4, 62, 132, 4, 1, 167, 255, 215, 29]
abbrev dktX0_richest_3 : List UInt8 := dkwX0_richest_3 ++ dktX0_richest_4
def dkwX0_richest_2 : List UInt8 := [54, 4, 21, 4, 42, 182, 0, 159, 162, 0, 38, 29, 155, 0, 25, 42, 180, 0, 66, 180, 0, 201, 21, 4]
abbrev dktX0_richest_2 : List UInt8 := dkwX0_richest_2 ++ dktX0_richest_3
def dkwX0_richest_1 : List UInt8 := [180, 0, 66, 42, 180, 0, 62, 182, 1, 5, 42, 42, 180, 0, 66, 27, 42, 180, 0, 89, 182, 1, 33, 3]
abbrev dktX0_richest_1 : List UInt8 := dkwX0_richest_1 ++ dktX0_richest_2
def dkwX0_richest_0 : List UInt8 := [27, 184, 1, 30, 153, 0, 12, 28, 3, 4, 184, 0, 161, 154, 0, 5, 2, 172, 16, 254, 62, 42]
abbrev dktX0_richest_0 : List UInt8 := dkwX0_richest_0 ++ dktX0_richest_1
theorem dksX0_richest_0 : cX0_richest.data.toList.drop 0 = dktX0_richest_0 := by decide +kernel
theorem dksX0_richest_1 : cX0_richest.data.toList.drop 22 = dktX0_richest_1 := dk_seg dksX0_richest_0 22 rfl rfl
theorem dksX0_richest_2 : cX0_richest.data.toList.drop 46 = dktX0_richest_2 := dk_seg dksX0_richest_1 24 rfl rfl
theorem dksX0_richest_3 : cX0_richest.data.toList.drop 70 = dktX0_richest_3 := dk_seg dksX0_richest_2 24 rfl rfl
theorem dksX0_richest_4 : cX0_richest.data.toList.drop 93 = dktX0_richest_4 := dk_seg dksX0_richest_3 23 rfl rfl
theorem dX0_richest_0 : decode cX0_richest 0 = .ok (.iload_n 1, 1) := dk_27 (dk_at dksX0_richest_0 0 rfl rfl)
theorem dX0_richest_1 : decode cX0_richest 1 = .ok (.invokestatic 286, 3) := dk_184 1 30 (dk_at dksX0_richest_0 1 rfl rfl)
theorem dX0_richest_4 : decode cX0_richest 4 = .ok (.ifCond .eq 12, 3) := dk_153 0 12 (dk_at dksX0_richest_0 4 rfl rfl)
theorem dX0_richest_7 : decode cX0_richest 7 = .ok (.iload_n 2, 1) := dk_28 (dk_at dksX0_richest_0 7 rfl rfl)
theorem dX0_richest_8 : decode cX0_richest 8 = .ok (.iconst 0, 1) := dk_3 (dk_at dksX0_richest_0 8 rfl rfl)
theorem dX0_richest_9 : decode cX0_richest 9 = .ok (.iconst 1, 1) := dk_4 (dk_at dksX0_richest_0 9 rfl rfl)
theorem dX0_richest_10 : decode cX0_richest 10 = .ok (.invokestatic 161, 3) := dk_184 0 161 (dk_at dksX0_richest_0 10 rfl rfl)
theorem dX0_richest_13 : decode cX0_richest 13 = .ok (.ifCond .ne 5, 3) := dk_154 0 5 (dk_at dksX0_richest_0 13 rfl rfl)
theorem dX0_richest_16 : decode cX0_richest 16 = .ok (.iconst (-1), 1) := dk_2 (dk_at dksX0_richest_0 16 rfl rfl)
theorem dX0_richest_17 : decode cX0_richest 17 = .ok (.ireturn, 1) := dk_172 (dk_at dksX0_richest_0 17 rfl rfl)
theorem dX0_richest_18 : decode cX0_richest 18 = .ok (.bipush (-2), 2) := dk_16 254 (dk_at dksX0_richest_0 18 rfl rfl)
theorem dX0_richest_20 : decode cX0_richest 20 = .ok (.istore_n 3, 1) := dk_62 (dk_at dksX0_richest_0 20 rfl rfl)
theorem dX0_richest_21 : decode cX0_richest 21 = .ok (.aload_n 0, 1) := dk_42 (dk_at dksX0_richest_0 21 rfl rfl)
theorem dX0_richest_22 : decode cX0_richest 22 = .ok (.getfield 66, 3) := dk_180 0 66 (dk_at dksX0_richest_1 0 rfl rfl)
theorem dX0_richest_25 : decode cX0_richest 25 = .ok (.aload_n 0, 1) := dk_42 (dk_at dksX0_richest_1 3 rfl rfl)
theorem dX0_richest_26 : decode cX0_richest 26 = .ok (.getfield 62, 3) := dk_180 0 62 (dk_at dksX0_richest_1 4 rfl rfl)
theorem dX0_richest_29 : decode cX0_richest 29 = .ok (.invokevirtual 261, 3) := dk_182 1 5 (dk_at dksX0_richest_1 7 rfl rfl)
theorem dX0_richest_32 : decode cX0_richest 32 = .ok (.aload_n 0, 1) := dk_42 (dk_at dksX0_richest_1 10 rfl rfl)
theorem dX0_richest_33 : decode cX0_richest 33 = .ok (.aload_n 0, 1) := dk_42 (dk_at dksX0_richest_1 11 rfl rfl)
theorem dX0_richest_34 : decode cX0_richest 34 = .ok (.getfield 66, 3) := dk_180 0 66 (dk_at dksX0_richest_1 12 rfl rfl)
theorem dX0_richest_37 : decode cX0_richest 37 = .ok (.iload_n 1, 1) := dk_27 (dk_at dksX0_richest_1 15 rfl rfl)
theorem dX0_richest_38 : decode cX0_richest 38 = .ok (.aload_n 0, 1) := dk_42 (dk_at dksX0_richest_1 16 rfl rfl)
theorem dX0_richest_39 : decode cX0_richest 39 = .ok (.getfield 89, 3) := dk_180 0 89 (dk_at dksX0_richest_1 17 rfl rfl)
theorem dX0_richest_42 : decode cX0_richest 42 = .ok (.invokevirtual 289, 3) := dk_182 1 33 (dk_at dksX0_richest_1 20 rfl rfl)
theorem dX0_richest_45 : decode cX0_richest 45 = .ok (.iconst 0, 1) := dk_3 (dk_at dksX0_richest_1 23 rfl rfl)
theorem dX0_richest_46 : decode cX0_richest 46 = .ok (.istore 4, 2) := dk_54 4 (dk_at dksX0_richest_2 0 rfl rfl)
theorem dX0_richest_48 : decode cX0_richest 48 = .ok (.iload 4, 2) := dk_21 4 (dk_at dksX0_richest_2 2 rfl rfl)
theorem dX0_richest_50 : decode cX0_richest 50 = .ok (.aload_n 0, 1) := dk_42 (dk_at dksX0_richest_2 4 rfl rfl)
theorem dX0_richest_51 : decode cX0_richest 51 = .ok (.invokevirtual 159, 3) := dk_182 0 159 (dk_at dksX0_richest_2 5 rfl rfl)
theorem dX0_richest_54 : decode cX0_richest 54 = .ok (.if_icmp .ge 38, 3) := dk_162 0 38 (dk_at dksX0_richest_2 8 rfl rfl)
theorem dX0_richest_57 : decode cX0_richest 57 = .ok (.iload_n 3, 1) := dk_29 (dk_at dksX0_richest_2 11 rfl rfl)
theorem dX0_richest_58 : decode cX0_richest 58 = .ok (.ifCond .lt 25, 3) := dk_155 0 25 (dk_at dksX0_richest_2 12 rfl rfl)
theorem dX0_richest_61 : decode cX0_richest 61 = .ok (.aload_n 0, 1) := dk_42 (dk_at dksX0_richest_2 15 rfl rfl)
theorem dX0_richest_62 : decode cX0_richest 62 = .ok (.getfield 66, 3) := dk_180 0 66 (dk_at dksX0_richest_2 16 rfl rfl)
theorem dX0_richest_65 : decode cX0_richest 65 = .ok (.getfield 201, 3) := dk_180 0 201 (dk_at dksX0_richest_2 19 rfl rfl)
theorem dX0_richest_68 : decode cX0_richest 68 = .ok (.iload 4, 2) := dk_21 4 (dk_at dksX0_richest_2 22 rfl rfl)
theorem dX0_richest_70 : decode cX0_richest 70 = .ok (.iaload, 1) := dk_46 (dk_at dksX0_richest_3 0 rfl rfl)
theorem dX0_richest_71 : decode cX0_richest 71 = .ok (.aload_n 0, 1) := dk_42 (dk_at dksX0_richest_3 1 rfl rfl)
theorem dX0_richest_72 : decode cX0_richest 72 = .ok (.getfield 66, 3) := dk_180 0 66 (dk_at dksX0_richest_3 2 rfl rfl)
theorem dX0_richest_75 : decode cX0_richest 75 = .ok (.getfield 201, 3) := dk_180 0 201 (dk_at dksX0_richest_3 5 rfl rfl)
theorem dX0_richest_78 : decode cX0_richest 78 = .ok (.iload_n 3, 1) := dk_29 (dk_at dksX0_richest_3 8 rfl rfl)
theorem dX0_richest_79 : decode cX0_richest 79 = .ok (.iaload, 1) := dk_46 (dk_at dksX0_richest_3 9 rfl rfl)
theorem dX0_richest_80 : decode cX0_richest 80 = .ok (.if_icmp .le 6, 3) := dk_164 0 6 (dk_at dksX0_richest_3 10 rfl rfl)
theorem dX0_richest_83 : decode cX0_richest 83 = .ok (.iload 4, 2) := dk_21 4 (dk_at dksX0_richest_3 13 rfl rfl)
theorem dX0_richest_85 : decode cX0_richest 85 = .ok (.istore_n 3, 1) := dk_62 (dk_at dksX0_richest_3 15 rfl rfl)
theorem dX0_richest_86 : decode cX0_richest 86 = .ok (.iinc 4 1, 3) := dk_132 4 1 (dk_at dksX0_richest_3 16 rfl rfl)
theorem dX0_richest_89 : decode cX0_richest 89 = .ok (.goto (-41), 3) := dk_167 255 215 (dk_at dksX0_richest_3 19 rfl rfl)
theorem dX0_richest_92 : decode cX0_richest 92 = .ok (.iload_n 3, 1) := dk_29 (dk_at dksX0_richest_3 22 rfl rfl)
theorem dX0_richest_93 : decode cX0_richest 93 = .ok (.ifCond .lt 7, 3) := dk_155 0 7 (dk_at dksX0_richest_4 0 rfl rfl)
theorem dX0_richest_96 : decode cX0_richest 96 = .ok (.iload_n 2, 1) := dk_28 (dk_at dksX0_richest_4 3 rfl rfl)
theorem dX0_richest_97 : decode cX0_richest 97 = .ok (.ifCond .ne 7, 3) := dk_154 0 7 (dk_at dksX0_richest_4 4 rfl rfl)
theorem dX0_richest_100 : decode cX0_richest 100 = .ok (.iload_n 3, 1) := dk_29 (dk_at dksX0_richest_4 7 rfl rfl)
theorem dX0_richest_101 : decode cX0_richest 101 = .ok (.goto 12, 3) := dk_167 0 12 (dk_at dksX0_richest_4 8 rfl rfl)
theorem dX0_richest_104 : decode cX0_richest 104 = .ok (.aload_n 0, 1) := dk_42 (dk_at dksX0_richest_4 11 rfl rfl)
theorem dX0_richest_105 : decode cX0_richest 105 = .ok (.getfield 66, 3) := dk_180 0 66 (dk_at dksX0_richest_4 12 rfl rfl)
theorem dX0_richest_108 : decode cX0_richest 108 = .ok (.getfield 201, 3) := dk_180 0 201 (dk_at dksX0_richest_4 15 rfl rfl)
theorem dX0_richest_111 : decode cX0_richest 111 = .ok (.iload_n 3, 1) := dk_29 (dk_at dksX0_richest_4 18 rfl rfl)
theorem dX0_richest_112 : decode cX0_richest 112 = .ok (.iaload, 1) := dk_46 (dk_at dksX0_richest_4 19 rfl rfl)
theorem dX0_richest_113 : decode cX0_richest 113 = .ok (.ireturn, 1) := dk_172 (dk_at dksX0_richest_4 20 rfl rfl)
abbrev cX0_changes : ByteArray := prog_1_method_51_code
def yX0_changes : MethodName := ⟨RX0, "changes", "(I)I"⟩
def dkwX0_changes_3 : List UInt8 := [159, 0, 5, 29, 172, 132, 3, 1, 167, 255, 214, 16, 254, 172]
abbrev dktX0_changes_3 : List UInt8 := dkwX0_changes_3 ++ []
def dkwX0_changes_2 : List UInt8 := [180, 0, 51, 42, 180, 0, 89, 182, 1, 26, 42, 180, 0, 66, 42, 180, 0, 51, 27, 182, 0, 204, 28]
abbrev dktX0_changes_2 : List UInt8 := dkwX0_changes_2 ++ dktX0_changes_3
def dkwX0_changes_1 : List UInt8 := [180, 0, 66, 42, 180, 0, 62, 182, 1, 5, 4, 62, 29, 16, 60, 163, 0, 42, 42, 180, 0, 66, 42]
abbrev dktX0_changes_1 : List UInt8 := dkwX0_changes_1 ++ dktX0_changes_2
def dkwX0_changes_0 : List UInt8 := [42, 27, 182, 0, 185, 154, 0, 5, 2, 172, 42, 180, 0, 62, 42, 180, 0, 51, 27, 182, 0, 204, 61, 42]
abbrev dktX0_changes_0 : List UInt8 := dkwX0_changes_0 ++ dktX0_changes_1
theorem dksX0_changes_0 : cX0_changes.data.toList.drop 0 = dktX0_changes_0 := by decide +kernel
theorem dksX0_changes_1 : cX0_changes.data.toList.drop 24 = dktX0_changes_1 := dk_seg dksX0_changes_0 24 rfl rfl
theorem dksX0_changes_2 : cX0_changes.data.toList.drop 47 = dktX0_changes_2 := dk_seg dksX0_changes_1 23 rfl rfl
theorem dksX0_changes_3 : cX0_changes.data.toList.drop 70 = dktX0_changes_3 := dk_seg dksX0_changes_2 23 rfl rfl
theorem dX0_changes_0 : decode cX0_changes 0 = .ok (.aload_n 0, 1) := dk_42 (dk_at dksX0_changes_0 0 rfl rfl)
theorem dX0_changes_1 : decode cX0_changes 1 = .ok (.iload_n 1, 1) := dk_27 (dk_at dksX0_changes_0 1 rfl rfl)
theorem dX0_changes_2 : decode cX0_changes 2 = .ok (.invokevirtual 185, 3) := dk_182 0 185 (dk_at dksX0_changes_0 2 rfl rfl)
theorem dX0_changes_5 : decode cX0_changes 5 = .ok (.ifCond .ne 5, 3) := dk_154 0 5 (dk_at dksX0_changes_0 5 rfl rfl)
theorem dX0_changes_8 : decode cX0_changes 8 = .ok (.iconst (-1), 1) := dk_2 (dk_at dksX0_changes_0 8 rfl rfl)
theorem dX0_changes_9 : decode cX0_changes 9 = .ok (.ireturn, 1) := dk_172 (dk_at dksX0_changes_0 9 rfl rfl)
theorem dX0_changes_10 : decode cX0_changes 10 = .ok (.aload_n 0, 1) := dk_42 (dk_at dksX0_changes_0 10 rfl rfl)
theorem dX0_changes_11 : decode cX0_changes 11 = .ok (.getfield 62, 3) := dk_180 0 62 (dk_at dksX0_changes_0 11 rfl rfl)
theorem dX0_changes_14 : decode cX0_changes 14 = .ok (.aload_n 0, 1) := dk_42 (dk_at dksX0_changes_0 14 rfl rfl)
theorem dX0_changes_15 : decode cX0_changes 15 = .ok (.getfield 51, 3) := dk_180 0 51 (dk_at dksX0_changes_0 15 rfl rfl)
theorem dX0_changes_18 : decode cX0_changes 18 = .ok (.iload_n 1, 1) := dk_27 (dk_at dksX0_changes_0 18 rfl rfl)
theorem dX0_changes_19 : decode cX0_changes 19 = .ok (.invokevirtual 204, 3) := dk_182 0 204 (dk_at dksX0_changes_0 19 rfl rfl)
theorem dX0_changes_22 : decode cX0_changes 22 = .ok (.istore_n 2, 1) := dk_61 (dk_at dksX0_changes_0 22 rfl rfl)
theorem dX0_changes_23 : decode cX0_changes 23 = .ok (.aload_n 0, 1) := dk_42 (dk_at dksX0_changes_0 23 rfl rfl)
theorem dX0_changes_24 : decode cX0_changes 24 = .ok (.getfield 66, 3) := dk_180 0 66 (dk_at dksX0_changes_1 0 rfl rfl)
theorem dX0_changes_27 : decode cX0_changes 27 = .ok (.aload_n 0, 1) := dk_42 (dk_at dksX0_changes_1 3 rfl rfl)
theorem dX0_changes_28 : decode cX0_changes 28 = .ok (.getfield 62, 3) := dk_180 0 62 (dk_at dksX0_changes_1 4 rfl rfl)
theorem dX0_changes_31 : decode cX0_changes 31 = .ok (.invokevirtual 261, 3) := dk_182 1 5 (dk_at dksX0_changes_1 7 rfl rfl)
theorem dX0_changes_34 : decode cX0_changes 34 = .ok (.iconst 1, 1) := dk_4 (dk_at dksX0_changes_1 10 rfl rfl)
theorem dX0_changes_35 : decode cX0_changes 35 = .ok (.istore_n 3, 1) := dk_62 (dk_at dksX0_changes_1 11 rfl rfl)
theorem dX0_changes_36 : decode cX0_changes 36 = .ok (.iload_n 3, 1) := dk_29 (dk_at dksX0_changes_1 12 rfl rfl)
theorem dX0_changes_37 : decode cX0_changes 37 = .ok (.bipush 60, 2) := dk_16 60 (dk_at dksX0_changes_1 13 rfl rfl)
theorem dX0_changes_39 : decode cX0_changes 39 = .ok (.if_icmp .gt 42, 3) := dk_163 0 42 (dk_at dksX0_changes_1 15 rfl rfl)
theorem dX0_changes_42 : decode cX0_changes 42 = .ok (.aload_n 0, 1) := dk_42 (dk_at dksX0_changes_1 18 rfl rfl)
theorem dX0_changes_43 : decode cX0_changes 43 = .ok (.getfield 66, 3) := dk_180 0 66 (dk_at dksX0_changes_1 19 rfl rfl)
theorem dX0_changes_46 : decode cX0_changes 46 = .ok (.aload_n 0, 1) := dk_42 (dk_at dksX0_changes_1 22 rfl rfl)
theorem dX0_changes_47 : decode cX0_changes 47 = .ok (.getfield 51, 3) := dk_180 0 51 (dk_at dksX0_changes_2 0 rfl rfl)
theorem dX0_changes_50 : decode cX0_changes 50 = .ok (.aload_n 0, 1) := dk_42 (dk_at dksX0_changes_2 3 rfl rfl)
theorem dX0_changes_51 : decode cX0_changes 51 = .ok (.getfield 89, 3) := dk_180 0 89 (dk_at dksX0_changes_2 4 rfl rfl)
theorem dX0_changes_54 : decode cX0_changes 54 = .ok (.invokevirtual 282, 3) := dk_182 1 26 (dk_at dksX0_changes_2 7 rfl rfl)
theorem dX0_changes_57 : decode cX0_changes 57 = .ok (.aload_n 0, 1) := dk_42 (dk_at dksX0_changes_2 10 rfl rfl)
theorem dX0_changes_58 : decode cX0_changes 58 = .ok (.getfield 66, 3) := dk_180 0 66 (dk_at dksX0_changes_2 11 rfl rfl)
theorem dX0_changes_61 : decode cX0_changes 61 = .ok (.aload_n 0, 1) := dk_42 (dk_at dksX0_changes_2 14 rfl rfl)
theorem dX0_changes_62 : decode cX0_changes 62 = .ok (.getfield 51, 3) := dk_180 0 51 (dk_at dksX0_changes_2 15 rfl rfl)
theorem dX0_changes_65 : decode cX0_changes 65 = .ok (.iload_n 1, 1) := dk_27 (dk_at dksX0_changes_2 18 rfl rfl)
theorem dX0_changes_66 : decode cX0_changes 66 = .ok (.invokevirtual 204, 3) := dk_182 0 204 (dk_at dksX0_changes_2 19 rfl rfl)
theorem dX0_changes_69 : decode cX0_changes 69 = .ok (.iload_n 2, 1) := dk_28 (dk_at dksX0_changes_2 22 rfl rfl)
theorem dX0_changes_70 : decode cX0_changes 70 = .ok (.if_icmp .eq 5, 3) := dk_159 0 5 (dk_at dksX0_changes_3 0 rfl rfl)
theorem dX0_changes_73 : decode cX0_changes 73 = .ok (.iload_n 3, 1) := dk_29 (dk_at dksX0_changes_3 3 rfl rfl)
theorem dX0_changes_74 : decode cX0_changes 74 = .ok (.ireturn, 1) := dk_172 (dk_at dksX0_changes_3 4 rfl rfl)
theorem dX0_changes_75 : decode cX0_changes 75 = .ok (.iinc 3 1, 3) := dk_132 3 1 (dk_at dksX0_changes_3 5 rfl rfl)
theorem dX0_changes_78 : decode cX0_changes 78 = .ok (.goto (-42), 3) := dk_167 255 214 (dk_at dksX0_changes_3 8 rfl rfl)
theorem dX0_changes_81 : decode cX0_changes 81 = .ok (.bipush (-2), 2) := dk_16 254 (dk_at dksX0_changes_3 11 rfl rfl)
theorem dX0_changes_83 : decode cX0_changes 83 = .ok (.ireturn, 1) := dk_172 (dk_at dksX0_changes_3 13 rfl rfl)
abbrev cX0_rubs : ByteArray := prog_1_method_52_code
def yX0_rubs : MethodName := ⟨RX0, "rubs", "(I)I"⟩
def dkwX0_rubs_3 : List UInt8 := [159, 0, 5, 29, 172, 132, 3, 1, 167, 255, 213, 16, 254, 172]
abbrev dktX0_rubs_3 : List UInt8 := dkwX0_rubs_3 ++ []
def dkwX0_rubs_2 : List UInt8 := [180, 0, 66, 42, 180, 0, 51, 27, 182, 1, 19, 42, 180, 0, 66, 42, 180, 0, 51, 27, 182, 0, 204, 28]
abbrev dktX0_rubs_2 : List UInt8 := dkwX0_rubs_2 ++ dktX0_rubs_3
def dkwX0_rubs_1 : List UInt8 := [180, 0, 66, 42, 180, 0, 62, 182, 1, 5, 4, 62, 29, 16, 10, 163, 0, 43, 28, 155, 0, 39, 42]
abbrev dktX0_rubs_1 : List UInt8 := dkwX0_rubs_1 ++ dktX0_rubs_2
def dkwX0_rubs_0 : List UInt8 := [42, 27, 182, 0, 185, 154, 0, 5, 2, 172, 42, 180, 0, 62, 42, 180, 0, 51, 27, 182, 0, 204, 61, 42]
abbrev dktX0_rubs_0 : List UInt8 := dkwX0_rubs_0 ++ dktX0_rubs_1
theorem dksX0_rubs_0 : cX0_rubs.data.toList.drop 0 = dktX0_rubs_0 := by decide +kernel
theorem dksX0_rubs_1 : cX0_rubs.data.toList.drop 24 = dktX0_rubs_1 := dk_seg dksX0_rubs_0 24 rfl rfl
theorem dksX0_rubs_2 : cX0_rubs.data.toList.drop 47 = dktX0_rubs_2 := dk_seg dksX0_rubs_1 23 rfl rfl
theorem dksX0_rubs_3 : cX0_rubs.data.toList.drop 71 = dktX0_rubs_3 := dk_seg dksX0_rubs_2 24 rfl rfl
theorem dX0_rubs_0 : decode cX0_rubs 0 = .ok (.aload_n 0, 1) := dk_42 (dk_at dksX0_rubs_0 0 rfl rfl)
theorem dX0_rubs_1 : decode cX0_rubs 1 = .ok (.iload_n 1, 1) := dk_27 (dk_at dksX0_rubs_0 1 rfl rfl)
theorem dX0_rubs_2 : decode cX0_rubs 2 = .ok (.invokevirtual 185, 3) := dk_182 0 185 (dk_at dksX0_rubs_0 2 rfl rfl)
theorem dX0_rubs_5 : decode cX0_rubs 5 = .ok (.ifCond .ne 5, 3) := dk_154 0 5 (dk_at dksX0_rubs_0 5 rfl rfl)
theorem dX0_rubs_8 : decode cX0_rubs 8 = .ok (.iconst (-1), 1) := dk_2 (dk_at dksX0_rubs_0 8 rfl rfl)
theorem dX0_rubs_9 : decode cX0_rubs 9 = .ok (.ireturn, 1) := dk_172 (dk_at dksX0_rubs_0 9 rfl rfl)
theorem dX0_rubs_10 : decode cX0_rubs 10 = .ok (.aload_n 0, 1) := dk_42 (dk_at dksX0_rubs_0 10 rfl rfl)
theorem dX0_rubs_11 : decode cX0_rubs 11 = .ok (.getfield 62, 3) := dk_180 0 62 (dk_at dksX0_rubs_0 11 rfl rfl)
theorem dX0_rubs_14 : decode cX0_rubs 14 = .ok (.aload_n 0, 1) := dk_42 (dk_at dksX0_rubs_0 14 rfl rfl)
theorem dX0_rubs_15 : decode cX0_rubs 15 = .ok (.getfield 51, 3) := dk_180 0 51 (dk_at dksX0_rubs_0 15 rfl rfl)
theorem dX0_rubs_18 : decode cX0_rubs 18 = .ok (.iload_n 1, 1) := dk_27 (dk_at dksX0_rubs_0 18 rfl rfl)
theorem dX0_rubs_19 : decode cX0_rubs 19 = .ok (.invokevirtual 204, 3) := dk_182 0 204 (dk_at dksX0_rubs_0 19 rfl rfl)
theorem dX0_rubs_22 : decode cX0_rubs 22 = .ok (.istore_n 2, 1) := dk_61 (dk_at dksX0_rubs_0 22 rfl rfl)
theorem dX0_rubs_23 : decode cX0_rubs 23 = .ok (.aload_n 0, 1) := dk_42 (dk_at dksX0_rubs_0 23 rfl rfl)
theorem dX0_rubs_24 : decode cX0_rubs 24 = .ok (.getfield 66, 3) := dk_180 0 66 (dk_at dksX0_rubs_1 0 rfl rfl)
theorem dX0_rubs_27 : decode cX0_rubs 27 = .ok (.aload_n 0, 1) := dk_42 (dk_at dksX0_rubs_1 3 rfl rfl)
theorem dX0_rubs_28 : decode cX0_rubs 28 = .ok (.getfield 62, 3) := dk_180 0 62 (dk_at dksX0_rubs_1 4 rfl rfl)
theorem dX0_rubs_31 : decode cX0_rubs 31 = .ok (.invokevirtual 261, 3) := dk_182 1 5 (dk_at dksX0_rubs_1 7 rfl rfl)
theorem dX0_rubs_34 : decode cX0_rubs 34 = .ok (.iconst 1, 1) := dk_4 (dk_at dksX0_rubs_1 10 rfl rfl)
theorem dX0_rubs_35 : decode cX0_rubs 35 = .ok (.istore_n 3, 1) := dk_62 (dk_at dksX0_rubs_1 11 rfl rfl)
theorem dX0_rubs_36 : decode cX0_rubs 36 = .ok (.iload_n 3, 1) := dk_29 (dk_at dksX0_rubs_1 12 rfl rfl)
theorem dX0_rubs_37 : decode cX0_rubs 37 = .ok (.bipush 10, 2) := dk_16 10 (dk_at dksX0_rubs_1 13 rfl rfl)
theorem dX0_rubs_39 : decode cX0_rubs 39 = .ok (.if_icmp .gt 43, 3) := dk_163 0 43 (dk_at dksX0_rubs_1 15 rfl rfl)
theorem dX0_rubs_42 : decode cX0_rubs 42 = .ok (.iload_n 2, 1) := dk_28 (dk_at dksX0_rubs_1 18 rfl rfl)
theorem dX0_rubs_43 : decode cX0_rubs 43 = .ok (.ifCond .lt 39, 3) := dk_155 0 39 (dk_at dksX0_rubs_1 19 rfl rfl)
theorem dX0_rubs_46 : decode cX0_rubs 46 = .ok (.aload_n 0, 1) := dk_42 (dk_at dksX0_rubs_1 22 rfl rfl)
theorem dX0_rubs_47 : decode cX0_rubs 47 = .ok (.getfield 66, 3) := dk_180 0 66 (dk_at dksX0_rubs_2 0 rfl rfl)
theorem dX0_rubs_50 : decode cX0_rubs 50 = .ok (.aload_n 0, 1) := dk_42 (dk_at dksX0_rubs_2 3 rfl rfl)
theorem dX0_rubs_51 : decode cX0_rubs 51 = .ok (.getfield 51, 3) := dk_180 0 51 (dk_at dksX0_rubs_2 4 rfl rfl)
theorem dX0_rubs_54 : decode cX0_rubs 54 = .ok (.iload_n 1, 1) := dk_27 (dk_at dksX0_rubs_2 7 rfl rfl)
theorem dX0_rubs_55 : decode cX0_rubs 55 = .ok (.invokevirtual 275, 3) := dk_182 1 19 (dk_at dksX0_rubs_2 8 rfl rfl)
theorem dX0_rubs_58 : decode cX0_rubs 58 = .ok (.aload_n 0, 1) := dk_42 (dk_at dksX0_rubs_2 11 rfl rfl)
theorem dX0_rubs_59 : decode cX0_rubs 59 = .ok (.getfield 66, 3) := dk_180 0 66 (dk_at dksX0_rubs_2 12 rfl rfl)
theorem dX0_rubs_62 : decode cX0_rubs 62 = .ok (.aload_n 0, 1) := dk_42 (dk_at dksX0_rubs_2 15 rfl rfl)
theorem dX0_rubs_63 : decode cX0_rubs 63 = .ok (.getfield 51, 3) := dk_180 0 51 (dk_at dksX0_rubs_2 16 rfl rfl)
theorem dX0_rubs_66 : decode cX0_rubs 66 = .ok (.iload_n 1, 1) := dk_27 (dk_at dksX0_rubs_2 19 rfl rfl)
theorem dX0_rubs_67 : decode cX0_rubs 67 = .ok (.invokevirtual 204, 3) := dk_182 0 204 (dk_at dksX0_rubs_2 20 rfl rfl)
theorem dX0_rubs_70 : decode cX0_rubs 70 = .ok (.iload_n 2, 1) := dk_28 (dk_at dksX0_rubs_2 23 rfl rfl)
theorem dX0_rubs_71 : decode cX0_rubs 71 = .ok (.if_icmp .eq 5, 3) := dk_159 0 5 (dk_at dksX0_rubs_3 0 rfl rfl)
theorem dX0_rubs_74 : decode cX0_rubs 74 = .ok (.iload_n 3, 1) := dk_29 (dk_at dksX0_rubs_3 3 rfl rfl)
theorem dX0_rubs_75 : decode cX0_rubs 75 = .ok (.ireturn, 1) := dk_172 (dk_at dksX0_rubs_3 4 rfl rfl)
theorem dX0_rubs_76 : decode cX0_rubs 76 = .ok (.iinc 3 1, 3) := dk_132 3 1 (dk_at dksX0_rubs_3 5 rfl rfl)
theorem dX0_rubs_79 : decode cX0_rubs 79 = .ok (.goto (-43), 3) := dk_167 255 213 (dk_at dksX0_rubs_3 8 rfl rfl)
theorem dX0_rubs_82 : decode cX0_rubs 82 = .ok (.bipush (-2), 2) := dk_16 254 (dk_at dksX0_rubs_3 11 rfl rfl)
theorem dX0_rubs_84 : decode cX0_rubs 84 = .ok (.ireturn, 1) := dk_172 (dk_at dksX0_rubs_3 13 rfl rfl)
abbrev cX0_then : ByteArray := prog_1_method_53_code
def yX0_then : MethodName := ⟨RX0, "then", "(III)I"⟩
def dkwX0_then_4 : List UInt8 := [50, 29, 46, 172]
abbrev dktX0_then_4 : List UInt8 := dkwX0_then_4 ++ []
def dkwX0_then_3 : List UInt8 := [8, 160, 0, 15, 42, 180, 0, 66, 180, 0, 201, 27, 46, 167, 0, 14, 42, 180, 0, 66, 180, 0, 170, 27]
abbrev dktX0_then_3 : List UInt8 := dkwX0_then_3 ++ dktX0_then_4
def dkwX0_then_2 : List UInt8 := [182, 1, 33, 29, 7, 160, 0, 18, 42, 180, 0, 66, 42, 180, 0, 51, 27, 182, 0, 204, 167, 0, 31, 29]
abbrev dktX0_then_2 : List UInt8 := dkwX0_then_2 ++ dktX0_then_3
def dkwX0_then_1 : List UInt8 := [2, 172, 42, 180, 0, 66, 42, 180, 0, 62, 182, 1, 5, 42, 42, 180, 0, 66, 28, 42, 180, 0, 82]
abbrev dktX0_then_1 : List UInt8 := dkwX0_then_1 ++ dktX0_then_2
def dkwX0_then_0 : List UInt8 := [42, 27, 182, 0, 185, 153, 0, 19, 28, 184, 1, 30, 153, 0, 12, 29, 3, 8, 184, 0, 161, 154, 0, 5]
abbrev dktX0_then_0 : List UInt8 := dkwX0_then_0 ++ dktX0_then_1
theorem dksX0_then_0 : cX0_then.data.toList.drop 0 = dktX0_then_0 := by decide +kernel
theorem dksX0_then_1 : cX0_then.data.toList.drop 24 = dktX0_then_1 := dk_seg dksX0_then_0 24 rfl rfl
theorem dksX0_then_2 : cX0_then.data.toList.drop 47 = dktX0_then_2 := dk_seg dksX0_then_1 23 rfl rfl
theorem dksX0_then_3 : cX0_then.data.toList.drop 71 = dktX0_then_3 := dk_seg dksX0_then_2 24 rfl rfl
theorem dksX0_then_4 : cX0_then.data.toList.drop 95 = dktX0_then_4 := dk_seg dksX0_then_3 24 rfl rfl
theorem dX0_then_0 : decode cX0_then 0 = .ok (.aload_n 0, 1) := dk_42 (dk_at dksX0_then_0 0 rfl rfl)
theorem dX0_then_1 : decode cX0_then 1 = .ok (.iload_n 1, 1) := dk_27 (dk_at dksX0_then_0 1 rfl rfl)
theorem dX0_then_2 : decode cX0_then 2 = .ok (.invokevirtual 185, 3) := dk_182 0 185 (dk_at dksX0_then_0 2 rfl rfl)
theorem dX0_then_5 : decode cX0_then 5 = .ok (.ifCond .eq 19, 3) := dk_153 0 19 (dk_at dksX0_then_0 5 rfl rfl)
theorem dX0_then_8 : decode cX0_then 8 = .ok (.iload_n 2, 1) := dk_28 (dk_at dksX0_then_0 8 rfl rfl)
theorem dX0_then_9 : decode cX0_then 9 = .ok (.invokestatic 286, 3) := dk_184 1 30 (dk_at dksX0_then_0 9 rfl rfl)
theorem dX0_then_12 : decode cX0_then 12 = .ok (.ifCond .eq 12, 3) := dk_153 0 12 (dk_at dksX0_then_0 12 rfl rfl)
theorem dX0_then_15 : decode cX0_then 15 = .ok (.iload_n 3, 1) := dk_29 (dk_at dksX0_then_0 15 rfl rfl)
theorem dX0_then_16 : decode cX0_then 16 = .ok (.iconst 0, 1) := dk_3 (dk_at dksX0_then_0 16 rfl rfl)
theorem dX0_then_17 : decode cX0_then 17 = .ok (.iconst 5, 1) := dk_8 (dk_at dksX0_then_0 17 rfl rfl)
theorem dX0_then_18 : decode cX0_then 18 = .ok (.invokestatic 161, 3) := dk_184 0 161 (dk_at dksX0_then_0 18 rfl rfl)
theorem dX0_then_21 : decode cX0_then 21 = .ok (.ifCond .ne 5, 3) := dk_154 0 5 (dk_at dksX0_then_0 21 rfl rfl)
theorem dX0_then_24 : decode cX0_then 24 = .ok (.iconst (-1), 1) := dk_2 (dk_at dksX0_then_1 0 rfl rfl)
theorem dX0_then_25 : decode cX0_then 25 = .ok (.ireturn, 1) := dk_172 (dk_at dksX0_then_1 1 rfl rfl)
theorem dX0_then_26 : decode cX0_then 26 = .ok (.aload_n 0, 1) := dk_42 (dk_at dksX0_then_1 2 rfl rfl)
theorem dX0_then_27 : decode cX0_then 27 = .ok (.getfield 66, 3) := dk_180 0 66 (dk_at dksX0_then_1 3 rfl rfl)
theorem dX0_then_30 : decode cX0_then 30 = .ok (.aload_n 0, 1) := dk_42 (dk_at dksX0_then_1 6 rfl rfl)
theorem dX0_then_31 : decode cX0_then 31 = .ok (.getfield 62, 3) := dk_180 0 62 (dk_at dksX0_then_1 7 rfl rfl)
theorem dX0_then_34 : decode cX0_then 34 = .ok (.invokevirtual 261, 3) := dk_182 1 5 (dk_at dksX0_then_1 10 rfl rfl)
theorem dX0_then_37 : decode cX0_then 37 = .ok (.aload_n 0, 1) := dk_42 (dk_at dksX0_then_1 13 rfl rfl)
theorem dX0_then_38 : decode cX0_then 38 = .ok (.aload_n 0, 1) := dk_42 (dk_at dksX0_then_1 14 rfl rfl)
theorem dX0_then_39 : decode cX0_then 39 = .ok (.getfield 66, 3) := dk_180 0 66 (dk_at dksX0_then_1 15 rfl rfl)
theorem dX0_then_42 : decode cX0_then 42 = .ok (.iload_n 2, 1) := dk_28 (dk_at dksX0_then_1 18 rfl rfl)
theorem dX0_then_43 : decode cX0_then 43 = .ok (.aload_n 0, 1) := dk_42 (dk_at dksX0_then_1 19 rfl rfl)
theorem dX0_then_44 : decode cX0_then 44 = .ok (.getfield 82, 3) := dk_180 0 82 (dk_at dksX0_then_1 20 rfl rfl)
theorem dX0_then_47 : decode cX0_then 47 = .ok (.invokevirtual 289, 3) := dk_182 1 33 (dk_at dksX0_then_2 0 rfl rfl)
theorem dX0_then_50 : decode cX0_then 50 = .ok (.iload_n 3, 1) := dk_29 (dk_at dksX0_then_2 3 rfl rfl)
theorem dX0_then_51 : decode cX0_then 51 = .ok (.iconst 4, 1) := dk_7 (dk_at dksX0_then_2 4 rfl rfl)
theorem dX0_then_52 : decode cX0_then 52 = .ok (.if_icmp .ne 18, 3) := dk_160 0 18 (dk_at dksX0_then_2 5 rfl rfl)
theorem dX0_then_55 : decode cX0_then 55 = .ok (.aload_n 0, 1) := dk_42 (dk_at dksX0_then_2 8 rfl rfl)
theorem dX0_then_56 : decode cX0_then 56 = .ok (.getfield 66, 3) := dk_180 0 66 (dk_at dksX0_then_2 9 rfl rfl)
theorem dX0_then_59 : decode cX0_then 59 = .ok (.aload_n 0, 1) := dk_42 (dk_at dksX0_then_2 12 rfl rfl)
theorem dX0_then_60 : decode cX0_then 60 = .ok (.getfield 51, 3) := dk_180 0 51 (dk_at dksX0_then_2 13 rfl rfl)
theorem dX0_then_63 : decode cX0_then 63 = .ok (.iload_n 1, 1) := dk_27 (dk_at dksX0_then_2 16 rfl rfl)
theorem dX0_then_64 : decode cX0_then 64 = .ok (.invokevirtual 204, 3) := dk_182 0 204 (dk_at dksX0_then_2 17 rfl rfl)
theorem dX0_then_67 : decode cX0_then 67 = .ok (.goto 31, 3) := dk_167 0 31 (dk_at dksX0_then_2 20 rfl rfl)
theorem dX0_then_70 : decode cX0_then 70 = .ok (.iload_n 3, 1) := dk_29 (dk_at dksX0_then_2 23 rfl rfl)
theorem dX0_then_71 : decode cX0_then 71 = .ok (.iconst 5, 1) := dk_8 (dk_at dksX0_then_3 0 rfl rfl)
theorem dX0_then_72 : decode cX0_then 72 = .ok (.if_icmp .ne 15, 3) := dk_160 0 15 (dk_at dksX0_then_3 1 rfl rfl)
theorem dX0_then_75 : decode cX0_then 75 = .ok (.aload_n 0, 1) := dk_42 (dk_at dksX0_then_3 4 rfl rfl)
theorem dX0_then_76 : decode cX0_then 76 = .ok (.getfield 66, 3) := dk_180 0 66 (dk_at dksX0_then_3 5 rfl rfl)
theorem dX0_then_79 : decode cX0_then 79 = .ok (.getfield 201, 3) := dk_180 0 201 (dk_at dksX0_then_3 8 rfl rfl)
theorem dX0_then_82 : decode cX0_then 82 = .ok (.iload_n 1, 1) := dk_27 (dk_at dksX0_then_3 11 rfl rfl)
theorem dX0_then_83 : decode cX0_then 83 = .ok (.iaload, 1) := dk_46 (dk_at dksX0_then_3 12 rfl rfl)
theorem dX0_then_84 : decode cX0_then 84 = .ok (.goto 14, 3) := dk_167 0 14 (dk_at dksX0_then_3 13 rfl rfl)
theorem dX0_then_87 : decode cX0_then 87 = .ok (.aload_n 0, 1) := dk_42 (dk_at dksX0_then_3 16 rfl rfl)
theorem dX0_then_88 : decode cX0_then 88 = .ok (.getfield 66, 3) := dk_180 0 66 (dk_at dksX0_then_3 17 rfl rfl)
theorem dX0_then_91 : decode cX0_then 91 = .ok (.getfield 170, 3) := dk_180 0 170 (dk_at dksX0_then_3 20 rfl rfl)
theorem dX0_then_94 : decode cX0_then 94 = .ok (.iload_n 1, 1) := dk_27 (dk_at dksX0_then_3 23 rfl rfl)
theorem dX0_then_95 : decode cX0_then 95 = .ok (.aaload, 1) := dk_50 (dk_at dksX0_then_4 0 rfl rfl)
theorem dX0_then_96 : decode cX0_then 96 = .ok (.iload_n 3, 1) := dk_29 (dk_at dksX0_then_4 1 rfl rfl)
theorem dX0_then_97 : decode cX0_then 97 = .ok (.iaload, 1) := dk_46 (dk_at dksX0_then_4 2 rfl rfl)
theorem dX0_then_98 : decode cX0_then 98 = .ok (.ireturn, 1) := dk_172 (dk_at dksX0_then_4 3 rfl rfl)
abbrev cX0_busy : ByteArray := prog_1_method_54_code
def yX0_busy : MethodName := ⟨RX0, "busy", "(II)I"⟩
def dkwX0_busy_5 : List UInt8 := [132, 5, 1, 167, 255, 189, 29, 155, 0, 7, 28, 154, 0, 7, 29, 167, 0, 5, 21, 4, 172]
abbrev dktX0_busy_5 : List UInt8 := dkwX0_busy_5 ++ []
def dkwX0_busy_4 : List UInt8 := [180, 0, 66, 180, 0, 218, 21, 5, 46, 42, 180, 0, 62, 180, 0, 218, 21, 5, 46, 100, 54, 4]
abbrev dktX0_busy_4 : List UInt8 := dkwX0_busy_4 ++ dktX0_busy_5
def dkwX0_busy_3 : List UInt8 := [46, 42, 180, 0, 62, 180, 0, 218, 21, 5, 46, 100, 21, 4, 163, 0, 6, 167, 0, 29, 21, 5, 62, 42]
abbrev dktX0_busy_3 : List UInt8 := dkwX0_busy_3 ++ dktX0_busy_4
def dkwX0_busy_2 : List UInt8 := [182, 1, 33, 3, 54, 5, 21, 5, 42, 182, 0, 165, 162, 0, 64, 42, 180, 0, 66, 180, 0, 218, 21, 5]
abbrev dktX0_busy_2 : List UInt8 := dkwX0_busy_2 ++ dktX0_busy_3
def dkwX0_busy_1 : List UInt8 := [2, 54, 4, 42, 180, 0, 66, 42, 180, 0, 62, 182, 1, 5, 42, 42, 180, 0, 66, 27, 42, 180, 0, 89]
abbrev dktX0_busy_1 : List UInt8 := dkwX0_busy_1 ++ dktX0_busy_2
def dkwX0_busy_0 : List UInt8 := [27, 4, 16, 60, 184, 0, 161, 153, 0, 12, 28, 3, 4, 184, 0, 161, 154, 0, 5, 2, 172, 16, 254, 62]
abbrev dktX0_busy_0 : List UInt8 := dkwX0_busy_0 ++ dktX0_busy_1
theorem dksX0_busy_0 : cX0_busy.data.toList.drop 0 = dktX0_busy_0 := by decide +kernel
theorem dksX0_busy_1 : cX0_busy.data.toList.drop 24 = dktX0_busy_1 := dk_seg dksX0_busy_0 24 rfl rfl
theorem dksX0_busy_2 : cX0_busy.data.toList.drop 48 = dktX0_busy_2 := dk_seg dksX0_busy_1 24 rfl rfl
theorem dksX0_busy_3 : cX0_busy.data.toList.drop 72 = dktX0_busy_3 := dk_seg dksX0_busy_2 24 rfl rfl
theorem dksX0_busy_4 : cX0_busy.data.toList.drop 96 = dktX0_busy_4 := dk_seg dksX0_busy_3 24 rfl rfl
theorem dksX0_busy_5 : cX0_busy.data.toList.drop 118 = dktX0_busy_5 := dk_seg dksX0_busy_4 22 rfl rfl
theorem dX0_busy_0 : decode cX0_busy 0 = .ok (.iload_n 1, 1) := dk_27 (dk_at dksX0_busy_0 0 rfl rfl)
theorem dX0_busy_1 : decode cX0_busy 1 = .ok (.iconst 1, 1) := dk_4 (dk_at dksX0_busy_0 1 rfl rfl)
theorem dX0_busy_2 : decode cX0_busy 2 = .ok (.bipush 60, 2) := dk_16 60 (dk_at dksX0_busy_0 2 rfl rfl)
theorem dX0_busy_4 : decode cX0_busy 4 = .ok (.invokestatic 161, 3) := dk_184 0 161 (dk_at dksX0_busy_0 4 rfl rfl)
theorem dX0_busy_7 : decode cX0_busy 7 = .ok (.ifCond .eq 12, 3) := dk_153 0 12 (dk_at dksX0_busy_0 7 rfl rfl)
theorem dX0_busy_10 : decode cX0_busy 10 = .ok (.iload_n 2, 1) := dk_28 (dk_at dksX0_busy_0 10 rfl rfl)
theorem dX0_busy_11 : decode cX0_busy 11 = .ok (.iconst 0, 1) := dk_3 (dk_at dksX0_busy_0 11 rfl rfl)
theorem dX0_busy_12 : decode cX0_busy 12 = .ok (.iconst 1, 1) := dk_4 (dk_at dksX0_busy_0 12 rfl rfl)
theorem dX0_busy_13 : decode cX0_busy 13 = .ok (.invokestatic 161, 3) := dk_184 0 161 (dk_at dksX0_busy_0 13 rfl rfl)
theorem dX0_busy_16 : decode cX0_busy 16 = .ok (.ifCond .ne 5, 3) := dk_154 0 5 (dk_at dksX0_busy_0 16 rfl rfl)
theorem dX0_busy_19 : decode cX0_busy 19 = .ok (.iconst (-1), 1) := dk_2 (dk_at dksX0_busy_0 19 rfl rfl)
theorem dX0_busy_20 : decode cX0_busy 20 = .ok (.ireturn, 1) := dk_172 (dk_at dksX0_busy_0 20 rfl rfl)
theorem dX0_busy_21 : decode cX0_busy 21 = .ok (.bipush (-2), 2) := dk_16 254 (dk_at dksX0_busy_0 21 rfl rfl)
theorem dX0_busy_23 : decode cX0_busy 23 = .ok (.istore_n 3, 1) := dk_62 (dk_at dksX0_busy_0 23 rfl rfl)
theorem dX0_busy_24 : decode cX0_busy 24 = .ok (.iconst (-1), 1) := dk_2 (dk_at dksX0_busy_1 0 rfl rfl)
theorem dX0_busy_25 : decode cX0_busy 25 = .ok (.istore 4, 2) := dk_54 4 (dk_at dksX0_busy_1 1 rfl rfl)
theorem dX0_busy_27 : decode cX0_busy 27 = .ok (.aload_n 0, 1) := dk_42 (dk_at dksX0_busy_1 3 rfl rfl)
theorem dX0_busy_28 : decode cX0_busy 28 = .ok (.getfield 66, 3) := dk_180 0 66 (dk_at dksX0_busy_1 4 rfl rfl)
theorem dX0_busy_31 : decode cX0_busy 31 = .ok (.aload_n 0, 1) := dk_42 (dk_at dksX0_busy_1 7 rfl rfl)
theorem dX0_busy_32 : decode cX0_busy 32 = .ok (.getfield 62, 3) := dk_180 0 62 (dk_at dksX0_busy_1 8 rfl rfl)
theorem dX0_busy_35 : decode cX0_busy 35 = .ok (.invokevirtual 261, 3) := dk_182 1 5 (dk_at dksX0_busy_1 11 rfl rfl)
theorem dX0_busy_38 : decode cX0_busy 38 = .ok (.aload_n 0, 1) := dk_42 (dk_at dksX0_busy_1 14 rfl rfl)
theorem dX0_busy_39 : decode cX0_busy 39 = .ok (.aload_n 0, 1) := dk_42 (dk_at dksX0_busy_1 15 rfl rfl)
theorem dX0_busy_40 : decode cX0_busy 40 = .ok (.getfield 66, 3) := dk_180 0 66 (dk_at dksX0_busy_1 16 rfl rfl)
theorem dX0_busy_43 : decode cX0_busy 43 = .ok (.iload_n 1, 1) := dk_27 (dk_at dksX0_busy_1 19 rfl rfl)
theorem dX0_busy_44 : decode cX0_busy 44 = .ok (.aload_n 0, 1) := dk_42 (dk_at dksX0_busy_1 20 rfl rfl)
theorem dX0_busy_45 : decode cX0_busy 45 = .ok (.getfield 89, 3) := dk_180 0 89 (dk_at dksX0_busy_1 21 rfl rfl)
theorem dX0_busy_48 : decode cX0_busy 48 = .ok (.invokevirtual 289, 3) := dk_182 1 33 (dk_at dksX0_busy_2 0 rfl rfl)
theorem dX0_busy_51 : decode cX0_busy 51 = .ok (.iconst 0, 1) := dk_3 (dk_at dksX0_busy_2 3 rfl rfl)
theorem dX0_busy_52 : decode cX0_busy 52 = .ok (.istore 5, 2) := dk_54 5 (dk_at dksX0_busy_2 4 rfl rfl)
theorem dX0_busy_54 : decode cX0_busy 54 = .ok (.iload 5, 2) := dk_21 5 (dk_at dksX0_busy_2 6 rfl rfl)
theorem dX0_busy_56 : decode cX0_busy 56 = .ok (.aload_n 0, 1) := dk_42 (dk_at dksX0_busy_2 8 rfl rfl)
theorem dX0_busy_57 : decode cX0_busy 57 = .ok (.invokevirtual 165, 3) := dk_182 0 165 (dk_at dksX0_busy_2 9 rfl rfl)
theorem dX0_busy_60 : decode cX0_busy 60 = .ok (.if_icmp .ge 64, 3) := dk_162 0 64 (dk_at dksX0_busy_2 12 rfl rfl)
theorem dX0_busy_63 : decode cX0_busy 63 = .ok (.aload_n 0, 1) := dk_42 (dk_at dksX0_busy_2 15 rfl rfl)
theorem dX0_busy_64 : decode cX0_busy 64 = .ok (.getfield 66, 3) := dk_180 0 66 (dk_at dksX0_busy_2 16 rfl rfl)
theorem dX0_busy_67 : decode cX0_busy 67 = .ok (.getfield 218, 3) := dk_180 0 218 (dk_at dksX0_busy_2 19 rfl rfl)
theorem dX0_busy_70 : decode cX0_busy 70 = .ok (.iload 5, 2) := dk_21 5 (dk_at dksX0_busy_2 22 rfl rfl)
theorem dX0_busy_72 : decode cX0_busy 72 = .ok (.iaload, 1) := dk_46 (dk_at dksX0_busy_3 0 rfl rfl)
theorem dX0_busy_73 : decode cX0_busy 73 = .ok (.aload_n 0, 1) := dk_42 (dk_at dksX0_busy_3 1 rfl rfl)
theorem dX0_busy_74 : decode cX0_busy 74 = .ok (.getfield 62, 3) := dk_180 0 62 (dk_at dksX0_busy_3 2 rfl rfl)
theorem dX0_busy_77 : decode cX0_busy 77 = .ok (.getfield 218, 3) := dk_180 0 218 (dk_at dksX0_busy_3 5 rfl rfl)
theorem dX0_busy_80 : decode cX0_busy 80 = .ok (.iload 5, 2) := dk_21 5 (dk_at dksX0_busy_3 8 rfl rfl)
theorem dX0_busy_82 : decode cX0_busy 82 = .ok (.iaload, 1) := dk_46 (dk_at dksX0_busy_3 10 rfl rfl)
theorem dX0_busy_83 : decode cX0_busy 83 = .ok (.isub, 1) := dk_100 (dk_at dksX0_busy_3 11 rfl rfl)
theorem dX0_busy_84 : decode cX0_busy 84 = .ok (.iload 4, 2) := dk_21 4 (dk_at dksX0_busy_3 12 rfl rfl)
theorem dX0_busy_86 : decode cX0_busy 86 = .ok (.if_icmp .gt 6, 3) := dk_163 0 6 (dk_at dksX0_busy_3 14 rfl rfl)
theorem dX0_busy_89 : decode cX0_busy 89 = .ok (.goto 29, 3) := dk_167 0 29 (dk_at dksX0_busy_3 17 rfl rfl)
theorem dX0_busy_92 : decode cX0_busy 92 = .ok (.iload 5, 2) := dk_21 5 (dk_at dksX0_busy_3 20 rfl rfl)
theorem dX0_busy_94 : decode cX0_busy 94 = .ok (.istore_n 3, 1) := dk_62 (dk_at dksX0_busy_3 22 rfl rfl)
theorem dX0_busy_95 : decode cX0_busy 95 = .ok (.aload_n 0, 1) := dk_42 (dk_at dksX0_busy_3 23 rfl rfl)
theorem dX0_busy_96 : decode cX0_busy 96 = .ok (.getfield 66, 3) := dk_180 0 66 (dk_at dksX0_busy_4 0 rfl rfl)
theorem dX0_busy_99 : decode cX0_busy 99 = .ok (.getfield 218, 3) := dk_180 0 218 (dk_at dksX0_busy_4 3 rfl rfl)
theorem dX0_busy_102 : decode cX0_busy 102 = .ok (.iload 5, 2) := dk_21 5 (dk_at dksX0_busy_4 6 rfl rfl)
theorem dX0_busy_104 : decode cX0_busy 104 = .ok (.iaload, 1) := dk_46 (dk_at dksX0_busy_4 8 rfl rfl)
theorem dX0_busy_105 : decode cX0_busy 105 = .ok (.aload_n 0, 1) := dk_42 (dk_at dksX0_busy_4 9 rfl rfl)
theorem dX0_busy_106 : decode cX0_busy 106 = .ok (.getfield 62, 3) := dk_180 0 62 (dk_at dksX0_busy_4 10 rfl rfl)
theorem dX0_busy_109 : decode cX0_busy 109 = .ok (.getfield 218, 3) := dk_180 0 218 (dk_at dksX0_busy_4 13 rfl rfl)
theorem dX0_busy_112 : decode cX0_busy 112 = .ok (.iload 5, 2) := dk_21 5 (dk_at dksX0_busy_4 16 rfl rfl)
theorem dX0_busy_114 : decode cX0_busy 114 = .ok (.iaload, 1) := dk_46 (dk_at dksX0_busy_4 18 rfl rfl)
theorem dX0_busy_115 : decode cX0_busy 115 = .ok (.isub, 1) := dk_100 (dk_at dksX0_busy_4 19 rfl rfl)
theorem dX0_busy_116 : decode cX0_busy 116 = .ok (.istore 4, 2) := dk_54 4 (dk_at dksX0_busy_4 20 rfl rfl)
theorem dX0_busy_118 : decode cX0_busy 118 = .ok (.iinc 5 1, 3) := dk_132 5 1 (dk_at dksX0_busy_5 0 rfl rfl)
theorem dX0_busy_121 : decode cX0_busy 121 = .ok (.goto (-67), 3) := dk_167 255 189 (dk_at dksX0_busy_5 3 rfl rfl)
theorem dX0_busy_124 : decode cX0_busy 124 = .ok (.iload_n 3, 1) := dk_29 (dk_at dksX0_busy_5 6 rfl rfl)
theorem dX0_busy_125 : decode cX0_busy 125 = .ok (.ifCond .lt 7, 3) := dk_155 0 7 (dk_at dksX0_busy_5 7 rfl rfl)
theorem dX0_busy_128 : decode cX0_busy 128 = .ok (.iload_n 2, 1) := dk_28 (dk_at dksX0_busy_5 10 rfl rfl)
theorem dX0_busy_129 : decode cX0_busy 129 = .ok (.ifCond .ne 7, 3) := dk_154 0 7 (dk_at dksX0_busy_5 11 rfl rfl)
theorem dX0_busy_132 : decode cX0_busy 132 = .ok (.iload_n 3, 1) := dk_29 (dk_at dksX0_busy_5 14 rfl rfl)
theorem dX0_busy_133 : decode cX0_busy 133 = .ok (.goto 5, 3) := dk_167 0 5 (dk_at dksX0_busy_5 15 rfl rfl)
theorem dX0_busy_136 : decode cX0_busy 136 = .ok (.iload 4, 2) := dk_21 4 (dk_at dksX0_busy_5 18 rfl rfl)
theorem dX0_busy_138 : decode cX0_busy 138 = .ok (.ireturn, 1) := dk_172 (dk_at dksX0_busy_5 20 rfl rfl)
abbrev cX0_year : ByteArray := prog_1_method_55_code
def yX0_year : MethodName := ⟨RX0, "year", "(IIII)I"⟩
def dkwX0_year_5 : List UInt8 := [132, 6, 1, 167, 255, 179, 21, 5, 172]
abbrev dktX0_year_5 : List UInt8 := dkwX0_year_5 ++ []
def dkwX0_year_4 : List UInt8 := [42, 180, 0, 66, 42, 180, 0, 51, 27, 182, 0, 204, 28, 160, 0, 7, 4, 167, 0, 4, 3, 96, 54, 5]
abbrev dktX0_year_4 : List UInt8 := dkwX0_year_4 ++ dktX0_year_5
def dkwX0_year_3 : List UInt8 := [180, 1, 52, 21, 6, 96, 181, 1, 55, 42, 42, 180, 0, 66, 29, 42, 180, 0, 82, 182, 1, 33, 21, 5]
abbrev dktX0_year_3 : List UInt8 := dkwX0_year_3 ++ dktX0_year_4
def dkwX0_year_2 : List UInt8 := [162, 0, 76, 42, 180, 0, 66, 42, 180, 0, 62, 182, 1, 5, 42, 180, 0, 66, 42, 180, 0, 51]
abbrev dktX0_year_2 : List UInt8 := dkwX0_year_2 ++ dktX0_year_3
def dkwX0_year_1 : List UInt8 := [21, 4, 4, 16, 20, 184, 0, 161, 154, 0, 5, 2, 172, 3, 54, 5, 3, 54, 6, 21, 6, 21, 4]
abbrev dktX0_year_1 : List UInt8 := dkwX0_year_1 ++ dktX0_year_2
def dkwX0_year_0 : List UInt8 := [42, 27, 182, 0, 185, 153, 0, 29, 42, 28, 182, 0, 212, 153, 0, 21, 29, 184, 1, 30, 153, 0, 14]
abbrev dktX0_year_0 : List UInt8 := dkwX0_year_0 ++ dktX0_year_1
theorem dksX0_year_0 : cX0_year.data.toList.drop 0 = dktX0_year_0 := by decide +kernel
theorem dksX0_year_1 : cX0_year.data.toList.drop 23 = dktX0_year_1 := dk_seg dksX0_year_0 23 rfl rfl
theorem dksX0_year_2 : cX0_year.data.toList.drop 46 = dktX0_year_2 := dk_seg dksX0_year_1 23 rfl rfl
theorem dksX0_year_3 : cX0_year.data.toList.drop 68 = dktX0_year_3 := dk_seg dksX0_year_2 22 rfl rfl
theorem dksX0_year_4 : cX0_year.data.toList.drop 92 = dktX0_year_4 := dk_seg dksX0_year_3 24 rfl rfl
theorem dksX0_year_5 : cX0_year.data.toList.drop 116 = dktX0_year_5 := dk_seg dksX0_year_4 24 rfl rfl
theorem dX0_year_0 : decode cX0_year 0 = .ok (.aload_n 0, 1) := dk_42 (dk_at dksX0_year_0 0 rfl rfl)
theorem dX0_year_1 : decode cX0_year 1 = .ok (.iload_n 1, 1) := dk_27 (dk_at dksX0_year_0 1 rfl rfl)
theorem dX0_year_2 : decode cX0_year 2 = .ok (.invokevirtual 185, 3) := dk_182 0 185 (dk_at dksX0_year_0 2 rfl rfl)
theorem dX0_year_5 : decode cX0_year 5 = .ok (.ifCond .eq 29, 3) := dk_153 0 29 (dk_at dksX0_year_0 5 rfl rfl)
theorem dX0_year_8 : decode cX0_year 8 = .ok (.aload_n 0, 1) := dk_42 (dk_at dksX0_year_0 8 rfl rfl)
theorem dX0_year_9 : decode cX0_year 9 = .ok (.iload_n 2, 1) := dk_28 (dk_at dksX0_year_0 9 rfl rfl)
theorem dX0_year_10 : decode cX0_year 10 = .ok (.invokevirtual 212, 3) := dk_182 0 212 (dk_at dksX0_year_0 10 rfl rfl)
theorem dX0_year_13 : decode cX0_year 13 = .ok (.ifCond .eq 21, 3) := dk_153 0 21 (dk_at dksX0_year_0 13 rfl rfl)
theorem dX0_year_16 : decode cX0_year 16 = .ok (.iload_n 3, 1) := dk_29 (dk_at dksX0_year_0 16 rfl rfl)
theorem dX0_year_17 : decode cX0_year 17 = .ok (.invokestatic 286, 3) := dk_184 1 30 (dk_at dksX0_year_0 17 rfl rfl)
theorem dX0_year_20 : decode cX0_year 20 = .ok (.ifCond .eq 14, 3) := dk_153 0 14 (dk_at dksX0_year_0 20 rfl rfl)
theorem dX0_year_23 : decode cX0_year 23 = .ok (.iload 4, 2) := dk_21 4 (dk_at dksX0_year_1 0 rfl rfl)
theorem dX0_year_25 : decode cX0_year 25 = .ok (.iconst 1, 1) := dk_4 (dk_at dksX0_year_1 2 rfl rfl)
theorem dX0_year_26 : decode cX0_year 26 = .ok (.bipush 20, 2) := dk_16 20 (dk_at dksX0_year_1 3 rfl rfl)
theorem dX0_year_28 : decode cX0_year 28 = .ok (.invokestatic 161, 3) := dk_184 0 161 (dk_at dksX0_year_1 5 rfl rfl)
theorem dX0_year_31 : decode cX0_year 31 = .ok (.ifCond .ne 5, 3) := dk_154 0 5 (dk_at dksX0_year_1 8 rfl rfl)
theorem dX0_year_34 : decode cX0_year 34 = .ok (.iconst (-1), 1) := dk_2 (dk_at dksX0_year_1 11 rfl rfl)
theorem dX0_year_35 : decode cX0_year 35 = .ok (.ireturn, 1) := dk_172 (dk_at dksX0_year_1 12 rfl rfl)
theorem dX0_year_36 : decode cX0_year 36 = .ok (.iconst 0, 1) := dk_3 (dk_at dksX0_year_1 13 rfl rfl)
theorem dX0_year_37 : decode cX0_year 37 = .ok (.istore 5, 2) := dk_54 5 (dk_at dksX0_year_1 14 rfl rfl)
theorem dX0_year_39 : decode cX0_year 39 = .ok (.iconst 0, 1) := dk_3 (dk_at dksX0_year_1 16 rfl rfl)
theorem dX0_year_40 : decode cX0_year 40 = .ok (.istore 6, 2) := dk_54 6 (dk_at dksX0_year_1 17 rfl rfl)
theorem dX0_year_42 : decode cX0_year 42 = .ok (.iload 6, 2) := dk_21 6 (dk_at dksX0_year_1 19 rfl rfl)
theorem dX0_year_44 : decode cX0_year 44 = .ok (.iload 4, 2) := dk_21 4 (dk_at dksX0_year_1 21 rfl rfl)
theorem dX0_year_46 : decode cX0_year 46 = .ok (.if_icmp .ge 76, 3) := dk_162 0 76 (dk_at dksX0_year_2 0 rfl rfl)
theorem dX0_year_49 : decode cX0_year 49 = .ok (.aload_n 0, 1) := dk_42 (dk_at dksX0_year_2 3 rfl rfl)
theorem dX0_year_50 : decode cX0_year 50 = .ok (.getfield 66, 3) := dk_180 0 66 (dk_at dksX0_year_2 4 rfl rfl)
theorem dX0_year_53 : decode cX0_year 53 = .ok (.aload_n 0, 1) := dk_42 (dk_at dksX0_year_2 7 rfl rfl)
theorem dX0_year_54 : decode cX0_year 54 = .ok (.getfield 62, 3) := dk_180 0 62 (dk_at dksX0_year_2 8 rfl rfl)
theorem dX0_year_57 : decode cX0_year 57 = .ok (.invokevirtual 261, 3) := dk_182 1 5 (dk_at dksX0_year_2 11 rfl rfl)
theorem dX0_year_60 : decode cX0_year 60 = .ok (.aload_n 0, 1) := dk_42 (dk_at dksX0_year_2 14 rfl rfl)
theorem dX0_year_61 : decode cX0_year 61 = .ok (.getfield 66, 3) := dk_180 0 66 (dk_at dksX0_year_2 15 rfl rfl)
theorem dX0_year_64 : decode cX0_year 64 = .ok (.aload_n 0, 1) := dk_42 (dk_at dksX0_year_2 18 rfl rfl)
theorem dX0_year_65 : decode cX0_year 65 = .ok (.getfield 51, 3) := dk_180 0 51 (dk_at dksX0_year_2 19 rfl rfl)
theorem dX0_year_68 : decode cX0_year 68 = .ok (.getfield 308, 3) := dk_180 1 52 (dk_at dksX0_year_3 0 rfl rfl)
theorem dX0_year_71 : decode cX0_year 71 = .ok (.iload 6, 2) := dk_21 6 (dk_at dksX0_year_3 3 rfl rfl)
theorem dX0_year_73 : decode cX0_year 73 = .ok (.iadd, 1) := dk_96 (dk_at dksX0_year_3 5 rfl rfl)
theorem dX0_year_74 : decode cX0_year 74 = .ok (.putfield 311, 3) := dk_181 1 55 (dk_at dksX0_year_3 6 rfl rfl)
theorem dX0_year_77 : decode cX0_year 77 = .ok (.aload_n 0, 1) := dk_42 (dk_at dksX0_year_3 9 rfl rfl)
theorem dX0_year_78 : decode cX0_year 78 = .ok (.aload_n 0, 1) := dk_42 (dk_at dksX0_year_3 10 rfl rfl)
theorem dX0_year_79 : decode cX0_year 79 = .ok (.getfield 66, 3) := dk_180 0 66 (dk_at dksX0_year_3 11 rfl rfl)
theorem dX0_year_82 : decode cX0_year 82 = .ok (.iload_n 3, 1) := dk_29 (dk_at dksX0_year_3 14 rfl rfl)
theorem dX0_year_83 : decode cX0_year 83 = .ok (.aload_n 0, 1) := dk_42 (dk_at dksX0_year_3 15 rfl rfl)
theorem dX0_year_84 : decode cX0_year 84 = .ok (.getfield 82, 3) := dk_180 0 82 (dk_at dksX0_year_3 16 rfl rfl)
theorem dX0_year_87 : decode cX0_year 87 = .ok (.invokevirtual 289, 3) := dk_182 1 33 (dk_at dksX0_year_3 19 rfl rfl)
theorem dX0_year_90 : decode cX0_year 90 = .ok (.iload 5, 2) := dk_21 5 (dk_at dksX0_year_3 22 rfl rfl)
theorem dX0_year_92 : decode cX0_year 92 = .ok (.aload_n 0, 1) := dk_42 (dk_at dksX0_year_4 0 rfl rfl)
theorem dX0_year_93 : decode cX0_year 93 = .ok (.getfield 66, 3) := dk_180 0 66 (dk_at dksX0_year_4 1 rfl rfl)
theorem dX0_year_96 : decode cX0_year 96 = .ok (.aload_n 0, 1) := dk_42 (dk_at dksX0_year_4 4 rfl rfl)
theorem dX0_year_97 : decode cX0_year 97 = .ok (.getfield 51, 3) := dk_180 0 51 (dk_at dksX0_year_4 5 rfl rfl)
theorem dX0_year_100 : decode cX0_year 100 = .ok (.iload_n 1, 1) := dk_27 (dk_at dksX0_year_4 8 rfl rfl)
theorem dX0_year_101 : decode cX0_year 101 = .ok (.invokevirtual 204, 3) := dk_182 0 204 (dk_at dksX0_year_4 9 rfl rfl)
theorem dX0_year_104 : decode cX0_year 104 = .ok (.iload_n 2, 1) := dk_28 (dk_at dksX0_year_4 12 rfl rfl)
theorem dX0_year_105 : decode cX0_year 105 = .ok (.if_icmp .ne 7, 3) := dk_160 0 7 (dk_at dksX0_year_4 13 rfl rfl)
theorem dX0_year_108 : decode cX0_year 108 = .ok (.iconst 1, 1) := dk_4 (dk_at dksX0_year_4 16 rfl rfl)
theorem dX0_year_109 : decode cX0_year 109 = .ok (.goto 4, 3) := dk_167 0 4 (dk_at dksX0_year_4 17 rfl rfl)
theorem dX0_year_112 : decode cX0_year 112 = .ok (.iconst 0, 1) := dk_3 (dk_at dksX0_year_4 20 rfl rfl)
theorem dX0_year_113 : decode cX0_year 113 = .ok (.iadd, 1) := dk_96 (dk_at dksX0_year_4 21 rfl rfl)
theorem dX0_year_114 : decode cX0_year 114 = .ok (.istore 5, 2) := dk_54 5 (dk_at dksX0_year_4 22 rfl rfl)
theorem dX0_year_116 : decode cX0_year 116 = .ok (.iinc 6 1, 3) := dk_132 6 1 (dk_at dksX0_year_5 0 rfl rfl)
theorem dX0_year_119 : decode cX0_year 119 = .ok (.goto (-77), 3) := dk_167 255 179 (dk_at dksX0_year_5 3 rfl rfl)
theorem dX0_year_122 : decode cX0_year 122 = .ok (.iload 5, 2) := dk_21 5 (dk_at dksX0_year_5 6 rfl rfl)
theorem dX0_year_124 : decode cX0_year 124 = .ok (.ireturn, 1) := dk_172 (dk_at dksX0_year_5 8 rfl rfl)
abbrev cX0_tell : ByteArray := prog_1_method_56_code
def yX0_tell : MethodName := ⟨RX0, "tell", "(III)I"⟩
def dkwX0_tell_3 : List UInt8 := [4, 96, 181, 0, 139, 42, 180, 0, 139, 4, 100, 172]
abbrev dktX0_tell_3 : List UInt8 := dkwX0_tell_3 ++ []
def dkwX0_tell_2 : List UInt8 := [180, 0, 108, 42, 180, 0, 139, 28, 79, 42, 180, 0, 111, 42, 180, 0, 139, 29, 79, 42, 89, 180, 0, 139]
abbrev dktX0_tell_2 : List UInt8 := dkwX0_tell_2 ++ dktX0_tell_3
def dkwX0_tell_1 : List UInt8 := [42, 180, 0, 139, 16, 20, 160, 0, 5, 2, 172, 42, 180, 0, 105, 42, 180, 0, 139, 27, 79, 42]
abbrev dktX0_tell_1 : List UInt8 := dkwX0_tell_1 ++ dktX0_tell_2
def dkwX0_tell_0 : List UInt8 := [42, 27, 182, 0, 185, 153, 0, 28, 28, 184, 0, 189, 153, 0, 21, 29, 2, 4, 184, 0, 161, 153, 0, 12]
abbrev dktX0_tell_0 : List UInt8 := dkwX0_tell_0 ++ dktX0_tell_1
theorem dksX0_tell_0 : cX0_tell.data.toList.drop 0 = dktX0_tell_0 := by decide +kernel
theorem dksX0_tell_1 : cX0_tell.data.toList.drop 24 = dktX0_tell_1 := dk_seg dksX0_tell_0 24 rfl rfl
theorem dksX0_tell_2 : cX0_tell.data.toList.drop 46 = dktX0_tell_2 := dk_seg dksX0_tell_1 22 rfl rfl
theorem dksX0_tell_3 : cX0_tell.data.toList.drop 70 = dktX0_tell_3 := dk_seg dksX0_tell_2 24 rfl rfl
theorem dX0_tell_0 : decode cX0_tell 0 = .ok (.aload_n 0, 1) := dk_42 (dk_at dksX0_tell_0 0 rfl rfl)
theorem dX0_tell_1 : decode cX0_tell 1 = .ok (.iload_n 1, 1) := dk_27 (dk_at dksX0_tell_0 1 rfl rfl)
theorem dX0_tell_2 : decode cX0_tell 2 = .ok (.invokevirtual 185, 3) := dk_182 0 185 (dk_at dksX0_tell_0 2 rfl rfl)
theorem dX0_tell_5 : decode cX0_tell 5 = .ok (.ifCond .eq 28, 3) := dk_153 0 28 (dk_at dksX0_tell_0 5 rfl rfl)
theorem dX0_tell_8 : decode cX0_tell 8 = .ok (.iload_n 2, 1) := dk_28 (dk_at dksX0_tell_0 8 rfl rfl)
theorem dX0_tell_9 : decode cX0_tell 9 = .ok (.invokestatic 189, 3) := dk_184 0 189 (dk_at dksX0_tell_0 9 rfl rfl)
theorem dX0_tell_12 : decode cX0_tell 12 = .ok (.ifCond .eq 21, 3) := dk_153 0 21 (dk_at dksX0_tell_0 12 rfl rfl)
theorem dX0_tell_15 : decode cX0_tell 15 = .ok (.iload_n 3, 1) := dk_29 (dk_at dksX0_tell_0 15 rfl rfl)
theorem dX0_tell_16 : decode cX0_tell 16 = .ok (.iconst (-1), 1) := dk_2 (dk_at dksX0_tell_0 16 rfl rfl)
theorem dX0_tell_17 : decode cX0_tell 17 = .ok (.iconst 1, 1) := dk_4 (dk_at dksX0_tell_0 17 rfl rfl)
theorem dX0_tell_18 : decode cX0_tell 18 = .ok (.invokestatic 161, 3) := dk_184 0 161 (dk_at dksX0_tell_0 18 rfl rfl)
theorem dX0_tell_21 : decode cX0_tell 21 = .ok (.ifCond .eq 12, 3) := dk_153 0 12 (dk_at dksX0_tell_0 21 rfl rfl)
theorem dX0_tell_24 : decode cX0_tell 24 = .ok (.aload_n 0, 1) := dk_42 (dk_at dksX0_tell_1 0 rfl rfl)
theorem dX0_tell_25 : decode cX0_tell 25 = .ok (.getfield 139, 3) := dk_180 0 139 (dk_at dksX0_tell_1 1 rfl rfl)
theorem dX0_tell_28 : decode cX0_tell 28 = .ok (.bipush 20, 2) := dk_16 20 (dk_at dksX0_tell_1 4 rfl rfl)
theorem dX0_tell_30 : decode cX0_tell 30 = .ok (.if_icmp .ne 5, 3) := dk_160 0 5 (dk_at dksX0_tell_1 6 rfl rfl)
theorem dX0_tell_33 : decode cX0_tell 33 = .ok (.iconst (-1), 1) := dk_2 (dk_at dksX0_tell_1 9 rfl rfl)
theorem dX0_tell_34 : decode cX0_tell 34 = .ok (.ireturn, 1) := dk_172 (dk_at dksX0_tell_1 10 rfl rfl)
theorem dX0_tell_35 : decode cX0_tell 35 = .ok (.aload_n 0, 1) := dk_42 (dk_at dksX0_tell_1 11 rfl rfl)
theorem dX0_tell_36 : decode cX0_tell 36 = .ok (.getfield 105, 3) := dk_180 0 105 (dk_at dksX0_tell_1 12 rfl rfl)
theorem dX0_tell_39 : decode cX0_tell 39 = .ok (.aload_n 0, 1) := dk_42 (dk_at dksX0_tell_1 15 rfl rfl)
theorem dX0_tell_40 : decode cX0_tell 40 = .ok (.getfield 139, 3) := dk_180 0 139 (dk_at dksX0_tell_1 16 rfl rfl)
theorem dX0_tell_43 : decode cX0_tell 43 = .ok (.iload_n 1, 1) := dk_27 (dk_at dksX0_tell_1 19 rfl rfl)
theorem dX0_tell_44 : decode cX0_tell 44 = .ok (.iastore, 1) := dk_79 (dk_at dksX0_tell_1 20 rfl rfl)
theorem dX0_tell_45 : decode cX0_tell 45 = .ok (.aload_n 0, 1) := dk_42 (dk_at dksX0_tell_1 21 rfl rfl)
theorem dX0_tell_46 : decode cX0_tell 46 = .ok (.getfield 108, 3) := dk_180 0 108 (dk_at dksX0_tell_2 0 rfl rfl)
theorem dX0_tell_49 : decode cX0_tell 49 = .ok (.aload_n 0, 1) := dk_42 (dk_at dksX0_tell_2 3 rfl rfl)
theorem dX0_tell_50 : decode cX0_tell 50 = .ok (.getfield 139, 3) := dk_180 0 139 (dk_at dksX0_tell_2 4 rfl rfl)
theorem dX0_tell_53 : decode cX0_tell 53 = .ok (.iload_n 2, 1) := dk_28 (dk_at dksX0_tell_2 7 rfl rfl)
theorem dX0_tell_54 : decode cX0_tell 54 = .ok (.iastore, 1) := dk_79 (dk_at dksX0_tell_2 8 rfl rfl)
theorem dX0_tell_55 : decode cX0_tell 55 = .ok (.aload_n 0, 1) := dk_42 (dk_at dksX0_tell_2 9 rfl rfl)
theorem dX0_tell_56 : decode cX0_tell 56 = .ok (.getfield 111, 3) := dk_180 0 111 (dk_at dksX0_tell_2 10 rfl rfl)
theorem dX0_tell_59 : decode cX0_tell 59 = .ok (.aload_n 0, 1) := dk_42 (dk_at dksX0_tell_2 13 rfl rfl)
theorem dX0_tell_60 : decode cX0_tell 60 = .ok (.getfield 139, 3) := dk_180 0 139 (dk_at dksX0_tell_2 14 rfl rfl)
theorem dX0_tell_63 : decode cX0_tell 63 = .ok (.iload_n 3, 1) := dk_29 (dk_at dksX0_tell_2 17 rfl rfl)
theorem dX0_tell_64 : decode cX0_tell 64 = .ok (.iastore, 1) := dk_79 (dk_at dksX0_tell_2 18 rfl rfl)
theorem dX0_tell_65 : decode cX0_tell 65 = .ok (.aload_n 0, 1) := dk_42 (dk_at dksX0_tell_2 19 rfl rfl)
theorem dX0_tell_66 : decode cX0_tell 66 = .ok (.dup, 1) := dk_89 (dk_at dksX0_tell_2 20 rfl rfl)
theorem dX0_tell_67 : decode cX0_tell 67 = .ok (.getfield 139, 3) := dk_180 0 139 (dk_at dksX0_tell_2 21 rfl rfl)
theorem dX0_tell_70 : decode cX0_tell 70 = .ok (.iconst 1, 1) := dk_4 (dk_at dksX0_tell_3 0 rfl rfl)
theorem dX0_tell_71 : decode cX0_tell 71 = .ok (.iadd, 1) := dk_96 (dk_at dksX0_tell_3 1 rfl rfl)
theorem dX0_tell_72 : decode cX0_tell 72 = .ok (.putfield 139, 3) := dk_181 0 139 (dk_at dksX0_tell_3 2 rfl rfl)
theorem dX0_tell_75 : decode cX0_tell 75 = .ok (.aload_n 0, 1) := dk_42 (dk_at dksX0_tell_3 5 rfl rfl)
theorem dX0_tell_76 : decode cX0_tell 76 = .ok (.getfield 139, 3) := dk_180 0 139 (dk_at dksX0_tell_3 6 rfl rfl)
theorem dX0_tell_79 : decode cX0_tell 79 = .ok (.iconst 1, 1) := dk_4 (dk_at dksX0_tell_3 9 rfl rfl)
theorem dX0_tell_80 : decode cX0_tell 80 = .ok (.isub, 1) := dk_100 (dk_at dksX0_tell_3 10 rfl rfl)
theorem dX0_tell_81 : decode cX0_tell 81 = .ok (.ireturn, 1) := dk_172 (dk_at dksX0_tell_3 11 rfl rfl)
abbrev cX0_forget : ByteArray := prog_1_method_57_code
def yX0_forget : MethodName := ⟨RX0, "forget", "()I"⟩
def dkwX0_forget_0 : List UInt8 := [42, 180, 0, 139, 60, 42, 3, 181, 0, 139, 27, 172]
abbrev dktX0_forget_0 : List UInt8 := dkwX0_forget_0 ++ []
theorem dksX0_forget_0 : cX0_forget.data.toList.drop 0 = dktX0_forget_0 := by decide +kernel
theorem dX0_forget_0 : decode cX0_forget 0 = .ok (.aload_n 0, 1) := dk_42 (dk_at dksX0_forget_0 0 rfl rfl)
theorem dX0_forget_1 : decode cX0_forget 1 = .ok (.getfield 139, 3) := dk_180 0 139 (dk_at dksX0_forget_0 1 rfl rfl)
theorem dX0_forget_4 : decode cX0_forget 4 = .ok (.istore_n 1, 1) := dk_60 (dk_at dksX0_forget_0 4 rfl rfl)
theorem dX0_forget_5 : decode cX0_forget 5 = .ok (.aload_n 0, 1) := dk_42 (dk_at dksX0_forget_0 5 rfl rfl)
theorem dX0_forget_6 : decode cX0_forget 6 = .ok (.iconst 0, 1) := dk_3 (dk_at dksX0_forget_0 6 rfl rfl)
theorem dX0_forget_7 : decode cX0_forget 7 = .ok (.putfield 139, 3) := dk_181 0 139 (dk_at dksX0_forget_0 7 rfl rfl)
theorem dX0_forget_10 : decode cX0_forget 10 = .ok (.iload_n 1, 1) := dk_27 (dk_at dksX0_forget_0 10 rfl rfl)
theorem dX0_forget_11 : decode cX0_forget 11 = .ok (.ireturn, 1) := dk_172 (dk_at dksX0_forget_0 11 rfl rfl)
abbrev cX0_who : ByteArray := prog_1_method_60_code
def yX0_who : MethodName := ⟨RX0, "who", "(II)I"⟩
def dkwX0_who_1 : List UInt8 := [27, 182, 1, 59, 62, 28, 154, 0, 10, 29, 184, 1, 62, 167, 0, 4, 29, 172]
abbrev dktX0_who_1 : List UInt8 := dkwX0_who_1 ++ []
def dkwX0_who_0 : List UInt8 := [27, 3, 42, 180, 0, 139, 184, 0, 161, 153, 0, 12, 28, 3, 4, 184, 0, 161, 154, 0, 5, 2, 172, 42]
abbrev dktX0_who_0 : List UInt8 := dkwX0_who_0 ++ dktX0_who_1
theorem dksX0_who_0 : cX0_who.data.toList.drop 0 = dktX0_who_0 := by decide +kernel
theorem dksX0_who_1 : cX0_who.data.toList.drop 24 = dktX0_who_1 := dk_seg dksX0_who_0 24 rfl rfl
theorem dX0_who_0 : decode cX0_who 0 = .ok (.iload_n 1, 1) := dk_27 (dk_at dksX0_who_0 0 rfl rfl)
theorem dX0_who_1 : decode cX0_who 1 = .ok (.iconst 0, 1) := dk_3 (dk_at dksX0_who_0 1 rfl rfl)
theorem dX0_who_2 : decode cX0_who 2 = .ok (.aload_n 0, 1) := dk_42 (dk_at dksX0_who_0 2 rfl rfl)
theorem dX0_who_3 : decode cX0_who 3 = .ok (.getfield 139, 3) := dk_180 0 139 (dk_at dksX0_who_0 3 rfl rfl)
theorem dX0_who_6 : decode cX0_who 6 = .ok (.invokestatic 161, 3) := dk_184 0 161 (dk_at dksX0_who_0 6 rfl rfl)
theorem dX0_who_9 : decode cX0_who 9 = .ok (.ifCond .eq 12, 3) := dk_153 0 12 (dk_at dksX0_who_0 9 rfl rfl)
theorem dX0_who_12 : decode cX0_who 12 = .ok (.iload_n 2, 1) := dk_28 (dk_at dksX0_who_0 12 rfl rfl)
theorem dX0_who_13 : decode cX0_who 13 = .ok (.iconst 0, 1) := dk_3 (dk_at dksX0_who_0 13 rfl rfl)
theorem dX0_who_14 : decode cX0_who 14 = .ok (.iconst 1, 1) := dk_4 (dk_at dksX0_who_0 14 rfl rfl)
theorem dX0_who_15 : decode cX0_who 15 = .ok (.invokestatic 161, 3) := dk_184 0 161 (dk_at dksX0_who_0 15 rfl rfl)
theorem dX0_who_18 : decode cX0_who 18 = .ok (.ifCond .ne 5, 3) := dk_154 0 5 (dk_at dksX0_who_0 18 rfl rfl)
theorem dX0_who_21 : decode cX0_who 21 = .ok (.iconst (-1), 1) := dk_2 (dk_at dksX0_who_0 21 rfl rfl)
theorem dX0_who_22 : decode cX0_who 22 = .ok (.ireturn, 1) := dk_172 (dk_at dksX0_who_0 22 rfl rfl)
theorem dX0_who_23 : decode cX0_who 23 = .ok (.aload_n 0, 1) := dk_42 (dk_at dksX0_who_0 23 rfl rfl)
theorem dX0_who_24 : decode cX0_who 24 = .ok (.iload_n 1, 1) := dk_27 (dk_at dksX0_who_1 0 rfl rfl)
theorem dX0_who_25 : decode cX0_who 25 = .ok (.invokevirtual 315, 3) := dk_182 1 59 (dk_at dksX0_who_1 1 rfl rfl)
theorem dX0_who_28 : decode cX0_who 28 = .ok (.istore_n 3, 1) := dk_62 (dk_at dksX0_who_1 4 rfl rfl)
theorem dX0_who_29 : decode cX0_who 29 = .ok (.iload_n 2, 1) := dk_28 (dk_at dksX0_who_1 5 rfl rfl)
theorem dX0_who_30 : decode cX0_who 30 = .ok (.ifCond .ne 10, 3) := dk_154 0 10 (dk_at dksX0_who_1 6 rfl rfl)
theorem dX0_who_33 : decode cX0_who 33 = .ok (.iload_n 3, 1) := dk_29 (dk_at dksX0_who_1 9 rfl rfl)
theorem dX0_who_34 : decode cX0_who 34 = .ok (.invokestatic 318, 3) := dk_184 1 62 (dk_at dksX0_who_1 10 rfl rfl)
theorem dX0_who_37 : decode cX0_who 37 = .ok (.goto 4, 3) := dk_167 0 4 (dk_at dksX0_who_1 13 rfl rfl)
theorem dX0_who_40 : decode cX0_who 40 = .ok (.iload_n 3, 1) := dk_29 (dk_at dksX0_who_1 16 rfl rfl)
theorem dX0_who_41 : decode cX0_who 41 = .ok (.ireturn, 1) := dk_172 (dk_at dksX0_who_1 17 rfl rfl)
abbrev cX0_whoBy : ByteArray := prog_1_method_59_code
def yX0_whoBy : MethodName := ⟨RX0, "whoBy", "(I)I"⟩
def dkwX0_whoBy_3 : List UInt8 := [21, 4, 153, 0, 9, 4, 29, 120, 167, 0, 4, 3, 128, 61, 132, 3, 1, 167, 255, 171, 28, 172]
abbrev dktX0_whoBy_3 : List UInt8 := dkwX0_whoBy_3 ++ []
def dkwX0_whoBy_2 : List UInt8 := [42, 180, 0, 111, 21, 5, 46, 160, 0, 7, 4, 167, 0, 4, 3, 54, 4, 132, 5, 1, 167, 255, 206, 28]
abbrev dktX0_whoBy_2 : List UInt8 := dkwX0_whoBy_2 ++ dktX0_whoBy_3
def dkwX0_whoBy_1 : List UInt8 := [21, 4, 153, 0, 36, 42, 42, 180, 0, 105, 21, 5, 46, 29, 42, 180, 0, 108, 21, 5, 46, 182, 1, 56]
abbrev dktX0_whoBy_1 : List UInt8 := dkwX0_whoBy_1 ++ dktX0_whoBy_2
def dkwX0_whoBy_0 : List UInt8 := [3, 61, 3, 62, 29, 42, 182, 0, 165, 162, 0, 83, 4, 54, 4, 3, 54, 5, 21, 5, 27, 162, 0, 50]
abbrev dktX0_whoBy_0 : List UInt8 := dkwX0_whoBy_0 ++ dktX0_whoBy_1
theorem dksX0_whoBy_0 : cX0_whoBy.data.toList.drop 0 = dktX0_whoBy_0 := by decide +kernel
theorem dksX0_whoBy_1 : cX0_whoBy.data.toList.drop 24 = dktX0_whoBy_1 := dk_seg dksX0_whoBy_0 24 rfl rfl
theorem dksX0_whoBy_2 : cX0_whoBy.data.toList.drop 48 = dktX0_whoBy_2 := dk_seg dksX0_whoBy_1 24 rfl rfl
theorem dksX0_whoBy_3 : cX0_whoBy.data.toList.drop 72 = dktX0_whoBy_3 := dk_seg dksX0_whoBy_2 24 rfl rfl
theorem dX0_whoBy_0 : decode cX0_whoBy 0 = .ok (.iconst 0, 1) := dk_3 (dk_at dksX0_whoBy_0 0 rfl rfl)
theorem dX0_whoBy_1 : decode cX0_whoBy 1 = .ok (.istore_n 2, 1) := dk_61 (dk_at dksX0_whoBy_0 1 rfl rfl)
theorem dX0_whoBy_2 : decode cX0_whoBy 2 = .ok (.iconst 0, 1) := dk_3 (dk_at dksX0_whoBy_0 2 rfl rfl)
theorem dX0_whoBy_3 : decode cX0_whoBy 3 = .ok (.istore_n 3, 1) := dk_62 (dk_at dksX0_whoBy_0 3 rfl rfl)
theorem dX0_whoBy_4 : decode cX0_whoBy 4 = .ok (.iload_n 3, 1) := dk_29 (dk_at dksX0_whoBy_0 4 rfl rfl)
theorem dX0_whoBy_5 : decode cX0_whoBy 5 = .ok (.aload_n 0, 1) := dk_42 (dk_at dksX0_whoBy_0 5 rfl rfl)
theorem dX0_whoBy_6 : decode cX0_whoBy 6 = .ok (.invokevirtual 165, 3) := dk_182 0 165 (dk_at dksX0_whoBy_0 6 rfl rfl)
theorem dX0_whoBy_9 : decode cX0_whoBy 9 = .ok (.if_icmp .ge 83, 3) := dk_162 0 83 (dk_at dksX0_whoBy_0 9 rfl rfl)
theorem dX0_whoBy_12 : decode cX0_whoBy 12 = .ok (.iconst 1, 1) := dk_4 (dk_at dksX0_whoBy_0 12 rfl rfl)
theorem dX0_whoBy_13 : decode cX0_whoBy 13 = .ok (.istore 4, 2) := dk_54 4 (dk_at dksX0_whoBy_0 13 rfl rfl)
theorem dX0_whoBy_15 : decode cX0_whoBy 15 = .ok (.iconst 0, 1) := dk_3 (dk_at dksX0_whoBy_0 15 rfl rfl)
theorem dX0_whoBy_16 : decode cX0_whoBy 16 = .ok (.istore 5, 2) := dk_54 5 (dk_at dksX0_whoBy_0 16 rfl rfl)
theorem dX0_whoBy_18 : decode cX0_whoBy 18 = .ok (.iload 5, 2) := dk_21 5 (dk_at dksX0_whoBy_0 18 rfl rfl)
theorem dX0_whoBy_20 : decode cX0_whoBy 20 = .ok (.iload_n 1, 1) := dk_27 (dk_at dksX0_whoBy_0 20 rfl rfl)
theorem dX0_whoBy_21 : decode cX0_whoBy 21 = .ok (.if_icmp .ge 50, 3) := dk_162 0 50 (dk_at dksX0_whoBy_0 21 rfl rfl)
theorem dX0_whoBy_24 : decode cX0_whoBy 24 = .ok (.iload 4, 2) := dk_21 4 (dk_at dksX0_whoBy_1 0 rfl rfl)
theorem dX0_whoBy_26 : decode cX0_whoBy 26 = .ok (.ifCond .eq 36, 3) := dk_153 0 36 (dk_at dksX0_whoBy_1 2 rfl rfl)
theorem dX0_whoBy_29 : decode cX0_whoBy 29 = .ok (.aload_n 0, 1) := dk_42 (dk_at dksX0_whoBy_1 5 rfl rfl)
theorem dX0_whoBy_30 : decode cX0_whoBy 30 = .ok (.aload_n 0, 1) := dk_42 (dk_at dksX0_whoBy_1 6 rfl rfl)
theorem dX0_whoBy_31 : decode cX0_whoBy 31 = .ok (.getfield 105, 3) := dk_180 0 105 (dk_at dksX0_whoBy_1 7 rfl rfl)
theorem dX0_whoBy_34 : decode cX0_whoBy 34 = .ok (.iload 5, 2) := dk_21 5 (dk_at dksX0_whoBy_1 10 rfl rfl)
theorem dX0_whoBy_36 : decode cX0_whoBy 36 = .ok (.iaload, 1) := dk_46 (dk_at dksX0_whoBy_1 12 rfl rfl)
theorem dX0_whoBy_37 : decode cX0_whoBy 37 = .ok (.iload_n 3, 1) := dk_29 (dk_at dksX0_whoBy_1 13 rfl rfl)
theorem dX0_whoBy_38 : decode cX0_whoBy 38 = .ok (.aload_n 0, 1) := dk_42 (dk_at dksX0_whoBy_1 14 rfl rfl)
theorem dX0_whoBy_39 : decode cX0_whoBy 39 = .ok (.getfield 108, 3) := dk_180 0 108 (dk_at dksX0_whoBy_1 15 rfl rfl)
theorem dX0_whoBy_42 : decode cX0_whoBy 42 = .ok (.iload 5, 2) := dk_21 5 (dk_at dksX0_whoBy_1 18 rfl rfl)
theorem dX0_whoBy_44 : decode cX0_whoBy 44 = .ok (.iaload, 1) := dk_46 (dk_at dksX0_whoBy_1 20 rfl rfl)
theorem dX0_whoBy_45 : decode cX0_whoBy 45 = .ok (.invokevirtual 312, 3) := dk_182 1 56 (dk_at dksX0_whoBy_1 21 rfl rfl)
theorem dX0_whoBy_48 : decode cX0_whoBy 48 = .ok (.aload_n 0, 1) := dk_42 (dk_at dksX0_whoBy_2 0 rfl rfl)
theorem dX0_whoBy_49 : decode cX0_whoBy 49 = .ok (.getfield 111, 3) := dk_180 0 111 (dk_at dksX0_whoBy_2 1 rfl rfl)
theorem dX0_whoBy_52 : decode cX0_whoBy 52 = .ok (.iload 5, 2) := dk_21 5 (dk_at dksX0_whoBy_2 4 rfl rfl)
theorem dX0_whoBy_54 : decode cX0_whoBy 54 = .ok (.iaload, 1) := dk_46 (dk_at dksX0_whoBy_2 6 rfl rfl)
theorem dX0_whoBy_55 : decode cX0_whoBy 55 = .ok (.if_icmp .ne 7, 3) := dk_160 0 7 (dk_at dksX0_whoBy_2 7 rfl rfl)
theorem dX0_whoBy_58 : decode cX0_whoBy 58 = .ok (.iconst 1, 1) := dk_4 (dk_at dksX0_whoBy_2 10 rfl rfl)
theorem dX0_whoBy_59 : decode cX0_whoBy 59 = .ok (.goto 4, 3) := dk_167 0 4 (dk_at dksX0_whoBy_2 11 rfl rfl)
theorem dX0_whoBy_62 : decode cX0_whoBy 62 = .ok (.iconst 0, 1) := dk_3 (dk_at dksX0_whoBy_2 14 rfl rfl)
theorem dX0_whoBy_63 : decode cX0_whoBy 63 = .ok (.istore 4, 2) := dk_54 4 (dk_at dksX0_whoBy_2 15 rfl rfl)
theorem dX0_whoBy_65 : decode cX0_whoBy 65 = .ok (.iinc 5 1, 3) := dk_132 5 1 (dk_at dksX0_whoBy_2 17 rfl rfl)
theorem dX0_whoBy_68 : decode cX0_whoBy 68 = .ok (.goto (-50), 3) := dk_167 255 206 (dk_at dksX0_whoBy_2 20 rfl rfl)
theorem dX0_whoBy_71 : decode cX0_whoBy 71 = .ok (.iload_n 2, 1) := dk_28 (dk_at dksX0_whoBy_2 23 rfl rfl)
theorem dX0_whoBy_72 : decode cX0_whoBy 72 = .ok (.iload 4, 2) := dk_21 4 (dk_at dksX0_whoBy_3 0 rfl rfl)
theorem dX0_whoBy_74 : decode cX0_whoBy 74 = .ok (.ifCond .eq 9, 3) := dk_153 0 9 (dk_at dksX0_whoBy_3 2 rfl rfl)
theorem dX0_whoBy_77 : decode cX0_whoBy 77 = .ok (.iconst 1, 1) := dk_4 (dk_at dksX0_whoBy_3 5 rfl rfl)
theorem dX0_whoBy_78 : decode cX0_whoBy 78 = .ok (.iload_n 3, 1) := dk_29 (dk_at dksX0_whoBy_3 6 rfl rfl)
theorem dX0_whoBy_79 : decode cX0_whoBy 79 = .ok (.ishl, 1) := dk_120 (dk_at dksX0_whoBy_3 7 rfl rfl)
theorem dX0_whoBy_80 : decode cX0_whoBy 80 = .ok (.goto 4, 3) := dk_167 0 4 (dk_at dksX0_whoBy_3 8 rfl rfl)
theorem dX0_whoBy_83 : decode cX0_whoBy 83 = .ok (.iconst 0, 1) := dk_3 (dk_at dksX0_whoBy_3 11 rfl rfl)
theorem dX0_whoBy_84 : decode cX0_whoBy 84 = .ok (.ior, 1) := dk_128 (dk_at dksX0_whoBy_3 12 rfl rfl)
theorem dX0_whoBy_85 : decode cX0_whoBy 85 = .ok (.istore_n 2, 1) := dk_61 (dk_at dksX0_whoBy_3 13 rfl rfl)
theorem dX0_whoBy_86 : decode cX0_whoBy 86 = .ok (.iinc 3 1, 3) := dk_132 3 1 (dk_at dksX0_whoBy_3 14 rfl rfl)
theorem dX0_whoBy_89 : decode cX0_whoBy 89 = .ok (.goto (-85), 3) := dk_167 255 171 (dk_at dksX0_whoBy_3 17 rfl rfl)
theorem dX0_whoBy_92 : decode cX0_whoBy 92 = .ok (.iload_n 2, 1) := dk_28 (dk_at dksX0_whoBy_3 20 rfl rfl)
theorem dX0_whoBy_93 : decode cX0_whoBy 93 = .ok (.ireturn, 1) := dk_172 (dk_at dksX0_whoBy_3 21 rfl rfl)
abbrev cX0_wayOf : ByteArray := prog_1_method_58_code
def yX0_wayOf : MethodName := ⟨RX0, "wayOf", "(III)I"⟩
def dkwX0_wayOf_2 : List UInt8 := [180, 0, 170, 27, 50, 29, 46, 100, 184, 0, 14, 172]
abbrev dktX0_wayOf_2 : List UInt8 := dkwX0_wayOf_2 ++ []
def dkwX0_wayOf_1 : List UInt8 := [180, 0, 51, 180, 0, 156, 28, 182, 0, 173, 192, 0, 215, 180, 0, 217, 29, 46, 42, 180, 0, 62]
abbrev dktX0_wayOf_1 : List UInt8 := dkwX0_wayOf_1 ++ dktX0_wayOf_2
def dkwX0_wayOf_0 : List UInt8 := [42, 180, 0, 62, 42, 180, 0, 51, 27, 28, 29, 182, 0, 254, 154, 0, 7, 3, 167, 0, 37, 42]
abbrev dktX0_wayOf_0 : List UInt8 := dkwX0_wayOf_0 ++ dktX0_wayOf_1
theorem dksX0_wayOf_0 : cX0_wayOf.data.toList.drop 0 = dktX0_wayOf_0 := by decide +kernel
theorem dksX0_wayOf_1 : cX0_wayOf.data.toList.drop 22 = dktX0_wayOf_1 := dk_seg dksX0_wayOf_0 22 rfl rfl
theorem dksX0_wayOf_2 : cX0_wayOf.data.toList.drop 44 = dktX0_wayOf_2 := dk_seg dksX0_wayOf_1 22 rfl rfl
theorem dX0_wayOf_0 : decode cX0_wayOf 0 = .ok (.aload_n 0, 1) := dk_42 (dk_at dksX0_wayOf_0 0 rfl rfl)
theorem dX0_wayOf_1 : decode cX0_wayOf 1 = .ok (.getfield 62, 3) := dk_180 0 62 (dk_at dksX0_wayOf_0 1 rfl rfl)
theorem dX0_wayOf_4 : decode cX0_wayOf 4 = .ok (.aload_n 0, 1) := dk_42 (dk_at dksX0_wayOf_0 4 rfl rfl)
theorem dX0_wayOf_5 : decode cX0_wayOf 5 = .ok (.getfield 51, 3) := dk_180 0 51 (dk_at dksX0_wayOf_0 5 rfl rfl)
theorem dX0_wayOf_8 : decode cX0_wayOf 8 = .ok (.iload_n 1, 1) := dk_27 (dk_at dksX0_wayOf_0 8 rfl rfl)
theorem dX0_wayOf_9 : decode cX0_wayOf 9 = .ok (.iload_n 2, 1) := dk_28 (dk_at dksX0_wayOf_0 9 rfl rfl)
theorem dX0_wayOf_10 : decode cX0_wayOf 10 = .ok (.iload_n 3, 1) := dk_29 (dk_at dksX0_wayOf_0 10 rfl rfl)
theorem dX0_wayOf_11 : decode cX0_wayOf 11 = .ok (.invokevirtual 254, 3) := dk_182 0 254 (dk_at dksX0_wayOf_0 11 rfl rfl)
theorem dX0_wayOf_14 : decode cX0_wayOf 14 = .ok (.ifCond .ne 7, 3) := dk_154 0 7 (dk_at dksX0_wayOf_0 14 rfl rfl)
theorem dX0_wayOf_17 : decode cX0_wayOf 17 = .ok (.iconst 0, 1) := dk_3 (dk_at dksX0_wayOf_0 17 rfl rfl)
theorem dX0_wayOf_18 : decode cX0_wayOf 18 = .ok (.goto 37, 3) := dk_167 0 37 (dk_at dksX0_wayOf_0 18 rfl rfl)
theorem dX0_wayOf_21 : decode cX0_wayOf 21 = .ok (.aload_n 0, 1) := dk_42 (dk_at dksX0_wayOf_0 21 rfl rfl)
theorem dX0_wayOf_22 : decode cX0_wayOf 22 = .ok (.getfield 51, 3) := dk_180 0 51 (dk_at dksX0_wayOf_1 0 rfl rfl)
theorem dX0_wayOf_25 : decode cX0_wayOf 25 = .ok (.getfield 156, 3) := dk_180 0 156 (dk_at dksX0_wayOf_1 3 rfl rfl)
theorem dX0_wayOf_28 : decode cX0_wayOf 28 = .ok (.iload_n 2, 1) := dk_28 (dk_at dksX0_wayOf_1 6 rfl rfl)
theorem dX0_wayOf_29 : decode cX0_wayOf 29 = .ok (.invokevirtual 173, 3) := dk_182 0 173 (dk_at dksX0_wayOf_1 7 rfl rfl)
theorem dX0_wayOf_32 : decode cX0_wayOf 32 = .ok (.checkcast 215, 3) := dk_192 0 215 (dk_at dksX0_wayOf_1 10 rfl rfl)
theorem dX0_wayOf_35 : decode cX0_wayOf 35 = .ok (.getfield 217, 3) := dk_180 0 217 (dk_at dksX0_wayOf_1 13 rfl rfl)
theorem dX0_wayOf_38 : decode cX0_wayOf 38 = .ok (.iload_n 3, 1) := dk_29 (dk_at dksX0_wayOf_1 16 rfl rfl)
theorem dX0_wayOf_39 : decode cX0_wayOf 39 = .ok (.iaload, 1) := dk_46 (dk_at dksX0_wayOf_1 17 rfl rfl)
theorem dX0_wayOf_40 : decode cX0_wayOf 40 = .ok (.aload_n 0, 1) := dk_42 (dk_at dksX0_wayOf_1 18 rfl rfl)
theorem dX0_wayOf_41 : decode cX0_wayOf 41 = .ok (.getfield 62, 3) := dk_180 0 62 (dk_at dksX0_wayOf_1 19 rfl rfl)
theorem dX0_wayOf_44 : decode cX0_wayOf 44 = .ok (.getfield 170, 3) := dk_180 0 170 (dk_at dksX0_wayOf_2 0 rfl rfl)
theorem dX0_wayOf_47 : decode cX0_wayOf 47 = .ok (.iload_n 1, 1) := dk_27 (dk_at dksX0_wayOf_2 3 rfl rfl)
theorem dX0_wayOf_48 : decode cX0_wayOf 48 = .ok (.aaload, 1) := dk_50 (dk_at dksX0_wayOf_2 4 rfl rfl)
theorem dX0_wayOf_49 : decode cX0_wayOf 49 = .ok (.iload_n 3, 1) := dk_29 (dk_at dksX0_wayOf_2 5 rfl rfl)
theorem dX0_wayOf_50 : decode cX0_wayOf 50 = .ok (.iaload, 1) := dk_46 (dk_at dksX0_wayOf_2 6 rfl rfl)
theorem dX0_wayOf_51 : decode cX0_wayOf 51 = .ok (.isub, 1) := dk_100 (dk_at dksX0_wayOf_2 7 rfl rfl)
theorem dX0_wayOf_52 : decode cX0_wayOf 52 = .ok (.invokestatic 14, 3) := dk_184 0 14 (dk_at dksX0_wayOf_2 8 rfl rfl)
theorem dX0_wayOf_55 : decode cX0_wayOf 55 = .ok (.ireturn, 1) := dk_172 (dk_at dksX0_wayOf_2 11 rfl rfl)
abbrev cX0_ask : ByteArray := prog_1_method_62_code
def yX0_ask : MethodName := ⟨RX0, "ask", "(I)I"⟩
def dkwX0_ask_4 : List UInt8 := [132, 5, 1, 167, 255, 191, 29, 172]
abbrev dktX0_ask_4 : List UInt8 := dkwX0_ask_4 ++ []
def dkwX0_ask_3 : List UInt8 := [167, 0, 16, 16, 10, 21, 5, 104, 21, 6, 96, 62, 21, 7, 54, 4, 132, 6, 1, 167, 255, 213]
abbrev dktX0_ask_3 : List UInt8 := dkwX0_ask_3 ++ dktX0_ask_4
def dkwX0_ask_2 : List UInt8 := [21, 6, 7, 162, 0, 43, 42, 28, 21, 5, 21, 6, 182, 1, 68, 54, 7, 21, 7, 21, 4, 161, 0, 6]
abbrev dktX0_ask_2 : List UInt8 := dkwX0_ask_2 ++ dktX0_ask_3
def dkwX0_ask_1 : List UInt8 := [19, 1, 41, 54, 4, 3, 54, 5, 21, 5, 42, 182, 0, 159, 162, 0, 62, 28, 153, 0, 58, 3, 54, 6]
abbrev dktX0_ask_1 : List UInt8 := dkwX0_ask_1 ++ dktX0_ask_2
def dkwX0_ask_0 : List UInt8 := [27, 3, 42, 180, 0, 139, 184, 0, 161, 154, 0, 5, 2, 172, 42, 27, 182, 1, 59, 61, 16, 254, 62]
abbrev dktX0_ask_0 : List UInt8 := dkwX0_ask_0 ++ dktX0_ask_1
theorem dksX0_ask_0 : cX0_ask.data.toList.drop 0 = dktX0_ask_0 := by decide +kernel
theorem dksX0_ask_1 : cX0_ask.data.toList.drop 23 = dktX0_ask_1 := dk_seg dksX0_ask_0 23 rfl rfl
theorem dksX0_ask_2 : cX0_ask.data.toList.drop 47 = dktX0_ask_2 := dk_seg dksX0_ask_1 24 rfl rfl
theorem dksX0_ask_3 : cX0_ask.data.toList.drop 71 = dktX0_ask_3 := dk_seg dksX0_ask_2 24 rfl rfl
theorem dksX0_ask_4 : cX0_ask.data.toList.drop 93 = dktX0_ask_4 := dk_seg dksX0_ask_3 22 rfl rfl
theorem dX0_ask_0 : decode cX0_ask 0 = .ok (.iload_n 1, 1) := dk_27 (dk_at dksX0_ask_0 0 rfl rfl)
theorem dX0_ask_1 : decode cX0_ask 1 = .ok (.iconst 0, 1) := dk_3 (dk_at dksX0_ask_0 1 rfl rfl)
theorem dX0_ask_2 : decode cX0_ask 2 = .ok (.aload_n 0, 1) := dk_42 (dk_at dksX0_ask_0 2 rfl rfl)
theorem dX0_ask_3 : decode cX0_ask 3 = .ok (.getfield 139, 3) := dk_180 0 139 (dk_at dksX0_ask_0 3 rfl rfl)
theorem dX0_ask_6 : decode cX0_ask 6 = .ok (.invokestatic 161, 3) := dk_184 0 161 (dk_at dksX0_ask_0 6 rfl rfl)
theorem dX0_ask_9 : decode cX0_ask 9 = .ok (.ifCond .ne 5, 3) := dk_154 0 5 (dk_at dksX0_ask_0 9 rfl rfl)
theorem dX0_ask_12 : decode cX0_ask 12 = .ok (.iconst (-1), 1) := dk_2 (dk_at dksX0_ask_0 12 rfl rfl)
theorem dX0_ask_13 : decode cX0_ask 13 = .ok (.ireturn, 1) := dk_172 (dk_at dksX0_ask_0 13 rfl rfl)
theorem dX0_ask_14 : decode cX0_ask 14 = .ok (.aload_n 0, 1) := dk_42 (dk_at dksX0_ask_0 14 rfl rfl)
theorem dX0_ask_15 : decode cX0_ask 15 = .ok (.iload_n 1, 1) := dk_27 (dk_at dksX0_ask_0 15 rfl rfl)
theorem dX0_ask_16 : decode cX0_ask 16 = .ok (.invokevirtual 315, 3) := dk_182 1 59 (dk_at dksX0_ask_0 16 rfl rfl)
theorem dX0_ask_19 : decode cX0_ask 19 = .ok (.istore_n 2, 1) := dk_61 (dk_at dksX0_ask_0 19 rfl rfl)
theorem dX0_ask_20 : decode cX0_ask 20 = .ok (.bipush (-2), 2) := dk_16 254 (dk_at dksX0_ask_0 20 rfl rfl)
theorem dX0_ask_22 : decode cX0_ask 22 = .ok (.istore_n 3, 1) := dk_62 (dk_at dksX0_ask_0 22 rfl rfl)
theorem dX0_ask_23 : decode cX0_ask 23 = .ok (.ldc_w 297, 3) := dk_19 1 41 (dk_at dksX0_ask_1 0 rfl rfl)
theorem dX0_ask_26 : decode cX0_ask 26 = .ok (.istore 4, 2) := dk_54 4 (dk_at dksX0_ask_1 3 rfl rfl)
theorem dX0_ask_28 : decode cX0_ask 28 = .ok (.iconst 0, 1) := dk_3 (dk_at dksX0_ask_1 5 rfl rfl)
theorem dX0_ask_29 : decode cX0_ask 29 = .ok (.istore 5, 2) := dk_54 5 (dk_at dksX0_ask_1 6 rfl rfl)
theorem dX0_ask_31 : decode cX0_ask 31 = .ok (.iload 5, 2) := dk_21 5 (dk_at dksX0_ask_1 8 rfl rfl)
theorem dX0_ask_33 : decode cX0_ask 33 = .ok (.aload_n 0, 1) := dk_42 (dk_at dksX0_ask_1 10 rfl rfl)
theorem dX0_ask_34 : decode cX0_ask 34 = .ok (.invokevirtual 159, 3) := dk_182 0 159 (dk_at dksX0_ask_1 11 rfl rfl)
theorem dX0_ask_37 : decode cX0_ask 37 = .ok (.if_icmp .ge 62, 3) := dk_162 0 62 (dk_at dksX0_ask_1 14 rfl rfl)
theorem dX0_ask_40 : decode cX0_ask 40 = .ok (.iload_n 2, 1) := dk_28 (dk_at dksX0_ask_1 17 rfl rfl)
theorem dX0_ask_41 : decode cX0_ask 41 = .ok (.ifCond .eq 58, 3) := dk_153 0 58 (dk_at dksX0_ask_1 18 rfl rfl)
theorem dX0_ask_44 : decode cX0_ask 44 = .ok (.iconst 0, 1) := dk_3 (dk_at dksX0_ask_1 21 rfl rfl)
theorem dX0_ask_45 : decode cX0_ask 45 = .ok (.istore 6, 2) := dk_54 6 (dk_at dksX0_ask_1 22 rfl rfl)
theorem dX0_ask_47 : decode cX0_ask 47 = .ok (.iload 6, 2) := dk_21 6 (dk_at dksX0_ask_2 0 rfl rfl)
theorem dX0_ask_49 : decode cX0_ask 49 = .ok (.iconst 4, 1) := dk_7 (dk_at dksX0_ask_2 2 rfl rfl)
theorem dX0_ask_50 : decode cX0_ask 50 = .ok (.if_icmp .ge 43, 3) := dk_162 0 43 (dk_at dksX0_ask_2 3 rfl rfl)
theorem dX0_ask_53 : decode cX0_ask 53 = .ok (.aload_n 0, 1) := dk_42 (dk_at dksX0_ask_2 6 rfl rfl)
theorem dX0_ask_54 : decode cX0_ask 54 = .ok (.iload_n 2, 1) := dk_28 (dk_at dksX0_ask_2 7 rfl rfl)
theorem dX0_ask_55 : decode cX0_ask 55 = .ok (.iload 5, 2) := dk_21 5 (dk_at dksX0_ask_2 8 rfl rfl)
theorem dX0_ask_57 : decode cX0_ask 57 = .ok (.iload 6, 2) := dk_21 6 (dk_at dksX0_ask_2 10 rfl rfl)
theorem dX0_ask_59 : decode cX0_ask 59 = .ok (.invokevirtual 324, 3) := dk_182 1 68 (dk_at dksX0_ask_2 12 rfl rfl)
theorem dX0_ask_62 : decode cX0_ask 62 = .ok (.istore 7, 2) := dk_54 7 (dk_at dksX0_ask_2 15 rfl rfl)
theorem dX0_ask_64 : decode cX0_ask 64 = .ok (.iload 7, 2) := dk_21 7 (dk_at dksX0_ask_2 17 rfl rfl)
theorem dX0_ask_66 : decode cX0_ask 66 = .ok (.iload 4, 2) := dk_21 4 (dk_at dksX0_ask_2 19 rfl rfl)
theorem dX0_ask_68 : decode cX0_ask 68 = .ok (.if_icmp .lt 6, 3) := dk_161 0 6 (dk_at dksX0_ask_2 21 rfl rfl)
theorem dX0_ask_71 : decode cX0_ask 71 = .ok (.goto 16, 3) := dk_167 0 16 (dk_at dksX0_ask_3 0 rfl rfl)
theorem dX0_ask_74 : decode cX0_ask 74 = .ok (.bipush 10, 2) := dk_16 10 (dk_at dksX0_ask_3 3 rfl rfl)
theorem dX0_ask_76 : decode cX0_ask 76 = .ok (.iload 5, 2) := dk_21 5 (dk_at dksX0_ask_3 5 rfl rfl)
theorem dX0_ask_78 : decode cX0_ask 78 = .ok (.imul, 1) := dk_104 (dk_at dksX0_ask_3 7 rfl rfl)
theorem dX0_ask_79 : decode cX0_ask 79 = .ok (.iload 6, 2) := dk_21 6 (dk_at dksX0_ask_3 8 rfl rfl)
theorem dX0_ask_81 : decode cX0_ask 81 = .ok (.iadd, 1) := dk_96 (dk_at dksX0_ask_3 10 rfl rfl)
theorem dX0_ask_82 : decode cX0_ask 82 = .ok (.istore_n 3, 1) := dk_62 (dk_at dksX0_ask_3 11 rfl rfl)
theorem dX0_ask_83 : decode cX0_ask 83 = .ok (.iload 7, 2) := dk_21 7 (dk_at dksX0_ask_3 12 rfl rfl)
theorem dX0_ask_85 : decode cX0_ask 85 = .ok (.istore 4, 2) := dk_54 4 (dk_at dksX0_ask_3 14 rfl rfl)
theorem dX0_ask_87 : decode cX0_ask 87 = .ok (.iinc 6 1, 3) := dk_132 6 1 (dk_at dksX0_ask_3 16 rfl rfl)
theorem dX0_ask_90 : decode cX0_ask 90 = .ok (.goto (-43), 3) := dk_167 255 213 (dk_at dksX0_ask_3 19 rfl rfl)
theorem dX0_ask_93 : decode cX0_ask 93 = .ok (.iinc 5 1, 3) := dk_132 5 1 (dk_at dksX0_ask_4 0 rfl rfl)
theorem dX0_ask_96 : decode cX0_ask 96 = .ok (.goto (-65), 3) := dk_167 255 191 (dk_at dksX0_ask_4 3 rfl rfl)
theorem dX0_ask_99 : decode cX0_ask 99 = .ok (.iload_n 3, 1) := dk_29 (dk_at dksX0_ask_4 6 rfl rfl)
theorem dX0_ask_100 : decode cX0_ask 100 = .ok (.ireturn, 1) := dk_172 (dk_at dksX0_ask_4 7 rfl rfl)
abbrev cX0_worstOf : ByteArray := prog_1_method_61_code
def yX0_worstOf : MethodName := ⟨RX0, "worstOf", "(III)I"⟩
def dkwX0_worstOf_4 : List UInt8 := [172]
abbrev dktX0_worstOf_4 : List UInt8 := dkwX0_worstOf_4 ++ []
def dkwX0_worstOf_3 : List UInt8 := [42, 180, 0, 114, 3, 46, 42, 180, 0, 114, 4, 46, 42, 180, 0, 114, 5, 46, 184, 1, 65, 184, 1, 65]
abbrev dktX0_worstOf_3 : List UInt8 := dkwX0_worstOf_3 ++ dktX0_worstOf_4
def dkwX0_worstOf_2 : List UInt8 := [180, 0, 114, 4, 42, 28, 21, 4, 29, 182, 1, 56, 96, 92, 46, 4, 96, 79, 132, 4, 1, 167, 255, 215]
abbrev dktX0_worstOf_2 : List UInt8 := dkwX0_worstOf_2 ++ dktX0_worstOf_3
def dkwX0_worstOf_1 : List UInt8 := [54, 4, 21, 4, 42, 182, 0, 165, 162, 0, 38, 27, 21, 4, 122, 4, 126, 4, 160, 0, 22, 42]
abbrev dktX0_worstOf_1 : List UInt8 := dkwX0_worstOf_1 ++ dktX0_worstOf_2
def dkwX0_worstOf_0 : List UInt8 := [3, 54, 4, 21, 4, 6, 162, 0, 17, 42, 180, 0, 114, 21, 4, 3, 79, 132, 4, 1, 167, 255, 239, 3]
abbrev dktX0_worstOf_0 : List UInt8 := dkwX0_worstOf_0 ++ dktX0_worstOf_1
theorem dksX0_worstOf_0 : cX0_worstOf.data.toList.drop 0 = dktX0_worstOf_0 := by decide +kernel
theorem dksX0_worstOf_1 : cX0_worstOf.data.toList.drop 24 = dktX0_worstOf_1 := dk_seg dksX0_worstOf_0 24 rfl rfl
theorem dksX0_worstOf_2 : cX0_worstOf.data.toList.drop 46 = dktX0_worstOf_2 := dk_seg dksX0_worstOf_1 22 rfl rfl
theorem dksX0_worstOf_3 : cX0_worstOf.data.toList.drop 70 = dktX0_worstOf_3 := dk_seg dksX0_worstOf_2 24 rfl rfl
theorem dksX0_worstOf_4 : cX0_worstOf.data.toList.drop 94 = dktX0_worstOf_4 := dk_seg dksX0_worstOf_3 24 rfl rfl
theorem dX0_worstOf_0 : decode cX0_worstOf 0 = .ok (.iconst 0, 1) := dk_3 (dk_at dksX0_worstOf_0 0 rfl rfl)
theorem dX0_worstOf_1 : decode cX0_worstOf 1 = .ok (.istore 4, 2) := dk_54 4 (dk_at dksX0_worstOf_0 1 rfl rfl)
theorem dX0_worstOf_3 : decode cX0_worstOf 3 = .ok (.iload 4, 2) := dk_21 4 (dk_at dksX0_worstOf_0 3 rfl rfl)
theorem dX0_worstOf_5 : decode cX0_worstOf 5 = .ok (.iconst 3, 1) := dk_6 (dk_at dksX0_worstOf_0 5 rfl rfl)
theorem dX0_worstOf_6 : decode cX0_worstOf 6 = .ok (.if_icmp .ge 17, 3) := dk_162 0 17 (dk_at dksX0_worstOf_0 6 rfl rfl)
theorem dX0_worstOf_9 : decode cX0_worstOf 9 = .ok (.aload_n 0, 1) := dk_42 (dk_at dksX0_worstOf_0 9 rfl rfl)
theorem dX0_worstOf_10 : decode cX0_worstOf 10 = .ok (.getfield 114, 3) := dk_180 0 114 (dk_at dksX0_worstOf_0 10 rfl rfl)
theorem dX0_worstOf_13 : decode cX0_worstOf 13 = .ok (.iload 4, 2) := dk_21 4 (dk_at dksX0_worstOf_0 13 rfl rfl)
theorem dX0_worstOf_15 : decode cX0_worstOf 15 = .ok (.iconst 0, 1) := dk_3 (dk_at dksX0_worstOf_0 15 rfl rfl)
theorem dX0_worstOf_16 : decode cX0_worstOf 16 = .ok (.iastore, 1) := dk_79 (dk_at dksX0_worstOf_0 16 rfl rfl)
theorem dX0_worstOf_17 : decode cX0_worstOf 17 = .ok (.iinc 4 1, 3) := dk_132 4 1 (dk_at dksX0_worstOf_0 17 rfl rfl)
theorem dX0_worstOf_20 : decode cX0_worstOf 20 = .ok (.goto (-17), 3) := dk_167 255 239 (dk_at dksX0_worstOf_0 20 rfl rfl)
theorem dX0_worstOf_23 : decode cX0_worstOf 23 = .ok (.iconst 0, 1) := dk_3 (dk_at dksX0_worstOf_0 23 rfl rfl)
theorem dX0_worstOf_24 : decode cX0_worstOf 24 = .ok (.istore 4, 2) := dk_54 4 (dk_at dksX0_worstOf_1 0 rfl rfl)
theorem dX0_worstOf_26 : decode cX0_worstOf 26 = .ok (.iload 4, 2) := dk_21 4 (dk_at dksX0_worstOf_1 2 rfl rfl)
theorem dX0_worstOf_28 : decode cX0_worstOf 28 = .ok (.aload_n 0, 1) := dk_42 (dk_at dksX0_worstOf_1 4 rfl rfl)
theorem dX0_worstOf_29 : decode cX0_worstOf 29 = .ok (.invokevirtual 165, 3) := dk_182 0 165 (dk_at dksX0_worstOf_1 5 rfl rfl)
theorem dX0_worstOf_32 : decode cX0_worstOf 32 = .ok (.if_icmp .ge 38, 3) := dk_162 0 38 (dk_at dksX0_worstOf_1 8 rfl rfl)
theorem dX0_worstOf_35 : decode cX0_worstOf 35 = .ok (.iload_n 1, 1) := dk_27 (dk_at dksX0_worstOf_1 11 rfl rfl)
theorem dX0_worstOf_36 : decode cX0_worstOf 36 = .ok (.iload 4, 2) := dk_21 4 (dk_at dksX0_worstOf_1 12 rfl rfl)
theorem dX0_worstOf_38 : decode cX0_worstOf 38 = .ok (.ishr, 1) := dk_122 (dk_at dksX0_worstOf_1 14 rfl rfl)
theorem dX0_worstOf_39 : decode cX0_worstOf 39 = .ok (.iconst 1, 1) := dk_4 (dk_at dksX0_worstOf_1 15 rfl rfl)
theorem dX0_worstOf_40 : decode cX0_worstOf 40 = .ok (.iand, 1) := dk_126 (dk_at dksX0_worstOf_1 16 rfl rfl)
theorem dX0_worstOf_41 : decode cX0_worstOf 41 = .ok (.iconst 1, 1) := dk_4 (dk_at dksX0_worstOf_1 17 rfl rfl)
theorem dX0_worstOf_42 : decode cX0_worstOf 42 = .ok (.if_icmp .ne 22, 3) := dk_160 0 22 (dk_at dksX0_worstOf_1 18 rfl rfl)
theorem dX0_worstOf_45 : decode cX0_worstOf 45 = .ok (.aload_n 0, 1) := dk_42 (dk_at dksX0_worstOf_1 21 rfl rfl)
theorem dX0_worstOf_46 : decode cX0_worstOf 46 = .ok (.getfield 114, 3) := dk_180 0 114 (dk_at dksX0_worstOf_2 0 rfl rfl)
theorem dX0_worstOf_49 : decode cX0_worstOf 49 = .ok (.iconst 1, 1) := dk_4 (dk_at dksX0_worstOf_2 3 rfl rfl)
theorem dX0_worstOf_50 : decode cX0_worstOf 50 = .ok (.aload_n 0, 1) := dk_42 (dk_at dksX0_worstOf_2 4 rfl rfl)
theorem dX0_worstOf_51 : decode cX0_worstOf 51 = .ok (.iload_n 2, 1) := dk_28 (dk_at dksX0_worstOf_2 5 rfl rfl)
theorem dX0_worstOf_52 : decode cX0_worstOf 52 = .ok (.iload 4, 2) := dk_21 4 (dk_at dksX0_worstOf_2 6 rfl rfl)
theorem dX0_worstOf_54 : decode cX0_worstOf 54 = .ok (.iload_n 3, 1) := dk_29 (dk_at dksX0_worstOf_2 8 rfl rfl)
theorem dX0_worstOf_55 : decode cX0_worstOf 55 = .ok (.invokevirtual 312, 3) := dk_182 1 56 (dk_at dksX0_worstOf_2 9 rfl rfl)
theorem dX0_worstOf_58 : decode cX0_worstOf 58 = .ok (.iadd, 1) := dk_96 (dk_at dksX0_worstOf_2 12 rfl rfl)
theorem dX0_worstOf_59 : decode cX0_worstOf 59 = .ok (.dup2, 1) := dk_92 (dk_at dksX0_worstOf_2 13 rfl rfl)
theorem dX0_worstOf_60 : decode cX0_worstOf 60 = .ok (.iaload, 1) := dk_46 (dk_at dksX0_worstOf_2 14 rfl rfl)
theorem dX0_worstOf_61 : decode cX0_worstOf 61 = .ok (.iconst 1, 1) := dk_4 (dk_at dksX0_worstOf_2 15 rfl rfl)
theorem dX0_worstOf_62 : decode cX0_worstOf 62 = .ok (.iadd, 1) := dk_96 (dk_at dksX0_worstOf_2 16 rfl rfl)
theorem dX0_worstOf_63 : decode cX0_worstOf 63 = .ok (.iastore, 1) := dk_79 (dk_at dksX0_worstOf_2 17 rfl rfl)
theorem dX0_worstOf_64 : decode cX0_worstOf 64 = .ok (.iinc 4 1, 3) := dk_132 4 1 (dk_at dksX0_worstOf_2 18 rfl rfl)
theorem dX0_worstOf_67 : decode cX0_worstOf 67 = .ok (.goto (-41), 3) := dk_167 255 215 (dk_at dksX0_worstOf_2 21 rfl rfl)
theorem dX0_worstOf_70 : decode cX0_worstOf 70 = .ok (.aload_n 0, 1) := dk_42 (dk_at dksX0_worstOf_3 0 rfl rfl)
theorem dX0_worstOf_71 : decode cX0_worstOf 71 = .ok (.getfield 114, 3) := dk_180 0 114 (dk_at dksX0_worstOf_3 1 rfl rfl)
theorem dX0_worstOf_74 : decode cX0_worstOf 74 = .ok (.iconst 0, 1) := dk_3 (dk_at dksX0_worstOf_3 4 rfl rfl)
theorem dX0_worstOf_75 : decode cX0_worstOf 75 = .ok (.iaload, 1) := dk_46 (dk_at dksX0_worstOf_3 5 rfl rfl)
theorem dX0_worstOf_76 : decode cX0_worstOf 76 = .ok (.aload_n 0, 1) := dk_42 (dk_at dksX0_worstOf_3 6 rfl rfl)
theorem dX0_worstOf_77 : decode cX0_worstOf 77 = .ok (.getfield 114, 3) := dk_180 0 114 (dk_at dksX0_worstOf_3 7 rfl rfl)
theorem dX0_worstOf_80 : decode cX0_worstOf 80 = .ok (.iconst 1, 1) := dk_4 (dk_at dksX0_worstOf_3 10 rfl rfl)
theorem dX0_worstOf_81 : decode cX0_worstOf 81 = .ok (.iaload, 1) := dk_46 (dk_at dksX0_worstOf_3 11 rfl rfl)
theorem dX0_worstOf_82 : decode cX0_worstOf 82 = .ok (.aload_n 0, 1) := dk_42 (dk_at dksX0_worstOf_3 12 rfl rfl)
theorem dX0_worstOf_83 : decode cX0_worstOf 83 = .ok (.getfield 114, 3) := dk_180 0 114 (dk_at dksX0_worstOf_3 13 rfl rfl)
theorem dX0_worstOf_86 : decode cX0_worstOf 86 = .ok (.iconst 2, 1) := dk_5 (dk_at dksX0_worstOf_3 16 rfl rfl)
theorem dX0_worstOf_87 : decode cX0_worstOf 87 = .ok (.iaload, 1) := dk_46 (dk_at dksX0_worstOf_3 17 rfl rfl)
theorem dX0_worstOf_88 : decode cX0_worstOf 88 = .ok (.invokestatic 321, 3) := dk_184 1 65 (dk_at dksX0_worstOf_3 18 rfl rfl)
theorem dX0_worstOf_91 : decode cX0_worstOf 91 = .ok (.invokestatic 321, 3) := dk_184 1 65 (dk_at dksX0_worstOf_3 21 rfl rfl)
theorem dX0_worstOf_94 : decode cX0_worstOf 94 = .ok (.ireturn, 1) := dk_172 (dk_at dksX0_worstOf_4 0 rfl rfl)
abbrev cX0_hold : ByteArray := prog_1_method_63_code
def yX0_hold : MethodName := ⟨RX0, "hold", "(I)Z"⟩
def dkwX0_hold_1 : List UInt8 := [42, 180, 0, 92, 27, 4, 84, 4, 172]
abbrev dktX0_hold_1 : List UInt8 := dkwX0_hold_1 ++ []
def dkwX0_hold_0 : List UInt8 := [27, 3, 5, 184, 0, 161, 154, 0, 5, 3, 172, 42, 180, 0, 73, 27, 50, 42, 180, 0, 62, 182, 1, 5]
abbrev dktX0_hold_0 : List UInt8 := dkwX0_hold_0 ++ dktX0_hold_1
theorem dksX0_hold_0 : cX0_hold.data.toList.drop 0 = dktX0_hold_0 := by decide +kernel
theorem dksX0_hold_1 : cX0_hold.data.toList.drop 24 = dktX0_hold_1 := dk_seg dksX0_hold_0 24 rfl rfl
theorem dX0_hold_0 : decode cX0_hold 0 = .ok (.iload_n 1, 1) := dk_27 (dk_at dksX0_hold_0 0 rfl rfl)
theorem dX0_hold_1 : decode cX0_hold 1 = .ok (.iconst 0, 1) := dk_3 (dk_at dksX0_hold_0 1 rfl rfl)
theorem dX0_hold_2 : decode cX0_hold 2 = .ok (.iconst 2, 1) := dk_5 (dk_at dksX0_hold_0 2 rfl rfl)
theorem dX0_hold_3 : decode cX0_hold 3 = .ok (.invokestatic 161, 3) := dk_184 0 161 (dk_at dksX0_hold_0 3 rfl rfl)
theorem dX0_hold_6 : decode cX0_hold 6 = .ok (.ifCond .ne 5, 3) := dk_154 0 5 (dk_at dksX0_hold_0 6 rfl rfl)
theorem dX0_hold_9 : decode cX0_hold 9 = .ok (.iconst 0, 1) := dk_3 (dk_at dksX0_hold_0 9 rfl rfl)
theorem dX0_hold_10 : decode cX0_hold 10 = .ok (.ireturn, 1) := dk_172 (dk_at dksX0_hold_0 10 rfl rfl)
theorem dX0_hold_11 : decode cX0_hold 11 = .ok (.aload_n 0, 1) := dk_42 (dk_at dksX0_hold_0 11 rfl rfl)
theorem dX0_hold_12 : decode cX0_hold 12 = .ok (.getfield 73, 3) := dk_180 0 73 (dk_at dksX0_hold_0 12 rfl rfl)
theorem dX0_hold_15 : decode cX0_hold 15 = .ok (.iload_n 1, 1) := dk_27 (dk_at dksX0_hold_0 15 rfl rfl)
theorem dX0_hold_16 : decode cX0_hold 16 = .ok (.aaload, 1) := dk_50 (dk_at dksX0_hold_0 16 rfl rfl)
theorem dX0_hold_17 : decode cX0_hold 17 = .ok (.aload_n 0, 1) := dk_42 (dk_at dksX0_hold_0 17 rfl rfl)
theorem dX0_hold_18 : decode cX0_hold 18 = .ok (.getfield 62, 3) := dk_180 0 62 (dk_at dksX0_hold_0 18 rfl rfl)
theorem dX0_hold_21 : decode cX0_hold 21 = .ok (.invokevirtual 261, 3) := dk_182 1 5 (dk_at dksX0_hold_0 21 rfl rfl)
theorem dX0_hold_24 : decode cX0_hold 24 = .ok (.aload_n 0, 1) := dk_42 (dk_at dksX0_hold_1 0 rfl rfl)
theorem dX0_hold_25 : decode cX0_hold 25 = .ok (.getfield 92, 3) := dk_180 0 92 (dk_at dksX0_hold_1 1 rfl rfl)
theorem dX0_hold_28 : decode cX0_hold 28 = .ok (.iload_n 1, 1) := dk_27 (dk_at dksX0_hold_1 4 rfl rfl)
theorem dX0_hold_29 : decode cX0_hold 29 = .ok (.iconst 1, 1) := dk_4 (dk_at dksX0_hold_1 5 rfl rfl)
theorem dX0_hold_30 : decode cX0_hold 30 = .ok (.bastore, 1) := dk_84 (dk_at dksX0_hold_1 6 rfl rfl)
theorem dX0_hold_31 : decode cX0_hold 31 = .ok (.iconst 1, 1) := dk_4 (dk_at dksX0_hold_1 7 rfl rfl)
theorem dX0_hold_32 : decode cX0_hold 32 = .ok (.ireturn, 1) := dk_172 (dk_at dksX0_hold_1 8 rfl rfl)
abbrev cX0_restore : ByteArray := prog_1_method_64_code
def yX0_restore : MethodName := ⟨RX0, "restore", "(I)Z"⟩
def dkwX0_restore_1 : List UInt8 := [42, 180, 0, 73, 27, 50, 182, 1, 5, 42, 3, 181, 0, 136, 4, 172]
abbrev dktX0_restore_1 : List UInt8 := dkwX0_restore_1 ++ []
def dkwX0_restore_0 : List UInt8 := [27, 3, 5, 184, 0, 161, 153, 0, 12, 42, 180, 0, 92, 27, 51, 154, 0, 5, 3, 172, 42, 180, 0, 62]
abbrev dktX0_restore_0 : List UInt8 := dkwX0_restore_0 ++ dktX0_restore_1
theorem dksX0_restore_0 : cX0_restore.data.toList.drop 0 = dktX0_restore_0 := by decide +kernel
theorem dksX0_restore_1 : cX0_restore.data.toList.drop 24 = dktX0_restore_1 := dk_seg dksX0_restore_0 24 rfl rfl
theorem dX0_restore_0 : decode cX0_restore 0 = .ok (.iload_n 1, 1) := dk_27 (dk_at dksX0_restore_0 0 rfl rfl)
theorem dX0_restore_1 : decode cX0_restore 1 = .ok (.iconst 0, 1) := dk_3 (dk_at dksX0_restore_0 1 rfl rfl)
theorem dX0_restore_2 : decode cX0_restore 2 = .ok (.iconst 2, 1) := dk_5 (dk_at dksX0_restore_0 2 rfl rfl)
theorem dX0_restore_3 : decode cX0_restore 3 = .ok (.invokestatic 161, 3) := dk_184 0 161 (dk_at dksX0_restore_0 3 rfl rfl)
theorem dX0_restore_6 : decode cX0_restore 6 = .ok (.ifCond .eq 12, 3) := dk_153 0 12 (dk_at dksX0_restore_0 6 rfl rfl)
theorem dX0_restore_9 : decode cX0_restore 9 = .ok (.aload_n 0, 1) := dk_42 (dk_at dksX0_restore_0 9 rfl rfl)
theorem dX0_restore_10 : decode cX0_restore 10 = .ok (.getfield 92, 3) := dk_180 0 92 (dk_at dksX0_restore_0 10 rfl rfl)
theorem dX0_restore_13 : decode cX0_restore 13 = .ok (.iload_n 1, 1) := dk_27 (dk_at dksX0_restore_0 13 rfl rfl)
theorem dX0_restore_14 : decode cX0_restore 14 = .ok (.baload, 1) := dk_51 (dk_at dksX0_restore_0 14 rfl rfl)
theorem dX0_restore_15 : decode cX0_restore 15 = .ok (.ifCond .ne 5, 3) := dk_154 0 5 (dk_at dksX0_restore_0 15 rfl rfl)
theorem dX0_restore_18 : decode cX0_restore 18 = .ok (.iconst 0, 1) := dk_3 (dk_at dksX0_restore_0 18 rfl rfl)
theorem dX0_restore_19 : decode cX0_restore 19 = .ok (.ireturn, 1) := dk_172 (dk_at dksX0_restore_0 19 rfl rfl)
theorem dX0_restore_20 : decode cX0_restore 20 = .ok (.aload_n 0, 1) := dk_42 (dk_at dksX0_restore_0 20 rfl rfl)
theorem dX0_restore_21 : decode cX0_restore 21 = .ok (.getfield 62, 3) := dk_180 0 62 (dk_at dksX0_restore_0 21 rfl rfl)
theorem dX0_restore_24 : decode cX0_restore 24 = .ok (.aload_n 0, 1) := dk_42 (dk_at dksX0_restore_1 0 rfl rfl)
theorem dX0_restore_25 : decode cX0_restore 25 = .ok (.getfield 73, 3) := dk_180 0 73 (dk_at dksX0_restore_1 1 rfl rfl)
theorem dX0_restore_28 : decode cX0_restore 28 = .ok (.iload_n 1, 1) := dk_27 (dk_at dksX0_restore_1 4 rfl rfl)
theorem dX0_restore_29 : decode cX0_restore 29 = .ok (.aaload, 1) := dk_50 (dk_at dksX0_restore_1 5 rfl rfl)
theorem dX0_restore_30 : decode cX0_restore 30 = .ok (.invokevirtual 261, 3) := dk_182 1 5 (dk_at dksX0_restore_1 6 rfl rfl)
theorem dX0_restore_33 : decode cX0_restore 33 = .ok (.aload_n 0, 1) := dk_42 (dk_at dksX0_restore_1 9 rfl rfl)
theorem dX0_restore_34 : decode cX0_restore 34 = .ok (.iconst 0, 1) := dk_3 (dk_at dksX0_restore_1 10 rfl rfl)
theorem dX0_restore_35 : decode cX0_restore 35 = .ok (.putfield 136, 3) := dk_181 0 136 (dk_at dksX0_restore_1 11 rfl rfl)
theorem dX0_restore_38 : decode cX0_restore 38 = .ok (.iconst 1, 1) := dk_4 (dk_at dksX0_restore_1 14 rfl rfl)
theorem dX0_restore_39 : decode cX0_restore 39 = .ok (.ireturn, 1) := dk_172 (dk_at dksX0_restore_1 15 rfl rfl)
abbrev cX0_count : ByteArray := prog_1_method_66_code
def yX0_count : MethodName := ⟨RX0, "count", "(I)I"⟩
def dkwX0_count_15 : List UInt8 := [132, 5, 1, 167, 255, 218, 21, 4, 172, 42, 180, 0, 62, 180, 0, 198, 184, 1, 71, 172, 2, 172]
abbrev dktX0_count_15 : List UInt8 := dkwX0_count_15 ++ []
def dkwX0_count_14 : List UInt8 := [180, 0, 62, 180, 0, 195, 21, 5, 46, 158, 0, 10, 4, 21, 5, 120, 167, 0, 4, 3, 128, 54, 4]
abbrev dktX0_count_14 : List UInt8 := dkwX0_count_14 ++ dktX0_count_15
def dkwX0_count_13 : List UInt8 := [132, 5, 1, 167, 255, 218, 21, 4, 172, 3, 54, 5, 21, 5, 42, 182, 0, 159, 162, 0, 35, 21, 4, 42]
abbrev dktX0_count_13 : List UInt8 := dkwX0_count_13 ++ dktX0_count_14
def dkwX0_count_12 : List UInt8 := [180, 0, 62, 21, 5, 182, 0, 208, 154, 0, 10, 4, 21, 5, 120, 167, 0, 4, 3, 128, 54, 4]
abbrev dktX0_count_12 : List UInt8 := dkwX0_count_12 ++ dktX0_count_13
def dkwX0_count_11 : List UInt8 := [3, 172, 29, 184, 1, 62, 172, 3, 54, 5, 21, 5, 42, 182, 0, 159, 162, 0, 35, 21, 4, 42, 42]
abbrev dktX0_count_11 : List UInt8 := dkwX0_count_11 ++ dktX0_count_12
def dkwX0_count_10 : List UInt8 := [167, 0, 4, 3, 96, 172, 42, 180, 0, 62, 42, 180, 0, 51, 182, 1, 75, 153, 0, 7, 4, 167, 0, 4]
abbrev dktX0_count_10 : List UInt8 := dkwX0_count_10 ++ dktX0_count_11
def dkwX0_count_9 : List UInt8 := [180, 0, 92, 4, 51, 153, 0, 7, 4, 167, 0, 4, 3, 96, 42, 180, 0, 92, 5, 51, 153, 0, 7, 4]
abbrev dktX0_count_9 : List UInt8 := dkwX0_count_9 ++ dktX0_count_10
def dkwX0_count_8 : List UInt8 := [180, 0, 136, 172, 42, 180, 0, 139, 172, 42, 180, 0, 92, 3, 51, 153, 0, 7, 4, 167, 0, 4, 3, 42]
abbrev dktX0_count_8 : List UInt8 := dkwX0_count_8 ++ dktX0_count_9
def dkwX0_count_7 : List UInt8 := [180, 0, 201, 184, 1, 71, 172, 42, 180, 0, 62, 180, 1, 23, 172, 42, 180, 0, 35, 180, 0, 121, 172, 42]
abbrev dktX0_count_7 : List UInt8 := dkwX0_count_7 ++ dktX0_count_8
def dkwX0_count_6 : List UInt8 := [180, 0, 62, 180, 0, 241, 172, 28, 172, 42, 180, 0, 62, 180, 0, 192, 184, 1, 71, 172, 42, 180, 0, 62]
abbrev dktX0_count_6 : List UInt8 := dkwX0_count_6 ++ dktX0_count_7
def dkwX0_count_5 : List UInt8 := [42, 182, 0, 159, 172, 42, 182, 0, 165, 172, 42, 180, 0, 51, 180, 0, 167, 182, 0, 150, 172, 42]
abbrev dktX0_count_5 : List UInt8 := dkwX0_count_5 ++ dktX0_count_6
def dkwX0_count_4 : List UInt8 := [170, 0, 0, 0, 0, 1, 81, 0, 0, 0, 0, 0, 0, 0, 16, 0, 0, 0, 83, 0, 0, 0, 88, 0, 0, 0, 93, 0, 0, 0, 104, 0, 0, 0, 112, 0, 0, 0, 114, 0, 0, 0, 125, 0, 0, 0, 136, 0, 0, 0, 144, 0, 0, 0, 152, 0, 0, 0, 157, 0, 0, 0, 162, 0, 0, 0, 207, 0, 0, 0, 227, 0, 0, 0, 232, 0, 0, 1, 23, 0, 0, 1, 70]
abbrev dktX0_count_4 : List UInt8 := dkwX0_count_4 ++ dktX0_count_5
def dkwX0_count_3 : List UInt8 := [27]
abbrev dktX0_count_3 : List UInt8 := dkwX0_count_3 ++ dktX0_count_4
def dkwX0_count_2 : List UInt8 := [128, 61, 29, 21, 6, 156, 0, 7, 3, 167, 0, 7, 4, 21, 6, 120, 128, 62, 132, 5, 1, 167, 255, 197]
abbrev dktX0_count_2 : List UInt8 := dkwX0_count_2 ++ dktX0_count_3
def dkwX0_count_1 : List UInt8 := [180, 0, 51, 21, 5, 182, 0, 204, 54, 6, 28, 21, 6, 156, 0, 7, 3, 167, 0, 7, 4, 21, 5, 120]
abbrev dktX0_count_1 : List UInt8 := dkwX0_count_1 ++ dktX0_count_2
def dkwX0_count_0 : List UInt8 := [3, 61, 3, 62, 3, 54, 4, 3, 54, 5, 21, 5, 42, 182, 0, 159, 162, 0, 56, 42, 180, 0, 62, 42]
abbrev dktX0_count_0 : List UInt8 := dkwX0_count_0 ++ dktX0_count_1
theorem dksX0_count_0 : cX0_count.data.toList.drop 0 = dktX0_count_0 := by decide +kernel
theorem dksX0_count_1 : cX0_count.data.toList.drop 24 = dktX0_count_1 := dk_seg dksX0_count_0 24 rfl rfl
theorem dksX0_count_2 : cX0_count.data.toList.drop 48 = dktX0_count_2 := dk_seg dksX0_count_1 24 rfl rfl
theorem dksX0_count_3 : cX0_count.data.toList.drop 72 = dktX0_count_3 := dk_seg dksX0_count_2 24 rfl rfl
theorem dksX0_count_4 : cX0_count.data.toList.drop 73 = dktX0_count_4 := dk_seg dksX0_count_3 1 rfl rfl
theorem dksX0_count_5 : cX0_count.data.toList.drop 156 = dktX0_count_5 := dk_seg dksX0_count_4 83 rfl rfl
theorem dksX0_count_6 : cX0_count.data.toList.drop 178 = dktX0_count_6 := dk_seg dksX0_count_5 22 rfl rfl
theorem dksX0_count_7 : cX0_count.data.toList.drop 202 = dktX0_count_7 := dk_seg dksX0_count_6 24 rfl rfl
theorem dksX0_count_8 : cX0_count.data.toList.drop 226 = dktX0_count_8 := dk_seg dksX0_count_7 24 rfl rfl
theorem dksX0_count_9 : cX0_count.data.toList.drop 250 = dktX0_count_9 := dk_seg dksX0_count_8 24 rfl rfl
theorem dksX0_count_10 : cX0_count.data.toList.drop 274 = dktX0_count_10 := dk_seg dksX0_count_9 24 rfl rfl
theorem dksX0_count_11 : cX0_count.data.toList.drop 298 = dktX0_count_11 := dk_seg dksX0_count_10 24 rfl rfl
theorem dksX0_count_12 : cX0_count.data.toList.drop 321 = dktX0_count_12 := dk_seg dksX0_count_11 23 rfl rfl
theorem dksX0_count_13 : cX0_count.data.toList.drop 343 = dktX0_count_13 := dk_seg dksX0_count_12 22 rfl rfl
theorem dksX0_count_14 : cX0_count.data.toList.drop 367 = dktX0_count_14 := dk_seg dksX0_count_13 24 rfl rfl
theorem dksX0_count_15 : cX0_count.data.toList.drop 390 = dktX0_count_15 := dk_seg dksX0_count_14 23 rfl rfl
theorem dX0_count_0 : decode cX0_count 0 = .ok (.iconst 0, 1) := dk_3 (dk_at dksX0_count_0 0 rfl rfl)
theorem dX0_count_1 : decode cX0_count 1 = .ok (.istore_n 2, 1) := dk_61 (dk_at dksX0_count_0 1 rfl rfl)
theorem dX0_count_2 : decode cX0_count 2 = .ok (.iconst 0, 1) := dk_3 (dk_at dksX0_count_0 2 rfl rfl)
theorem dX0_count_3 : decode cX0_count 3 = .ok (.istore_n 3, 1) := dk_62 (dk_at dksX0_count_0 3 rfl rfl)
theorem dX0_count_4 : decode cX0_count 4 = .ok (.iconst 0, 1) := dk_3 (dk_at dksX0_count_0 4 rfl rfl)
theorem dX0_count_5 : decode cX0_count 5 = .ok (.istore 4, 2) := dk_54 4 (dk_at dksX0_count_0 5 rfl rfl)
theorem dX0_count_7 : decode cX0_count 7 = .ok (.iconst 0, 1) := dk_3 (dk_at dksX0_count_0 7 rfl rfl)
theorem dX0_count_8 : decode cX0_count 8 = .ok (.istore 5, 2) := dk_54 5 (dk_at dksX0_count_0 8 rfl rfl)
theorem dX0_count_10 : decode cX0_count 10 = .ok (.iload 5, 2) := dk_21 5 (dk_at dksX0_count_0 10 rfl rfl)
theorem dX0_count_12 : decode cX0_count 12 = .ok (.aload_n 0, 1) := dk_42 (dk_at dksX0_count_0 12 rfl rfl)
theorem dX0_count_13 : decode cX0_count 13 = .ok (.invokevirtual 159, 3) := dk_182 0 159 (dk_at dksX0_count_0 13 rfl rfl)
theorem dX0_count_16 : decode cX0_count 16 = .ok (.if_icmp .ge 56, 3) := dk_162 0 56 (dk_at dksX0_count_0 16 rfl rfl)
theorem dX0_count_19 : decode cX0_count 19 = .ok (.aload_n 0, 1) := dk_42 (dk_at dksX0_count_0 19 rfl rfl)
theorem dX0_count_20 : decode cX0_count 20 = .ok (.getfield 62, 3) := dk_180 0 62 (dk_at dksX0_count_0 20 rfl rfl)
theorem dX0_count_23 : decode cX0_count 23 = .ok (.aload_n 0, 1) := dk_42 (dk_at dksX0_count_0 23 rfl rfl)
theorem dX0_count_24 : decode cX0_count 24 = .ok (.getfield 51, 3) := dk_180 0 51 (dk_at dksX0_count_1 0 rfl rfl)
theorem dX0_count_27 : decode cX0_count 27 = .ok (.iload 5, 2) := dk_21 5 (dk_at dksX0_count_1 3 rfl rfl)
theorem dX0_count_29 : decode cX0_count 29 = .ok (.invokevirtual 204, 3) := dk_182 0 204 (dk_at dksX0_count_1 5 rfl rfl)
theorem dX0_count_32 : decode cX0_count 32 = .ok (.istore 6, 2) := dk_54 6 (dk_at dksX0_count_1 8 rfl rfl)
theorem dX0_count_34 : decode cX0_count 34 = .ok (.iload_n 2, 1) := dk_28 (dk_at dksX0_count_1 10 rfl rfl)
theorem dX0_count_35 : decode cX0_count 35 = .ok (.iload 6, 2) := dk_21 6 (dk_at dksX0_count_1 11 rfl rfl)
theorem dX0_count_37 : decode cX0_count 37 = .ok (.ifCond .ge 7, 3) := dk_156 0 7 (dk_at dksX0_count_1 13 rfl rfl)
theorem dX0_count_40 : decode cX0_count 40 = .ok (.iconst 0, 1) := dk_3 (dk_at dksX0_count_1 16 rfl rfl)
theorem dX0_count_41 : decode cX0_count 41 = .ok (.goto 7, 3) := dk_167 0 7 (dk_at dksX0_count_1 17 rfl rfl)
theorem dX0_count_44 : decode cX0_count 44 = .ok (.iconst 1, 1) := dk_4 (dk_at dksX0_count_1 20 rfl rfl)
theorem dX0_count_45 : decode cX0_count 45 = .ok (.iload 5, 2) := dk_21 5 (dk_at dksX0_count_1 21 rfl rfl)
theorem dX0_count_47 : decode cX0_count 47 = .ok (.ishl, 1) := dk_120 (dk_at dksX0_count_1 23 rfl rfl)
theorem dX0_count_48 : decode cX0_count 48 = .ok (.ior, 1) := dk_128 (dk_at dksX0_count_2 0 rfl rfl)
theorem dX0_count_49 : decode cX0_count 49 = .ok (.istore_n 2, 1) := dk_61 (dk_at dksX0_count_2 1 rfl rfl)
theorem dX0_count_50 : decode cX0_count 50 = .ok (.iload_n 3, 1) := dk_29 (dk_at dksX0_count_2 2 rfl rfl)
theorem dX0_count_51 : decode cX0_count 51 = .ok (.iload 6, 2) := dk_21 6 (dk_at dksX0_count_2 3 rfl rfl)
theorem dX0_count_53 : decode cX0_count 53 = .ok (.ifCond .ge 7, 3) := dk_156 0 7 (dk_at dksX0_count_2 5 rfl rfl)
theorem dX0_count_56 : decode cX0_count 56 = .ok (.iconst 0, 1) := dk_3 (dk_at dksX0_count_2 8 rfl rfl)
theorem dX0_count_57 : decode cX0_count 57 = .ok (.goto 7, 3) := dk_167 0 7 (dk_at dksX0_count_2 9 rfl rfl)
theorem dX0_count_60 : decode cX0_count 60 = .ok (.iconst 1, 1) := dk_4 (dk_at dksX0_count_2 12 rfl rfl)
theorem dX0_count_61 : decode cX0_count 61 = .ok (.iload 6, 2) := dk_21 6 (dk_at dksX0_count_2 13 rfl rfl)
theorem dX0_count_63 : decode cX0_count 63 = .ok (.ishl, 1) := dk_120 (dk_at dksX0_count_2 15 rfl rfl)
theorem dX0_count_64 : decode cX0_count 64 = .ok (.ior, 1) := dk_128 (dk_at dksX0_count_2 16 rfl rfl)
theorem dX0_count_65 : decode cX0_count 65 = .ok (.istore_n 3, 1) := dk_62 (dk_at dksX0_count_2 17 rfl rfl)
theorem dX0_count_66 : decode cX0_count 66 = .ok (.iinc 5 1, 3) := dk_132 5 1 (dk_at dksX0_count_2 18 rfl rfl)
theorem dX0_count_69 : decode cX0_count 69 = .ok (.goto (-59), 3) := dk_167 255 197 (dk_at dksX0_count_2 21 rfl rfl)
theorem dX0_count_72 : decode cX0_count 72 = .ok (.iload_n 1, 1) := dk_27 (dk_at dksX0_count_3 0 rfl rfl)
theorem dX0_count_73 : decode cX0_count 73 = .ok (.tableswitch 337 0 16 #[83, 88, 93, 104, 112, 114, 125, 136, 144, 152, 157, 162, 207, 227, 232, 279, 326], 83) := by decide +kernel
theorem dX0_count_156 : decode cX0_count 156 = .ok (.aload_n 0, 1) := dk_42 (dk_at dksX0_count_5 0 rfl rfl)
theorem dX0_count_157 : decode cX0_count 157 = .ok (.invokevirtual 159, 3) := dk_182 0 159 (dk_at dksX0_count_5 1 rfl rfl)
theorem dX0_count_160 : decode cX0_count 160 = .ok (.ireturn, 1) := dk_172 (dk_at dksX0_count_5 4 rfl rfl)
theorem dX0_count_161 : decode cX0_count 161 = .ok (.aload_n 0, 1) := dk_42 (dk_at dksX0_count_5 5 rfl rfl)
theorem dX0_count_162 : decode cX0_count 162 = .ok (.invokevirtual 165, 3) := dk_182 0 165 (dk_at dksX0_count_5 6 rfl rfl)
theorem dX0_count_165 : decode cX0_count 165 = .ok (.ireturn, 1) := dk_172 (dk_at dksX0_count_5 9 rfl rfl)
theorem dX0_count_166 : decode cX0_count 166 = .ok (.aload_n 0, 1) := dk_42 (dk_at dksX0_count_5 10 rfl rfl)
theorem dX0_count_167 : decode cX0_count 167 = .ok (.getfield 51, 3) := dk_180 0 51 (dk_at dksX0_count_5 11 rfl rfl)
theorem dX0_count_170 : decode cX0_count 170 = .ok (.getfield 167, 3) := dk_180 0 167 (dk_at dksX0_count_5 14 rfl rfl)
theorem dX0_count_173 : decode cX0_count 173 = .ok (.invokevirtual 150, 3) := dk_182 0 150 (dk_at dksX0_count_5 17 rfl rfl)
theorem dX0_count_176 : decode cX0_count 176 = .ok (.ireturn, 1) := dk_172 (dk_at dksX0_count_5 20 rfl rfl)
theorem dX0_count_177 : decode cX0_count 177 = .ok (.aload_n 0, 1) := dk_42 (dk_at dksX0_count_5 21 rfl rfl)
theorem dX0_count_178 : decode cX0_count 178 = .ok (.getfield 62, 3) := dk_180 0 62 (dk_at dksX0_count_6 0 rfl rfl)
theorem dX0_count_181 : decode cX0_count 181 = .ok (.getfield 241, 3) := dk_180 0 241 (dk_at dksX0_count_6 3 rfl rfl)
theorem dX0_count_184 : decode cX0_count 184 = .ok (.ireturn, 1) := dk_172 (dk_at dksX0_count_6 6 rfl rfl)
theorem dX0_count_185 : decode cX0_count 185 = .ok (.iload_n 2, 1) := dk_28 (dk_at dksX0_count_6 7 rfl rfl)
theorem dX0_count_186 : decode cX0_count 186 = .ok (.ireturn, 1) := dk_172 (dk_at dksX0_count_6 8 rfl rfl)
theorem dX0_count_187 : decode cX0_count 187 = .ok (.aload_n 0, 1) := dk_42 (dk_at dksX0_count_6 9 rfl rfl)
theorem dX0_count_188 : decode cX0_count 188 = .ok (.getfield 62, 3) := dk_180 0 62 (dk_at dksX0_count_6 10 rfl rfl)
theorem dX0_count_191 : decode cX0_count 191 = .ok (.getfield 192, 3) := dk_180 0 192 (dk_at dksX0_count_6 13 rfl rfl)
theorem dX0_count_194 : decode cX0_count 194 = .ok (.invokestatic 327, 3) := dk_184 1 71 (dk_at dksX0_count_6 16 rfl rfl)
theorem dX0_count_197 : decode cX0_count 197 = .ok (.ireturn, 1) := dk_172 (dk_at dksX0_count_6 19 rfl rfl)
theorem dX0_count_198 : decode cX0_count 198 = .ok (.aload_n 0, 1) := dk_42 (dk_at dksX0_count_6 20 rfl rfl)
theorem dX0_count_199 : decode cX0_count 199 = .ok (.getfield 62, 3) := dk_180 0 62 (dk_at dksX0_count_6 21 rfl rfl)
theorem dX0_count_202 : decode cX0_count 202 = .ok (.getfield 201, 3) := dk_180 0 201 (dk_at dksX0_count_7 0 rfl rfl)
theorem dX0_count_205 : decode cX0_count 205 = .ok (.invokestatic 327, 3) := dk_184 1 71 (dk_at dksX0_count_7 3 rfl rfl)
theorem dX0_count_208 : decode cX0_count 208 = .ok (.ireturn, 1) := dk_172 (dk_at dksX0_count_7 6 rfl rfl)
theorem dX0_count_209 : decode cX0_count 209 = .ok (.aload_n 0, 1) := dk_42 (dk_at dksX0_count_7 7 rfl rfl)
theorem dX0_count_210 : decode cX0_count 210 = .ok (.getfield 62, 3) := dk_180 0 62 (dk_at dksX0_count_7 8 rfl rfl)
theorem dX0_count_213 : decode cX0_count 213 = .ok (.getfield 279, 3) := dk_180 1 23 (dk_at dksX0_count_7 11 rfl rfl)
theorem dX0_count_216 : decode cX0_count 216 = .ok (.ireturn, 1) := dk_172 (dk_at dksX0_count_7 14 rfl rfl)
theorem dX0_count_217 : decode cX0_count 217 = .ok (.aload_n 0, 1) := dk_42 (dk_at dksX0_count_7 15 rfl rfl)
theorem dX0_count_218 : decode cX0_count 218 = .ok (.getfield 35, 3) := dk_180 0 35 (dk_at dksX0_count_7 16 rfl rfl)
theorem dX0_count_221 : decode cX0_count 221 = .ok (.getfield 121, 3) := dk_180 0 121 (dk_at dksX0_count_7 19 rfl rfl)
theorem dX0_count_224 : decode cX0_count 224 = .ok (.ireturn, 1) := dk_172 (dk_at dksX0_count_7 22 rfl rfl)
theorem dX0_count_225 : decode cX0_count 225 = .ok (.aload_n 0, 1) := dk_42 (dk_at dksX0_count_7 23 rfl rfl)
theorem dX0_count_226 : decode cX0_count 226 = .ok (.getfield 136, 3) := dk_180 0 136 (dk_at dksX0_count_8 0 rfl rfl)
theorem dX0_count_229 : decode cX0_count 229 = .ok (.ireturn, 1) := dk_172 (dk_at dksX0_count_8 3 rfl rfl)
theorem dX0_count_230 : decode cX0_count 230 = .ok (.aload_n 0, 1) := dk_42 (dk_at dksX0_count_8 4 rfl rfl)
theorem dX0_count_231 : decode cX0_count 231 = .ok (.getfield 139, 3) := dk_180 0 139 (dk_at dksX0_count_8 5 rfl rfl)
theorem dX0_count_234 : decode cX0_count 234 = .ok (.ireturn, 1) := dk_172 (dk_at dksX0_count_8 8 rfl rfl)
theorem dX0_count_235 : decode cX0_count 235 = .ok (.aload_n 0, 1) := dk_42 (dk_at dksX0_count_8 9 rfl rfl)
theorem dX0_count_236 : decode cX0_count 236 = .ok (.getfield 92, 3) := dk_180 0 92 (dk_at dksX0_count_8 10 rfl rfl)
theorem dX0_count_239 : decode cX0_count 239 = .ok (.iconst 0, 1) := dk_3 (dk_at dksX0_count_8 13 rfl rfl)
theorem dX0_count_240 : decode cX0_count 240 = .ok (.baload, 1) := dk_51 (dk_at dksX0_count_8 14 rfl rfl)
theorem dX0_count_241 : decode cX0_count 241 = .ok (.ifCond .eq 7, 3) := dk_153 0 7 (dk_at dksX0_count_8 15 rfl rfl)
theorem dX0_count_244 : decode cX0_count 244 = .ok (.iconst 1, 1) := dk_4 (dk_at dksX0_count_8 18 rfl rfl)
theorem dX0_count_245 : decode cX0_count 245 = .ok (.goto 4, 3) := dk_167 0 4 (dk_at dksX0_count_8 19 rfl rfl)
theorem dX0_count_248 : decode cX0_count 248 = .ok (.iconst 0, 1) := dk_3 (dk_at dksX0_count_8 22 rfl rfl)
theorem dX0_count_249 : decode cX0_count 249 = .ok (.aload_n 0, 1) := dk_42 (dk_at dksX0_count_8 23 rfl rfl)
theorem dX0_count_250 : decode cX0_count 250 = .ok (.getfield 92, 3) := dk_180 0 92 (dk_at dksX0_count_9 0 rfl rfl)
theorem dX0_count_253 : decode cX0_count 253 = .ok (.iconst 1, 1) := dk_4 (dk_at dksX0_count_9 3 rfl rfl)
theorem dX0_count_254 : decode cX0_count 254 = .ok (.baload, 1) := dk_51 (dk_at dksX0_count_9 4 rfl rfl)
theorem dX0_count_255 : decode cX0_count 255 = .ok (.ifCond .eq 7, 3) := dk_153 0 7 (dk_at dksX0_count_9 5 rfl rfl)
theorem dX0_count_258 : decode cX0_count 258 = .ok (.iconst 1, 1) := dk_4 (dk_at dksX0_count_9 8 rfl rfl)
theorem dX0_count_259 : decode cX0_count 259 = .ok (.goto 4, 3) := dk_167 0 4 (dk_at dksX0_count_9 9 rfl rfl)
theorem dX0_count_262 : decode cX0_count 262 = .ok (.iconst 0, 1) := dk_3 (dk_at dksX0_count_9 12 rfl rfl)
theorem dX0_count_263 : decode cX0_count 263 = .ok (.iadd, 1) := dk_96 (dk_at dksX0_count_9 13 rfl rfl)
theorem dX0_count_264 : decode cX0_count 264 = .ok (.aload_n 0, 1) := dk_42 (dk_at dksX0_count_9 14 rfl rfl)
theorem dX0_count_265 : decode cX0_count 265 = .ok (.getfield 92, 3) := dk_180 0 92 (dk_at dksX0_count_9 15 rfl rfl)
theorem dX0_count_268 : decode cX0_count 268 = .ok (.iconst 2, 1) := dk_5 (dk_at dksX0_count_9 18 rfl rfl)
theorem dX0_count_269 : decode cX0_count 269 = .ok (.baload, 1) := dk_51 (dk_at dksX0_count_9 19 rfl rfl)
theorem dX0_count_270 : decode cX0_count 270 = .ok (.ifCond .eq 7, 3) := dk_153 0 7 (dk_at dksX0_count_9 20 rfl rfl)
theorem dX0_count_273 : decode cX0_count 273 = .ok (.iconst 1, 1) := dk_4 (dk_at dksX0_count_9 23 rfl rfl)
theorem dX0_count_274 : decode cX0_count 274 = .ok (.goto 4, 3) := dk_167 0 4 (dk_at dksX0_count_10 0 rfl rfl)
theorem dX0_count_277 : decode cX0_count 277 = .ok (.iconst 0, 1) := dk_3 (dk_at dksX0_count_10 3 rfl rfl)
theorem dX0_count_278 : decode cX0_count 278 = .ok (.iadd, 1) := dk_96 (dk_at dksX0_count_10 4 rfl rfl)
theorem dX0_count_279 : decode cX0_count 279 = .ok (.ireturn, 1) := dk_172 (dk_at dksX0_count_10 5 rfl rfl)
theorem dX0_count_280 : decode cX0_count 280 = .ok (.aload_n 0, 1) := dk_42 (dk_at dksX0_count_10 6 rfl rfl)
theorem dX0_count_281 : decode cX0_count 281 = .ok (.getfield 62, 3) := dk_180 0 62 (dk_at dksX0_count_10 7 rfl rfl)
theorem dX0_count_284 : decode cX0_count 284 = .ok (.aload_n 0, 1) := dk_42 (dk_at dksX0_count_10 10 rfl rfl)
theorem dX0_count_285 : decode cX0_count 285 = .ok (.getfield 51, 3) := dk_180 0 51 (dk_at dksX0_count_10 11 rfl rfl)
theorem dX0_count_288 : decode cX0_count 288 = .ok (.invokevirtual 331, 3) := dk_182 1 75 (dk_at dksX0_count_10 14 rfl rfl)
theorem dX0_count_291 : decode cX0_count 291 = .ok (.ifCond .eq 7, 3) := dk_153 0 7 (dk_at dksX0_count_10 17 rfl rfl)
theorem dX0_count_294 : decode cX0_count 294 = .ok (.iconst 1, 1) := dk_4 (dk_at dksX0_count_10 20 rfl rfl)
theorem dX0_count_295 : decode cX0_count 295 = .ok (.goto 4, 3) := dk_167 0 4 (dk_at dksX0_count_10 21 rfl rfl)
theorem dX0_count_298 : decode cX0_count 298 = .ok (.iconst 0, 1) := dk_3 (dk_at dksX0_count_11 0 rfl rfl)
theorem dX0_count_299 : decode cX0_count 299 = .ok (.ireturn, 1) := dk_172 (dk_at dksX0_count_11 1 rfl rfl)
theorem dX0_count_300 : decode cX0_count 300 = .ok (.iload_n 3, 1) := dk_29 (dk_at dksX0_count_11 2 rfl rfl)
theorem dX0_count_301 : decode cX0_count 301 = .ok (.invokestatic 318, 3) := dk_184 1 62 (dk_at dksX0_count_11 3 rfl rfl)
theorem dX0_count_304 : decode cX0_count 304 = .ok (.ireturn, 1) := dk_172 (dk_at dksX0_count_11 6 rfl rfl)
theorem dX0_count_305 : decode cX0_count 305 = .ok (.iconst 0, 1) := dk_3 (dk_at dksX0_count_11 7 rfl rfl)
theorem dX0_count_306 : decode cX0_count 306 = .ok (.istore 5, 2) := dk_54 5 (dk_at dksX0_count_11 8 rfl rfl)
theorem dX0_count_308 : decode cX0_count 308 = .ok (.iload 5, 2) := dk_21 5 (dk_at dksX0_count_11 10 rfl rfl)
theorem dX0_count_310 : decode cX0_count 310 = .ok (.aload_n 0, 1) := dk_42 (dk_at dksX0_count_11 12 rfl rfl)
theorem dX0_count_311 : decode cX0_count 311 = .ok (.invokevirtual 159, 3) := dk_182 0 159 (dk_at dksX0_count_11 13 rfl rfl)
theorem dX0_count_314 : decode cX0_count 314 = .ok (.if_icmp .ge 35, 3) := dk_162 0 35 (dk_at dksX0_count_11 16 rfl rfl)
theorem dX0_count_317 : decode cX0_count 317 = .ok (.iload 4, 2) := dk_21 4 (dk_at dksX0_count_11 19 rfl rfl)
theorem dX0_count_319 : decode cX0_count 319 = .ok (.aload_n 0, 1) := dk_42 (dk_at dksX0_count_11 21 rfl rfl)
theorem dX0_count_320 : decode cX0_count 320 = .ok (.aload_n 0, 1) := dk_42 (dk_at dksX0_count_11 22 rfl rfl)
theorem dX0_count_321 : decode cX0_count 321 = .ok (.getfield 62, 3) := dk_180 0 62 (dk_at dksX0_count_12 0 rfl rfl)
theorem dX0_count_324 : decode cX0_count 324 = .ok (.iload 5, 2) := dk_21 5 (dk_at dksX0_count_12 3 rfl rfl)
theorem dX0_count_326 : decode cX0_count 326 = .ok (.invokevirtual 208, 3) := dk_182 0 208 (dk_at dksX0_count_12 5 rfl rfl)
theorem dX0_count_329 : decode cX0_count 329 = .ok (.ifCond .ne 10, 3) := dk_154 0 10 (dk_at dksX0_count_12 8 rfl rfl)
theorem dX0_count_332 : decode cX0_count 332 = .ok (.iconst 1, 1) := dk_4 (dk_at dksX0_count_12 11 rfl rfl)
theorem dX0_count_333 : decode cX0_count 333 = .ok (.iload 5, 2) := dk_21 5 (dk_at dksX0_count_12 12 rfl rfl)
theorem dX0_count_335 : decode cX0_count 335 = .ok (.ishl, 1) := dk_120 (dk_at dksX0_count_12 14 rfl rfl)
theorem dX0_count_336 : decode cX0_count 336 = .ok (.goto 4, 3) := dk_167 0 4 (dk_at dksX0_count_12 15 rfl rfl)
theorem dX0_count_339 : decode cX0_count 339 = .ok (.iconst 0, 1) := dk_3 (dk_at dksX0_count_12 18 rfl rfl)
theorem dX0_count_340 : decode cX0_count 340 = .ok (.ior, 1) := dk_128 (dk_at dksX0_count_12 19 rfl rfl)
theorem dX0_count_341 : decode cX0_count 341 = .ok (.istore 4, 2) := dk_54 4 (dk_at dksX0_count_12 20 rfl rfl)
theorem dX0_count_343 : decode cX0_count 343 = .ok (.iinc 5 1, 3) := dk_132 5 1 (dk_at dksX0_count_13 0 rfl rfl)
theorem dX0_count_346 : decode cX0_count 346 = .ok (.goto (-38), 3) := dk_167 255 218 (dk_at dksX0_count_13 3 rfl rfl)
theorem dX0_count_349 : decode cX0_count 349 = .ok (.iload 4, 2) := dk_21 4 (dk_at dksX0_count_13 6 rfl rfl)
theorem dX0_count_351 : decode cX0_count 351 = .ok (.ireturn, 1) := dk_172 (dk_at dksX0_count_13 8 rfl rfl)
theorem dX0_count_352 : decode cX0_count 352 = .ok (.iconst 0, 1) := dk_3 (dk_at dksX0_count_13 9 rfl rfl)
theorem dX0_count_353 : decode cX0_count 353 = .ok (.istore 5, 2) := dk_54 5 (dk_at dksX0_count_13 10 rfl rfl)
theorem dX0_count_355 : decode cX0_count 355 = .ok (.iload 5, 2) := dk_21 5 (dk_at dksX0_count_13 12 rfl rfl)
theorem dX0_count_357 : decode cX0_count 357 = .ok (.aload_n 0, 1) := dk_42 (dk_at dksX0_count_13 14 rfl rfl)
theorem dX0_count_358 : decode cX0_count 358 = .ok (.invokevirtual 159, 3) := dk_182 0 159 (dk_at dksX0_count_13 15 rfl rfl)
theorem dX0_count_361 : decode cX0_count 361 = .ok (.if_icmp .ge 35, 3) := dk_162 0 35 (dk_at dksX0_count_13 18 rfl rfl)
theorem dX0_count_364 : decode cX0_count 364 = .ok (.iload 4, 2) := dk_21 4 (dk_at dksX0_count_13 21 rfl rfl)
theorem dX0_count_366 : decode cX0_count 366 = .ok (.aload_n 0, 1) := dk_42 (dk_at dksX0_count_13 23 rfl rfl)
theorem dX0_count_367 : decode cX0_count 367 = .ok (.getfield 62, 3) := dk_180 0 62 (dk_at dksX0_count_14 0 rfl rfl)
theorem dX0_count_370 : decode cX0_count 370 = .ok (.getfield 195, 3) := dk_180 0 195 (dk_at dksX0_count_14 3 rfl rfl)
theorem dX0_count_373 : decode cX0_count 373 = .ok (.iload 5, 2) := dk_21 5 (dk_at dksX0_count_14 6 rfl rfl)
theorem dX0_count_375 : decode cX0_count 375 = .ok (.iaload, 1) := dk_46 (dk_at dksX0_count_14 8 rfl rfl)
theorem dX0_count_376 : decode cX0_count 376 = .ok (.ifCond .le 10, 3) := dk_158 0 10 (dk_at dksX0_count_14 9 rfl rfl)
theorem dX0_count_379 : decode cX0_count 379 = .ok (.iconst 1, 1) := dk_4 (dk_at dksX0_count_14 12 rfl rfl)
theorem dX0_count_380 : decode cX0_count 380 = .ok (.iload 5, 2) := dk_21 5 (dk_at dksX0_count_14 13 rfl rfl)
theorem dX0_count_382 : decode cX0_count 382 = .ok (.ishl, 1) := dk_120 (dk_at dksX0_count_14 15 rfl rfl)
theorem dX0_count_383 : decode cX0_count 383 = .ok (.goto 4, 3) := dk_167 0 4 (dk_at dksX0_count_14 16 rfl rfl)
theorem dX0_count_386 : decode cX0_count 386 = .ok (.iconst 0, 1) := dk_3 (dk_at dksX0_count_14 19 rfl rfl)
theorem dX0_count_387 : decode cX0_count 387 = .ok (.ior, 1) := dk_128 (dk_at dksX0_count_14 20 rfl rfl)
theorem dX0_count_388 : decode cX0_count 388 = .ok (.istore 4, 2) := dk_54 4 (dk_at dksX0_count_14 21 rfl rfl)
theorem dX0_count_390 : decode cX0_count 390 = .ok (.iinc 5 1, 3) := dk_132 5 1 (dk_at dksX0_count_15 0 rfl rfl)
theorem dX0_count_393 : decode cX0_count 393 = .ok (.goto (-38), 3) := dk_167 255 218 (dk_at dksX0_count_15 3 rfl rfl)
theorem dX0_count_396 : decode cX0_count 396 = .ok (.iload 4, 2) := dk_21 4 (dk_at dksX0_count_15 6 rfl rfl)
theorem dX0_count_398 : decode cX0_count 398 = .ok (.ireturn, 1) := dk_172 (dk_at dksX0_count_15 8 rfl rfl)
theorem dX0_count_399 : decode cX0_count 399 = .ok (.aload_n 0, 1) := dk_42 (dk_at dksX0_count_15 9 rfl rfl)
theorem dX0_count_400 : decode cX0_count 400 = .ok (.getfield 62, 3) := dk_180 0 62 (dk_at dksX0_count_15 10 rfl rfl)
theorem dX0_count_403 : decode cX0_count 403 = .ok (.getfield 198, 3) := dk_180 0 198 (dk_at dksX0_count_15 13 rfl rfl)
theorem dX0_count_406 : decode cX0_count 406 = .ok (.invokestatic 327, 3) := dk_184 1 71 (dk_at dksX0_count_15 16 rfl rfl)
theorem dX0_count_409 : decode cX0_count 409 = .ok (.ireturn, 1) := dk_172 (dk_at dksX0_count_15 19 rfl rfl)
theorem dX0_count_410 : decode cX0_count 410 = .ok (.iconst (-1), 1) := dk_2 (dk_at dksX0_count_15 20 rfl rfl)
theorem dX0_count_411 : decode cX0_count 411 = .ok (.ireturn, 1) := dk_172 (dk_at dksX0_count_15 21 rfl rfl)
abbrev cX0_sum : ByteArray := prog_1_method_65_code
def yX0_sum : MethodName := ⟨RX0, "sum", "([I)I"⟩
def dkwX0_sum_0 : List UInt8 := [3, 60, 3, 61, 28, 42, 190, 162, 0, 15, 27, 42, 28, 46, 96, 60, 132, 2, 1, 167, 255, 241, 27, 172]
abbrev dktX0_sum_0 : List UInt8 := dkwX0_sum_0 ++ []
theorem dksX0_sum_0 : cX0_sum.data.toList.drop 0 = dktX0_sum_0 := by decide +kernel
theorem dX0_sum_0 : decode cX0_sum 0 = .ok (.iconst 0, 1) := dk_3 (dk_at dksX0_sum_0 0 rfl rfl)
theorem dX0_sum_1 : decode cX0_sum 1 = .ok (.istore_n 1, 1) := dk_60 (dk_at dksX0_sum_0 1 rfl rfl)
theorem dX0_sum_2 : decode cX0_sum 2 = .ok (.iconst 0, 1) := dk_3 (dk_at dksX0_sum_0 2 rfl rfl)
theorem dX0_sum_3 : decode cX0_sum 3 = .ok (.istore_n 2, 1) := dk_61 (dk_at dksX0_sum_0 3 rfl rfl)
theorem dX0_sum_4 : decode cX0_sum 4 = .ok (.iload_n 2, 1) := dk_28 (dk_at dksX0_sum_0 4 rfl rfl)
theorem dX0_sum_5 : decode cX0_sum 5 = .ok (.aload_n 0, 1) := dk_42 (dk_at dksX0_sum_0 5 rfl rfl)
theorem dX0_sum_6 : decode cX0_sum 6 = .ok (.arraylength, 1) := dk_190 (dk_at dksX0_sum_0 6 rfl rfl)
theorem dX0_sum_7 : decode cX0_sum 7 = .ok (.if_icmp .ge 15, 3) := dk_162 0 15 (dk_at dksX0_sum_0 7 rfl rfl)
theorem dX0_sum_10 : decode cX0_sum 10 = .ok (.iload_n 1, 1) := dk_27 (dk_at dksX0_sum_0 10 rfl rfl)
theorem dX0_sum_11 : decode cX0_sum 11 = .ok (.aload_n 0, 1) := dk_42 (dk_at dksX0_sum_0 11 rfl rfl)
theorem dX0_sum_12 : decode cX0_sum 12 = .ok (.iload_n 2, 1) := dk_28 (dk_at dksX0_sum_0 12 rfl rfl)
theorem dX0_sum_13 : decode cX0_sum 13 = .ok (.iaload, 1) := dk_46 (dk_at dksX0_sum_0 13 rfl rfl)
theorem dX0_sum_14 : decode cX0_sum 14 = .ok (.iadd, 1) := dk_96 (dk_at dksX0_sum_0 14 rfl rfl)
theorem dX0_sum_15 : decode cX0_sum 15 = .ok (.istore_n 1, 1) := dk_60 (dk_at dksX0_sum_0 15 rfl rfl)
theorem dX0_sum_16 : decode cX0_sum 16 = .ok (.iinc 2 1, 3) := dk_132 2 1 (dk_at dksX0_sum_0 16 rfl rfl)
theorem dX0_sum_19 : decode cX0_sum 19 = .ok (.goto (-15), 3) := dk_167 255 241 (dk_at dksX0_sum_0 19 rfl rfl)
theorem dX0_sum_22 : decode cX0_sum 22 = .ok (.iload_n 1, 1) := dk_27 (dk_at dksX0_sum_0 22 rfl rfl)
theorem dX0_sum_23 : decode cX0_sum 23 = .ok (.ireturn, 1) := dk_172 (dk_at dksX0_sum_0 23 rfl rfl)
theorem q115 : (Jvm.Cond.initialized "KnockerFaces") ∈ lw_all := lw_g (lw_at lw_m1 1 rfl) rfl
theorem q154 : (Jvm.Cond.instantiable "KnockerFaces" (22 : Nat)) ∈ lw_all := lw_g (lw_at lw_m1 40 rfl) rfl
theorem q156 : (Jvm.Cond.instanceMethod ({ cls := "KnockerFaces", name := "<init>", desc := "()V" } : Jvm.MethodName)) ∈ lw_all := lw_g (lw_at lw_m1 42 rfl) rfl
theorem q157 : (Jvm.Cond.code ({ cls := "KnockerFaces", name := "<init>", desc := "()V" } : Jvm.MethodName) prog_1_method_5_code (2 : Nat) (Option.none : Option Jvm.ClassFile.FieldType)) ∈ lw_all := lw_g (lw_at lw_m1 43 rfl) rfl
theorem q158 : (Jvm.Cond.methodLink "KnockerFaces" (19 : Nat) ({ cls := "java/lang/Object", name := "<init>", desc := "()V" } : Jvm.MethodName)) ∈ lw_all := lw_g (lw_at lw_m1 44 rfl) rfl
theorem q161 : (Jvm.Cond.classLink "KnockerFaces" (25 : Nat) "KnockerFaces$Fault") ∈ lw_all := lw_g (lw_at lw_m1 47 rfl) rfl
theorem q200 : (Jvm.Cond.methodLink "KnockerFaces" (27 : Nat) ({ cls := "KnockerFaces$Fault", name := "<init>", desc := "()V" } : Jvm.MethodName)) ∈ lw_all := lw_g (lw_at lw_m1 86 rfl) rfl
theorem q214 : (Jvm.Cond.fieldLink "KnockerFaces" (142 : Nat) "KnockerFaces$Fault" "number" "I") ∈ lw_all := lw_g (lw_at lw_m1 100 rfl) rfl
theorem q216 : (Jvm.Cond.fieldLink "KnockerFaces" (145 : Nat) "KnockerFaces$Fault" "place" "I") ∈ lw_all := lw_g (lw_at lw_m1 102 rfl) rfl
theorem q235 : (Jvm.Cond.classLink "KnockerFaces" (32 : Nat) "KnockerFaces$Tokens") ∈ lw_all := lw_g (lw_at lw_m1 121 rfl) rfl
theorem q237 : (Jvm.Cond.methodLinkNest "KnockerFaces" (34 : Nat) ({ cls := "KnockerFaces$Tokens", name := "<init>", desc := "()V" } : Jvm.MethodName) "KnockerFaces") ∈ lw_tbl := lw_at lw_m1 123 rfl
theorem q266 : (Jvm.Cond.fieldLink "KnockerFaces" (128 : Nat) "KnockerFaces$Tokens" "tape" "[B") ∈ lw_all := lw_g (lw_at lw_m1 152 rfl) rfl
theorem q268 : (Jvm.Cond.fieldLink "KnockerFaces" (121 : Nat) "KnockerFaces$Tokens" "taped" "I") ∈ lw_all := lw_g (lw_at lw_m1 154 rfl) rfl
theorem q295 : (Jvm.Cond.classLink "KnockerFaces" (39 : Nat) "KnockerFaces$Parser") ∈ lw_all := lw_g (lw_at lw_m1 181 rfl) rfl
theorem q297 : (Jvm.Cond.methodLink "KnockerFaces" (41 : Nat) ({ cls := "KnockerFaces$Parser", name := "<init>", desc := "(LKnockerFaces$Tokens;LKnockerFaces$Fault;)V" } : Jvm.MethodName)) ∈ lw_all := lw_g (lw_at lw_m1 183 rfl) rfl
theorem q323 : (Jvm.Cond.classLink "KnockerFaces" (48 : Nat) "KnockerFaces$Text") ∈ lw_all := lw_g (lw_at lw_m1 209 rfl) rfl
theorem q325 : (Jvm.Cond.methodLinkNest "KnockerFaces" (50 : Nat) ({ cls := "KnockerFaces$Text", name := "<init>", desc := "()V" } : Jvm.MethodName) "KnockerFaces") ∈ lw_tbl := lw_at lw_m1 211 rfl
theorem q360 : (Jvm.Cond.fieldLink "KnockerFaces" (146 : Nat) "KnockerFaces$Text" "doors" "Ljava/util/ArrayList;") ∈ lw_all := lw_g (lw_at lw_m2 6 rfl) rfl
theorem q364 : (Jvm.Cond.fieldLink "KnockerFaces" (156 : Nat) "KnockerFaces$Text" "callers" "Ljava/util/ArrayList;") ∈ lw_all := lw_g (lw_at lw_m2 10 rfl) rfl
theorem q368 : (Jvm.Cond.fieldLink "KnockerFaces" (167 : Nat) "KnockerFaces$Text" "rounds" "Ljava/util/ArrayList;") ∈ lw_all := lw_g (lw_at lw_m2 14 rfl) rfl
theorem q380 : (Jvm.Cond.fieldLink "KnockerFaces" (308 : Nat) "KnockerFaces$Text" "seed" "I") ∈ lw_all := lw_g (lw_at lw_m2 26 rfl) rfl
theorem q396 : (Jvm.Cond.classLink "KnockerFaces" (59 : Nat) "KnockerFaces$Town") ∈ lw_all := lw_g (lw_at lw_m2 42 rfl) rfl
theorem q398 : (Jvm.Cond.methodLinkNest "KnockerFaces" (61 : Nat) ({ cls := "KnockerFaces$Town", name := "<init>", desc := "()V" } : Jvm.MethodName) "KnockerFaces") ∈ lw_tbl := lw_at lw_m2 44 rfl
theorem q423 : (Jvm.Cond.fieldLink "KnockerFaces" (170 : Nat) "KnockerFaces$Town" "face" "[[I") ∈ lw_all := lw_g (lw_at lw_m2 69 rfl) rfl
theorem q425 : (Jvm.Cond.fieldLink "KnockerFaces" (192 : Nat) "KnockerFaces$Town" "lifts" "[I") ∈ lw_all := lw_g (lw_at lw_m2 71 rfl) rfl
theorem q427 : (Jvm.Cond.fieldLink "KnockerFaces" (195 : Nat) "KnockerFaces$Town" "idle" "[I") ∈ lw_all := lw_g (lw_at lw_m2 73 rfl) rfl
theorem q429 : (Jvm.Cond.fieldLink "KnockerFaces" (198 : Nat) "KnockerFaces$Town" "rubbed" "[I") ∈ lw_all := lw_g (lw_at lw_m2 75 rfl) rfl
theorem q431 : (Jvm.Cond.fieldLink "KnockerFaces" (201 : Nat) "KnockerFaces$Town" "money" "[I") ∈ lw_all := lw_g (lw_at lw_m2 77 rfl) rfl
theorem q433 : (Jvm.Cond.fieldLink "KnockerFaces" (218 : Nat) "KnockerFaces$Town" "lifted" "[I") ∈ lw_all := lw_g (lw_at lw_m2 79 rfl) rfl
theorem q435 : (Jvm.Cond.fieldLink "KnockerFaces" (279 : Nat) "KnockerFaces$Town" "kept" "I") ∈ lw_all := lw_g (lw_at lw_m2 81 rfl) rfl
theorem q439 : (Jvm.Cond.fieldLink "KnockerFaces" (241 : Nat) "KnockerFaces$Town" "day" "I") ∈ lw_all := lw_g (lw_at lw_m2 85 rfl) rfl
theorem q442 : (Jvm.Cond.fieldLink "KnockerFaces" (311 : Nat) "KnockerFaces$Town" "seed" "I") ∈ lw_all := lw_g (lw_at lw_m2 88 rfl) rfl
theorem q471 : (Jvm.Cond.classLink "KnockerFaces" (79 : Nat) "KnockerFaces$Drawn") ∈ lw_all := lw_g (lw_at lw_m2 117 rfl) rfl
theorem q473 : (Jvm.Cond.methodLinkNest "KnockerFaces" (81 : Nat) ({ cls := "KnockerFaces$Drawn", name := "<init>", desc := "()V" } : Jvm.MethodName) "KnockerFaces") ∈ lw_tbl := lw_at lw_m2 119 rfl
theorem q481 : (Jvm.Cond.classLink "KnockerFaces" (86 : Nat) "KnockerFaces$Still") ∈ lw_all := lw_g (lw_at lw_m2 127 rfl) rfl
theorem q483 : (Jvm.Cond.methodLinkNest "KnockerFaces" (88 : Nat) ({ cls := "KnockerFaces$Still", name := "<init>", desc := "()V" } : Jvm.MethodName) "KnockerFaces") ∈ lw_tbl := lw_at lw_m2 129 rfl
theorem q488 : (Jvm.Cond.classLink "KnockerFaces" (100 : Nat) "[[I") ∈ lw_all := lw_g (lw_at lw_m2 134 rfl) rfl
theorem q489 : (Jvm.Cond.methodLink "KnockerFaces" (117 : Nat) ({ cls := "KnockerFaces$Town", name := "begins", desc := "(LKnockerFaces$Text;)V" } : Jvm.MethodName)) ∈ lw_all := lw_g (lw_at lw_m2 135 rfl) rfl
theorem q512 : (Jvm.Cond.fieldLink "KnockerFaces" (28 : Nat) "KnockerFaces" "fault" "LKnockerFaces$Fault;") ∈ lw_all := lw_g (lw_at lw_m2 158 rfl) rfl
theorem q513 : (Jvm.Cond.fieldLink "KnockerFaces" (35 : Nat) "KnockerFaces" "tokens" "LKnockerFaces$Tokens;") ∈ lw_all := lw_g (lw_at lw_m2 159 rfl) rfl
theorem q514 : (Jvm.Cond.fieldLink "KnockerFaces" (44 : Nat) "KnockerFaces" "parser" "LKnockerFaces$Parser;") ∈ lw_all := lw_g (lw_at lw_m2 160 rfl) rfl
theorem q515 : (Jvm.Cond.fieldLink "KnockerFaces" (51 : Nat) "KnockerFaces" "text" "LKnockerFaces$Text;") ∈ lw_all := lw_g (lw_at lw_m2 161 rfl) rfl
theorem q516 : (Jvm.Cond.fieldLink "KnockerFaces" (55 : Nat) "KnockerFaces" "place" "I") ∈ lw_all := lw_g (lw_at lw_m2 162 rfl) rfl
theorem q517 : (Jvm.Cond.fieldLink "KnockerFaces" (136 : Nat) "KnockerFaces" "undos" "I") ∈ lw_all := lw_g (lw_at lw_m2 163 rfl) rfl
theorem q518 : (Jvm.Cond.fieldLink "KnockerFaces" (258 : Nat) "KnockerFaces" "undoAt" "I") ∈ lw_all := lw_g (lw_at lw_m2 164 rfl) rfl
theorem q519 : (Jvm.Cond.fieldLink "KnockerFaces" (62 : Nat) "KnockerFaces" "town" "LKnockerFaces$Town;") ∈ lw_all := lw_g (lw_at lw_m2 165 rfl) rfl
theorem q520 : (Jvm.Cond.fieldLink "KnockerFaces" (66 : Nat) "KnockerFaces" "trial" "LKnockerFaces$Town;") ∈ lw_all := lw_g (lw_at lw_m2 166 rfl) rfl
theorem q521 : (Jvm.Cond.fieldLink "KnockerFaces" (69 : Nat) "KnockerFaces" "past" "[LKnockerFaces$Town;") ∈ lw_all := lw_g (lw_at lw_m2 167 rfl) rfl
theorem q522 : (Jvm.Cond.fieldLink "KnockerFaces" (73 : Nat) "KnockerFaces" "slots" "[LKnockerFaces$Town;") ∈ lw_all := lw_g (lw_at lw_m2 168 rfl) rfl
theorem q523 : (Jvm.Cond.fieldLink "KnockerFaces" (76 : Nat) "KnockerFaces" "laid" "[LKnockerFaces$Town;") ∈ lw_all := lw_g (lw_at lw_m2 169 rfl) rfl
theorem q524 : (Jvm.Cond.fieldLink "KnockerFaces" (82 : Nat) "KnockerFaces" "drawn" "LKnockerFaces$Sky;") ∈ lw_all := lw_g (lw_at lw_m2 170 rfl) rfl
theorem q525 : (Jvm.Cond.fieldLink "KnockerFaces" (89 : Nat) "KnockerFaces" "still" "LKnockerFaces$Sky;") ∈ lw_all := lw_g (lw_at lw_m2 171 rfl) rfl
theorem q526 : (Jvm.Cond.fieldLink "KnockerFaces" (92 : Nat) "KnockerFaces" "held" "[Z") ∈ lw_all := lw_g (lw_at lw_m2 172 rfl) rfl
theorem q527 : (Jvm.Cond.fieldLink "KnockerFaces" (96 : Nat) "KnockerFaces" "by" "[I") ∈ lw_all := lw_g (lw_at lw_m2 173 rfl) rfl
theorem q528 : (Jvm.Cond.fieldLink "KnockerFaces" (102 : Nat) "KnockerFaces" "least" "[[I") ∈ lw_all := lw_g (lw_at lw_m2 174 rfl) rfl
theorem q529 : (Jvm.Cond.fieldLink "KnockerFaces" (139 : Nat) "KnockerFaces" "tolds" "I") ∈ lw_all := lw_g (lw_at lw_m2 175 rfl) rfl
theorem q530 : (Jvm.Cond.fieldLink "KnockerFaces" (105 : Nat) "KnockerFaces" "toldDoor" "[I") ∈ lw_all := lw_g (lw_at lw_m2 176 rfl) rfl
theorem q531 : (Jvm.Cond.fieldLink "KnockerFaces" (108 : Nat) "KnockerFaces" "toldPart" "[I") ∈ lw_all := lw_g (lw_at lw_m2 177 rfl) rfl
theorem q532 : (Jvm.Cond.fieldLink "KnockerFaces" (111 : Nat) "KnockerFaces" "toldWay" "[I") ∈ lw_all := lw_g (lw_at lw_m2 178 rfl) rfl
theorem q533 : (Jvm.Cond.fieldLink "KnockerFaces" (114 : Nat) "KnockerFaces" "ways" "[I") ∈ lw_all := lw_g (lw_at lw_m2 179 rfl) rfl
theorem q534 : (Jvm.Cond.laysFinal "KnockerFaces" "KnockerFaces" "fault" "LKnockerFaces$Fault;") ∈ lw_all := lw_g (lw_at lw_m2 180 rfl) rfl
theorem q535 : (Jvm.Cond.soleField "KnockerFaces" "fault") ∈ lw_all := lw_g (lw_at lw_m2 181 rfl) rfl
theorem q536 : (Jvm.Cond.laysFinal "KnockerFaces" "KnockerFaces" "tokens" "LKnockerFaces$Tokens;") ∈ lw_all := lw_g (lw_at lw_m2 182 rfl) rfl
theorem q537 : (Jvm.Cond.soleField "KnockerFaces" "tokens") ∈ lw_all := lw_g (lw_at lw_m2 183 rfl) rfl
theorem q538 : (Jvm.Cond.laysFinal "KnockerFaces" "KnockerFaces" "parser" "LKnockerFaces$Parser;") ∈ lw_all := lw_g (lw_at lw_m2 184 rfl) rfl
theorem q539 : (Jvm.Cond.soleField "KnockerFaces" "parser") ∈ lw_all := lw_g (lw_at lw_m2 185 rfl) rfl
theorem q540 : (Jvm.Cond.lays "KnockerFaces" "KnockerFaces" "text" "LKnockerFaces$Text;") ∈ lw_all := lw_g (lw_at lw_m2 186 rfl) rfl
theorem q541 : (Jvm.Cond.soleField "KnockerFaces" "text") ∈ lw_all := lw_g (lw_at lw_m2 187 rfl) rfl
theorem q542 : (Jvm.Cond.lays "KnockerFaces" "KnockerFaces" "place" "I") ∈ lw_all := lw_g (lw_at lw_m2 188 rfl) rfl
theorem q543 : (Jvm.Cond.soleField "KnockerFaces" "place") ∈ lw_all := lw_g (lw_at lw_m2 189 rfl) rfl
theorem q544 : (Jvm.Cond.lays "KnockerFaces" "KnockerFaces" "undos" "I") ∈ lw_all := lw_g (lw_at lw_m2 190 rfl) rfl
theorem q545 : (Jvm.Cond.soleField "KnockerFaces" "undos") ∈ lw_all := lw_g (lw_at lw_m2 191 rfl) rfl
theorem q546 : (Jvm.Cond.lays "KnockerFaces" "KnockerFaces" "undoAt" "I") ∈ lw_all := lw_g (lw_at lw_m2 192 rfl) rfl
theorem q547 : (Jvm.Cond.soleField "KnockerFaces" "undoAt") ∈ lw_all := lw_g (lw_at lw_m2 193 rfl) rfl
theorem q548 : (Jvm.Cond.laysFinal "KnockerFaces" "KnockerFaces" "town" "LKnockerFaces$Town;") ∈ lw_all := lw_g (lw_at lw_m2 194 rfl) rfl
theorem q549 : (Jvm.Cond.soleField "KnockerFaces" "town") ∈ lw_all := lw_g (lw_at lw_m2 195 rfl) rfl
theorem q550 : (Jvm.Cond.laysFinal "KnockerFaces" "KnockerFaces" "trial" "LKnockerFaces$Town;") ∈ lw_all := lw_g (lw_at lw_m2 196 rfl) rfl
theorem q551 : (Jvm.Cond.soleField "KnockerFaces" "trial") ∈ lw_all := lw_g (lw_at lw_m2 197 rfl) rfl
theorem q552 : (Jvm.Cond.laysFinal "KnockerFaces" "KnockerFaces" "past" "[LKnockerFaces$Town;") ∈ lw_all := lw_g (lw_at lw_m2 198 rfl) rfl
theorem q553 : (Jvm.Cond.soleField "KnockerFaces" "past") ∈ lw_all := lw_g (lw_at lw_m2 199 rfl) rfl
theorem q554 : (Jvm.Cond.laysFinal "KnockerFaces" "KnockerFaces" "slots" "[LKnockerFaces$Town;") ∈ lw_all := lw_g (lw_at lw_m2 200 rfl) rfl
theorem q555 : (Jvm.Cond.soleField "KnockerFaces" "slots") ∈ lw_all := lw_g (lw_at lw_m2 201 rfl) rfl
theorem q556 : (Jvm.Cond.laysFinal "KnockerFaces" "KnockerFaces" "laid" "[LKnockerFaces$Town;") ∈ lw_all := lw_g (lw_at lw_m2 202 rfl) rfl
theorem q557 : (Jvm.Cond.soleField "KnockerFaces" "laid") ∈ lw_all := lw_g (lw_at lw_m2 203 rfl) rfl
theorem q558 : (Jvm.Cond.laysFinal "KnockerFaces" "KnockerFaces" "drawn" "LKnockerFaces$Sky;") ∈ lw_all := lw_g (lw_at lw_m2 204 rfl) rfl
theorem q559 : (Jvm.Cond.soleField "KnockerFaces" "drawn") ∈ lw_all := lw_g (lw_at lw_m2 205 rfl) rfl
theorem q560 : (Jvm.Cond.laysFinal "KnockerFaces" "KnockerFaces" "still" "LKnockerFaces$Sky;") ∈ lw_all := lw_g (lw_at lw_m2 206 rfl) rfl
theorem q561 : (Jvm.Cond.soleField "KnockerFaces" "still") ∈ lw_all := lw_g (lw_at lw_m2 207 rfl) rfl
theorem q562 : (Jvm.Cond.laysFinal "KnockerFaces" "KnockerFaces" "held" "[Z") ∈ lw_all := lw_g (lw_at lw_m2 208 rfl) rfl
theorem q563 : (Jvm.Cond.soleField "KnockerFaces" "held") ∈ lw_all := lw_g (lw_at lw_m2 209 rfl) rfl
theorem q564 : (Jvm.Cond.laysFinal "KnockerFaces" "KnockerFaces" "by" "[I") ∈ lw_all := lw_g (lw_at lw_m2 210 rfl) rfl
theorem q565 : (Jvm.Cond.soleField "KnockerFaces" "by") ∈ lw_all := lw_g (lw_at lw_m2 211 rfl) rfl
theorem q566 : (Jvm.Cond.laysFinal "KnockerFaces" "KnockerFaces" "least" "[[I") ∈ lw_all := lw_g (lw_at lw_m2 212 rfl) rfl
theorem q567 : (Jvm.Cond.soleField "KnockerFaces" "least") ∈ lw_all := lw_g (lw_at lw_m2 213 rfl) rfl
theorem q568 : (Jvm.Cond.lays "KnockerFaces" "KnockerFaces" "tolds" "I") ∈ lw_all := lw_g (lw_at lw_m2 214 rfl) rfl
theorem q569 : (Jvm.Cond.soleField "KnockerFaces" "tolds") ∈ lw_all := lw_g (lw_at lw_m2 215 rfl) rfl
theorem q570 : (Jvm.Cond.laysFinal "KnockerFaces" "KnockerFaces" "toldDoor" "[I") ∈ lw_all := lw_g (lw_at lw_m2 216 rfl) rfl
theorem q571 : (Jvm.Cond.soleField "KnockerFaces" "toldDoor") ∈ lw_all := lw_g (lw_at lw_m2 217 rfl) rfl
theorem q572 : (Jvm.Cond.laysFinal "KnockerFaces" "KnockerFaces" "toldPart" "[I") ∈ lw_all := lw_g (lw_at lw_m2 218 rfl) rfl
theorem q573 : (Jvm.Cond.soleField "KnockerFaces" "toldPart") ∈ lw_all := lw_g (lw_at lw_m2 219 rfl) rfl
theorem q574 : (Jvm.Cond.laysFinal "KnockerFaces" "KnockerFaces" "toldWay" "[I") ∈ lw_all := lw_g (lw_at lw_m2 220 rfl) rfl
theorem q575 : (Jvm.Cond.soleField "KnockerFaces" "toldWay") ∈ lw_all := lw_g (lw_at lw_m2 221 rfl) rfl
theorem q576 : (Jvm.Cond.laysFinal "KnockerFaces" "KnockerFaces" "ways" "[I") ∈ lw_all := lw_g (lw_at lw_m2 222 rfl) rfl
theorem q577 : (Jvm.Cond.soleField "KnockerFaces" "ways") ∈ lw_all := lw_g (lw_at lw_m2 223 rfl) rfl
theorem q578 : (Jvm.Cond.superclass "KnockerFaces" "java/lang/Object") ∈ lw_all := lw_g (lw_at lw_m2 224 rfl) rfl
theorem q581 : (Jvm.Cond.instanceMethod ({ cls := "KnockerFaces", name := "feed", desc := "(IIIII)I" } : Jvm.MethodName)) ∈ lw_all := lw_g (lw_at lw_m2 227 rfl) rfl
theorem q582 : (Jvm.Cond.selects "KnockerFaces" ({ cls := "KnockerFaces", name := "feed", desc := "(IIIII)I" } : Jvm.MethodName) ({ cls := "KnockerFaces", name := "feed", desc := "(IIIII)I" } : Jvm.MethodName)) ∈ lw_all := lw_g (lw_at lw_m2 228 rfl) rfl
theorem q583 : (Jvm.Cond.code ({ cls := "KnockerFaces", name := "feed", desc := "(IIIII)I" } : Jvm.MethodName) prog_1_method_6_code (6 : Nat) (Option.some Jvm.ClassFile.FieldType.int)) ∈ lw_all := lw_g (lw_at lw_m2 229 rfl) rfl
theorem q584 : (Jvm.Cond.methodLink "KnockerFaces" (124 : Nat) ({ cls := "KnockerFaces", name := "typed", desc := "(I)V" } : Jvm.MethodName)) ∈ lw_all := lw_g (lw_at lw_m2 230 rfl) rfl
theorem q585 : (Jvm.Cond.privateMethod ({ cls := "KnockerFaces", name := "typed", desc := "(I)V" } : Jvm.MethodName)) ∈ lw_tbl := lw_at lw_m2 231 rfl
theorem q586 : (Jvm.Cond.instanceMethod ({ cls := "KnockerFaces", name := "typed", desc := "(I)V" } : Jvm.MethodName)) ∈ lw_all := lw_g (lw_at lw_m2 232 rfl) rfl
theorem q587 : (Jvm.Cond.code ({ cls := "KnockerFaces", name := "typed", desc := "(I)V" } : Jvm.MethodName) prog_1_method_7_code (3 : Nat) (Option.none : Option Jvm.ClassFile.FieldType)) ∈ lw_all := lw_g (lw_at lw_m2 233 rfl) rfl
theorem q589 : (Jvm.Cond.instanceMethod ({ cls := "KnockerFaces", name := "back", desc := "(I)I" } : Jvm.MethodName)) ∈ lw_all := lw_g (lw_at lw_m2 235 rfl) rfl
theorem q590 : (Jvm.Cond.selects "KnockerFaces" ({ cls := "KnockerFaces", name := "back", desc := "(I)I" } : Jvm.MethodName) ({ cls := "KnockerFaces", name := "back", desc := "(I)I" } : Jvm.MethodName)) ∈ lw_all := lw_g (lw_at lw_m2 236 rfl) rfl
theorem q591 : (Jvm.Cond.code ({ cls := "KnockerFaces", name := "back", desc := "(I)I" } : Jvm.MethodName) prog_1_method_8_code (2 : Nat) (Option.some Jvm.ClassFile.FieldType.int)) ∈ lw_all := lw_g (lw_at lw_m2 237 rfl) rfl
theorem q593 : (Jvm.Cond.instanceMethod ({ cls := "KnockerFaces", name := "read", desc := "()I" } : Jvm.MethodName)) ∈ lw_all := lw_g (lw_at lw_m2 239 rfl) rfl
theorem q594 : (Jvm.Cond.selects "KnockerFaces" ({ cls := "KnockerFaces", name := "read", desc := "()I" } : Jvm.MethodName) ({ cls := "KnockerFaces", name := "read", desc := "()I" } : Jvm.MethodName)) ∈ lw_all := lw_g (lw_at lw_m3 0 rfl) rfl
theorem q595 : (Jvm.Cond.codeWith ({ cls := "KnockerFaces", name := "read", desc := "()I" } : Jvm.MethodName) prog_1_method_9_code (3 : Nat) (Option.some Jvm.ClassFile.FieldType.int) [((7 : Nat), (59 : Nat), (62 : Nat), (25 : Nat))]) ∈ lw_all := lw_g (lw_at lw_m3 1 rfl) rfl
theorem q596 : (Jvm.Cond.methodLink "KnockerFaces" (132 : Nat) ({ cls := "KnockerFaces$Parser", name := "read", desc := "()LKnockerFaces$Text;" } : Jvm.MethodName)) ∈ lw_all := lw_g (lw_at lw_m3 2 rfl) rfl
theorem q1018 : (Jvm.Cond.fieldLink "KnockerFaces" (179 : Nat) "KnockerFaces$Door" "face" "[I") ∈ lw_all := lw_g (lw_at lw_m4 184 rfl) rfl
theorem q1019 : (Jvm.Cond.fieldLink "KnockerFaces" (217 : Nat) "KnockerFaces$Caller" "face" "[I") ∈ lw_all := lw_g (lw_at lw_m4 185 rfl) rfl
theorem q1056 : (Jvm.Cond.selects "KnockerFaces" ({ cls := "java/lang/Object", name := "getClass", desc := "()Ljava/lang/Class;" } : Jvm.MethodName) ({ cls := "java/lang/Object", name := "getClass", desc := "()Ljava/lang/Class;" } : Jvm.MethodName)) ∈ lw_all := lw_g (lw_at lw_m4 222 rfl) rfl
theorem q1102 : (Jvm.Cond.fieldLink "KnockerFaces" (226 : Nat) "KnockerFaces$Round" "caller" "I") ∈ lw_all := lw_g (lw_at lw_m5 28 rfl) rfl
theorem q1105 : (Jvm.Cond.fieldLink "KnockerFaces" (229 : Nat) "KnockerFaces$Round" "door" "I") ∈ lw_all := lw_g (lw_at lw_m5 31 rfl) rfl
theorem q1108 : (Jvm.Cond.fieldLink "KnockerFaces" (232 : Nat) "KnockerFaces$Round" "every" "I") ∈ lw_all := lw_g (lw_at lw_m5 34 rfl) rfl
theorem q1111 : (Jvm.Cond.fieldLink "KnockerFaces" (235 : Nat) "KnockerFaces$Round" "from" "I") ∈ lw_all := lw_g (lw_at lw_m5 37 rfl) rfl
theorem q1127 : (Jvm.Cond.instanceMethod ({ cls := "KnockerFaces", name := "place", desc := "()I" } : Jvm.MethodName)) ∈ lw_all := lw_g (lw_at lw_m5 53 rfl) rfl
theorem q1128 : (Jvm.Cond.selects "KnockerFaces" ({ cls := "KnockerFaces", name := "place", desc := "()I" } : Jvm.MethodName) ({ cls := "KnockerFaces", name := "place", desc := "()I" } : Jvm.MethodName)) ∈ lw_all := lw_g (lw_at lw_m5 54 rfl) rfl
theorem q1129 : (Jvm.Cond.code ({ cls := "KnockerFaces", name := "place", desc := "()I" } : Jvm.MethodName) prog_1_method_10_code (1 : Nat) (Option.some Jvm.ClassFile.FieldType.int)) ∈ lw_all := lw_g (lw_at lw_m5 55 rfl) rfl
theorem q1131 : (Jvm.Cond.instanceMethod ({ cls := "KnockerFaces", name := "door", desc := "(II)I" } : Jvm.MethodName)) ∈ lw_all := lw_g (lw_at lw_m5 57 rfl) rfl
theorem q1132 : (Jvm.Cond.selects "KnockerFaces" ({ cls := "KnockerFaces", name := "door", desc := "(II)I" } : Jvm.MethodName) ({ cls := "KnockerFaces", name := "door", desc := "(II)I" } : Jvm.MethodName)) ∈ lw_all := lw_g (lw_at lw_m5 58 rfl) rfl
theorem q1133 : (Jvm.Cond.code ({ cls := "KnockerFaces", name := "door", desc := "(II)I" } : Jvm.MethodName) prog_1_method_20_code (3 : Nat) (Option.some Jvm.ClassFile.FieldType.int)) ∈ lw_all := lw_g (lw_at lw_m5 59 rfl) rfl
theorem q1134 : (Jvm.Cond.methodLink "KnockerFaces" (185 : Nat) ({ cls := "KnockerFaces", name := "isDoor", desc := "(I)Z" } : Jvm.MethodName)) ∈ lw_all := lw_g (lw_at lw_m5 60 rfl) rfl
theorem q1135 : (Jvm.Cond.privateMethod ({ cls := "KnockerFaces", name := "isDoor", desc := "(I)Z" } : Jvm.MethodName)) ∈ lw_tbl := lw_at lw_m5 61 rfl
theorem q1136 : (Jvm.Cond.instanceMethod ({ cls := "KnockerFaces", name := "isDoor", desc := "(I)Z" } : Jvm.MethodName)) ∈ lw_all := lw_g (lw_at lw_m5 62 rfl) rfl
theorem q1137 : (Jvm.Cond.code ({ cls := "KnockerFaces", name := "isDoor", desc := "(I)Z" } : Jvm.MethodName) prog_1_method_14_code (2 : Nat) (Option.some Jvm.ClassFile.FieldType.boolean)) ∈ lw_all := lw_g (lw_at lw_m5 63 rfl) rfl
theorem q1138 : (Jvm.Cond.methodLink "KnockerFaces" (159 : Nat) ({ cls := "KnockerFaces", name := "doors", desc := "()I" } : Jvm.MethodName)) ∈ lw_all := lw_g (lw_at lw_m5 64 rfl) rfl
theorem q1139 : (Jvm.Cond.privateMethod ({ cls := "KnockerFaces", name := "doors", desc := "()I" } : Jvm.MethodName)) ∈ lw_tbl := lw_at lw_m5 65 rfl
theorem q1140 : (Jvm.Cond.instanceMethod ({ cls := "KnockerFaces", name := "doors", desc := "()I" } : Jvm.MethodName)) ∈ lw_all := lw_g (lw_at lw_m5 66 rfl) rfl
theorem q1141 : (Jvm.Cond.code ({ cls := "KnockerFaces", name := "doors", desc := "()I" } : Jvm.MethodName) prog_1_method_12_code (1 : Nat) (Option.some Jvm.ClassFile.FieldType.int)) ∈ lw_all := lw_g (lw_at lw_m5 67 rfl) rfl
theorem q1142 : (Jvm.Cond.methodLink "KnockerFaces" (150 : Nat) ({ cls := "java/util/ArrayList", name := "size", desc := "()I" } : Jvm.MethodName)) ∈ lw_all := lw_g (lw_at lw_m5 68 rfl) rfl
theorem q1143 : (Jvm.Cond.methodLink "KnockerFaces" (161 : Nat) ({ cls := "KnockerFaces", name := "isIn", desc := "(III)Z" } : Jvm.MethodName)) ∈ lw_all := lw_g (lw_at lw_m5 69 rfl) rfl
theorem q1144 : (Jvm.Cond.static ({ cls := "KnockerFaces", name := "isIn", desc := "(III)Z" } : Jvm.MethodName)) ∈ lw_all := lw_g (lw_at lw_m5 70 rfl) rfl
theorem q1145 : (Jvm.Cond.code ({ cls := "KnockerFaces", name := "isIn", desc := "(III)Z" } : Jvm.MethodName) prog_1_method_11_code (3 : Nat) (Option.some Jvm.ClassFile.FieldType.boolean)) ∈ lw_all := lw_g (lw_at lw_m5 71 rfl) rfl
theorem q1146 : (Jvm.Cond.methodLink "KnockerFaces" (189 : Nat) ({ cls := "KnockerFaces", name := "isPart", desc := "(I)Z" } : Jvm.MethodName)) ∈ lw_all := lw_g (lw_at lw_m5 72 rfl) rfl
theorem q1147 : (Jvm.Cond.static ({ cls := "KnockerFaces", name := "isPart", desc := "(I)Z" } : Jvm.MethodName)) ∈ lw_all := lw_g (lw_at lw_m5 73 rfl) rfl
theorem q1148 : (Jvm.Cond.code ({ cls := "KnockerFaces", name := "isPart", desc := "(I)Z" } : Jvm.MethodName) prog_1_method_17_code (1 : Nat) (Option.some Jvm.ClassFile.FieldType.boolean)) ∈ lw_all := lw_g (lw_at lw_m5 74 rfl) rfl
theorem q1149 : (Jvm.Cond.methodLink "KnockerFaces" (204 : Nat) ({ cls := "KnockerFaces$Town", name := "known", desc := "(LKnockerFaces$Text;I)I" } : Jvm.MethodName)) ∈ lw_all := lw_g (lw_at lw_m5 75 rfl) rfl
theorem q1160 : (Jvm.Cond.static ({ cls := "KnockerFaces", name := "unlikeOf", desc := "([I[I)I" } : Jvm.MethodName)) ∈ lw_all := lw_g (lw_at lw_m5 86 rfl) rfl
theorem q1161 : (Jvm.Cond.code ({ cls := "KnockerFaces", name := "unlikeOf", desc := "([I[I)I" } : Jvm.MethodName) prog_1_method_3_code (4 : Nat) (Option.some Jvm.ClassFile.FieldType.int)) ∈ lw_all := lw_g (lw_at lw_m5 87 rfl) rfl
theorem q1162 : (Jvm.Cond.methodLink "KnockerFaces" (8 : Nat) ({ cls := "java/lang/Math", name := "abs", desc := "(I)I" } : Jvm.MethodName)) ∈ lw_all := lw_g (lw_at lw_m5 88 rfl) rfl
theorem q1165 : (Jvm.Cond.methodLink "KnockerFaces" (208 : Nat) ({ cls := "KnockerFaces", name := "worn", desc := "(LKnockerFaces$Town;I)I" } : Jvm.MethodName)) ∈ lw_all := lw_g (lw_at lw_m5 91 rfl) rfl
theorem q1166 : (Jvm.Cond.privateMethod ({ cls := "KnockerFaces", name := "worn", desc := "(LKnockerFaces$Town;I)I" } : Jvm.MethodName)) ∈ lw_tbl := lw_at lw_m5 92 rfl
theorem q1167 : (Jvm.Cond.instanceMethod ({ cls := "KnockerFaces", name := "worn", desc := "(LKnockerFaces$Town;I)I" } : Jvm.MethodName)) ∈ lw_all := lw_g (lw_at lw_m5 93 rfl) rfl
theorem q1168 : (Jvm.Cond.code ({ cls := "KnockerFaces", name := "worn", desc := "(LKnockerFaces$Town;I)I" } : Jvm.MethodName) prog_1_method_19_code (3 : Nat) (Option.some Jvm.ClassFile.FieldType.int)) ∈ lw_all := lw_g (lw_at lw_m5 94 rfl) rfl
theorem q1169 : (Jvm.Cond.methodLink "KnockerFaces" (173 : Nat) ({ cls := "java/util/ArrayList", name := "get", desc := "(I)Ljava/lang/Object;" } : Jvm.MethodName)) ∈ lw_all := lw_g (lw_at lw_m5 95 rfl) rfl
theorem q1170 : (Jvm.Cond.classLink "KnockerFaces" (177 : Nat) "KnockerFaces$Door") ∈ lw_all := lw_g (lw_at lw_m5 96 rfl) rfl
theorem q1171 : (Jvm.Cond.methodLink "KnockerFaces" (181 : Nat) ({ cls := "KnockerFaces", name := "unlikeOf", desc := "([I[I)I" } : Jvm.MethodName)) ∈ lw_all := lw_g (lw_at lw_m5 97 rfl) rfl
theorem q1173 : (Jvm.Cond.instanceMethod ({ cls := "KnockerFaces", name := "caller", desc := "(II)I" } : Jvm.MethodName)) ∈ lw_all := lw_g (lw_at lw_m5 99 rfl) rfl
theorem q1174 : (Jvm.Cond.selects "KnockerFaces" ({ cls := "KnockerFaces", name := "caller", desc := "(II)I" } : Jvm.MethodName) ({ cls := "KnockerFaces", name := "caller", desc := "(II)I" } : Jvm.MethodName)) ∈ lw_all := lw_g (lw_at lw_m5 100 rfl) rfl
theorem q1175 : (Jvm.Cond.code ({ cls := "KnockerFaces", name := "caller", desc := "(II)I" } : Jvm.MethodName) prog_1_method_21_code (5 : Nat) (Option.some Jvm.ClassFile.FieldType.int)) ∈ lw_all := lw_g (lw_at lw_m5 101 rfl) rfl
theorem q1176 : (Jvm.Cond.methodLink "KnockerFaces" (212 : Nat) ({ cls := "KnockerFaces", name := "isCaller", desc := "(I)Z" } : Jvm.MethodName)) ∈ lw_all := lw_g (lw_at lw_m5 102 rfl) rfl
theorem q1177 : (Jvm.Cond.privateMethod ({ cls := "KnockerFaces", name := "isCaller", desc := "(I)Z" } : Jvm.MethodName)) ∈ lw_tbl := lw_at lw_m5 103 rfl
theorem q1178 : (Jvm.Cond.instanceMethod ({ cls := "KnockerFaces", name := "isCaller", desc := "(I)Z" } : Jvm.MethodName)) ∈ lw_all := lw_g (lw_at lw_m5 104 rfl) rfl
theorem q1179 : (Jvm.Cond.code ({ cls := "KnockerFaces", name := "isCaller", desc := "(I)Z" } : Jvm.MethodName) prog_1_method_15_code (2 : Nat) (Option.some Jvm.ClassFile.FieldType.boolean)) ∈ lw_all := lw_g (lw_at lw_m5 105 rfl) rfl
theorem q1180 : (Jvm.Cond.methodLink "KnockerFaces" (165 : Nat) ({ cls := "KnockerFaces", name := "callers", desc := "()I" } : Jvm.MethodName)) ∈ lw_all := lw_g (lw_at lw_m5 106 rfl) rfl
theorem q1181 : (Jvm.Cond.privateMethod ({ cls := "KnockerFaces", name := "callers", desc := "()I" } : Jvm.MethodName)) ∈ lw_tbl := lw_at lw_m5 107 rfl
theorem q1182 : (Jvm.Cond.instanceMethod ({ cls := "KnockerFaces", name := "callers", desc := "()I" } : Jvm.MethodName)) ∈ lw_all := lw_g (lw_at lw_m5 108 rfl) rfl
theorem q1183 : (Jvm.Cond.code ({ cls := "KnockerFaces", name := "callers", desc := "()I" } : Jvm.MethodName) prog_1_method_13_code (1 : Nat) (Option.some Jvm.ClassFile.FieldType.int)) ∈ lw_all := lw_g (lw_at lw_m5 109 rfl) rfl
theorem q1184 : (Jvm.Cond.classLink "KnockerFaces" (215 : Nat) "KnockerFaces$Caller") ∈ lw_all := lw_g (lw_at lw_m5 110 rfl) rfl
theorem q1186 : (Jvm.Cond.instanceMethod ({ cls := "KnockerFaces", name := "round", desc := "(II)I" } : Jvm.MethodName)) ∈ lw_all := lw_g (lw_at lw_m5 112 rfl) rfl
theorem q1187 : (Jvm.Cond.selects "KnockerFaces" ({ cls := "KnockerFaces", name := "round", desc := "(II)I" } : Jvm.MethodName) ({ cls := "KnockerFaces", name := "round", desc := "(II)I" } : Jvm.MethodName)) ∈ lw_all := lw_g (lw_at lw_m5 113 rfl) rfl
theorem q1188 : (Jvm.Cond.code ({ cls := "KnockerFaces", name := "round", desc := "(II)I" } : Jvm.MethodName) prog_1_method_22_code (4 : Nat) (Option.some Jvm.ClassFile.FieldType.int)) ∈ lw_all := lw_g (lw_at lw_m5 114 rfl) rfl
theorem q1189 : (Jvm.Cond.methodLink "KnockerFaces" (221 : Nat) ({ cls := "KnockerFaces", name := "isRound", desc := "(I)Z" } : Jvm.MethodName)) ∈ lw_all := lw_g (lw_at lw_m5 115 rfl) rfl
theorem q1190 : (Jvm.Cond.privateMethod ({ cls := "KnockerFaces", name := "isRound", desc := "(I)Z" } : Jvm.MethodName)) ∈ lw_tbl := lw_at lw_m5 116 rfl
theorem q1191 : (Jvm.Cond.instanceMethod ({ cls := "KnockerFaces", name := "isRound", desc := "(I)Z" } : Jvm.MethodName)) ∈ lw_all := lw_g (lw_at lw_m5 117 rfl) rfl
theorem q1192 : (Jvm.Cond.code ({ cls := "KnockerFaces", name := "isRound", desc := "(I)Z" } : Jvm.MethodName) prog_1_method_16_code (2 : Nat) (Option.some Jvm.ClassFile.FieldType.boolean)) ∈ lw_all := lw_g (lw_at lw_m5 118 rfl) rfl
theorem q1193 : (Jvm.Cond.classLink "KnockerFaces" (224 : Nat) "KnockerFaces$Round") ∈ lw_all := lw_g (lw_at lw_m5 119 rfl) rfl
theorem q1194 : (Jvm.Cond.methodLink "KnockerFaces" (238 : Nat) ({ cls := "KnockerFaces$Town", name := "isKept", desc := "(I)Z" } : Jvm.MethodName)) ∈ lw_all := lw_g (lw_at lw_m5 120 rfl) rfl
theorem q1198 : (Jvm.Cond.methodLink "KnockerFaces" (244 : Nat) ({ cls := "KnockerFaces$Round", name := "isDue", desc := "(I)Z" } : Jvm.MethodName)) ∈ lw_all := lw_g (lw_at lw_m5 124 rfl) rfl
theorem q1203 : (Jvm.Cond.instanceMethod ({ cls := "KnockerFaces", name := "unlike", desc := "(II)I" } : Jvm.MethodName)) ∈ lw_all := lw_g (lw_at lw_m5 129 rfl) rfl
theorem q1204 : (Jvm.Cond.selects "KnockerFaces" ({ cls := "KnockerFaces", name := "unlike", desc := "(II)I" } : Jvm.MethodName) ({ cls := "KnockerFaces", name := "unlike", desc := "(II)I" } : Jvm.MethodName)) ∈ lw_all := lw_g (lw_at lw_m5 130 rfl) rfl
theorem q1205 : (Jvm.Cond.code ({ cls := "KnockerFaces", name := "unlike", desc := "(II)I" } : Jvm.MethodName) prog_1_method_23_code (3 : Nat) (Option.some Jvm.ClassFile.FieldType.int)) ∈ lw_all := lw_g (lw_at lw_m5 131 rfl) rfl
theorem q1206 : (Jvm.Cond.methodLink "KnockerFaces" (247 : Nat) ({ cls := "KnockerFaces$Town", name := "unlike", desc := "(LKnockerFaces$Text;II)I" } : Jvm.MethodName)) ∈ lw_all := lw_g (lw_at lw_m5 132 rfl) rfl
theorem q1208 : (Jvm.Cond.instanceMethod ({ cls := "KnockerFaces", name := "tells", desc := "(III)I" } : Jvm.MethodName)) ∈ lw_all := lw_g (lw_at lw_m5 134 rfl) rfl
theorem q1209 : (Jvm.Cond.selects "KnockerFaces" ({ cls := "KnockerFaces", name := "tells", desc := "(III)I" } : Jvm.MethodName) ({ cls := "KnockerFaces", name := "tells", desc := "(III)I" } : Jvm.MethodName)) ∈ lw_all := lw_g (lw_at lw_m5 135 rfl) rfl
theorem q1210 : (Jvm.Cond.code ({ cls := "KnockerFaces", name := "tells", desc := "(III)I" } : Jvm.MethodName) prog_1_method_24_code (4 : Nat) (Option.some Jvm.ClassFile.FieldType.int)) ∈ lw_all := lw_g (lw_at lw_m5 136 rfl) rfl
theorem q1211 : (Jvm.Cond.methodLink "KnockerFaces" (251 : Nat) ({ cls := "KnockerFaces$Town", name := "pays", desc := "(LKnockerFaces$Text;II)I" } : Jvm.MethodName)) ∈ lw_all := lw_g (lw_at lw_m5 137 rfl) rfl
theorem q1238 : (Jvm.Cond.methodLink "KnockerFaces" (254 : Nat) ({ cls := "KnockerFaces$Town", name := "gives", desc := "(LKnockerFaces$Text;III)I" } : Jvm.MethodName)) ∈ lw_all := lw_g (lw_at lw_m5 164 rfl) rfl
theorem q1248 : (Jvm.Cond.instanceMethod ({ cls := "KnockerFaces", name := "lift", desc := "(II)Z" } : Jvm.MethodName)) ∈ lw_all := lw_g (lw_at lw_m5 174 rfl) rfl
theorem q1249 : (Jvm.Cond.selects "KnockerFaces" ({ cls := "KnockerFaces", name := "lift", desc := "(II)Z" } : Jvm.MethodName) ({ cls := "KnockerFaces", name := "lift", desc := "(II)Z" } : Jvm.MethodName)) ∈ lw_all := lw_g (lw_at lw_m5 175 rfl) rfl
theorem q1250 : (Jvm.Cond.code ({ cls := "KnockerFaces", name := "lift", desc := "(II)Z" } : Jvm.MethodName) prog_1_method_26_code (3 : Nat) (Option.some Jvm.ClassFile.FieldType.boolean)) ∈ lw_all := lw_g (lw_at lw_m5 176 rfl) rfl
theorem q1251 : (Jvm.Cond.methodLink "KnockerFaces" (268 : Nat) ({ cls := "KnockerFaces", name := "keeps", desc := "()V" } : Jvm.MethodName)) ∈ lw_all := lw_g (lw_at lw_m5 177 rfl) rfl
theorem q1252 : (Jvm.Cond.privateMethod ({ cls := "KnockerFaces", name := "keeps", desc := "()V" } : Jvm.MethodName)) ∈ lw_tbl := lw_at lw_m5 178 rfl
theorem q1253 : (Jvm.Cond.instanceMethod ({ cls := "KnockerFaces", name := "keeps", desc := "()V" } : Jvm.MethodName)) ∈ lw_all := lw_g (lw_at lw_m5 179 rfl) rfl
theorem q1254 : (Jvm.Cond.code ({ cls := "KnockerFaces", name := "keeps", desc := "()V" } : Jvm.MethodName) prog_1_method_25_code (1 : Nat) (Option.none : Option Jvm.ClassFile.FieldType)) ∈ lw_all := lw_g (lw_at lw_m5 180 rfl) rfl
theorem q1255 : (Jvm.Cond.methodLink "KnockerFaces" (261 : Nat) ({ cls := "KnockerFaces$Town", name := "takes", desc := "(LKnockerFaces$Town;)V" } : Jvm.MethodName)) ∈ lw_all := lw_g (lw_at lw_m5 181 rfl) rfl
theorem q1263 : (Jvm.Cond.methodLink "KnockerFaces" (265 : Nat) ({ cls := "java/lang/Math", name := "min", desc := "(II)I" } : Jvm.MethodName)) ∈ lw_all := lw_g (lw_at lw_m5 189 rfl) rfl
theorem q1264 : (Jvm.Cond.methodLink "KnockerFaces" (271 : Nat) ({ cls := "KnockerFaces$Town", name := "lift", desc := "(LKnockerFaces$Text;II)V" } : Jvm.MethodName)) ∈ lw_all := lw_g (lw_at lw_m5 190 rfl) rfl
theorem q1276 : (Jvm.Cond.static ({ cls := "KnockerFaces", name := "towardsBy", desc := "(III)I" } : Jvm.MethodName)) ∈ lw_all := lw_g (lw_at lw_m5 202 rfl) rfl
theorem q1277 : (Jvm.Cond.code ({ cls := "KnockerFaces", name := "towardsBy", desc := "(III)I" } : Jvm.MethodName) prog_1_method_4_code (3 : Nat) (Option.some Jvm.ClassFile.FieldType.int)) ∈ lw_all := lw_g (lw_at lw_m5 203 rfl) rfl
theorem q1278 : (Jvm.Cond.methodLink "KnockerFaces" (14 : Nat) ({ cls := "java/lang/Integer", name := "signum", desc := "(I)I" } : Jvm.MethodName)) ∈ lw_all := lw_g (lw_at lw_m5 204 rfl) rfl
theorem q1282 : (Jvm.Cond.instanceMethod ({ cls := "KnockerFaces", name := "polish", desc := "(I)Z" } : Jvm.MethodName)) ∈ lw_all := lw_g (lw_at lw_m5 208 rfl) rfl
theorem q1283 : (Jvm.Cond.selects "KnockerFaces" ({ cls := "KnockerFaces", name := "polish", desc := "(I)Z" } : Jvm.MethodName) ({ cls := "KnockerFaces", name := "polish", desc := "(I)Z" } : Jvm.MethodName)) ∈ lw_all := lw_g (lw_at lw_m5 209 rfl) rfl
theorem q1284 : (Jvm.Cond.code ({ cls := "KnockerFaces", name := "polish", desc := "(I)Z" } : Jvm.MethodName) prog_1_method_27_code (2 : Nat) (Option.some Jvm.ClassFile.FieldType.boolean)) ∈ lw_all := lw_g (lw_at lw_m5 210 rfl) rfl
theorem q1285 : (Jvm.Cond.methodLink "KnockerFaces" (275 : Nat) ({ cls := "KnockerFaces$Town", name := "polish", desc := "(LKnockerFaces$Text;I)V" } : Jvm.MethodName)) ∈ lw_all := lw_g (lw_at lw_m5 211 rfl) rfl
theorem q1290 : (Jvm.Cond.instanceMethod ({ cls := "KnockerFaces", name := "file", desc := "(II)Z" } : Jvm.MethodName)) ∈ lw_all := lw_g (lw_at lw_m5 216 rfl) rfl
theorem q1291 : (Jvm.Cond.selects "KnockerFaces" ({ cls := "KnockerFaces", name := "file", desc := "(II)Z" } : Jvm.MethodName) ({ cls := "KnockerFaces", name := "file", desc := "(II)Z" } : Jvm.MethodName)) ∈ lw_all := lw_g (lw_at lw_m5 217 rfl) rfl
theorem q1292 : (Jvm.Cond.code ({ cls := "KnockerFaces", name := "file", desc := "(II)Z" } : Jvm.MethodName) prog_1_method_28_code (3 : Nat) (Option.some Jvm.ClassFile.FieldType.boolean)) ∈ lw_all := lw_g (lw_at lw_m5 218 rfl) rfl
theorem q1294 : (Jvm.Cond.instanceMethod ({ cls := "KnockerFaces", name := "keep", desc := "(IZ)Z" } : Jvm.MethodName)) ∈ lw_all := lw_g (lw_at lw_m5 220 rfl) rfl
theorem q1295 : (Jvm.Cond.selects "KnockerFaces" ({ cls := "KnockerFaces", name := "keep", desc := "(IZ)Z" } : Jvm.MethodName) ({ cls := "KnockerFaces", name := "keep", desc := "(IZ)Z" } : Jvm.MethodName)) ∈ lw_all := lw_g (lw_at lw_m5 221 rfl) rfl
theorem q1296 : (Jvm.Cond.code ({ cls := "KnockerFaces", name := "keep", desc := "(IZ)Z" } : Jvm.MethodName) prog_1_method_29_code (3 : Nat) (Option.some Jvm.ClassFile.FieldType.boolean)) ∈ lw_all := lw_g (lw_at lw_m5 222 rfl) rfl
theorem q1298 : (Jvm.Cond.instanceMethod ({ cls := "KnockerFaces", name := "days", desc := "(I)I" } : Jvm.MethodName)) ∈ lw_all := lw_g (lw_at lw_m5 224 rfl) rfl
theorem q1299 : (Jvm.Cond.selects "KnockerFaces" ({ cls := "KnockerFaces", name := "days", desc := "(I)I" } : Jvm.MethodName) ({ cls := "KnockerFaces", name := "days", desc := "(I)I" } : Jvm.MethodName)) ∈ lw_all := lw_g (lw_at lw_m5 225 rfl) rfl
theorem q1300 : (Jvm.Cond.code ({ cls := "KnockerFaces", name := "days", desc := "(I)I" } : Jvm.MethodName) prog_1_method_31_code (2 : Nat) (Option.some Jvm.ClassFile.FieldType.int)) ∈ lw_all := lw_g (lw_at lw_m5 226 rfl) rfl
theorem q1301 : (Jvm.Cond.methodLink "KnockerFaces" (286 : Nat) ({ cls := "KnockerFaces", name := "isAhead", desc := "(I)Z" } : Jvm.MethodName)) ∈ lw_all := lw_g (lw_at lw_m5 227 rfl) rfl
theorem q1302 : (Jvm.Cond.static ({ cls := "KnockerFaces", name := "isAhead", desc := "(I)Z" } : Jvm.MethodName)) ∈ lw_all := lw_g (lw_at lw_m5 228 rfl) rfl
theorem q1303 : (Jvm.Cond.code ({ cls := "KnockerFaces", name := "isAhead", desc := "(I)Z" } : Jvm.MethodName) prog_1_method_18_code (1 : Nat) (Option.some Jvm.ClassFile.FieldType.boolean)) ∈ lw_all := lw_g (lw_at lw_m5 229 rfl) rfl
theorem q1304 : (Jvm.Cond.methodLink "KnockerFaces" (289 : Nat) ({ cls := "KnockerFaces", name := "runs", desc := "(LKnockerFaces$Town;ILKnockerFaces$Sky;)V" } : Jvm.MethodName)) ∈ lw_all := lw_g (lw_at lw_m5 230 rfl) rfl
theorem q1305 : (Jvm.Cond.privateMethod ({ cls := "KnockerFaces", name := "runs", desc := "(LKnockerFaces$Town;ILKnockerFaces$Sky;)V" } : Jvm.MethodName)) ∈ lw_tbl := lw_at lw_m5 231 rfl
theorem q1306 : (Jvm.Cond.instanceMethod ({ cls := "KnockerFaces", name := "runs", desc := "(LKnockerFaces$Town;ILKnockerFaces$Sky;)V" } : Jvm.MethodName)) ∈ lw_all := lw_g (lw_at lw_m5 232 rfl) rfl
theorem q1307 : (Jvm.Cond.code ({ cls := "KnockerFaces", name := "runs", desc := "(LKnockerFaces$Town;ILKnockerFaces$Sky;)V" } : Jvm.MethodName) prog_1_method_30_code (5 : Nat) (Option.none : Option Jvm.ClassFile.FieldType)) ∈ lw_all := lw_g (lw_at lw_m5 233 rfl) rfl
theorem q1308 : (Jvm.Cond.methodLink "KnockerFaces" (282 : Nat) ({ cls := "KnockerFaces$Town", name := "goesBy", desc := "(LKnockerFaces$Text;LKnockerFaces$Sky;)V" } : Jvm.MethodName)) ∈ lw_all := lw_g (lw_at lw_m5 234 rfl) rfl
theorem q1327 : (Jvm.Cond.static ({ cls := "KnockerFaces", name := "lot", desc := "(III)I" } : Jvm.MethodName)) ∈ lw_all := lw_g (lw_at lw_m6 13 rfl) rfl
theorem q1328 : (Jvm.Cond.code ({ cls := "KnockerFaces", name := "lot", desc := "(III)I" } : Jvm.MethodName) prog_1_method_2_code (3 : Nat) (Option.some Jvm.ClassFile.FieldType.int)) ∈ lw_all := lw_g (lw_at lw_m6 14 rfl) rfl
theorem q1329 : (Jvm.Cond.methodLink "KnockerFaces" (2 : Nat) ({ cls := "KnockerFaces", name := "mixed", desc := "(II)I" } : Jvm.MethodName)) ∈ lw_all := lw_g (lw_at lw_m6 15 rfl) rfl
theorem q1330 : (Jvm.Cond.static ({ cls := "KnockerFaces", name := "mixed", desc := "(II)I" } : Jvm.MethodName)) ∈ lw_all := lw_g (lw_at lw_m6 16 rfl) rfl
theorem q1331 : (Jvm.Cond.code ({ cls := "KnockerFaces", name := "mixed", desc := "(II)I" } : Jvm.MethodName) prog_1_method_1_code (3 : Nat) (Option.some Jvm.ClassFile.FieldType.int)) ∈ lw_all := lw_g (lw_at lw_m6 17 rfl) rfl
theorem q1332 : (Jvm.Cond.constant "KnockerFaces" (1 : Nat) (1103515245 : Int32)) ∈ lw_all := lw_g (lw_at lw_m6 18 rfl) rfl
theorem q1344 : (Jvm.Cond.instanceMethod ({ cls := "KnockerFaces", name := "undo", desc := "()Z" } : Jvm.MethodName)) ∈ lw_all := lw_g (lw_at lw_m6 30 rfl) rfl
theorem q1345 : (Jvm.Cond.selects "KnockerFaces" ({ cls := "KnockerFaces", name := "undo", desc := "()Z" } : Jvm.MethodName) ({ cls := "KnockerFaces", name := "undo", desc := "()Z" } : Jvm.MethodName)) ∈ lw_all := lw_g (lw_at lw_m6 31 rfl) rfl
theorem q1346 : (Jvm.Cond.code ({ cls := "KnockerFaces", name := "undo", desc := "()Z" } : Jvm.MethodName) prog_1_method_32_code (1 : Nat) (Option.some Jvm.ClassFile.FieldType.boolean)) ∈ lw_all := lw_g (lw_at lw_m6 32 rfl) rfl
theorem q1348 : (Jvm.Cond.instanceMethod ({ cls := "KnockerFaces", name := "lifts", desc := "(III)I" } : Jvm.MethodName)) ∈ lw_all := lw_g (lw_at lw_m6 34 rfl) rfl
theorem q1349 : (Jvm.Cond.selects "KnockerFaces" ({ cls := "KnockerFaces", name := "lifts", desc := "(III)I" } : Jvm.MethodName) ({ cls := "KnockerFaces", name := "lifts", desc := "(III)I" } : Jvm.MethodName)) ∈ lw_all := lw_g (lw_at lw_m6 35 rfl) rfl
theorem q1350 : (Jvm.Cond.code ({ cls := "KnockerFaces", name := "lifts", desc := "(III)I" } : Jvm.MethodName) prog_1_method_34_code (5 : Nat) (Option.some Jvm.ClassFile.FieldType.int)) ∈ lw_all := lw_g (lw_at lw_m6 36 rfl) rfl
theorem q1351 : (Jvm.Cond.methodLink "KnockerFaces" (293 : Nat) ({ cls := "KnockerFaces", name := "laysLifts", desc := "(IIII)Z" } : Jvm.MethodName)) ∈ lw_all := lw_g (lw_at lw_m6 37 rfl) rfl
theorem q1352 : (Jvm.Cond.privateMethod ({ cls := "KnockerFaces", name := "laysLifts", desc := "(IIII)Z" } : Jvm.MethodName)) ∈ lw_tbl := lw_at lw_m6 38 rfl
theorem q1353 : (Jvm.Cond.instanceMethod ({ cls := "KnockerFaces", name := "laysLifts", desc := "(IIII)Z" } : Jvm.MethodName)) ∈ lw_all := lw_g (lw_at lw_m6 39 rfl) rfl
theorem q1354 : (Jvm.Cond.code ({ cls := "KnockerFaces", name := "laysLifts", desc := "(IIII)Z" } : Jvm.MethodName) prog_1_method_33_code (6 : Nat) (Option.some Jvm.ClassFile.FieldType.boolean)) ∈ lw_all := lw_g (lw_at lw_m6 40 rfl) rfl
theorem q1356 : (Jvm.Cond.instanceMethod ({ cls := "KnockerFaces", name := "towards", desc := "(III)I" } : Jvm.MethodName)) ∈ lw_all := lw_g (lw_at lw_m6 42 rfl) rfl
theorem q1357 : (Jvm.Cond.selects "KnockerFaces" ({ cls := "KnockerFaces", name := "towards", desc := "(III)I" } : Jvm.MethodName) ({ cls := "KnockerFaces", name := "towards", desc := "(III)I" } : Jvm.MethodName)) ∈ lw_all := lw_g (lw_at lw_m6 43 rfl) rfl
theorem q1358 : (Jvm.Cond.code ({ cls := "KnockerFaces", name := "towards", desc := "(III)I" } : Jvm.MethodName) prog_1_method_35_code (8 : Nat) (Option.some Jvm.ClassFile.FieldType.int)) ∈ lw_all := lw_g (lw_at lw_m6 44 rfl) rfl
theorem q1359 : (Jvm.Cond.constant "KnockerFaces" (297 : Nat) (1000000 : Int32)) ∈ lw_all := lw_g (lw_at lw_m6 45 rfl) rfl
theorem q1361 : (Jvm.Cond.instanceMethod ({ cls := "KnockerFaces", name := "without", desc := "(II)I" } : Jvm.MethodName)) ∈ lw_all := lw_g (lw_at lw_m6 47 rfl) rfl
theorem q1362 : (Jvm.Cond.selects "KnockerFaces" ({ cls := "KnockerFaces", name := "without", desc := "(II)I" } : Jvm.MethodName) ({ cls := "KnockerFaces", name := "without", desc := "(II)I" } : Jvm.MethodName)) ∈ lw_all := lw_g (lw_at lw_m6 48 rfl) rfl
theorem q1363 : (Jvm.Cond.code ({ cls := "KnockerFaces", name := "without", desc := "(II)I" } : Jvm.MethodName) prog_1_method_36_code (3 : Nat) (Option.some Jvm.ClassFile.FieldType.int)) ∈ lw_all := lw_g (lw_at lw_m6 49 rfl) rfl
theorem q1365 : (Jvm.Cond.instanceMethod ({ cls := "KnockerFaces", name := "twins", desc := "(I)I" } : Jvm.MethodName)) ∈ lw_all := lw_g (lw_at lw_m6 51 rfl) rfl
theorem q1366 : (Jvm.Cond.selects "KnockerFaces" ({ cls := "KnockerFaces", name := "twins", desc := "(I)I" } : Jvm.MethodName) ({ cls := "KnockerFaces", name := "twins", desc := "(I)I" } : Jvm.MethodName)) ∈ lw_all := lw_g (lw_at lw_m6 52 rfl) rfl
theorem q1367 : (Jvm.Cond.code ({ cls := "KnockerFaces", name := "twins", desc := "(I)I" } : Jvm.MethodName) prog_1_method_37_code (7 : Nat) (Option.some Jvm.ClassFile.FieldType.int)) ∈ lw_all := lw_g (lw_at lw_m6 53 rfl) rfl
theorem q1369 : (Jvm.Cond.instanceMethod ({ cls := "KnockerFaces", name := "paired", desc := "(I)I" } : Jvm.MethodName)) ∈ lw_all := lw_g (lw_at lw_m6 55 rfl) rfl
theorem q1370 : (Jvm.Cond.selects "KnockerFaces" ({ cls := "KnockerFaces", name := "paired", desc := "(I)I" } : Jvm.MethodName) ({ cls := "KnockerFaces", name := "paired", desc := "(I)I" } : Jvm.MethodName)) ∈ lw_all := lw_g (lw_at lw_m6 56 rfl) rfl
theorem q1371 : (Jvm.Cond.code ({ cls := "KnockerFaces", name := "paired", desc := "(I)I" } : Jvm.MethodName) prog_1_method_41_code (4 : Nat) (Option.some Jvm.ClassFile.FieldType.int)) ∈ lw_all := lw_g (lw_at lw_m6 57 rfl) rfl
theorem q1372 : (Jvm.Cond.methodLink "KnockerFaces" (302 : Nat) ({ cls := "KnockerFaces", name := "laysPaired", desc := "()V" } : Jvm.MethodName)) ∈ lw_all := lw_g (lw_at lw_m6 58 rfl) rfl
theorem q1373 : (Jvm.Cond.privateMethod ({ cls := "KnockerFaces", name := "laysPaired", desc := "()V" } : Jvm.MethodName)) ∈ lw_tbl := lw_at lw_m6 59 rfl
theorem q1374 : (Jvm.Cond.instanceMethod ({ cls := "KnockerFaces", name := "laysPaired", desc := "()V" } : Jvm.MethodName)) ∈ lw_all := lw_g (lw_at lw_m6 60 rfl) rfl
theorem q1375 : (Jvm.Cond.code ({ cls := "KnockerFaces", name := "laysPaired", desc := "()V" } : Jvm.MethodName) prog_1_method_39_code (4 : Nat) (Option.none : Option Jvm.ClassFile.FieldType)) ∈ lw_all := lw_g (lw_at lw_m6 61 rfl) rfl
theorem q1376 : (Jvm.Cond.methodLink "KnockerFaces" (298 : Nat) ({ cls := "KnockerFaces", name := "pairedBy", desc := "(III)I" } : Jvm.MethodName)) ∈ lw_all := lw_g (lw_at lw_m6 62 rfl) rfl
theorem q1377 : (Jvm.Cond.privateMethod ({ cls := "KnockerFaces", name := "pairedBy", desc := "(III)I" } : Jvm.MethodName)) ∈ lw_tbl := lw_at lw_m6 63 rfl
theorem q1378 : (Jvm.Cond.instanceMethod ({ cls := "KnockerFaces", name := "pairedBy", desc := "(III)I" } : Jvm.MethodName)) ∈ lw_all := lw_g (lw_at lw_m6 64 rfl) rfl
theorem q1379 : (Jvm.Cond.code ({ cls := "KnockerFaces", name := "pairedBy", desc := "(III)I" } : Jvm.MethodName) prog_1_method_38_code (4 : Nat) (Option.some Jvm.ClassFile.FieldType.int)) ∈ lw_all := lw_g (lw_at lw_m6 65 rfl) rfl
theorem q1380 : (Jvm.Cond.methodLink "KnockerFaces" (305 : Nat) ({ cls := "KnockerFaces", name := "pairedTo", desc := "(II)I" } : Jvm.MethodName)) ∈ lw_all := lw_g (lw_at lw_m6 66 rfl) rfl
theorem q1381 : (Jvm.Cond.privateMethod ({ cls := "KnockerFaces", name := "pairedTo", desc := "(II)I" } : Jvm.MethodName)) ∈ lw_tbl := lw_at lw_m6 67 rfl
theorem q1382 : (Jvm.Cond.instanceMethod ({ cls := "KnockerFaces", name := "pairedTo", desc := "(II)I" } : Jvm.MethodName)) ∈ lw_all := lw_g (lw_at lw_m6 68 rfl) rfl
theorem q1383 : (Jvm.Cond.code ({ cls := "KnockerFaces", name := "pairedTo", desc := "(II)I" } : Jvm.MethodName) prog_1_method_40_code (4 : Nat) (Option.some Jvm.ClassFile.FieldType.int)) ∈ lw_all := lw_g (lw_at lw_m6 69 rfl) rfl
theorem q1385 : (Jvm.Cond.instanceMethod ({ cls := "KnockerFaces", name := "flat", desc := "(I)I" } : Jvm.MethodName)) ∈ lw_all := lw_g (lw_at lw_m6 71 rfl) rfl
theorem q1386 : (Jvm.Cond.selects "KnockerFaces" ({ cls := "KnockerFaces", name := "flat", desc := "(I)I" } : Jvm.MethodName) ({ cls := "KnockerFaces", name := "flat", desc := "(I)I" } : Jvm.MethodName)) ∈ lw_all := lw_g (lw_at lw_m6 72 rfl) rfl
theorem q1387 : (Jvm.Cond.code ({ cls := "KnockerFaces", name := "flat", desc := "(I)I" } : Jvm.MethodName) prog_1_method_42_code (5 : Nat) (Option.some Jvm.ClassFile.FieldType.int)) ∈ lw_all := lw_g (lw_at lw_m6 73 rfl) rfl
theorem q1389 : (Jvm.Cond.instanceMethod ({ cls := "KnockerFaces", name := "confused", desc := "(I)I" } : Jvm.MethodName)) ∈ lw_all := lw_g (lw_at lw_m6 75 rfl) rfl
theorem q1390 : (Jvm.Cond.selects "KnockerFaces" ({ cls := "KnockerFaces", name := "confused", desc := "(I)I" } : Jvm.MethodName) ({ cls := "KnockerFaces", name := "confused", desc := "(I)I" } : Jvm.MethodName)) ∈ lw_all := lw_g (lw_at lw_m6 76 rfl) rfl
theorem q1391 : (Jvm.Cond.code ({ cls := "KnockerFaces", name := "confused", desc := "(I)I" } : Jvm.MethodName) prog_1_method_43_code (7 : Nat) (Option.some Jvm.ClassFile.FieldType.int)) ∈ lw_all := lw_g (lw_at lw_m6 77 rfl) rfl
theorem q1393 : (Jvm.Cond.instanceMethod ({ cls := "KnockerFaces", name := "nearest", desc := "(II)I" } : Jvm.MethodName)) ∈ lw_all := lw_g (lw_at lw_m6 79 rfl) rfl
theorem q1394 : (Jvm.Cond.selects "KnockerFaces" ({ cls := "KnockerFaces", name := "nearest", desc := "(II)I" } : Jvm.MethodName) ({ cls := "KnockerFaces", name := "nearest", desc := "(II)I" } : Jvm.MethodName)) ∈ lw_all := lw_g (lw_at lw_m6 80 rfl) rfl
theorem q1395 : (Jvm.Cond.code ({ cls := "KnockerFaces", name := "nearest", desc := "(II)I" } : Jvm.MethodName) prog_1_method_44_code (7 : Nat) (Option.some Jvm.ClassFile.FieldType.int)) ∈ lw_all := lw_g (lw_at lw_m6 81 rfl) rfl
theorem q1397 : (Jvm.Cond.instanceMethod ({ cls := "KnockerFaces", name := "same", desc := "(II)I" } : Jvm.MethodName)) ∈ lw_all := lw_g (lw_at lw_m6 83 rfl) rfl
theorem q1398 : (Jvm.Cond.selects "KnockerFaces" ({ cls := "KnockerFaces", name := "same", desc := "(II)I" } : Jvm.MethodName) ({ cls := "KnockerFaces", name := "same", desc := "(II)I" } : Jvm.MethodName)) ∈ lw_all := lw_g (lw_at lw_m6 84 rfl) rfl
theorem q1399 : (Jvm.Cond.code ({ cls := "KnockerFaces", name := "same", desc := "(II)I" } : Jvm.MethodName) prog_1_method_45_code (5 : Nat) (Option.some Jvm.ClassFile.FieldType.int)) ∈ lw_all := lw_g (lw_at lw_m6 85 rfl) rfl
theorem q1401 : (Jvm.Cond.instanceMethod ({ cls := "KnockerFaces", name := "when", desc := "(II)I" } : Jvm.MethodName)) ∈ lw_all := lw_g (lw_at lw_m6 87 rfl) rfl
theorem q1402 : (Jvm.Cond.selects "KnockerFaces" ({ cls := "KnockerFaces", name := "when", desc := "(II)I" } : Jvm.MethodName) ({ cls := "KnockerFaces", name := "when", desc := "(II)I" } : Jvm.MethodName)) ∈ lw_all := lw_g (lw_at lw_m6 88 rfl) rfl
theorem q1403 : (Jvm.Cond.code ({ cls := "KnockerFaces", name := "when", desc := "(II)I" } : Jvm.MethodName) prog_1_method_46_code (4 : Nat) (Option.some Jvm.ClassFile.FieldType.int)) ∈ lw_all := lw_g (lw_at lw_m6 89 rfl) rfl
theorem q1405 : (Jvm.Cond.instanceMethod ({ cls := "KnockerFaces", name := "alone", desc := "(II)I" } : Jvm.MethodName)) ∈ lw_all := lw_g (lw_at lw_m6 91 rfl) rfl
theorem q1406 : (Jvm.Cond.selects "KnockerFaces" ({ cls := "KnockerFaces", name := "alone", desc := "(II)I" } : Jvm.MethodName) ({ cls := "KnockerFaces", name := "alone", desc := "(II)I" } : Jvm.MethodName)) ∈ lw_all := lw_g (lw_at lw_m6 92 rfl) rfl
theorem q1407 : (Jvm.Cond.code ({ cls := "KnockerFaces", name := "alone", desc := "(II)I" } : Jvm.MethodName) prog_1_method_47_code (4 : Nat) (Option.some Jvm.ClassFile.FieldType.int)) ∈ lw_all := lw_g (lw_at lw_m6 93 rfl) rfl
theorem q1409 : (Jvm.Cond.instanceMethod ({ cls := "KnockerFaces", name := "shift", desc := "(II)I" } : Jvm.MethodName)) ∈ lw_all := lw_g (lw_at lw_m6 95 rfl) rfl
theorem q1410 : (Jvm.Cond.selects "KnockerFaces" ({ cls := "KnockerFaces", name := "shift", desc := "(II)I" } : Jvm.MethodName) ({ cls := "KnockerFaces", name := "shift", desc := "(II)I" } : Jvm.MethodName)) ∈ lw_all := lw_g (lw_at lw_m6 96 rfl) rfl
theorem q1411 : (Jvm.Cond.code ({ cls := "KnockerFaces", name := "shift", desc := "(II)I" } : Jvm.MethodName) prog_1_method_48_code (3 : Nat) (Option.some Jvm.ClassFile.FieldType.int)) ∈ lw_all := lw_g (lw_at lw_m6 97 rfl) rfl
theorem q1413 : (Jvm.Cond.instanceMethod ({ cls := "KnockerFaces", name := "calls", desc := "(II)I" } : Jvm.MethodName)) ∈ lw_all := lw_g (lw_at lw_m6 99 rfl) rfl
theorem q1414 : (Jvm.Cond.selects "KnockerFaces" ({ cls := "KnockerFaces", name := "calls", desc := "(II)I" } : Jvm.MethodName) ({ cls := "KnockerFaces", name := "calls", desc := "(II)I" } : Jvm.MethodName)) ∈ lw_all := lw_g (lw_at lw_m6 100 rfl) rfl
theorem q1415 : (Jvm.Cond.code ({ cls := "KnockerFaces", name := "calls", desc := "(II)I" } : Jvm.MethodName) prog_1_method_49_code (3 : Nat) (Option.some Jvm.ClassFile.FieldType.int)) ∈ lw_all := lw_g (lw_at lw_m6 101 rfl) rfl
theorem q1417 : (Jvm.Cond.instanceMethod ({ cls := "KnockerFaces", name := "richest", desc := "(II)I" } : Jvm.MethodName)) ∈ lw_all := lw_g (lw_at lw_m6 103 rfl) rfl
theorem q1418 : (Jvm.Cond.selects "KnockerFaces" ({ cls := "KnockerFaces", name := "richest", desc := "(II)I" } : Jvm.MethodName) ({ cls := "KnockerFaces", name := "richest", desc := "(II)I" } : Jvm.MethodName)) ∈ lw_all := lw_g (lw_at lw_m6 104 rfl) rfl
theorem q1419 : (Jvm.Cond.code ({ cls := "KnockerFaces", name := "richest", desc := "(II)I" } : Jvm.MethodName) prog_1_method_50_code (5 : Nat) (Option.some Jvm.ClassFile.FieldType.int)) ∈ lw_all := lw_g (lw_at lw_m6 105 rfl) rfl
theorem q1421 : (Jvm.Cond.instanceMethod ({ cls := "KnockerFaces", name := "changes", desc := "(I)I" } : Jvm.MethodName)) ∈ lw_all := lw_g (lw_at lw_m6 107 rfl) rfl
theorem q1422 : (Jvm.Cond.selects "KnockerFaces" ({ cls := "KnockerFaces", name := "changes", desc := "(I)I" } : Jvm.MethodName) ({ cls := "KnockerFaces", name := "changes", desc := "(I)I" } : Jvm.MethodName)) ∈ lw_all := lw_g (lw_at lw_m6 108 rfl) rfl
theorem q1423 : (Jvm.Cond.code ({ cls := "KnockerFaces", name := "changes", desc := "(I)I" } : Jvm.MethodName) prog_1_method_51_code (4 : Nat) (Option.some Jvm.ClassFile.FieldType.int)) ∈ lw_all := lw_g (lw_at lw_m6 109 rfl) rfl
theorem q1425 : (Jvm.Cond.instanceMethod ({ cls := "KnockerFaces", name := "rubs", desc := "(I)I" } : Jvm.MethodName)) ∈ lw_all := lw_g (lw_at lw_m6 111 rfl) rfl
theorem q1426 : (Jvm.Cond.selects "KnockerFaces" ({ cls := "KnockerFaces", name := "rubs", desc := "(I)I" } : Jvm.MethodName) ({ cls := "KnockerFaces", name := "rubs", desc := "(I)I" } : Jvm.MethodName)) ∈ lw_all := lw_g (lw_at lw_m6 112 rfl) rfl
theorem q1427 : (Jvm.Cond.code ({ cls := "KnockerFaces", name := "rubs", desc := "(I)I" } : Jvm.MethodName) prog_1_method_52_code (4 : Nat) (Option.some Jvm.ClassFile.FieldType.int)) ∈ lw_all := lw_g (lw_at lw_m6 113 rfl) rfl
theorem q1429 : (Jvm.Cond.instanceMethod ({ cls := "KnockerFaces", name := "then", desc := "(III)I" } : Jvm.MethodName)) ∈ lw_all := lw_g (lw_at lw_m6 115 rfl) rfl
theorem q1430 : (Jvm.Cond.selects "KnockerFaces" ({ cls := "KnockerFaces", name := "then", desc := "(III)I" } : Jvm.MethodName) ({ cls := "KnockerFaces", name := "then", desc := "(III)I" } : Jvm.MethodName)) ∈ lw_all := lw_g (lw_at lw_m6 116 rfl) rfl
theorem q1431 : (Jvm.Cond.code ({ cls := "KnockerFaces", name := "then", desc := "(III)I" } : Jvm.MethodName) prog_1_method_53_code (4 : Nat) (Option.some Jvm.ClassFile.FieldType.int)) ∈ lw_all := lw_g (lw_at lw_m6 117 rfl) rfl
theorem q1433 : (Jvm.Cond.instanceMethod ({ cls := "KnockerFaces", name := "busy", desc := "(II)I" } : Jvm.MethodName)) ∈ lw_all := lw_g (lw_at lw_m6 119 rfl) rfl
theorem q1434 : (Jvm.Cond.selects "KnockerFaces" ({ cls := "KnockerFaces", name := "busy", desc := "(II)I" } : Jvm.MethodName) ({ cls := "KnockerFaces", name := "busy", desc := "(II)I" } : Jvm.MethodName)) ∈ lw_all := lw_g (lw_at lw_m6 120 rfl) rfl
theorem q1435 : (Jvm.Cond.code ({ cls := "KnockerFaces", name := "busy", desc := "(II)I" } : Jvm.MethodName) prog_1_method_54_code (6 : Nat) (Option.some Jvm.ClassFile.FieldType.int)) ∈ lw_all := lw_g (lw_at lw_m6 121 rfl) rfl
theorem q1437 : (Jvm.Cond.instanceMethod ({ cls := "KnockerFaces", name := "year", desc := "(IIII)I" } : Jvm.MethodName)) ∈ lw_all := lw_g (lw_at lw_m6 123 rfl) rfl
theorem q1438 : (Jvm.Cond.selects "KnockerFaces" ({ cls := "KnockerFaces", name := "year", desc := "(IIII)I" } : Jvm.MethodName) ({ cls := "KnockerFaces", name := "year", desc := "(IIII)I" } : Jvm.MethodName)) ∈ lw_all := lw_g (lw_at lw_m6 124 rfl) rfl
theorem q1439 : (Jvm.Cond.code ({ cls := "KnockerFaces", name := "year", desc := "(IIII)I" } : Jvm.MethodName) prog_1_method_55_code (7 : Nat) (Option.some Jvm.ClassFile.FieldType.int)) ∈ lw_all := lw_g (lw_at lw_m6 125 rfl) rfl
theorem q1441 : (Jvm.Cond.instanceMethod ({ cls := "KnockerFaces", name := "tell", desc := "(III)I" } : Jvm.MethodName)) ∈ lw_all := lw_g (lw_at lw_m6 127 rfl) rfl
theorem q1442 : (Jvm.Cond.selects "KnockerFaces" ({ cls := "KnockerFaces", name := "tell", desc := "(III)I" } : Jvm.MethodName) ({ cls := "KnockerFaces", name := "tell", desc := "(III)I" } : Jvm.MethodName)) ∈ lw_all := lw_g (lw_at lw_m6 128 rfl) rfl
theorem q1443 : (Jvm.Cond.code ({ cls := "KnockerFaces", name := "tell", desc := "(III)I" } : Jvm.MethodName) prog_1_method_56_code (4 : Nat) (Option.some Jvm.ClassFile.FieldType.int)) ∈ lw_all := lw_g (lw_at lw_m6 129 rfl) rfl
theorem q1445 : (Jvm.Cond.instanceMethod ({ cls := "KnockerFaces", name := "forget", desc := "()I" } : Jvm.MethodName)) ∈ lw_all := lw_g (lw_at lw_m6 131 rfl) rfl
theorem q1446 : (Jvm.Cond.selects "KnockerFaces" ({ cls := "KnockerFaces", name := "forget", desc := "()I" } : Jvm.MethodName) ({ cls := "KnockerFaces", name := "forget", desc := "()I" } : Jvm.MethodName)) ∈ lw_all := lw_g (lw_at lw_m6 132 rfl) rfl
theorem q1447 : (Jvm.Cond.code ({ cls := "KnockerFaces", name := "forget", desc := "()I" } : Jvm.MethodName) prog_1_method_57_code (2 : Nat) (Option.some Jvm.ClassFile.FieldType.int)) ∈ lw_all := lw_g (lw_at lw_m6 133 rfl) rfl
theorem q1449 : (Jvm.Cond.instanceMethod ({ cls := "KnockerFaces", name := "who", desc := "(II)I" } : Jvm.MethodName)) ∈ lw_all := lw_g (lw_at lw_m6 135 rfl) rfl
theorem q1450 : (Jvm.Cond.selects "KnockerFaces" ({ cls := "KnockerFaces", name := "who", desc := "(II)I" } : Jvm.MethodName) ({ cls := "KnockerFaces", name := "who", desc := "(II)I" } : Jvm.MethodName)) ∈ lw_all := lw_g (lw_at lw_m6 136 rfl) rfl
theorem q1451 : (Jvm.Cond.code ({ cls := "KnockerFaces", name := "who", desc := "(II)I" } : Jvm.MethodName) prog_1_method_60_code (4 : Nat) (Option.some Jvm.ClassFile.FieldType.int)) ∈ lw_all := lw_g (lw_at lw_m6 137 rfl) rfl
theorem q1452 : (Jvm.Cond.methodLink "KnockerFaces" (315 : Nat) ({ cls := "KnockerFaces", name := "whoBy", desc := "(I)I" } : Jvm.MethodName)) ∈ lw_all := lw_g (lw_at lw_m6 138 rfl) rfl
theorem q1453 : (Jvm.Cond.privateMethod ({ cls := "KnockerFaces", name := "whoBy", desc := "(I)I" } : Jvm.MethodName)) ∈ lw_tbl := lw_at lw_m6 139 rfl
theorem q1454 : (Jvm.Cond.instanceMethod ({ cls := "KnockerFaces", name := "whoBy", desc := "(I)I" } : Jvm.MethodName)) ∈ lw_all := lw_g (lw_at lw_m6 140 rfl) rfl
theorem q1455 : (Jvm.Cond.code ({ cls := "KnockerFaces", name := "whoBy", desc := "(I)I" } : Jvm.MethodName) prog_1_method_59_code (6 : Nat) (Option.some Jvm.ClassFile.FieldType.int)) ∈ lw_all := lw_g (lw_at lw_m6 141 rfl) rfl
theorem q1456 : (Jvm.Cond.methodLink "KnockerFaces" (312 : Nat) ({ cls := "KnockerFaces", name := "wayOf", desc := "(III)I" } : Jvm.MethodName)) ∈ lw_all := lw_g (lw_at lw_m6 142 rfl) rfl
theorem q1457 : (Jvm.Cond.privateMethod ({ cls := "KnockerFaces", name := "wayOf", desc := "(III)I" } : Jvm.MethodName)) ∈ lw_tbl := lw_at lw_m6 143 rfl
theorem q1458 : (Jvm.Cond.instanceMethod ({ cls := "KnockerFaces", name := "wayOf", desc := "(III)I" } : Jvm.MethodName)) ∈ lw_all := lw_g (lw_at lw_m6 144 rfl) rfl
theorem q1459 : (Jvm.Cond.code ({ cls := "KnockerFaces", name := "wayOf", desc := "(III)I" } : Jvm.MethodName) prog_1_method_58_code (4 : Nat) (Option.some Jvm.ClassFile.FieldType.int)) ∈ lw_all := lw_g (lw_at lw_m6 145 rfl) rfl
theorem q1460 : (Jvm.Cond.methodLink "KnockerFaces" (318 : Nat) ({ cls := "java/lang/Integer", name := "bitCount", desc := "(I)I" } : Jvm.MethodName)) ∈ lw_all := lw_g (lw_at lw_m6 146 rfl) rfl
theorem q1467 : (Jvm.Cond.instanceMethod ({ cls := "KnockerFaces", name := "ask", desc := "(I)I" } : Jvm.MethodName)) ∈ lw_all := lw_g (lw_at lw_m6 153 rfl) rfl
theorem q1468 : (Jvm.Cond.selects "KnockerFaces" ({ cls := "KnockerFaces", name := "ask", desc := "(I)I" } : Jvm.MethodName) ({ cls := "KnockerFaces", name := "ask", desc := "(I)I" } : Jvm.MethodName)) ∈ lw_all := lw_g (lw_at lw_m6 154 rfl) rfl
theorem q1469 : (Jvm.Cond.code ({ cls := "KnockerFaces", name := "ask", desc := "(I)I" } : Jvm.MethodName) prog_1_method_62_code (8 : Nat) (Option.some Jvm.ClassFile.FieldType.int)) ∈ lw_all := lw_g (lw_at lw_m6 155 rfl) rfl
theorem q1470 : (Jvm.Cond.methodLink "KnockerFaces" (324 : Nat) ({ cls := "KnockerFaces", name := "worstOf", desc := "(III)I" } : Jvm.MethodName)) ∈ lw_all := lw_g (lw_at lw_m6 156 rfl) rfl
theorem q1471 : (Jvm.Cond.privateMethod ({ cls := "KnockerFaces", name := "worstOf", desc := "(III)I" } : Jvm.MethodName)) ∈ lw_tbl := lw_at lw_m6 157 rfl
theorem q1472 : (Jvm.Cond.instanceMethod ({ cls := "KnockerFaces", name := "worstOf", desc := "(III)I" } : Jvm.MethodName)) ∈ lw_all := lw_g (lw_at lw_m6 158 rfl) rfl
theorem q1473 : (Jvm.Cond.code ({ cls := "KnockerFaces", name := "worstOf", desc := "(III)I" } : Jvm.MethodName) prog_1_method_61_code (5 : Nat) (Option.some Jvm.ClassFile.FieldType.int)) ∈ lw_all := lw_g (lw_at lw_m6 159 rfl) rfl
theorem q1474 : (Jvm.Cond.methodLink "KnockerFaces" (321 : Nat) ({ cls := "java/lang/Math", name := "max", desc := "(II)I" } : Jvm.MethodName)) ∈ lw_all := lw_g (lw_at lw_m6 160 rfl) rfl
theorem q1476 : (Jvm.Cond.instanceMethod ({ cls := "KnockerFaces", name := "hold", desc := "(I)Z" } : Jvm.MethodName)) ∈ lw_all := lw_g (lw_at lw_m6 162 rfl) rfl
theorem q1477 : (Jvm.Cond.selects "KnockerFaces" ({ cls := "KnockerFaces", name := "hold", desc := "(I)Z" } : Jvm.MethodName) ({ cls := "KnockerFaces", name := "hold", desc := "(I)Z" } : Jvm.MethodName)) ∈ lw_all := lw_g (lw_at lw_m6 163 rfl) rfl
theorem q1478 : (Jvm.Cond.code ({ cls := "KnockerFaces", name := "hold", desc := "(I)Z" } : Jvm.MethodName) prog_1_method_63_code (2 : Nat) (Option.some Jvm.ClassFile.FieldType.boolean)) ∈ lw_all := lw_g (lw_at lw_m6 164 rfl) rfl
theorem q1480 : (Jvm.Cond.instanceMethod ({ cls := "KnockerFaces", name := "restore", desc := "(I)Z" } : Jvm.MethodName)) ∈ lw_all := lw_g (lw_at lw_m6 166 rfl) rfl
theorem q1481 : (Jvm.Cond.selects "KnockerFaces" ({ cls := "KnockerFaces", name := "restore", desc := "(I)Z" } : Jvm.MethodName) ({ cls := "KnockerFaces", name := "restore", desc := "(I)Z" } : Jvm.MethodName)) ∈ lw_all := lw_g (lw_at lw_m6 167 rfl) rfl
theorem q1482 : (Jvm.Cond.code ({ cls := "KnockerFaces", name := "restore", desc := "(I)Z" } : Jvm.MethodName) prog_1_method_64_code (2 : Nat) (Option.some Jvm.ClassFile.FieldType.boolean)) ∈ lw_all := lw_g (lw_at lw_m6 168 rfl) rfl
theorem q1484 : (Jvm.Cond.instanceMethod ({ cls := "KnockerFaces", name := "count", desc := "(I)I" } : Jvm.MethodName)) ∈ lw_all := lw_g (lw_at lw_m6 170 rfl) rfl
theorem q1485 : (Jvm.Cond.selects "KnockerFaces" ({ cls := "KnockerFaces", name := "count", desc := "(I)I" } : Jvm.MethodName) ({ cls := "KnockerFaces", name := "count", desc := "(I)I" } : Jvm.MethodName)) ∈ lw_all := lw_g (lw_at lw_m6 171 rfl) rfl
theorem q1486 : (Jvm.Cond.code ({ cls := "KnockerFaces", name := "count", desc := "(I)I" } : Jvm.MethodName) prog_1_method_66_code (7 : Nat) (Option.some Jvm.ClassFile.FieldType.int)) ∈ lw_all := lw_g (lw_at lw_m6 172 rfl) rfl
theorem q1487 : (Jvm.Cond.methodLink "KnockerFaces" (327 : Nat) ({ cls := "KnockerFaces", name := "sum", desc := "([I)I" } : Jvm.MethodName)) ∈ lw_all := lw_g (lw_at lw_m6 173 rfl) rfl
theorem q1488 : (Jvm.Cond.static ({ cls := "KnockerFaces", name := "sum", desc := "([I)I" } : Jvm.MethodName)) ∈ lw_all := lw_g (lw_at lw_m6 174 rfl) rfl
theorem q1489 : (Jvm.Cond.code ({ cls := "KnockerFaces", name := "sum", desc := "([I)I" } : Jvm.MethodName) prog_1_method_65_code (3 : Nat) (Option.some Jvm.ClassFile.FieldType.int)) ∈ lw_all := lw_g (lw_at lw_m6 175 rfl) rfl
theorem q1490 : (Jvm.Cond.methodLink "KnockerFaces" (331 : Nat) ({ cls := "KnockerFaces$Town", name := "isWind", desc := "(LKnockerFaces$Text;)Z" } : Jvm.MethodName)) ∈ lw_all := lw_g (lw_at lw_m6 176 rfl) rfl
theorem q2172 : (Jvm.Cond.castable "KnockerFaces" "java/lang/Object") ∈ lw_tbl := lw_at lw_m9 138 rfl
theorem in_X0 : ∀ w ∈ wsX00, w ∈ lw_all := lw_in wsX00 [534, 536, 538, 540, 542, 544, 546, 548, 550, 552, 554, 556, 558, 560, 562, 564, 566, 568, 570, 572, 574, 576] (by decide +kernel) (by decide +kernel)
