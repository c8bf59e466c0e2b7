/-! KnockerFacesModel -/
set_option maxRecDepth 100000
def RX10 : String := "KnockerFacesModel"
def TX10 : u_T := fun k => match k with
  | 0 => ("KnockerFacesModel", "thrown", "I", false)
  | 1 => ("KnockerFacesModel", "tape", "[B", true)
  | 2 => ("KnockerFacesModel", "taped", "I", false)
  | 3 => ("KnockerFacesModel", "text", "[B", true)
  | 4 => ("KnockerFacesModel", "size", "I", false)
  | 5 => ("KnockerFacesModel", "tKind", "[I", true)
  | 6 => ("KnockerFacesModel", "tPlace", "[I", true)
  | 7 => ("KnockerFacesModel", "tValue", "[I", true)
  | 8 => ("KnockerFacesModel", "tName", "[J", true)
  | 9 => ("KnockerFacesModel", "keys", "[J", true)
  | 10 => ("KnockerFacesModel", "tokens", "I", false)
  | 11 => ("KnockerFacesModel", "t", "I", false)
  | 12 => ("KnockerFacesModel", "open", "I", false)
  | 13 => ("KnockerFacesModel", "fault", "I", false)
  | 14 => ("KnockerFacesModel", "faultPlace", "I", false)
  | 15 => ("KnockerFacesModel", "worst", "I", false)
  | 16 => ("KnockerFacesModel", "worstPlace", "I", false)
  | 17 => ("KnockerFacesModel", "place", "I", false)
  | 18 => ("KnockerFacesModel", "live", "I", false)
  | 19 => ("KnockerFacesModel", "side", "I", false)
  | 20 => ("KnockerFacesModel", "names", "I", false)
  | 21 => ("KnockerFacesModel", "nameOf", "[J", true)
  | 22 => ("KnockerFacesModel", "nameAt", "[I", true)
  | 23 => ("KnockerFacesModel", "doors", "[I", true)
  | 24 => ("KnockerFacesModel", "firstFace", "[I", true)
  | 25 => ("KnockerFacesModel", "callers", "[I", true)
  | 26 => ("KnockerFacesModel", "faceOf", "[I", true)
  | 27 => ("KnockerFacesModel", "rounds", "[I", true)
  | 28 => ("KnockerFacesModel", "whoOf", "[I", true)
  | 29 => ("KnockerFacesModel", "doorOf", "[I", true)
  | 30 => ("KnockerFacesModel", "everyOf", "[I", true)
  | 31 => ("KnockerFacesModel", "fromOf", "[I", true)
  | 32 => ("KnockerFacesModel", "wind", "[I", true)
  | 33 => ("KnockerFacesModel", "near", "[I", true)
  | 34 => ("KnockerFacesModel", "seed", "[I", true)
  | 35 => ("KnockerFacesModel", "lawFirst", "[I", true)
  | 36 => ("KnockerFacesModel", "lawLast", "[I", true)
  | 37 => ("KnockerFacesModel", "branches", "I", false)
  | 38 => ("KnockerFacesModel", "hasTest", "[Z", true)
  | 39 => ("KnockerFacesModel", "testFrom", "[I", true)
  | 40 => ("KnockerFacesModel", "testMid", "[I", true)
  | 41 => ("KnockerFacesModel", "testTo", "[I", true)
  | 42 => ("KnockerFacesModel", "termTo", "[I", true)
  | 43 => ("KnockerFacesModel", "codes", "I", false)
  | 44 => ("KnockerFacesModel", "code", "[I", true)
  | 45 => ("KnockerFacesModel", "codeInt", "[I", true)
  | 46 => ("KnockerFacesModel", "waits", "[I", true)
  | 47 => ("KnockerFacesModel", "waiting", "I", false)
  | 48 => ("KnockerFacesModel", "variables", "[I", true)
  | 49 => ("KnockerFacesModel", "pile", "[I", true)
  | 50 => ("KnockerFacesModel", "isBroken", "Z", false)
  | 51 => ("KnockerFacesModel", "now", "[I", true)
  | 52 => ("KnockerFacesModel", "row", "[I", true)
  | 53 => ("KnockerFacesModel", "lots", "I", false)
  | 54 => ("KnockerFacesModel", "isStill", "Z", false)
  | 55 => ("KnockerFacesModel", "goesBy", "[I", true)
  | 56 => ("KnockerFacesModel", "undos", "I", false)
  | 57 => ("KnockerFacesModel", "history", "[I", true)
  | 58 => ("KnockerFacesModel", "leastFrom", "[I", true)
  | 59 => ("KnockerFacesModel", "busyOf", "[I", true)
  | 60 => ("KnockerFacesModel", "tolds", "I", false)
  | 61 => ("KnockerFacesModel", "toldDoor", "[I", true)
  | 62 => ("KnockerFacesModel", "toldPart", "[I", true)
  | 63 => ("KnockerFacesModel", "toldWay", "[I", true)
  | 64 => ("KnockerFacesModel", "isHeld", "[Z", true)
  | _ => ("KnockerFacesModel", "heldRows", "[I", true)
def tyX10 : Nat → FieldType := fun k => match k with
  | 0 => .int
  | 1 => .array .byte
  | 2 => .int
  | 3 => .array .byte
  | 4 => .int
  | 5 => .array .int
  | 6 => .array .int
  | 7 => .array .int
  | 8 => .array .long
  | 9 => .array .long
  | 10 => .int
  | 11 => .int
  | 12 => .int
  | 13 => .int
  | 14 => .int
  | 15 => .int
  | 16 => .int
  | 17 => .int
  | 18 => .int
  | 19 => .int
  | 20 => .int
  | 21 => .array .long
  | 22 => .array .int
  | 23 => .array .int
  | 24 => .array .int
  | 25 => .array .int
  | 26 => .array .int
  | 27 => .array .int
  | 28 => .array .int
  | 29 => .array .int
  | 30 => .array .int
  | 31 => .array .int
  | 32 => .array .int
  | 33 => .array .int
  | 34 => .array .int
  | 35 => .array .int
  | 36 => .array .int
  | 37 => .int
  | 38 => .array .boolean
  | 39 => .array .int
  | 40 => .array .int
  | 41 => .array .int
  | 42 => .array .int
  | 43 => .int
  | 44 => .array .int
  | 45 => .array .int
  | 46 => .array .int
  | 47 => .int
  | 48 => .array .int
  | 49 => .array .int
  | 50 => .boolean
  | 51 => .array .int
  | 52 => .array .int
  | 53 => .int
  | 54 => .boolean
  | 55 => .array .int
  | 56 => .int
  | 57 => .array .int
  | 58 => .array .int
  | 59 => .array .int
  | 60 => .int
  | 61 => .array .int
  | 62 => .array .int
  | 63 => .array .int
  | 64 => .array .boolean
  | _ => .array .int
abbrev wsX100 : List Cond := u_ws RX10 TX10 66
set_option maxRecDepth 100000 in
theorem nmX10 : ∀ a, a < 66 → ∀ b, b < 66 → a ≠ b → (TX10 a).2.1 ≠ (TX10 b).2.1 := by decide +kernel
set_option maxRecDepth 100000 in
theorem tyX10_ok : ∀ k, k < 66 → parseFieldDescriptor (TX10 k).2.2.1 = some (tyX10 k) := by decide +kernel
abbrev cX10_init : ByteArray := prog_21_method_2_code
def yX10_init : MethodName := ⟨RX10, "<init>", "()V"⟩
def dkwX10_init_35 : List UInt8 := [16, 100, 3, 184, 0, 156, 80, 42, 182, 0, 160, 42, 182, 0, 163, 177]
abbrev dktX10_init_35 : List UInt8 := dkwX10_init_35 ++ []
def dkwX10_init_34 : List UInt8 := [16, 104, 3, 3, 184, 0, 156, 80, 42, 180, 0, 34, 16, 20, 16, 114, 16, 117, 16, 98, 16, 98, 16, 101]
abbrev dktX10_init_34 : List UInt8 := dkwX10_init_34 ++ dktX10_init_35
def dkwX10_init_33 : List UInt8 := [16, 107, 16, 101, 3, 184, 0, 156, 80, 42, 180, 0, 34, 16, 19, 16, 119, 16, 104, 16, 105, 16, 99]
abbrev dktX10_init_33 : List UInt8 := dkwX10_init_33 ++ dktX10_init_34
def dkwX10_init_32 : List UInt8 := [16, 101, 3, 3, 3, 184, 0, 156, 80, 42, 180, 0, 34, 16, 18, 16, 117, 16, 110, 16, 108, 16, 105]
abbrev dktX10_init_32 : List UInt8 := dkwX10_init_32 ++ dktX10_init_33
def dkwX10_init_31 : List UInt8 := [16, 97, 16, 121, 3, 3, 3, 3, 184, 0, 156, 80, 42, 180, 0, 34, 16, 17, 16, 102, 16, 97, 16, 99]
abbrev dktX10_init_31 : List UInt8 := dkwX10_init_31 ++ dktX10_init_32
def dkwX10_init_30 : List UInt8 := [16, 105, 16, 100, 16, 108, 16, 101, 3, 3, 3, 184, 0, 156, 80, 42, 180, 0, 34, 16, 16, 16, 100]
abbrev dktX10_init_30 : List UInt8 := dkwX10_init_30 ++ dktX10_init_31
def dkwX10_init_29 : List UInt8 := [16, 14, 16, 108, 16, 105, 16, 102, 16, 116, 16, 115, 3, 3, 184, 0, 156, 80, 42, 180, 0, 34, 16, 15]
abbrev dktX10_init_29 : List UInt8 := dkwX10_init_29 ++ dktX10_init_30
def dkwX10_init_28 : List UInt8 := [180, 0, 34, 16, 13, 16, 112, 16, 97, 16, 114, 16, 116, 3, 3, 3, 184, 0, 156, 80, 42, 180, 0, 34]
abbrev dktX10_init_28 : List UInt8 := dkwX10_init_28 ++ dktX10_init_29
def dkwX10_init_27 : List UInt8 := [180, 0, 34, 16, 12, 16, 97, 16, 112, 16, 97, 16, 114, 16, 116, 3, 3, 184, 0, 156, 80, 42]
abbrev dktX10_init_27 : List UInt8 := dkwX10_init_27 ++ dktX10_init_28
def dkwX10_init_26 : List UInt8 := [80, 42, 180, 0, 34, 16, 11, 16, 101, 16, 108, 16, 115, 16, 101, 3, 3, 3, 184, 0, 156, 80, 42]
abbrev dktX10_init_26 : List UInt8 := dkwX10_init_26 ++ dktX10_init_27
def dkwX10_init_25 : List UInt8 := [184, 0, 156, 80, 42, 180, 0, 34, 16, 10, 16, 116, 16, 104, 16, 101, 16, 110, 3, 3, 3, 184, 0, 156]
abbrev dktX10_init_25 : List UInt8 := dkwX10_init_25 ++ dktX10_init_26
def dkwX10_init_24 : List UInt8 := [16, 100, 3, 3, 3, 184, 0, 156, 80, 42, 180, 0, 34, 16, 9, 16, 105, 16, 102, 3, 3, 3, 3, 3]
abbrev dktX10_init_24 : List UInt8 := dkwX10_init_24 ++ dktX10_init_25
def dkwX10_init_23 : List UInt8 := [16, 97, 16, 114, 3, 3, 3, 184, 0, 156, 80, 42, 180, 0, 34, 16, 8, 16, 115, 16, 101, 16, 101]
abbrev dktX10_init_23 : List UInt8 := dkwX10_init_23 ++ dktX10_init_24
def dkwX10_init_22 : List UInt8 := [16, 105, 16, 110, 16, 100, 3, 3, 3, 184, 0, 156, 80, 42, 180, 0, 34, 16, 7, 16, 110, 16, 101]
abbrev dktX10_init_22 : List UInt8 := dkwX10_init_22 ++ dktX10_init_23
def dkwX10_init_21 : List UInt8 := [8, 16, 112, 16, 97, 16, 121, 16, 115, 3, 3, 3, 184, 0, 156, 80, 42, 180, 0, 34, 16, 6, 16, 119]
abbrev dktX10_init_21 : List UInt8 := dkwX10_init_21 ++ dktX10_init_22
def dkwX10_init_20 : List UInt8 := [180, 0, 34, 7, 16, 119, 16, 101, 16, 97, 16, 114, 16, 115, 3, 3, 184, 0, 156, 80, 42, 180, 0, 34]
abbrev dktX10_init_20 : List UInt8 := dkwX10_init_20 ++ dktX10_init_21
def dkwX10_init_19 : List UInt8 := [80, 42, 180, 0, 34, 6, 16, 103, 16, 105, 16, 118, 16, 101, 16, 115, 3, 3, 184, 0, 156, 80, 42]
abbrev dktX10_init_19 : List UInt8 := dkwX10_init_19 ++ dktX10_init_20
def dkwX10_init_18 : List UInt8 := [184, 0, 156, 80, 42, 180, 0, 34, 5, 16, 114, 16, 111, 16, 117, 16, 110, 16, 100, 3, 3, 184, 0, 156]
abbrev dktX10_init_18 : List UInt8 := dkwX10_init_18 ++ dktX10_init_19
def dkwX10_init_17 : List UInt8 := [3, 184, 0, 156, 80, 42, 180, 0, 34, 4, 16, 99, 16, 97, 16, 108, 16, 108, 16, 101, 16, 114, 3]
abbrev dktX10_init_17 : List UInt8 := dkwX10_init_17 ++ dktX10_init_18
def dkwX10_init_16 : List UInt8 := [3, 182, 0, 152, 42, 4, 182, 0, 152, 42, 180, 0, 34, 3, 16, 100, 16, 111, 16, 111, 16, 114, 3, 3]
abbrev dktX10_init_16 : List UInt8 := dkwX10_init_16 ++ dktX10_init_17
def dkwX10_init_15 : List UInt8 := [16, 20, 188, 10, 181, 0, 143, 42, 6, 188, 4, 181, 0, 146, 42, 17, 0, 210, 188, 10, 181, 0, 149, 42]
abbrev dktX10_init_15 : List UInt8 := dkwX10_init_15 ++ dktX10_init_16
def dkwX10_init_14 : List UInt8 := [8, 188, 10, 181, 0, 134, 42, 16, 20, 188, 10, 181, 0, 137, 42, 16, 20, 188, 10, 181, 0, 140, 42]
abbrev dktX10_init_14 : List UInt8 := dkwX10_init_14 ++ dktX10_init_15
def dkwX10_init_13 : List UInt8 := [188, 10, 181, 0, 125, 42, 17, 10, 240, 188, 10, 181, 0, 128, 42, 17, 0, 224, 188, 10, 181, 0, 131, 42]
abbrev dktX10_init_13 : List UInt8 := dkwX10_init_13 ++ dktX10_init_14
def dkwX10_init_12 : List UInt8 := [188, 10, 181, 0, 116, 42, 16, 70, 188, 10, 181, 0, 119, 42, 16, 70, 188, 10, 181, 0, 122, 42, 7]
abbrev dktX10_init_12 : List UInt8 := dkwX10_init_12 ++ dktX10_init_13
def dkwX10_init_11 : List UInt8 := [181, 0, 107, 42, 16, 64, 188, 10, 181, 0, 110, 42, 16, 9, 188, 10, 181, 0, 113, 42, 17, 1, 144]
abbrev dktX10_init_11 : List UInt8 := dkwX10_init_11 ++ dktX10_init_12
def dkwX10_init_10 : List UInt8 := [17, 1, 4, 188, 10, 181, 0, 101, 42, 17, 3, 72, 188, 10, 181, 0, 104, 42, 17, 3, 72, 188, 10]
abbrev dktX10_init_10 : List UInt8 := dkwX10_init_10 ++ dktX10_init_11
def dkwX10_init_9 : List UInt8 := [188, 10, 181, 0, 92, 42, 17, 1, 4, 188, 10, 181, 0, 95, 42, 17, 1, 4, 188, 10, 181, 0, 98, 42]
abbrev dktX10_init_9 : List UInt8 := dkwX10_init_9 ++ dktX10_init_10
def dkwX10_init_8 : List UInt8 := [181, 0, 82, 42, 16, 6, 188, 10, 181, 0, 85, 42, 17, 1, 4, 188, 4, 181, 0, 88, 42, 17, 1, 4]
abbrev dktX10_init_8 : List UInt8 := dkwX10_init_8 ++ dktX10_init_9
def dkwX10_init_7 : List UInt8 := [181, 0, 73, 42, 5, 188, 10, 181, 0, 76, 42, 5, 188, 10, 181, 0, 79, 42, 16, 6, 188, 10]
abbrev dktX10_init_7 : List UInt8 := dkwX10_init_7 ++ dktX10_init_8
def dkwX10_init_6 : List UInt8 := [181, 0, 64, 42, 16, 20, 188, 10, 181, 0, 67, 42, 16, 20, 188, 10, 181, 0, 70, 42, 5, 188, 10]
abbrev dktX10_init_6 : List UInt8 := dkwX10_init_6 ++ dktX10_init_7
def dkwX10_init_5 : List UInt8 := [181, 0, 55, 42, 5, 188, 10, 181, 0, 58, 42, 16, 20, 188, 10, 181, 0, 61, 42, 16, 20, 188, 10]
abbrev dktX10_init_5 : List UInt8 := dkwX10_init_5 ++ dktX10_init_6
def dkwX10_init_4 : List UInt8 := [181, 0, 46, 42, 16, 48, 188, 10, 181, 0, 49, 42, 5, 188, 10, 181, 0, 52, 42, 16, 40, 188, 10]
abbrev dktX10_init_4 : List UInt8 := dkwX10_init_4 ++ dktX10_init_5
def dkwX10_init_3 : List UInt8 := [181, 0, 37, 42, 16, 11, 188, 11, 181, 0, 40, 42, 16, 11, 188, 10, 181, 0, 43, 42, 5, 188, 10]
abbrev dktX10_init_3 : List UInt8 := dkwX10_init_3 ++ dktX10_init_4
def dkwX10_init_2 : List UInt8 := [181, 0, 27, 42, 17, 1, 147, 188, 11, 181, 0, 30, 42, 16, 21, 188, 11, 181, 0, 34, 42, 2]
abbrev dktX10_init_2 : List UInt8 := dkwX10_init_2 ++ dktX10_init_3
def dkwX10_init_1 : List UInt8 := [17, 1, 147, 188, 10, 181, 0, 20, 42, 17, 1, 147, 188, 10, 181, 0, 24, 42, 17, 1, 147, 188, 10]
abbrev dktX10_init_1 : List UInt8 := dkwX10_init_1 ++ dktX10_init_2
def dkwX10_init_0 : List UInt8 := [42, 183, 0, 7, 42, 17, 7, 208, 188, 8, 181, 0, 13, 42, 17, 7, 208, 188, 8, 181, 0, 17, 42]
abbrev dktX10_init_0 : List UInt8 := dkwX10_init_0 ++ dktX10_init_1
theorem dksX10_init_0 : cX10_init.data.toList.drop 0 = dktX10_init_0 := by decide +kernel
theorem dksX10_init_1 : cX10_init.data.toList.drop 23 = dktX10_init_1 := dk_seg dksX10_init_0 23 rfl rfl
theorem dksX10_init_2 : cX10_init.data.toList.drop 46 = dktX10_init_2 := dk_seg dksX10_init_1 23 rfl rfl
theorem dksX10_init_3 : cX10_init.data.toList.drop 68 = dktX10_init_3 := dk_seg dksX10_init_2 22 rfl rfl
theorem dksX10_init_4 : cX10_init.data.toList.drop 91 = dktX10_init_4 := dk_seg dksX10_init_3 23 rfl rfl
theorem dksX10_init_5 : cX10_init.data.toList.drop 114 = dktX10_init_5 := dk_seg dksX10_init_4 23 rfl rfl
theorem dksX10_init_6 : cX10_init.data.toList.drop 137 = dktX10_init_6 := dk_seg dksX10_init_5 23 rfl rfl
theorem dksX10_init_7 : cX10_init.data.toList.drop 160 = dktX10_init_7 := dk_seg dksX10_init_6 23 rfl rfl
theorem dksX10_init_8 : cX10_init.data.toList.drop 182 = dktX10_init_8 := dk_seg dksX10_init_7 22 rfl rfl
theorem dksX10_init_9 : cX10_init.data.toList.drop 206 = dktX10_init_9 := dk_seg dksX10_init_8 24 rfl rfl
theorem dksX10_init_10 : cX10_init.data.toList.drop 230 = dktX10_init_10 := dk_seg dksX10_init_9 24 rfl rfl
theorem dksX10_init_11 : cX10_init.data.toList.drop 253 = dktX10_init_11 := dk_seg dksX10_init_10 23 rfl rfl
theorem dksX10_init_12 : cX10_init.data.toList.drop 276 = dktX10_init_12 := dk_seg dksX10_init_11 23 rfl rfl
theorem dksX10_init_13 : cX10_init.data.toList.drop 299 = dktX10_init_13 := dk_seg dksX10_init_12 23 rfl rfl
theorem dksX10_init_14 : cX10_init.data.toList.drop 323 = dktX10_init_14 := dk_seg dksX10_init_13 24 rfl rfl
theorem dksX10_init_15 : cX10_init.data.toList.drop 346 = dktX10_init_15 := dk_seg dksX10_init_14 23 rfl rfl
theorem dksX10_init_16 : cX10_init.data.toList.drop 370 = dktX10_init_16 := dk_seg dksX10_init_15 24 rfl rfl
theorem dksX10_init_17 : cX10_init.data.toList.drop 394 = dktX10_init_17 := dk_seg dksX10_init_16 24 rfl rfl
theorem dksX10_init_18 : cX10_init.data.toList.drop 417 = dktX10_init_18 := dk_seg dksX10_init_17 23 rfl rfl
theorem dksX10_init_19 : cX10_init.data.toList.drop 441 = dktX10_init_19 := dk_seg dksX10_init_18 24 rfl rfl
theorem dksX10_init_20 : cX10_init.data.toList.drop 464 = dktX10_init_20 := dk_seg dksX10_init_19 23 rfl rfl
theorem dksX10_init_21 : cX10_init.data.toList.drop 488 = dktX10_init_21 := dk_seg dksX10_init_20 24 rfl rfl
theorem dksX10_init_22 : cX10_init.data.toList.drop 512 = dktX10_init_22 := dk_seg dksX10_init_21 24 rfl rfl
theorem dksX10_init_23 : cX10_init.data.toList.drop 535 = dktX10_init_23 := dk_seg dksX10_init_22 23 rfl rfl
theorem dksX10_init_24 : cX10_init.data.toList.drop 558 = dktX10_init_24 := dk_seg dksX10_init_23 23 rfl rfl
theorem dksX10_init_25 : cX10_init.data.toList.drop 582 = dktX10_init_25 := dk_seg dksX10_init_24 24 rfl rfl
theorem dksX10_init_26 : cX10_init.data.toList.drop 606 = dktX10_init_26 := dk_seg dksX10_init_25 24 rfl rfl
theorem dksX10_init_27 : cX10_init.data.toList.drop 629 = dktX10_init_27 := dk_seg dksX10_init_26 23 rfl rfl
theorem dksX10_init_28 : cX10_init.data.toList.drop 651 = dktX10_init_28 := dk_seg dksX10_init_27 22 rfl rfl
theorem dksX10_init_29 : cX10_init.data.toList.drop 675 = dktX10_init_29 := dk_seg dksX10_init_28 24 rfl rfl
theorem dksX10_init_30 : cX10_init.data.toList.drop 699 = dktX10_init_30 := dk_seg dksX10_init_29 24 rfl rfl
theorem dksX10_init_31 : cX10_init.data.toList.drop 722 = dktX10_init_31 := dk_seg dksX10_init_30 23 rfl rfl
theorem dksX10_init_32 : cX10_init.data.toList.drop 746 = dktX10_init_32 := dk_seg dksX10_init_31 24 rfl rfl
theorem dksX10_init_33 : cX10_init.data.toList.drop 769 = dktX10_init_33 := dk_seg dksX10_init_32 23 rfl rfl
theorem dksX10_init_34 : cX10_init.data.toList.drop 792 = dktX10_init_34 := dk_seg dksX10_init_33 23 rfl rfl
theorem dksX10_init_35 : cX10_init.data.toList.drop 816 = dktX10_init_35 := dk_seg dksX10_init_34 24 rfl rfl
theorem dX10_init_0 : decode cX10_init 0 = .ok (.aload_n 0, 1) := dk_42 (dk_at dksX10_init_0 0 rfl rfl)
theorem dX10_init_1 : decode cX10_init 1 = .ok (.invokespecial 7, 3) := dk_183 0 7 (dk_at dksX10_init_0 1 rfl rfl)
theorem dX10_init_4 : decode cX10_init 4 = .ok (.aload_n 0, 1) := dk_42 (dk_at dksX10_init_0 4 rfl rfl)
theorem dX10_init_5 : decode cX10_init 5 = .ok (.sipush 2000, 3) := dk_17 7 208 (dk_at dksX10_init_0 5 rfl rfl)
theorem dX10_init_8 : decode cX10_init 8 = .ok (.newarray .byte, 2) := dk_188_8 (dk_at dksX10_init_0 8 rfl rfl)
theorem dX10_init_10 : decode cX10_init 10 = .ok (.putfield 13, 3) := dk_181 0 13 (dk_at dksX10_init_0 10 rfl rfl)
theorem dX10_init_13 : decode cX10_init 13 = .ok (.aload_n 0, 1) := dk_42 (dk_at dksX10_init_0 13 rfl rfl)
theorem dX10_init_14 : decode cX10_init 14 = .ok (.sipush 2000, 3) := dk_17 7 208 (dk_at dksX10_init_0 14 rfl rfl)
theorem dX10_init_17 : decode cX10_init 17 = .ok (.newarray .byte, 2) := dk_188_8 (dk_at dksX10_init_0 17 rfl rfl)
theorem dX10_init_19 : decode cX10_init 19 = .ok (.putfield 17, 3) := dk_181 0 17 (dk_at dksX10_init_0 19 rfl rfl)
theorem dX10_init_22 : decode cX10_init 22 = .ok (.aload_n 0, 1) := dk_42 (dk_at dksX10_init_0 22 rfl rfl)
theorem dX10_init_23 : decode cX10_init 23 = .ok (.sipush 403, 3) := dk_17 1 147 (dk_at dksX10_init_1 0 rfl rfl)
theorem dX10_init_26 : decode cX10_init 26 = .ok (.newarray .int, 2) := dk_188_10 (dk_at dksX10_init_1 3 rfl rfl)
theorem dX10_init_28 : decode cX10_init 28 = .ok (.putfield 20, 3) := dk_181 0 20 (dk_at dksX10_init_1 5 rfl rfl)
theorem dX10_init_31 : decode cX10_init 31 = .ok (.aload_n 0, 1) := dk_42 (dk_at dksX10_init_1 8 rfl rfl)
theorem dX10_init_32 : decode cX10_init 32 = .ok (.sipush 403, 3) := dk_17 1 147 (dk_at dksX10_init_1 9 rfl rfl)
theorem dX10_init_35 : decode cX10_init 35 = .ok (.newarray .int, 2) := dk_188_10 (dk_at dksX10_init_1 12 rfl rfl)
theorem dX10_init_37 : decode cX10_init 37 = .ok (.putfield 24, 3) := dk_181 0 24 (dk_at dksX10_init_1 14 rfl rfl)
theorem dX10_init_40 : decode cX10_init 40 = .ok (.aload_n 0, 1) := dk_42 (dk_at dksX10_init_1 17 rfl rfl)
theorem dX10_init_41 : decode cX10_init 41 = .ok (.sipush 403, 3) := dk_17 1 147 (dk_at dksX10_init_1 18 rfl rfl)
theorem dX10_init_44 : decode cX10_init 44 = .ok (.newarray .int, 2) := dk_188_10 (dk_at dksX10_init_1 21 rfl rfl)
theorem dX10_init_46 : decode cX10_init 46 = .ok (.putfield 27, 3) := dk_181 0 27 (dk_at dksX10_init_2 0 rfl rfl)
theorem dX10_init_49 : decode cX10_init 49 = .ok (.aload_n 0, 1) := dk_42 (dk_at dksX10_init_2 3 rfl rfl)
theorem dX10_init_50 : decode cX10_init 50 = .ok (.sipush 403, 3) := dk_17 1 147 (dk_at dksX10_init_2 4 rfl rfl)
theorem dX10_init_53 : decode cX10_init 53 = .ok (.newarray .long, 2) := dk_188_11 (dk_at dksX10_init_2 7 rfl rfl)
theorem dX10_init_55 : decode cX10_init 55 = .ok (.putfield 30, 3) := dk_181 0 30 (dk_at dksX10_init_2 9 rfl rfl)
theorem dX10_init_58 : decode cX10_init 58 = .ok (.aload_n 0, 1) := dk_42 (dk_at dksX10_init_2 12 rfl rfl)
theorem dX10_init_59 : decode cX10_init 59 = .ok (.bipush 21, 2) := dk_16 21 (dk_at dksX10_init_2 13 rfl rfl)
theorem dX10_init_61 : decode cX10_init 61 = .ok (.newarray .long, 2) := dk_188_11 (dk_at dksX10_init_2 15 rfl rfl)
theorem dX10_init_63 : decode cX10_init 63 = .ok (.putfield 34, 3) := dk_181 0 34 (dk_at dksX10_init_2 17 rfl rfl)
theorem dX10_init_66 : decode cX10_init 66 = .ok (.aload_n 0, 1) := dk_42 (dk_at dksX10_init_2 20 rfl rfl)
theorem dX10_init_67 : decode cX10_init 67 = .ok (.iconst (-1), 1) := dk_2 (dk_at dksX10_init_2 21 rfl rfl)
theorem dX10_init_68 : decode cX10_init 68 = .ok (.putfield 37, 3) := dk_181 0 37 (dk_at dksX10_init_3 0 rfl rfl)
theorem dX10_init_71 : decode cX10_init 71 = .ok (.aload_n 0, 1) := dk_42 (dk_at dksX10_init_3 3 rfl rfl)
theorem dX10_init_72 : decode cX10_init 72 = .ok (.bipush 11, 2) := dk_16 11 (dk_at dksX10_init_3 4 rfl rfl)
theorem dX10_init_74 : decode cX10_init 74 = .ok (.newarray .long, 2) := dk_188_11 (dk_at dksX10_init_3 6 rfl rfl)
theorem dX10_init_76 : decode cX10_init 76 = .ok (.putfield 40, 3) := dk_181 0 40 (dk_at dksX10_init_3 8 rfl rfl)
theorem dX10_init_79 : decode cX10_init 79 = .ok (.aload_n 0, 1) := dk_42 (dk_at dksX10_init_3 11 rfl rfl)
theorem dX10_init_80 : decode cX10_init 80 = .ok (.bipush 11, 2) := dk_16 11 (dk_at dksX10_init_3 12 rfl rfl)
theorem dX10_init_82 : decode cX10_init 82 = .ok (.newarray .int, 2) := dk_188_10 (dk_at dksX10_init_3 14 rfl rfl)
theorem dX10_init_84 : decode cX10_init 84 = .ok (.putfield 43, 3) := dk_181 0 43 (dk_at dksX10_init_3 16 rfl rfl)
theorem dX10_init_87 : decode cX10_init 87 = .ok (.aload_n 0, 1) := dk_42 (dk_at dksX10_init_3 19 rfl rfl)
theorem dX10_init_88 : decode cX10_init 88 = .ok (.iconst 2, 1) := dk_5 (dk_at dksX10_init_3 20 rfl rfl)
theorem dX10_init_89 : decode cX10_init 89 = .ok (.newarray .int, 2) := dk_188_10 (dk_at dksX10_init_3 21 rfl rfl)
theorem dX10_init_91 : decode cX10_init 91 = .ok (.putfield 46, 3) := dk_181 0 46 (dk_at dksX10_init_4 0 rfl rfl)
theorem dX10_init_94 : decode cX10_init 94 = .ok (.aload_n 0, 1) := dk_42 (dk_at dksX10_init_4 3 rfl rfl)
theorem dX10_init_95 : decode cX10_init 95 = .ok (.bipush 48, 2) := dk_16 48 (dk_at dksX10_init_4 4 rfl rfl)
theorem dX10_init_97 : decode cX10_init 97 = .ok (.newarray .int, 2) := dk_188_10 (dk_at dksX10_init_4 6 rfl rfl)
theorem dX10_init_99 : decode cX10_init 99 = .ok (.putfield 49, 3) := dk_181 0 49 (dk_at dksX10_init_4 8 rfl rfl)
theorem dX10_init_102 : decode cX10_init 102 = .ok (.aload_n 0, 1) := dk_42 (dk_at dksX10_init_4 11 rfl rfl)
theorem dX10_init_103 : decode cX10_init 103 = .ok (.iconst 2, 1) := dk_5 (dk_at dksX10_init_4 12 rfl rfl)
theorem dX10_init_104 : decode cX10_init 104 = .ok (.newarray .int, 2) := dk_188_10 (dk_at dksX10_init_4 13 rfl rfl)
theorem dX10_init_106 : decode cX10_init 106 = .ok (.putfield 52, 3) := dk_181 0 52 (dk_at dksX10_init_4 15 rfl rfl)
theorem dX10_init_109 : decode cX10_init 109 = .ok (.aload_n 0, 1) := dk_42 (dk_at dksX10_init_4 18 rfl rfl)
theorem dX10_init_110 : decode cX10_init 110 = .ok (.bipush 40, 2) := dk_16 40 (dk_at dksX10_init_4 19 rfl rfl)
theorem dX10_init_112 : decode cX10_init 112 = .ok (.newarray .int, 2) := dk_188_10 (dk_at dksX10_init_4 21 rfl rfl)
theorem dX10_init_114 : decode cX10_init 114 = .ok (.putfield 55, 3) := dk_181 0 55 (dk_at dksX10_init_5 0 rfl rfl)
theorem dX10_init_117 : decode cX10_init 117 = .ok (.aload_n 0, 1) := dk_42 (dk_at dksX10_init_5 3 rfl rfl)
theorem dX10_init_118 : decode cX10_init 118 = .ok (.iconst 2, 1) := dk_5 (dk_at dksX10_init_5 4 rfl rfl)
theorem dX10_init_119 : decode cX10_init 119 = .ok (.newarray .int, 2) := dk_188_10 (dk_at dksX10_init_5 5 rfl rfl)
theorem dX10_init_121 : decode cX10_init 121 = .ok (.putfield 58, 3) := dk_181 0 58 (dk_at dksX10_init_5 7 rfl rfl)
theorem dX10_init_124 : decode cX10_init 124 = .ok (.aload_n 0, 1) := dk_42 (dk_at dksX10_init_5 10 rfl rfl)
theorem dX10_init_125 : decode cX10_init 125 = .ok (.bipush 20, 2) := dk_16 20 (dk_at dksX10_init_5 11 rfl rfl)
theorem dX10_init_127 : decode cX10_init 127 = .ok (.newarray .int, 2) := dk_188_10 (dk_at dksX10_init_5 13 rfl rfl)
theorem dX10_init_129 : decode cX10_init 129 = .ok (.putfield 61, 3) := dk_181 0 61 (dk_at dksX10_init_5 15 rfl rfl)
theorem dX10_init_132 : decode cX10_init 132 = .ok (.aload_n 0, 1) := dk_42 (dk_at dksX10_init_5 18 rfl rfl)
theorem dX10_init_133 : decode cX10_init 133 = .ok (.bipush 20, 2) := dk_16 20 (dk_at dksX10_init_5 19 rfl rfl)
theorem dX10_init_135 : decode cX10_init 135 = .ok (.newarray .int, 2) := dk_188_10 (dk_at dksX10_init_5 21 rfl rfl)
theorem dX10_init_137 : decode cX10_init 137 = .ok (.putfield 64, 3) := dk_181 0 64 (dk_at dksX10_init_6 0 rfl rfl)
theorem dX10_init_140 : decode cX10_init 140 = .ok (.aload_n 0, 1) := dk_42 (dk_at dksX10_init_6 3 rfl rfl)
theorem dX10_init_141 : decode cX10_init 141 = .ok (.bipush 20, 2) := dk_16 20 (dk_at dksX10_init_6 4 rfl rfl)
theorem dX10_init_143 : decode cX10_init 143 = .ok (.newarray .int, 2) := dk_188_10 (dk_at dksX10_init_6 6 rfl rfl)
theorem dX10_init_145 : decode cX10_init 145 = .ok (.putfield 67, 3) := dk_181 0 67 (dk_at dksX10_init_6 8 rfl rfl)
theorem dX10_init_148 : decode cX10_init 148 = .ok (.aload_n 0, 1) := dk_42 (dk_at dksX10_init_6 11 rfl rfl)
theorem dX10_init_149 : decode cX10_init 149 = .ok (.bipush 20, 2) := dk_16 20 (dk_at dksX10_init_6 12 rfl rfl)
theorem dX10_init_151 : decode cX10_init 151 = .ok (.newarray .int, 2) := dk_188_10 (dk_at dksX10_init_6 14 rfl rfl)
theorem dX10_init_153 : decode cX10_init 153 = .ok (.putfield 70, 3) := dk_181 0 70 (dk_at dksX10_init_6 16 rfl rfl)
theorem dX10_init_156 : decode cX10_init 156 = .ok (.aload_n 0, 1) := dk_42 (dk_at dksX10_init_6 19 rfl rfl)
theorem dX10_init_157 : decode cX10_init 157 = .ok (.iconst 2, 1) := dk_5 (dk_at dksX10_init_6 20 rfl rfl)
theorem dX10_init_158 : decode cX10_init 158 = .ok (.newarray .int, 2) := dk_188_10 (dk_at dksX10_init_6 21 rfl rfl)
theorem dX10_init_160 : decode cX10_init 160 = .ok (.putfield 73, 3) := dk_181 0 73 (dk_at dksX10_init_7 0 rfl rfl)
theorem dX10_init_163 : decode cX10_init 163 = .ok (.aload_n 0, 1) := dk_42 (dk_at dksX10_init_7 3 rfl rfl)
theorem dX10_init_164 : decode cX10_init 164 = .ok (.iconst 2, 1) := dk_5 (dk_at dksX10_init_7 4 rfl rfl)
theorem dX10_init_165 : decode cX10_init 165 = .ok (.newarray .int, 2) := dk_188_10 (dk_at dksX10_init_7 5 rfl rfl)
theorem dX10_init_167 : decode cX10_init 167 = .ok (.putfield 76, 3) := dk_181 0 76 (dk_at dksX10_init_7 7 rfl rfl)
theorem dX10_init_170 : decode cX10_init 170 = .ok (.aload_n 0, 1) := dk_42 (dk_at dksX10_init_7 10 rfl rfl)
theorem dX10_init_171 : decode cX10_init 171 = .ok (.iconst 2, 1) := dk_5 (dk_at dksX10_init_7 11 rfl rfl)
theorem dX10_init_172 : decode cX10_init 172 = .ok (.newarray .int, 2) := dk_188_10 (dk_at dksX10_init_7 12 rfl rfl)
theorem dX10_init_174 : decode cX10_init 174 = .ok (.putfield 79, 3) := dk_181 0 79 (dk_at dksX10_init_7 14 rfl rfl)
theorem dX10_init_177 : decode cX10_init 177 = .ok (.aload_n 0, 1) := dk_42 (dk_at dksX10_init_7 17 rfl rfl)
theorem dX10_init_178 : decode cX10_init 178 = .ok (.bipush 6, 2) := dk_16 6 (dk_at dksX10_init_7 18 rfl rfl)
theorem dX10_init_180 : decode cX10_init 180 = .ok (.newarray .int, 2) := dk_188_10 (dk_at dksX10_init_7 20 rfl rfl)
theorem dX10_init_182 : decode cX10_init 182 = .ok (.putfield 82, 3) := dk_181 0 82 (dk_at dksX10_init_8 0 rfl rfl)
theorem dX10_init_185 : decode cX10_init 185 = .ok (.aload_n 0, 1) := dk_42 (dk_at dksX10_init_8 3 rfl rfl)
theorem dX10_init_186 : decode cX10_init 186 = .ok (.bipush 6, 2) := dk_16 6 (dk_at dksX10_init_8 4 rfl rfl)
theorem dX10_init_188 : decode cX10_init 188 = .ok (.newarray .int, 2) := dk_188_10 (dk_at dksX10_init_8 6 rfl rfl)
theorem dX10_init_190 : decode cX10_init 190 = .ok (.putfield 85, 3) := dk_181 0 85 (dk_at dksX10_init_8 8 rfl rfl)
theorem dX10_init_193 : decode cX10_init 193 = .ok (.aload_n 0, 1) := dk_42 (dk_at dksX10_init_8 11 rfl rfl)
theorem dX10_init_194 : decode cX10_init 194 = .ok (.sipush 260, 3) := dk_17 1 4 (dk_at dksX10_init_8 12 rfl rfl)
theorem dX10_init_197 : decode cX10_init 197 = .ok (.newarray .boolean, 2) := dk_188_4 (dk_at dksX10_init_8 15 rfl rfl)
theorem dX10_init_199 : decode cX10_init 199 = .ok (.putfield 88, 3) := dk_181 0 88 (dk_at dksX10_init_8 17 rfl rfl)
theorem dX10_init_202 : decode cX10_init 202 = .ok (.aload_n 0, 1) := dk_42 (dk_at dksX10_init_8 20 rfl rfl)
theorem dX10_init_203 : decode cX10_init 203 = .ok (.sipush 260, 3) := dk_17 1 4 (dk_at dksX10_init_8 21 rfl rfl)
theorem dX10_init_206 : decode cX10_init 206 = .ok (.newarray .int, 2) := dk_188_10 (dk_at dksX10_init_9 0 rfl rfl)
theorem dX10_init_208 : decode cX10_init 208 = .ok (.putfield 92, 3) := dk_181 0 92 (dk_at dksX10_init_9 2 rfl rfl)
theorem dX10_init_211 : decode cX10_init 211 = .ok (.aload_n 0, 1) := dk_42 (dk_at dksX10_init_9 5 rfl rfl)
theorem dX10_init_212 : decode cX10_init 212 = .ok (.sipush 260, 3) := dk_17 1 4 (dk_at dksX10_init_9 6 rfl rfl)
theorem dX10_init_215 : decode cX10_init 215 = .ok (.newarray .int, 2) := dk_188_10 (dk_at dksX10_init_9 9 rfl rfl)
theorem dX10_init_217 : decode cX10_init 217 = .ok (.putfield 95, 3) := dk_181 0 95 (dk_at dksX10_init_9 11 rfl rfl)
theorem dX10_init_220 : decode cX10_init 220 = .ok (.aload_n 0, 1) := dk_42 (dk_at dksX10_init_9 14 rfl rfl)
theorem dX10_init_221 : decode cX10_init 221 = .ok (.sipush 260, 3) := dk_17 1 4 (dk_at dksX10_init_9 15 rfl rfl)
theorem dX10_init_224 : decode cX10_init 224 = .ok (.newarray .int, 2) := dk_188_10 (dk_at dksX10_init_9 18 rfl rfl)
theorem dX10_init_226 : decode cX10_init 226 = .ok (.putfield 98, 3) := dk_181 0 98 (dk_at dksX10_init_9 20 rfl rfl)
theorem dX10_init_229 : decode cX10_init 229 = .ok (.aload_n 0, 1) := dk_42 (dk_at dksX10_init_9 23 rfl rfl)
theorem dX10_init_230 : decode cX10_init 230 = .ok (.sipush 260, 3) := dk_17 1 4 (dk_at dksX10_init_10 0 rfl rfl)
theorem dX10_init_233 : decode cX10_init 233 = .ok (.newarray .int, 2) := dk_188_10 (dk_at dksX10_init_10 3 rfl rfl)
theorem dX10_init_235 : decode cX10_init 235 = .ok (.putfield 101, 3) := dk_181 0 101 (dk_at dksX10_init_10 5 rfl rfl)
theorem dX10_init_238 : decode cX10_init 238 = .ok (.aload_n 0, 1) := dk_42 (dk_at dksX10_init_10 8 rfl rfl)
theorem dX10_init_239 : decode cX10_init 239 = .ok (.sipush 840, 3) := dk_17 3 72 (dk_at dksX10_init_10 9 rfl rfl)
theorem dX10_init_242 : decode cX10_init 242 = .ok (.newarray .int, 2) := dk_188_10 (dk_at dksX10_init_10 12 rfl rfl)
theorem dX10_init_244 : decode cX10_init 244 = .ok (.putfield 104, 3) := dk_181 0 104 (dk_at dksX10_init_10 14 rfl rfl)
theorem dX10_init_247 : decode cX10_init 247 = .ok (.aload_n 0, 1) := dk_42 (dk_at dksX10_init_10 17 rfl rfl)
theorem dX10_init_248 : decode cX10_init 248 = .ok (.sipush 840, 3) := dk_17 3 72 (dk_at dksX10_init_10 18 rfl rfl)
theorem dX10_init_251 : decode cX10_init 251 = .ok (.newarray .int, 2) := dk_188_10 (dk_at dksX10_init_10 21 rfl rfl)
theorem dX10_init_253 : decode cX10_init 253 = .ok (.putfield 107, 3) := dk_181 0 107 (dk_at dksX10_init_11 0 rfl rfl)
theorem dX10_init_256 : decode cX10_init 256 = .ok (.aload_n 0, 1) := dk_42 (dk_at dksX10_init_11 3 rfl rfl)
theorem dX10_init_257 : decode cX10_init 257 = .ok (.bipush 64, 2) := dk_16 64 (dk_at dksX10_init_11 4 rfl rfl)
theorem dX10_init_259 : decode cX10_init 259 = .ok (.newarray .int, 2) := dk_188_10 (dk_at dksX10_init_11 6 rfl rfl)
theorem dX10_init_261 : decode cX10_init 261 = .ok (.putfield 110, 3) := dk_181 0 110 (dk_at dksX10_init_11 8 rfl rfl)
theorem dX10_init_264 : decode cX10_init 264 = .ok (.aload_n 0, 1) := dk_42 (dk_at dksX10_init_11 11 rfl rfl)
theorem dX10_init_265 : decode cX10_init 265 = .ok (.bipush 9, 2) := dk_16 9 (dk_at dksX10_init_11 12 rfl rfl)
theorem dX10_init_267 : decode cX10_init 267 = .ok (.newarray .int, 2) := dk_188_10 (dk_at dksX10_init_11 14 rfl rfl)
theorem dX10_init_269 : decode cX10_init 269 = .ok (.putfield 113, 3) := dk_181 0 113 (dk_at dksX10_init_11 16 rfl rfl)
theorem dX10_init_272 : decode cX10_init 272 = .ok (.aload_n 0, 1) := dk_42 (dk_at dksX10_init_11 19 rfl rfl)
theorem dX10_init_273 : decode cX10_init 273 = .ok (.sipush 400, 3) := dk_17 1 144 (dk_at dksX10_init_11 20 rfl rfl)
theorem dX10_init_276 : decode cX10_init 276 = .ok (.newarray .int, 2) := dk_188_10 (dk_at dksX10_init_12 0 rfl rfl)
theorem dX10_init_278 : decode cX10_init 278 = .ok (.putfield 116, 3) := dk_181 0 116 (dk_at dksX10_init_12 2 rfl rfl)
theorem dX10_init_281 : decode cX10_init 281 = .ok (.aload_n 0, 1) := dk_42 (dk_at dksX10_init_12 5 rfl rfl)
theorem dX10_init_282 : decode cX10_init 282 = .ok (.bipush 70, 2) := dk_16 70 (dk_at dksX10_init_12 6 rfl rfl)
theorem dX10_init_284 : decode cX10_init 284 = .ok (.newarray .int, 2) := dk_188_10 (dk_at dksX10_init_12 8 rfl rfl)
theorem dX10_init_286 : decode cX10_init 286 = .ok (.putfield 119, 3) := dk_181 0 119 (dk_at dksX10_init_12 10 rfl rfl)
theorem dX10_init_289 : decode cX10_init 289 = .ok (.aload_n 0, 1) := dk_42 (dk_at dksX10_init_12 13 rfl rfl)
theorem dX10_init_290 : decode cX10_init 290 = .ok (.bipush 70, 2) := dk_16 70 (dk_at dksX10_init_12 14 rfl rfl)
theorem dX10_init_292 : decode cX10_init 292 = .ok (.newarray .int, 2) := dk_188_10 (dk_at dksX10_init_12 16 rfl rfl)
theorem dX10_init_294 : decode cX10_init 294 = .ok (.putfield 122, 3) := dk_181 0 122 (dk_at dksX10_init_12 18 rfl rfl)
theorem dX10_init_297 : decode cX10_init 297 = .ok (.aload_n 0, 1) := dk_42 (dk_at dksX10_init_12 21 rfl rfl)
theorem dX10_init_298 : decode cX10_init 298 = .ok (.iconst 4, 1) := dk_7 (dk_at dksX10_init_12 22 rfl rfl)
theorem dX10_init_299 : decode cX10_init 299 = .ok (.newarray .int, 2) := dk_188_10 (dk_at dksX10_init_13 0 rfl rfl)
theorem dX10_init_301 : decode cX10_init 301 = .ok (.putfield 125, 3) := dk_181 0 125 (dk_at dksX10_init_13 2 rfl rfl)
theorem dX10_init_304 : decode cX10_init 304 = .ok (.aload_n 0, 1) := dk_42 (dk_at dksX10_init_13 5 rfl rfl)
theorem dX10_init_305 : decode cX10_init 305 = .ok (.sipush 2800, 3) := dk_17 10 240 (dk_at dksX10_init_13 6 rfl rfl)
theorem dX10_init_308 : decode cX10_init 308 = .ok (.newarray .int, 2) := dk_188_10 (dk_at dksX10_init_13 9 rfl rfl)
theorem dX10_init_310 : decode cX10_init 310 = .ok (.putfield 128, 3) := dk_181 0 128 (dk_at dksX10_init_13 11 rfl rfl)
theorem dX10_init_313 : decode cX10_init 313 = .ok (.aload_n 0, 1) := dk_42 (dk_at dksX10_init_13 14 rfl rfl)
theorem dX10_init_314 : decode cX10_init 314 = .ok (.sipush 224, 3) := dk_17 0 224 (dk_at dksX10_init_13 15 rfl rfl)
theorem dX10_init_317 : decode cX10_init 317 = .ok (.newarray .int, 2) := dk_188_10 (dk_at dksX10_init_13 18 rfl rfl)
theorem dX10_init_319 : decode cX10_init 319 = .ok (.putfield 131, 3) := dk_181 0 131 (dk_at dksX10_init_13 20 rfl rfl)
theorem dX10_init_322 : decode cX10_init 322 = .ok (.aload_n 0, 1) := dk_42 (dk_at dksX10_init_13 23 rfl rfl)
theorem dX10_init_323 : decode cX10_init 323 = .ok (.iconst 5, 1) := dk_8 (dk_at dksX10_init_14 0 rfl rfl)
theorem dX10_init_324 : decode cX10_init 324 = .ok (.newarray .int, 2) := dk_188_10 (dk_at dksX10_init_14 1 rfl rfl)
theorem dX10_init_326 : decode cX10_init 326 = .ok (.putfield 134, 3) := dk_181 0 134 (dk_at dksX10_init_14 3 rfl rfl)
theorem dX10_init_329 : decode cX10_init 329 = .ok (.aload_n 0, 1) := dk_42 (dk_at dksX10_init_14 6 rfl rfl)
theorem dX10_init_330 : decode cX10_init 330 = .ok (.bipush 20, 2) := dk_16 20 (dk_at dksX10_init_14 7 rfl rfl)
theorem dX10_init_332 : decode cX10_init 332 = .ok (.newarray .int, 2) := dk_188_10 (dk_at dksX10_init_14 9 rfl rfl)
theorem dX10_init_334 : decode cX10_init 334 = .ok (.putfield 137, 3) := dk_181 0 137 (dk_at dksX10_init_14 11 rfl rfl)
theorem dX10_init_337 : decode cX10_init 337 = .ok (.aload_n 0, 1) := dk_42 (dk_at dksX10_init_14 14 rfl rfl)
theorem dX10_init_338 : decode cX10_init 338 = .ok (.bipush 20, 2) := dk_16 20 (dk_at dksX10_init_14 15 rfl rfl)
theorem dX10_init_340 : decode cX10_init 340 = .ok (.newarray .int, 2) := dk_188_10 (dk_at dksX10_init_14 17 rfl rfl)
theorem dX10_init_342 : decode cX10_init 342 = .ok (.putfield 140, 3) := dk_181 0 140 (dk_at dksX10_init_14 19 rfl rfl)
theorem dX10_init_345 : decode cX10_init 345 = .ok (.aload_n 0, 1) := dk_42 (dk_at dksX10_init_14 22 rfl rfl)
theorem dX10_init_346 : decode cX10_init 346 = .ok (.bipush 20, 2) := dk_16 20 (dk_at dksX10_init_15 0 rfl rfl)
theorem dX10_init_348 : decode cX10_init 348 = .ok (.newarray .int, 2) := dk_188_10 (dk_at dksX10_init_15 2 rfl rfl)
theorem dX10_init_350 : decode cX10_init 350 = .ok (.putfield 143, 3) := dk_181 0 143 (dk_at dksX10_init_15 4 rfl rfl)
theorem dX10_init_353 : decode cX10_init 353 = .ok (.aload_n 0, 1) := dk_42 (dk_at dksX10_init_15 7 rfl rfl)
theorem dX10_init_354 : decode cX10_init 354 = .ok (.iconst 3, 1) := dk_6 (dk_at dksX10_init_15 8 rfl rfl)
theorem dX10_init_355 : decode cX10_init 355 = .ok (.newarray .boolean, 2) := dk_188_4 (dk_at dksX10_init_15 9 rfl rfl)
theorem dX10_init_357 : decode cX10_init 357 = .ok (.putfield 146, 3) := dk_181 0 146 (dk_at dksX10_init_15 11 rfl rfl)
theorem dX10_init_360 : decode cX10_init 360 = .ok (.aload_n 0, 1) := dk_42 (dk_at dksX10_init_15 14 rfl rfl)
theorem dX10_init_361 : decode cX10_init 361 = .ok (.sipush 210, 3) := dk_17 0 210 (dk_at dksX10_init_15 15 rfl rfl)
theorem dX10_init_364 : decode cX10_init 364 = .ok (.newarray .int, 2) := dk_188_10 (dk_at dksX10_init_15 18 rfl rfl)
theorem dX10_init_366 : decode cX10_init 366 = .ok (.putfield 149, 3) := dk_181 0 149 (dk_at dksX10_init_15 20 rfl rfl)
theorem dX10_init_369 : decode cX10_init 369 = .ok (.aload_n 0, 1) := dk_42 (dk_at dksX10_init_15 23 rfl rfl)
theorem dX10_init_370 : decode cX10_init 370 = .ok (.iconst 0, 1) := dk_3 (dk_at dksX10_init_16 0 rfl rfl)
theorem dX10_init_371 : decode cX10_init 371 = .ok (.invokevirtual 152, 3) := dk_182 0 152 (dk_at dksX10_init_16 1 rfl rfl)
theorem dX10_init_374 : decode cX10_init 374 = .ok (.aload_n 0, 1) := dk_42 (dk_at dksX10_init_16 4 rfl rfl)
theorem dX10_init_375 : decode cX10_init 375 = .ok (.iconst 1, 1) := dk_4 (dk_at dksX10_init_16 5 rfl rfl)
theorem dX10_init_376 : decode cX10_init 376 = .ok (.invokevirtual 152, 3) := dk_182 0 152 (dk_at dksX10_init_16 6 rfl rfl)
theorem dX10_init_379 : decode cX10_init 379 = .ok (.aload_n 0, 1) := dk_42 (dk_at dksX10_init_16 9 rfl rfl)
theorem dX10_init_380 : decode cX10_init 380 = .ok (.getfield 34, 3) := dk_180 0 34 (dk_at dksX10_init_16 10 rfl rfl)
theorem dX10_init_383 : decode cX10_init 383 = .ok (.iconst 0, 1) := dk_3 (dk_at dksX10_init_16 13 rfl rfl)
theorem dX10_init_384 : decode cX10_init 384 = .ok (.bipush 100, 2) := dk_16 100 (dk_at dksX10_init_16 14 rfl rfl)
theorem dX10_init_386 : decode cX10_init 386 = .ok (.bipush 111, 2) := dk_16 111 (dk_at dksX10_init_16 16 rfl rfl)
theorem dX10_init_388 : decode cX10_init 388 = .ok (.bipush 111, 2) := dk_16 111 (dk_at dksX10_init_16 18 rfl rfl)
theorem dX10_init_390 : decode cX10_init 390 = .ok (.bipush 114, 2) := dk_16 114 (dk_at dksX10_init_16 20 rfl rfl)
theorem dX10_init_392 : decode cX10_init 392 = .ok (.iconst 0, 1) := dk_3 (dk_at dksX10_init_16 22 rfl rfl)
theorem dX10_init_393 : decode cX10_init 393 = .ok (.iconst 0, 1) := dk_3 (dk_at dksX10_init_16 23 rfl rfl)
theorem dX10_init_394 : decode cX10_init 394 = .ok (.iconst 0, 1) := dk_3 (dk_at dksX10_init_17 0 rfl rfl)
theorem dX10_init_395 : decode cX10_init 395 = .ok (.invokestatic 156, 3) := dk_184 0 156 (dk_at dksX10_init_17 1 rfl rfl)
theorem dX10_init_398 : decode cX10_init 398 = .ok (.lastore, 1) := dk_80 (dk_at dksX10_init_17 4 rfl rfl)
theorem dX10_init_399 : decode cX10_init 399 = .ok (.aload_n 0, 1) := dk_42 (dk_at dksX10_init_17 5 rfl rfl)
theorem dX10_init_400 : decode cX10_init 400 = .ok (.getfield 34, 3) := dk_180 0 34 (dk_at dksX10_init_17 6 rfl rfl)
theorem dX10_init_403 : decode cX10_init 403 = .ok (.iconst 1, 1) := dk_4 (dk_at dksX10_init_17 9 rfl rfl)
theorem dX10_init_404 : decode cX10_init 404 = .ok (.bipush 99, 2) := dk_16 99 (dk_at dksX10_init_17 10 rfl rfl)
theorem dX10_init_406 : decode cX10_init 406 = .ok (.bipush 97, 2) := dk_16 97 (dk_at dksX10_init_17 12 rfl rfl)
theorem dX10_init_408 : decode cX10_init 408 = .ok (.bipush 108, 2) := dk_16 108 (dk_at dksX10_init_17 14 rfl rfl)
theorem dX10_init_410 : decode cX10_init 410 = .ok (.bipush 108, 2) := dk_16 108 (dk_at dksX10_init_17 16 rfl rfl)
theorem dX10_init_412 : decode cX10_init 412 = .ok (.bipush 101, 2) := dk_16 101 (dk_at dksX10_init_17 18 rfl rfl)
theorem dX10_init_414 : decode cX10_init 414 = .ok (.bipush 114, 2) := dk_16 114 (dk_at dksX10_init_17 20 rfl rfl)
theorem dX10_init_416 : decode cX10_init 416 = .ok (.iconst 0, 1) := dk_3 (dk_at dksX10_init_17 22 rfl rfl)
theorem dX10_init_417 : decode cX10_init 417 = .ok (.invokestatic 156, 3) := dk_184 0 156 (dk_at dksX10_init_18 0 rfl rfl)
theorem dX10_init_420 : decode cX10_init 420 = .ok (.lastore, 1) := dk_80 (dk_at dksX10_init_18 3 rfl rfl)
theorem dX10_init_421 : decode cX10_init 421 = .ok (.aload_n 0, 1) := dk_42 (dk_at dksX10_init_18 4 rfl rfl)
theorem dX10_init_422 : decode cX10_init 422 = .ok (.getfield 34, 3) := dk_180 0 34 (dk_at dksX10_init_18 5 rfl rfl)
theorem dX10_init_425 : decode cX10_init 425 = .ok (.iconst 2, 1) := dk_5 (dk_at dksX10_init_18 8 rfl rfl)
theorem dX10_init_426 : decode cX10_init 426 = .ok (.bipush 114, 2) := dk_16 114 (dk_at dksX10_init_18 9 rfl rfl)
theorem dX10_init_428 : decode cX10_init 428 = .ok (.bipush 111, 2) := dk_16 111 (dk_at dksX10_init_18 11 rfl rfl)
theorem dX10_init_430 : decode cX10_init 430 = .ok (.bipush 117, 2) := dk_16 117 (dk_at dksX10_init_18 13 rfl rfl)
theorem dX10_init_432 : decode cX10_init 432 = .ok (.bipush 110, 2) := dk_16 110 (dk_at dksX10_init_18 15 rfl rfl)
theorem dX10_init_434 : decode cX10_init 434 = .ok (.bipush 100, 2) := dk_16 100 (dk_at dksX10_init_18 17 rfl rfl)
theorem dX10_init_436 : decode cX10_init 436 = .ok (.iconst 0, 1) := dk_3 (dk_at dksX10_init_18 19 rfl rfl)
theorem dX10_init_437 : decode cX10_init 437 = .ok (.iconst 0, 1) := dk_3 (dk_at dksX10_init_18 20 rfl rfl)
theorem dX10_init_438 : decode cX10_init 438 = .ok (.invokestatic 156, 3) := dk_184 0 156 (dk_at dksX10_init_18 21 rfl rfl)
theorem dX10_init_441 : decode cX10_init 441 = .ok (.lastore, 1) := dk_80 (dk_at dksX10_init_19 0 rfl rfl)
theorem dX10_init_442 : decode cX10_init 442 = .ok (.aload_n 0, 1) := dk_42 (dk_at dksX10_init_19 1 rfl rfl)
theorem dX10_init_443 : decode cX10_init 443 = .ok (.getfield 34, 3) := dk_180 0 34 (dk_at dksX10_init_19 2 rfl rfl)
theorem dX10_init_446 : decode cX10_init 446 = .ok (.iconst 3, 1) := dk_6 (dk_at dksX10_init_19 5 rfl rfl)
theorem dX10_init_447 : decode cX10_init 447 = .ok (.bipush 103, 2) := dk_16 103 (dk_at dksX10_init_19 6 rfl rfl)
theorem dX10_init_449 : decode cX10_init 449 = .ok (.bipush 105, 2) := dk_16 105 (dk_at dksX10_init_19 8 rfl rfl)
theorem dX10_init_451 : decode cX10_init 451 = .ok (.bipush 118, 2) := dk_16 118 (dk_at dksX10_init_19 10 rfl rfl)
theorem dX10_init_453 : decode cX10_init 453 = .ok (.bipush 101, 2) := dk_16 101 (dk_at dksX10_init_19 12 rfl rfl)
theorem dX10_init_455 : decode cX10_init 455 = .ok (.bipush 115, 2) := dk_16 115 (dk_at dksX10_init_19 14 rfl rfl)
theorem dX10_init_457 : decode cX10_init 457 = .ok (.iconst 0, 1) := dk_3 (dk_at dksX10_init_19 16 rfl rfl)
theorem dX10_init_458 : decode cX10_init 458 = .ok (.iconst 0, 1) := dk_3 (dk_at dksX10_init_19 17 rfl rfl)
theorem dX10_init_459 : decode cX10_init 459 = .ok (.invokestatic 156, 3) := dk_184 0 156 (dk_at dksX10_init_19 18 rfl rfl)
theorem dX10_init_462 : decode cX10_init 462 = .ok (.lastore, 1) := dk_80 (dk_at dksX10_init_19 21 rfl rfl)
theorem dX10_init_463 : decode cX10_init 463 = .ok (.aload_n 0, 1) := dk_42 (dk_at dksX10_init_19 22 rfl rfl)
theorem dX10_init_464 : decode cX10_init 464 = .ok (.getfield 34, 3) := dk_180 0 34 (dk_at dksX10_init_20 0 rfl rfl)
theorem dX10_init_467 : decode cX10_init 467 = .ok (.iconst 4, 1) := dk_7 (dk_at dksX10_init_20 3 rfl rfl)
theorem dX10_init_468 : decode cX10_init 468 = .ok (.bipush 119, 2) := dk_16 119 (dk_at dksX10_init_20 4 rfl rfl)
theorem dX10_init_470 : decode cX10_init 470 = .ok (.bipush 101, 2) := dk_16 101 (dk_at dksX10_init_20 6 rfl rfl)
theorem dX10_init_472 : decode cX10_init 472 = .ok (.bipush 97, 2) := dk_16 97 (dk_at dksX10_init_20 8 rfl rfl)
theorem dX10_init_474 : decode cX10_init 474 = .ok (.bipush 114, 2) := dk_16 114 (dk_at dksX10_init_20 10 rfl rfl)
theorem dX10_init_476 : decode cX10_init 476 = .ok (.bipush 115, 2) := dk_16 115 (dk_at dksX10_init_20 12 rfl rfl)
theorem dX10_init_478 : decode cX10_init 478 = .ok (.iconst 0, 1) := dk_3 (dk_at dksX10_init_20 14 rfl rfl)
theorem dX10_init_479 : decode cX10_init 479 = .ok (.iconst 0, 1) := dk_3 (dk_at dksX10_init_20 15 rfl rfl)
theorem dX10_init_480 : decode cX10_init 480 = .ok (.invokestatic 156, 3) := dk_184 0 156 (dk_at dksX10_init_20 16 rfl rfl)
theorem dX10_init_483 : decode cX10_init 483 = .ok (.lastore, 1) := dk_80 (dk_at dksX10_init_20 19 rfl rfl)
theorem dX10_init_484 : decode cX10_init 484 = .ok (.aload_n 0, 1) := dk_42 (dk_at dksX10_init_20 20 rfl rfl)
theorem dX10_init_485 : decode cX10_init 485 = .ok (.getfield 34, 3) := dk_180 0 34 (dk_at dksX10_init_20 21 rfl rfl)
theorem dX10_init_488 : decode cX10_init 488 = .ok (.iconst 5, 1) := dk_8 (dk_at dksX10_init_21 0 rfl rfl)
theorem dX10_init_489 : decode cX10_init 489 = .ok (.bipush 112, 2) := dk_16 112 (dk_at dksX10_init_21 1 rfl rfl)
theorem dX10_init_491 : decode cX10_init 491 = .ok (.bipush 97, 2) := dk_16 97 (dk_at dksX10_init_21 3 rfl rfl)
theorem dX10_init_493 : decode cX10_init 493 = .ok (.bipush 121, 2) := dk_16 121 (dk_at dksX10_init_21 5 rfl rfl)
theorem dX10_init_495 : decode cX10_init 495 = .ok (.bipush 115, 2) := dk_16 115 (dk_at dksX10_init_21 7 rfl rfl)
theorem dX10_init_497 : decode cX10_init 497 = .ok (.iconst 0, 1) := dk_3 (dk_at dksX10_init_21 9 rfl rfl)
theorem dX10_init_498 : decode cX10_init 498 = .ok (.iconst 0, 1) := dk_3 (dk_at dksX10_init_21 10 rfl rfl)
theorem dX10_init_499 : decode cX10_init 499 = .ok (.iconst 0, 1) := dk_3 (dk_at dksX10_init_21 11 rfl rfl)
theorem dX10_init_500 : decode cX10_init 500 = .ok (.invokestatic 156, 3) := dk_184 0 156 (dk_at dksX10_init_21 12 rfl rfl)
theorem dX10_init_503 : decode cX10_init 503 = .ok (.lastore, 1) := dk_80 (dk_at dksX10_init_21 15 rfl rfl)
theorem dX10_init_504 : decode cX10_init 504 = .ok (.aload_n 0, 1) := dk_42 (dk_at dksX10_init_21 16 rfl rfl)
theorem dX10_init_505 : decode cX10_init 505 = .ok (.getfield 34, 3) := dk_180 0 34 (dk_at dksX10_init_21 17 rfl rfl)
theorem dX10_init_508 : decode cX10_init 508 = .ok (.bipush 6, 2) := dk_16 6 (dk_at dksX10_init_21 20 rfl rfl)
theorem dX10_init_510 : decode cX10_init 510 = .ok (.bipush 119, 2) := dk_16 119 (dk_at dksX10_init_21 22 rfl rfl)
theorem dX10_init_512 : decode cX10_init 512 = .ok (.bipush 105, 2) := dk_16 105 (dk_at dksX10_init_22 0 rfl rfl)
theorem dX10_init_514 : decode cX10_init 514 = .ok (.bipush 110, 2) := dk_16 110 (dk_at dksX10_init_22 2 rfl rfl)
theorem dX10_init_516 : decode cX10_init 516 = .ok (.bipush 100, 2) := dk_16 100 (dk_at dksX10_init_22 4 rfl rfl)
theorem dX10_init_518 : decode cX10_init 518 = .ok (.iconst 0, 1) := dk_3 (dk_at dksX10_init_22 6 rfl rfl)
theorem dX10_init_519 : decode cX10_init 519 = .ok (.iconst 0, 1) := dk_3 (dk_at dksX10_init_22 7 rfl rfl)
theorem dX10_init_520 : decode cX10_init 520 = .ok (.iconst 0, 1) := dk_3 (dk_at dksX10_init_22 8 rfl rfl)
theorem dX10_init_521 : decode cX10_init 521 = .ok (.invokestatic 156, 3) := dk_184 0 156 (dk_at dksX10_init_22 9 rfl rfl)
theorem dX10_init_524 : decode cX10_init 524 = .ok (.lastore, 1) := dk_80 (dk_at dksX10_init_22 12 rfl rfl)
theorem dX10_init_525 : decode cX10_init 525 = .ok (.aload_n 0, 1) := dk_42 (dk_at dksX10_init_22 13 rfl rfl)
theorem dX10_init_526 : decode cX10_init 526 = .ok (.getfield 34, 3) := dk_180 0 34 (dk_at dksX10_init_22 14 rfl rfl)
theorem dX10_init_529 : decode cX10_init 529 = .ok (.bipush 7, 2) := dk_16 7 (dk_at dksX10_init_22 17 rfl rfl)
theorem dX10_init_531 : decode cX10_init 531 = .ok (.bipush 110, 2) := dk_16 110 (dk_at dksX10_init_22 19 rfl rfl)
theorem dX10_init_533 : decode cX10_init 533 = .ok (.bipush 101, 2) := dk_16 101 (dk_at dksX10_init_22 21 rfl rfl)
theorem dX10_init_535 : decode cX10_init 535 = .ok (.bipush 97, 2) := dk_16 97 (dk_at dksX10_init_23 0 rfl rfl)
theorem dX10_init_537 : decode cX10_init 537 = .ok (.bipush 114, 2) := dk_16 114 (dk_at dksX10_init_23 2 rfl rfl)
theorem dX10_init_539 : decode cX10_init 539 = .ok (.iconst 0, 1) := dk_3 (dk_at dksX10_init_23 4 rfl rfl)
theorem dX10_init_540 : decode cX10_init 540 = .ok (.iconst 0, 1) := dk_3 (dk_at dksX10_init_23 5 rfl rfl)
theorem dX10_init_541 : decode cX10_init 541 = .ok (.iconst 0, 1) := dk_3 (dk_at dksX10_init_23 6 rfl rfl)
theorem dX10_init_542 : decode cX10_init 542 = .ok (.invokestatic 156, 3) := dk_184 0 156 (dk_at dksX10_init_23 7 rfl rfl)
theorem dX10_init_545 : decode cX10_init 545 = .ok (.lastore, 1) := dk_80 (dk_at dksX10_init_23 10 rfl rfl)
theorem dX10_init_546 : decode cX10_init 546 = .ok (.aload_n 0, 1) := dk_42 (dk_at dksX10_init_23 11 rfl rfl)
theorem dX10_init_547 : decode cX10_init 547 = .ok (.getfield 34, 3) := dk_180 0 34 (dk_at dksX10_init_23 12 rfl rfl)
theorem dX10_init_550 : decode cX10_init 550 = .ok (.bipush 8, 2) := dk_16 8 (dk_at dksX10_init_23 15 rfl rfl)
theorem dX10_init_552 : decode cX10_init 552 = .ok (.bipush 115, 2) := dk_16 115 (dk_at dksX10_init_23 17 rfl rfl)
theorem dX10_init_554 : decode cX10_init 554 = .ok (.bipush 101, 2) := dk_16 101 (dk_at dksX10_init_23 19 rfl rfl)
theorem dX10_init_556 : decode cX10_init 556 = .ok (.bipush 101, 2) := dk_16 101 (dk_at dksX10_init_23 21 rfl rfl)
theorem dX10_init_558 : decode cX10_init 558 = .ok (.bipush 100, 2) := dk_16 100 (dk_at dksX10_init_24 0 rfl rfl)
theorem dX10_init_560 : decode cX10_init 560 = .ok (.iconst 0, 1) := dk_3 (dk_at dksX10_init_24 2 rfl rfl)
theorem dX10_init_561 : decode cX10_init 561 = .ok (.iconst 0, 1) := dk_3 (dk_at dksX10_init_24 3 rfl rfl)
theorem dX10_init_562 : decode cX10_init 562 = .ok (.iconst 0, 1) := dk_3 (dk_at dksX10_init_24 4 rfl rfl)
theorem dX10_init_563 : decode cX10_init 563 = .ok (.invokestatic 156, 3) := dk_184 0 156 (dk_at dksX10_init_24 5 rfl rfl)
theorem dX10_init_566 : decode cX10_init 566 = .ok (.lastore, 1) := dk_80 (dk_at dksX10_init_24 8 rfl rfl)
theorem dX10_init_567 : decode cX10_init 567 = .ok (.aload_n 0, 1) := dk_42 (dk_at dksX10_init_24 9 rfl rfl)
theorem dX10_init_568 : decode cX10_init 568 = .ok (.getfield 34, 3) := dk_180 0 34 (dk_at dksX10_init_24 10 rfl rfl)
theorem dX10_init_571 : decode cX10_init 571 = .ok (.bipush 9, 2) := dk_16 9 (dk_at dksX10_init_24 13 rfl rfl)
theorem dX10_init_573 : decode cX10_init 573 = .ok (.bipush 105, 2) := dk_16 105 (dk_at dksX10_init_24 15 rfl rfl)
theorem dX10_init_575 : decode cX10_init 575 = .ok (.bipush 102, 2) := dk_16 102 (dk_at dksX10_init_24 17 rfl rfl)
theorem dX10_init_577 : decode cX10_init 577 = .ok (.iconst 0, 1) := dk_3 (dk_at dksX10_init_24 19 rfl rfl)
theorem dX10_init_578 : decode cX10_init 578 = .ok (.iconst 0, 1) := dk_3 (dk_at dksX10_init_24 20 rfl rfl)
theorem dX10_init_579 : decode cX10_init 579 = .ok (.iconst 0, 1) := dk_3 (dk_at dksX10_init_24 21 rfl rfl)
theorem dX10_init_580 : decode cX10_init 580 = .ok (.iconst 0, 1) := dk_3 (dk_at dksX10_init_24 22 rfl rfl)
theorem dX10_init_581 : decode cX10_init 581 = .ok (.iconst 0, 1) := dk_3 (dk_at dksX10_init_24 23 rfl rfl)
theorem dX10_init_582 : decode cX10_init 582 = .ok (.invokestatic 156, 3) := dk_184 0 156 (dk_at dksX10_init_25 0 rfl rfl)
theorem dX10_init_585 : decode cX10_init 585 = .ok (.lastore, 1) := dk_80 (dk_at dksX10_init_25 3 rfl rfl)
theorem dX10_init_586 : decode cX10_init 586 = .ok (.aload_n 0, 1) := dk_42 (dk_at dksX10_init_25 4 rfl rfl)
theorem dX10_init_587 : decode cX10_init 587 = .ok (.getfield 34, 3) := dk_180 0 34 (dk_at dksX10_init_25 5 rfl rfl)
theorem dX10_init_590 : decode cX10_init 590 = .ok (.bipush 10, 2) := dk_16 10 (dk_at dksX10_init_25 8 rfl rfl)
theorem dX10_init_592 : decode cX10_init 592 = .ok (.bipush 116, 2) := dk_16 116 (dk_at dksX10_init_25 10 rfl rfl)
theorem dX10_init_594 : decode cX10_init 594 = .ok (.bipush 104, 2) := dk_16 104 (dk_at dksX10_init_25 12 rfl rfl)
theorem dX10_init_596 : decode cX10_init 596 = .ok (.bipush 101, 2) := dk_16 101 (dk_at dksX10_init_25 14 rfl rfl)
theorem dX10_init_598 : decode cX10_init 598 = .ok (.bipush 110, 2) := dk_16 110 (dk_at dksX10_init_25 16 rfl rfl)
theorem dX10_init_600 : decode cX10_init 600 = .ok (.iconst 0, 1) := dk_3 (dk_at dksX10_init_25 18 rfl rfl)
theorem dX10_init_601 : decode cX10_init 601 = .ok (.iconst 0, 1) := dk_3 (dk_at dksX10_init_25 19 rfl rfl)
theorem dX10_init_602 : decode cX10_init 602 = .ok (.iconst 0, 1) := dk_3 (dk_at dksX10_init_25 20 rfl rfl)
theorem dX10_init_603 : decode cX10_init 603 = .ok (.invokestatic 156, 3) := dk_184 0 156 (dk_at dksX10_init_25 21 rfl rfl)
theorem dX10_init_606 : decode cX10_init 606 = .ok (.lastore, 1) := dk_80 (dk_at dksX10_init_26 0 rfl rfl)
theorem dX10_init_607 : decode cX10_init 607 = .ok (.aload_n 0, 1) := dk_42 (dk_at dksX10_init_26 1 rfl rfl)
theorem dX10_init_608 : decode cX10_init 608 = .ok (.getfield 34, 3) := dk_180 0 34 (dk_at dksX10_init_26 2 rfl rfl)
theorem dX10_init_611 : decode cX10_init 611 = .ok (.bipush 11, 2) := dk_16 11 (dk_at dksX10_init_26 5 rfl rfl)
theorem dX10_init_613 : decode cX10_init 613 = .ok (.bipush 101, 2) := dk_16 101 (dk_at dksX10_init_26 7 rfl rfl)
theorem dX10_init_615 : decode cX10_init 615 = .ok (.bipush 108, 2) := dk_16 108 (dk_at dksX10_init_26 9 rfl rfl)
theorem dX10_init_617 : decode cX10_init 617 = .ok (.bipush 115, 2) := dk_16 115 (dk_at dksX10_init_26 11 rfl rfl)
theorem dX10_init_619 : decode cX10_init 619 = .ok (.bipush 101, 2) := dk_16 101 (dk_at dksX10_init_26 13 rfl rfl)
theorem dX10_init_621 : decode cX10_init 621 = .ok (.iconst 0, 1) := dk_3 (dk_at dksX10_init_26 15 rfl rfl)
theorem dX10_init_622 : decode cX10_init 622 = .ok (.iconst 0, 1) := dk_3 (dk_at dksX10_init_26 16 rfl rfl)
theorem dX10_init_623 : decode cX10_init 623 = .ok (.iconst 0, 1) := dk_3 (dk_at dksX10_init_26 17 rfl rfl)
theorem dX10_init_624 : decode cX10_init 624 = .ok (.invokestatic 156, 3) := dk_184 0 156 (dk_at dksX10_init_26 18 rfl rfl)
theorem dX10_init_627 : decode cX10_init 627 = .ok (.lastore, 1) := dk_80 (dk_at dksX10_init_26 21 rfl rfl)
theorem dX10_init_628 : decode cX10_init 628 = .ok (.aload_n 0, 1) := dk_42 (dk_at dksX10_init_26 22 rfl rfl)
theorem dX10_init_629 : decode cX10_init 629 = .ok (.getfield 34, 3) := dk_180 0 34 (dk_at dksX10_init_27 0 rfl rfl)
theorem dX10_init_632 : decode cX10_init 632 = .ok (.bipush 12, 2) := dk_16 12 (dk_at dksX10_init_27 3 rfl rfl)
theorem dX10_init_634 : decode cX10_init 634 = .ok (.bipush 97, 2) := dk_16 97 (dk_at dksX10_init_27 5 rfl rfl)
theorem dX10_init_636 : decode cX10_init 636 = .ok (.bipush 112, 2) := dk_16 112 (dk_at dksX10_init_27 7 rfl rfl)
theorem dX10_init_638 : decode cX10_init 638 = .ok (.bipush 97, 2) := dk_16 97 (dk_at dksX10_init_27 9 rfl rfl)
theorem dX10_init_640 : decode cX10_init 640 = .ok (.bipush 114, 2) := dk_16 114 (dk_at dksX10_init_27 11 rfl rfl)
theorem dX10_init_642 : decode cX10_init 642 = .ok (.bipush 116, 2) := dk_16 116 (dk_at dksX10_init_27 13 rfl rfl)
theorem dX10_init_644 : decode cX10_init 644 = .ok (.iconst 0, 1) := dk_3 (dk_at dksX10_init_27 15 rfl rfl)
theorem dX10_init_645 : decode cX10_init 645 = .ok (.iconst 0, 1) := dk_3 (dk_at dksX10_init_27 16 rfl rfl)
theorem dX10_init_646 : decode cX10_init 646 = .ok (.invokestatic 156, 3) := dk_184 0 156 (dk_at dksX10_init_27 17 rfl rfl)
theorem dX10_init_649 : decode cX10_init 649 = .ok (.lastore, 1) := dk_80 (dk_at dksX10_init_27 20 rfl rfl)
theorem dX10_init_650 : decode cX10_init 650 = .ok (.aload_n 0, 1) := dk_42 (dk_at dksX10_init_27 21 rfl rfl)
theorem dX10_init_651 : decode cX10_init 651 = .ok (.getfield 34, 3) := dk_180 0 34 (dk_at dksX10_init_28 0 rfl rfl)
theorem dX10_init_654 : decode cX10_init 654 = .ok (.bipush 13, 2) := dk_16 13 (dk_at dksX10_init_28 3 rfl rfl)
theorem dX10_init_656 : decode cX10_init 656 = .ok (.bipush 112, 2) := dk_16 112 (dk_at dksX10_init_28 5 rfl rfl)
theorem dX10_init_658 : decode cX10_init 658 = .ok (.bipush 97, 2) := dk_16 97 (dk_at dksX10_init_28 7 rfl rfl)
theorem dX10_init_660 : decode cX10_init 660 = .ok (.bipush 114, 2) := dk_16 114 (dk_at dksX10_init_28 9 rfl rfl)
theorem dX10_init_662 : decode cX10_init 662 = .ok (.bipush 116, 2) := dk_16 116 (dk_at dksX10_init_28 11 rfl rfl)
theorem dX10_init_664 : decode cX10_init 664 = .ok (.iconst 0, 1) := dk_3 (dk_at dksX10_init_28 13 rfl rfl)
theorem dX10_init_665 : decode cX10_init 665 = .ok (.iconst 0, 1) := dk_3 (dk_at dksX10_init_28 14 rfl rfl)
theorem dX10_init_666 : decode cX10_init 666 = .ok (.iconst 0, 1) := dk_3 (dk_at dksX10_init_28 15 rfl rfl)
theorem dX10_init_667 : decode cX10_init 667 = .ok (.invokestatic 156, 3) := dk_184 0 156 (dk_at dksX10_init_28 16 rfl rfl)
theorem dX10_init_670 : decode cX10_init 670 = .ok (.lastore, 1) := dk_80 (dk_at dksX10_init_28 19 rfl rfl)
theorem dX10_init_671 : decode cX10_init 671 = .ok (.aload_n 0, 1) := dk_42 (dk_at dksX10_init_28 20 rfl rfl)
theorem dX10_init_672 : decode cX10_init 672 = .ok (.getfield 34, 3) := dk_180 0 34 (dk_at dksX10_init_28 21 rfl rfl)
theorem dX10_init_675 : decode cX10_init 675 = .ok (.bipush 14, 2) := dk_16 14 (dk_at dksX10_init_29 0 rfl rfl)
theorem dX10_init_677 : decode cX10_init 677 = .ok (.bipush 108, 2) := dk_16 108 (dk_at dksX10_init_29 2 rfl rfl)
theorem dX10_init_679 : decode cX10_init 679 = .ok (.bipush 105, 2) := dk_16 105 (dk_at dksX10_init_29 4 rfl rfl)
theorem dX10_init_681 : decode cX10_init 681 = .ok (.bipush 102, 2) := dk_16 102 (dk_at dksX10_init_29 6 rfl rfl)
theorem dX10_init_683 : decode cX10_init 683 = .ok (.bipush 116, 2) := dk_16 116 (dk_at dksX10_init_29 8 rfl rfl)
theorem dX10_init_685 : decode cX10_init 685 = .ok (.bipush 115, 2) := dk_16 115 (dk_at dksX10_init_29 10 rfl rfl)
theorem dX10_init_687 : decode cX10_init 687 = .ok (.iconst 0, 1) := dk_3 (dk_at dksX10_init_29 12 rfl rfl)
theorem dX10_init_688 : decode cX10_init 688 = .ok (.iconst 0, 1) := dk_3 (dk_at dksX10_init_29 13 rfl rfl)
theorem dX10_init_689 : decode cX10_init 689 = .ok (.invokestatic 156, 3) := dk_184 0 156 (dk_at dksX10_init_29 14 rfl rfl)
theorem dX10_init_692 : decode cX10_init 692 = .ok (.lastore, 1) := dk_80 (dk_at dksX10_init_29 17 rfl rfl)
theorem dX10_init_693 : decode cX10_init 693 = .ok (.aload_n 0, 1) := dk_42 (dk_at dksX10_init_29 18 rfl rfl)
theorem dX10_init_694 : decode cX10_init 694 = .ok (.getfield 34, 3) := dk_180 0 34 (dk_at dksX10_init_29 19 rfl rfl)
theorem dX10_init_697 : decode cX10_init 697 = .ok (.bipush 15, 2) := dk_16 15 (dk_at dksX10_init_29 22 rfl rfl)
theorem dX10_init_699 : decode cX10_init 699 = .ok (.bipush 105, 2) := dk_16 105 (dk_at dksX10_init_30 0 rfl rfl)
theorem dX10_init_701 : decode cX10_init 701 = .ok (.bipush 100, 2) := dk_16 100 (dk_at dksX10_init_30 2 rfl rfl)
theorem dX10_init_703 : decode cX10_init 703 = .ok (.bipush 108, 2) := dk_16 108 (dk_at dksX10_init_30 4 rfl rfl)
theorem dX10_init_705 : decode cX10_init 705 = .ok (.bipush 101, 2) := dk_16 101 (dk_at dksX10_init_30 6 rfl rfl)
theorem dX10_init_707 : decode cX10_init 707 = .ok (.iconst 0, 1) := dk_3 (dk_at dksX10_init_30 8 rfl rfl)
theorem dX10_init_708 : decode cX10_init 708 = .ok (.iconst 0, 1) := dk_3 (dk_at dksX10_init_30 9 rfl rfl)
theorem dX10_init_709 : decode cX10_init 709 = .ok (.iconst 0, 1) := dk_3 (dk_at dksX10_init_30 10 rfl rfl)
theorem dX10_init_710 : decode cX10_init 710 = .ok (.invokestatic 156, 3) := dk_184 0 156 (dk_at dksX10_init_30 11 rfl rfl)
theorem dX10_init_713 : decode cX10_init 713 = .ok (.lastore, 1) := dk_80 (dk_at dksX10_init_30 14 rfl rfl)
theorem dX10_init_714 : decode cX10_init 714 = .ok (.aload_n 0, 1) := dk_42 (dk_at dksX10_init_30 15 rfl rfl)
theorem dX10_init_715 : decode cX10_init 715 = .ok (.getfield 34, 3) := dk_180 0 34 (dk_at dksX10_init_30 16 rfl rfl)
theorem dX10_init_718 : decode cX10_init 718 = .ok (.bipush 16, 2) := dk_16 16 (dk_at dksX10_init_30 19 rfl rfl)
theorem dX10_init_720 : decode cX10_init 720 = .ok (.bipush 100, 2) := dk_16 100 (dk_at dksX10_init_30 21 rfl rfl)
theorem dX10_init_722 : decode cX10_init 722 = .ok (.bipush 97, 2) := dk_16 97 (dk_at dksX10_init_31 0 rfl rfl)
theorem dX10_init_724 : decode cX10_init 724 = .ok (.bipush 121, 2) := dk_16 121 (dk_at dksX10_init_31 2 rfl rfl)
theorem dX10_init_726 : decode cX10_init 726 = .ok (.iconst 0, 1) := dk_3 (dk_at dksX10_init_31 4 rfl rfl)
theorem dX10_init_727 : decode cX10_init 727 = .ok (.iconst 0, 1) := dk_3 (dk_at dksX10_init_31 5 rfl rfl)
theorem dX10_init_728 : decode cX10_init 728 = .ok (.iconst 0, 1) := dk_3 (dk_at dksX10_init_31 6 rfl rfl)
theorem dX10_init_729 : decode cX10_init 729 = .ok (.iconst 0, 1) := dk_3 (dk_at dksX10_init_31 7 rfl rfl)
theorem dX10_init_730 : decode cX10_init 730 = .ok (.invokestatic 156, 3) := dk_184 0 156 (dk_at dksX10_init_31 8 rfl rfl)
theorem dX10_init_733 : decode cX10_init 733 = .ok (.lastore, 1) := dk_80 (dk_at dksX10_init_31 11 rfl rfl)
theorem dX10_init_734 : decode cX10_init 734 = .ok (.aload_n 0, 1) := dk_42 (dk_at dksX10_init_31 12 rfl rfl)
theorem dX10_init_735 : decode cX10_init 735 = .ok (.getfield 34, 3) := dk_180 0 34 (dk_at dksX10_init_31 13 rfl rfl)
theorem dX10_init_738 : decode cX10_init 738 = .ok (.bipush 17, 2) := dk_16 17 (dk_at dksX10_init_31 16 rfl rfl)
theorem dX10_init_740 : decode cX10_init 740 = .ok (.bipush 102, 2) := dk_16 102 (dk_at dksX10_init_31 18 rfl rfl)
theorem dX10_init_742 : decode cX10_init 742 = .ok (.bipush 97, 2) := dk_16 97 (dk_at dksX10_init_31 20 rfl rfl)
theorem dX10_init_744 : decode cX10_init 744 = .ok (.bipush 99, 2) := dk_16 99 (dk_at dksX10_init_31 22 rfl rfl)
theorem dX10_init_746 : decode cX10_init 746 = .ok (.bipush 101, 2) := dk_16 101 (dk_at dksX10_init_32 0 rfl rfl)
theorem dX10_init_748 : decode cX10_init 748 = .ok (.iconst 0, 1) := dk_3 (dk_at dksX10_init_32 2 rfl rfl)
theorem dX10_init_749 : decode cX10_init 749 = .ok (.iconst 0, 1) := dk_3 (dk_at dksX10_init_32 3 rfl rfl)
theorem dX10_init_750 : decode cX10_init 750 = .ok (.iconst 0, 1) := dk_3 (dk_at dksX10_init_32 4 rfl rfl)
theorem dX10_init_751 : decode cX10_init 751 = .ok (.invokestatic 156, 3) := dk_184 0 156 (dk_at dksX10_init_32 5 rfl rfl)
theorem dX10_init_754 : decode cX10_init 754 = .ok (.lastore, 1) := dk_80 (dk_at dksX10_init_32 8 rfl rfl)
theorem dX10_init_755 : decode cX10_init 755 = .ok (.aload_n 0, 1) := dk_42 (dk_at dksX10_init_32 9 rfl rfl)
theorem dX10_init_756 : decode cX10_init 756 = .ok (.getfield 34, 3) := dk_180 0 34 (dk_at dksX10_init_32 10 rfl rfl)
theorem dX10_init_759 : decode cX10_init 759 = .ok (.bipush 18, 2) := dk_16 18 (dk_at dksX10_init_32 13 rfl rfl)
theorem dX10_init_761 : decode cX10_init 761 = .ok (.bipush 117, 2) := dk_16 117 (dk_at dksX10_init_32 15 rfl rfl)
theorem dX10_init_763 : decode cX10_init 763 = .ok (.bipush 110, 2) := dk_16 110 (dk_at dksX10_init_32 17 rfl rfl)
theorem dX10_init_765 : decode cX10_init 765 = .ok (.bipush 108, 2) := dk_16 108 (dk_at dksX10_init_32 19 rfl rfl)
theorem dX10_init_767 : decode cX10_init 767 = .ok (.bipush 105, 2) := dk_16 105 (dk_at dksX10_init_32 21 rfl rfl)
theorem dX10_init_769 : decode cX10_init 769 = .ok (.bipush 107, 2) := dk_16 107 (dk_at dksX10_init_33 0 rfl rfl)
theorem dX10_init_771 : decode cX10_init 771 = .ok (.bipush 101, 2) := dk_16 101 (dk_at dksX10_init_33 2 rfl rfl)
theorem dX10_init_773 : decode cX10_init 773 = .ok (.iconst 0, 1) := dk_3 (dk_at dksX10_init_33 4 rfl rfl)
theorem dX10_init_774 : decode cX10_init 774 = .ok (.invokestatic 156, 3) := dk_184 0 156 (dk_at dksX10_init_33 5 rfl rfl)
theorem dX10_init_777 : decode cX10_init 777 = .ok (.lastore, 1) := dk_80 (dk_at dksX10_init_33 8 rfl rfl)
theorem dX10_init_778 : decode cX10_init 778 = .ok (.aload_n 0, 1) := dk_42 (dk_at dksX10_init_33 9 rfl rfl)
theorem dX10_init_779 : decode cX10_init 779 = .ok (.getfield 34, 3) := dk_180 0 34 (dk_at dksX10_init_33 10 rfl rfl)
theorem dX10_init_782 : decode cX10_init 782 = .ok (.bipush 19, 2) := dk_16 19 (dk_at dksX10_init_33 13 rfl rfl)
theorem dX10_init_784 : decode cX10_init 784 = .ok (.bipush 119, 2) := dk_16 119 (dk_at dksX10_init_33 15 rfl rfl)
theorem dX10_init_786 : decode cX10_init 786 = .ok (.bipush 104, 2) := dk_16 104 (dk_at dksX10_init_33 17 rfl rfl)
theorem dX10_init_788 : decode cX10_init 788 = .ok (.bipush 105, 2) := dk_16 105 (dk_at dksX10_init_33 19 rfl rfl)
theorem dX10_init_790 : decode cX10_init 790 = .ok (.bipush 99, 2) := dk_16 99 (dk_at dksX10_init_33 21 rfl rfl)
theorem dX10_init_792 : decode cX10_init 792 = .ok (.bipush 104, 2) := dk_16 104 (dk_at dksX10_init_34 0 rfl rfl)
theorem dX10_init_794 : decode cX10_init 794 = .ok (.iconst 0, 1) := dk_3 (dk_at dksX10_init_34 2 rfl rfl)
theorem dX10_init_795 : decode cX10_init 795 = .ok (.iconst 0, 1) := dk_3 (dk_at dksX10_init_34 3 rfl rfl)
theorem dX10_init_796 : decode cX10_init 796 = .ok (.invokestatic 156, 3) := dk_184 0 156 (dk_at dksX10_init_34 4 rfl rfl)
theorem dX10_init_799 : decode cX10_init 799 = .ok (.lastore, 1) := dk_80 (dk_at dksX10_init_34 7 rfl rfl)
theorem dX10_init_800 : decode cX10_init 800 = .ok (.aload_n 0, 1) := dk_42 (dk_at dksX10_init_34 8 rfl rfl)
theorem dX10_init_801 : decode cX10_init 801 = .ok (.getfield 34, 3) := dk_180 0 34 (dk_at dksX10_init_34 9 rfl rfl)
theorem dX10_init_804 : decode cX10_init 804 = .ok (.bipush 20, 2) := dk_16 20 (dk_at dksX10_init_34 12 rfl rfl)
theorem dX10_init_806 : decode cX10_init 806 = .ok (.bipush 114, 2) := dk_16 114 (dk_at dksX10_init_34 14 rfl rfl)
theorem dX10_init_808 : decode cX10_init 808 = .ok (.bipush 117, 2) := dk_16 117 (dk_at dksX10_init_34 16 rfl rfl)
theorem dX10_init_810 : decode cX10_init 810 = .ok (.bipush 98, 2) := dk_16 98 (dk_at dksX10_init_34 18 rfl rfl)
theorem dX10_init_812 : decode cX10_init 812 = .ok (.bipush 98, 2) := dk_16 98 (dk_at dksX10_init_34 20 rfl rfl)
theorem dX10_init_814 : decode cX10_init 814 = .ok (.bipush 101, 2) := dk_16 101 (dk_at dksX10_init_34 22 rfl rfl)
theorem dX10_init_816 : decode cX10_init 816 = .ok (.bipush 100, 2) := dk_16 100 (dk_at dksX10_init_35 0 rfl rfl)
theorem dX10_init_818 : decode cX10_init 818 = .ok (.iconst 0, 1) := dk_3 (dk_at dksX10_init_35 2 rfl rfl)
theorem dX10_init_819 : decode cX10_init 819 = .ok (.invokestatic 156, 3) := dk_184 0 156 (dk_at dksX10_init_35 3 rfl rfl)
theorem dX10_init_822 : decode cX10_init 822 = .ok (.lastore, 1) := dk_80 (dk_at dksX10_init_35 6 rfl rfl)
theorem dX10_init_823 : decode cX10_init 823 = .ok (.aload_n 0, 1) := dk_42 (dk_at dksX10_init_35 7 rfl rfl)
theorem dX10_init_824 : decode cX10_init 824 = .ok (.invokevirtual 160, 3) := dk_182 0 160 (dk_at dksX10_init_35 8 rfl rfl)
theorem dX10_init_827 : decode cX10_init 827 = .ok (.aload_n 0, 1) := dk_42 (dk_at dksX10_init_35 11 rfl rfl)
theorem dX10_init_828 : decode cX10_init 828 = .ok (.invokevirtual 163, 3) := dk_182 0 163 (dk_at dksX10_init_35 12 rfl rfl)
theorem dX10_init_831 : decode cX10_init 831 = .ok (.return_, 1) := dk_177 (dk_at dksX10_init_35 15 rfl rfl)
abbrev cX10_plain : ByteArray := prog_21_method_19_code
def yX10_plain : MethodName := ⟨RX10, "plain", "(I)V"⟩
def dkwX10_plain_3 : List UInt8 := [3, 79, 132, 2, 1, 167, 255, 226, 177]
abbrev dktX10_plain_3 : List UInt8 := dkwX10_plain_3 ++ []
def dkwX10_plain_2 : List UInt8 := [6, 162, 0, 31, 42, 180, 0, 82, 6, 27, 104, 28, 96, 3, 79, 42, 180, 0, 85, 6, 27, 104, 28, 96]
abbrev dktX10_plain_2 : List UInt8 := dkwX10_plain_2 ++ dktX10_plain_3
def dkwX10_plain_1 : List UInt8 := [180, 0, 73, 27, 3, 79, 42, 180, 0, 76, 27, 16, 40, 79, 42, 180, 0, 79, 27, 3, 79, 3, 61, 28]
abbrev dktX10_plain_1 : List UInt8 := dkwX10_plain_1 ++ dktX10_plain_2
def dkwX10_plain_0 : List UInt8 := [42, 180, 0, 46, 27, 3, 79, 42, 180, 0, 52, 27, 3, 79, 42, 180, 0, 58, 27, 3, 79, 42]
abbrev dktX10_plain_0 : List UInt8 := dkwX10_plain_0 ++ dktX10_plain_1
theorem dksX10_plain_0 : cX10_plain.data.toList.drop 0 = dktX10_plain_0 := by decide +kernel
theorem dksX10_plain_1 : cX10_plain.data.toList.drop 22 = dktX10_plain_1 := dk_seg dksX10_plain_0 22 rfl rfl
theorem dksX10_plain_2 : cX10_plain.data.toList.drop 46 = dktX10_plain_2 := dk_seg dksX10_plain_1 24 rfl rfl
theorem dksX10_plain_3 : cX10_plain.data.toList.drop 70 = dktX10_plain_3 := dk_seg dksX10_plain_2 24 rfl rfl
theorem dX10_plain_0 : decode cX10_plain 0 = .ok (.aload_n 0, 1) := dk_42 (dk_at dksX10_plain_0 0 rfl rfl)
theorem dX10_plain_1 : decode cX10_plain 1 = .ok (.getfield 46, 3) := dk_180 0 46 (dk_at dksX10_plain_0 1 rfl rfl)
theorem dX10_plain_4 : decode cX10_plain 4 = .ok (.iload_n 1, 1) := dk_27 (dk_at dksX10_plain_0 4 rfl rfl)
theorem dX10_plain_5 : decode cX10_plain 5 = .ok (.iconst 0, 1) := dk_3 (dk_at dksX10_plain_0 5 rfl rfl)
theorem dX10_plain_6 : decode cX10_plain 6 = .ok (.iastore, 1) := dk_79 (dk_at dksX10_plain_0 6 rfl rfl)
theorem dX10_plain_7 : decode cX10_plain 7 = .ok (.aload_n 0, 1) := dk_42 (dk_at dksX10_plain_0 7 rfl rfl)
theorem dX10_plain_8 : decode cX10_plain 8 = .ok (.getfield 52, 3) := dk_180 0 52 (dk_at dksX10_plain_0 8 rfl rfl)
theorem dX10_plain_11 : decode cX10_plain 11 = .ok (.iload_n 1, 1) := dk_27 (dk_at dksX10_plain_0 11 rfl rfl)
theorem dX10_plain_12 : decode cX10_plain 12 = .ok (.iconst 0, 1) := dk_3 (dk_at dksX10_plain_0 12 rfl rfl)
theorem dX10_plain_13 : decode cX10_plain 13 = .ok (.iastore, 1) := dk_79 (dk_at dksX10_plain_0 13 rfl rfl)
theorem dX10_plain_14 : decode cX10_plain 14 = .ok (.aload_n 0, 1) := dk_42 (dk_at dksX10_plain_0 14 rfl rfl)
theorem dX10_plain_15 : decode cX10_plain 15 = .ok (.getfield 58, 3) := dk_180 0 58 (dk_at dksX10_plain_0 15 rfl rfl)
theorem dX10_plain_18 : decode cX10_plain 18 = .ok (.iload_n 1, 1) := dk_27 (dk_at dksX10_plain_0 18 rfl rfl)
theorem dX10_plain_19 : decode cX10_plain 19 = .ok (.iconst 0, 1) := dk_3 (dk_at dksX10_plain_0 19 rfl rfl)
theorem dX10_plain_20 : decode cX10_plain 20 = .ok (.iastore, 1) := dk_79 (dk_at dksX10_plain_0 20 rfl rfl)
theorem dX10_plain_21 : decode cX10_plain 21 = .ok (.aload_n 0, 1) := dk_42 (dk_at dksX10_plain_0 21 rfl rfl)
theorem dX10_plain_22 : decode cX10_plain 22 = .ok (.getfield 73, 3) := dk_180 0 73 (dk_at dksX10_plain_1 0 rfl rfl)
theorem dX10_plain_25 : decode cX10_plain 25 = .ok (.iload_n 1, 1) := dk_27 (dk_at dksX10_plain_1 3 rfl rfl)
theorem dX10_plain_26 : decode cX10_plain 26 = .ok (.iconst 0, 1) := dk_3 (dk_at dksX10_plain_1 4 rfl rfl)
theorem dX10_plain_27 : decode cX10_plain 27 = .ok (.iastore, 1) := dk_79 (dk_at dksX10_plain_1 5 rfl rfl)
theorem dX10_plain_28 : decode cX10_plain 28 = .ok (.aload_n 0, 1) := dk_42 (dk_at dksX10_plain_1 6 rfl rfl)
theorem dX10_plain_29 : decode cX10_plain 29 = .ok (.getfield 76, 3) := dk_180 0 76 (dk_at dksX10_plain_1 7 rfl rfl)
theorem dX10_plain_32 : decode cX10_plain 32 = .ok (.iload_n 1, 1) := dk_27 (dk_at dksX10_plain_1 10 rfl rfl)
theorem dX10_plain_33 : decode cX10_plain 33 = .ok (.bipush 40, 2) := dk_16 40 (dk_at dksX10_plain_1 11 rfl rfl)
theorem dX10_plain_35 : decode cX10_plain 35 = .ok (.iastore, 1) := dk_79 (dk_at dksX10_plain_1 13 rfl rfl)
theorem dX10_plain_36 : decode cX10_plain 36 = .ok (.aload_n 0, 1) := dk_42 (dk_at dksX10_plain_1 14 rfl rfl)
theorem dX10_plain_37 : decode cX10_plain 37 = .ok (.getfield 79, 3) := dk_180 0 79 (dk_at dksX10_plain_1 15 rfl rfl)
theorem dX10_plain_40 : decode cX10_plain 40 = .ok (.iload_n 1, 1) := dk_27 (dk_at dksX10_plain_1 18 rfl rfl)
theorem dX10_plain_41 : decode cX10_plain 41 = .ok (.iconst 0, 1) := dk_3 (dk_at dksX10_plain_1 19 rfl rfl)
theorem dX10_plain_42 : decode cX10_plain 42 = .ok (.iastore, 1) := dk_79 (dk_at dksX10_plain_1 20 rfl rfl)
theorem dX10_plain_43 : decode cX10_plain 43 = .ok (.iconst 0, 1) := dk_3 (dk_at dksX10_plain_1 21 rfl rfl)
theorem dX10_plain_44 : decode cX10_plain 44 = .ok (.istore_n 2, 1) := dk_61 (dk_at dksX10_plain_1 22 rfl rfl)
theorem dX10_plain_45 : decode cX10_plain 45 = .ok (.iload_n 2, 1) := dk_28 (dk_at dksX10_plain_1 23 rfl rfl)
theorem dX10_plain_46 : decode cX10_plain 46 = .ok (.iconst 3, 1) := dk_6 (dk_at dksX10_plain_2 0 rfl rfl)
theorem dX10_plain_47 : decode cX10_plain 47 = .ok (.if_icmp .ge 31, 3) := dk_162 0 31 (dk_at dksX10_plain_2 1 rfl rfl)
theorem dX10_plain_50 : decode cX10_plain 50 = .ok (.aload_n 0, 1) := dk_42 (dk_at dksX10_plain_2 4 rfl rfl)
theorem dX10_plain_51 : decode cX10_plain 51 = .ok (.getfield 82, 3) := dk_180 0 82 (dk_at dksX10_plain_2 5 rfl rfl)
theorem dX10_plain_54 : decode cX10_plain 54 = .ok (.iconst 3, 1) := dk_6 (dk_at dksX10_plain_2 8 rfl rfl)
theorem dX10_plain_55 : decode cX10_plain 55 = .ok (.iload_n 1, 1) := dk_27 (dk_at dksX10_plain_2 9 rfl rfl)
theorem dX10_plain_56 : decode cX10_plain 56 = .ok (.imul, 1) := dk_104 (dk_at dksX10_plain_2 10 rfl rfl)
theorem dX10_plain_57 : decode cX10_plain 57 = .ok (.iload_n 2, 1) := dk_28 (dk_at dksX10_plain_2 11 rfl rfl)
theorem dX10_plain_58 : decode cX10_plain 58 = .ok (.iadd, 1) := dk_96 (dk_at dksX10_plain_2 12 rfl rfl)
theorem dX10_plain_59 : decode cX10_plain 59 = .ok (.iconst 0, 1) := dk_3 (dk_at dksX10_plain_2 13 rfl rfl)
theorem dX10_plain_60 : decode cX10_plain 60 = .ok (.iastore, 1) := dk_79 (dk_at dksX10_plain_2 14 rfl rfl)
theorem dX10_plain_61 : decode cX10_plain 61 = .ok (.aload_n 0, 1) := dk_42 (dk_at dksX10_plain_2 15 rfl rfl)
theorem dX10_plain_62 : decode cX10_plain 62 = .ok (.getfield 85, 3) := dk_180 0 85 (dk_at dksX10_plain_2 16 rfl rfl)
theorem dX10_plain_65 : decode cX10_plain 65 = .ok (.iconst 3, 1) := dk_6 (dk_at dksX10_plain_2 19 rfl rfl)
theorem dX10_plain_66 : decode cX10_plain 66 = .ok (.iload_n 1, 1) := dk_27 (dk_at dksX10_plain_2 20 rfl rfl)
theorem dX10_plain_67 : decode cX10_plain 67 = .ok (.imul, 1) := dk_104 (dk_at dksX10_plain_2 21 rfl rfl)
theorem dX10_plain_68 : decode cX10_plain 68 = .ok (.iload_n 2, 1) := dk_28 (dk_at dksX10_plain_2 22 rfl rfl)
theorem dX10_plain_69 : decode cX10_plain 69 = .ok (.iadd, 1) := dk_96 (dk_at dksX10_plain_2 23 rfl rfl)
theorem dX10_plain_70 : decode cX10_plain 70 = .ok (.iconst 0, 1) := dk_3 (dk_at dksX10_plain_3 0 rfl rfl)
theorem dX10_plain_71 : decode cX10_plain 71 = .ok (.iastore, 1) := dk_79 (dk_at dksX10_plain_3 1 rfl rfl)
theorem dX10_plain_72 : decode cX10_plain 72 = .ok (.iinc 2 1, 3) := dk_132 2 1 (dk_at dksX10_plain_3 2 rfl rfl)
theorem dX10_plain_75 : decode cX10_plain 75 = .ok (.goto (-30), 3) := dk_167 255 226 (dk_at dksX10_plain_3 5 rfl rfl)
theorem dX10_plain_78 : decode cX10_plain 78 = .ok (.return_, 1) := dk_177 (dk_at dksX10_plain_3 8 rfl rfl)
abbrev cX10_word : ByteArray := prog_21_method_10_code
def yX10_word : MethodName := ⟨RX10, "word", "(IIIIIII)J"⟩
def dkwX10_word_1 : List UInt8 := [184, 0, 177, 21, 6, 184, 0, 177, 173]
abbrev dktX10_word_1 : List UInt8 := dkwX10_word_1 ++ []
def dkwX10_word_0 : List UInt8 := [9, 26, 184, 0, 177, 27, 184, 0, 177, 28, 184, 0, 177, 29, 184, 0, 177, 21, 4, 184, 0, 177, 21, 5]
abbrev dktX10_word_0 : List UInt8 := dkwX10_word_0 ++ dktX10_word_1
theorem dksX10_word_0 : cX10_word.data.toList.drop 0 = dktX10_word_0 := by decide +kernel
theorem dksX10_word_1 : cX10_word.data.toList.drop 24 = dktX10_word_1 := dk_seg dksX10_word_0 24 rfl rfl
theorem dX10_word_0 : decode cX10_word 0 = .ok (.lconst 0, 1) := dk_9 (dk_at dksX10_word_0 0 rfl rfl)
theorem dX10_word_1 : decode cX10_word 1 = .ok (.iload_n 0, 1) := dk_26 (dk_at dksX10_word_0 1 rfl rfl)
theorem dX10_word_2 : decode cX10_word 2 = .ok (.invokestatic 177, 3) := dk_184 0 177 (dk_at dksX10_word_0 2 rfl rfl)
theorem dX10_word_5 : decode cX10_word 5 = .ok (.iload_n 1, 1) := dk_27 (dk_at dksX10_word_0 5 rfl rfl)
theorem dX10_word_6 : decode cX10_word 6 = .ok (.invokestatic 177, 3) := dk_184 0 177 (dk_at dksX10_word_0 6 rfl rfl)
theorem dX10_word_9 : decode cX10_word 9 = .ok (.iload_n 2, 1) := dk_28 (dk_at dksX10_word_0 9 rfl rfl)
theorem dX10_word_10 : decode cX10_word 10 = .ok (.invokestatic 177, 3) := dk_184 0 177 (dk_at dksX10_word_0 10 rfl rfl)
theorem dX10_word_13 : decode cX10_word 13 = .ok (.iload_n 3, 1) := dk_29 (dk_at dksX10_word_0 13 rfl rfl)
theorem dX10_word_14 : decode cX10_word 14 = .ok (.invokestatic 177, 3) := dk_184 0 177 (dk_at dksX10_word_0 14 rfl rfl)
theorem dX10_word_17 : decode cX10_word 17 = .ok (.iload 4, 2) := dk_21 4 (dk_at dksX10_word_0 17 rfl rfl)
theorem dX10_word_19 : decode cX10_word 19 = .ok (.invokestatic 177, 3) := dk_184 0 177 (dk_at dksX10_word_0 19 rfl rfl)
theorem dX10_word_22 : decode cX10_word 22 = .ok (.iload 5, 2) := dk_21 5 (dk_at dksX10_word_0 22 rfl rfl)
theorem dX10_word_24 : decode cX10_word 24 = .ok (.invokestatic 177, 3) := dk_184 0 177 (dk_at dksX10_word_1 0 rfl rfl)
theorem dX10_word_27 : decode cX10_word 27 = .ok (.iload 6, 2) := dk_21 6 (dk_at dksX10_word_1 3 rfl rfl)
theorem dX10_word_29 : decode cX10_word 29 = .ok (.invokestatic 177, 3) := dk_184 0 177 (dk_at dksX10_word_1 5 rfl rfl)
theorem dX10_word_32 : decode cX10_word 32 = .ok (.lreturn, 1) := dk_173 (dk_at dksX10_word_1 8 rfl rfl)
abbrev cX10_appends : ByteArray := prog_21_method_9_code
def yX10_appends : MethodName := ⟨RX10, "appends", "(JI)J"⟩
def dkwX10_appends_0 : List UInt8 := [28, 154, 0, 7, 30, 167, 0, 16, 20, 0, 175, 30, 105, 28, 16, 97, 100, 4, 96, 133, 97, 173]
abbrev dktX10_appends_0 : List UInt8 := dkwX10_appends_0 ++ []
theorem dksX10_appends_0 : cX10_appends.data.toList.drop 0 = dktX10_appends_0 := by decide +kernel
theorem dX10_appends_0 : decode cX10_appends 0 = .ok (.iload_n 2, 1) := dk_28 (dk_at dksX10_appends_0 0 rfl rfl)
theorem dX10_appends_1 : decode cX10_appends 1 = .ok (.ifCond .ne 7, 3) := dk_154 0 7 (dk_at dksX10_appends_0 1 rfl rfl)
theorem dX10_appends_4 : decode cX10_appends 4 = .ok (.lload_n 0, 1) := dk_30 (dk_at dksX10_appends_0 4 rfl rfl)
theorem dX10_appends_5 : decode cX10_appends 5 = .ok (.goto 16, 3) := dk_167 0 16 (dk_at dksX10_appends_0 5 rfl rfl)
theorem dX10_appends_8 : decode cX10_appends 8 = .ok (.ldc2_w 175, 3) := dk_20 0 175 (dk_at dksX10_appends_0 8 rfl rfl)
theorem dX10_appends_11 : decode cX10_appends 11 = .ok (.lload_n 0, 1) := dk_30 (dk_at dksX10_appends_0 11 rfl rfl)
theorem dX10_appends_12 : decode cX10_appends 12 = .ok (.lmul, 1) := dk_105 (dk_at dksX10_appends_0 12 rfl rfl)
theorem dX10_appends_13 : decode cX10_appends 13 = .ok (.iload_n 2, 1) := dk_28 (dk_at dksX10_appends_0 13 rfl rfl)
theorem dX10_appends_14 : decode cX10_appends 14 = .ok (.bipush 97, 2) := dk_16 97 (dk_at dksX10_appends_0 14 rfl rfl)
theorem dX10_appends_16 : decode cX10_appends 16 = .ok (.isub, 1) := dk_100 (dk_at dksX10_appends_0 16 rfl rfl)
theorem dX10_appends_17 : decode cX10_appends 17 = .ok (.iconst 1, 1) := dk_4 (dk_at dksX10_appends_0 17 rfl rfl)
theorem dX10_appends_18 : decode cX10_appends 18 = .ok (.iadd, 1) := dk_96 (dk_at dksX10_appends_0 18 rfl rfl)
theorem dX10_appends_19 : decode cX10_appends 19 = .ok (.i2l, 1) := dk_133 (dk_at dksX10_appends_0 19 rfl rfl)
theorem dX10_appends_20 : decode cX10_appends 20 = .ok (.ladd, 1) := dk_97 (dk_at dksX10_appends_0 20 rfl rfl)
theorem dX10_appends_21 : decode cX10_appends 21 = .ok (.lreturn, 1) := dk_173 (dk_at dksX10_appends_0 21 rfl rfl)
abbrev cX10_begins : ByteArray := prog_21_method_44_code
def yX10_begins : MethodName := ⟨RX10, "begins", "()V"⟩
def dkwX10_begins_4 : List UInt8 := [42, 42, 180, 0, 79, 42, 180, 0, 233, 46, 181, 1, 61, 42, 3, 181, 1, 64, 177]
abbrev dktX10_begins_4 : List UInt8 := dkwX10_begins_4 ++ []
def dkwX10_begins_3 : List UInt8 := [42, 180, 0, 233, 46, 162, 0, 19, 42, 180, 0, 122, 16, 54, 27, 96, 4, 79, 132, 1, 1, 167, 255, 230]
abbrev dktX10_begins_3 : List UInt8 := dkwX10_begins_3 ++ dktX10_begins_4
def dkwX10_begins_2 : List UInt8 := [16, 24, 42, 180, 0, 233, 104, 27, 96, 46, 79, 132, 1, 1, 167, 255, 218, 3, 60, 27, 42, 180, 0, 58]
abbrev dktX10_begins_2 : List UInt8 := dkwX10_begins_2 ++ dktX10_begins_3
def dkwX10_begins_1 : List UInt8 := [7, 42, 180, 0, 46, 42, 180, 0, 233, 46, 104, 162, 0, 29, 42, 180, 0, 122, 27, 42, 180, 0, 49]
abbrev dktX10_begins_1 : List UInt8 := dkwX10_begins_1 ++ dktX10_begins_2
def dkwX10_begins_0 : List UInt8 := [3, 60, 27, 16, 70, 162, 0, 16, 42, 180, 0, 122, 27, 3, 79, 132, 1, 1, 167, 255, 240, 3, 60, 27]
abbrev dktX10_begins_0 : List UInt8 := dkwX10_begins_0 ++ dktX10_begins_1
theorem dksX10_begins_0 : cX10_begins.data.toList.drop 0 = dktX10_begins_0 := by decide +kernel
theorem dksX10_begins_1 : cX10_begins.data.toList.drop 24 = dktX10_begins_1 := dk_seg dksX10_begins_0 24 rfl rfl
theorem dksX10_begins_2 : cX10_begins.data.toList.drop 47 = dktX10_begins_2 := dk_seg dksX10_begins_1 23 rfl rfl
theorem dksX10_begins_3 : cX10_begins.data.toList.drop 71 = dktX10_begins_3 := dk_seg dksX10_begins_2 24 rfl rfl
theorem dksX10_begins_4 : cX10_begins.data.toList.drop 95 = dktX10_begins_4 := dk_seg dksX10_begins_3 24 rfl rfl
theorem dX10_begins_0 : decode cX10_begins 0 = .ok (.iconst 0, 1) := dk_3 (dk_at dksX10_begins_0 0 rfl rfl)
theorem dX10_begins_1 : decode cX10_begins 1 = .ok (.istore_n 1, 1) := dk_60 (dk_at dksX10_begins_0 1 rfl rfl)
theorem dX10_begins_2 : decode cX10_begins 2 = .ok (.iload_n 1, 1) := dk_27 (dk_at dksX10_begins_0 2 rfl rfl)
theorem dX10_begins_3 : decode cX10_begins 3 = .ok (.bipush 70, 2) := dk_16 70 (dk_at dksX10_begins_0 3 rfl rfl)
theorem dX10_begins_5 : decode cX10_begins 5 = .ok (.if_icmp .ge 16, 3) := dk_162 0 16 (dk_at dksX10_begins_0 5 rfl rfl)
theorem dX10_begins_8 : decode cX10_begins 8 = .ok (.aload_n 0, 1) := dk_42 (dk_at dksX10_begins_0 8 rfl rfl)
theorem dX10_begins_9 : decode cX10_begins 9 = .ok (.getfield 122, 3) := dk_180 0 122 (dk_at dksX10_begins_0 9 rfl rfl)
theorem dX10_begins_12 : decode cX10_begins 12 = .ok (.iload_n 1, 1) := dk_27 (dk_at dksX10_begins_0 12 rfl rfl)
theorem dX10_begins_13 : decode cX10_begins 13 = .ok (.iconst 0, 1) := dk_3 (dk_at dksX10_begins_0 13 rfl rfl)
theorem dX10_begins_14 : decode cX10_begins 14 = .ok (.iastore, 1) := dk_79 (dk_at dksX10_begins_0 14 rfl rfl)
theorem dX10_begins_15 : decode cX10_begins 15 = .ok (.iinc 1 1, 3) := dk_132 1 1 (dk_at dksX10_begins_0 15 rfl rfl)
theorem dX10_begins_18 : decode cX10_begins 18 = .ok (.goto (-16), 3) := dk_167 255 240 (dk_at dksX10_begins_0 18 rfl rfl)
theorem dX10_begins_21 : decode cX10_begins 21 = .ok (.iconst 0, 1) := dk_3 (dk_at dksX10_begins_0 21 rfl rfl)
theorem dX10_begins_22 : decode cX10_begins 22 = .ok (.istore_n 1, 1) := dk_60 (dk_at dksX10_begins_0 22 rfl rfl)
theorem dX10_begins_23 : decode cX10_begins 23 = .ok (.iload_n 1, 1) := dk_27 (dk_at dksX10_begins_0 23 rfl rfl)
theorem dX10_begins_24 : decode cX10_begins 24 = .ok (.iconst 4, 1) := dk_7 (dk_at dksX10_begins_1 0 rfl rfl)
theorem dX10_begins_25 : decode cX10_begins 25 = .ok (.aload_n 0, 1) := dk_42 (dk_at dksX10_begins_1 1 rfl rfl)
theorem dX10_begins_26 : decode cX10_begins 26 = .ok (.getfield 46, 3) := dk_180 0 46 (dk_at dksX10_begins_1 2 rfl rfl)
theorem dX10_begins_29 : decode cX10_begins 29 = .ok (.aload_n 0, 1) := dk_42 (dk_at dksX10_begins_1 5 rfl rfl)
theorem dX10_begins_30 : decode cX10_begins 30 = .ok (.getfield 233, 3) := dk_180 0 233 (dk_at dksX10_begins_1 6 rfl rfl)
theorem dX10_begins_33 : decode cX10_begins 33 = .ok (.iaload, 1) := dk_46 (dk_at dksX10_begins_1 9 rfl rfl)
theorem dX10_begins_34 : decode cX10_begins 34 = .ok (.imul, 1) := dk_104 (dk_at dksX10_begins_1 10 rfl rfl)
theorem dX10_begins_35 : decode cX10_begins 35 = .ok (.if_icmp .ge 29, 3) := dk_162 0 29 (dk_at dksX10_begins_1 11 rfl rfl)
theorem dX10_begins_38 : decode cX10_begins 38 = .ok (.aload_n 0, 1) := dk_42 (dk_at dksX10_begins_1 14 rfl rfl)
theorem dX10_begins_39 : decode cX10_begins 39 = .ok (.getfield 122, 3) := dk_180 0 122 (dk_at dksX10_begins_1 15 rfl rfl)
theorem dX10_begins_42 : decode cX10_begins 42 = .ok (.iload_n 1, 1) := dk_27 (dk_at dksX10_begins_1 18 rfl rfl)
theorem dX10_begins_43 : decode cX10_begins 43 = .ok (.aload_n 0, 1) := dk_42 (dk_at dksX10_begins_1 19 rfl rfl)
theorem dX10_begins_44 : decode cX10_begins 44 = .ok (.getfield 49, 3) := dk_180 0 49 (dk_at dksX10_begins_1 20 rfl rfl)
theorem dX10_begins_47 : decode cX10_begins 47 = .ok (.bipush 24, 2) := dk_16 24 (dk_at dksX10_begins_2 0 rfl rfl)
theorem dX10_begins_49 : decode cX10_begins 49 = .ok (.aload_n 0, 1) := dk_42 (dk_at dksX10_begins_2 2 rfl rfl)
theorem dX10_begins_50 : decode cX10_begins 50 = .ok (.getfield 233, 3) := dk_180 0 233 (dk_at dksX10_begins_2 3 rfl rfl)
theorem dX10_begins_53 : decode cX10_begins 53 = .ok (.imul, 1) := dk_104 (dk_at dksX10_begins_2 6 rfl rfl)
theorem dX10_begins_54 : decode cX10_begins 54 = .ok (.iload_n 1, 1) := dk_27 (dk_at dksX10_begins_2 7 rfl rfl)
theorem dX10_begins_55 : decode cX10_begins 55 = .ok (.iadd, 1) := dk_96 (dk_at dksX10_begins_2 8 rfl rfl)
theorem dX10_begins_56 : decode cX10_begins 56 = .ok (.iaload, 1) := dk_46 (dk_at dksX10_begins_2 9 rfl rfl)
theorem dX10_begins_57 : decode cX10_begins 57 = .ok (.iastore, 1) := dk_79 (dk_at dksX10_begins_2 10 rfl rfl)
theorem dX10_begins_58 : decode cX10_begins 58 = .ok (.iinc 1 1, 3) := dk_132 1 1 (dk_at dksX10_begins_2 11 rfl rfl)
theorem dX10_begins_61 : decode cX10_begins 61 = .ok (.goto (-38), 3) := dk_167 255 218 (dk_at dksX10_begins_2 14 rfl rfl)
theorem dX10_begins_64 : decode cX10_begins 64 = .ok (.iconst 0, 1) := dk_3 (dk_at dksX10_begins_2 17 rfl rfl)
theorem dX10_begins_65 : decode cX10_begins 65 = .ok (.istore_n 1, 1) := dk_60 (dk_at dksX10_begins_2 18 rfl rfl)
theorem dX10_begins_66 : decode cX10_begins 66 = .ok (.iload_n 1, 1) := dk_27 (dk_at dksX10_begins_2 19 rfl rfl)
theorem dX10_begins_67 : decode cX10_begins 67 = .ok (.aload_n 0, 1) := dk_42 (dk_at dksX10_begins_2 20 rfl rfl)
theorem dX10_begins_68 : decode cX10_begins 68 = .ok (.getfield 58, 3) := dk_180 0 58 (dk_at dksX10_begins_2 21 rfl rfl)
theorem dX10_begins_71 : decode cX10_begins 71 = .ok (.aload_n 0, 1) := dk_42 (dk_at dksX10_begins_3 0 rfl rfl)
theorem dX10_begins_72 : decode cX10_begins 72 = .ok (.getfield 233, 3) := dk_180 0 233 (dk_at dksX10_begins_3 1 rfl rfl)
theorem dX10_begins_75 : decode cX10_begins 75 = .ok (.iaload, 1) := dk_46 (dk_at dksX10_begins_3 4 rfl rfl)
theorem dX10_begins_76 : decode cX10_begins 76 = .ok (.if_icmp .ge 19, 3) := dk_162 0 19 (dk_at dksX10_begins_3 5 rfl rfl)
theorem dX10_begins_79 : decode cX10_begins 79 = .ok (.aload_n 0, 1) := dk_42 (dk_at dksX10_begins_3 8 rfl rfl)
theorem dX10_begins_80 : decode cX10_begins 80 = .ok (.getfield 122, 3) := dk_180 0 122 (dk_at dksX10_begins_3 9 rfl rfl)
theorem dX10_begins_83 : decode cX10_begins 83 = .ok (.bipush 54, 2) := dk_16 54 (dk_at dksX10_begins_3 12 rfl rfl)
theorem dX10_begins_85 : decode cX10_begins 85 = .ok (.iload_n 1, 1) := dk_27 (dk_at dksX10_begins_3 14 rfl rfl)
theorem dX10_begins_86 : decode cX10_begins 86 = .ok (.iadd, 1) := dk_96 (dk_at dksX10_begins_3 15 rfl rfl)
theorem dX10_begins_87 : decode cX10_begins 87 = .ok (.iconst 1, 1) := dk_4 (dk_at dksX10_begins_3 16 rfl rfl)
theorem dX10_begins_88 : decode cX10_begins 88 = .ok (.iastore, 1) := dk_79 (dk_at dksX10_begins_3 17 rfl rfl)
theorem dX10_begins_89 : decode cX10_begins 89 = .ok (.iinc 1 1, 3) := dk_132 1 1 (dk_at dksX10_begins_3 18 rfl rfl)
theorem dX10_begins_92 : decode cX10_begins 92 = .ok (.goto (-26), 3) := dk_167 255 230 (dk_at dksX10_begins_3 21 rfl rfl)
theorem dX10_begins_95 : decode cX10_begins 95 = .ok (.aload_n 0, 1) := dk_42 (dk_at dksX10_begins_4 0 rfl rfl)
theorem dX10_begins_96 : decode cX10_begins 96 = .ok (.aload_n 0, 1) := dk_42 (dk_at dksX10_begins_4 1 rfl rfl)
theorem dX10_begins_97 : decode cX10_begins 97 = .ok (.getfield 79, 3) := dk_180 0 79 (dk_at dksX10_begins_4 2 rfl rfl)
theorem dX10_begins_100 : decode cX10_begins 100 = .ok (.aload_n 0, 1) := dk_42 (dk_at dksX10_begins_4 5 rfl rfl)
theorem dX10_begins_101 : decode cX10_begins 101 = .ok (.getfield 233, 3) := dk_180 0 233 (dk_at dksX10_begins_4 6 rfl rfl)
theorem dX10_begins_104 : decode cX10_begins 104 = .ok (.iaload, 1) := dk_46 (dk_at dksX10_begins_4 9 rfl rfl)
theorem dX10_begins_105 : decode cX10_begins 105 = .ok (.putfield 317, 3) := dk_181 1 61 (dk_at dksX10_begins_4 10 rfl rfl)
theorem dX10_begins_108 : decode cX10_begins 108 = .ok (.aload_n 0, 1) := dk_42 (dk_at dksX10_begins_4 13 rfl rfl)
theorem dX10_begins_109 : decode cX10_begins 109 = .ok (.iconst 0, 1) := dk_3 (dk_at dksX10_begins_4 14 rfl rfl)
theorem dX10_begins_110 : decode cX10_begins 110 = .ok (.putfield 320, 3) := dk_181 1 64 (dk_at dksX10_begins_4 15 rfl rfl)
theorem dX10_begins_113 : decode cX10_begins 113 = .ok (.return_, 1) := dk_177 (dk_at dksX10_begins_4 18 rfl rfl)
abbrev cX10_keepsRow : ByteArray := prog_21_method_45_code
def yX10_keepsRow : MethodName := ⟨RX10, "keepsRow", "()V"⟩
def dkwX10_keepsRow_1 : List UInt8 := [167, 255, 235, 177]
abbrev dktX10_keepsRow_1 : List UInt8 := dkwX10_keepsRow_1 ++ []
def dkwX10_keepsRow_0 : List UInt8 := [3, 60, 27, 16, 70, 162, 0, 21, 42, 180, 0, 119, 27, 42, 180, 0, 122, 27, 46, 79, 132, 1, 1]
abbrev dktX10_keepsRow_0 : List UInt8 := dkwX10_keepsRow_0 ++ dktX10_keepsRow_1
theorem dksX10_keepsRow_0 : cX10_keepsRow.data.toList.drop 0 = dktX10_keepsRow_0 := by decide +kernel
theorem dksX10_keepsRow_1 : cX10_keepsRow.data.toList.drop 23 = dktX10_keepsRow_1 := dk_seg dksX10_keepsRow_0 23 rfl rfl
theorem dX10_keepsRow_0 : decode cX10_keepsRow 0 = .ok (.iconst 0, 1) := dk_3 (dk_at dksX10_keepsRow_0 0 rfl rfl)
theorem dX10_keepsRow_1 : decode cX10_keepsRow 1 = .ok (.istore_n 1, 1) := dk_60 (dk_at dksX10_keepsRow_0 1 rfl rfl)
theorem dX10_keepsRow_2 : decode cX10_keepsRow 2 = .ok (.iload_n 1, 1) := dk_27 (dk_at dksX10_keepsRow_0 2 rfl rfl)
theorem dX10_keepsRow_3 : decode cX10_keepsRow 3 = .ok (.bipush 70, 2) := dk_16 70 (dk_at dksX10_keepsRow_0 3 rfl rfl)
theorem dX10_keepsRow_5 : decode cX10_keepsRow 5 = .ok (.if_icmp .ge 21, 3) := dk_162 0 21 (dk_at dksX10_keepsRow_0 5 rfl rfl)
theorem dX10_keepsRow_8 : decode cX10_keepsRow 8 = .ok (.aload_n 0, 1) := dk_42 (dk_at dksX10_keepsRow_0 8 rfl rfl)
theorem dX10_keepsRow_9 : decode cX10_keepsRow 9 = .ok (.getfield 119, 3) := dk_180 0 119 (dk_at dksX10_keepsRow_0 9 rfl rfl)
theorem dX10_keepsRow_12 : decode cX10_keepsRow 12 = .ok (.iload_n 1, 1) := dk_27 (dk_at dksX10_keepsRow_0 12 rfl rfl)
theorem dX10_keepsRow_13 : decode cX10_keepsRow 13 = .ok (.aload_n 0, 1) := dk_42 (dk_at dksX10_keepsRow_0 13 rfl rfl)
theorem dX10_keepsRow_14 : decode cX10_keepsRow 14 = .ok (.getfield 122, 3) := dk_180 0 122 (dk_at dksX10_keepsRow_0 14 rfl rfl)
theorem dX10_keepsRow_17 : decode cX10_keepsRow 17 = .ok (.iload_n 1, 1) := dk_27 (dk_at dksX10_keepsRow_0 17 rfl rfl)
theorem dX10_keepsRow_18 : decode cX10_keepsRow 18 = .ok (.iaload, 1) := dk_46 (dk_at dksX10_keepsRow_0 18 rfl rfl)
theorem dX10_keepsRow_19 : decode cX10_keepsRow 19 = .ok (.iastore, 1) := dk_79 (dk_at dksX10_keepsRow_0 19 rfl rfl)
theorem dX10_keepsRow_20 : decode cX10_keepsRow 20 = .ok (.iinc 1 1, 3) := dk_132 1 1 (dk_at dksX10_keepsRow_0 20 rfl rfl)
theorem dX10_keepsRow_23 : decode cX10_keepsRow 23 = .ok (.goto (-21), 3) := dk_167 255 235 (dk_at dksX10_keepsRow_1 0 rfl rfl)
theorem dX10_keepsRow_26 : decode cX10_keepsRow 26 = .ok (.return_, 1) := dk_177 (dk_at dksX10_keepsRow_1 3 rfl rfl)
abbrev cX10_feed : ByteArray := prog_21_method_3_code
def yX10_feed : MethodName := ⟨RX10, "feed", "(IIIII)I"⟩
def dkwX10_feed_2 : List UInt8 := [172]
abbrev dktX10_feed_2 : List UInt8 := dkwX10_feed_2 ++ []
def dkwX10_feed_1 : List UInt8 := [182, 0, 169, 42, 29, 182, 0, 169, 42, 21, 4, 182, 0, 169, 42, 21, 5, 182, 0, 169, 42, 180, 0, 166]
abbrev dktX10_feed_1 : List UInt8 := dkwX10_feed_1 ++ dktX10_feed_2
def dkwX10_feed_0 : List UInt8 := [42, 180, 0, 166, 16, 20, 96, 17, 7, 208, 164, 0, 5, 2, 172, 42, 27, 182, 0, 169, 42, 28]
abbrev dktX10_feed_0 : List UInt8 := dkwX10_feed_0 ++ dktX10_feed_1
theorem dksX10_feed_0 : cX10_feed.data.toList.drop 0 = dktX10_feed_0 := by decide +kernel
theorem dksX10_feed_1 : cX10_feed.data.toList.drop 22 = dktX10_feed_1 := dk_seg dksX10_feed_0 22 rfl rfl
theorem dksX10_feed_2 : cX10_feed.data.toList.drop 46 = dktX10_feed_2 := dk_seg dksX10_feed_1 24 rfl rfl
theorem dX10_feed_0 : decode cX10_feed 0 = .ok (.aload_n 0, 1) := dk_42 (dk_at dksX10_feed_0 0 rfl rfl)
theorem dX10_feed_1 : decode cX10_feed 1 = .ok (.getfield 166, 3) := dk_180 0 166 (dk_at dksX10_feed_0 1 rfl rfl)
theorem dX10_feed_4 : decode cX10_feed 4 = .ok (.bipush 20, 2) := dk_16 20 (dk_at dksX10_feed_0 4 rfl rfl)
theorem dX10_feed_6 : decode cX10_feed 6 = .ok (.iadd, 1) := dk_96 (dk_at dksX10_feed_0 6 rfl rfl)
theorem dX10_feed_7 : decode cX10_feed 7 = .ok (.sipush 2000, 3) := dk_17 7 208 (dk_at dksX10_feed_0 7 rfl rfl)
theorem dX10_feed_10 : decode cX10_feed 10 = .ok (.if_icmp .le 5, 3) := dk_164 0 5 (dk_at dksX10_feed_0 10 rfl rfl)
theorem dX10_feed_13 : decode cX10_feed 13 = .ok (.iconst (-1), 1) := dk_2 (dk_at dksX10_feed_0 13 rfl rfl)
theorem dX10_feed_14 : decode cX10_feed 14 = .ok (.ireturn, 1) := dk_172 (dk_at dksX10_feed_0 14 rfl rfl)
theorem dX10_feed_15 : decode cX10_feed 15 = .ok (.aload_n 0, 1) := dk_42 (dk_at dksX10_feed_0 15 rfl rfl)
theorem dX10_feed_16 : decode cX10_feed 16 = .ok (.iload_n 1, 1) := dk_27 (dk_at dksX10_feed_0 16 rfl rfl)
theorem dX10_feed_17 : decode cX10_feed 17 = .ok (.invokevirtual 169, 3) := dk_182 0 169 (dk_at dksX10_feed_0 17 rfl rfl)
theorem dX10_feed_20 : decode cX10_feed 20 = .ok (.aload_n 0, 1) := dk_42 (dk_at dksX10_feed_0 20 rfl rfl)
theorem dX10_feed_21 : decode cX10_feed 21 = .ok (.iload_n 2, 1) := dk_28 (dk_at dksX10_feed_0 21 rfl rfl)
theorem dX10_feed_22 : decode cX10_feed 22 = .ok (.invokevirtual 169, 3) := dk_182 0 169 (dk_at dksX10_feed_1 0 rfl rfl)
theorem dX10_feed_25 : decode cX10_feed 25 = .ok (.aload_n 0, 1) := dk_42 (dk_at dksX10_feed_1 3 rfl rfl)
theorem dX10_feed_26 : decode cX10_feed 26 = .ok (.iload_n 3, 1) := dk_29 (dk_at dksX10_feed_1 4 rfl rfl)
theorem dX10_feed_27 : decode cX10_feed 27 = .ok (.invokevirtual 169, 3) := dk_182 0 169 (dk_at dksX10_feed_1 5 rfl rfl)
theorem dX10_feed_30 : decode cX10_feed 30 = .ok (.aload_n 0, 1) := dk_42 (dk_at dksX10_feed_1 8 rfl rfl)
theorem dX10_feed_31 : decode cX10_feed 31 = .ok (.iload 4, 2) := dk_21 4 (dk_at dksX10_feed_1 9 rfl rfl)
theorem dX10_feed_33 : decode cX10_feed 33 = .ok (.invokevirtual 169, 3) := dk_182 0 169 (dk_at dksX10_feed_1 11 rfl rfl)
theorem dX10_feed_36 : decode cX10_feed 36 = .ok (.aload_n 0, 1) := dk_42 (dk_at dksX10_feed_1 14 rfl rfl)
theorem dX10_feed_37 : decode cX10_feed 37 = .ok (.iload 5, 2) := dk_21 5 (dk_at dksX10_feed_1 15 rfl rfl)
theorem dX10_feed_39 : decode cX10_feed 39 = .ok (.invokevirtual 169, 3) := dk_182 0 169 (dk_at dksX10_feed_1 17 rfl rfl)
theorem dX10_feed_42 : decode cX10_feed 42 = .ok (.aload_n 0, 1) := dk_42 (dk_at dksX10_feed_1 20 rfl rfl)
theorem dX10_feed_43 : decode cX10_feed 43 = .ok (.getfield 166, 3) := dk_180 0 166 (dk_at dksX10_feed_1 21 rfl rfl)
theorem dX10_feed_46 : decode cX10_feed 46 = .ok (.ireturn, 1) := dk_172 (dk_at dksX10_feed_2 0 rfl rfl)
abbrev cX10_put : ByteArray := prog_21_method_4_code
def yX10_put : MethodName := ⟨RX10, "put", "(I)V"⟩
def dkwX10_put_1 : List UInt8 := [180, 0, 166, 4, 96, 181, 0, 166, 132, 2, 248, 167, 255, 226, 177]
abbrev dktX10_put_1 : List UInt8 := dkwX10_put_1 ++ []
def dkwX10_put_0 : List UInt8 := [16, 24, 61, 28, 155, 0, 32, 42, 180, 0, 13, 42, 180, 0, 166, 27, 28, 122, 145, 84, 42, 89]
abbrev dktX10_put_0 : List UInt8 := dkwX10_put_0 ++ dktX10_put_1
theorem dksX10_put_0 : cX10_put.data.toList.drop 0 = dktX10_put_0 := by decide +kernel
theorem dksX10_put_1 : cX10_put.data.toList.drop 22 = dktX10_put_1 := dk_seg dksX10_put_0 22 rfl rfl
theorem dX10_put_0 : decode cX10_put 0 = .ok (.bipush 24, 2) := dk_16 24 (dk_at dksX10_put_0 0 rfl rfl)
theorem dX10_put_2 : decode cX10_put 2 = .ok (.istore_n 2, 1) := dk_61 (dk_at dksX10_put_0 2 rfl rfl)
theorem dX10_put_3 : decode cX10_put 3 = .ok (.iload_n 2, 1) := dk_28 (dk_at dksX10_put_0 3 rfl rfl)
theorem dX10_put_4 : decode cX10_put 4 = .ok (.ifCond .lt 32, 3) := dk_155 0 32 (dk_at dksX10_put_0 4 rfl rfl)
theorem dX10_put_7 : decode cX10_put 7 = .ok (.aload_n 0, 1) := dk_42 (dk_at dksX10_put_0 7 rfl rfl)
theorem dX10_put_8 : decode cX10_put 8 = .ok (.getfield 13, 3) := dk_180 0 13 (dk_at dksX10_put_0 8 rfl rfl)
theorem dX10_put_11 : decode cX10_put 11 = .ok (.aload_n 0, 1) := dk_42 (dk_at dksX10_put_0 11 rfl rfl)
theorem dX10_put_12 : decode cX10_put 12 = .ok (.getfield 166, 3) := dk_180 0 166 (dk_at dksX10_put_0 12 rfl rfl)
theorem dX10_put_15 : decode cX10_put 15 = .ok (.iload_n 1, 1) := dk_27 (dk_at dksX10_put_0 15 rfl rfl)
theorem dX10_put_16 : decode cX10_put 16 = .ok (.iload_n 2, 1) := dk_28 (dk_at dksX10_put_0 16 rfl rfl)
theorem dX10_put_17 : decode cX10_put 17 = .ok (.ishr, 1) := dk_122 (dk_at dksX10_put_0 17 rfl rfl)
theorem dX10_put_18 : decode cX10_put 18 = .ok (.i2b, 1) := dk_145 (dk_at dksX10_put_0 18 rfl rfl)
theorem dX10_put_19 : decode cX10_put 19 = .ok (.bastore, 1) := dk_84 (dk_at dksX10_put_0 19 rfl rfl)
theorem dX10_put_20 : decode cX10_put 20 = .ok (.aload_n 0, 1) := dk_42 (dk_at dksX10_put_0 20 rfl rfl)
theorem dX10_put_21 : decode cX10_put 21 = .ok (.dup, 1) := dk_89 (dk_at dksX10_put_0 21 rfl rfl)
theorem dX10_put_22 : decode cX10_put 22 = .ok (.getfield 166, 3) := dk_180 0 166 (dk_at dksX10_put_1 0 rfl rfl)
theorem dX10_put_25 : decode cX10_put 25 = .ok (.iconst 1, 1) := dk_4 (dk_at dksX10_put_1 3 rfl rfl)
theorem dX10_put_26 : decode cX10_put 26 = .ok (.iadd, 1) := dk_96 (dk_at dksX10_put_1 4 rfl rfl)
theorem dX10_put_27 : decode cX10_put 27 = .ok (.putfield 166, 3) := dk_181 0 166 (dk_at dksX10_put_1 5 rfl rfl)
theorem dX10_put_30 : decode cX10_put 30 = .ok (.iinc 2 (-8), 3) := dk_132 2 248 (dk_at dksX10_put_1 8 rfl rfl)
theorem dX10_put_33 : decode cX10_put 33 = .ok (.goto (-30), 3) := dk_167 255 226 (dk_at dksX10_put_1 11 rfl rfl)
theorem dX10_put_36 : decode cX10_put 36 = .ok (.return_, 1) := dk_177 (dk_at dksX10_put_1 14 rfl rfl)
abbrev cX10_back : ByteArray := prog_21_method_5_code
def yX10_back : MethodName := ⟨RX10, "back", "(I)I"⟩
def dkwX10_back_1 : List UInt8 := [42, 180, 0, 166, 172]
abbrev dktX10_back_1 : List UInt8 := dkwX10_back_1 ++ []
def dkwX10_back_0 : List UInt8 := [27, 155, 0, 11, 27, 42, 180, 0, 166, 164, 0, 5, 2, 172, 42, 89, 180, 0, 166, 27, 100, 181, 0, 166]
abbrev dktX10_back_0 : List UInt8 := dkwX10_back_0 ++ dktX10_back_1
theorem dksX10_back_0 : cX10_back.data.toList.drop 0 = dktX10_back_0 := by decide +kernel
theorem dksX10_back_1 : cX10_back.data.toList.drop 24 = dktX10_back_1 := dk_seg dksX10_back_0 24 rfl rfl
theorem dX10_back_0 : decode cX10_back 0 = .ok (.iload_n 1, 1) := dk_27 (dk_at dksX10_back_0 0 rfl rfl)
theorem dX10_back_1 : decode cX10_back 1 = .ok (.ifCond .lt 11, 3) := dk_155 0 11 (dk_at dksX10_back_0 1 rfl rfl)
theorem dX10_back_4 : decode cX10_back 4 = .ok (.iload_n 1, 1) := dk_27 (dk_at dksX10_back_0 4 rfl rfl)
theorem dX10_back_5 : decode cX10_back 5 = .ok (.aload_n 0, 1) := dk_42 (dk_at dksX10_back_0 5 rfl rfl)
theorem dX10_back_6 : decode cX10_back 6 = .ok (.getfield 166, 3) := dk_180 0 166 (dk_at dksX10_back_0 6 rfl rfl)
theorem dX10_back_9 : decode cX10_back 9 = .ok (.if_icmp .le 5, 3) := dk_164 0 5 (dk_at dksX10_back_0 9 rfl rfl)
theorem dX10_back_12 : decode cX10_back 12 = .ok (.iconst (-1), 1) := dk_2 (dk_at dksX10_back_0 12 rfl rfl)
theorem dX10_back_13 : decode cX10_back 13 = .ok (.ireturn, 1) := dk_172 (dk_at dksX10_back_0 13 rfl rfl)
theorem dX10_back_14 : decode cX10_back 14 = .ok (.aload_n 0, 1) := dk_42 (dk_at dksX10_back_0 14 rfl rfl)
theorem dX10_back_15 : decode cX10_back 15 = .ok (.dup, 1) := dk_89 (dk_at dksX10_back_0 15 rfl rfl)
theorem dX10_back_16 : decode cX10_back 16 = .ok (.getfield 166, 3) := dk_180 0 166 (dk_at dksX10_back_0 16 rfl rfl)
theorem dX10_back_19 : decode cX10_back 19 = .ok (.iload_n 1, 1) := dk_27 (dk_at dksX10_back_0 19 rfl rfl)
theorem dX10_back_20 : decode cX10_back 20 = .ok (.isub, 1) := dk_100 (dk_at dksX10_back_0 20 rfl rfl)
theorem dX10_back_21 : decode cX10_back 21 = .ok (.putfield 166, 3) := dk_181 0 166 (dk_at dksX10_back_0 21 rfl rfl)
theorem dX10_back_24 : decode cX10_back 24 = .ok (.aload_n 0, 1) := dk_42 (dk_at dksX10_back_1 0 rfl rfl)
theorem dX10_back_25 : decode cX10_back 25 = .ok (.getfield 166, 3) := dk_180 0 166 (dk_at dksX10_back_1 1 rfl rfl)
theorem dX10_back_28 : decode cX10_back 28 = .ok (.ireturn, 1) := dk_172 (dk_at dksX10_back_1 4 rfl rfl)
abbrev cX10_read : ByteArray := prog_21_method_20_code
def yX10_read : MethodName := ⟨RX10, "read", "()I"⟩
def dkwX10_read_10 : List UInt8 := [132, 1, 1, 167, 255, 241, 3, 172]
abbrev dktX10_read_10 : List UInt8 := dkwX10_read_10 ++ []
def dkwX10_read_9 : List UInt8 := [181, 0, 251, 42, 3, 181, 0, 254, 3, 60, 27, 6, 162, 0, 16, 42, 180, 0, 146, 27, 3, 84]
abbrev dktX10_read_9 : List UInt8 := dkwX10_read_9 ++ dktX10_read_10
def dkwX10_read_8 : List UInt8 := [180, 0, 212, 172, 42, 42, 180, 0, 236, 181, 0, 233, 42, 182, 0, 160, 42, 182, 0, 163, 42, 3]
abbrev dktX10_read_8 : List UInt8 := dkwX10_read_8 ++ dktX10_read_9
def dkwX10_read_7 : List UInt8 := [2, 181, 0, 37, 42, 180, 0, 203, 158, 0, 8, 42, 180, 0, 203, 172, 42, 180, 0, 212, 158, 0, 8, 42]
abbrev dktX10_read_7 : List UInt8 := dkwX10_read_7 ++ dktX10_read_8
def dkwX10_read_6 : List UInt8 := [158, 0, 10, 42, 180, 0, 209, 167, 0, 18, 42, 180, 0, 212, 158, 0, 10, 42, 180, 0, 215, 167, 0, 4]
abbrev dktX10_read_6 : List UInt8 := dkwX10_read_6 ++ dktX10_read_7
def dkwX10_read_5 : List UInt8 := [154, 0, 18, 42, 3, 182, 0, 221, 154, 0, 10, 42, 182, 0, 248, 167, 255, 237, 42, 42, 180, 0, 203]
abbrev dktX10_read_5 : List UInt8 := dkwX10_read_5 ++ dktX10_read_6
def dkwX10_read_4 : List UInt8 := [180, 0, 236, 104, 181, 0, 242, 42, 17, 1, 164, 42, 180, 0, 236, 104, 181, 0, 245, 42, 180, 0, 203]
abbrev dktX10_read_4 : List UInt8 := dkwX10_read_4 ++ dktX10_read_5
def dkwX10_read_3 : List UInt8 := [100, 181, 0, 236, 42, 3, 181, 0, 239, 42, 42, 180, 0, 236, 182, 0, 152, 42, 17, 0, 130, 42]
abbrev dktX10_read_3 : List UInt8 := dkwX10_read_3 ++ dktX10_read_4
def dkwX10_read_2 : List UInt8 := [181, 0, 206, 42, 3, 181, 0, 230, 42, 3, 181, 0, 203, 42, 3, 181, 0, 212, 42, 4, 42, 180, 0, 233]
abbrev dktX10_read_2 : List UInt8 := dkwX10_read_2 ++ dktX10_read_3
def dkwX10_read_1 : List UInt8 := [180, 0, 13, 27, 51, 84, 132, 1, 1, 167, 255, 233, 42, 3, 181, 0, 166, 42, 182, 0, 227, 42, 3]
abbrev dktX10_read_1 : List UInt8 := dkwX10_read_1 ++ dktX10_read_2
def dkwX10_read_0 : List UInt8 := [42, 42, 180, 0, 166, 181, 0, 172, 3, 60, 27, 42, 180, 0, 172, 162, 0, 21, 42, 180, 0, 17, 27, 42]
abbrev dktX10_read_0 : List UInt8 := dkwX10_read_0 ++ dktX10_read_1
theorem dksX10_read_0 : cX10_read.data.toList.drop 0 = dktX10_read_0 := by decide +kernel
theorem dksX10_read_1 : cX10_read.data.toList.drop 24 = dktX10_read_1 := dk_seg dksX10_read_0 24 rfl rfl
theorem dksX10_read_2 : cX10_read.data.toList.drop 47 = dktX10_read_2 := dk_seg dksX10_read_1 23 rfl rfl
theorem dksX10_read_3 : cX10_read.data.toList.drop 71 = dktX10_read_3 := dk_seg dksX10_read_2 24 rfl rfl
theorem dksX10_read_4 : cX10_read.data.toList.drop 93 = dktX10_read_4 := dk_seg dksX10_read_3 22 rfl rfl
theorem dksX10_read_5 : cX10_read.data.toList.drop 116 = dktX10_read_5 := dk_seg dksX10_read_4 23 rfl rfl
theorem dksX10_read_6 : cX10_read.data.toList.drop 139 = dktX10_read_6 := dk_seg dksX10_read_5 23 rfl rfl
theorem dksX10_read_7 : cX10_read.data.toList.drop 163 = dktX10_read_7 := dk_seg dksX10_read_6 24 rfl rfl
theorem dksX10_read_8 : cX10_read.data.toList.drop 187 = dktX10_read_8 := dk_seg dksX10_read_7 24 rfl rfl
theorem dksX10_read_9 : cX10_read.data.toList.drop 209 = dktX10_read_9 := dk_seg dksX10_read_8 22 rfl rfl
theorem dksX10_read_10 : cX10_read.data.toList.drop 231 = dktX10_read_10 := dk_seg dksX10_read_9 22 rfl rfl
theorem dX10_read_0 : decode cX10_read 0 = .ok (.aload_n 0, 1) := dk_42 (dk_at dksX10_read_0 0 rfl rfl)
theorem dX10_read_1 : decode cX10_read 1 = .ok (.aload_n 0, 1) := dk_42 (dk_at dksX10_read_0 1 rfl rfl)
theorem dX10_read_2 : decode cX10_read 2 = .ok (.getfield 166, 3) := dk_180 0 166 (dk_at dksX10_read_0 2 rfl rfl)
theorem dX10_read_5 : decode cX10_read 5 = .ok (.putfield 172, 3) := dk_181 0 172 (dk_at dksX10_read_0 5 rfl rfl)
theorem dX10_read_8 : decode cX10_read 8 = .ok (.iconst 0, 1) := dk_3 (dk_at dksX10_read_0 8 rfl rfl)
theorem dX10_read_9 : decode cX10_read 9 = .ok (.istore_n 1, 1) := dk_60 (dk_at dksX10_read_0 9 rfl rfl)
theorem dX10_read_10 : decode cX10_read 10 = .ok (.iload_n 1, 1) := dk_27 (dk_at dksX10_read_0 10 rfl rfl)
theorem dX10_read_11 : decode cX10_read 11 = .ok (.aload_n 0, 1) := dk_42 (dk_at dksX10_read_0 11 rfl rfl)
theorem dX10_read_12 : decode cX10_read 12 = .ok (.getfield 172, 3) := dk_180 0 172 (dk_at dksX10_read_0 12 rfl rfl)
theorem dX10_read_15 : decode cX10_read 15 = .ok (.if_icmp .ge 21, 3) := dk_162 0 21 (dk_at dksX10_read_0 15 rfl rfl)
theorem dX10_read_18 : decode cX10_read 18 = .ok (.aload_n 0, 1) := dk_42 (dk_at dksX10_read_0 18 rfl rfl)
theorem dX10_read_19 : decode cX10_read 19 = .ok (.getfield 17, 3) := dk_180 0 17 (dk_at dksX10_read_0 19 rfl rfl)
theorem dX10_read_22 : decode cX10_read 22 = .ok (.iload_n 1, 1) := dk_27 (dk_at dksX10_read_0 22 rfl rfl)
theorem dX10_read_23 : decode cX10_read 23 = .ok (.aload_n 0, 1) := dk_42 (dk_at dksX10_read_0 23 rfl rfl)
theorem dX10_read_24 : decode cX10_read 24 = .ok (.getfield 13, 3) := dk_180 0 13 (dk_at dksX10_read_1 0 rfl rfl)
theorem dX10_read_27 : decode cX10_read 27 = .ok (.iload_n 1, 1) := dk_27 (dk_at dksX10_read_1 3 rfl rfl)
theorem dX10_read_28 : decode cX10_read 28 = .ok (.baload, 1) := dk_51 (dk_at dksX10_read_1 4 rfl rfl)
theorem dX10_read_29 : decode cX10_read 29 = .ok (.bastore, 1) := dk_84 (dk_at dksX10_read_1 5 rfl rfl)
theorem dX10_read_30 : decode cX10_read 30 = .ok (.iinc 1 1, 3) := dk_132 1 1 (dk_at dksX10_read_1 6 rfl rfl)
theorem dX10_read_33 : decode cX10_read 33 = .ok (.goto (-23), 3) := dk_167 255 233 (dk_at dksX10_read_1 9 rfl rfl)
theorem dX10_read_36 : decode cX10_read 36 = .ok (.aload_n 0, 1) := dk_42 (dk_at dksX10_read_1 12 rfl rfl)
theorem dX10_read_37 : decode cX10_read 37 = .ok (.iconst 0, 1) := dk_3 (dk_at dksX10_read_1 13 rfl rfl)
theorem dX10_read_38 : decode cX10_read 38 = .ok (.putfield 166, 3) := dk_181 0 166 (dk_at dksX10_read_1 14 rfl rfl)
theorem dX10_read_41 : decode cX10_read 41 = .ok (.aload_n 0, 1) := dk_42 (dk_at dksX10_read_1 17 rfl rfl)
theorem dX10_read_42 : decode cX10_read 42 = .ok (.invokevirtual 227, 3) := dk_182 0 227 (dk_at dksX10_read_1 18 rfl rfl)
theorem dX10_read_45 : decode cX10_read 45 = .ok (.aload_n 0, 1) := dk_42 (dk_at dksX10_read_1 21 rfl rfl)
theorem dX10_read_46 : decode cX10_read 46 = .ok (.iconst 0, 1) := dk_3 (dk_at dksX10_read_1 22 rfl rfl)
theorem dX10_read_47 : decode cX10_read 47 = .ok (.putfield 206, 3) := dk_181 0 206 (dk_at dksX10_read_2 0 rfl rfl)
theorem dX10_read_50 : decode cX10_read 50 = .ok (.aload_n 0, 1) := dk_42 (dk_at dksX10_read_2 3 rfl rfl)
theorem dX10_read_51 : decode cX10_read 51 = .ok (.iconst 0, 1) := dk_3 (dk_at dksX10_read_2 4 rfl rfl)
theorem dX10_read_52 : decode cX10_read 52 = .ok (.putfield 230, 3) := dk_181 0 230 (dk_at dksX10_read_2 5 rfl rfl)
theorem dX10_read_55 : decode cX10_read 55 = .ok (.aload_n 0, 1) := dk_42 (dk_at dksX10_read_2 8 rfl rfl)
theorem dX10_read_56 : decode cX10_read 56 = .ok (.iconst 0, 1) := dk_3 (dk_at dksX10_read_2 9 rfl rfl)
theorem dX10_read_57 : decode cX10_read 57 = .ok (.putfield 203, 3) := dk_181 0 203 (dk_at dksX10_read_2 10 rfl rfl)
theorem dX10_read_60 : decode cX10_read 60 = .ok (.aload_n 0, 1) := dk_42 (dk_at dksX10_read_2 13 rfl rfl)
theorem dX10_read_61 : decode cX10_read 61 = .ok (.iconst 0, 1) := dk_3 (dk_at dksX10_read_2 14 rfl rfl)
theorem dX10_read_62 : decode cX10_read 62 = .ok (.putfield 212, 3) := dk_181 0 212 (dk_at dksX10_read_2 15 rfl rfl)
theorem dX10_read_65 : decode cX10_read 65 = .ok (.aload_n 0, 1) := dk_42 (dk_at dksX10_read_2 18 rfl rfl)
theorem dX10_read_66 : decode cX10_read 66 = .ok (.iconst 1, 1) := dk_4 (dk_at dksX10_read_2 19 rfl rfl)
theorem dX10_read_67 : decode cX10_read 67 = .ok (.aload_n 0, 1) := dk_42 (dk_at dksX10_read_2 20 rfl rfl)
theorem dX10_read_68 : decode cX10_read 68 = .ok (.getfield 233, 3) := dk_180 0 233 (dk_at dksX10_read_2 21 rfl rfl)
theorem dX10_read_71 : decode cX10_read 71 = .ok (.isub, 1) := dk_100 (dk_at dksX10_read_3 0 rfl rfl)
theorem dX10_read_72 : decode cX10_read 72 = .ok (.putfield 236, 3) := dk_181 0 236 (dk_at dksX10_read_3 1 rfl rfl)
theorem dX10_read_75 : decode cX10_read 75 = .ok (.aload_n 0, 1) := dk_42 (dk_at dksX10_read_3 4 rfl rfl)
theorem dX10_read_76 : decode cX10_read 76 = .ok (.iconst 0, 1) := dk_3 (dk_at dksX10_read_3 5 rfl rfl)
theorem dX10_read_77 : decode cX10_read 77 = .ok (.putfield 239, 3) := dk_181 0 239 (dk_at dksX10_read_3 6 rfl rfl)
theorem dX10_read_80 : decode cX10_read 80 = .ok (.aload_n 0, 1) := dk_42 (dk_at dksX10_read_3 9 rfl rfl)
theorem dX10_read_81 : decode cX10_read 81 = .ok (.aload_n 0, 1) := dk_42 (dk_at dksX10_read_3 10 rfl rfl)
theorem dX10_read_82 : decode cX10_read 82 = .ok (.getfield 236, 3) := dk_180 0 236 (dk_at dksX10_read_3 11 rfl rfl)
theorem dX10_read_85 : decode cX10_read 85 = .ok (.invokevirtual 152, 3) := dk_182 0 152 (dk_at dksX10_read_3 14 rfl rfl)
theorem dX10_read_88 : decode cX10_read 88 = .ok (.aload_n 0, 1) := dk_42 (dk_at dksX10_read_3 17 rfl rfl)
theorem dX10_read_89 : decode cX10_read 89 = .ok (.sipush 130, 3) := dk_17 0 130 (dk_at dksX10_read_3 18 rfl rfl)
theorem dX10_read_92 : decode cX10_read 92 = .ok (.aload_n 0, 1) := dk_42 (dk_at dksX10_read_3 21 rfl rfl)
theorem dX10_read_93 : decode cX10_read 93 = .ok (.getfield 236, 3) := dk_180 0 236 (dk_at dksX10_read_4 0 rfl rfl)
theorem dX10_read_96 : decode cX10_read 96 = .ok (.imul, 1) := dk_104 (dk_at dksX10_read_4 3 rfl rfl)
theorem dX10_read_97 : decode cX10_read 97 = .ok (.putfield 242, 3) := dk_181 0 242 (dk_at dksX10_read_4 4 rfl rfl)
theorem dX10_read_100 : decode cX10_read 100 = .ok (.aload_n 0, 1) := dk_42 (dk_at dksX10_read_4 7 rfl rfl)
theorem dX10_read_101 : decode cX10_read 101 = .ok (.sipush 420, 3) := dk_17 1 164 (dk_at dksX10_read_4 8 rfl rfl)
theorem dX10_read_104 : decode cX10_read 104 = .ok (.aload_n 0, 1) := dk_42 (dk_at dksX10_read_4 11 rfl rfl)
theorem dX10_read_105 : decode cX10_read 105 = .ok (.getfield 236, 3) := dk_180 0 236 (dk_at dksX10_read_4 12 rfl rfl)
theorem dX10_read_108 : decode cX10_read 108 = .ok (.imul, 1) := dk_104 (dk_at dksX10_read_4 15 rfl rfl)
theorem dX10_read_109 : decode cX10_read 109 = .ok (.putfield 245, 3) := dk_181 0 245 (dk_at dksX10_read_4 16 rfl rfl)
theorem dX10_read_112 : decode cX10_read 112 = .ok (.aload_n 0, 1) := dk_42 (dk_at dksX10_read_4 19 rfl rfl)
theorem dX10_read_113 : decode cX10_read 113 = .ok (.getfield 203, 3) := dk_180 0 203 (dk_at dksX10_read_4 20 rfl rfl)
theorem dX10_read_116 : decode cX10_read 116 = .ok (.ifCond .ne 18, 3) := dk_154 0 18 (dk_at dksX10_read_5 0 rfl rfl)
theorem dX10_read_119 : decode cX10_read 119 = .ok (.aload_n 0, 1) := dk_42 (dk_at dksX10_read_5 3 rfl rfl)
theorem dX10_read_120 : decode cX10_read 120 = .ok (.iconst 0, 1) := dk_3 (dk_at dksX10_read_5 4 rfl rfl)
theorem dX10_read_121 : decode cX10_read 121 = .ok (.invokevirtual 221, 3) := dk_182 0 221 (dk_at dksX10_read_5 5 rfl rfl)
theorem dX10_read_124 : decode cX10_read 124 = .ok (.ifCond .ne 10, 3) := dk_154 0 10 (dk_at dksX10_read_5 8 rfl rfl)
theorem dX10_read_127 : decode cX10_read 127 = .ok (.aload_n 0, 1) := dk_42 (dk_at dksX10_read_5 11 rfl rfl)
theorem dX10_read_128 : decode cX10_read 128 = .ok (.invokevirtual 248, 3) := dk_182 0 248 (dk_at dksX10_read_5 12 rfl rfl)
theorem dX10_read_131 : decode cX10_read 131 = .ok (.goto (-19), 3) := dk_167 255 237 (dk_at dksX10_read_5 15 rfl rfl)
theorem dX10_read_134 : decode cX10_read 134 = .ok (.aload_n 0, 1) := dk_42 (dk_at dksX10_read_5 18 rfl rfl)
theorem dX10_read_135 : decode cX10_read 135 = .ok (.aload_n 0, 1) := dk_42 (dk_at dksX10_read_5 19 rfl rfl)
theorem dX10_read_136 : decode cX10_read 136 = .ok (.getfield 203, 3) := dk_180 0 203 (dk_at dksX10_read_5 20 rfl rfl)
theorem dX10_read_139 : decode cX10_read 139 = .ok (.ifCond .le 10, 3) := dk_158 0 10 (dk_at dksX10_read_6 0 rfl rfl)
theorem dX10_read_142 : decode cX10_read 142 = .ok (.aload_n 0, 1) := dk_42 (dk_at dksX10_read_6 3 rfl rfl)
theorem dX10_read_143 : decode cX10_read 143 = .ok (.getfield 209, 3) := dk_180 0 209 (dk_at dksX10_read_6 4 rfl rfl)
theorem dX10_read_146 : decode cX10_read 146 = .ok (.goto 18, 3) := dk_167 0 18 (dk_at dksX10_read_6 7 rfl rfl)
theorem dX10_read_149 : decode cX10_read 149 = .ok (.aload_n 0, 1) := dk_42 (dk_at dksX10_read_6 10 rfl rfl)
theorem dX10_read_150 : decode cX10_read 150 = .ok (.getfield 212, 3) := dk_180 0 212 (dk_at dksX10_read_6 11 rfl rfl)
theorem dX10_read_153 : decode cX10_read 153 = .ok (.ifCond .le 10, 3) := dk_158 0 10 (dk_at dksX10_read_6 14 rfl rfl)
theorem dX10_read_156 : decode cX10_read 156 = .ok (.aload_n 0, 1) := dk_42 (dk_at dksX10_read_6 17 rfl rfl)
theorem dX10_read_157 : decode cX10_read 157 = .ok (.getfield 215, 3) := dk_180 0 215 (dk_at dksX10_read_6 18 rfl rfl)
theorem dX10_read_160 : decode cX10_read 160 = .ok (.goto 4, 3) := dk_167 0 4 (dk_at dksX10_read_6 21 rfl rfl)
theorem dX10_read_163 : decode cX10_read 163 = .ok (.iconst (-1), 1) := dk_2 (dk_at dksX10_read_7 0 rfl rfl)
theorem dX10_read_164 : decode cX10_read 164 = .ok (.putfield 37, 3) := dk_181 0 37 (dk_at dksX10_read_7 1 rfl rfl)
theorem dX10_read_167 : decode cX10_read 167 = .ok (.aload_n 0, 1) := dk_42 (dk_at dksX10_read_7 4 rfl rfl)
theorem dX10_read_168 : decode cX10_read 168 = .ok (.getfield 203, 3) := dk_180 0 203 (dk_at dksX10_read_7 5 rfl rfl)
theorem dX10_read_171 : decode cX10_read 171 = .ok (.ifCond .le 8, 3) := dk_158 0 8 (dk_at dksX10_read_7 8 rfl rfl)
theorem dX10_read_174 : decode cX10_read 174 = .ok (.aload_n 0, 1) := dk_42 (dk_at dksX10_read_7 11 rfl rfl)
theorem dX10_read_175 : decode cX10_read 175 = .ok (.getfield 203, 3) := dk_180 0 203 (dk_at dksX10_read_7 12 rfl rfl)
theorem dX10_read_178 : decode cX10_read 178 = .ok (.ireturn, 1) := dk_172 (dk_at dksX10_read_7 15 rfl rfl)
theorem dX10_read_179 : decode cX10_read 179 = .ok (.aload_n 0, 1) := dk_42 (dk_at dksX10_read_7 16 rfl rfl)
theorem dX10_read_180 : decode cX10_read 180 = .ok (.getfield 212, 3) := dk_180 0 212 (dk_at dksX10_read_7 17 rfl rfl)
theorem dX10_read_183 : decode cX10_read 183 = .ok (.ifCond .le 8, 3) := dk_158 0 8 (dk_at dksX10_read_7 20 rfl rfl)
theorem dX10_read_186 : decode cX10_read 186 = .ok (.aload_n 0, 1) := dk_42 (dk_at dksX10_read_7 23 rfl rfl)
theorem dX10_read_187 : decode cX10_read 187 = .ok (.getfield 212, 3) := dk_180 0 212 (dk_at dksX10_read_8 0 rfl rfl)
theorem dX10_read_190 : decode cX10_read 190 = .ok (.ireturn, 1) := dk_172 (dk_at dksX10_read_8 3 rfl rfl)
theorem dX10_read_191 : decode cX10_read 191 = .ok (.aload_n 0, 1) := dk_42 (dk_at dksX10_read_8 4 rfl rfl)
theorem dX10_read_192 : decode cX10_read 192 = .ok (.aload_n 0, 1) := dk_42 (dk_at dksX10_read_8 5 rfl rfl)
theorem dX10_read_193 : decode cX10_read 193 = .ok (.getfield 236, 3) := dk_180 0 236 (dk_at dksX10_read_8 6 rfl rfl)
theorem dX10_read_196 : decode cX10_read 196 = .ok (.putfield 233, 3) := dk_181 0 233 (dk_at dksX10_read_8 9 rfl rfl)
theorem dX10_read_199 : decode cX10_read 199 = .ok (.aload_n 0, 1) := dk_42 (dk_at dksX10_read_8 12 rfl rfl)
theorem dX10_read_200 : decode cX10_read 200 = .ok (.invokevirtual 160, 3) := dk_182 0 160 (dk_at dksX10_read_8 13 rfl rfl)
theorem dX10_read_203 : decode cX10_read 203 = .ok (.aload_n 0, 1) := dk_42 (dk_at dksX10_read_8 16 rfl rfl)
theorem dX10_read_204 : decode cX10_read 204 = .ok (.invokevirtual 163, 3) := dk_182 0 163 (dk_at dksX10_read_8 17 rfl rfl)
theorem dX10_read_207 : decode cX10_read 207 = .ok (.aload_n 0, 1) := dk_42 (dk_at dksX10_read_8 20 rfl rfl)
theorem dX10_read_208 : decode cX10_read 208 = .ok (.iconst 0, 1) := dk_3 (dk_at dksX10_read_8 21 rfl rfl)
theorem dX10_read_209 : decode cX10_read 209 = .ok (.putfield 251, 3) := dk_181 0 251 (dk_at dksX10_read_9 0 rfl rfl)
theorem dX10_read_212 : decode cX10_read 212 = .ok (.aload_n 0, 1) := dk_42 (dk_at dksX10_read_9 3 rfl rfl)
theorem dX10_read_213 : decode cX10_read 213 = .ok (.iconst 0, 1) := dk_3 (dk_at dksX10_read_9 4 rfl rfl)
theorem dX10_read_214 : decode cX10_read 214 = .ok (.putfield 254, 3) := dk_181 0 254 (dk_at dksX10_read_9 5 rfl rfl)
theorem dX10_read_217 : decode cX10_read 217 = .ok (.iconst 0, 1) := dk_3 (dk_at dksX10_read_9 8 rfl rfl)
theorem dX10_read_218 : decode cX10_read 218 = .ok (.istore_n 1, 1) := dk_60 (dk_at dksX10_read_9 9 rfl rfl)
theorem dX10_read_219 : decode cX10_read 219 = .ok (.iload_n 1, 1) := dk_27 (dk_at dksX10_read_9 10 rfl rfl)
theorem dX10_read_220 : decode cX10_read 220 = .ok (.iconst 3, 1) := dk_6 (dk_at dksX10_read_9 11 rfl rfl)
theorem dX10_read_221 : decode cX10_read 221 = .ok (.if_icmp .ge 16, 3) := dk_162 0 16 (dk_at dksX10_read_9 12 rfl rfl)
theorem dX10_read_224 : decode cX10_read 224 = .ok (.aload_n 0, 1) := dk_42 (dk_at dksX10_read_9 15 rfl rfl)
theorem dX10_read_225 : decode cX10_read 225 = .ok (.getfield 146, 3) := dk_180 0 146 (dk_at dksX10_read_9 16 rfl rfl)
theorem dX10_read_228 : decode cX10_read 228 = .ok (.iload_n 1, 1) := dk_27 (dk_at dksX10_read_9 19 rfl rfl)
theorem dX10_read_229 : decode cX10_read 229 = .ok (.iconst 0, 1) := dk_3 (dk_at dksX10_read_9 20 rfl rfl)
theorem dX10_read_230 : decode cX10_read 230 = .ok (.bastore, 1) := dk_84 (dk_at dksX10_read_9 21 rfl rfl)
theorem dX10_read_231 : decode cX10_read 231 = .ok (.iinc 1 1, 3) := dk_132 1 1 (dk_at dksX10_read_10 0 rfl rfl)
theorem dX10_read_234 : decode cX10_read 234 = .ok (.goto (-15), 3) := dk_167 255 241 (dk_at dksX10_read_10 3 rfl rfl)
theorem dX10_read_237 : decode cX10_read 237 = .ok (.iconst 0, 1) := dk_3 (dk_at dksX10_read_10 6 rfl rfl)
theorem dX10_read_238 : decode cX10_read 238 = .ok (.ireturn, 1) := dk_172 (dk_at dksX10_read_10 7 rfl rfl)
abbrev cX10_cut : ByteArray := prog_21_method_12_code
def yX10_cut : MethodName := ⟨RX10, "cut", "()V"⟩
def dkwX10_cut_12 : List UInt8 := [4, 96, 182, 0, 184, 182, 0, 199, 96, 60, 167, 254, 228, 177]
abbrev dktX10_cut_12 : List UInt8 := dkwX10_cut_12 ++ []
def dkwX10_cut_11 : List UInt8 := [167, 0, 4, 5, 27, 21, 4, 9, 182, 0, 188, 27, 29, 96, 60, 167, 0, 19, 27, 42, 27, 28, 42, 27]
abbrev dktX10_cut_11 : List UInt8 := dkwX10_cut_11 ++ dktX10_cut_12
def dkwX10_cut_10 : List UInt8 := [96, 182, 0, 184, 96, 16, 48, 100, 54, 4, 132, 3, 1, 167, 255, 217, 42, 29, 7, 164, 0, 7, 6]
abbrev dktX10_cut_10 : List UInt8 := dkwX10_cut_10 ++ dktX10_cut_11
def dkwX10_cut_9 : List UInt8 := [29, 96, 182, 0, 184, 184, 0, 196, 153, 0, 32, 29, 7, 162, 0, 21, 16, 10, 21, 4, 104, 42, 27, 29]
abbrev dktX10_cut_9 : List UInt8 := dkwX10_cut_9 ++ dktX10_cut_10
def dkwX10_cut_8 : List UInt8 := [182, 0, 188, 27, 29, 96, 60, 167, 0, 98, 28, 184, 0, 196, 153, 0, 75, 3, 62, 3, 54, 4, 42, 27]
abbrev dktX10_cut_8 : List UInt8 := dkwX10_cut_8 ++ dktX10_cut_9
def dkwX10_cut_7 : List UInt8 := [154, 0, 10, 16, 20, 21, 7, 96, 54, 6, 132, 7, 1, 167, 255, 226, 42, 21, 6, 27, 3, 22, 4]
abbrev dktX10_cut_7 : List UInt8 := dkwX10_cut_7 ++ dktX10_cut_8
def dkwX10_cut_6 : List UInt8 := [163, 0, 39, 3, 54, 7, 21, 7, 16, 21, 162, 0, 29, 42, 180, 0, 34, 21, 7, 47, 22, 4, 148]
abbrev dktX10_cut_6 : List UInt8 := dkwX10_cut_6 ++ dktX10_cut_7
def dkwX10_cut_5 : List UInt8 := [55, 4, 132, 3, 1, 167, 255, 220, 29, 16, 8, 164, 0, 7, 6, 167, 0, 4, 4, 54, 6, 29, 16, 8]
abbrev dktX10_cut_5 : List UInt8 := dkwX10_cut_5 ++ dktX10_cut_6
def dkwX10_cut_4 : List UInt8 := [184, 0, 192, 153, 0, 29, 29, 16, 8, 162, 0, 17, 22, 4, 42, 27, 29, 96, 182, 0, 184, 184, 0, 177]
abbrev dktX10_cut_4 : List UInt8 := dkwX10_cut_4 ++ dktX10_cut_5
def dkwX10_cut_3 : List UInt8 := [167, 0, 221, 28, 184, 0, 192, 153, 0, 119, 3, 62, 9, 55, 4, 42, 27, 29, 96, 182, 0, 184]
abbrev dktX10_cut_3 : List UInt8 := dkwX10_cut_3 ++ dktX10_cut_4
def dkwX10_cut_2 : List UInt8 := [159, 0, 21, 28, 16, 10, 159, 0, 15, 28, 16, 13, 159, 0, 9, 28, 16, 32, 160, 0, 9, 132, 1, 1]
abbrev dktX10_cut_2 : List UInt8 := dkwX10_cut_2 ++ dktX10_cut_3
def dkwX10_cut_1 : List UInt8 := [42, 180, 0, 172, 161, 0, 15, 42, 3, 42, 180, 0, 172, 3, 9, 182, 0, 188, 177, 28, 16, 9]
abbrev dktX10_cut_1 : List UInt8 := dkwX10_cut_1 ++ dktX10_cut_2
def dkwX10_cut_0 : List UInt8 := [42, 3, 181, 0, 181, 3, 60, 42, 180, 0, 181, 17, 1, 144, 163, 1, 24, 42, 27, 182, 0, 184, 61, 27]
abbrev dktX10_cut_0 : List UInt8 := dkwX10_cut_0 ++ dktX10_cut_1
theorem dksX10_cut_0 : cX10_cut.data.toList.drop 0 = dktX10_cut_0 := by decide +kernel
theorem dksX10_cut_1 : cX10_cut.data.toList.drop 24 = dktX10_cut_1 := dk_seg dksX10_cut_0 24 rfl rfl
theorem dksX10_cut_2 : cX10_cut.data.toList.drop 46 = dktX10_cut_2 := dk_seg dksX10_cut_1 22 rfl rfl
theorem dksX10_cut_3 : cX10_cut.data.toList.drop 70 = dktX10_cut_3 := dk_seg dksX10_cut_2 24 rfl rfl
theorem dksX10_cut_4 : cX10_cut.data.toList.drop 92 = dktX10_cut_4 := dk_seg dksX10_cut_3 22 rfl rfl
theorem dksX10_cut_5 : cX10_cut.data.toList.drop 116 = dktX10_cut_5 := dk_seg dksX10_cut_4 24 rfl rfl
theorem dksX10_cut_6 : cX10_cut.data.toList.drop 140 = dktX10_cut_6 := dk_seg dksX10_cut_5 24 rfl rfl
theorem dksX10_cut_7 : cX10_cut.data.toList.drop 163 = dktX10_cut_7 := dk_seg dksX10_cut_6 23 rfl rfl
theorem dksX10_cut_8 : cX10_cut.data.toList.drop 186 = dktX10_cut_8 := dk_seg dksX10_cut_7 23 rfl rfl
theorem dksX10_cut_9 : cX10_cut.data.toList.drop 210 = dktX10_cut_9 := dk_seg dksX10_cut_8 24 rfl rfl
theorem dksX10_cut_10 : cX10_cut.data.toList.drop 234 = dktX10_cut_10 := dk_seg dksX10_cut_9 24 rfl rfl
theorem dksX10_cut_11 : cX10_cut.data.toList.drop 257 = dktX10_cut_11 := dk_seg dksX10_cut_10 23 rfl rfl
theorem dksX10_cut_12 : cX10_cut.data.toList.drop 281 = dktX10_cut_12 := dk_seg dksX10_cut_11 24 rfl rfl
theorem dX10_cut_0 : decode cX10_cut 0 = .ok (.aload_n 0, 1) := dk_42 (dk_at dksX10_cut_0 0 rfl rfl)
theorem dX10_cut_1 : decode cX10_cut 1 = .ok (.iconst 0, 1) := dk_3 (dk_at dksX10_cut_0 1 rfl rfl)
theorem dX10_cut_2 : decode cX10_cut 2 = .ok (.putfield 181, 3) := dk_181 0 181 (dk_at dksX10_cut_0 2 rfl rfl)
theorem dX10_cut_5 : decode cX10_cut 5 = .ok (.iconst 0, 1) := dk_3 (dk_at dksX10_cut_0 5 rfl rfl)
theorem dX10_cut_6 : decode cX10_cut 6 = .ok (.istore_n 1, 1) := dk_60 (dk_at dksX10_cut_0 6 rfl rfl)
theorem dX10_cut_7 : decode cX10_cut 7 = .ok (.aload_n 0, 1) := dk_42 (dk_at dksX10_cut_0 7 rfl rfl)
theorem dX10_cut_8 : decode cX10_cut 8 = .ok (.getfield 181, 3) := dk_180 0 181 (dk_at dksX10_cut_0 8 rfl rfl)
theorem dX10_cut_11 : decode cX10_cut 11 = .ok (.sipush 400, 3) := dk_17 1 144 (dk_at dksX10_cut_0 11 rfl rfl)
theorem dX10_cut_14 : decode cX10_cut 14 = .ok (.if_icmp .gt 280, 3) := dk_163 1 24 (dk_at dksX10_cut_0 14 rfl rfl)
theorem dX10_cut_17 : decode cX10_cut 17 = .ok (.aload_n 0, 1) := dk_42 (dk_at dksX10_cut_0 17 rfl rfl)
theorem dX10_cut_18 : decode cX10_cut 18 = .ok (.iload_n 1, 1) := dk_27 (dk_at dksX10_cut_0 18 rfl rfl)
theorem dX10_cut_19 : decode cX10_cut 19 = .ok (.invokevirtual 184, 3) := dk_182 0 184 (dk_at dksX10_cut_0 19 rfl rfl)
theorem dX10_cut_22 : decode cX10_cut 22 = .ok (.istore_n 2, 1) := dk_61 (dk_at dksX10_cut_0 22 rfl rfl)
theorem dX10_cut_23 : decode cX10_cut 23 = .ok (.iload_n 1, 1) := dk_27 (dk_at dksX10_cut_0 23 rfl rfl)
theorem dX10_cut_24 : decode cX10_cut 24 = .ok (.aload_n 0, 1) := dk_42 (dk_at dksX10_cut_1 0 rfl rfl)
theorem dX10_cut_25 : decode cX10_cut 25 = .ok (.getfield 172, 3) := dk_180 0 172 (dk_at dksX10_cut_1 1 rfl rfl)
theorem dX10_cut_28 : decode cX10_cut 28 = .ok (.if_icmp .lt 15, 3) := dk_161 0 15 (dk_at dksX10_cut_1 4 rfl rfl)
theorem dX10_cut_31 : decode cX10_cut 31 = .ok (.aload_n 0, 1) := dk_42 (dk_at dksX10_cut_1 7 rfl rfl)
theorem dX10_cut_32 : decode cX10_cut 32 = .ok (.iconst 0, 1) := dk_3 (dk_at dksX10_cut_1 8 rfl rfl)
theorem dX10_cut_33 : decode cX10_cut 33 = .ok (.aload_n 0, 1) := dk_42 (dk_at dksX10_cut_1 9 rfl rfl)
theorem dX10_cut_34 : decode cX10_cut 34 = .ok (.getfield 172, 3) := dk_180 0 172 (dk_at dksX10_cut_1 10 rfl rfl)
theorem dX10_cut_37 : decode cX10_cut 37 = .ok (.iconst 0, 1) := dk_3 (dk_at dksX10_cut_1 13 rfl rfl)
theorem dX10_cut_38 : decode cX10_cut 38 = .ok (.lconst 0, 1) := dk_9 (dk_at dksX10_cut_1 14 rfl rfl)
theorem dX10_cut_39 : decode cX10_cut 39 = .ok (.invokevirtual 188, 3) := dk_182 0 188 (dk_at dksX10_cut_1 15 rfl rfl)
theorem dX10_cut_42 : decode cX10_cut 42 = .ok (.return_, 1) := dk_177 (dk_at dksX10_cut_1 18 rfl rfl)
theorem dX10_cut_43 : decode cX10_cut 43 = .ok (.iload_n 2, 1) := dk_28 (dk_at dksX10_cut_1 19 rfl rfl)
theorem dX10_cut_44 : decode cX10_cut 44 = .ok (.bipush 9, 2) := dk_16 9 (dk_at dksX10_cut_1 20 rfl rfl)
theorem dX10_cut_46 : decode cX10_cut 46 = .ok (.if_icmp .eq 21, 3) := dk_159 0 21 (dk_at dksX10_cut_2 0 rfl rfl)
theorem dX10_cut_49 : decode cX10_cut 49 = .ok (.iload_n 2, 1) := dk_28 (dk_at dksX10_cut_2 3 rfl rfl)
theorem dX10_cut_50 : decode cX10_cut 50 = .ok (.bipush 10, 2) := dk_16 10 (dk_at dksX10_cut_2 4 rfl rfl)
theorem dX10_cut_52 : decode cX10_cut 52 = .ok (.if_icmp .eq 15, 3) := dk_159 0 15 (dk_at dksX10_cut_2 6 rfl rfl)
theorem dX10_cut_55 : decode cX10_cut 55 = .ok (.iload_n 2, 1) := dk_28 (dk_at dksX10_cut_2 9 rfl rfl)
theorem dX10_cut_56 : decode cX10_cut 56 = .ok (.bipush 13, 2) := dk_16 13 (dk_at dksX10_cut_2 10 rfl rfl)
theorem dX10_cut_58 : decode cX10_cut 58 = .ok (.if_icmp .eq 9, 3) := dk_159 0 9 (dk_at dksX10_cut_2 12 rfl rfl)
theorem dX10_cut_61 : decode cX10_cut 61 = .ok (.iload_n 2, 1) := dk_28 (dk_at dksX10_cut_2 15 rfl rfl)
theorem dX10_cut_62 : decode cX10_cut 62 = .ok (.bipush 32, 2) := dk_16 32 (dk_at dksX10_cut_2 16 rfl rfl)
theorem dX10_cut_64 : decode cX10_cut 64 = .ok (.if_icmp .ne 9, 3) := dk_160 0 9 (dk_at dksX10_cut_2 18 rfl rfl)
theorem dX10_cut_67 : decode cX10_cut 67 = .ok (.iinc 1 1, 3) := dk_132 1 1 (dk_at dksX10_cut_2 21 rfl rfl)
theorem dX10_cut_70 : decode cX10_cut 70 = .ok (.goto 221, 3) := dk_167 0 221 (dk_at dksX10_cut_3 0 rfl rfl)
theorem dX10_cut_73 : decode cX10_cut 73 = .ok (.iload_n 2, 1) := dk_28 (dk_at dksX10_cut_3 3 rfl rfl)
theorem dX10_cut_74 : decode cX10_cut 74 = .ok (.invokestatic 192, 3) := dk_184 0 192 (dk_at dksX10_cut_3 4 rfl rfl)
theorem dX10_cut_77 : decode cX10_cut 77 = .ok (.ifCond .eq 119, 3) := dk_153 0 119 (dk_at dksX10_cut_3 7 rfl rfl)
theorem dX10_cut_80 : decode cX10_cut 80 = .ok (.iconst 0, 1) := dk_3 (dk_at dksX10_cut_3 10 rfl rfl)
theorem dX10_cut_81 : decode cX10_cut 81 = .ok (.istore_n 3, 1) := dk_62 (dk_at dksX10_cut_3 11 rfl rfl)
theorem dX10_cut_82 : decode cX10_cut 82 = .ok (.lconst 0, 1) := dk_9 (dk_at dksX10_cut_3 12 rfl rfl)
theorem dX10_cut_83 : decode cX10_cut 83 = .ok (.lstore 4, 2) := dk_55 4 (dk_at dksX10_cut_3 13 rfl rfl)
theorem dX10_cut_85 : decode cX10_cut 85 = .ok (.aload_n 0, 1) := dk_42 (dk_at dksX10_cut_3 15 rfl rfl)
theorem dX10_cut_86 : decode cX10_cut 86 = .ok (.iload_n 1, 1) := dk_27 (dk_at dksX10_cut_3 16 rfl rfl)
theorem dX10_cut_87 : decode cX10_cut 87 = .ok (.iload_n 3, 1) := dk_29 (dk_at dksX10_cut_3 17 rfl rfl)
theorem dX10_cut_88 : decode cX10_cut 88 = .ok (.iadd, 1) := dk_96 (dk_at dksX10_cut_3 18 rfl rfl)
theorem dX10_cut_89 : decode cX10_cut 89 = .ok (.invokevirtual 184, 3) := dk_182 0 184 (dk_at dksX10_cut_3 19 rfl rfl)
theorem dX10_cut_92 : decode cX10_cut 92 = .ok (.invokestatic 192, 3) := dk_184 0 192 (dk_at dksX10_cut_4 0 rfl rfl)
theorem dX10_cut_95 : decode cX10_cut 95 = .ok (.ifCond .eq 29, 3) := dk_153 0 29 (dk_at dksX10_cut_4 3 rfl rfl)
theorem dX10_cut_98 : decode cX10_cut 98 = .ok (.iload_n 3, 1) := dk_29 (dk_at dksX10_cut_4 6 rfl rfl)
theorem dX10_cut_99 : decode cX10_cut 99 = .ok (.bipush 8, 2) := dk_16 8 (dk_at dksX10_cut_4 7 rfl rfl)
theorem dX10_cut_101 : decode cX10_cut 101 = .ok (.if_icmp .ge 17, 3) := dk_162 0 17 (dk_at dksX10_cut_4 9 rfl rfl)
theorem dX10_cut_104 : decode cX10_cut 104 = .ok (.lload 4, 2) := dk_22 4 (dk_at dksX10_cut_4 12 rfl rfl)
theorem dX10_cut_106 : decode cX10_cut 106 = .ok (.aload_n 0, 1) := dk_42 (dk_at dksX10_cut_4 14 rfl rfl)
theorem dX10_cut_107 : decode cX10_cut 107 = .ok (.iload_n 1, 1) := dk_27 (dk_at dksX10_cut_4 15 rfl rfl)
theorem dX10_cut_108 : decode cX10_cut 108 = .ok (.iload_n 3, 1) := dk_29 (dk_at dksX10_cut_4 16 rfl rfl)
theorem dX10_cut_109 : decode cX10_cut 109 = .ok (.iadd, 1) := dk_96 (dk_at dksX10_cut_4 17 rfl rfl)
theorem dX10_cut_110 : decode cX10_cut 110 = .ok (.invokevirtual 184, 3) := dk_182 0 184 (dk_at dksX10_cut_4 18 rfl rfl)
theorem dX10_cut_113 : decode cX10_cut 113 = .ok (.invokestatic 177, 3) := dk_184 0 177 (dk_at dksX10_cut_4 21 rfl rfl)
theorem dX10_cut_116 : decode cX10_cut 116 = .ok (.lstore 4, 2) := dk_55 4 (dk_at dksX10_cut_5 0 rfl rfl)
theorem dX10_cut_118 : decode cX10_cut 118 = .ok (.iinc 3 1, 3) := dk_132 3 1 (dk_at dksX10_cut_5 2 rfl rfl)
theorem dX10_cut_121 : decode cX10_cut 121 = .ok (.goto (-36), 3) := dk_167 255 220 (dk_at dksX10_cut_5 5 rfl rfl)
theorem dX10_cut_124 : decode cX10_cut 124 = .ok (.iload_n 3, 1) := dk_29 (dk_at dksX10_cut_5 8 rfl rfl)
theorem dX10_cut_125 : decode cX10_cut 125 = .ok (.bipush 8, 2) := dk_16 8 (dk_at dksX10_cut_5 9 rfl rfl)
theorem dX10_cut_127 : decode cX10_cut 127 = .ok (.if_icmp .le 7, 3) := dk_164 0 7 (dk_at dksX10_cut_5 11 rfl rfl)
theorem dX10_cut_130 : decode cX10_cut 130 = .ok (.iconst 3, 1) := dk_6 (dk_at dksX10_cut_5 14 rfl rfl)
theorem dX10_cut_131 : decode cX10_cut 131 = .ok (.goto 4, 3) := dk_167 0 4 (dk_at dksX10_cut_5 15 rfl rfl)
theorem dX10_cut_134 : decode cX10_cut 134 = .ok (.iconst 1, 1) := dk_4 (dk_at dksX10_cut_5 18 rfl rfl)
theorem dX10_cut_135 : decode cX10_cut 135 = .ok (.istore 6, 2) := dk_54 6 (dk_at dksX10_cut_5 19 rfl rfl)
theorem dX10_cut_137 : decode cX10_cut 137 = .ok (.iload_n 3, 1) := dk_29 (dk_at dksX10_cut_5 21 rfl rfl)
theorem dX10_cut_138 : decode cX10_cut 138 = .ok (.bipush 8, 2) := dk_16 8 (dk_at dksX10_cut_5 22 rfl rfl)
theorem dX10_cut_140 : decode cX10_cut 140 = .ok (.if_icmp .gt 39, 3) := dk_163 0 39 (dk_at dksX10_cut_6 0 rfl rfl)
theorem dX10_cut_143 : decode cX10_cut 143 = .ok (.iconst 0, 1) := dk_3 (dk_at dksX10_cut_6 3 rfl rfl)
theorem dX10_cut_144 : decode cX10_cut 144 = .ok (.istore 7, 2) := dk_54 7 (dk_at dksX10_cut_6 4 rfl rfl)
theorem dX10_cut_146 : decode cX10_cut 146 = .ok (.iload 7, 2) := dk_21 7 (dk_at dksX10_cut_6 6 rfl rfl)
theorem dX10_cut_148 : decode cX10_cut 148 = .ok (.bipush 21, 2) := dk_16 21 (dk_at dksX10_cut_6 8 rfl rfl)
theorem dX10_cut_150 : decode cX10_cut 150 = .ok (.if_icmp .ge 29, 3) := dk_162 0 29 (dk_at dksX10_cut_6 10 rfl rfl)
theorem dX10_cut_153 : decode cX10_cut 153 = .ok (.aload_n 0, 1) := dk_42 (dk_at dksX10_cut_6 13 rfl rfl)
theorem dX10_cut_154 : decode cX10_cut 154 = .ok (.getfield 34, 3) := dk_180 0 34 (dk_at dksX10_cut_6 14 rfl rfl)
theorem dX10_cut_157 : decode cX10_cut 157 = .ok (.iload 7, 2) := dk_21 7 (dk_at dksX10_cut_6 17 rfl rfl)
theorem dX10_cut_159 : decode cX10_cut 159 = .ok (.laload, 1) := dk_47 (dk_at dksX10_cut_6 19 rfl rfl)
theorem dX10_cut_160 : decode cX10_cut 160 = .ok (.lload 4, 2) := dk_22 4 (dk_at dksX10_cut_6 20 rfl rfl)
theorem dX10_cut_162 : decode cX10_cut 162 = .ok (.lcmp, 1) := dk_148 (dk_at dksX10_cut_6 22 rfl rfl)
theorem dX10_cut_163 : decode cX10_cut 163 = .ok (.ifCond .ne 10, 3) := dk_154 0 10 (dk_at dksX10_cut_7 0 rfl rfl)
theorem dX10_cut_166 : decode cX10_cut 166 = .ok (.bipush 20, 2) := dk_16 20 (dk_at dksX10_cut_7 3 rfl rfl)
theorem dX10_cut_168 : decode cX10_cut 168 = .ok (.iload 7, 2) := dk_21 7 (dk_at dksX10_cut_7 5 rfl rfl)
theorem dX10_cut_170 : decode cX10_cut 170 = .ok (.iadd, 1) := dk_96 (dk_at dksX10_cut_7 7 rfl rfl)
theorem dX10_cut_171 : decode cX10_cut 171 = .ok (.istore 6, 2) := dk_54 6 (dk_at dksX10_cut_7 8 rfl rfl)
theorem dX10_cut_173 : decode cX10_cut 173 = .ok (.iinc 7 1, 3) := dk_132 7 1 (dk_at dksX10_cut_7 10 rfl rfl)
theorem dX10_cut_176 : decode cX10_cut 176 = .ok (.goto (-30), 3) := dk_167 255 226 (dk_at dksX10_cut_7 13 rfl rfl)
theorem dX10_cut_179 : decode cX10_cut 179 = .ok (.aload_n 0, 1) := dk_42 (dk_at dksX10_cut_7 16 rfl rfl)
theorem dX10_cut_180 : decode cX10_cut 180 = .ok (.iload 6, 2) := dk_21 6 (dk_at dksX10_cut_7 17 rfl rfl)
theorem dX10_cut_182 : decode cX10_cut 182 = .ok (.iload_n 1, 1) := dk_27 (dk_at dksX10_cut_7 19 rfl rfl)
theorem dX10_cut_183 : decode cX10_cut 183 = .ok (.iconst 0, 1) := dk_3 (dk_at dksX10_cut_7 20 rfl rfl)
theorem dX10_cut_184 : decode cX10_cut 184 = .ok (.lload 4, 2) := dk_22 4 (dk_at dksX10_cut_7 21 rfl rfl)
theorem dX10_cut_186 : decode cX10_cut 186 = .ok (.invokevirtual 188, 3) := dk_182 0 188 (dk_at dksX10_cut_8 0 rfl rfl)
theorem dX10_cut_189 : decode cX10_cut 189 = .ok (.iload_n 1, 1) := dk_27 (dk_at dksX10_cut_8 3 rfl rfl)
theorem dX10_cut_190 : decode cX10_cut 190 = .ok (.iload_n 3, 1) := dk_29 (dk_at dksX10_cut_8 4 rfl rfl)
theorem dX10_cut_191 : decode cX10_cut 191 = .ok (.iadd, 1) := dk_96 (dk_at dksX10_cut_8 5 rfl rfl)
theorem dX10_cut_192 : decode cX10_cut 192 = .ok (.istore_n 1, 1) := dk_60 (dk_at dksX10_cut_8 6 rfl rfl)
theorem dX10_cut_193 : decode cX10_cut 193 = .ok (.goto 98, 3) := dk_167 0 98 (dk_at dksX10_cut_8 7 rfl rfl)
theorem dX10_cut_196 : decode cX10_cut 196 = .ok (.iload_n 2, 1) := dk_28 (dk_at dksX10_cut_8 10 rfl rfl)
theorem dX10_cut_197 : decode cX10_cut 197 = .ok (.invokestatic 196, 3) := dk_184 0 196 (dk_at dksX10_cut_8 11 rfl rfl)
theorem dX10_cut_200 : decode cX10_cut 200 = .ok (.ifCond .eq 75, 3) := dk_153 0 75 (dk_at dksX10_cut_8 14 rfl rfl)
theorem dX10_cut_203 : decode cX10_cut 203 = .ok (.iconst 0, 1) := dk_3 (dk_at dksX10_cut_8 17 rfl rfl)
theorem dX10_cut_204 : decode cX10_cut 204 = .ok (.istore_n 3, 1) := dk_62 (dk_at dksX10_cut_8 18 rfl rfl)
theorem dX10_cut_205 : decode cX10_cut 205 = .ok (.iconst 0, 1) := dk_3 (dk_at dksX10_cut_8 19 rfl rfl)
theorem dX10_cut_206 : decode cX10_cut 206 = .ok (.istore 4, 2) := dk_54 4 (dk_at dksX10_cut_8 20 rfl rfl)
theorem dX10_cut_208 : decode cX10_cut 208 = .ok (.aload_n 0, 1) := dk_42 (dk_at dksX10_cut_8 22 rfl rfl)
theorem dX10_cut_209 : decode cX10_cut 209 = .ok (.iload_n 1, 1) := dk_27 (dk_at dksX10_cut_8 23 rfl rfl)
theorem dX10_cut_210 : decode cX10_cut 210 = .ok (.iload_n 3, 1) := dk_29 (dk_at dksX10_cut_9 0 rfl rfl)
theorem dX10_cut_211 : decode cX10_cut 211 = .ok (.iadd, 1) := dk_96 (dk_at dksX10_cut_9 1 rfl rfl)
theorem dX10_cut_212 : decode cX10_cut 212 = .ok (.invokevirtual 184, 3) := dk_182 0 184 (dk_at dksX10_cut_9 2 rfl rfl)
theorem dX10_cut_215 : decode cX10_cut 215 = .ok (.invokestatic 196, 3) := dk_184 0 196 (dk_at dksX10_cut_9 5 rfl rfl)
theorem dX10_cut_218 : decode cX10_cut 218 = .ok (.ifCond .eq 32, 3) := dk_153 0 32 (dk_at dksX10_cut_9 8 rfl rfl)
theorem dX10_cut_221 : decode cX10_cut 221 = .ok (.iload_n 3, 1) := dk_29 (dk_at dksX10_cut_9 11 rfl rfl)
theorem dX10_cut_222 : decode cX10_cut 222 = .ok (.iconst 4, 1) := dk_7 (dk_at dksX10_cut_9 12 rfl rfl)
theorem dX10_cut_223 : decode cX10_cut 223 = .ok (.if_icmp .ge 21, 3) := dk_162 0 21 (dk_at dksX10_cut_9 13 rfl rfl)
theorem dX10_cut_226 : decode cX10_cut 226 = .ok (.bipush 10, 2) := dk_16 10 (dk_at dksX10_cut_9 16 rfl rfl)
theorem dX10_cut_228 : decode cX10_cut 228 = .ok (.iload 4, 2) := dk_21 4 (dk_at dksX10_cut_9 18 rfl rfl)
theorem dX10_cut_230 : decode cX10_cut 230 = .ok (.imul, 1) := dk_104 (dk_at dksX10_cut_9 20 rfl rfl)
theorem dX10_cut_231 : decode cX10_cut 231 = .ok (.aload_n 0, 1) := dk_42 (dk_at dksX10_cut_9 21 rfl rfl)
theorem dX10_cut_232 : decode cX10_cut 232 = .ok (.iload_n 1, 1) := dk_27 (dk_at dksX10_cut_9 22 rfl rfl)
theorem dX10_cut_233 : decode cX10_cut 233 = .ok (.iload_n 3, 1) := dk_29 (dk_at dksX10_cut_9 23 rfl rfl)
theorem dX10_cut_234 : decode cX10_cut 234 = .ok (.iadd, 1) := dk_96 (dk_at dksX10_cut_10 0 rfl rfl)
theorem dX10_cut_235 : decode cX10_cut 235 = .ok (.invokevirtual 184, 3) := dk_182 0 184 (dk_at dksX10_cut_10 1 rfl rfl)
theorem dX10_cut_238 : decode cX10_cut 238 = .ok (.iadd, 1) := dk_96 (dk_at dksX10_cut_10 4 rfl rfl)
theorem dX10_cut_239 : decode cX10_cut 239 = .ok (.bipush 48, 2) := dk_16 48 (dk_at dksX10_cut_10 5 rfl rfl)
theorem dX10_cut_241 : decode cX10_cut 241 = .ok (.isub, 1) := dk_100 (dk_at dksX10_cut_10 7 rfl rfl)
theorem dX10_cut_242 : decode cX10_cut 242 = .ok (.istore 4, 2) := dk_54 4 (dk_at dksX10_cut_10 8 rfl rfl)
theorem dX10_cut_244 : decode cX10_cut 244 = .ok (.iinc 3 1, 3) := dk_132 3 1 (dk_at dksX10_cut_10 10 rfl rfl)
theorem dX10_cut_247 : decode cX10_cut 247 = .ok (.goto (-39), 3) := dk_167 255 217 (dk_at dksX10_cut_10 13 rfl rfl)
theorem dX10_cut_250 : decode cX10_cut 250 = .ok (.aload_n 0, 1) := dk_42 (dk_at dksX10_cut_10 16 rfl rfl)
theorem dX10_cut_251 : decode cX10_cut 251 = .ok (.iload_n 3, 1) := dk_29 (dk_at dksX10_cut_10 17 rfl rfl)
theorem dX10_cut_252 : decode cX10_cut 252 = .ok (.iconst 4, 1) := dk_7 (dk_at dksX10_cut_10 18 rfl rfl)
theorem dX10_cut_253 : decode cX10_cut 253 = .ok (.if_icmp .le 7, 3) := dk_164 0 7 (dk_at dksX10_cut_10 19 rfl rfl)
theorem dX10_cut_256 : decode cX10_cut 256 = .ok (.iconst 3, 1) := dk_6 (dk_at dksX10_cut_10 22 rfl rfl)
theorem dX10_cut_257 : decode cX10_cut 257 = .ok (.goto 4, 3) := dk_167 0 4 (dk_at dksX10_cut_11 0 rfl rfl)
theorem dX10_cut_260 : decode cX10_cut 260 = .ok (.iconst 2, 1) := dk_5 (dk_at dksX10_cut_11 3 rfl rfl)
theorem dX10_cut_261 : decode cX10_cut 261 = .ok (.iload_n 1, 1) := dk_27 (dk_at dksX10_cut_11 4 rfl rfl)
theorem dX10_cut_262 : decode cX10_cut 262 = .ok (.iload 4, 2) := dk_21 4 (dk_at dksX10_cut_11 5 rfl rfl)
theorem dX10_cut_264 : decode cX10_cut 264 = .ok (.lconst 0, 1) := dk_9 (dk_at dksX10_cut_11 7 rfl rfl)
theorem dX10_cut_265 : decode cX10_cut 265 = .ok (.invokevirtual 188, 3) := dk_182 0 188 (dk_at dksX10_cut_11 8 rfl rfl)
theorem dX10_cut_268 : decode cX10_cut 268 = .ok (.iload_n 1, 1) := dk_27 (dk_at dksX10_cut_11 11 rfl rfl)
theorem dX10_cut_269 : decode cX10_cut 269 = .ok (.iload_n 3, 1) := dk_29 (dk_at dksX10_cut_11 12 rfl rfl)
theorem dX10_cut_270 : decode cX10_cut 270 = .ok (.iadd, 1) := dk_96 (dk_at dksX10_cut_11 13 rfl rfl)
theorem dX10_cut_271 : decode cX10_cut 271 = .ok (.istore_n 1, 1) := dk_60 (dk_at dksX10_cut_11 14 rfl rfl)
theorem dX10_cut_272 : decode cX10_cut 272 = .ok (.goto 19, 3) := dk_167 0 19 (dk_at dksX10_cut_11 15 rfl rfl)
theorem dX10_cut_275 : decode cX10_cut 275 = .ok (.iload_n 1, 1) := dk_27 (dk_at dksX10_cut_11 18 rfl rfl)
theorem dX10_cut_276 : decode cX10_cut 276 = .ok (.aload_n 0, 1) := dk_42 (dk_at dksX10_cut_11 19 rfl rfl)
theorem dX10_cut_277 : decode cX10_cut 277 = .ok (.iload_n 1, 1) := dk_27 (dk_at dksX10_cut_11 20 rfl rfl)
theorem dX10_cut_278 : decode cX10_cut 278 = .ok (.iload_n 2, 1) := dk_28 (dk_at dksX10_cut_11 21 rfl rfl)
theorem dX10_cut_279 : decode cX10_cut 279 = .ok (.aload_n 0, 1) := dk_42 (dk_at dksX10_cut_11 22 rfl rfl)
theorem dX10_cut_280 : decode cX10_cut 280 = .ok (.iload_n 1, 1) := dk_27 (dk_at dksX10_cut_11 23 rfl rfl)
theorem dX10_cut_281 : decode cX10_cut 281 = .ok (.iconst 1, 1) := dk_4 (dk_at dksX10_cut_12 0 rfl rfl)
theorem dX10_cut_282 : decode cX10_cut 282 = .ok (.iadd, 1) := dk_96 (dk_at dksX10_cut_12 1 rfl rfl)
theorem dX10_cut_283 : decode cX10_cut 283 = .ok (.invokevirtual 184, 3) := dk_182 0 184 (dk_at dksX10_cut_12 2 rfl rfl)
theorem dX10_cut_286 : decode cX10_cut 286 = .ok (.invokevirtual 199, 3) := dk_182 0 199 (dk_at dksX10_cut_12 5 rfl rfl)
theorem dX10_cut_289 : decode cX10_cut 289 = .ok (.iadd, 1) := dk_96 (dk_at dksX10_cut_12 8 rfl rfl)
theorem dX10_cut_290 : decode cX10_cut 290 = .ok (.istore_n 1, 1) := dk_60 (dk_at dksX10_cut_12 9 rfl rfl)
theorem dX10_cut_291 : decode cX10_cut 291 = .ok (.goto (-284), 3) := dk_167 254 228 (dk_at dksX10_cut_12 10 rfl rfl)
theorem dX10_cut_294 : decode cX10_cut 294 = .ok (.return_, 1) := dk_177 (dk_at dksX10_cut_12 13 rfl rfl)
abbrev cX10_byteAt : ByteArray := prog_21_method_6_code
def yX10_byteAt : MethodName := ⟨RX10, "byteAt", "(I)I"⟩
def dkwX10_byteAt_0 : List UInt8 := [27, 42, 180, 0, 172, 162, 0, 16, 42, 180, 0, 17, 27, 51, 17, 0, 255, 126, 167, 0, 4, 3, 172]
abbrev dktX10_byteAt_0 : List UInt8 := dkwX10_byteAt_0 ++ []
theorem dksX10_byteAt_0 : cX10_byteAt.data.toList.drop 0 = dktX10_byteAt_0 := by decide +kernel
theorem dX10_byteAt_0 : decode cX10_byteAt 0 = .ok (.iload_n 1, 1) := dk_27 (dk_at dksX10_byteAt_0 0 rfl rfl)
theorem dX10_byteAt_1 : decode cX10_byteAt 1 = .ok (.aload_n 0, 1) := dk_42 (dk_at dksX10_byteAt_0 1 rfl rfl)
theorem dX10_byteAt_2 : decode cX10_byteAt 2 = .ok (.getfield 172, 3) := dk_180 0 172 (dk_at dksX10_byteAt_0 2 rfl rfl)
theorem dX10_byteAt_5 : decode cX10_byteAt 5 = .ok (.if_icmp .ge 16, 3) := dk_162 0 16 (dk_at dksX10_byteAt_0 5 rfl rfl)
theorem dX10_byteAt_8 : decode cX10_byteAt 8 = .ok (.aload_n 0, 1) := dk_42 (dk_at dksX10_byteAt_0 8 rfl rfl)
theorem dX10_byteAt_9 : decode cX10_byteAt 9 = .ok (.getfield 17, 3) := dk_180 0 17 (dk_at dksX10_byteAt_0 9 rfl rfl)
theorem dX10_byteAt_12 : decode cX10_byteAt 12 = .ok (.iload_n 1, 1) := dk_27 (dk_at dksX10_byteAt_0 12 rfl rfl)
theorem dX10_byteAt_13 : decode cX10_byteAt 13 = .ok (.baload, 1) := dk_51 (dk_at dksX10_byteAt_0 13 rfl rfl)
theorem dX10_byteAt_14 : decode cX10_byteAt 14 = .ok (.sipush 255, 3) := dk_17 0 255 (dk_at dksX10_byteAt_0 14 rfl rfl)
theorem dX10_byteAt_17 : decode cX10_byteAt 17 = .ok (.iand, 1) := dk_126 (dk_at dksX10_byteAt_0 17 rfl rfl)
theorem dX10_byteAt_18 : decode cX10_byteAt 18 = .ok (.goto 4, 3) := dk_167 0 4 (dk_at dksX10_byteAt_0 18 rfl rfl)
theorem dX10_byteAt_21 : decode cX10_byteAt 21 = .ok (.iconst 0, 1) := dk_3 (dk_at dksX10_byteAt_0 21 rfl rfl)
theorem dX10_byteAt_22 : decode cX10_byteAt 22 = .ok (.ireturn, 1) := dk_172 (dk_at dksX10_byteAt_0 22 rfl rfl)
abbrev cX10_token : ByteArray := prog_21_method_11_code
def yX10_token : MethodName := ⟨RX10, "token", "(IIIJ)V"⟩
def dkwX10_token_2 : List UInt8 := [181, 0, 181, 177]
abbrev dktX10_token_2 : List UInt8 := dkwX10_token_2 ++ []
def dkwX10_token_1 : List UInt8 := [42, 180, 0, 181, 29, 79, 42, 180, 0, 30, 42, 180, 0, 181, 22, 4, 80, 42, 89, 180, 0, 181, 4, 96]
abbrev dktX10_token_1 : List UInt8 := dkwX10_token_1 ++ dktX10_token_2
def dkwX10_token_0 : List UInt8 := [42, 180, 0, 20, 42, 180, 0, 181, 27, 79, 42, 180, 0, 24, 42, 180, 0, 181, 28, 79, 42, 180, 0, 27]
abbrev dktX10_token_0 : List UInt8 := dkwX10_token_0 ++ dktX10_token_1
theorem dksX10_token_0 : cX10_token.data.toList.drop 0 = dktX10_token_0 := by decide +kernel
theorem dksX10_token_1 : cX10_token.data.toList.drop 24 = dktX10_token_1 := dk_seg dksX10_token_0 24 rfl rfl
theorem dksX10_token_2 : cX10_token.data.toList.drop 48 = dktX10_token_2 := dk_seg dksX10_token_1 24 rfl rfl
theorem dX10_token_0 : decode cX10_token 0 = .ok (.aload_n 0, 1) := dk_42 (dk_at dksX10_token_0 0 rfl rfl)
theorem dX10_token_1 : decode cX10_token 1 = .ok (.getfield 20, 3) := dk_180 0 20 (dk_at dksX10_token_0 1 rfl rfl)
theorem dX10_token_4 : decode cX10_token 4 = .ok (.aload_n 0, 1) := dk_42 (dk_at dksX10_token_0 4 rfl rfl)
theorem dX10_token_5 : decode cX10_token 5 = .ok (.getfield 181, 3) := dk_180 0 181 (dk_at dksX10_token_0 5 rfl rfl)
theorem dX10_token_8 : decode cX10_token 8 = .ok (.iload_n 1, 1) := dk_27 (dk_at dksX10_token_0 8 rfl rfl)
theorem dX10_token_9 : decode cX10_token 9 = .ok (.iastore, 1) := dk_79 (dk_at dksX10_token_0 9 rfl rfl)
theorem dX10_token_10 : decode cX10_token 10 = .ok (.aload_n 0, 1) := dk_42 (dk_at dksX10_token_0 10 rfl rfl)
theorem dX10_token_11 : decode cX10_token 11 = .ok (.getfield 24, 3) := dk_180 0 24 (dk_at dksX10_token_0 11 rfl rfl)
theorem dX10_token_14 : decode cX10_token 14 = .ok (.aload_n 0, 1) := dk_42 (dk_at dksX10_token_0 14 rfl rfl)
theorem dX10_token_15 : decode cX10_token 15 = .ok (.getfield 181, 3) := dk_180 0 181 (dk_at dksX10_token_0 15 rfl rfl)
theorem dX10_token_18 : decode cX10_token 18 = .ok (.iload_n 2, 1) := dk_28 (dk_at dksX10_token_0 18 rfl rfl)
theorem dX10_token_19 : decode cX10_token 19 = .ok (.iastore, 1) := dk_79 (dk_at dksX10_token_0 19 rfl rfl)
theorem dX10_token_20 : decode cX10_token 20 = .ok (.aload_n 0, 1) := dk_42 (dk_at dksX10_token_0 20 rfl rfl)
theorem dX10_token_21 : decode cX10_token 21 = .ok (.getfield 27, 3) := dk_180 0 27 (dk_at dksX10_token_0 21 rfl rfl)
theorem dX10_token_24 : decode cX10_token 24 = .ok (.aload_n 0, 1) := dk_42 (dk_at dksX10_token_1 0 rfl rfl)
theorem dX10_token_25 : decode cX10_token 25 = .ok (.getfield 181, 3) := dk_180 0 181 (dk_at dksX10_token_1 1 rfl rfl)
theorem dX10_token_28 : decode cX10_token 28 = .ok (.iload_n 3, 1) := dk_29 (dk_at dksX10_token_1 4 rfl rfl)
theorem dX10_token_29 : decode cX10_token 29 = .ok (.iastore, 1) := dk_79 (dk_at dksX10_token_1 5 rfl rfl)
theorem dX10_token_30 : decode cX10_token 30 = .ok (.aload_n 0, 1) := dk_42 (dk_at dksX10_token_1 6 rfl rfl)
theorem dX10_token_31 : decode cX10_token 31 = .ok (.getfield 30, 3) := dk_180 0 30 (dk_at dksX10_token_1 7 rfl rfl)
theorem dX10_token_34 : decode cX10_token 34 = .ok (.aload_n 0, 1) := dk_42 (dk_at dksX10_token_1 10 rfl rfl)
theorem dX10_token_35 : decode cX10_token 35 = .ok (.getfield 181, 3) := dk_180 0 181 (dk_at dksX10_token_1 11 rfl rfl)
theorem dX10_token_38 : decode cX10_token 38 = .ok (.lload 4, 2) := dk_22 4 (dk_at dksX10_token_1 14 rfl rfl)
theorem dX10_token_40 : decode cX10_token 40 = .ok (.lastore, 1) := dk_80 (dk_at dksX10_token_1 16 rfl rfl)
theorem dX10_token_41 : decode cX10_token 41 = .ok (.aload_n 0, 1) := dk_42 (dk_at dksX10_token_1 17 rfl rfl)
theorem dX10_token_42 : decode cX10_token 42 = .ok (.dup, 1) := dk_89 (dk_at dksX10_token_1 18 rfl rfl)
theorem dX10_token_43 : decode cX10_token 43 = .ok (.getfield 181, 3) := dk_180 0 181 (dk_at dksX10_token_1 19 rfl rfl)
theorem dX10_token_46 : decode cX10_token 46 = .ok (.iconst 1, 1) := dk_4 (dk_at dksX10_token_1 22 rfl rfl)
theorem dX10_token_47 : decode cX10_token 47 = .ok (.iadd, 1) := dk_96 (dk_at dksX10_token_1 23 rfl rfl)
theorem dX10_token_48 : decode cX10_token 48 = .ok (.putfield 181, 3) := dk_181 0 181 (dk_at dksX10_token_2 0 rfl rfl)
theorem dX10_token_51 : decode cX10_token 51 = .ok (.return_, 1) := dk_177 (dk_at dksX10_token_2 3 rfl rfl)
abbrev cX10_isLetter : ByteArray := prog_21_method_8_code
def yX10_isLetter : MethodName := ⟨RX10, "isLetter", "(I)Z"⟩
def dkwX10_isLetter_0 : List UInt8 := [26, 16, 97, 161, 0, 13, 26, 16, 122, 163, 0, 7, 4, 167, 0, 4, 3, 172]
abbrev dktX10_isLetter_0 : List UInt8 := dkwX10_isLetter_0 ++ []
theorem dksX10_isLetter_0 : cX10_isLetter.data.toList.drop 0 = dktX10_isLetter_0 := by decide +kernel
theorem dX10_isLetter_0 : decode cX10_isLetter 0 = .ok (.iload_n 0, 1) := dk_26 (dk_at dksX10_isLetter_0 0 rfl rfl)
theorem dX10_isLetter_1 : decode cX10_isLetter 1 = .ok (.bipush 97, 2) := dk_16 97 (dk_at dksX10_isLetter_0 1 rfl rfl)
theorem dX10_isLetter_3 : decode cX10_isLetter 3 = .ok (.if_icmp .lt 13, 3) := dk_161 0 13 (dk_at dksX10_isLetter_0 3 rfl rfl)
theorem dX10_isLetter_6 : decode cX10_isLetter 6 = .ok (.iload_n 0, 1) := dk_26 (dk_at dksX10_isLetter_0 6 rfl rfl)
theorem dX10_isLetter_7 : decode cX10_isLetter 7 = .ok (.bipush 122, 2) := dk_16 122 (dk_at dksX10_isLetter_0 7 rfl rfl)
theorem dX10_isLetter_9 : decode cX10_isLetter 9 = .ok (.if_icmp .gt 7, 3) := dk_163 0 7 (dk_at dksX10_isLetter_0 9 rfl rfl)
theorem dX10_isLetter_12 : decode cX10_isLetter 12 = .ok (.iconst 1, 1) := dk_4 (dk_at dksX10_isLetter_0 12 rfl rfl)
theorem dX10_isLetter_13 : decode cX10_isLetter 13 = .ok (.goto 4, 3) := dk_167 0 4 (dk_at dksX10_isLetter_0 13 rfl rfl)
theorem dX10_isLetter_16 : decode cX10_isLetter 16 = .ok (.iconst 0, 1) := dk_3 (dk_at dksX10_isLetter_0 16 rfl rfl)
theorem dX10_isLetter_17 : decode cX10_isLetter 17 = .ok (.ireturn, 1) := dk_172 (dk_at dksX10_isLetter_0 17 rfl rfl)
abbrev cX10_isDigit : ByteArray := prog_21_method_7_code
def yX10_isDigit : MethodName := ⟨RX10, "isDigit", "(I)Z"⟩
def dkwX10_isDigit_0 : List UInt8 := [26, 16, 48, 161, 0, 13, 26, 16, 57, 163, 0, 7, 4, 167, 0, 4, 3, 172]
abbrev dktX10_isDigit_0 : List UInt8 := dkwX10_isDigit_0 ++ []
theorem dksX10_isDigit_0 : cX10_isDigit.data.toList.drop 0 = dktX10_isDigit_0 := by decide +kernel
theorem dX10_isDigit_0 : decode cX10_isDigit 0 = .ok (.iload_n 0, 1) := dk_26 (dk_at dksX10_isDigit_0 0 rfl rfl)
theorem dX10_isDigit_1 : decode cX10_isDigit 1 = .ok (.bipush 48, 2) := dk_16 48 (dk_at dksX10_isDigit_0 1 rfl rfl)
theorem dX10_isDigit_3 : decode cX10_isDigit 3 = .ok (.if_icmp .lt 13, 3) := dk_161 0 13 (dk_at dksX10_isDigit_0 3 rfl rfl)
theorem dX10_isDigit_6 : decode cX10_isDigit 6 = .ok (.iload_n 0, 1) := dk_26 (dk_at dksX10_isDigit_0 6 rfl rfl)
theorem dX10_isDigit_7 : decode cX10_isDigit 7 = .ok (.bipush 57, 2) := dk_16 57 (dk_at dksX10_isDigit_0 7 rfl rfl)
theorem dX10_isDigit_9 : decode cX10_isDigit 9 = .ok (.if_icmp .gt 7, 3) := dk_163 0 7 (dk_at dksX10_isDigit_0 9 rfl rfl)
theorem dX10_isDigit_12 : decode cX10_isDigit 12 = .ok (.iconst 1, 1) := dk_4 (dk_at dksX10_isDigit_0 12 rfl rfl)
theorem dX10_isDigit_13 : decode cX10_isDigit 13 = .ok (.goto 4, 3) := dk_167 0 4 (dk_at dksX10_isDigit_0 13 rfl rfl)
theorem dX10_isDigit_16 : decode cX10_isDigit 16 = .ok (.iconst 0, 1) := dk_3 (dk_at dksX10_isDigit_0 16 rfl rfl)
theorem dX10_isDigit_17 : decode cX10_isDigit 17 = .ok (.ireturn, 1) := dk_172 (dk_at dksX10_isDigit_0 17 rfl rfl)
abbrev cX10_sign : ByteArray := prog_21_method_13_code
def yX10_sign : MethodName := ⟨RX10, "sign", "(III)I"⟩
def dkwX10_sign_4 : List UInt8 := [16, 13, 54, 4, 42, 21, 4, 27, 3, 9, 182, 0, 188, 4, 172]
abbrev dktX10_sign_4 : List UInt8 := dkwX10_sign_4 ++ []
def dkwX10_sign_3 : List UInt8 := [160, 0, 7, 16, 10, 54, 4, 28, 16, 47, 160, 0, 7, 16, 15, 54, 4, 28, 16, 60, 160, 0, 7]
abbrev dktX10_sign_3 : List UInt8 := dkwX10_sign_3 ++ dktX10_sign_4
def dkwX10_sign_2 : List UInt8 := [16, 43, 160, 0, 7, 16, 8, 54, 4, 28, 16, 45, 160, 0, 7, 16, 9, 54, 4, 28, 16, 42]
abbrev dktX10_sign_2 : List UInt8 := dkwX10_sign_2 ++ dktX10_sign_3
def dkwX10_sign_1 : List UInt8 := [160, 0, 8, 16, 6, 167, 0, 15, 28, 16, 41, 160, 0, 8, 16, 7, 167, 0, 4, 6, 54, 4, 28]
abbrev dktX10_sign_1 : List UInt8 := dkwX10_sign_1 ++ dktX10_sign_2
def dkwX10_sign_0 : List UInt8 := [28, 16, 59, 160, 0, 7, 7, 167, 0, 36, 28, 16, 61, 160, 0, 7, 8, 167, 0, 26, 28, 16, 40]
abbrev dktX10_sign_0 : List UInt8 := dkwX10_sign_0 ++ dktX10_sign_1
theorem dksX10_sign_0 : cX10_sign.data.toList.drop 0 = dktX10_sign_0 := by decide +kernel
theorem dksX10_sign_1 : cX10_sign.data.toList.drop 23 = dktX10_sign_1 := dk_seg dksX10_sign_0 23 rfl rfl
theorem dksX10_sign_2 : cX10_sign.data.toList.drop 46 = dktX10_sign_2 := dk_seg dksX10_sign_1 23 rfl rfl
theorem dksX10_sign_3 : cX10_sign.data.toList.drop 68 = dktX10_sign_3 := dk_seg dksX10_sign_2 22 rfl rfl
theorem dksX10_sign_4 : cX10_sign.data.toList.drop 91 = dktX10_sign_4 := dk_seg dksX10_sign_3 23 rfl rfl
theorem dX10_sign_0 : decode cX10_sign 0 = .ok (.iload_n 2, 1) := dk_28 (dk_at dksX10_sign_0 0 rfl rfl)
theorem dX10_sign_1 : decode cX10_sign 1 = .ok (.bipush 59, 2) := dk_16 59 (dk_at dksX10_sign_0 1 rfl rfl)
theorem dX10_sign_3 : decode cX10_sign 3 = .ok (.if_icmp .ne 7, 3) := dk_160 0 7 (dk_at dksX10_sign_0 3 rfl rfl)
theorem dX10_sign_6 : decode cX10_sign 6 = .ok (.iconst 4, 1) := dk_7 (dk_at dksX10_sign_0 6 rfl rfl)
theorem dX10_sign_7 : decode cX10_sign 7 = .ok (.goto 36, 3) := dk_167 0 36 (dk_at dksX10_sign_0 7 rfl rfl)
theorem dX10_sign_10 : decode cX10_sign 10 = .ok (.iload_n 2, 1) := dk_28 (dk_at dksX10_sign_0 10 rfl rfl)
theorem dX10_sign_11 : decode cX10_sign 11 = .ok (.bipush 61, 2) := dk_16 61 (dk_at dksX10_sign_0 11 rfl rfl)
theorem dX10_sign_13 : decode cX10_sign 13 = .ok (.if_icmp .ne 7, 3) := dk_160 0 7 (dk_at dksX10_sign_0 13 rfl rfl)
theorem dX10_sign_16 : decode cX10_sign 16 = .ok (.iconst 5, 1) := dk_8 (dk_at dksX10_sign_0 16 rfl rfl)
theorem dX10_sign_17 : decode cX10_sign 17 = .ok (.goto 26, 3) := dk_167 0 26 (dk_at dksX10_sign_0 17 rfl rfl)
theorem dX10_sign_20 : decode cX10_sign 20 = .ok (.iload_n 2, 1) := dk_28 (dk_at dksX10_sign_0 20 rfl rfl)
theorem dX10_sign_21 : decode cX10_sign 21 = .ok (.bipush 40, 2) := dk_16 40 (dk_at dksX10_sign_0 21 rfl rfl)
theorem dX10_sign_23 : decode cX10_sign 23 = .ok (.if_icmp .ne 8, 3) := dk_160 0 8 (dk_at dksX10_sign_1 0 rfl rfl)
theorem dX10_sign_26 : decode cX10_sign 26 = .ok (.bipush 6, 2) := dk_16 6 (dk_at dksX10_sign_1 3 rfl rfl)
theorem dX10_sign_28 : decode cX10_sign 28 = .ok (.goto 15, 3) := dk_167 0 15 (dk_at dksX10_sign_1 5 rfl rfl)
theorem dX10_sign_31 : decode cX10_sign 31 = .ok (.iload_n 2, 1) := dk_28 (dk_at dksX10_sign_1 8 rfl rfl)
theorem dX10_sign_32 : decode cX10_sign 32 = .ok (.bipush 41, 2) := dk_16 41 (dk_at dksX10_sign_1 9 rfl rfl)
theorem dX10_sign_34 : decode cX10_sign 34 = .ok (.if_icmp .ne 8, 3) := dk_160 0 8 (dk_at dksX10_sign_1 11 rfl rfl)
theorem dX10_sign_37 : decode cX10_sign 37 = .ok (.bipush 7, 2) := dk_16 7 (dk_at dksX10_sign_1 14 rfl rfl)
theorem dX10_sign_39 : decode cX10_sign 39 = .ok (.goto 4, 3) := dk_167 0 4 (dk_at dksX10_sign_1 16 rfl rfl)
theorem dX10_sign_42 : decode cX10_sign 42 = .ok (.iconst 3, 1) := dk_6 (dk_at dksX10_sign_1 19 rfl rfl)
theorem dX10_sign_43 : decode cX10_sign 43 = .ok (.istore 4, 2) := dk_54 4 (dk_at dksX10_sign_1 20 rfl rfl)
theorem dX10_sign_45 : decode cX10_sign 45 = .ok (.iload_n 2, 1) := dk_28 (dk_at dksX10_sign_1 22 rfl rfl)
theorem dX10_sign_46 : decode cX10_sign 46 = .ok (.bipush 43, 2) := dk_16 43 (dk_at dksX10_sign_2 0 rfl rfl)
theorem dX10_sign_48 : decode cX10_sign 48 = .ok (.if_icmp .ne 7, 3) := dk_160 0 7 (dk_at dksX10_sign_2 2 rfl rfl)
theorem dX10_sign_51 : decode cX10_sign 51 = .ok (.bipush 8, 2) := dk_16 8 (dk_at dksX10_sign_2 5 rfl rfl)
theorem dX10_sign_53 : decode cX10_sign 53 = .ok (.istore 4, 2) := dk_54 4 (dk_at dksX10_sign_2 7 rfl rfl)
theorem dX10_sign_55 : decode cX10_sign 55 = .ok (.iload_n 2, 1) := dk_28 (dk_at dksX10_sign_2 9 rfl rfl)
theorem dX10_sign_56 : decode cX10_sign 56 = .ok (.bipush 45, 2) := dk_16 45 (dk_at dksX10_sign_2 10 rfl rfl)
theorem dX10_sign_58 : decode cX10_sign 58 = .ok (.if_icmp .ne 7, 3) := dk_160 0 7 (dk_at dksX10_sign_2 12 rfl rfl)
theorem dX10_sign_61 : decode cX10_sign 61 = .ok (.bipush 9, 2) := dk_16 9 (dk_at dksX10_sign_2 15 rfl rfl)
theorem dX10_sign_63 : decode cX10_sign 63 = .ok (.istore 4, 2) := dk_54 4 (dk_at dksX10_sign_2 17 rfl rfl)
theorem dX10_sign_65 : decode cX10_sign 65 = .ok (.iload_n 2, 1) := dk_28 (dk_at dksX10_sign_2 19 rfl rfl)
theorem dX10_sign_66 : decode cX10_sign 66 = .ok (.bipush 42, 2) := dk_16 42 (dk_at dksX10_sign_2 20 rfl rfl)
theorem dX10_sign_68 : decode cX10_sign 68 = .ok (.if_icmp .ne 7, 3) := dk_160 0 7 (dk_at dksX10_sign_3 0 rfl rfl)
theorem dX10_sign_71 : decode cX10_sign 71 = .ok (.bipush 10, 2) := dk_16 10 (dk_at dksX10_sign_3 3 rfl rfl)
theorem dX10_sign_73 : decode cX10_sign 73 = .ok (.istore 4, 2) := dk_54 4 (dk_at dksX10_sign_3 5 rfl rfl)
theorem dX10_sign_75 : decode cX10_sign 75 = .ok (.iload_n 2, 1) := dk_28 (dk_at dksX10_sign_3 7 rfl rfl)
theorem dX10_sign_76 : decode cX10_sign 76 = .ok (.bipush 47, 2) := dk_16 47 (dk_at dksX10_sign_3 8 rfl rfl)
theorem dX10_sign_78 : decode cX10_sign 78 = .ok (.if_icmp .ne 7, 3) := dk_160 0 7 (dk_at dksX10_sign_3 10 rfl rfl)
theorem dX10_sign_81 : decode cX10_sign 81 = .ok (.bipush 15, 2) := dk_16 15 (dk_at dksX10_sign_3 13 rfl rfl)
theorem dX10_sign_83 : decode cX10_sign 83 = .ok (.istore 4, 2) := dk_54 4 (dk_at dksX10_sign_3 15 rfl rfl)
theorem dX10_sign_85 : decode cX10_sign 85 = .ok (.iload_n 2, 1) := dk_28 (dk_at dksX10_sign_3 17 rfl rfl)
theorem dX10_sign_86 : decode cX10_sign 86 = .ok (.bipush 60, 2) := dk_16 60 (dk_at dksX10_sign_3 18 rfl rfl)
theorem dX10_sign_88 : decode cX10_sign 88 = .ok (.if_icmp .ne 7, 3) := dk_160 0 7 (dk_at dksX10_sign_3 20 rfl rfl)
theorem dX10_sign_91 : decode cX10_sign 91 = .ok (.bipush 13, 2) := dk_16 13 (dk_at dksX10_sign_4 0 rfl rfl)
theorem dX10_sign_93 : decode cX10_sign 93 = .ok (.istore 4, 2) := dk_54 4 (dk_at dksX10_sign_4 2 rfl rfl)
theorem dX10_sign_95 : decode cX10_sign 95 = .ok (.aload_n 0, 1) := dk_42 (dk_at dksX10_sign_4 4 rfl rfl)
theorem dX10_sign_96 : decode cX10_sign 96 = .ok (.iload 4, 2) := dk_21 4 (dk_at dksX10_sign_4 5 rfl rfl)
theorem dX10_sign_98 : decode cX10_sign 98 = .ok (.iload_n 1, 1) := dk_27 (dk_at dksX10_sign_4 7 rfl rfl)
theorem dX10_sign_99 : decode cX10_sign 99 = .ok (.iconst 0, 1) := dk_3 (dk_at dksX10_sign_4 8 rfl rfl)
theorem dX10_sign_100 : decode cX10_sign 100 = .ok (.lconst 0, 1) := dk_9 (dk_at dksX10_sign_4 9 rfl rfl)
theorem dX10_sign_101 : decode cX10_sign 101 = .ok (.invokevirtual 188, 3) := dk_182 0 188 (dk_at dksX10_sign_4 10 rfl rfl)
theorem dX10_sign_104 : decode cX10_sign 104 = .ok (.iconst 1, 1) := dk_4 (dk_at dksX10_sign_4 13 rfl rfl)
theorem dX10_sign_105 : decode cX10_sign 105 = .ok (.ireturn, 1) := dk_172 (dk_at dksX10_sign_4 14 rfl rfl)
abbrev cX10_is : ByteArray := prog_21_method_14_code
def yX10_is : MethodName := ⟨RX10, "is", "(I)Z"⟩
def dkwX10_is_1 : List UInt8 := [3, 172]
abbrev dktX10_is_1 : List UInt8 := dkwX10_is_1 ++ []
def dkwX10_is_0 : List UInt8 := [42, 180, 0, 203, 154, 0, 20, 42, 180, 0, 20, 42, 180, 0, 206, 46, 27, 160, 0, 7, 4, 167, 0, 4]
abbrev dktX10_is_0 : List UInt8 := dkwX10_is_0 ++ dktX10_is_1
theorem dksX10_is_0 : cX10_is.data.toList.drop 0 = dktX10_is_0 := by decide +kernel
theorem dksX10_is_1 : cX10_is.data.toList.drop 24 = dktX10_is_1 := dk_seg dksX10_is_0 24 rfl rfl
theorem dX10_is_0 : decode cX10_is 0 = .ok (.aload_n 0, 1) := dk_42 (dk_at dksX10_is_0 0 rfl rfl)
theorem dX10_is_1 : decode cX10_is 1 = .ok (.getfield 203, 3) := dk_180 0 203 (dk_at dksX10_is_0 1 rfl rfl)
theorem dX10_is_4 : decode cX10_is 4 = .ok (.ifCond .ne 20, 3) := dk_154 0 20 (dk_at dksX10_is_0 4 rfl rfl)
theorem dX10_is_7 : decode cX10_is 7 = .ok (.aload_n 0, 1) := dk_42 (dk_at dksX10_is_0 7 rfl rfl)
theorem dX10_is_8 : decode cX10_is 8 = .ok (.getfield 20, 3) := dk_180 0 20 (dk_at dksX10_is_0 8 rfl rfl)
theorem dX10_is_11 : decode cX10_is 11 = .ok (.aload_n 0, 1) := dk_42 (dk_at dksX10_is_0 11 rfl rfl)
theorem dX10_is_12 : decode cX10_is 12 = .ok (.getfield 206, 3) := dk_180 0 206 (dk_at dksX10_is_0 12 rfl rfl)
theorem dX10_is_15 : decode cX10_is 15 = .ok (.iaload, 1) := dk_46 (dk_at dksX10_is_0 15 rfl rfl)
theorem dX10_is_16 : decode cX10_is 16 = .ok (.iload_n 1, 1) := dk_27 (dk_at dksX10_is_0 16 rfl rfl)
theorem dX10_is_17 : decode cX10_is 17 = .ok (.if_icmp .ne 7, 3) := dk_160 0 7 (dk_at dksX10_is_0 17 rfl rfl)
theorem dX10_is_20 : decode cX10_is 20 = .ok (.iconst 1, 1) := dk_4 (dk_at dksX10_is_0 20 rfl rfl)
theorem dX10_is_21 : decode cX10_is 21 = .ok (.goto 4, 3) := dk_167 0 4 (dk_at dksX10_is_0 21 rfl rfl)
theorem dX10_is_24 : decode cX10_is 24 = .ok (.iconst 0, 1) := dk_3 (dk_at dksX10_is_1 0 rfl rfl)
theorem dX10_is_25 : decode cX10_is 25 = .ok (.ireturn, 1) := dk_172 (dk_at dksX10_is_1 1 rfl rfl)
abbrev cX10_tellOne : ByteArray := prog_21_method_24_code
def yX10_tellOne : MethodName := ⟨RX10, "tellOne", "()V"⟩
def dkwX10_tellOne_17 : List UInt8 := [158, 0, 4, 177, 42, 182, 0, 224, 42, 27, 182, 1, 25, 177]
abbrev dktX10_tellOne_17 : List UInt8 := dkwX10_tellOne_17 ++ []
def dkwX10_tellOne_16 : List UInt8 := [42, 180, 0, 20, 42, 180, 0, 206, 46, 16, 25, 164, 0, 8, 42, 4, 182, 0, 218, 42, 180, 0, 203]
abbrev dktX10_tellOne_16 : List UInt8 := dkwX10_tellOne_16 ++ dktX10_tellOne_17
def dkwX10_tellOne_15 : List UInt8 := [182, 1, 22, 79, 167, 0, 56, 42, 180, 0, 20, 42, 180, 0, 206, 46, 16, 23, 100, 60, 27, 155, 0, 17]
abbrev dktX10_tellOne_15 : List UInt8 := dkwX10_tellOne_15 ++ dktX10_tellOne_16
def dkwX10_tellOne_14 : List UInt8 := [17, 1, 140, 182, 1, 22, 79, 167, 0, 76, 42, 180, 0, 79, 42, 180, 0, 236, 42, 3, 17, 39, 15]
abbrev dktX10_tellOne_14 : List UInt8 := dkwX10_tellOne_14 ++ dktX10_tellOne_15
def dkwX10_tellOne_13 : List UInt8 := [180, 0, 236, 42, 3, 16, 100, 182, 1, 22, 79, 167, 0, 96, 42, 180, 0, 76, 42, 180, 0, 236, 42, 3]
abbrev dktX10_tellOne_13 : List UInt8 := dkwX10_tellOne_13 ++ dktX10_tellOne_14
def dkwX10_tellOne_12 : List UInt8 := [182, 1, 8, 42, 180, 0, 203, 154, 0, 122, 42, 182, 1, 19, 167, 0, 115, 42, 180, 0, 73, 42]
abbrev dktX10_tellOne_12 : List UInt8 := dkwX10_tellOne_12 ++ dktX10_tellOne_13
def dkwX10_tellOne_11 : List UInt8 := [180, 0, 236, 92, 46, 4, 96, 79, 167, 0, 144, 42, 42, 180, 0, 58, 42, 180, 0, 236, 46, 16, 10]
abbrev dktX10_tellOne_11 : List UInt8 := dkwX10_tellOne_11 ++ dktX10_tellOne_12
def dkwX10_tellOne_10 : List UInt8 := [180, 0, 52, 42, 180, 0, 236, 46, 96, 182, 1, 16, 42, 180, 0, 203, 154, 0, 160, 42, 180, 0, 52, 42]
abbrev dktX10_tellOne_10 : List UInt8 := dkwX10_tellOne_10 ++ dktX10_tellOne_11
def dkwX10_tellOne_9 : List UInt8 := [46, 104, 96, 28, 96, 42, 3, 16, 99, 182, 1, 1, 79, 132, 2, 1, 167, 255, 215, 42, 27, 16, 10, 42]
abbrev dktX10_tellOne_9 : List UInt8 := dkwX10_tellOne_9 ++ dktX10_tellOne_10
def dkwX10_tellOne_8 : List UInt8 := [7, 162, 0, 42, 42, 180, 0, 55, 16, 20, 42, 180, 0, 236, 104, 7, 42, 180, 0, 52, 42, 180, 0, 236]
abbrev dktX10_tellOne_8 : List UInt8 := dkwX10_tellOne_8 ++ dktX10_tellOne_9
def dkwX10_tellOne_7 : List UInt8 := [180, 0, 236, 46, 8, 182, 1, 8, 42, 180, 0, 203, 158, 0, 4, 177, 42, 182, 1, 12, 60, 3, 61, 28]
abbrev dktX10_tellOne_7 : List UInt8 := dkwX10_tellOne_7 ++ dktX10_tellOne_8
def dkwX10_tellOne_6 : List UInt8 := [42, 180, 0, 46, 42, 180, 0, 236, 92, 46, 4, 96, 79, 167, 1, 1, 42, 42, 180, 0, 52, 42]
abbrev dktX10_tellOne_6 : List UInt8 := dkwX10_tellOne_6 ++ dktX10_tellOne_7
def dkwX10_tellOne_5 : List UInt8 := [167, 255, 215, 42, 27, 42, 180, 0, 46, 42, 180, 0, 236, 46, 182, 1, 16, 42, 180, 0, 203, 154, 1, 17]
abbrev dktX10_tellOne_5 : List UInt8 := dkwX10_tellOne_5 ++ dktX10_tellOne_6
def dkwX10_tellOne_4 : List UInt8 := [180, 0, 46, 42, 180, 0, 236, 46, 104, 96, 28, 96, 42, 3, 16, 99, 182, 1, 1, 79, 132, 2, 1]
abbrev dktX10_tellOne_4 : List UInt8 := dkwX10_tellOne_4 ++ dktX10_tellOne_5
def dkwX10_tellOne_3 : List UInt8 := [182, 1, 12, 60, 3, 61, 28, 7, 162, 0, 42, 42, 180, 0, 49, 16, 24, 42, 180, 0, 236, 104, 7, 42]
abbrev dktX10_tellOne_3 : List UInt8 := dkwX10_tellOne_3 ++ dktX10_tellOne_4
def dkwX10_tellOne_2 : List UInt8 := [42, 42, 180, 0, 46, 42, 180, 0, 236, 46, 16, 6, 182, 1, 8, 42, 180, 0, 203, 158, 0, 4, 177, 42]
abbrev dktX10_tellOne_2 : List UInt8 := dkwX10_tellOne_2 ++ dktX10_tellOne_3
def dkwX10_tellOne_1 : List UInt8 := [170, 0, 0, 0, 0, 1, 107, 0, 0, 0, 20, 0, 0, 0, 28, 0, 0, 0, 51, 0, 0, 0, 162, 0, 0, 1, 19, 0, 0, 1, 107, 0, 0, 1, 107, 0, 0, 1, 107, 0, 0, 1, 48, 0, 0, 1, 67, 0, 0, 1, 87]
abbrev dktX10_tellOne_1 : List UInt8 := dkwX10_tellOne_1 ++ dktX10_tellOne_2
def dkwX10_tellOne_0 : List UInt8 := [42, 180, 0, 20, 42, 180, 0, 206, 46]
abbrev dktX10_tellOne_0 : List UInt8 := dkwX10_tellOne_0 ++ dktX10_tellOne_1
theorem dksX10_tellOne_0 : cX10_tellOne.data.toList.drop 0 = dktX10_tellOne_0 := by decide +kernel
theorem dksX10_tellOne_1 : cX10_tellOne.data.toList.drop 9 = dktX10_tellOne_1 := dk_seg dksX10_tellOne_0 9 rfl rfl
theorem dksX10_tellOne_2 : cX10_tellOne.data.toList.drop 60 = dktX10_tellOne_2 := dk_seg dksX10_tellOne_1 51 rfl rfl
theorem dksX10_tellOne_3 : cX10_tellOne.data.toList.drop 84 = dktX10_tellOne_3 := dk_seg dksX10_tellOne_2 24 rfl rfl
theorem dksX10_tellOne_4 : cX10_tellOne.data.toList.drop 108 = dktX10_tellOne_4 := dk_seg dksX10_tellOne_3 24 rfl rfl
theorem dksX10_tellOne_5 : cX10_tellOne.data.toList.drop 131 = dktX10_tellOne_5 := dk_seg dksX10_tellOne_4 23 rfl rfl
theorem dksX10_tellOne_6 : cX10_tellOne.data.toList.drop 155 = dktX10_tellOne_6 := dk_seg dksX10_tellOne_5 24 rfl rfl
theorem dksX10_tellOne_7 : cX10_tellOne.data.toList.drop 177 = dktX10_tellOne_7 := dk_seg dksX10_tellOne_6 22 rfl rfl
theorem dksX10_tellOne_8 : cX10_tellOne.data.toList.drop 201 = dktX10_tellOne_8 := dk_seg dksX10_tellOne_7 24 rfl rfl
theorem dksX10_tellOne_9 : cX10_tellOne.data.toList.drop 225 = dktX10_tellOne_9 := dk_seg dksX10_tellOne_8 24 rfl rfl
theorem dksX10_tellOne_10 : cX10_tellOne.data.toList.drop 249 = dktX10_tellOne_10 := dk_seg dksX10_tellOne_9 24 rfl rfl
theorem dksX10_tellOne_11 : cX10_tellOne.data.toList.drop 273 = dktX10_tellOne_11 := dk_seg dksX10_tellOne_10 24 rfl rfl
theorem dksX10_tellOne_12 : cX10_tellOne.data.toList.drop 296 = dktX10_tellOne_12 := dk_seg dksX10_tellOne_11 23 rfl rfl
theorem dksX10_tellOne_13 : cX10_tellOne.data.toList.drop 318 = dktX10_tellOne_13 := dk_seg dksX10_tellOne_12 22 rfl rfl
theorem dksX10_tellOne_14 : cX10_tellOne.data.toList.drop 342 = dktX10_tellOne_14 := dk_seg dksX10_tellOne_13 24 rfl rfl
theorem dksX10_tellOne_15 : cX10_tellOne.data.toList.drop 365 = dktX10_tellOne_15 := dk_seg dksX10_tellOne_14 23 rfl rfl
theorem dksX10_tellOne_16 : cX10_tellOne.data.toList.drop 389 = dktX10_tellOne_16 := dk_seg dksX10_tellOne_15 24 rfl rfl
theorem dksX10_tellOne_17 : cX10_tellOne.data.toList.drop 412 = dktX10_tellOne_17 := dk_seg dksX10_tellOne_16 23 rfl rfl
theorem dX10_tellOne_0 : decode cX10_tellOne 0 = .ok (.aload_n 0, 1) := dk_42 (dk_at dksX10_tellOne_0 0 rfl rfl)
theorem dX10_tellOne_1 : decode cX10_tellOne 1 = .ok (.getfield 20, 3) := dk_180 0 20 (dk_at dksX10_tellOne_0 1 rfl rfl)
theorem dX10_tellOne_4 : decode cX10_tellOne 4 = .ok (.aload_n 0, 1) := dk_42 (dk_at dksX10_tellOne_0 4 rfl rfl)
theorem dX10_tellOne_5 : decode cX10_tellOne 5 = .ok (.getfield 206, 3) := dk_180 0 206 (dk_at dksX10_tellOne_0 5 rfl rfl)
theorem dX10_tellOne_8 : decode cX10_tellOne 8 = .ok (.iaload, 1) := dk_46 (dk_at dksX10_tellOne_0 8 rfl rfl)
theorem dX10_tellOne_9 : decode cX10_tellOne 9 = .ok (.tableswitch 363 20 28 #[51, 162, 275, 363, 363, 363, 304, 323, 343], 51) := by decide +kernel
theorem dX10_tellOne_60 : decode cX10_tellOne 60 = .ok (.aload_n 0, 1) := dk_42 (dk_at dksX10_tellOne_2 0 rfl rfl)
theorem dX10_tellOne_61 : decode cX10_tellOne 61 = .ok (.aload_n 0, 1) := dk_42 (dk_at dksX10_tellOne_2 1 rfl rfl)
theorem dX10_tellOne_62 : decode cX10_tellOne 62 = .ok (.getfield 46, 3) := dk_180 0 46 (dk_at dksX10_tellOne_2 2 rfl rfl)
theorem dX10_tellOne_65 : decode cX10_tellOne 65 = .ok (.aload_n 0, 1) := dk_42 (dk_at dksX10_tellOne_2 5 rfl rfl)
theorem dX10_tellOne_66 : decode cX10_tellOne 66 = .ok (.getfield 236, 3) := dk_180 0 236 (dk_at dksX10_tellOne_2 6 rfl rfl)
theorem dX10_tellOne_69 : decode cX10_tellOne 69 = .ok (.iaload, 1) := dk_46 (dk_at dksX10_tellOne_2 9 rfl rfl)
theorem dX10_tellOne_70 : decode cX10_tellOne 70 = .ok (.bipush 6, 2) := dk_16 6 (dk_at dksX10_tellOne_2 10 rfl rfl)
theorem dX10_tellOne_72 : decode cX10_tellOne 72 = .ok (.invokevirtual 264, 3) := dk_182 1 8 (dk_at dksX10_tellOne_2 12 rfl rfl)
theorem dX10_tellOne_75 : decode cX10_tellOne 75 = .ok (.aload_n 0, 1) := dk_42 (dk_at dksX10_tellOne_2 15 rfl rfl)
theorem dX10_tellOne_76 : decode cX10_tellOne 76 = .ok (.getfield 203, 3) := dk_180 0 203 (dk_at dksX10_tellOne_2 16 rfl rfl)
theorem dX10_tellOne_79 : decode cX10_tellOne 79 = .ok (.ifCond .le 4, 3) := dk_158 0 4 (dk_at dksX10_tellOne_2 19 rfl rfl)
theorem dX10_tellOne_82 : decode cX10_tellOne 82 = .ok (.return_, 1) := dk_177 (dk_at dksX10_tellOne_2 22 rfl rfl)
theorem dX10_tellOne_83 : decode cX10_tellOne 83 = .ok (.aload_n 0, 1) := dk_42 (dk_at dksX10_tellOne_2 23 rfl rfl)
theorem dX10_tellOne_84 : decode cX10_tellOne 84 = .ok (.invokevirtual 268, 3) := dk_182 1 12 (dk_at dksX10_tellOne_3 0 rfl rfl)
theorem dX10_tellOne_87 : decode cX10_tellOne 87 = .ok (.istore_n 1, 1) := dk_60 (dk_at dksX10_tellOne_3 3 rfl rfl)
theorem dX10_tellOne_88 : decode cX10_tellOne 88 = .ok (.iconst 0, 1) := dk_3 (dk_at dksX10_tellOne_3 4 rfl rfl)
theorem dX10_tellOne_89 : decode cX10_tellOne 89 = .ok (.istore_n 2, 1) := dk_61 (dk_at dksX10_tellOne_3 5 rfl rfl)
theorem dX10_tellOne_90 : decode cX10_tellOne 90 = .ok (.iload_n 2, 1) := dk_28 (dk_at dksX10_tellOne_3 6 rfl rfl)
theorem dX10_tellOne_91 : decode cX10_tellOne 91 = .ok (.iconst 4, 1) := dk_7 (dk_at dksX10_tellOne_3 7 rfl rfl)
theorem dX10_tellOne_92 : decode cX10_tellOne 92 = .ok (.if_icmp .ge 42, 3) := dk_162 0 42 (dk_at dksX10_tellOne_3 8 rfl rfl)
theorem dX10_tellOne_95 : decode cX10_tellOne 95 = .ok (.aload_n 0, 1) := dk_42 (dk_at dksX10_tellOne_3 11 rfl rfl)
theorem dX10_tellOne_96 : decode cX10_tellOne 96 = .ok (.getfield 49, 3) := dk_180 0 49 (dk_at dksX10_tellOne_3 12 rfl rfl)
theorem dX10_tellOne_99 : decode cX10_tellOne 99 = .ok (.bipush 24, 2) := dk_16 24 (dk_at dksX10_tellOne_3 15 rfl rfl)
theorem dX10_tellOne_101 : decode cX10_tellOne 101 = .ok (.aload_n 0, 1) := dk_42 (dk_at dksX10_tellOne_3 17 rfl rfl)
theorem dX10_tellOne_102 : decode cX10_tellOne 102 = .ok (.getfield 236, 3) := dk_180 0 236 (dk_at dksX10_tellOne_3 18 rfl rfl)
theorem dX10_tellOne_105 : decode cX10_tellOne 105 = .ok (.imul, 1) := dk_104 (dk_at dksX10_tellOne_3 21 rfl rfl)
theorem dX10_tellOne_106 : decode cX10_tellOne 106 = .ok (.iconst 4, 1) := dk_7 (dk_at dksX10_tellOne_3 22 rfl rfl)
theorem dX10_tellOne_107 : decode cX10_tellOne 107 = .ok (.aload_n 0, 1) := dk_42 (dk_at dksX10_tellOne_3 23 rfl rfl)
theorem dX10_tellOne_108 : decode cX10_tellOne 108 = .ok (.getfield 46, 3) := dk_180 0 46 (dk_at dksX10_tellOne_4 0 rfl rfl)
theorem dX10_tellOne_111 : decode cX10_tellOne 111 = .ok (.aload_n 0, 1) := dk_42 (dk_at dksX10_tellOne_4 3 rfl rfl)
theorem dX10_tellOne_112 : decode cX10_tellOne 112 = .ok (.getfield 236, 3) := dk_180 0 236 (dk_at dksX10_tellOne_4 4 rfl rfl)
theorem dX10_tellOne_115 : decode cX10_tellOne 115 = .ok (.iaload, 1) := dk_46 (dk_at dksX10_tellOne_4 7 rfl rfl)
theorem dX10_tellOne_116 : decode cX10_tellOne 116 = .ok (.imul, 1) := dk_104 (dk_at dksX10_tellOne_4 8 rfl rfl)
theorem dX10_tellOne_117 : decode cX10_tellOne 117 = .ok (.iadd, 1) := dk_96 (dk_at dksX10_tellOne_4 9 rfl rfl)
theorem dX10_tellOne_118 : decode cX10_tellOne 118 = .ok (.iload_n 2, 1) := dk_28 (dk_at dksX10_tellOne_4 10 rfl rfl)
theorem dX10_tellOne_119 : decode cX10_tellOne 119 = .ok (.iadd, 1) := dk_96 (dk_at dksX10_tellOne_4 11 rfl rfl)
theorem dX10_tellOne_120 : decode cX10_tellOne 120 = .ok (.aload_n 0, 1) := dk_42 (dk_at dksX10_tellOne_4 12 rfl rfl)
theorem dX10_tellOne_121 : decode cX10_tellOne 121 = .ok (.iconst 0, 1) := dk_3 (dk_at dksX10_tellOne_4 13 rfl rfl)
theorem dX10_tellOne_122 : decode cX10_tellOne 122 = .ok (.bipush 99, 2) := dk_16 99 (dk_at dksX10_tellOne_4 14 rfl rfl)
theorem dX10_tellOne_124 : decode cX10_tellOne 124 = .ok (.invokevirtual 257, 3) := dk_182 1 1 (dk_at dksX10_tellOne_4 16 rfl rfl)
theorem dX10_tellOne_127 : decode cX10_tellOne 127 = .ok (.iastore, 1) := dk_79 (dk_at dksX10_tellOne_4 19 rfl rfl)
theorem dX10_tellOne_128 : decode cX10_tellOne 128 = .ok (.iinc 2 1, 3) := dk_132 2 1 (dk_at dksX10_tellOne_4 20 rfl rfl)
theorem dX10_tellOne_131 : decode cX10_tellOne 131 = .ok (.goto (-41), 3) := dk_167 255 215 (dk_at dksX10_tellOne_5 0 rfl rfl)
theorem dX10_tellOne_134 : decode cX10_tellOne 134 = .ok (.aload_n 0, 1) := dk_42 (dk_at dksX10_tellOne_5 3 rfl rfl)
theorem dX10_tellOne_135 : decode cX10_tellOne 135 = .ok (.iload_n 1, 1) := dk_27 (dk_at dksX10_tellOne_5 4 rfl rfl)
theorem dX10_tellOne_136 : decode cX10_tellOne 136 = .ok (.aload_n 0, 1) := dk_42 (dk_at dksX10_tellOne_5 5 rfl rfl)
theorem dX10_tellOne_137 : decode cX10_tellOne 137 = .ok (.getfield 46, 3) := dk_180 0 46 (dk_at dksX10_tellOne_5 6 rfl rfl)
theorem dX10_tellOne_140 : decode cX10_tellOne 140 = .ok (.aload_n 0, 1) := dk_42 (dk_at dksX10_tellOne_5 9 rfl rfl)
theorem dX10_tellOne_141 : decode cX10_tellOne 141 = .ok (.getfield 236, 3) := dk_180 0 236 (dk_at dksX10_tellOne_5 10 rfl rfl)
theorem dX10_tellOne_144 : decode cX10_tellOne 144 = .ok (.iaload, 1) := dk_46 (dk_at dksX10_tellOne_5 13 rfl rfl)
theorem dX10_tellOne_145 : decode cX10_tellOne 145 = .ok (.invokevirtual 272, 3) := dk_182 1 16 (dk_at dksX10_tellOne_5 14 rfl rfl)
theorem dX10_tellOne_148 : decode cX10_tellOne 148 = .ok (.aload_n 0, 1) := dk_42 (dk_at dksX10_tellOne_5 17 rfl rfl)
theorem dX10_tellOne_149 : decode cX10_tellOne 149 = .ok (.getfield 203, 3) := dk_180 0 203 (dk_at dksX10_tellOne_5 18 rfl rfl)
theorem dX10_tellOne_152 : decode cX10_tellOne 152 = .ok (.ifCond .ne 273, 3) := dk_154 1 17 (dk_at dksX10_tellOne_5 21 rfl rfl)
theorem dX10_tellOne_155 : decode cX10_tellOne 155 = .ok (.aload_n 0, 1) := dk_42 (dk_at dksX10_tellOne_6 0 rfl rfl)
theorem dX10_tellOne_156 : decode cX10_tellOne 156 = .ok (.getfield 46, 3) := dk_180 0 46 (dk_at dksX10_tellOne_6 1 rfl rfl)
theorem dX10_tellOne_159 : decode cX10_tellOne 159 = .ok (.aload_n 0, 1) := dk_42 (dk_at dksX10_tellOne_6 4 rfl rfl)
theorem dX10_tellOne_160 : decode cX10_tellOne 160 = .ok (.getfield 236, 3) := dk_180 0 236 (dk_at dksX10_tellOne_6 5 rfl rfl)
theorem dX10_tellOne_163 : decode cX10_tellOne 163 = .ok (.dup2, 1) := dk_92 (dk_at dksX10_tellOne_6 8 rfl rfl)
theorem dX10_tellOne_164 : decode cX10_tellOne 164 = .ok (.iaload, 1) := dk_46 (dk_at dksX10_tellOne_6 9 rfl rfl)
theorem dX10_tellOne_165 : decode cX10_tellOne 165 = .ok (.iconst 1, 1) := dk_4 (dk_at dksX10_tellOne_6 10 rfl rfl)
theorem dX10_tellOne_166 : decode cX10_tellOne 166 = .ok (.iadd, 1) := dk_96 (dk_at dksX10_tellOne_6 11 rfl rfl)
theorem dX10_tellOne_167 : decode cX10_tellOne 167 = .ok (.iastore, 1) := dk_79 (dk_at dksX10_tellOne_6 12 rfl rfl)
theorem dX10_tellOne_168 : decode cX10_tellOne 168 = .ok (.goto 257, 3) := dk_167 1 1 (dk_at dksX10_tellOne_6 13 rfl rfl)
theorem dX10_tellOne_171 : decode cX10_tellOne 171 = .ok (.aload_n 0, 1) := dk_42 (dk_at dksX10_tellOne_6 16 rfl rfl)
theorem dX10_tellOne_172 : decode cX10_tellOne 172 = .ok (.aload_n 0, 1) := dk_42 (dk_at dksX10_tellOne_6 17 rfl rfl)
theorem dX10_tellOne_173 : decode cX10_tellOne 173 = .ok (.getfield 52, 3) := dk_180 0 52 (dk_at dksX10_tellOne_6 18 rfl rfl)
theorem dX10_tellOne_176 : decode cX10_tellOne 176 = .ok (.aload_n 0, 1) := dk_42 (dk_at dksX10_tellOne_6 21 rfl rfl)
theorem dX10_tellOne_177 : decode cX10_tellOne 177 = .ok (.getfield 236, 3) := dk_180 0 236 (dk_at dksX10_tellOne_7 0 rfl rfl)
theorem dX10_tellOne_180 : decode cX10_tellOne 180 = .ok (.iaload, 1) := dk_46 (dk_at dksX10_tellOne_7 3 rfl rfl)
theorem dX10_tellOne_181 : decode cX10_tellOne 181 = .ok (.iconst 5, 1) := dk_8 (dk_at dksX10_tellOne_7 4 rfl rfl)
theorem dX10_tellOne_182 : decode cX10_tellOne 182 = .ok (.invokevirtual 264, 3) := dk_182 1 8 (dk_at dksX10_tellOne_7 5 rfl rfl)
theorem dX10_tellOne_185 : decode cX10_tellOne 185 = .ok (.aload_n 0, 1) := dk_42 (dk_at dksX10_tellOne_7 8 rfl rfl)
theorem dX10_tellOne_186 : decode cX10_tellOne 186 = .ok (.getfield 203, 3) := dk_180 0 203 (dk_at dksX10_tellOne_7 9 rfl rfl)
theorem dX10_tellOne_189 : decode cX10_tellOne 189 = .ok (.ifCond .le 4, 3) := dk_158 0 4 (dk_at dksX10_tellOne_7 12 rfl rfl)
theorem dX10_tellOne_192 : decode cX10_tellOne 192 = .ok (.return_, 1) := dk_177 (dk_at dksX10_tellOne_7 15 rfl rfl)
theorem dX10_tellOne_193 : decode cX10_tellOne 193 = .ok (.aload_n 0, 1) := dk_42 (dk_at dksX10_tellOne_7 16 rfl rfl)
theorem dX10_tellOne_194 : decode cX10_tellOne 194 = .ok (.invokevirtual 268, 3) := dk_182 1 12 (dk_at dksX10_tellOne_7 17 rfl rfl)
theorem dX10_tellOne_197 : decode cX10_tellOne 197 = .ok (.istore_n 1, 1) := dk_60 (dk_at dksX10_tellOne_7 20 rfl rfl)
theorem dX10_tellOne_198 : decode cX10_tellOne 198 = .ok (.iconst 0, 1) := dk_3 (dk_at dksX10_tellOne_7 21 rfl rfl)
theorem dX10_tellOne_199 : decode cX10_tellOne 199 = .ok (.istore_n 2, 1) := dk_61 (dk_at dksX10_tellOne_7 22 rfl rfl)
theorem dX10_tellOne_200 : decode cX10_tellOne 200 = .ok (.iload_n 2, 1) := dk_28 (dk_at dksX10_tellOne_7 23 rfl rfl)
theorem dX10_tellOne_201 : decode cX10_tellOne 201 = .ok (.iconst 4, 1) := dk_7 (dk_at dksX10_tellOne_8 0 rfl rfl)
theorem dX10_tellOne_202 : decode cX10_tellOne 202 = .ok (.if_icmp .ge 42, 3) := dk_162 0 42 (dk_at dksX10_tellOne_8 1 rfl rfl)
theorem dX10_tellOne_205 : decode cX10_tellOne 205 = .ok (.aload_n 0, 1) := dk_42 (dk_at dksX10_tellOne_8 4 rfl rfl)
theorem dX10_tellOne_206 : decode cX10_tellOne 206 = .ok (.getfield 55, 3) := dk_180 0 55 (dk_at dksX10_tellOne_8 5 rfl rfl)
theorem dX10_tellOne_209 : decode cX10_tellOne 209 = .ok (.bipush 20, 2) := dk_16 20 (dk_at dksX10_tellOne_8 8 rfl rfl)
theorem dX10_tellOne_211 : decode cX10_tellOne 211 = .ok (.aload_n 0, 1) := dk_42 (dk_at dksX10_tellOne_8 10 rfl rfl)
theorem dX10_tellOne_212 : decode cX10_tellOne 212 = .ok (.getfield 236, 3) := dk_180 0 236 (dk_at dksX10_tellOne_8 11 rfl rfl)
theorem dX10_tellOne_215 : decode cX10_tellOne 215 = .ok (.imul, 1) := dk_104 (dk_at dksX10_tellOne_8 14 rfl rfl)
theorem dX10_tellOne_216 : decode cX10_tellOne 216 = .ok (.iconst 4, 1) := dk_7 (dk_at dksX10_tellOne_8 15 rfl rfl)
theorem dX10_tellOne_217 : decode cX10_tellOne 217 = .ok (.aload_n 0, 1) := dk_42 (dk_at dksX10_tellOne_8 16 rfl rfl)
theorem dX10_tellOne_218 : decode cX10_tellOne 218 = .ok (.getfield 52, 3) := dk_180 0 52 (dk_at dksX10_tellOne_8 17 rfl rfl)
theorem dX10_tellOne_221 : decode cX10_tellOne 221 = .ok (.aload_n 0, 1) := dk_42 (dk_at dksX10_tellOne_8 20 rfl rfl)
theorem dX10_tellOne_222 : decode cX10_tellOne 222 = .ok (.getfield 236, 3) := dk_180 0 236 (dk_at dksX10_tellOne_8 21 rfl rfl)
theorem dX10_tellOne_225 : decode cX10_tellOne 225 = .ok (.iaload, 1) := dk_46 (dk_at dksX10_tellOne_9 0 rfl rfl)
theorem dX10_tellOne_226 : decode cX10_tellOne 226 = .ok (.imul, 1) := dk_104 (dk_at dksX10_tellOne_9 1 rfl rfl)
theorem dX10_tellOne_227 : decode cX10_tellOne 227 = .ok (.iadd, 1) := dk_96 (dk_at dksX10_tellOne_9 2 rfl rfl)
theorem dX10_tellOne_228 : decode cX10_tellOne 228 = .ok (.iload_n 2, 1) := dk_28 (dk_at dksX10_tellOne_9 3 rfl rfl)
theorem dX10_tellOne_229 : decode cX10_tellOne 229 = .ok (.iadd, 1) := dk_96 (dk_at dksX10_tellOne_9 4 rfl rfl)
theorem dX10_tellOne_230 : decode cX10_tellOne 230 = .ok (.aload_n 0, 1) := dk_42 (dk_at dksX10_tellOne_9 5 rfl rfl)
theorem dX10_tellOne_231 : decode cX10_tellOne 231 = .ok (.iconst 0, 1) := dk_3 (dk_at dksX10_tellOne_9 6 rfl rfl)
theorem dX10_tellOne_232 : decode cX10_tellOne 232 = .ok (.bipush 99, 2) := dk_16 99 (dk_at dksX10_tellOne_9 7 rfl rfl)
theorem dX10_tellOne_234 : decode cX10_tellOne 234 = .ok (.invokevirtual 257, 3) := dk_182 1 1 (dk_at dksX10_tellOne_9 9 rfl rfl)
theorem dX10_tellOne_237 : decode cX10_tellOne 237 = .ok (.iastore, 1) := dk_79 (dk_at dksX10_tellOne_9 12 rfl rfl)
theorem dX10_tellOne_238 : decode cX10_tellOne 238 = .ok (.iinc 2 1, 3) := dk_132 2 1 (dk_at dksX10_tellOne_9 13 rfl rfl)
theorem dX10_tellOne_241 : decode cX10_tellOne 241 = .ok (.goto (-41), 3) := dk_167 255 215 (dk_at dksX10_tellOne_9 16 rfl rfl)
theorem dX10_tellOne_244 : decode cX10_tellOne 244 = .ok (.aload_n 0, 1) := dk_42 (dk_at dksX10_tellOne_9 19 rfl rfl)
theorem dX10_tellOne_245 : decode cX10_tellOne 245 = .ok (.iload_n 1, 1) := dk_27 (dk_at dksX10_tellOne_9 20 rfl rfl)
theorem dX10_tellOne_246 : decode cX10_tellOne 246 = .ok (.bipush 10, 2) := dk_16 10 (dk_at dksX10_tellOne_9 21 rfl rfl)
theorem dX10_tellOne_248 : decode cX10_tellOne 248 = .ok (.aload_n 0, 1) := dk_42 (dk_at dksX10_tellOne_9 23 rfl rfl)
theorem dX10_tellOne_249 : decode cX10_tellOne 249 = .ok (.getfield 52, 3) := dk_180 0 52 (dk_at dksX10_tellOne_10 0 rfl rfl)
theorem dX10_tellOne_252 : decode cX10_tellOne 252 = .ok (.aload_n 0, 1) := dk_42 (dk_at dksX10_tellOne_10 3 rfl rfl)
theorem dX10_tellOne_253 : decode cX10_tellOne 253 = .ok (.getfield 236, 3) := dk_180 0 236 (dk_at dksX10_tellOne_10 4 rfl rfl)
theorem dX10_tellOne_256 : decode cX10_tellOne 256 = .ok (.iaload, 1) := dk_46 (dk_at dksX10_tellOne_10 7 rfl rfl)
theorem dX10_tellOne_257 : decode cX10_tellOne 257 = .ok (.iadd, 1) := dk_96 (dk_at dksX10_tellOne_10 8 rfl rfl)
theorem dX10_tellOne_258 : decode cX10_tellOne 258 = .ok (.invokevirtual 272, 3) := dk_182 1 16 (dk_at dksX10_tellOne_10 9 rfl rfl)
theorem dX10_tellOne_261 : decode cX10_tellOne 261 = .ok (.aload_n 0, 1) := dk_42 (dk_at dksX10_tellOne_10 12 rfl rfl)
theorem dX10_tellOne_262 : decode cX10_tellOne 262 = .ok (.getfield 203, 3) := dk_180 0 203 (dk_at dksX10_tellOne_10 13 rfl rfl)
theorem dX10_tellOne_265 : decode cX10_tellOne 265 = .ok (.ifCond .ne 160, 3) := dk_154 0 160 (dk_at dksX10_tellOne_10 16 rfl rfl)
theorem dX10_tellOne_268 : decode cX10_tellOne 268 = .ok (.aload_n 0, 1) := dk_42 (dk_at dksX10_tellOne_10 19 rfl rfl)
theorem dX10_tellOne_269 : decode cX10_tellOne 269 = .ok (.getfield 52, 3) := dk_180 0 52 (dk_at dksX10_tellOne_10 20 rfl rfl)
theorem dX10_tellOne_272 : decode cX10_tellOne 272 = .ok (.aload_n 0, 1) := dk_42 (dk_at dksX10_tellOne_10 23 rfl rfl)
theorem dX10_tellOne_273 : decode cX10_tellOne 273 = .ok (.getfield 236, 3) := dk_180 0 236 (dk_at dksX10_tellOne_11 0 rfl rfl)
theorem dX10_tellOne_276 : decode cX10_tellOne 276 = .ok (.dup2, 1) := dk_92 (dk_at dksX10_tellOne_11 3 rfl rfl)
theorem dX10_tellOne_277 : decode cX10_tellOne 277 = .ok (.iaload, 1) := dk_46 (dk_at dksX10_tellOne_11 4 rfl rfl)
theorem dX10_tellOne_278 : decode cX10_tellOne 278 = .ok (.iconst 1, 1) := dk_4 (dk_at dksX10_tellOne_11 5 rfl rfl)
theorem dX10_tellOne_279 : decode cX10_tellOne 279 = .ok (.iadd, 1) := dk_96 (dk_at dksX10_tellOne_11 6 rfl rfl)
theorem dX10_tellOne_280 : decode cX10_tellOne 280 = .ok (.iastore, 1) := dk_79 (dk_at dksX10_tellOne_11 7 rfl rfl)
theorem dX10_tellOne_281 : decode cX10_tellOne 281 = .ok (.goto 144, 3) := dk_167 0 144 (dk_at dksX10_tellOne_11 8 rfl rfl)
theorem dX10_tellOne_284 : decode cX10_tellOne 284 = .ok (.aload_n 0, 1) := dk_42 (dk_at dksX10_tellOne_11 11 rfl rfl)
theorem dX10_tellOne_285 : decode cX10_tellOne 285 = .ok (.aload_n 0, 1) := dk_42 (dk_at dksX10_tellOne_11 12 rfl rfl)
theorem dX10_tellOne_286 : decode cX10_tellOne 286 = .ok (.getfield 58, 3) := dk_180 0 58 (dk_at dksX10_tellOne_11 13 rfl rfl)
theorem dX10_tellOne_289 : decode cX10_tellOne 289 = .ok (.aload_n 0, 1) := dk_42 (dk_at dksX10_tellOne_11 16 rfl rfl)
theorem dX10_tellOne_290 : decode cX10_tellOne 290 = .ok (.getfield 236, 3) := dk_180 0 236 (dk_at dksX10_tellOne_11 17 rfl rfl)
theorem dX10_tellOne_293 : decode cX10_tellOne 293 = .ok (.iaload, 1) := dk_46 (dk_at dksX10_tellOne_11 20 rfl rfl)
theorem dX10_tellOne_294 : decode cX10_tellOne 294 = .ok (.bipush 10, 2) := dk_16 10 (dk_at dksX10_tellOne_11 21 rfl rfl)
theorem dX10_tellOne_296 : decode cX10_tellOne 296 = .ok (.invokevirtual 264, 3) := dk_182 1 8 (dk_at dksX10_tellOne_12 0 rfl rfl)
theorem dX10_tellOne_299 : decode cX10_tellOne 299 = .ok (.aload_n 0, 1) := dk_42 (dk_at dksX10_tellOne_12 3 rfl rfl)
theorem dX10_tellOne_300 : decode cX10_tellOne 300 = .ok (.getfield 203, 3) := dk_180 0 203 (dk_at dksX10_tellOne_12 4 rfl rfl)
theorem dX10_tellOne_303 : decode cX10_tellOne 303 = .ok (.ifCond .ne 122, 3) := dk_154 0 122 (dk_at dksX10_tellOne_12 7 rfl rfl)
theorem dX10_tellOne_306 : decode cX10_tellOne 306 = .ok (.aload_n 0, 1) := dk_42 (dk_at dksX10_tellOne_12 10 rfl rfl)
theorem dX10_tellOne_307 : decode cX10_tellOne 307 = .ok (.invokevirtual 275, 3) := dk_182 1 19 (dk_at dksX10_tellOne_12 11 rfl rfl)
theorem dX10_tellOne_310 : decode cX10_tellOne 310 = .ok (.goto 115, 3) := dk_167 0 115 (dk_at dksX10_tellOne_12 14 rfl rfl)
theorem dX10_tellOne_313 : decode cX10_tellOne 313 = .ok (.aload_n 0, 1) := dk_42 (dk_at dksX10_tellOne_12 17 rfl rfl)
theorem dX10_tellOne_314 : decode cX10_tellOne 314 = .ok (.getfield 73, 3) := dk_180 0 73 (dk_at dksX10_tellOne_12 18 rfl rfl)
theorem dX10_tellOne_317 : decode cX10_tellOne 317 = .ok (.aload_n 0, 1) := dk_42 (dk_at dksX10_tellOne_12 21 rfl rfl)
theorem dX10_tellOne_318 : decode cX10_tellOne 318 = .ok (.getfield 236, 3) := dk_180 0 236 (dk_at dksX10_tellOne_13 0 rfl rfl)
theorem dX10_tellOne_321 : decode cX10_tellOne 321 = .ok (.aload_n 0, 1) := dk_42 (dk_at dksX10_tellOne_13 3 rfl rfl)
theorem dX10_tellOne_322 : decode cX10_tellOne 322 = .ok (.iconst 0, 1) := dk_3 (dk_at dksX10_tellOne_13 4 rfl rfl)
theorem dX10_tellOne_323 : decode cX10_tellOne 323 = .ok (.bipush 100, 2) := dk_16 100 (dk_at dksX10_tellOne_13 5 rfl rfl)
theorem dX10_tellOne_325 : decode cX10_tellOne 325 = .ok (.invokevirtual 278, 3) := dk_182 1 22 (dk_at dksX10_tellOne_13 7 rfl rfl)
theorem dX10_tellOne_328 : decode cX10_tellOne 328 = .ok (.iastore, 1) := dk_79 (dk_at dksX10_tellOne_13 10 rfl rfl)
theorem dX10_tellOne_329 : decode cX10_tellOne 329 = .ok (.goto 96, 3) := dk_167 0 96 (dk_at dksX10_tellOne_13 11 rfl rfl)
theorem dX10_tellOne_332 : decode cX10_tellOne 332 = .ok (.aload_n 0, 1) := dk_42 (dk_at dksX10_tellOne_13 14 rfl rfl)
theorem dX10_tellOne_333 : decode cX10_tellOne 333 = .ok (.getfield 76, 3) := dk_180 0 76 (dk_at dksX10_tellOne_13 15 rfl rfl)
theorem dX10_tellOne_336 : decode cX10_tellOne 336 = .ok (.aload_n 0, 1) := dk_42 (dk_at dksX10_tellOne_13 18 rfl rfl)
theorem dX10_tellOne_337 : decode cX10_tellOne 337 = .ok (.getfield 236, 3) := dk_180 0 236 (dk_at dksX10_tellOne_13 19 rfl rfl)
theorem dX10_tellOne_340 : decode cX10_tellOne 340 = .ok (.aload_n 0, 1) := dk_42 (dk_at dksX10_tellOne_13 22 rfl rfl)
theorem dX10_tellOne_341 : decode cX10_tellOne 341 = .ok (.iconst 0, 1) := dk_3 (dk_at dksX10_tellOne_13 23 rfl rfl)
theorem dX10_tellOne_342 : decode cX10_tellOne 342 = .ok (.sipush 396, 3) := dk_17 1 140 (dk_at dksX10_tellOne_14 0 rfl rfl)
theorem dX10_tellOne_345 : decode cX10_tellOne 345 = .ok (.invokevirtual 278, 3) := dk_182 1 22 (dk_at dksX10_tellOne_14 3 rfl rfl)
theorem dX10_tellOne_348 : decode cX10_tellOne 348 = .ok (.iastore, 1) := dk_79 (dk_at dksX10_tellOne_14 6 rfl rfl)
theorem dX10_tellOne_349 : decode cX10_tellOne 349 = .ok (.goto 76, 3) := dk_167 0 76 (dk_at dksX10_tellOne_14 7 rfl rfl)
theorem dX10_tellOne_352 : decode cX10_tellOne 352 = .ok (.aload_n 0, 1) := dk_42 (dk_at dksX10_tellOne_14 10 rfl rfl)
theorem dX10_tellOne_353 : decode cX10_tellOne 353 = .ok (.getfield 79, 3) := dk_180 0 79 (dk_at dksX10_tellOne_14 11 rfl rfl)
theorem dX10_tellOne_356 : decode cX10_tellOne 356 = .ok (.aload_n 0, 1) := dk_42 (dk_at dksX10_tellOne_14 14 rfl rfl)
theorem dX10_tellOne_357 : decode cX10_tellOne 357 = .ok (.getfield 236, 3) := dk_180 0 236 (dk_at dksX10_tellOne_14 15 rfl rfl)
theorem dX10_tellOne_360 : decode cX10_tellOne 360 = .ok (.aload_n 0, 1) := dk_42 (dk_at dksX10_tellOne_14 18 rfl rfl)
theorem dX10_tellOne_361 : decode cX10_tellOne 361 = .ok (.iconst 0, 1) := dk_3 (dk_at dksX10_tellOne_14 19 rfl rfl)
theorem dX10_tellOne_362 : decode cX10_tellOne 362 = .ok (.sipush 9999, 3) := dk_17 39 15 (dk_at dksX10_tellOne_14 20 rfl rfl)
theorem dX10_tellOne_365 : decode cX10_tellOne 365 = .ok (.invokevirtual 278, 3) := dk_182 1 22 (dk_at dksX10_tellOne_15 0 rfl rfl)
theorem dX10_tellOne_368 : decode cX10_tellOne 368 = .ok (.iastore, 1) := dk_79 (dk_at dksX10_tellOne_15 3 rfl rfl)
theorem dX10_tellOne_369 : decode cX10_tellOne 369 = .ok (.goto 56, 3) := dk_167 0 56 (dk_at dksX10_tellOne_15 4 rfl rfl)
theorem dX10_tellOne_372 : decode cX10_tellOne 372 = .ok (.aload_n 0, 1) := dk_42 (dk_at dksX10_tellOne_15 7 rfl rfl)
theorem dX10_tellOne_373 : decode cX10_tellOne 373 = .ok (.getfield 20, 3) := dk_180 0 20 (dk_at dksX10_tellOne_15 8 rfl rfl)
theorem dX10_tellOne_376 : decode cX10_tellOne 376 = .ok (.aload_n 0, 1) := dk_42 (dk_at dksX10_tellOne_15 11 rfl rfl)
theorem dX10_tellOne_377 : decode cX10_tellOne 377 = .ok (.getfield 206, 3) := dk_180 0 206 (dk_at dksX10_tellOne_15 12 rfl rfl)
theorem dX10_tellOne_380 : decode cX10_tellOne 380 = .ok (.iaload, 1) := dk_46 (dk_at dksX10_tellOne_15 15 rfl rfl)
theorem dX10_tellOne_381 : decode cX10_tellOne 381 = .ok (.bipush 23, 2) := dk_16 23 (dk_at dksX10_tellOne_15 16 rfl rfl)
theorem dX10_tellOne_383 : decode cX10_tellOne 383 = .ok (.isub, 1) := dk_100 (dk_at dksX10_tellOne_15 18 rfl rfl)
theorem dX10_tellOne_384 : decode cX10_tellOne 384 = .ok (.istore_n 1, 1) := dk_60 (dk_at dksX10_tellOne_15 19 rfl rfl)
theorem dX10_tellOne_385 : decode cX10_tellOne 385 = .ok (.iload_n 1, 1) := dk_27 (dk_at dksX10_tellOne_15 20 rfl rfl)
theorem dX10_tellOne_386 : decode cX10_tellOne 386 = .ok (.ifCond .lt 17, 3) := dk_155 0 17 (dk_at dksX10_tellOne_15 21 rfl rfl)
theorem dX10_tellOne_389 : decode cX10_tellOne 389 = .ok (.aload_n 0, 1) := dk_42 (dk_at dksX10_tellOne_16 0 rfl rfl)
theorem dX10_tellOne_390 : decode cX10_tellOne 390 = .ok (.getfield 20, 3) := dk_180 0 20 (dk_at dksX10_tellOne_16 1 rfl rfl)
theorem dX10_tellOne_393 : decode cX10_tellOne 393 = .ok (.aload_n 0, 1) := dk_42 (dk_at dksX10_tellOne_16 4 rfl rfl)
theorem dX10_tellOne_394 : decode cX10_tellOne 394 = .ok (.getfield 206, 3) := dk_180 0 206 (dk_at dksX10_tellOne_16 5 rfl rfl)
theorem dX10_tellOne_397 : decode cX10_tellOne 397 = .ok (.iaload, 1) := dk_46 (dk_at dksX10_tellOne_16 8 rfl rfl)
theorem dX10_tellOne_398 : decode cX10_tellOne 398 = .ok (.bipush 25, 2) := dk_16 25 (dk_at dksX10_tellOne_16 9 rfl rfl)
theorem dX10_tellOne_400 : decode cX10_tellOne 400 = .ok (.if_icmp .le 8, 3) := dk_164 0 8 (dk_at dksX10_tellOne_16 11 rfl rfl)
theorem dX10_tellOne_403 : decode cX10_tellOne 403 = .ok (.aload_n 0, 1) := dk_42 (dk_at dksX10_tellOne_16 14 rfl rfl)
theorem dX10_tellOne_404 : decode cX10_tellOne 404 = .ok (.iconst 1, 1) := dk_4 (dk_at dksX10_tellOne_16 15 rfl rfl)
theorem dX10_tellOne_405 : decode cX10_tellOne 405 = .ok (.invokevirtual 218, 3) := dk_182 0 218 (dk_at dksX10_tellOne_16 16 rfl rfl)
theorem dX10_tellOne_408 : decode cX10_tellOne 408 = .ok (.aload_n 0, 1) := dk_42 (dk_at dksX10_tellOne_16 19 rfl rfl)
theorem dX10_tellOne_409 : decode cX10_tellOne 409 = .ok (.getfield 203, 3) := dk_180 0 203 (dk_at dksX10_tellOne_16 20 rfl rfl)
theorem dX10_tellOne_412 : decode cX10_tellOne 412 = .ok (.ifCond .le 4, 3) := dk_158 0 4 (dk_at dksX10_tellOne_17 0 rfl rfl)
theorem dX10_tellOne_415 : decode cX10_tellOne 415 = .ok (.return_, 1) := dk_177 (dk_at dksX10_tellOne_17 3 rfl rfl)
theorem dX10_tellOne_416 : decode cX10_tellOne 416 = .ok (.aload_n 0, 1) := dk_42 (dk_at dksX10_tellOne_17 4 rfl rfl)
theorem dX10_tellOne_417 : decode cX10_tellOne 417 = .ok (.invokevirtual 224, 3) := dk_182 0 224 (dk_at dksX10_tellOne_17 5 rfl rfl)
theorem dX10_tellOne_420 : decode cX10_tellOne 420 = .ok (.aload_n 0, 1) := dk_42 (dk_at dksX10_tellOne_17 8 rfl rfl)
theorem dX10_tellOne_421 : decode cX10_tellOne 421 = .ok (.iload_n 1, 1) := dk_27 (dk_at dksX10_tellOne_17 9 rfl rfl)
theorem dX10_tellOne_422 : decode cX10_tellOne 422 = .ok (.invokevirtual 281, 3) := dk_182 1 25 (dk_at dksX10_tellOne_17 10 rfl rfl)
theorem dX10_tellOne_425 : decode cX10_tellOne 425 = .ok (.return_, 1) := dk_177 (dk_at dksX10_tellOne_17 13 rfl rfl)
abbrev cX10_roomFor : ByteArray := prog_21_method_22_code
def yX10_roomFor : MethodName := ⟨RX10, "roomFor", "(II)V"⟩
def dkwX10_roomFor_0 : List UInt8 := [27, 28, 160, 0, 8, 42, 5, 182, 0, 218, 42, 180, 0, 203, 154, 0, 7, 42, 182, 0, 224, 177]
abbrev dktX10_roomFor_0 : List UInt8 := dkwX10_roomFor_0 ++ []
theorem dksX10_roomFor_0 : cX10_roomFor.data.toList.drop 0 = dktX10_roomFor_0 := by decide +kernel
theorem dX10_roomFor_0 : decode cX10_roomFor 0 = .ok (.iload_n 1, 1) := dk_27 (dk_at dksX10_roomFor_0 0 rfl rfl)
theorem dX10_roomFor_1 : decode cX10_roomFor 1 = .ok (.iload_n 2, 1) := dk_28 (dk_at dksX10_roomFor_0 1 rfl rfl)
theorem dX10_roomFor_2 : decode cX10_roomFor 2 = .ok (.if_icmp .ne 8, 3) := dk_160 0 8 (dk_at dksX10_roomFor_0 2 rfl rfl)
theorem dX10_roomFor_5 : decode cX10_roomFor 5 = .ok (.aload_n 0, 1) := dk_42 (dk_at dksX10_roomFor_0 5 rfl rfl)
theorem dX10_roomFor_6 : decode cX10_roomFor 6 = .ok (.iconst 2, 1) := dk_5 (dk_at dksX10_roomFor_0 6 rfl rfl)
theorem dX10_roomFor_7 : decode cX10_roomFor 7 = .ok (.invokevirtual 218, 3) := dk_182 0 218 (dk_at dksX10_roomFor_0 7 rfl rfl)
theorem dX10_roomFor_10 : decode cX10_roomFor 10 = .ok (.aload_n 0, 1) := dk_42 (dk_at dksX10_roomFor_0 10 rfl rfl)
theorem dX10_roomFor_11 : decode cX10_roomFor 11 = .ok (.getfield 203, 3) := dk_180 0 203 (dk_at dksX10_roomFor_0 11 rfl rfl)
theorem dX10_roomFor_14 : decode cX10_roomFor 14 = .ok (.ifCond .ne 7, 3) := dk_154 0 7 (dk_at dksX10_roomFor_0 14 rfl rfl)
theorem dX10_roomFor_17 : decode cX10_roomFor 17 = .ok (.aload_n 0, 1) := dk_42 (dk_at dksX10_roomFor_0 17 rfl rfl)
theorem dX10_roomFor_18 : decode cX10_roomFor 18 = .ok (.invokevirtual 224, 3) := dk_182 0 224 (dk_at dksX10_roomFor_0 18 rfl rfl)
theorem dX10_roomFor_21 : decode cX10_roomFor 21 = .ok (.return_, 1) := dk_177 (dk_at dksX10_roomFor_0 21 rfl rfl)
abbrev cX10_fail : ByteArray := prog_21_method_15_code
def yX10_fail : MethodName := ⟨RX10, "fail", "(I)V"⟩
def dkwX10_fail_1 : List UInt8 := [181, 0, 209, 177]
abbrev dktX10_fail_1 : List UInt8 := dkwX10_fail_1 ++ []
def dkwX10_fail_0 : List UInt8 := [42, 180, 0, 203, 158, 0, 4, 177, 42, 27, 181, 0, 203, 42, 42, 180, 0, 24, 42, 180, 0, 206, 46]
abbrev dktX10_fail_0 : List UInt8 := dkwX10_fail_0 ++ dktX10_fail_1
theorem dksX10_fail_0 : cX10_fail.data.toList.drop 0 = dktX10_fail_0 := by decide +kernel
theorem dksX10_fail_1 : cX10_fail.data.toList.drop 23 = dktX10_fail_1 := dk_seg dksX10_fail_0 23 rfl rfl
theorem dX10_fail_0 : decode cX10_fail 0 = .ok (.aload_n 0, 1) := dk_42 (dk_at dksX10_fail_0 0 rfl rfl)
theorem dX10_fail_1 : decode cX10_fail 1 = .ok (.getfield 203, 3) := dk_180 0 203 (dk_at dksX10_fail_0 1 rfl rfl)
theorem dX10_fail_4 : decode cX10_fail 4 = .ok (.ifCond .le 4, 3) := dk_158 0 4 (dk_at dksX10_fail_0 4 rfl rfl)
theorem dX10_fail_7 : decode cX10_fail 7 = .ok (.return_, 1) := dk_177 (dk_at dksX10_fail_0 7 rfl rfl)
theorem dX10_fail_8 : decode cX10_fail 8 = .ok (.aload_n 0, 1) := dk_42 (dk_at dksX10_fail_0 8 rfl rfl)
theorem dX10_fail_9 : decode cX10_fail 9 = .ok (.iload_n 1, 1) := dk_27 (dk_at dksX10_fail_0 9 rfl rfl)
theorem dX10_fail_10 : decode cX10_fail 10 = .ok (.putfield 203, 3) := dk_181 0 203 (dk_at dksX10_fail_0 10 rfl rfl)
theorem dX10_fail_13 : decode cX10_fail 13 = .ok (.aload_n 0, 1) := dk_42 (dk_at dksX10_fail_0 13 rfl rfl)
theorem dX10_fail_14 : decode cX10_fail 14 = .ok (.aload_n 0, 1) := dk_42 (dk_at dksX10_fail_0 14 rfl rfl)
theorem dX10_fail_15 : decode cX10_fail 15 = .ok (.getfield 24, 3) := dk_180 0 24 (dk_at dksX10_fail_0 15 rfl rfl)
theorem dX10_fail_18 : decode cX10_fail 18 = .ok (.aload_n 0, 1) := dk_42 (dk_at dksX10_fail_0 18 rfl rfl)
theorem dX10_fail_19 : decode cX10_fail 19 = .ok (.getfield 206, 3) := dk_180 0 206 (dk_at dksX10_fail_0 19 rfl rfl)
theorem dX10_fail_22 : decode cX10_fail 22 = .ok (.iaload, 1) := dk_46 (dk_at dksX10_fail_0 22 rfl rfl)
theorem dX10_fail_23 : decode cX10_fail 23 = .ok (.putfield 209, 3) := dk_181 0 209 (dk_at dksX10_fail_1 0 rfl rfl)
theorem dX10_fail_26 : decode cX10_fail 26 = .ok (.return_, 1) := dk_177 (dk_at dksX10_fail_1 3 rfl rfl)
abbrev cX10_goesOn : ByteArray := prog_21_method_17_code
def yX10_goesOn : MethodName := ⟨RX10, "goesOn", "()V"⟩
def dkwX10_goesOn_1 : List UInt8 := [96, 181, 0, 206, 177]
abbrev dktX10_goesOn_1 : List UInt8 := dkwX10_goesOn_1 ++ []
def dkwX10_goesOn_0 : List UInt8 := [42, 180, 0, 206, 17, 1, 144, 160, 0, 11, 42, 5, 182, 0, 218, 167, 0, 13, 42, 89, 180, 0, 206, 4]
abbrev dktX10_goesOn_0 : List UInt8 := dkwX10_goesOn_0 ++ dktX10_goesOn_1
theorem dksX10_goesOn_0 : cX10_goesOn.data.toList.drop 0 = dktX10_goesOn_0 := by decide +kernel
theorem dksX10_goesOn_1 : cX10_goesOn.data.toList.drop 24 = dktX10_goesOn_1 := dk_seg dksX10_goesOn_0 24 rfl rfl
theorem dX10_goesOn_0 : decode cX10_goesOn 0 = .ok (.aload_n 0, 1) := dk_42 (dk_at dksX10_goesOn_0 0 rfl rfl)
theorem dX10_goesOn_1 : decode cX10_goesOn 1 = .ok (.getfield 206, 3) := dk_180 0 206 (dk_at dksX10_goesOn_0 1 rfl rfl)
theorem dX10_goesOn_4 : decode cX10_goesOn 4 = .ok (.sipush 400, 3) := dk_17 1 144 (dk_at dksX10_goesOn_0 4 rfl rfl)
theorem dX10_goesOn_7 : decode cX10_goesOn 7 = .ok (.if_icmp .ne 11, 3) := dk_160 0 11 (dk_at dksX10_goesOn_0 7 rfl rfl)
theorem dX10_goesOn_10 : decode cX10_goesOn 10 = .ok (.aload_n 0, 1) := dk_42 (dk_at dksX10_goesOn_0 10 rfl rfl)
theorem dX10_goesOn_11 : decode cX10_goesOn 11 = .ok (.iconst 2, 1) := dk_5 (dk_at dksX10_goesOn_0 11 rfl rfl)
theorem dX10_goesOn_12 : decode cX10_goesOn 12 = .ok (.invokevirtual 218, 3) := dk_182 0 218 (dk_at dksX10_goesOn_0 12 rfl rfl)
theorem dX10_goesOn_15 : decode cX10_goesOn 15 = .ok (.goto 13, 3) := dk_167 0 13 (dk_at dksX10_goesOn_0 15 rfl rfl)
theorem dX10_goesOn_18 : decode cX10_goesOn 18 = .ok (.aload_n 0, 1) := dk_42 (dk_at dksX10_goesOn_0 18 rfl rfl)
theorem dX10_goesOn_19 : decode cX10_goesOn 19 = .ok (.dup, 1) := dk_89 (dk_at dksX10_goesOn_0 19 rfl rfl)
theorem dX10_goesOn_20 : decode cX10_goesOn 20 = .ok (.getfield 206, 3) := dk_180 0 206 (dk_at dksX10_goesOn_0 20 rfl rfl)
theorem dX10_goesOn_23 : decode cX10_goesOn 23 = .ok (.iconst 1, 1) := dk_4 (dk_at dksX10_goesOn_0 23 rfl rfl)
theorem dX10_goesOn_24 : decode cX10_goesOn 24 = .ok (.iadd, 1) := dk_96 (dk_at dksX10_goesOn_1 0 rfl rfl)
theorem dX10_goesOn_25 : decode cX10_goesOn 25 = .ok (.putfield 206, 3) := dk_181 0 206 (dk_at dksX10_goesOn_1 1 rfl rfl)
theorem dX10_goesOn_28 : decode cX10_goesOn 28 = .ok (.return_, 1) := dk_177 (dk_at dksX10_goesOn_1 4 rfl rfl)
abbrev cX10_named : ByteArray := prog_21_method_25_code
def yX10_named : MethodName := ⟨RX10, "named", "()I"⟩
def dkwX10_named_2 : List UInt8 := [182, 1, 28, 132, 2, 1, 167, 255, 216, 27, 172]
abbrev dktX10_named_2 : List UInt8 := dkwX10_named_2 ++ []
def dkwX10_named_1 : List UInt8 := [154, 0, 31, 42, 180, 0, 40, 28, 47, 42, 180, 0, 30, 27, 47, 148, 154, 0, 9, 42, 6, 27]
abbrev dktX10_named_1 : List UInt8 := dkwX10_named_1 ++ dktX10_named_2
def dkwX10_named_0 : List UInt8 := [42, 180, 0, 206, 60, 42, 4, 182, 1, 5, 3, 61, 28, 42, 180, 0, 239, 162, 0, 38, 42, 180, 0, 203]
abbrev dktX10_named_0 : List UInt8 := dkwX10_named_0 ++ dktX10_named_1
theorem dksX10_named_0 : cX10_named.data.toList.drop 0 = dktX10_named_0 := by decide +kernel
theorem dksX10_named_1 : cX10_named.data.toList.drop 24 = dktX10_named_1 := dk_seg dksX10_named_0 24 rfl rfl
theorem dksX10_named_2 : cX10_named.data.toList.drop 46 = dktX10_named_2 := dk_seg dksX10_named_1 22 rfl rfl
theorem dX10_named_0 : decode cX10_named 0 = .ok (.aload_n 0, 1) := dk_42 (dk_at dksX10_named_0 0 rfl rfl)
theorem dX10_named_1 : decode cX10_named 1 = .ok (.getfield 206, 3) := dk_180 0 206 (dk_at dksX10_named_0 1 rfl rfl)
theorem dX10_named_4 : decode cX10_named 4 = .ok (.istore_n 1, 1) := dk_60 (dk_at dksX10_named_0 4 rfl rfl)
theorem dX10_named_5 : decode cX10_named 5 = .ok (.aload_n 0, 1) := dk_42 (dk_at dksX10_named_0 5 rfl rfl)
theorem dX10_named_6 : decode cX10_named 6 = .ok (.iconst 1, 1) := dk_4 (dk_at dksX10_named_0 6 rfl rfl)
theorem dX10_named_7 : decode cX10_named 7 = .ok (.invokevirtual 261, 3) := dk_182 1 5 (dk_at dksX10_named_0 7 rfl rfl)
theorem dX10_named_10 : decode cX10_named 10 = .ok (.iconst 0, 1) := dk_3 (dk_at dksX10_named_0 10 rfl rfl)
theorem dX10_named_11 : decode cX10_named 11 = .ok (.istore_n 2, 1) := dk_61 (dk_at dksX10_named_0 11 rfl rfl)
theorem dX10_named_12 : decode cX10_named 12 = .ok (.iload_n 2, 1) := dk_28 (dk_at dksX10_named_0 12 rfl rfl)
theorem dX10_named_13 : decode cX10_named 13 = .ok (.aload_n 0, 1) := dk_42 (dk_at dksX10_named_0 13 rfl rfl)
theorem dX10_named_14 : decode cX10_named 14 = .ok (.getfield 239, 3) := dk_180 0 239 (dk_at dksX10_named_0 14 rfl rfl)
theorem dX10_named_17 : decode cX10_named 17 = .ok (.if_icmp .ge 38, 3) := dk_162 0 38 (dk_at dksX10_named_0 17 rfl rfl)
theorem dX10_named_20 : decode cX10_named 20 = .ok (.aload_n 0, 1) := dk_42 (dk_at dksX10_named_0 20 rfl rfl)
theorem dX10_named_21 : decode cX10_named 21 = .ok (.getfield 203, 3) := dk_180 0 203 (dk_at dksX10_named_0 21 rfl rfl)
theorem dX10_named_24 : decode cX10_named 24 = .ok (.ifCond .ne 31, 3) := dk_154 0 31 (dk_at dksX10_named_1 0 rfl rfl)
theorem dX10_named_27 : decode cX10_named 27 = .ok (.aload_n 0, 1) := dk_42 (dk_at dksX10_named_1 3 rfl rfl)
theorem dX10_named_28 : decode cX10_named 28 = .ok (.getfield 40, 3) := dk_180 0 40 (dk_at dksX10_named_1 4 rfl rfl)
theorem dX10_named_31 : decode cX10_named 31 = .ok (.iload_n 2, 1) := dk_28 (dk_at dksX10_named_1 7 rfl rfl)
theorem dX10_named_32 : decode cX10_named 32 = .ok (.laload, 1) := dk_47 (dk_at dksX10_named_1 8 rfl rfl)
theorem dX10_named_33 : decode cX10_named 33 = .ok (.aload_n 0, 1) := dk_42 (dk_at dksX10_named_1 9 rfl rfl)
theorem dX10_named_34 : decode cX10_named 34 = .ok (.getfield 30, 3) := dk_180 0 30 (dk_at dksX10_named_1 10 rfl rfl)
theorem dX10_named_37 : decode cX10_named 37 = .ok (.iload_n 1, 1) := dk_27 (dk_at dksX10_named_1 13 rfl rfl)
theorem dX10_named_38 : decode cX10_named 38 = .ok (.laload, 1) := dk_47 (dk_at dksX10_named_1 14 rfl rfl)
theorem dX10_named_39 : decode cX10_named 39 = .ok (.lcmp, 1) := dk_148 (dk_at dksX10_named_1 15 rfl rfl)
theorem dX10_named_40 : decode cX10_named 40 = .ok (.ifCond .ne 9, 3) := dk_154 0 9 (dk_at dksX10_named_1 16 rfl rfl)
theorem dX10_named_43 : decode cX10_named 43 = .ok (.aload_n 0, 1) := dk_42 (dk_at dksX10_named_1 19 rfl rfl)
theorem dX10_named_44 : decode cX10_named 44 = .ok (.iconst 3, 1) := dk_6 (dk_at dksX10_named_1 20 rfl rfl)
theorem dX10_named_45 : decode cX10_named 45 = .ok (.iload_n 1, 1) := dk_27 (dk_at dksX10_named_1 21 rfl rfl)
theorem dX10_named_46 : decode cX10_named 46 = .ok (.invokevirtual 284, 3) := dk_182 1 28 (dk_at dksX10_named_2 0 rfl rfl)
theorem dX10_named_49 : decode cX10_named 49 = .ok (.iinc 2 1, 3) := dk_132 2 1 (dk_at dksX10_named_2 3 rfl rfl)
theorem dX10_named_52 : decode cX10_named 52 = .ok (.goto (-40), 3) := dk_167 255 216 (dk_at dksX10_named_2 6 rfl rfl)
theorem dX10_named_55 : decode cX10_named 55 = .ok (.iload_n 1, 1) := dk_27 (dk_at dksX10_named_2 9 rfl rfl)
theorem dX10_named_56 : decode cX10_named 56 = .ok (.ireturn, 1) := dk_172 (dk_at dksX10_named_2 10 rfl rfl)
abbrev cX10_must : ByteArray := prog_21_method_18_code
def yX10_must : MethodName := ⟨RX10, "must", "(I)V"⟩
def dkwX10_must_0 : List UInt8 := [42, 27, 182, 0, 221, 153, 0, 10, 42, 182, 0, 224, 167, 0, 8, 42, 4, 182, 0, 218, 177]
abbrev dktX10_must_0 : List UInt8 := dkwX10_must_0 ++ []
theorem dksX10_must_0 : cX10_must.data.toList.drop 0 = dktX10_must_0 := by decide +kernel
theorem dX10_must_0 : decode cX10_must 0 = .ok (.aload_n 0, 1) := dk_42 (dk_at dksX10_must_0 0 rfl rfl)
theorem dX10_must_1 : decode cX10_must 1 = .ok (.iload_n 1, 1) := dk_27 (dk_at dksX10_must_0 1 rfl rfl)
theorem dX10_must_2 : decode cX10_must 2 = .ok (.invokevirtual 221, 3) := dk_182 0 221 (dk_at dksX10_must_0 2 rfl rfl)
theorem dX10_must_5 : decode cX10_must 5 = .ok (.ifCond .eq 10, 3) := dk_153 0 10 (dk_at dksX10_must_0 5 rfl rfl)
theorem dX10_must_8 : decode cX10_must 8 = .ok (.aload_n 0, 1) := dk_42 (dk_at dksX10_must_0 8 rfl rfl)
theorem dX10_must_9 : decode cX10_must 9 = .ok (.invokevirtual 224, 3) := dk_182 0 224 (dk_at dksX10_must_0 9 rfl rfl)
theorem dX10_must_12 : decode cX10_must 12 = .ok (.goto 8, 3) := dk_167 0 8 (dk_at dksX10_must_0 12 rfl rfl)
theorem dX10_must_15 : decode cX10_must 15 = .ok (.aload_n 0, 1) := dk_42 (dk_at dksX10_must_0 15 rfl rfl)
theorem dX10_must_16 : decode cX10_must 16 = .ok (.iconst 1, 1) := dk_4 (dk_at dksX10_must_0 16 rfl rfl)
theorem dX10_must_17 : decode cX10_must 17 = .ok (.invokevirtual 218, 3) := dk_182 0 218 (dk_at dksX10_must_0 17 rfl rfl)
theorem dX10_must_20 : decode cX10_must 20 = .ok (.return_, 1) := dk_177 (dk_at dksX10_must_0 20 rfl rfl)
abbrev cX10_wrong : ByteArray := prog_21_method_16_code
def yX10_wrong : MethodName := ⟨RX10, "wrong", "(II)V"⟩
def dkwX10_wrong_2 : List UInt8 := [27, 181, 0, 212, 42, 29, 181, 0, 215, 177]
abbrev dktX10_wrong_2 : List UInt8 := dkwX10_wrong_2 ++ []
def dkwX10_wrong_1 : List UInt8 := [180, 0, 215, 163, 0, 19, 29, 42, 180, 0, 215, 160, 0, 12, 27, 42, 180, 0, 212, 161, 0, 4, 177, 42]
abbrev dktX10_wrong_1 : List UInt8 := dkwX10_wrong_1 ++ dktX10_wrong_2
def dkwX10_wrong_0 : List UInt8 := [42, 180, 0, 24, 28, 46, 62, 42, 180, 0, 203, 157, 0, 34, 42, 180, 0, 212, 153, 0, 28, 29, 42]
abbrev dktX10_wrong_0 : List UInt8 := dkwX10_wrong_0 ++ dktX10_wrong_1
theorem dksX10_wrong_0 : cX10_wrong.data.toList.drop 0 = dktX10_wrong_0 := by decide +kernel
theorem dksX10_wrong_1 : cX10_wrong.data.toList.drop 23 = dktX10_wrong_1 := dk_seg dksX10_wrong_0 23 rfl rfl
theorem dksX10_wrong_2 : cX10_wrong.data.toList.drop 47 = dktX10_wrong_2 := dk_seg dksX10_wrong_1 24 rfl rfl
theorem dX10_wrong_0 : decode cX10_wrong 0 = .ok (.aload_n 0, 1) := dk_42 (dk_at dksX10_wrong_0 0 rfl rfl)
theorem dX10_wrong_1 : decode cX10_wrong 1 = .ok (.getfield 24, 3) := dk_180 0 24 (dk_at dksX10_wrong_0 1 rfl rfl)
theorem dX10_wrong_4 : decode cX10_wrong 4 = .ok (.iload_n 2, 1) := dk_28 (dk_at dksX10_wrong_0 4 rfl rfl)
theorem dX10_wrong_5 : decode cX10_wrong 5 = .ok (.iaload, 1) := dk_46 (dk_at dksX10_wrong_0 5 rfl rfl)
theorem dX10_wrong_6 : decode cX10_wrong 6 = .ok (.istore_n 3, 1) := dk_62 (dk_at dksX10_wrong_0 6 rfl rfl)
theorem dX10_wrong_7 : decode cX10_wrong 7 = .ok (.aload_n 0, 1) := dk_42 (dk_at dksX10_wrong_0 7 rfl rfl)
theorem dX10_wrong_8 : decode cX10_wrong 8 = .ok (.getfield 203, 3) := dk_180 0 203 (dk_at dksX10_wrong_0 8 rfl rfl)
theorem dX10_wrong_11 : decode cX10_wrong 11 = .ok (.ifCond .gt 34, 3) := dk_157 0 34 (dk_at dksX10_wrong_0 11 rfl rfl)
theorem dX10_wrong_14 : decode cX10_wrong 14 = .ok (.aload_n 0, 1) := dk_42 (dk_at dksX10_wrong_0 14 rfl rfl)
theorem dX10_wrong_15 : decode cX10_wrong 15 = .ok (.getfield 212, 3) := dk_180 0 212 (dk_at dksX10_wrong_0 15 rfl rfl)
theorem dX10_wrong_18 : decode cX10_wrong 18 = .ok (.ifCond .eq 28, 3) := dk_153 0 28 (dk_at dksX10_wrong_0 18 rfl rfl)
theorem dX10_wrong_21 : decode cX10_wrong 21 = .ok (.iload_n 3, 1) := dk_29 (dk_at dksX10_wrong_0 21 rfl rfl)
theorem dX10_wrong_22 : decode cX10_wrong 22 = .ok (.aload_n 0, 1) := dk_42 (dk_at dksX10_wrong_0 22 rfl rfl)
theorem dX10_wrong_23 : decode cX10_wrong 23 = .ok (.getfield 215, 3) := dk_180 0 215 (dk_at dksX10_wrong_1 0 rfl rfl)
theorem dX10_wrong_26 : decode cX10_wrong 26 = .ok (.if_icmp .gt 19, 3) := dk_163 0 19 (dk_at dksX10_wrong_1 3 rfl rfl)
theorem dX10_wrong_29 : decode cX10_wrong 29 = .ok (.iload_n 3, 1) := dk_29 (dk_at dksX10_wrong_1 6 rfl rfl)
theorem dX10_wrong_30 : decode cX10_wrong 30 = .ok (.aload_n 0, 1) := dk_42 (dk_at dksX10_wrong_1 7 rfl rfl)
theorem dX10_wrong_31 : decode cX10_wrong 31 = .ok (.getfield 215, 3) := dk_180 0 215 (dk_at dksX10_wrong_1 8 rfl rfl)
theorem dX10_wrong_34 : decode cX10_wrong 34 = .ok (.if_icmp .ne 12, 3) := dk_160 0 12 (dk_at dksX10_wrong_1 11 rfl rfl)
theorem dX10_wrong_37 : decode cX10_wrong 37 = .ok (.iload_n 1, 1) := dk_27 (dk_at dksX10_wrong_1 14 rfl rfl)
theorem dX10_wrong_38 : decode cX10_wrong 38 = .ok (.aload_n 0, 1) := dk_42 (dk_at dksX10_wrong_1 15 rfl rfl)
theorem dX10_wrong_39 : decode cX10_wrong 39 = .ok (.getfield 212, 3) := dk_180 0 212 (dk_at dksX10_wrong_1 16 rfl rfl)
theorem dX10_wrong_42 : decode cX10_wrong 42 = .ok (.if_icmp .lt 4, 3) := dk_161 0 4 (dk_at dksX10_wrong_1 19 rfl rfl)
theorem dX10_wrong_45 : decode cX10_wrong 45 = .ok (.return_, 1) := dk_177 (dk_at dksX10_wrong_1 22 rfl rfl)
theorem dX10_wrong_46 : decode cX10_wrong 46 = .ok (.aload_n 0, 1) := dk_42 (dk_at dksX10_wrong_1 23 rfl rfl)
theorem dX10_wrong_47 : decode cX10_wrong 47 = .ok (.iload_n 1, 1) := dk_27 (dk_at dksX10_wrong_2 0 rfl rfl)
theorem dX10_wrong_48 : decode cX10_wrong 48 = .ok (.putfield 212, 3) := dk_181 0 212 (dk_at dksX10_wrong_2 1 rfl rfl)
theorem dX10_wrong_51 : decode cX10_wrong 51 = .ok (.aload_n 0, 1) := dk_42 (dk_at dksX10_wrong_2 4 rfl rfl)
theorem dX10_wrong_52 : decode cX10_wrong 52 = .ok (.iload_n 3, 1) := dk_29 (dk_at dksX10_wrong_2 5 rfl rfl)
theorem dX10_wrong_53 : decode cX10_wrong 53 = .ok (.putfield 215, 3) := dk_181 0 215 (dk_at dksX10_wrong_2 6 rfl rfl)
theorem dX10_wrong_56 : decode cX10_wrong 56 = .ok (.return_, 1) := dk_177 (dk_at dksX10_wrong_2 9 rfl rfl)
abbrev cX10_bounded : ByteArray := prog_21_method_28_code
def yX10_bounded : MethodName := ⟨RX10, "bounded", "(II)I"⟩
def dkwX10_bounded_2 : List UInt8 := [180, 0, 206, 182, 1, 28, 42, 182, 0, 224, 29, 172]
abbrev dktX10_bounded_2 : List UInt8 := dkwX10_bounded_2 ++ []
def dkwX10_bounded_1 : List UInt8 := [180, 0, 27, 42, 180, 0, 206, 46, 62, 29, 27, 161, 0, 8, 29, 28, 164, 0, 12, 42, 8, 42]
abbrev dktX10_bounded_1 : List UInt8 := dkwX10_bounded_1 ++ dktX10_bounded_2
def dkwX10_bounded_0 : List UInt8 := [42, 180, 0, 203, 157, 0, 11, 42, 5, 182, 0, 221, 154, 0, 10, 42, 4, 182, 0, 218, 27, 172, 42]
abbrev dktX10_bounded_0 : List UInt8 := dkwX10_bounded_0 ++ dktX10_bounded_1
theorem dksX10_bounded_0 : cX10_bounded.data.toList.drop 0 = dktX10_bounded_0 := by decide +kernel
theorem dksX10_bounded_1 : cX10_bounded.data.toList.drop 23 = dktX10_bounded_1 := dk_seg dksX10_bounded_0 23 rfl rfl
theorem dksX10_bounded_2 : cX10_bounded.data.toList.drop 45 = dktX10_bounded_2 := dk_seg dksX10_bounded_1 22 rfl rfl
theorem dX10_bounded_0 : decode cX10_bounded 0 = .ok (.aload_n 0, 1) := dk_42 (dk_at dksX10_bounded_0 0 rfl rfl)
theorem dX10_bounded_1 : decode cX10_bounded 1 = .ok (.getfield 203, 3) := dk_180 0 203 (dk_at dksX10_bounded_0 1 rfl rfl)
theorem dX10_bounded_4 : decode cX10_bounded 4 = .ok (.ifCond .gt 11, 3) := dk_157 0 11 (dk_at dksX10_bounded_0 4 rfl rfl)
theorem dX10_bounded_7 : decode cX10_bounded 7 = .ok (.aload_n 0, 1) := dk_42 (dk_at dksX10_bounded_0 7 rfl rfl)
theorem dX10_bounded_8 : decode cX10_bounded 8 = .ok (.iconst 2, 1) := dk_5 (dk_at dksX10_bounded_0 8 rfl rfl)
theorem dX10_bounded_9 : decode cX10_bounded 9 = .ok (.invokevirtual 221, 3) := dk_182 0 221 (dk_at dksX10_bounded_0 9 rfl rfl)
theorem dX10_bounded_12 : decode cX10_bounded 12 = .ok (.ifCond .ne 10, 3) := dk_154 0 10 (dk_at dksX10_bounded_0 12 rfl rfl)
theorem dX10_bounded_15 : decode cX10_bounded 15 = .ok (.aload_n 0, 1) := dk_42 (dk_at dksX10_bounded_0 15 rfl rfl)
theorem dX10_bounded_16 : decode cX10_bounded 16 = .ok (.iconst 1, 1) := dk_4 (dk_at dksX10_bounded_0 16 rfl rfl)
theorem dX10_bounded_17 : decode cX10_bounded 17 = .ok (.invokevirtual 218, 3) := dk_182 0 218 (dk_at dksX10_bounded_0 17 rfl rfl)
theorem dX10_bounded_20 : decode cX10_bounded 20 = .ok (.iload_n 1, 1) := dk_27 (dk_at dksX10_bounded_0 20 rfl rfl)
theorem dX10_bounded_21 : decode cX10_bounded 21 = .ok (.ireturn, 1) := dk_172 (dk_at dksX10_bounded_0 21 rfl rfl)
theorem dX10_bounded_22 : decode cX10_bounded 22 = .ok (.aload_n 0, 1) := dk_42 (dk_at dksX10_bounded_0 22 rfl rfl)
theorem dX10_bounded_23 : decode cX10_bounded 23 = .ok (.getfield 27, 3) := dk_180 0 27 (dk_at dksX10_bounded_1 0 rfl rfl)
theorem dX10_bounded_26 : decode cX10_bounded 26 = .ok (.aload_n 0, 1) := dk_42 (dk_at dksX10_bounded_1 3 rfl rfl)
theorem dX10_bounded_27 : decode cX10_bounded 27 = .ok (.getfield 206, 3) := dk_180 0 206 (dk_at dksX10_bounded_1 4 rfl rfl)
theorem dX10_bounded_30 : decode cX10_bounded 30 = .ok (.iaload, 1) := dk_46 (dk_at dksX10_bounded_1 7 rfl rfl)
theorem dX10_bounded_31 : decode cX10_bounded 31 = .ok (.istore_n 3, 1) := dk_62 (dk_at dksX10_bounded_1 8 rfl rfl)
theorem dX10_bounded_32 : decode cX10_bounded 32 = .ok (.iload_n 3, 1) := dk_29 (dk_at dksX10_bounded_1 9 rfl rfl)
theorem dX10_bounded_33 : decode cX10_bounded 33 = .ok (.iload_n 1, 1) := dk_27 (dk_at dksX10_bounded_1 10 rfl rfl)
theorem dX10_bounded_34 : decode cX10_bounded 34 = .ok (.if_icmp .lt 8, 3) := dk_161 0 8 (dk_at dksX10_bounded_1 11 rfl rfl)
theorem dX10_bounded_37 : decode cX10_bounded 37 = .ok (.iload_n 3, 1) := dk_29 (dk_at dksX10_bounded_1 14 rfl rfl)
theorem dX10_bounded_38 : decode cX10_bounded 38 = .ok (.iload_n 2, 1) := dk_28 (dk_at dksX10_bounded_1 15 rfl rfl)
theorem dX10_bounded_39 : decode cX10_bounded 39 = .ok (.if_icmp .le 12, 3) := dk_164 0 12 (dk_at dksX10_bounded_1 16 rfl rfl)
theorem dX10_bounded_42 : decode cX10_bounded 42 = .ok (.aload_n 0, 1) := dk_42 (dk_at dksX10_bounded_1 19 rfl rfl)
theorem dX10_bounded_43 : decode cX10_bounded 43 = .ok (.iconst 5, 1) := dk_8 (dk_at dksX10_bounded_1 20 rfl rfl)
theorem dX10_bounded_44 : decode cX10_bounded 44 = .ok (.aload_n 0, 1) := dk_42 (dk_at dksX10_bounded_1 21 rfl rfl)
theorem dX10_bounded_45 : decode cX10_bounded 45 = .ok (.getfield 206, 3) := dk_180 0 206 (dk_at dksX10_bounded_2 0 rfl rfl)
theorem dX10_bounded_48 : decode cX10_bounded 48 = .ok (.invokevirtual 284, 3) := dk_182 1 28 (dk_at dksX10_bounded_2 3 rfl rfl)
theorem dX10_bounded_51 : decode cX10_bounded 51 = .ok (.aload_n 0, 1) := dk_42 (dk_at dksX10_bounded_2 6 rfl rfl)
theorem dX10_bounded_52 : decode cX10_bounded 52 = .ok (.invokevirtual 224, 3) := dk_182 0 224 (dk_at dksX10_bounded_2 7 rfl rfl)
theorem dX10_bounded_55 : decode cX10_bounded 55 = .ok (.iload_n 3, 1) := dk_29 (dk_at dksX10_bounded_2 10 rfl rfl)
theorem dX10_bounded_56 : decode cX10_bounded 56 = .ok (.ireturn, 1) := dk_172 (dk_at dksX10_bounded_2 11 rfl rfl)
abbrev cX10_endsName : ByteArray := prog_21_method_26_code
def yX10_endsName : MethodName := ⟨RX10, "endsName", "(II)V"⟩
def dkwX10_endsName_2 : List UInt8 := [181, 0, 239, 177]
abbrev dktX10_endsName_2 : List UInt8 := dkwX10_endsName_2 ++ []
def dkwX10_endsName_1 : List UInt8 := [180, 0, 30, 27, 47, 80, 42, 180, 0, 43, 42, 180, 0, 239, 28, 79, 42, 89, 180, 0, 239, 4, 96]
abbrev dktX10_endsName_1 : List UInt8 := dkwX10_endsName_1 ++ dktX10_endsName_2
def dkwX10_endsName_0 : List UInt8 := [42, 7, 182, 1, 5, 42, 180, 0, 203, 158, 0, 4, 177, 42, 180, 0, 40, 42, 180, 0, 239, 42]
abbrev dktX10_endsName_0 : List UInt8 := dkwX10_endsName_0 ++ dktX10_endsName_1
theorem dksX10_endsName_0 : cX10_endsName.data.toList.drop 0 = dktX10_endsName_0 := by decide +kernel
theorem dksX10_endsName_1 : cX10_endsName.data.toList.drop 22 = dktX10_endsName_1 := dk_seg dksX10_endsName_0 22 rfl rfl
theorem dksX10_endsName_2 : cX10_endsName.data.toList.drop 45 = dktX10_endsName_2 := dk_seg dksX10_endsName_1 23 rfl rfl
theorem dX10_endsName_0 : decode cX10_endsName 0 = .ok (.aload_n 0, 1) := dk_42 (dk_at dksX10_endsName_0 0 rfl rfl)
theorem dX10_endsName_1 : decode cX10_endsName 1 = .ok (.iconst 4, 1) := dk_7 (dk_at dksX10_endsName_0 1 rfl rfl)
theorem dX10_endsName_2 : decode cX10_endsName 2 = .ok (.invokevirtual 261, 3) := dk_182 1 5 (dk_at dksX10_endsName_0 2 rfl rfl)
theorem dX10_endsName_5 : decode cX10_endsName 5 = .ok (.aload_n 0, 1) := dk_42 (dk_at dksX10_endsName_0 5 rfl rfl)
theorem dX10_endsName_6 : decode cX10_endsName 6 = .ok (.getfield 203, 3) := dk_180 0 203 (dk_at dksX10_endsName_0 6 rfl rfl)
theorem dX10_endsName_9 : decode cX10_endsName 9 = .ok (.ifCond .le 4, 3) := dk_158 0 4 (dk_at dksX10_endsName_0 9 rfl rfl)
theorem dX10_endsName_12 : decode cX10_endsName 12 = .ok (.return_, 1) := dk_177 (dk_at dksX10_endsName_0 12 rfl rfl)
theorem dX10_endsName_13 : decode cX10_endsName 13 = .ok (.aload_n 0, 1) := dk_42 (dk_at dksX10_endsName_0 13 rfl rfl)
theorem dX10_endsName_14 : decode cX10_endsName 14 = .ok (.getfield 40, 3) := dk_180 0 40 (dk_at dksX10_endsName_0 14 rfl rfl)
theorem dX10_endsName_17 : decode cX10_endsName 17 = .ok (.aload_n 0, 1) := dk_42 (dk_at dksX10_endsName_0 17 rfl rfl)
theorem dX10_endsName_18 : decode cX10_endsName 18 = .ok (.getfield 239, 3) := dk_180 0 239 (dk_at dksX10_endsName_0 18 rfl rfl)
theorem dX10_endsName_21 : decode cX10_endsName 21 = .ok (.aload_n 0, 1) := dk_42 (dk_at dksX10_endsName_0 21 rfl rfl)
theorem dX10_endsName_22 : decode cX10_endsName 22 = .ok (.getfield 30, 3) := dk_180 0 30 (dk_at dksX10_endsName_1 0 rfl rfl)
theorem dX10_endsName_25 : decode cX10_endsName 25 = .ok (.iload_n 1, 1) := dk_27 (dk_at dksX10_endsName_1 3 rfl rfl)
theorem dX10_endsName_26 : decode cX10_endsName 26 = .ok (.laload, 1) := dk_47 (dk_at dksX10_endsName_1 4 rfl rfl)
theorem dX10_endsName_27 : decode cX10_endsName 27 = .ok (.lastore, 1) := dk_80 (dk_at dksX10_endsName_1 5 rfl rfl)
theorem dX10_endsName_28 : decode cX10_endsName 28 = .ok (.aload_n 0, 1) := dk_42 (dk_at dksX10_endsName_1 6 rfl rfl)
theorem dX10_endsName_29 : decode cX10_endsName 29 = .ok (.getfield 43, 3) := dk_180 0 43 (dk_at dksX10_endsName_1 7 rfl rfl)
theorem dX10_endsName_32 : decode cX10_endsName 32 = .ok (.aload_n 0, 1) := dk_42 (dk_at dksX10_endsName_1 10 rfl rfl)
theorem dX10_endsName_33 : decode cX10_endsName 33 = .ok (.getfield 239, 3) := dk_180 0 239 (dk_at dksX10_endsName_1 11 rfl rfl)
theorem dX10_endsName_36 : decode cX10_endsName 36 = .ok (.iload_n 2, 1) := dk_28 (dk_at dksX10_endsName_1 14 rfl rfl)
theorem dX10_endsName_37 : decode cX10_endsName 37 = .ok (.iastore, 1) := dk_79 (dk_at dksX10_endsName_1 15 rfl rfl)
theorem dX10_endsName_38 : decode cX10_endsName 38 = .ok (.aload_n 0, 1) := dk_42 (dk_at dksX10_endsName_1 16 rfl rfl)
theorem dX10_endsName_39 : decode cX10_endsName 39 = .ok (.dup, 1) := dk_89 (dk_at dksX10_endsName_1 17 rfl rfl)
theorem dX10_endsName_40 : decode cX10_endsName 40 = .ok (.getfield 239, 3) := dk_180 0 239 (dk_at dksX10_endsName_1 18 rfl rfl)
theorem dX10_endsName_43 : decode cX10_endsName 43 = .ok (.iconst 1, 1) := dk_4 (dk_at dksX10_endsName_1 21 rfl rfl)
theorem dX10_endsName_44 : decode cX10_endsName 44 = .ok (.iadd, 1) := dk_96 (dk_at dksX10_endsName_1 22 rfl rfl)
theorem dX10_endsName_45 : decode cX10_endsName 45 = .ok (.putfield 239, 3) := dk_181 0 239 (dk_at dksX10_endsName_2 0 rfl rfl)
theorem dX10_endsName_48 : decode cX10_endsName 48 = .ok (.return_, 1) := dk_177 (dk_at dksX10_endsName_2 3 rfl rfl)
abbrev cX10_tellRound : ByteArray := prog_21_method_29_code
def yX10_tellRound : MethodName := ⟨RX10, "tellRound", "()V"⟩
def dkwX10_tellRound_3 : List UInt8 := [42, 180, 0, 203, 154, 0, 16, 42, 180, 0, 58, 42, 180, 0, 236, 92, 46, 4, 96, 79, 177]
abbrev dktX10_tellRound_3 : List UInt8 := dkwX10_tellRound_3 ++ []
def dkwX10_tellRound_2 : List UInt8 := [16, 30, 182, 1, 1, 79, 42, 180, 0, 70, 27, 42, 3, 16, 29, 182, 1, 1, 79, 42, 7, 182, 1, 5]
abbrev dktX10_tellRound_2 : List UInt8 := dkwX10_tellRound_2 ++ dktX10_tellRound_3
def dkwX10_tellRound_1 : List UInt8 := [16, 10, 182, 1, 31, 79, 42, 180, 0, 64, 27, 42, 3, 182, 1, 31, 79, 42, 180, 0, 67, 27, 42, 4]
abbrev dktX10_tellRound_1 : List UInt8 := dkwX10_tellRound_1 ++ dktX10_tellRound_2
def dkwX10_tellRound_0 : List UInt8 := [16, 10, 42, 180, 0, 236, 104, 42, 180, 0, 58, 42, 180, 0, 236, 46, 96, 60, 42, 180, 0, 61, 27, 42]
abbrev dktX10_tellRound_0 : List UInt8 := dkwX10_tellRound_0 ++ dktX10_tellRound_1
theorem dksX10_tellRound_0 : cX10_tellRound.data.toList.drop 0 = dktX10_tellRound_0 := by decide +kernel
theorem dksX10_tellRound_1 : cX10_tellRound.data.toList.drop 24 = dktX10_tellRound_1 := dk_seg dksX10_tellRound_0 24 rfl rfl
theorem dksX10_tellRound_2 : cX10_tellRound.data.toList.drop 48 = dktX10_tellRound_2 := dk_seg dksX10_tellRound_1 24 rfl rfl
theorem dksX10_tellRound_3 : cX10_tellRound.data.toList.drop 72 = dktX10_tellRound_3 := dk_seg dksX10_tellRound_2 24 rfl rfl
theorem dX10_tellRound_0 : decode cX10_tellRound 0 = .ok (.bipush 10, 2) := dk_16 10 (dk_at dksX10_tellRound_0 0 rfl rfl)
theorem dX10_tellRound_2 : decode cX10_tellRound 2 = .ok (.aload_n 0, 1) := dk_42 (dk_at dksX10_tellRound_0 2 rfl rfl)
theorem dX10_tellRound_3 : decode cX10_tellRound 3 = .ok (.getfield 236, 3) := dk_180 0 236 (dk_at dksX10_tellRound_0 3 rfl rfl)
theorem dX10_tellRound_6 : decode cX10_tellRound 6 = .ok (.imul, 1) := dk_104 (dk_at dksX10_tellRound_0 6 rfl rfl)
theorem dX10_tellRound_7 : decode cX10_tellRound 7 = .ok (.aload_n 0, 1) := dk_42 (dk_at dksX10_tellRound_0 7 rfl rfl)
theorem dX10_tellRound_8 : decode cX10_tellRound 8 = .ok (.getfield 58, 3) := dk_180 0 58 (dk_at dksX10_tellRound_0 8 rfl rfl)
theorem dX10_tellRound_11 : decode cX10_tellRound 11 = .ok (.aload_n 0, 1) := dk_42 (dk_at dksX10_tellRound_0 11 rfl rfl)
theorem dX10_tellRound_12 : decode cX10_tellRound 12 = .ok (.getfield 236, 3) := dk_180 0 236 (dk_at dksX10_tellRound_0 12 rfl rfl)
theorem dX10_tellRound_15 : decode cX10_tellRound 15 = .ok (.iaload, 1) := dk_46 (dk_at dksX10_tellRound_0 15 rfl rfl)
theorem dX10_tellRound_16 : decode cX10_tellRound 16 = .ok (.iadd, 1) := dk_96 (dk_at dksX10_tellRound_0 16 rfl rfl)
theorem dX10_tellRound_17 : decode cX10_tellRound 17 = .ok (.istore_n 1, 1) := dk_60 (dk_at dksX10_tellRound_0 17 rfl rfl)
theorem dX10_tellRound_18 : decode cX10_tellRound 18 = .ok (.aload_n 0, 1) := dk_42 (dk_at dksX10_tellRound_0 18 rfl rfl)
theorem dX10_tellRound_19 : decode cX10_tellRound 19 = .ok (.getfield 61, 3) := dk_180 0 61 (dk_at dksX10_tellRound_0 19 rfl rfl)
theorem dX10_tellRound_22 : decode cX10_tellRound 22 = .ok (.iload_n 1, 1) := dk_27 (dk_at dksX10_tellRound_0 22 rfl rfl)
theorem dX10_tellRound_23 : decode cX10_tellRound 23 = .ok (.aload_n 0, 1) := dk_42 (dk_at dksX10_tellRound_0 23 rfl rfl)
theorem dX10_tellRound_24 : decode cX10_tellRound 24 = .ok (.bipush 10, 2) := dk_16 10 (dk_at dksX10_tellRound_1 0 rfl rfl)
theorem dX10_tellRound_26 : decode cX10_tellRound 26 = .ok (.invokevirtual 287, 3) := dk_182 1 31 (dk_at dksX10_tellRound_1 2 rfl rfl)
theorem dX10_tellRound_29 : decode cX10_tellRound 29 = .ok (.iastore, 1) := dk_79 (dk_at dksX10_tellRound_1 5 rfl rfl)
theorem dX10_tellRound_30 : decode cX10_tellRound 30 = .ok (.aload_n 0, 1) := dk_42 (dk_at dksX10_tellRound_1 6 rfl rfl)
theorem dX10_tellRound_31 : decode cX10_tellRound 31 = .ok (.getfield 64, 3) := dk_180 0 64 (dk_at dksX10_tellRound_1 7 rfl rfl)
theorem dX10_tellRound_34 : decode cX10_tellRound 34 = .ok (.iload_n 1, 1) := dk_27 (dk_at dksX10_tellRound_1 10 rfl rfl)
theorem dX10_tellRound_35 : decode cX10_tellRound 35 = .ok (.aload_n 0, 1) := dk_42 (dk_at dksX10_tellRound_1 11 rfl rfl)
theorem dX10_tellRound_36 : decode cX10_tellRound 36 = .ok (.iconst 0, 1) := dk_3 (dk_at dksX10_tellRound_1 12 rfl rfl)
theorem dX10_tellRound_37 : decode cX10_tellRound 37 = .ok (.invokevirtual 287, 3) := dk_182 1 31 (dk_at dksX10_tellRound_1 13 rfl rfl)
theorem dX10_tellRound_40 : decode cX10_tellRound 40 = .ok (.iastore, 1) := dk_79 (dk_at dksX10_tellRound_1 16 rfl rfl)
theorem dX10_tellRound_41 : decode cX10_tellRound 41 = .ok (.aload_n 0, 1) := dk_42 (dk_at dksX10_tellRound_1 17 rfl rfl)
theorem dX10_tellRound_42 : decode cX10_tellRound 42 = .ok (.getfield 67, 3) := dk_180 0 67 (dk_at dksX10_tellRound_1 18 rfl rfl)
theorem dX10_tellRound_45 : decode cX10_tellRound 45 = .ok (.iload_n 1, 1) := dk_27 (dk_at dksX10_tellRound_1 21 rfl rfl)
theorem dX10_tellRound_46 : decode cX10_tellRound 46 = .ok (.aload_n 0, 1) := dk_42 (dk_at dksX10_tellRound_1 22 rfl rfl)
theorem dX10_tellRound_47 : decode cX10_tellRound 47 = .ok (.iconst 1, 1) := dk_4 (dk_at dksX10_tellRound_1 23 rfl rfl)
theorem dX10_tellRound_48 : decode cX10_tellRound 48 = .ok (.bipush 30, 2) := dk_16 30 (dk_at dksX10_tellRound_2 0 rfl rfl)
theorem dX10_tellRound_50 : decode cX10_tellRound 50 = .ok (.invokevirtual 257, 3) := dk_182 1 1 (dk_at dksX10_tellRound_2 2 rfl rfl)
theorem dX10_tellRound_53 : decode cX10_tellRound 53 = .ok (.iastore, 1) := dk_79 (dk_at dksX10_tellRound_2 5 rfl rfl)
theorem dX10_tellRound_54 : decode cX10_tellRound 54 = .ok (.aload_n 0, 1) := dk_42 (dk_at dksX10_tellRound_2 6 rfl rfl)
theorem dX10_tellRound_55 : decode cX10_tellRound 55 = .ok (.getfield 70, 3) := dk_180 0 70 (dk_at dksX10_tellRound_2 7 rfl rfl)
theorem dX10_tellRound_58 : decode cX10_tellRound 58 = .ok (.iload_n 1, 1) := dk_27 (dk_at dksX10_tellRound_2 10 rfl rfl)
theorem dX10_tellRound_59 : decode cX10_tellRound 59 = .ok (.aload_n 0, 1) := dk_42 (dk_at dksX10_tellRound_2 11 rfl rfl)
theorem dX10_tellRound_60 : decode cX10_tellRound 60 = .ok (.iconst 0, 1) := dk_3 (dk_at dksX10_tellRound_2 12 rfl rfl)
theorem dX10_tellRound_61 : decode cX10_tellRound 61 = .ok (.bipush 29, 2) := dk_16 29 (dk_at dksX10_tellRound_2 13 rfl rfl)
theorem dX10_tellRound_63 : decode cX10_tellRound 63 = .ok (.invokevirtual 257, 3) := dk_182 1 1 (dk_at dksX10_tellRound_2 15 rfl rfl)
theorem dX10_tellRound_66 : decode cX10_tellRound 66 = .ok (.iastore, 1) := dk_79 (dk_at dksX10_tellRound_2 18 rfl rfl)
theorem dX10_tellRound_67 : decode cX10_tellRound 67 = .ok (.aload_n 0, 1) := dk_42 (dk_at dksX10_tellRound_2 19 rfl rfl)
theorem dX10_tellRound_68 : decode cX10_tellRound 68 = .ok (.iconst 4, 1) := dk_7 (dk_at dksX10_tellRound_2 20 rfl rfl)
theorem dX10_tellRound_69 : decode cX10_tellRound 69 = .ok (.invokevirtual 261, 3) := dk_182 1 5 (dk_at dksX10_tellRound_2 21 rfl rfl)
theorem dX10_tellRound_72 : decode cX10_tellRound 72 = .ok (.aload_n 0, 1) := dk_42 (dk_at dksX10_tellRound_3 0 rfl rfl)
theorem dX10_tellRound_73 : decode cX10_tellRound 73 = .ok (.getfield 203, 3) := dk_180 0 203 (dk_at dksX10_tellRound_3 1 rfl rfl)
theorem dX10_tellRound_76 : decode cX10_tellRound 76 = .ok (.ifCond .ne 16, 3) := dk_154 0 16 (dk_at dksX10_tellRound_3 4 rfl rfl)
theorem dX10_tellRound_79 : decode cX10_tellRound 79 = .ok (.aload_n 0, 1) := dk_42 (dk_at dksX10_tellRound_3 7 rfl rfl)
theorem dX10_tellRound_80 : decode cX10_tellRound 80 = .ok (.getfield 58, 3) := dk_180 0 58 (dk_at dksX10_tellRound_3 8 rfl rfl)
theorem dX10_tellRound_83 : decode cX10_tellRound 83 = .ok (.aload_n 0, 1) := dk_42 (dk_at dksX10_tellRound_3 11 rfl rfl)
theorem dX10_tellRound_84 : decode cX10_tellRound 84 = .ok (.getfield 236, 3) := dk_180 0 236 (dk_at dksX10_tellRound_3 12 rfl rfl)
theorem dX10_tellRound_87 : decode cX10_tellRound 87 = .ok (.dup2, 1) := dk_92 (dk_at dksX10_tellRound_3 15 rfl rfl)
theorem dX10_tellRound_88 : decode cX10_tellRound 88 = .ok (.iaload, 1) := dk_46 (dk_at dksX10_tellRound_3 16 rfl rfl)
theorem dX10_tellRound_89 : decode cX10_tellRound 89 = .ok (.iconst 1, 1) := dk_4 (dk_at dksX10_tellRound_3 17 rfl rfl)
theorem dX10_tellRound_90 : decode cX10_tellRound 90 = .ok (.iadd, 1) := dk_96 (dk_at dksX10_tellRound_3 18 rfl rfl)
theorem dX10_tellRound_91 : decode cX10_tellRound 91 = .ok (.iastore, 1) := dk_79 (dk_at dksX10_tellRound_3 19 rfl rfl)
theorem dX10_tellRound_92 : decode cX10_tellRound 92 = .ok (.return_, 1) := dk_177 (dk_at dksX10_tellRound_3 20 rfl rfl)
abbrev cX10_known : ByteArray := prog_21_method_27_code
def yX10_known : MethodName := ⟨RX10, "known", "(I)I"⟩
def dkwX10_known_3 : List UInt8 := [180, 0, 43, 29, 46, 27, 100, 172, 132, 3, 1, 167, 255, 197, 42, 7, 28, 182, 1, 28, 2, 172]
abbrev dktX10_known_3 : List UInt8 := dkwX10_known_3 ++ []
def dkwX10_known_2 : List UInt8 := [180, 0, 43, 29, 46, 27, 161, 0, 25, 42, 180, 0, 43, 29, 46, 27, 16, 10, 96, 162, 0, 12, 42]
abbrev dktX10_known_2 : List UInt8 := dkwX10_known_2 ++ dktX10_known_3
def dkwX10_known_1 : List UInt8 := [180, 0, 239, 162, 0, 57, 42, 180, 0, 40, 29, 47, 42, 180, 0, 30, 28, 47, 148, 154, 0, 35, 42]
abbrev dktX10_known_1 : List UInt8 := dkwX10_known_1 ++ dktX10_known_2
def dkwX10_known_0 : List UInt8 := [42, 180, 0, 206, 61, 42, 4, 182, 1, 5, 42, 180, 0, 203, 158, 0, 5, 2, 172, 3, 62, 29, 42]
abbrev dktX10_known_0 : List UInt8 := dkwX10_known_0 ++ dktX10_known_1
theorem dksX10_known_0 : cX10_known.data.toList.drop 0 = dktX10_known_0 := by decide +kernel
theorem dksX10_known_1 : cX10_known.data.toList.drop 23 = dktX10_known_1 := dk_seg dksX10_known_0 23 rfl rfl
theorem dksX10_known_2 : cX10_known.data.toList.drop 46 = dktX10_known_2 := dk_seg dksX10_known_1 23 rfl rfl
theorem dksX10_known_3 : cX10_known.data.toList.drop 69 = dktX10_known_3 := dk_seg dksX10_known_2 23 rfl rfl
theorem dX10_known_0 : decode cX10_known 0 = .ok (.aload_n 0, 1) := dk_42 (dk_at dksX10_known_0 0 rfl rfl)
theorem dX10_known_1 : decode cX10_known 1 = .ok (.getfield 206, 3) := dk_180 0 206 (dk_at dksX10_known_0 1 rfl rfl)
theorem dX10_known_4 : decode cX10_known 4 = .ok (.istore_n 2, 1) := dk_61 (dk_at dksX10_known_0 4 rfl rfl)
theorem dX10_known_5 : decode cX10_known 5 = .ok (.aload_n 0, 1) := dk_42 (dk_at dksX10_known_0 5 rfl rfl)
theorem dX10_known_6 : decode cX10_known 6 = .ok (.iconst 1, 1) := dk_4 (dk_at dksX10_known_0 6 rfl rfl)
theorem dX10_known_7 : decode cX10_known 7 = .ok (.invokevirtual 261, 3) := dk_182 1 5 (dk_at dksX10_known_0 7 rfl rfl)
theorem dX10_known_10 : decode cX10_known 10 = .ok (.aload_n 0, 1) := dk_42 (dk_at dksX10_known_0 10 rfl rfl)
theorem dX10_known_11 : decode cX10_known 11 = .ok (.getfield 203, 3) := dk_180 0 203 (dk_at dksX10_known_0 11 rfl rfl)
theorem dX10_known_14 : decode cX10_known 14 = .ok (.ifCond .le 5, 3) := dk_158 0 5 (dk_at dksX10_known_0 14 rfl rfl)
theorem dX10_known_17 : decode cX10_known 17 = .ok (.iconst (-1), 1) := dk_2 (dk_at dksX10_known_0 17 rfl rfl)
theorem dX10_known_18 : decode cX10_known 18 = .ok (.ireturn, 1) := dk_172 (dk_at dksX10_known_0 18 rfl rfl)
theorem dX10_known_19 : decode cX10_known 19 = .ok (.iconst 0, 1) := dk_3 (dk_at dksX10_known_0 19 rfl rfl)
theorem dX10_known_20 : decode cX10_known 20 = .ok (.istore_n 3, 1) := dk_62 (dk_at dksX10_known_0 20 rfl rfl)
theorem dX10_known_21 : decode cX10_known 21 = .ok (.iload_n 3, 1) := dk_29 (dk_at dksX10_known_0 21 rfl rfl)
theorem dX10_known_22 : decode cX10_known 22 = .ok (.aload_n 0, 1) := dk_42 (dk_at dksX10_known_0 22 rfl rfl)
theorem dX10_known_23 : decode cX10_known 23 = .ok (.getfield 239, 3) := dk_180 0 239 (dk_at dksX10_known_1 0 rfl rfl)
theorem dX10_known_26 : decode cX10_known 26 = .ok (.if_icmp .ge 57, 3) := dk_162 0 57 (dk_at dksX10_known_1 3 rfl rfl)
theorem dX10_known_29 : decode cX10_known 29 = .ok (.aload_n 0, 1) := dk_42 (dk_at dksX10_known_1 6 rfl rfl)
theorem dX10_known_30 : decode cX10_known 30 = .ok (.getfield 40, 3) := dk_180 0 40 (dk_at dksX10_known_1 7 rfl rfl)
theorem dX10_known_33 : decode cX10_known 33 = .ok (.iload_n 3, 1) := dk_29 (dk_at dksX10_known_1 10 rfl rfl)
theorem dX10_known_34 : decode cX10_known 34 = .ok (.laload, 1) := dk_47 (dk_at dksX10_known_1 11 rfl rfl)
theorem dX10_known_35 : decode cX10_known 35 = .ok (.aload_n 0, 1) := dk_42 (dk_at dksX10_known_1 12 rfl rfl)
theorem dX10_known_36 : decode cX10_known 36 = .ok (.getfield 30, 3) := dk_180 0 30 (dk_at dksX10_known_1 13 rfl rfl)
theorem dX10_known_39 : decode cX10_known 39 = .ok (.iload_n 2, 1) := dk_28 (dk_at dksX10_known_1 16 rfl rfl)
theorem dX10_known_40 : decode cX10_known 40 = .ok (.laload, 1) := dk_47 (dk_at dksX10_known_1 17 rfl rfl)
theorem dX10_known_41 : decode cX10_known 41 = .ok (.lcmp, 1) := dk_148 (dk_at dksX10_known_1 18 rfl rfl)
theorem dX10_known_42 : decode cX10_known 42 = .ok (.ifCond .ne 35, 3) := dk_154 0 35 (dk_at dksX10_known_1 19 rfl rfl)
theorem dX10_known_45 : decode cX10_known 45 = .ok (.aload_n 0, 1) := dk_42 (dk_at dksX10_known_1 22 rfl rfl)
theorem dX10_known_46 : decode cX10_known 46 = .ok (.getfield 43, 3) := dk_180 0 43 (dk_at dksX10_known_2 0 rfl rfl)
theorem dX10_known_49 : decode cX10_known 49 = .ok (.iload_n 3, 1) := dk_29 (dk_at dksX10_known_2 3 rfl rfl)
theorem dX10_known_50 : decode cX10_known 50 = .ok (.iaload, 1) := dk_46 (dk_at dksX10_known_2 4 rfl rfl)
theorem dX10_known_51 : decode cX10_known 51 = .ok (.iload_n 1, 1) := dk_27 (dk_at dksX10_known_2 5 rfl rfl)
theorem dX10_known_52 : decode cX10_known 52 = .ok (.if_icmp .lt 25, 3) := dk_161 0 25 (dk_at dksX10_known_2 6 rfl rfl)
theorem dX10_known_55 : decode cX10_known 55 = .ok (.aload_n 0, 1) := dk_42 (dk_at dksX10_known_2 9 rfl rfl)
theorem dX10_known_56 : decode cX10_known 56 = .ok (.getfield 43, 3) := dk_180 0 43 (dk_at dksX10_known_2 10 rfl rfl)
theorem dX10_known_59 : decode cX10_known 59 = .ok (.iload_n 3, 1) := dk_29 (dk_at dksX10_known_2 13 rfl rfl)
theorem dX10_known_60 : decode cX10_known 60 = .ok (.iaload, 1) := dk_46 (dk_at dksX10_known_2 14 rfl rfl)
theorem dX10_known_61 : decode cX10_known 61 = .ok (.iload_n 1, 1) := dk_27 (dk_at dksX10_known_2 15 rfl rfl)
theorem dX10_known_62 : decode cX10_known 62 = .ok (.bipush 10, 2) := dk_16 10 (dk_at dksX10_known_2 16 rfl rfl)
theorem dX10_known_64 : decode cX10_known 64 = .ok (.iadd, 1) := dk_96 (dk_at dksX10_known_2 18 rfl rfl)
theorem dX10_known_65 : decode cX10_known 65 = .ok (.if_icmp .ge 12, 3) := dk_162 0 12 (dk_at dksX10_known_2 19 rfl rfl)
theorem dX10_known_68 : decode cX10_known 68 = .ok (.aload_n 0, 1) := dk_42 (dk_at dksX10_known_2 22 rfl rfl)
theorem dX10_known_69 : decode cX10_known 69 = .ok (.getfield 43, 3) := dk_180 0 43 (dk_at dksX10_known_3 0 rfl rfl)
theorem dX10_known_72 : decode cX10_known 72 = .ok (.iload_n 3, 1) := dk_29 (dk_at dksX10_known_3 3 rfl rfl)
theorem dX10_known_73 : decode cX10_known 73 = .ok (.iaload, 1) := dk_46 (dk_at dksX10_known_3 4 rfl rfl)
theorem dX10_known_74 : decode cX10_known 74 = .ok (.iload_n 1, 1) := dk_27 (dk_at dksX10_known_3 5 rfl rfl)
theorem dX10_known_75 : decode cX10_known 75 = .ok (.isub, 1) := dk_100 (dk_at dksX10_known_3 6 rfl rfl)
theorem dX10_known_76 : decode cX10_known 76 = .ok (.ireturn, 1) := dk_172 (dk_at dksX10_known_3 7 rfl rfl)
theorem dX10_known_77 : decode cX10_known 77 = .ok (.iinc 3 1, 3) := dk_132 3 1 (dk_at dksX10_known_3 8 rfl rfl)
theorem dX10_known_80 : decode cX10_known 80 = .ok (.goto (-59), 3) := dk_167 255 197 (dk_at dksX10_known_3 11 rfl rfl)
theorem dX10_known_83 : decode cX10_known 83 = .ok (.aload_n 0, 1) := dk_42 (dk_at dksX10_known_3 14 rfl rfl)
theorem dX10_known_84 : decode cX10_known 84 = .ok (.iconst 4, 1) := dk_7 (dk_at dksX10_known_3 15 rfl rfl)
theorem dX10_known_85 : decode cX10_known 85 = .ok (.iload_n 2, 1) := dk_28 (dk_at dksX10_known_3 16 rfl rfl)
theorem dX10_known_86 : decode cX10_known 86 = .ok (.invokevirtual 284, 3) := dk_182 1 28 (dk_at dksX10_known_3 17 rfl rfl)
theorem dX10_known_89 : decode cX10_known 89 = .ok (.iconst (-1), 1) := dk_2 (dk_at dksX10_known_3 20 rfl rfl)
theorem dX10_known_90 : decode cX10_known 90 = .ok (.ireturn, 1) := dk_172 (dk_at dksX10_known_3 21 rfl rfl)
abbrev cX10_toldInt : ByteArray := prog_21_method_23_code
def yX10_toldInt : MethodName := ⟨RX10, "toldInt", "(II)I"⟩
def dkwX10_toldInt_0 : List UInt8 := [42, 182, 0, 224, 42, 27, 28, 182, 1, 1, 62, 42, 7, 182, 1, 5, 29, 172]
abbrev dktX10_toldInt_0 : List UInt8 := dkwX10_toldInt_0 ++ []
theorem dksX10_toldInt_0 : cX10_toldInt.data.toList.drop 0 = dktX10_toldInt_0 := by decide +kernel
theorem dX10_toldInt_0 : decode cX10_toldInt 0 = .ok (.aload_n 0, 1) := dk_42 (dk_at dksX10_toldInt_0 0 rfl rfl)
theorem dX10_toldInt_1 : decode cX10_toldInt 1 = .ok (.invokevirtual 224, 3) := dk_182 0 224 (dk_at dksX10_toldInt_0 1 rfl rfl)
theorem dX10_toldInt_4 : decode cX10_toldInt 4 = .ok (.aload_n 0, 1) := dk_42 (dk_at dksX10_toldInt_0 4 rfl rfl)
theorem dX10_toldInt_5 : decode cX10_toldInt 5 = .ok (.iload_n 1, 1) := dk_27 (dk_at dksX10_toldInt_0 5 rfl rfl)
theorem dX10_toldInt_6 : decode cX10_toldInt 6 = .ok (.iload_n 2, 1) := dk_28 (dk_at dksX10_toldInt_0 6 rfl rfl)
theorem dX10_toldInt_7 : decode cX10_toldInt 7 = .ok (.invokevirtual 257, 3) := dk_182 1 1 (dk_at dksX10_toldInt_0 7 rfl rfl)
theorem dX10_toldInt_10 : decode cX10_toldInt 10 = .ok (.istore_n 3, 1) := dk_62 (dk_at dksX10_toldInt_0 10 rfl rfl)
theorem dX10_toldInt_11 : decode cX10_toldInt 11 = .ok (.aload_n 0, 1) := dk_42 (dk_at dksX10_toldInt_0 11 rfl rfl)
theorem dX10_toldInt_12 : decode cX10_toldInt 12 = .ok (.iconst 4, 1) := dk_7 (dk_at dksX10_toldInt_0 12 rfl rfl)
theorem dX10_toldInt_13 : decode cX10_toldInt 13 = .ok (.invokevirtual 261, 3) := dk_182 1 5 (dk_at dksX10_toldInt_0 13 rfl rfl)
theorem dX10_toldInt_16 : decode cX10_toldInt 16 = .ok (.iload_n 3, 1) := dk_29 (dk_at dksX10_toldInt_0 16 rfl rfl)
theorem dX10_toldInt_17 : decode cX10_toldInt 17 = .ok (.ireturn, 1) := dk_172 (dk_at dksX10_toldInt_0 17 rfl rfl)
abbrev cX10_tellLaw : ByteArray := prog_21_method_30_code
def yX10_tellLaw : MethodName := ⟨RX10, "tellLaw", "(I)V"⟩
def dkwX10_tellLaw_8 : List UInt8 := [180, 0, 242, 79, 177]
abbrev dktX10_tellLaw_8 : List UInt8 := dkwX10_tellLaw_8 ++ []
def dkwX10_tellLaw_7 : List UInt8 := [42, 180, 0, 236, 104, 27, 96, 28, 79, 42, 180, 0, 85, 6, 42, 180, 0, 236, 104, 27, 96, 42]
abbrev dktX10_tellLaw_7 : List UInt8 := dkwX10_tellLaw_7 ++ dktX10_tellLaw_8
def dkwX10_tellLaw_6 : List UInt8 := [3, 84, 42, 182, 1, 37, 42, 7, 182, 1, 5, 42, 180, 0, 203, 158, 0, 4, 177, 42, 180, 0, 82, 6]
abbrev dktX10_tellLaw_6 : List UInt8 := dkwX10_tellLaw_6 ++ dktX10_tellLaw_7
def dkwX10_tellLaw_5 : List UInt8 := [182, 1, 5, 42, 182, 1, 37, 42, 16, 31, 182, 1, 5, 167, 255, 142, 42, 180, 0, 88, 42, 180, 0, 242]
abbrev dktX10_tellLaw_5 : List UInt8 := dkwX10_tellLaw_5 ++ dktX10_tellLaw_6
def dkwX10_tellLaw_4 : List UInt8 := [180, 0, 242, 42, 180, 0, 245, 79, 42, 180, 0, 203, 154, 0, 7, 42, 182, 1, 34, 42, 16, 30]
abbrev dktX10_tellLaw_4 : List UInt8 := dkwX10_tellLaw_4 ++ dktX10_tellLaw_5
def dkwX10_tellLaw_3 : List UInt8 := [180, 0, 242, 42, 180, 0, 245, 79, 42, 182, 1, 34, 42, 16, 13, 182, 1, 5, 42, 180, 0, 95, 42]
abbrev dktX10_tellLaw_3 : List UInt8 := dkwX10_tellLaw_3 ++ dktX10_tellLaw_4
def dkwX10_tellLaw_2 : List UInt8 := [132, 3, 1, 42, 182, 0, 224, 42, 180, 0, 88, 42, 180, 0, 242, 4, 84, 42, 180, 0, 92, 42]
abbrev dktX10_tellLaw_2 : List UInt8 := dkwX10_tellLaw_2 ++ dktX10_tellLaw_3
def dkwX10_tellLaw_1 : List UInt8 := [182, 0, 221, 153, 0, 104, 29, 7, 160, 0, 8, 42, 5, 182, 0, 218, 42, 180, 0, 203, 158, 0, 4, 177]
abbrev dktX10_tellLaw_1 : List UInt8 := dkwX10_tellLaw_1 ++ dktX10_tellLaw_2
def dkwX10_tellLaw_0 : List UInt8 := [42, 8, 182, 1, 5, 42, 180, 0, 242, 61, 3, 62, 42, 180, 0, 203, 154, 0, 113, 42, 16, 29]
abbrev dktX10_tellLaw_0 : List UInt8 := dkwX10_tellLaw_0 ++ dktX10_tellLaw_1
theorem dksX10_tellLaw_0 : cX10_tellLaw.data.toList.drop 0 = dktX10_tellLaw_0 := by decide +kernel
theorem dksX10_tellLaw_1 : cX10_tellLaw.data.toList.drop 22 = dktX10_tellLaw_1 := dk_seg dksX10_tellLaw_0 22 rfl rfl
theorem dksX10_tellLaw_2 : cX10_tellLaw.data.toList.drop 46 = dktX10_tellLaw_2 := dk_seg dksX10_tellLaw_1 24 rfl rfl
theorem dksX10_tellLaw_3 : cX10_tellLaw.data.toList.drop 68 = dktX10_tellLaw_3 := dk_seg dksX10_tellLaw_2 22 rfl rfl
theorem dksX10_tellLaw_4 : cX10_tellLaw.data.toList.drop 91 = dktX10_tellLaw_4 := dk_seg dksX10_tellLaw_3 23 rfl rfl
theorem dksX10_tellLaw_5 : cX10_tellLaw.data.toList.drop 113 = dktX10_tellLaw_5 := dk_seg dksX10_tellLaw_4 22 rfl rfl
theorem dksX10_tellLaw_6 : cX10_tellLaw.data.toList.drop 137 = dktX10_tellLaw_6 := dk_seg dksX10_tellLaw_5 24 rfl rfl
theorem dksX10_tellLaw_7 : cX10_tellLaw.data.toList.drop 161 = dktX10_tellLaw_7 := dk_seg dksX10_tellLaw_6 24 rfl rfl
theorem dksX10_tellLaw_8 : cX10_tellLaw.data.toList.drop 183 = dktX10_tellLaw_8 := dk_seg dksX10_tellLaw_7 22 rfl rfl
theorem dX10_tellLaw_0 : decode cX10_tellLaw 0 = .ok (.aload_n 0, 1) := dk_42 (dk_at dksX10_tellLaw_0 0 rfl rfl)
theorem dX10_tellLaw_1 : decode cX10_tellLaw 1 = .ok (.iconst 5, 1) := dk_8 (dk_at dksX10_tellLaw_0 1 rfl rfl)
theorem dX10_tellLaw_2 : decode cX10_tellLaw 2 = .ok (.invokevirtual 261, 3) := dk_182 1 5 (dk_at dksX10_tellLaw_0 2 rfl rfl)
theorem dX10_tellLaw_5 : decode cX10_tellLaw 5 = .ok (.aload_n 0, 1) := dk_42 (dk_at dksX10_tellLaw_0 5 rfl rfl)
theorem dX10_tellLaw_6 : decode cX10_tellLaw 6 = .ok (.getfield 242, 3) := dk_180 0 242 (dk_at dksX10_tellLaw_0 6 rfl rfl)
theorem dX10_tellLaw_9 : decode cX10_tellLaw 9 = .ok (.istore_n 2, 1) := dk_61 (dk_at dksX10_tellLaw_0 9 rfl rfl)
theorem dX10_tellLaw_10 : decode cX10_tellLaw 10 = .ok (.iconst 0, 1) := dk_3 (dk_at dksX10_tellLaw_0 10 rfl rfl)
theorem dX10_tellLaw_11 : decode cX10_tellLaw 11 = .ok (.istore_n 3, 1) := dk_62 (dk_at dksX10_tellLaw_0 11 rfl rfl)
theorem dX10_tellLaw_12 : decode cX10_tellLaw 12 = .ok (.aload_n 0, 1) := dk_42 (dk_at dksX10_tellLaw_0 12 rfl rfl)
theorem dX10_tellLaw_13 : decode cX10_tellLaw 13 = .ok (.getfield 203, 3) := dk_180 0 203 (dk_at dksX10_tellLaw_0 13 rfl rfl)
theorem dX10_tellLaw_16 : decode cX10_tellLaw 16 = .ok (.ifCond .ne 113, 3) := dk_154 0 113 (dk_at dksX10_tellLaw_0 16 rfl rfl)
theorem dX10_tellLaw_19 : decode cX10_tellLaw 19 = .ok (.aload_n 0, 1) := dk_42 (dk_at dksX10_tellLaw_0 19 rfl rfl)
theorem dX10_tellLaw_20 : decode cX10_tellLaw 20 = .ok (.bipush 29, 2) := dk_16 29 (dk_at dksX10_tellLaw_0 20 rfl rfl)
theorem dX10_tellLaw_22 : decode cX10_tellLaw 22 = .ok (.invokevirtual 221, 3) := dk_182 0 221 (dk_at dksX10_tellLaw_1 0 rfl rfl)
theorem dX10_tellLaw_25 : decode cX10_tellLaw 25 = .ok (.ifCond .eq 104, 3) := dk_153 0 104 (dk_at dksX10_tellLaw_1 3 rfl rfl)
theorem dX10_tellLaw_28 : decode cX10_tellLaw 28 = .ok (.iload_n 3, 1) := dk_29 (dk_at dksX10_tellLaw_1 6 rfl rfl)
theorem dX10_tellLaw_29 : decode cX10_tellLaw 29 = .ok (.iconst 4, 1) := dk_7 (dk_at dksX10_tellLaw_1 7 rfl rfl)
theorem dX10_tellLaw_30 : decode cX10_tellLaw 30 = .ok (.if_icmp .ne 8, 3) := dk_160 0 8 (dk_at dksX10_tellLaw_1 8 rfl rfl)
theorem dX10_tellLaw_33 : decode cX10_tellLaw 33 = .ok (.aload_n 0, 1) := dk_42 (dk_at dksX10_tellLaw_1 11 rfl rfl)
theorem dX10_tellLaw_34 : decode cX10_tellLaw 34 = .ok (.iconst 2, 1) := dk_5 (dk_at dksX10_tellLaw_1 12 rfl rfl)
theorem dX10_tellLaw_35 : decode cX10_tellLaw 35 = .ok (.invokevirtual 218, 3) := dk_182 0 218 (dk_at dksX10_tellLaw_1 13 rfl rfl)
theorem dX10_tellLaw_38 : decode cX10_tellLaw 38 = .ok (.aload_n 0, 1) := dk_42 (dk_at dksX10_tellLaw_1 16 rfl rfl)
theorem dX10_tellLaw_39 : decode cX10_tellLaw 39 = .ok (.getfield 203, 3) := dk_180 0 203 (dk_at dksX10_tellLaw_1 17 rfl rfl)
theorem dX10_tellLaw_42 : decode cX10_tellLaw 42 = .ok (.ifCond .le 4, 3) := dk_158 0 4 (dk_at dksX10_tellLaw_1 20 rfl rfl)
theorem dX10_tellLaw_45 : decode cX10_tellLaw 45 = .ok (.return_, 1) := dk_177 (dk_at dksX10_tellLaw_1 23 rfl rfl)
theorem dX10_tellLaw_46 : decode cX10_tellLaw 46 = .ok (.iinc 3 1, 3) := dk_132 3 1 (dk_at dksX10_tellLaw_2 0 rfl rfl)
theorem dX10_tellLaw_49 : decode cX10_tellLaw 49 = .ok (.aload_n 0, 1) := dk_42 (dk_at dksX10_tellLaw_2 3 rfl rfl)
theorem dX10_tellLaw_50 : decode cX10_tellLaw 50 = .ok (.invokevirtual 224, 3) := dk_182 0 224 (dk_at dksX10_tellLaw_2 4 rfl rfl)
theorem dX10_tellLaw_53 : decode cX10_tellLaw 53 = .ok (.aload_n 0, 1) := dk_42 (dk_at dksX10_tellLaw_2 7 rfl rfl)
theorem dX10_tellLaw_54 : decode cX10_tellLaw 54 = .ok (.getfield 88, 3) := dk_180 0 88 (dk_at dksX10_tellLaw_2 8 rfl rfl)
theorem dX10_tellLaw_57 : decode cX10_tellLaw 57 = .ok (.aload_n 0, 1) := dk_42 (dk_at dksX10_tellLaw_2 11 rfl rfl)
theorem dX10_tellLaw_58 : decode cX10_tellLaw 58 = .ok (.getfield 242, 3) := dk_180 0 242 (dk_at dksX10_tellLaw_2 12 rfl rfl)
theorem dX10_tellLaw_61 : decode cX10_tellLaw 61 = .ok (.iconst 1, 1) := dk_4 (dk_at dksX10_tellLaw_2 15 rfl rfl)
theorem dX10_tellLaw_62 : decode cX10_tellLaw 62 = .ok (.bastore, 1) := dk_84 (dk_at dksX10_tellLaw_2 16 rfl rfl)
theorem dX10_tellLaw_63 : decode cX10_tellLaw 63 = .ok (.aload_n 0, 1) := dk_42 (dk_at dksX10_tellLaw_2 17 rfl rfl)
theorem dX10_tellLaw_64 : decode cX10_tellLaw 64 = .ok (.getfield 92, 3) := dk_180 0 92 (dk_at dksX10_tellLaw_2 18 rfl rfl)
theorem dX10_tellLaw_67 : decode cX10_tellLaw 67 = .ok (.aload_n 0, 1) := dk_42 (dk_at dksX10_tellLaw_2 21 rfl rfl)
theorem dX10_tellLaw_68 : decode cX10_tellLaw 68 = .ok (.getfield 242, 3) := dk_180 0 242 (dk_at dksX10_tellLaw_3 0 rfl rfl)
theorem dX10_tellLaw_71 : decode cX10_tellLaw 71 = .ok (.aload_n 0, 1) := dk_42 (dk_at dksX10_tellLaw_3 3 rfl rfl)
theorem dX10_tellLaw_72 : decode cX10_tellLaw 72 = .ok (.getfield 245, 3) := dk_180 0 245 (dk_at dksX10_tellLaw_3 4 rfl rfl)
theorem dX10_tellLaw_75 : decode cX10_tellLaw 75 = .ok (.iastore, 1) := dk_79 (dk_at dksX10_tellLaw_3 7 rfl rfl)
theorem dX10_tellLaw_76 : decode cX10_tellLaw 76 = .ok (.aload_n 0, 1) := dk_42 (dk_at dksX10_tellLaw_3 8 rfl rfl)
theorem dX10_tellLaw_77 : decode cX10_tellLaw 77 = .ok (.invokevirtual 290, 3) := dk_182 1 34 (dk_at dksX10_tellLaw_3 9 rfl rfl)
theorem dX10_tellLaw_80 : decode cX10_tellLaw 80 = .ok (.aload_n 0, 1) := dk_42 (dk_at dksX10_tellLaw_3 12 rfl rfl)
theorem dX10_tellLaw_81 : decode cX10_tellLaw 81 = .ok (.bipush 13, 2) := dk_16 13 (dk_at dksX10_tellLaw_3 13 rfl rfl)
theorem dX10_tellLaw_83 : decode cX10_tellLaw 83 = .ok (.invokevirtual 261, 3) := dk_182 1 5 (dk_at dksX10_tellLaw_3 15 rfl rfl)
theorem dX10_tellLaw_86 : decode cX10_tellLaw 86 = .ok (.aload_n 0, 1) := dk_42 (dk_at dksX10_tellLaw_3 18 rfl rfl)
theorem dX10_tellLaw_87 : decode cX10_tellLaw 87 = .ok (.getfield 95, 3) := dk_180 0 95 (dk_at dksX10_tellLaw_3 19 rfl rfl)
theorem dX10_tellLaw_90 : decode cX10_tellLaw 90 = .ok (.aload_n 0, 1) := dk_42 (dk_at dksX10_tellLaw_3 22 rfl rfl)
theorem dX10_tellLaw_91 : decode cX10_tellLaw 91 = .ok (.getfield 242, 3) := dk_180 0 242 (dk_at dksX10_tellLaw_4 0 rfl rfl)
theorem dX10_tellLaw_94 : decode cX10_tellLaw 94 = .ok (.aload_n 0, 1) := dk_42 (dk_at dksX10_tellLaw_4 3 rfl rfl)
theorem dX10_tellLaw_95 : decode cX10_tellLaw 95 = .ok (.getfield 245, 3) := dk_180 0 245 (dk_at dksX10_tellLaw_4 4 rfl rfl)
theorem dX10_tellLaw_98 : decode cX10_tellLaw 98 = .ok (.iastore, 1) := dk_79 (dk_at dksX10_tellLaw_4 7 rfl rfl)
theorem dX10_tellLaw_99 : decode cX10_tellLaw 99 = .ok (.aload_n 0, 1) := dk_42 (dk_at dksX10_tellLaw_4 8 rfl rfl)
theorem dX10_tellLaw_100 : decode cX10_tellLaw 100 = .ok (.getfield 203, 3) := dk_180 0 203 (dk_at dksX10_tellLaw_4 9 rfl rfl)
theorem dX10_tellLaw_103 : decode cX10_tellLaw 103 = .ok (.ifCond .ne 7, 3) := dk_154 0 7 (dk_at dksX10_tellLaw_4 12 rfl rfl)
theorem dX10_tellLaw_106 : decode cX10_tellLaw 106 = .ok (.aload_n 0, 1) := dk_42 (dk_at dksX10_tellLaw_4 15 rfl rfl)
theorem dX10_tellLaw_107 : decode cX10_tellLaw 107 = .ok (.invokevirtual 290, 3) := dk_182 1 34 (dk_at dksX10_tellLaw_4 16 rfl rfl)
theorem dX10_tellLaw_110 : decode cX10_tellLaw 110 = .ok (.aload_n 0, 1) := dk_42 (dk_at dksX10_tellLaw_4 19 rfl rfl)
theorem dX10_tellLaw_111 : decode cX10_tellLaw 111 = .ok (.bipush 30, 2) := dk_16 30 (dk_at dksX10_tellLaw_4 20 rfl rfl)
theorem dX10_tellLaw_113 : decode cX10_tellLaw 113 = .ok (.invokevirtual 261, 3) := dk_182 1 5 (dk_at dksX10_tellLaw_5 0 rfl rfl)
theorem dX10_tellLaw_116 : decode cX10_tellLaw 116 = .ok (.aload_n 0, 1) := dk_42 (dk_at dksX10_tellLaw_5 3 rfl rfl)
theorem dX10_tellLaw_117 : decode cX10_tellLaw 117 = .ok (.invokevirtual 293, 3) := dk_182 1 37 (dk_at dksX10_tellLaw_5 4 rfl rfl)
theorem dX10_tellLaw_120 : decode cX10_tellLaw 120 = .ok (.aload_n 0, 1) := dk_42 (dk_at dksX10_tellLaw_5 7 rfl rfl)
theorem dX10_tellLaw_121 : decode cX10_tellLaw 121 = .ok (.bipush 31, 2) := dk_16 31 (dk_at dksX10_tellLaw_5 8 rfl rfl)
theorem dX10_tellLaw_123 : decode cX10_tellLaw 123 = .ok (.invokevirtual 261, 3) := dk_182 1 5 (dk_at dksX10_tellLaw_5 10 rfl rfl)
theorem dX10_tellLaw_126 : decode cX10_tellLaw 126 = .ok (.goto (-114), 3) := dk_167 255 142 (dk_at dksX10_tellLaw_5 13 rfl rfl)
theorem dX10_tellLaw_129 : decode cX10_tellLaw 129 = .ok (.aload_n 0, 1) := dk_42 (dk_at dksX10_tellLaw_5 16 rfl rfl)
theorem dX10_tellLaw_130 : decode cX10_tellLaw 130 = .ok (.getfield 88, 3) := dk_180 0 88 (dk_at dksX10_tellLaw_5 17 rfl rfl)
theorem dX10_tellLaw_133 : decode cX10_tellLaw 133 = .ok (.aload_n 0, 1) := dk_42 (dk_at dksX10_tellLaw_5 20 rfl rfl)
theorem dX10_tellLaw_134 : decode cX10_tellLaw 134 = .ok (.getfield 242, 3) := dk_180 0 242 (dk_at dksX10_tellLaw_5 21 rfl rfl)
theorem dX10_tellLaw_137 : decode cX10_tellLaw 137 = .ok (.iconst 0, 1) := dk_3 (dk_at dksX10_tellLaw_6 0 rfl rfl)
theorem dX10_tellLaw_138 : decode cX10_tellLaw 138 = .ok (.bastore, 1) := dk_84 (dk_at dksX10_tellLaw_6 1 rfl rfl)
theorem dX10_tellLaw_139 : decode cX10_tellLaw 139 = .ok (.aload_n 0, 1) := dk_42 (dk_at dksX10_tellLaw_6 2 rfl rfl)
theorem dX10_tellLaw_140 : decode cX10_tellLaw 140 = .ok (.invokevirtual 293, 3) := dk_182 1 37 (dk_at dksX10_tellLaw_6 3 rfl rfl)
theorem dX10_tellLaw_143 : decode cX10_tellLaw 143 = .ok (.aload_n 0, 1) := dk_42 (dk_at dksX10_tellLaw_6 6 rfl rfl)
theorem dX10_tellLaw_144 : decode cX10_tellLaw 144 = .ok (.iconst 4, 1) := dk_7 (dk_at dksX10_tellLaw_6 7 rfl rfl)
theorem dX10_tellLaw_145 : decode cX10_tellLaw 145 = .ok (.invokevirtual 261, 3) := dk_182 1 5 (dk_at dksX10_tellLaw_6 8 rfl rfl)
theorem dX10_tellLaw_148 : decode cX10_tellLaw 148 = .ok (.aload_n 0, 1) := dk_42 (dk_at dksX10_tellLaw_6 11 rfl rfl)
theorem dX10_tellLaw_149 : decode cX10_tellLaw 149 = .ok (.getfield 203, 3) := dk_180 0 203 (dk_at dksX10_tellLaw_6 12 rfl rfl)
theorem dX10_tellLaw_152 : decode cX10_tellLaw 152 = .ok (.ifCond .le 4, 3) := dk_158 0 4 (dk_at dksX10_tellLaw_6 15 rfl rfl)
theorem dX10_tellLaw_155 : decode cX10_tellLaw 155 = .ok (.return_, 1) := dk_177 (dk_at dksX10_tellLaw_6 18 rfl rfl)
theorem dX10_tellLaw_156 : decode cX10_tellLaw 156 = .ok (.aload_n 0, 1) := dk_42 (dk_at dksX10_tellLaw_6 19 rfl rfl)
theorem dX10_tellLaw_157 : decode cX10_tellLaw 157 = .ok (.getfield 82, 3) := dk_180 0 82 (dk_at dksX10_tellLaw_6 20 rfl rfl)
theorem dX10_tellLaw_160 : decode cX10_tellLaw 160 = .ok (.iconst 3, 1) := dk_6 (dk_at dksX10_tellLaw_6 23 rfl rfl)
theorem dX10_tellLaw_161 : decode cX10_tellLaw 161 = .ok (.aload_n 0, 1) := dk_42 (dk_at dksX10_tellLaw_7 0 rfl rfl)
theorem dX10_tellLaw_162 : decode cX10_tellLaw 162 = .ok (.getfield 236, 3) := dk_180 0 236 (dk_at dksX10_tellLaw_7 1 rfl rfl)
theorem dX10_tellLaw_165 : decode cX10_tellLaw 165 = .ok (.imul, 1) := dk_104 (dk_at dksX10_tellLaw_7 4 rfl rfl)
theorem dX10_tellLaw_166 : decode cX10_tellLaw 166 = .ok (.iload_n 1, 1) := dk_27 (dk_at dksX10_tellLaw_7 5 rfl rfl)
theorem dX10_tellLaw_167 : decode cX10_tellLaw 167 = .ok (.iadd, 1) := dk_96 (dk_at dksX10_tellLaw_7 6 rfl rfl)
theorem dX10_tellLaw_168 : decode cX10_tellLaw 168 = .ok (.iload_n 2, 1) := dk_28 (dk_at dksX10_tellLaw_7 7 rfl rfl)
theorem dX10_tellLaw_169 : decode cX10_tellLaw 169 = .ok (.iastore, 1) := dk_79 (dk_at dksX10_tellLaw_7 8 rfl rfl)
theorem dX10_tellLaw_170 : decode cX10_tellLaw 170 = .ok (.aload_n 0, 1) := dk_42 (dk_at dksX10_tellLaw_7 9 rfl rfl)
theorem dX10_tellLaw_171 : decode cX10_tellLaw 171 = .ok (.getfield 85, 3) := dk_180 0 85 (dk_at dksX10_tellLaw_7 10 rfl rfl)
theorem dX10_tellLaw_174 : decode cX10_tellLaw 174 = .ok (.iconst 3, 1) := dk_6 (dk_at dksX10_tellLaw_7 13 rfl rfl)
theorem dX10_tellLaw_175 : decode cX10_tellLaw 175 = .ok (.aload_n 0, 1) := dk_42 (dk_at dksX10_tellLaw_7 14 rfl rfl)
theorem dX10_tellLaw_176 : decode cX10_tellLaw 176 = .ok (.getfield 236, 3) := dk_180 0 236 (dk_at dksX10_tellLaw_7 15 rfl rfl)
theorem dX10_tellLaw_179 : decode cX10_tellLaw 179 = .ok (.imul, 1) := dk_104 (dk_at dksX10_tellLaw_7 18 rfl rfl)
theorem dX10_tellLaw_180 : decode cX10_tellLaw 180 = .ok (.iload_n 1, 1) := dk_27 (dk_at dksX10_tellLaw_7 19 rfl rfl)
theorem dX10_tellLaw_181 : decode cX10_tellLaw 181 = .ok (.iadd, 1) := dk_96 (dk_at dksX10_tellLaw_7 20 rfl rfl)
theorem dX10_tellLaw_182 : decode cX10_tellLaw 182 = .ok (.aload_n 0, 1) := dk_42 (dk_at dksX10_tellLaw_7 21 rfl rfl)
theorem dX10_tellLaw_183 : decode cX10_tellLaw 183 = .ok (.getfield 242, 3) := dk_180 0 242 (dk_at dksX10_tellLaw_8 0 rfl rfl)
theorem dX10_tellLaw_186 : decode cX10_tellLaw 186 = .ok (.iastore, 1) := dk_79 (dk_at dksX10_tellLaw_8 3 rfl rfl)
theorem dX10_tellLaw_187 : decode cX10_tellLaw 187 = .ok (.return_, 1) := dk_177 (dk_at dksX10_tellLaw_8 4 rfl rfl)
abbrev cX10_expression : ByteArray := prog_21_method_34_code
def yX10_expression : MethodName := ⟨RX10, "expression", "()V"⟩
def dkwX10_expression_11 : List UInt8 := [180, 1, 40, 4, 96, 181, 1, 40, 42, 182, 0, 224, 167, 254, 255, 177]
abbrev dktX10_expression_11 : List UInt8 := dkwX10_expression_11 ++ []
def dkwX10_expression_10 : List UInt8 := [182, 1, 49, 42, 180, 0, 110, 42, 180, 1, 40, 42, 180, 0, 20, 42, 180, 0, 206, 46, 79, 42, 89]
abbrev dktX10_expression_10 : List UInt8 := dkwX10_expression_10 ++ dktX10_expression_11
def dkwX10_expression_9 : List UInt8 := [16, 10, 182, 0, 221, 154, 0, 12, 42, 16, 15, 182, 0, 221, 153, 0, 7, 4, 167, 0, 4, 3]
abbrev dktX10_expression_9 : List UInt8 := dkwX10_expression_9 ++ dktX10_expression_10
def dkwX10_expression_8 : List UInt8 := [154, 0, 22, 42, 180, 0, 230, 27, 164, 0, 8, 42, 4, 182, 0, 218, 42, 3, 182, 1, 49, 177, 42, 42]
abbrev dktX10_expression_8 : List UInt8 := dkwX10_expression_8 ++ dktX10_expression_9
def dkwX10_expression_7 : List UInt8 := [182, 0, 221, 154, 0, 12, 42, 16, 15, 182, 0, 221, 153, 0, 7, 4, 167, 0, 4, 3, 61, 28]
abbrev dktX10_expression_7 : List UInt8 := dkwX10_expression_7 ++ dktX10_expression_8
def dkwX10_expression_6 : List UInt8 := [167, 255, 210, 42, 16, 8, 182, 0, 221, 154, 0, 30, 42, 16, 9, 182, 0, 221, 154, 0, 21, 42, 16, 10]
abbrev dktX10_expression_6 : List UInt8 := dkwX10_expression_6 ++ dktX10_expression_7
def dkwX10_expression_5 : List UInt8 := [180, 1, 40, 4, 100, 181, 1, 40, 42, 89, 180, 0, 230, 4, 100, 181, 0, 230, 42, 182, 0, 224]
abbrev dktX10_expression_5 : List UInt8 := dkwX10_expression_5 ++ dktX10_expression_6
def dkwX10_expression_4 : List UInt8 := [42, 16, 7, 182, 0, 221, 153, 0, 43, 42, 180, 0, 230, 27, 164, 0, 35, 42, 3, 182, 1, 49, 42, 89]
abbrev dktX10_expression_4 : List UInt8 := dkwX10_expression_4 ++ dktX10_expression_5
def dkwX10_expression_3 : List UInt8 := [89, 180, 1, 40, 4, 96, 181, 1, 40, 167, 255, 198, 42, 182, 1, 46, 42, 180, 0, 203, 158, 0, 4, 177]
abbrev dktX10_expression_3 : List UInt8 := dkwX10_expression_3 ++ dktX10_expression_4
def dkwX10_expression_2 : List UInt8 := [180, 0, 230, 4, 96, 181, 0, 230, 42, 182, 0, 224, 42, 180, 0, 110, 42, 180, 1, 40, 16, 6, 79, 42]
abbrev dktX10_expression_2 : List UInt8 := dkwX10_expression_2 ++ dktX10_expression_3
def dkwX10_expression_1 : List UInt8 := [16, 6, 182, 0, 221, 153, 0, 55, 42, 180, 0, 230, 16, 6, 160, 0, 8, 42, 5, 182, 0, 218, 42, 89]
abbrev dktX10_expression_1 : List UInt8 := dkwX10_expression_1 ++ dktX10_expression_2
def dkwX10_expression_0 : List UInt8 := [42, 3, 181, 1, 40, 42, 180, 0, 230, 60, 4, 61, 28, 153, 1, 3, 42, 180, 0, 203, 154, 0, 252, 42]
abbrev dktX10_expression_0 : List UInt8 := dkwX10_expression_0 ++ dktX10_expression_1
theorem dksX10_expression_0 : cX10_expression.data.toList.drop 0 = dktX10_expression_0 := by decide +kernel
theorem dksX10_expression_1 : cX10_expression.data.toList.drop 24 = dktX10_expression_1 := dk_seg dksX10_expression_0 24 rfl rfl
theorem dksX10_expression_2 : cX10_expression.data.toList.drop 48 = dktX10_expression_2 := dk_seg dksX10_expression_1 24 rfl rfl
theorem dksX10_expression_3 : cX10_expression.data.toList.drop 72 = dktX10_expression_3 := dk_seg dksX10_expression_2 24 rfl rfl
theorem dksX10_expression_4 : cX10_expression.data.toList.drop 96 = dktX10_expression_4 := dk_seg dksX10_expression_3 24 rfl rfl
theorem dksX10_expression_5 : cX10_expression.data.toList.drop 120 = dktX10_expression_5 := dk_seg dksX10_expression_4 24 rfl rfl
theorem dksX10_expression_6 : cX10_expression.data.toList.drop 142 = dktX10_expression_6 := dk_seg dksX10_expression_5 22 rfl rfl
theorem dksX10_expression_7 : cX10_expression.data.toList.drop 166 = dktX10_expression_7 := dk_seg dksX10_expression_6 24 rfl rfl
theorem dksX10_expression_8 : cX10_expression.data.toList.drop 188 = dktX10_expression_8 := dk_seg dksX10_expression_7 22 rfl rfl
theorem dksX10_expression_9 : cX10_expression.data.toList.drop 212 = dktX10_expression_9 := dk_seg dksX10_expression_8 24 rfl rfl
theorem dksX10_expression_10 : cX10_expression.data.toList.drop 234 = dktX10_expression_10 := dk_seg dksX10_expression_9 22 rfl rfl
theorem dksX10_expression_11 : cX10_expression.data.toList.drop 257 = dktX10_expression_11 := dk_seg dksX10_expression_10 23 rfl rfl
theorem dX10_expression_0 : decode cX10_expression 0 = .ok (.aload_n 0, 1) := dk_42 (dk_at dksX10_expression_0 0 rfl rfl)
theorem dX10_expression_1 : decode cX10_expression 1 = .ok (.iconst 0, 1) := dk_3 (dk_at dksX10_expression_0 1 rfl rfl)
theorem dX10_expression_2 : decode cX10_expression 2 = .ok (.putfield 296, 3) := dk_181 1 40 (dk_at dksX10_expression_0 2 rfl rfl)
theorem dX10_expression_5 : decode cX10_expression 5 = .ok (.aload_n 0, 1) := dk_42 (dk_at dksX10_expression_0 5 rfl rfl)
theorem dX10_expression_6 : decode cX10_expression 6 = .ok (.getfield 230, 3) := dk_180 0 230 (dk_at dksX10_expression_0 6 rfl rfl)
theorem dX10_expression_9 : decode cX10_expression 9 = .ok (.istore_n 1, 1) := dk_60 (dk_at dksX10_expression_0 9 rfl rfl)
theorem dX10_expression_10 : decode cX10_expression 10 = .ok (.iconst 1, 1) := dk_4 (dk_at dksX10_expression_0 10 rfl rfl)
theorem dX10_expression_11 : decode cX10_expression 11 = .ok (.istore_n 2, 1) := dk_61 (dk_at dksX10_expression_0 11 rfl rfl)
theorem dX10_expression_12 : decode cX10_expression 12 = .ok (.iload_n 2, 1) := dk_28 (dk_at dksX10_expression_0 12 rfl rfl)
theorem dX10_expression_13 : decode cX10_expression 13 = .ok (.ifCond .eq 259, 3) := dk_153 1 3 (dk_at dksX10_expression_0 13 rfl rfl)
theorem dX10_expression_16 : decode cX10_expression 16 = .ok (.aload_n 0, 1) := dk_42 (dk_at dksX10_expression_0 16 rfl rfl)
theorem dX10_expression_17 : decode cX10_expression 17 = .ok (.getfield 203, 3) := dk_180 0 203 (dk_at dksX10_expression_0 17 rfl rfl)
theorem dX10_expression_20 : decode cX10_expression 20 = .ok (.ifCond .ne 252, 3) := dk_154 0 252 (dk_at dksX10_expression_0 20 rfl rfl)
theorem dX10_expression_23 : decode cX10_expression 23 = .ok (.aload_n 0, 1) := dk_42 (dk_at dksX10_expression_0 23 rfl rfl)
theorem dX10_expression_24 : decode cX10_expression 24 = .ok (.bipush 6, 2) := dk_16 6 (dk_at dksX10_expression_1 0 rfl rfl)
theorem dX10_expression_26 : decode cX10_expression 26 = .ok (.invokevirtual 221, 3) := dk_182 0 221 (dk_at dksX10_expression_1 2 rfl rfl)
theorem dX10_expression_29 : decode cX10_expression 29 = .ok (.ifCond .eq 55, 3) := dk_153 0 55 (dk_at dksX10_expression_1 5 rfl rfl)
theorem dX10_expression_32 : decode cX10_expression 32 = .ok (.aload_n 0, 1) := dk_42 (dk_at dksX10_expression_1 8 rfl rfl)
theorem dX10_expression_33 : decode cX10_expression 33 = .ok (.getfield 230, 3) := dk_180 0 230 (dk_at dksX10_expression_1 9 rfl rfl)
theorem dX10_expression_36 : decode cX10_expression 36 = .ok (.bipush 6, 2) := dk_16 6 (dk_at dksX10_expression_1 12 rfl rfl)
theorem dX10_expression_38 : decode cX10_expression 38 = .ok (.if_icmp .ne 8, 3) := dk_160 0 8 (dk_at dksX10_expression_1 14 rfl rfl)
theorem dX10_expression_41 : decode cX10_expression 41 = .ok (.aload_n 0, 1) := dk_42 (dk_at dksX10_expression_1 17 rfl rfl)
theorem dX10_expression_42 : decode cX10_expression 42 = .ok (.iconst 2, 1) := dk_5 (dk_at dksX10_expression_1 18 rfl rfl)
theorem dX10_expression_43 : decode cX10_expression 43 = .ok (.invokevirtual 218, 3) := dk_182 0 218 (dk_at dksX10_expression_1 19 rfl rfl)
theorem dX10_expression_46 : decode cX10_expression 46 = .ok (.aload_n 0, 1) := dk_42 (dk_at dksX10_expression_1 22 rfl rfl)
theorem dX10_expression_47 : decode cX10_expression 47 = .ok (.dup, 1) := dk_89 (dk_at dksX10_expression_1 23 rfl rfl)
theorem dX10_expression_48 : decode cX10_expression 48 = .ok (.getfield 230, 3) := dk_180 0 230 (dk_at dksX10_expression_2 0 rfl rfl)
theorem dX10_expression_51 : decode cX10_expression 51 = .ok (.iconst 1, 1) := dk_4 (dk_at dksX10_expression_2 3 rfl rfl)
theorem dX10_expression_52 : decode cX10_expression 52 = .ok (.iadd, 1) := dk_96 (dk_at dksX10_expression_2 4 rfl rfl)
theorem dX10_expression_53 : decode cX10_expression 53 = .ok (.putfield 230, 3) := dk_181 0 230 (dk_at dksX10_expression_2 5 rfl rfl)
theorem dX10_expression_56 : decode cX10_expression 56 = .ok (.aload_n 0, 1) := dk_42 (dk_at dksX10_expression_2 8 rfl rfl)
theorem dX10_expression_57 : decode cX10_expression 57 = .ok (.invokevirtual 224, 3) := dk_182 0 224 (dk_at dksX10_expression_2 9 rfl rfl)
theorem dX10_expression_60 : decode cX10_expression 60 = .ok (.aload_n 0, 1) := dk_42 (dk_at dksX10_expression_2 12 rfl rfl)
theorem dX10_expression_61 : decode cX10_expression 61 = .ok (.getfield 110, 3) := dk_180 0 110 (dk_at dksX10_expression_2 13 rfl rfl)
theorem dX10_expression_64 : decode cX10_expression 64 = .ok (.aload_n 0, 1) := dk_42 (dk_at dksX10_expression_2 16 rfl rfl)
theorem dX10_expression_65 : decode cX10_expression 65 = .ok (.getfield 296, 3) := dk_180 1 40 (dk_at dksX10_expression_2 17 rfl rfl)
theorem dX10_expression_68 : decode cX10_expression 68 = .ok (.bipush 6, 2) := dk_16 6 (dk_at dksX10_expression_2 20 rfl rfl)
theorem dX10_expression_70 : decode cX10_expression 70 = .ok (.iastore, 1) := dk_79 (dk_at dksX10_expression_2 22 rfl rfl)
theorem dX10_expression_71 : decode cX10_expression 71 = .ok (.aload_n 0, 1) := dk_42 (dk_at dksX10_expression_2 23 rfl rfl)
theorem dX10_expression_72 : decode cX10_expression 72 = .ok (.dup, 1) := dk_89 (dk_at dksX10_expression_3 0 rfl rfl)
theorem dX10_expression_73 : decode cX10_expression 73 = .ok (.getfield 296, 3) := dk_180 1 40 (dk_at dksX10_expression_3 1 rfl rfl)
theorem dX10_expression_76 : decode cX10_expression 76 = .ok (.iconst 1, 1) := dk_4 (dk_at dksX10_expression_3 4 rfl rfl)
theorem dX10_expression_77 : decode cX10_expression 77 = .ok (.iadd, 1) := dk_96 (dk_at dksX10_expression_3 5 rfl rfl)
theorem dX10_expression_78 : decode cX10_expression 78 = .ok (.putfield 296, 3) := dk_181 1 40 (dk_at dksX10_expression_3 6 rfl rfl)
theorem dX10_expression_81 : decode cX10_expression 81 = .ok (.goto (-58), 3) := dk_167 255 198 (dk_at dksX10_expression_3 9 rfl rfl)
theorem dX10_expression_84 : decode cX10_expression 84 = .ok (.aload_n 0, 1) := dk_42 (dk_at dksX10_expression_3 12 rfl rfl)
theorem dX10_expression_85 : decode cX10_expression 85 = .ok (.invokevirtual 302, 3) := dk_182 1 46 (dk_at dksX10_expression_3 13 rfl rfl)
theorem dX10_expression_88 : decode cX10_expression 88 = .ok (.aload_n 0, 1) := dk_42 (dk_at dksX10_expression_3 16 rfl rfl)
theorem dX10_expression_89 : decode cX10_expression 89 = .ok (.getfield 203, 3) := dk_180 0 203 (dk_at dksX10_expression_3 17 rfl rfl)
theorem dX10_expression_92 : decode cX10_expression 92 = .ok (.ifCond .le 4, 3) := dk_158 0 4 (dk_at dksX10_expression_3 20 rfl rfl)
theorem dX10_expression_95 : decode cX10_expression 95 = .ok (.return_, 1) := dk_177 (dk_at dksX10_expression_3 23 rfl rfl)
theorem dX10_expression_96 : decode cX10_expression 96 = .ok (.aload_n 0, 1) := dk_42 (dk_at dksX10_expression_4 0 rfl rfl)
theorem dX10_expression_97 : decode cX10_expression 97 = .ok (.bipush 7, 2) := dk_16 7 (dk_at dksX10_expression_4 1 rfl rfl)
theorem dX10_expression_99 : decode cX10_expression 99 = .ok (.invokevirtual 221, 3) := dk_182 0 221 (dk_at dksX10_expression_4 3 rfl rfl)
theorem dX10_expression_102 : decode cX10_expression 102 = .ok (.ifCond .eq 43, 3) := dk_153 0 43 (dk_at dksX10_expression_4 6 rfl rfl)
theorem dX10_expression_105 : decode cX10_expression 105 = .ok (.aload_n 0, 1) := dk_42 (dk_at dksX10_expression_4 9 rfl rfl)
theorem dX10_expression_106 : decode cX10_expression 106 = .ok (.getfield 230, 3) := dk_180 0 230 (dk_at dksX10_expression_4 10 rfl rfl)
theorem dX10_expression_109 : decode cX10_expression 109 = .ok (.iload_n 1, 1) := dk_27 (dk_at dksX10_expression_4 13 rfl rfl)
theorem dX10_expression_110 : decode cX10_expression 110 = .ok (.if_icmp .le 35, 3) := dk_164 0 35 (dk_at dksX10_expression_4 14 rfl rfl)
theorem dX10_expression_113 : decode cX10_expression 113 = .ok (.aload_n 0, 1) := dk_42 (dk_at dksX10_expression_4 17 rfl rfl)
theorem dX10_expression_114 : decode cX10_expression 114 = .ok (.iconst 0, 1) := dk_3 (dk_at dksX10_expression_4 18 rfl rfl)
theorem dX10_expression_115 : decode cX10_expression 115 = .ok (.invokevirtual 305, 3) := dk_182 1 49 (dk_at dksX10_expression_4 19 rfl rfl)
theorem dX10_expression_118 : decode cX10_expression 118 = .ok (.aload_n 0, 1) := dk_42 (dk_at dksX10_expression_4 22 rfl rfl)
theorem dX10_expression_119 : decode cX10_expression 119 = .ok (.dup, 1) := dk_89 (dk_at dksX10_expression_4 23 rfl rfl)
theorem dX10_expression_120 : decode cX10_expression 120 = .ok (.getfield 296, 3) := dk_180 1 40 (dk_at dksX10_expression_5 0 rfl rfl)
theorem dX10_expression_123 : decode cX10_expression 123 = .ok (.iconst 1, 1) := dk_4 (dk_at dksX10_expression_5 3 rfl rfl)
theorem dX10_expression_124 : decode cX10_expression 124 = .ok (.isub, 1) := dk_100 (dk_at dksX10_expression_5 4 rfl rfl)
theorem dX10_expression_125 : decode cX10_expression 125 = .ok (.putfield 296, 3) := dk_181 1 40 (dk_at dksX10_expression_5 5 rfl rfl)
theorem dX10_expression_128 : decode cX10_expression 128 = .ok (.aload_n 0, 1) := dk_42 (dk_at dksX10_expression_5 8 rfl rfl)
theorem dX10_expression_129 : decode cX10_expression 129 = .ok (.dup, 1) := dk_89 (dk_at dksX10_expression_5 9 rfl rfl)
theorem dX10_expression_130 : decode cX10_expression 130 = .ok (.getfield 230, 3) := dk_180 0 230 (dk_at dksX10_expression_5 10 rfl rfl)
theorem dX10_expression_133 : decode cX10_expression 133 = .ok (.iconst 1, 1) := dk_4 (dk_at dksX10_expression_5 13 rfl rfl)
theorem dX10_expression_134 : decode cX10_expression 134 = .ok (.isub, 1) := dk_100 (dk_at dksX10_expression_5 14 rfl rfl)
theorem dX10_expression_135 : decode cX10_expression 135 = .ok (.putfield 230, 3) := dk_181 0 230 (dk_at dksX10_expression_5 15 rfl rfl)
theorem dX10_expression_138 : decode cX10_expression 138 = .ok (.aload_n 0, 1) := dk_42 (dk_at dksX10_expression_5 18 rfl rfl)
theorem dX10_expression_139 : decode cX10_expression 139 = .ok (.invokevirtual 224, 3) := dk_182 0 224 (dk_at dksX10_expression_5 19 rfl rfl)
theorem dX10_expression_142 : decode cX10_expression 142 = .ok (.goto (-46), 3) := dk_167 255 210 (dk_at dksX10_expression_6 0 rfl rfl)
theorem dX10_expression_145 : decode cX10_expression 145 = .ok (.aload_n 0, 1) := dk_42 (dk_at dksX10_expression_6 3 rfl rfl)
theorem dX10_expression_146 : decode cX10_expression 146 = .ok (.bipush 8, 2) := dk_16 8 (dk_at dksX10_expression_6 4 rfl rfl)
theorem dX10_expression_148 : decode cX10_expression 148 = .ok (.invokevirtual 221, 3) := dk_182 0 221 (dk_at dksX10_expression_6 6 rfl rfl)
theorem dX10_expression_151 : decode cX10_expression 151 = .ok (.ifCond .ne 30, 3) := dk_154 0 30 (dk_at dksX10_expression_6 9 rfl rfl)
theorem dX10_expression_154 : decode cX10_expression 154 = .ok (.aload_n 0, 1) := dk_42 (dk_at dksX10_expression_6 12 rfl rfl)
theorem dX10_expression_155 : decode cX10_expression 155 = .ok (.bipush 9, 2) := dk_16 9 (dk_at dksX10_expression_6 13 rfl rfl)
theorem dX10_expression_157 : decode cX10_expression 157 = .ok (.invokevirtual 221, 3) := dk_182 0 221 (dk_at dksX10_expression_6 15 rfl rfl)
theorem dX10_expression_160 : decode cX10_expression 160 = .ok (.ifCond .ne 21, 3) := dk_154 0 21 (dk_at dksX10_expression_6 18 rfl rfl)
theorem dX10_expression_163 : decode cX10_expression 163 = .ok (.aload_n 0, 1) := dk_42 (dk_at dksX10_expression_6 21 rfl rfl)
theorem dX10_expression_164 : decode cX10_expression 164 = .ok (.bipush 10, 2) := dk_16 10 (dk_at dksX10_expression_6 22 rfl rfl)
theorem dX10_expression_166 : decode cX10_expression 166 = .ok (.invokevirtual 221, 3) := dk_182 0 221 (dk_at dksX10_expression_7 0 rfl rfl)
theorem dX10_expression_169 : decode cX10_expression 169 = .ok (.ifCond .ne 12, 3) := dk_154 0 12 (dk_at dksX10_expression_7 3 rfl rfl)
theorem dX10_expression_172 : decode cX10_expression 172 = .ok (.aload_n 0, 1) := dk_42 (dk_at dksX10_expression_7 6 rfl rfl)
theorem dX10_expression_173 : decode cX10_expression 173 = .ok (.bipush 15, 2) := dk_16 15 (dk_at dksX10_expression_7 7 rfl rfl)
theorem dX10_expression_175 : decode cX10_expression 175 = .ok (.invokevirtual 221, 3) := dk_182 0 221 (dk_at dksX10_expression_7 9 rfl rfl)
theorem dX10_expression_178 : decode cX10_expression 178 = .ok (.ifCond .eq 7, 3) := dk_153 0 7 (dk_at dksX10_expression_7 12 rfl rfl)
theorem dX10_expression_181 : decode cX10_expression 181 = .ok (.iconst 1, 1) := dk_4 (dk_at dksX10_expression_7 15 rfl rfl)
theorem dX10_expression_182 : decode cX10_expression 182 = .ok (.goto 4, 3) := dk_167 0 4 (dk_at dksX10_expression_7 16 rfl rfl)
theorem dX10_expression_185 : decode cX10_expression 185 = .ok (.iconst 0, 1) := dk_3 (dk_at dksX10_expression_7 19 rfl rfl)
theorem dX10_expression_186 : decode cX10_expression 186 = .ok (.istore_n 2, 1) := dk_61 (dk_at dksX10_expression_7 20 rfl rfl)
theorem dX10_expression_187 : decode cX10_expression 187 = .ok (.iload_n 2, 1) := dk_28 (dk_at dksX10_expression_7 21 rfl rfl)
theorem dX10_expression_188 : decode cX10_expression 188 = .ok (.ifCond .ne 22, 3) := dk_154 0 22 (dk_at dksX10_expression_8 0 rfl rfl)
theorem dX10_expression_191 : decode cX10_expression 191 = .ok (.aload_n 0, 1) := dk_42 (dk_at dksX10_expression_8 3 rfl rfl)
theorem dX10_expression_192 : decode cX10_expression 192 = .ok (.getfield 230, 3) := dk_180 0 230 (dk_at dksX10_expression_8 4 rfl rfl)
theorem dX10_expression_195 : decode cX10_expression 195 = .ok (.iload_n 1, 1) := dk_27 (dk_at dksX10_expression_8 7 rfl rfl)
theorem dX10_expression_196 : decode cX10_expression 196 = .ok (.if_icmp .le 8, 3) := dk_164 0 8 (dk_at dksX10_expression_8 8 rfl rfl)
theorem dX10_expression_199 : decode cX10_expression 199 = .ok (.aload_n 0, 1) := dk_42 (dk_at dksX10_expression_8 11 rfl rfl)
theorem dX10_expression_200 : decode cX10_expression 200 = .ok (.iconst 1, 1) := dk_4 (dk_at dksX10_expression_8 12 rfl rfl)
theorem dX10_expression_201 : decode cX10_expression 201 = .ok (.invokevirtual 218, 3) := dk_182 0 218 (dk_at dksX10_expression_8 13 rfl rfl)
theorem dX10_expression_204 : decode cX10_expression 204 = .ok (.aload_n 0, 1) := dk_42 (dk_at dksX10_expression_8 16 rfl rfl)
theorem dX10_expression_205 : decode cX10_expression 205 = .ok (.iconst 0, 1) := dk_3 (dk_at dksX10_expression_8 17 rfl rfl)
theorem dX10_expression_206 : decode cX10_expression 206 = .ok (.invokevirtual 305, 3) := dk_182 1 49 (dk_at dksX10_expression_8 18 rfl rfl)
theorem dX10_expression_209 : decode cX10_expression 209 = .ok (.return_, 1) := dk_177 (dk_at dksX10_expression_8 21 rfl rfl)
theorem dX10_expression_210 : decode cX10_expression 210 = .ok (.aload_n 0, 1) := dk_42 (dk_at dksX10_expression_8 22 rfl rfl)
theorem dX10_expression_211 : decode cX10_expression 211 = .ok (.aload_n 0, 1) := dk_42 (dk_at dksX10_expression_8 23 rfl rfl)
theorem dX10_expression_212 : decode cX10_expression 212 = .ok (.bipush 10, 2) := dk_16 10 (dk_at dksX10_expression_9 0 rfl rfl)
theorem dX10_expression_214 : decode cX10_expression 214 = .ok (.invokevirtual 221, 3) := dk_182 0 221 (dk_at dksX10_expression_9 2 rfl rfl)
theorem dX10_expression_217 : decode cX10_expression 217 = .ok (.ifCond .ne 12, 3) := dk_154 0 12 (dk_at dksX10_expression_9 5 rfl rfl)
theorem dX10_expression_220 : decode cX10_expression 220 = .ok (.aload_n 0, 1) := dk_42 (dk_at dksX10_expression_9 8 rfl rfl)
theorem dX10_expression_221 : decode cX10_expression 221 = .ok (.bipush 15, 2) := dk_16 15 (dk_at dksX10_expression_9 9 rfl rfl)
theorem dX10_expression_223 : decode cX10_expression 223 = .ok (.invokevirtual 221, 3) := dk_182 0 221 (dk_at dksX10_expression_9 11 rfl rfl)
theorem dX10_expression_226 : decode cX10_expression 226 = .ok (.ifCond .eq 7, 3) := dk_153 0 7 (dk_at dksX10_expression_9 14 rfl rfl)
theorem dX10_expression_229 : decode cX10_expression 229 = .ok (.iconst 1, 1) := dk_4 (dk_at dksX10_expression_9 17 rfl rfl)
theorem dX10_expression_230 : decode cX10_expression 230 = .ok (.goto 4, 3) := dk_167 0 4 (dk_at dksX10_expression_9 18 rfl rfl)
theorem dX10_expression_233 : decode cX10_expression 233 = .ok (.iconst 0, 1) := dk_3 (dk_at dksX10_expression_9 21 rfl rfl)
theorem dX10_expression_234 : decode cX10_expression 234 = .ok (.invokevirtual 305, 3) := dk_182 1 49 (dk_at dksX10_expression_10 0 rfl rfl)
theorem dX10_expression_237 : decode cX10_expression 237 = .ok (.aload_n 0, 1) := dk_42 (dk_at dksX10_expression_10 3 rfl rfl)
theorem dX10_expression_238 : decode cX10_expression 238 = .ok (.getfield 110, 3) := dk_180 0 110 (dk_at dksX10_expression_10 4 rfl rfl)
theorem dX10_expression_241 : decode cX10_expression 241 = .ok (.aload_n 0, 1) := dk_42 (dk_at dksX10_expression_10 7 rfl rfl)
theorem dX10_expression_242 : decode cX10_expression 242 = .ok (.getfield 296, 3) := dk_180 1 40 (dk_at dksX10_expression_10 8 rfl rfl)
theorem dX10_expression_245 : decode cX10_expression 245 = .ok (.aload_n 0, 1) := dk_42 (dk_at dksX10_expression_10 11 rfl rfl)
theorem dX10_expression_246 : decode cX10_expression 246 = .ok (.getfield 20, 3) := dk_180 0 20 (dk_at dksX10_expression_10 12 rfl rfl)
theorem dX10_expression_249 : decode cX10_expression 249 = .ok (.aload_n 0, 1) := dk_42 (dk_at dksX10_expression_10 15 rfl rfl)
theorem dX10_expression_250 : decode cX10_expression 250 = .ok (.getfield 206, 3) := dk_180 0 206 (dk_at dksX10_expression_10 16 rfl rfl)
theorem dX10_expression_253 : decode cX10_expression 253 = .ok (.iaload, 1) := dk_46 (dk_at dksX10_expression_10 19 rfl rfl)
theorem dX10_expression_254 : decode cX10_expression 254 = .ok (.iastore, 1) := dk_79 (dk_at dksX10_expression_10 20 rfl rfl)
theorem dX10_expression_255 : decode cX10_expression 255 = .ok (.aload_n 0, 1) := dk_42 (dk_at dksX10_expression_10 21 rfl rfl)
theorem dX10_expression_256 : decode cX10_expression 256 = .ok (.dup, 1) := dk_89 (dk_at dksX10_expression_10 22 rfl rfl)
theorem dX10_expression_257 : decode cX10_expression 257 = .ok (.getfield 296, 3) := dk_180 1 40 (dk_at dksX10_expression_11 0 rfl rfl)
theorem dX10_expression_260 : decode cX10_expression 260 = .ok (.iconst 1, 1) := dk_4 (dk_at dksX10_expression_11 3 rfl rfl)
theorem dX10_expression_261 : decode cX10_expression 261 = .ok (.iadd, 1) := dk_96 (dk_at dksX10_expression_11 4 rfl rfl)
theorem dX10_expression_262 : decode cX10_expression 262 = .ok (.putfield 296, 3) := dk_181 1 40 (dk_at dksX10_expression_11 5 rfl rfl)
theorem dX10_expression_265 : decode cX10_expression 265 = .ok (.aload_n 0, 1) := dk_42 (dk_at dksX10_expression_11 8 rfl rfl)
theorem dX10_expression_266 : decode cX10_expression 266 = .ok (.invokevirtual 224, 3) := dk_182 0 224 (dk_at dksX10_expression_11 9 rfl rfl)
theorem dX10_expression_269 : decode cX10_expression 269 = .ok (.goto (-257), 3) := dk_167 254 255 (dk_at dksX10_expression_11 12 rfl rfl)
theorem dX10_expression_272 : decode cX10_expression 272 = .ok (.return_, 1) := dk_177 (dk_at dksX10_expression_11 15 rfl rfl)
abbrev cX10_unit : ByteArray := prog_21_method_35_code
def yX10_unit : MethodName := ⟨RX10, "unit", "()V"⟩
def dkwX10_unit_3 : List UInt8 := [180, 0, 206, 46, 16, 32, 100, 182, 1, 43, 42, 182, 0, 224, 167, 0, 8, 42, 4, 182, 0, 218, 177]
abbrev dktX10_unit_3 : List UInt8 := dkwX10_unit_3 ++ []
def dkwX10_unit_2 : List UInt8 := [161, 0, 41, 42, 180, 0, 20, 42, 180, 0, 206, 46, 16, 40, 163, 0, 27, 42, 4, 42, 180, 0, 20, 42]
abbrev dktX10_unit_2 : List UInt8 := dkwX10_unit_2 ++ dktX10_unit_3
def dkwX10_unit_1 : List UInt8 := [182, 0, 224, 167, 0, 67, 42, 180, 0, 203, 154, 0, 55, 42, 180, 0, 20, 42, 180, 0, 206, 46, 16, 32]
abbrev dktX10_unit_1 : List UInt8 := dkwX10_unit_1 ++ dktX10_unit_2
def dkwX10_unit_0 : List UInt8 := [42, 5, 182, 0, 221, 153, 0, 24, 42, 3, 42, 180, 0, 27, 42, 180, 0, 206, 46, 182, 1, 43, 42]
abbrev dktX10_unit_0 : List UInt8 := dkwX10_unit_0 ++ dktX10_unit_1
theorem dksX10_unit_0 : cX10_unit.data.toList.drop 0 = dktX10_unit_0 := by decide +kernel
theorem dksX10_unit_1 : cX10_unit.data.toList.drop 23 = dktX10_unit_1 := dk_seg dksX10_unit_0 23 rfl rfl
theorem dksX10_unit_2 : cX10_unit.data.toList.drop 47 = dktX10_unit_2 := dk_seg dksX10_unit_1 24 rfl rfl
theorem dksX10_unit_3 : cX10_unit.data.toList.drop 71 = dktX10_unit_3 := dk_seg dksX10_unit_2 24 rfl rfl
theorem dX10_unit_0 : decode cX10_unit 0 = .ok (.aload_n 0, 1) := dk_42 (dk_at dksX10_unit_0 0 rfl rfl)
theorem dX10_unit_1 : decode cX10_unit 1 = .ok (.iconst 2, 1) := dk_5 (dk_at dksX10_unit_0 1 rfl rfl)
theorem dX10_unit_2 : decode cX10_unit 2 = .ok (.invokevirtual 221, 3) := dk_182 0 221 (dk_at dksX10_unit_0 2 rfl rfl)
theorem dX10_unit_5 : decode cX10_unit 5 = .ok (.ifCond .eq 24, 3) := dk_153 0 24 (dk_at dksX10_unit_0 5 rfl rfl)
theorem dX10_unit_8 : decode cX10_unit 8 = .ok (.aload_n 0, 1) := dk_42 (dk_at dksX10_unit_0 8 rfl rfl)
theorem dX10_unit_9 : decode cX10_unit 9 = .ok (.iconst 0, 1) := dk_3 (dk_at dksX10_unit_0 9 rfl rfl)
theorem dX10_unit_10 : decode cX10_unit 10 = .ok (.aload_n 0, 1) := dk_42 (dk_at dksX10_unit_0 10 rfl rfl)
theorem dX10_unit_11 : decode cX10_unit 11 = .ok (.getfield 27, 3) := dk_180 0 27 (dk_at dksX10_unit_0 11 rfl rfl)
theorem dX10_unit_14 : decode cX10_unit 14 = .ok (.aload_n 0, 1) := dk_42 (dk_at dksX10_unit_0 14 rfl rfl)
theorem dX10_unit_15 : decode cX10_unit 15 = .ok (.getfield 206, 3) := dk_180 0 206 (dk_at dksX10_unit_0 15 rfl rfl)
theorem dX10_unit_18 : decode cX10_unit 18 = .ok (.iaload, 1) := dk_46 (dk_at dksX10_unit_0 18 rfl rfl)
theorem dX10_unit_19 : decode cX10_unit 19 = .ok (.invokevirtual 299, 3) := dk_182 1 43 (dk_at dksX10_unit_0 19 rfl rfl)
theorem dX10_unit_22 : decode cX10_unit 22 = .ok (.aload_n 0, 1) := dk_42 (dk_at dksX10_unit_0 22 rfl rfl)
theorem dX10_unit_23 : decode cX10_unit 23 = .ok (.invokevirtual 224, 3) := dk_182 0 224 (dk_at dksX10_unit_1 0 rfl rfl)
theorem dX10_unit_26 : decode cX10_unit 26 = .ok (.goto 67, 3) := dk_167 0 67 (dk_at dksX10_unit_1 3 rfl rfl)
theorem dX10_unit_29 : decode cX10_unit 29 = .ok (.aload_n 0, 1) := dk_42 (dk_at dksX10_unit_1 6 rfl rfl)
theorem dX10_unit_30 : decode cX10_unit 30 = .ok (.getfield 203, 3) := dk_180 0 203 (dk_at dksX10_unit_1 7 rfl rfl)
theorem dX10_unit_33 : decode cX10_unit 33 = .ok (.ifCond .ne 55, 3) := dk_154 0 55 (dk_at dksX10_unit_1 10 rfl rfl)
theorem dX10_unit_36 : decode cX10_unit 36 = .ok (.aload_n 0, 1) := dk_42 (dk_at dksX10_unit_1 13 rfl rfl)
theorem dX10_unit_37 : decode cX10_unit 37 = .ok (.getfield 20, 3) := dk_180 0 20 (dk_at dksX10_unit_1 14 rfl rfl)
theorem dX10_unit_40 : decode cX10_unit 40 = .ok (.aload_n 0, 1) := dk_42 (dk_at dksX10_unit_1 17 rfl rfl)
theorem dX10_unit_41 : decode cX10_unit 41 = .ok (.getfield 206, 3) := dk_180 0 206 (dk_at dksX10_unit_1 18 rfl rfl)
theorem dX10_unit_44 : decode cX10_unit 44 = .ok (.iaload, 1) := dk_46 (dk_at dksX10_unit_1 21 rfl rfl)
theorem dX10_unit_45 : decode cX10_unit 45 = .ok (.bipush 32, 2) := dk_16 32 (dk_at dksX10_unit_1 22 rfl rfl)
theorem dX10_unit_47 : decode cX10_unit 47 = .ok (.if_icmp .lt 41, 3) := dk_161 0 41 (dk_at dksX10_unit_2 0 rfl rfl)
theorem dX10_unit_50 : decode cX10_unit 50 = .ok (.aload_n 0, 1) := dk_42 (dk_at dksX10_unit_2 3 rfl rfl)
theorem dX10_unit_51 : decode cX10_unit 51 = .ok (.getfield 20, 3) := dk_180 0 20 (dk_at dksX10_unit_2 4 rfl rfl)
theorem dX10_unit_54 : decode cX10_unit 54 = .ok (.aload_n 0, 1) := dk_42 (dk_at dksX10_unit_2 7 rfl rfl)
theorem dX10_unit_55 : decode cX10_unit 55 = .ok (.getfield 206, 3) := dk_180 0 206 (dk_at dksX10_unit_2 8 rfl rfl)
theorem dX10_unit_58 : decode cX10_unit 58 = .ok (.iaload, 1) := dk_46 (dk_at dksX10_unit_2 11 rfl rfl)
theorem dX10_unit_59 : decode cX10_unit 59 = .ok (.bipush 40, 2) := dk_16 40 (dk_at dksX10_unit_2 12 rfl rfl)
theorem dX10_unit_61 : decode cX10_unit 61 = .ok (.if_icmp .gt 27, 3) := dk_163 0 27 (dk_at dksX10_unit_2 14 rfl rfl)
theorem dX10_unit_64 : decode cX10_unit 64 = .ok (.aload_n 0, 1) := dk_42 (dk_at dksX10_unit_2 17 rfl rfl)
theorem dX10_unit_65 : decode cX10_unit 65 = .ok (.iconst 1, 1) := dk_4 (dk_at dksX10_unit_2 18 rfl rfl)
theorem dX10_unit_66 : decode cX10_unit 66 = .ok (.aload_n 0, 1) := dk_42 (dk_at dksX10_unit_2 19 rfl rfl)
theorem dX10_unit_67 : decode cX10_unit 67 = .ok (.getfield 20, 3) := dk_180 0 20 (dk_at dksX10_unit_2 20 rfl rfl)
theorem dX10_unit_70 : decode cX10_unit 70 = .ok (.aload_n 0, 1) := dk_42 (dk_at dksX10_unit_2 23 rfl rfl)
theorem dX10_unit_71 : decode cX10_unit 71 = .ok (.getfield 206, 3) := dk_180 0 206 (dk_at dksX10_unit_3 0 rfl rfl)
theorem dX10_unit_74 : decode cX10_unit 74 = .ok (.iaload, 1) := dk_46 (dk_at dksX10_unit_3 3 rfl rfl)
theorem dX10_unit_75 : decode cX10_unit 75 = .ok (.bipush 32, 2) := dk_16 32 (dk_at dksX10_unit_3 4 rfl rfl)
theorem dX10_unit_77 : decode cX10_unit 77 = .ok (.isub, 1) := dk_100 (dk_at dksX10_unit_3 6 rfl rfl)
theorem dX10_unit_78 : decode cX10_unit 78 = .ok (.invokevirtual 299, 3) := dk_182 1 43 (dk_at dksX10_unit_3 7 rfl rfl)
theorem dX10_unit_81 : decode cX10_unit 81 = .ok (.aload_n 0, 1) := dk_42 (dk_at dksX10_unit_3 10 rfl rfl)
theorem dX10_unit_82 : decode cX10_unit 82 = .ok (.invokevirtual 224, 3) := dk_182 0 224 (dk_at dksX10_unit_3 11 rfl rfl)
theorem dX10_unit_85 : decode cX10_unit 85 = .ok (.goto 8, 3) := dk_167 0 8 (dk_at dksX10_unit_3 14 rfl rfl)
theorem dX10_unit_88 : decode cX10_unit 88 = .ok (.aload_n 0, 1) := dk_42 (dk_at dksX10_unit_3 17 rfl rfl)
theorem dX10_unit_89 : decode cX10_unit 89 = .ok (.iconst 1, 1) := dk_4 (dk_at dksX10_unit_3 18 rfl rfl)
theorem dX10_unit_90 : decode cX10_unit 90 = .ok (.invokevirtual 218, 3) := dk_182 0 218 (dk_at dksX10_unit_3 19 rfl rfl)
theorem dX10_unit_93 : decode cX10_unit 93 = .ok (.return_, 1) := dk_177 (dk_at dksX10_unit_3 22 rfl rfl)
abbrev cX10_emit : ByteArray := prog_21_method_32_code
def yX10_emit : MethodName := ⟨RX10, "emit", "(II)V"⟩
def dkwX10_emit_1 : List UInt8 := [180, 0, 245, 4, 96, 181, 0, 245, 177]
abbrev dktX10_emit_1 : List UInt8 := dkwX10_emit_1 ++ []
def dkwX10_emit_0 : List UInt8 := [42, 180, 0, 104, 42, 180, 0, 245, 27, 79, 42, 180, 0, 107, 42, 180, 0, 245, 28, 79, 42, 89]
abbrev dktX10_emit_0 : List UInt8 := dkwX10_emit_0 ++ dktX10_emit_1
theorem dksX10_emit_0 : cX10_emit.data.toList.drop 0 = dktX10_emit_0 := by decide +kernel
theorem dksX10_emit_1 : cX10_emit.data.toList.drop 22 = dktX10_emit_1 := dk_seg dksX10_emit_0 22 rfl rfl
theorem dX10_emit_0 : decode cX10_emit 0 = .ok (.aload_n 0, 1) := dk_42 (dk_at dksX10_emit_0 0 rfl rfl)
theorem dX10_emit_1 : decode cX10_emit 1 = .ok (.getfield 104, 3) := dk_180 0 104 (dk_at dksX10_emit_0 1 rfl rfl)
theorem dX10_emit_4 : decode cX10_emit 4 = .ok (.aload_n 0, 1) := dk_42 (dk_at dksX10_emit_0 4 rfl rfl)
theorem dX10_emit_5 : decode cX10_emit 5 = .ok (.getfield 245, 3) := dk_180 0 245 (dk_at dksX10_emit_0 5 rfl rfl)
theorem dX10_emit_8 : decode cX10_emit 8 = .ok (.iload_n 1, 1) := dk_27 (dk_at dksX10_emit_0 8 rfl rfl)
theorem dX10_emit_9 : decode cX10_emit 9 = .ok (.iastore, 1) := dk_79 (dk_at dksX10_emit_0 9 rfl rfl)
theorem dX10_emit_10 : decode cX10_emit 10 = .ok (.aload_n 0, 1) := dk_42 (dk_at dksX10_emit_0 10 rfl rfl)
theorem dX10_emit_11 : decode cX10_emit 11 = .ok (.getfield 107, 3) := dk_180 0 107 (dk_at dksX10_emit_0 11 rfl rfl)
theorem dX10_emit_14 : decode cX10_emit 14 = .ok (.aload_n 0, 1) := dk_42 (dk_at dksX10_emit_0 14 rfl rfl)
theorem dX10_emit_15 : decode cX10_emit 15 = .ok (.getfield 245, 3) := dk_180 0 245 (dk_at dksX10_emit_0 15 rfl rfl)
theorem dX10_emit_18 : decode cX10_emit 18 = .ok (.iload_n 2, 1) := dk_28 (dk_at dksX10_emit_0 18 rfl rfl)
theorem dX10_emit_19 : decode cX10_emit 19 = .ok (.iastore, 1) := dk_79 (dk_at dksX10_emit_0 19 rfl rfl)
theorem dX10_emit_20 : decode cX10_emit 20 = .ok (.aload_n 0, 1) := dk_42 (dk_at dksX10_emit_0 20 rfl rfl)
theorem dX10_emit_21 : decode cX10_emit 21 = .ok (.dup, 1) := dk_89 (dk_at dksX10_emit_0 21 rfl rfl)
theorem dX10_emit_22 : decode cX10_emit 22 = .ok (.getfield 245, 3) := dk_180 0 245 (dk_at dksX10_emit_1 0 rfl rfl)
theorem dX10_emit_25 : decode cX10_emit 25 = .ok (.iconst 1, 1) := dk_4 (dk_at dksX10_emit_1 3 rfl rfl)
theorem dX10_emit_26 : decode cX10_emit 26 = .ok (.iadd, 1) := dk_96 (dk_at dksX10_emit_1 4 rfl rfl)
theorem dX10_emit_27 : decode cX10_emit 27 = .ok (.putfield 245, 3) := dk_181 0 245 (dk_at dksX10_emit_1 5 rfl rfl)
theorem dX10_emit_30 : decode cX10_emit 30 = .ok (.return_, 1) := dk_177 (dk_at dksX10_emit_1 8 rfl rfl)
abbrev cX10_comesOut : ByteArray := prog_21_method_33_code
def yX10_comesOut : MethodName := ⟨RX10, "comesOut", "(Z)V"⟩
def dkwX10_comesOut_4 : List UInt8 := [167, 255, 168, 177]
abbrev dktX10_comesOut_4 : List UInt8 := dkwX10_comesOut_4 ++ []
def dkwX10_comesOut_3 : List UInt8 := [160, 0, 7, 6, 167, 0, 14, 28, 16, 10, 160, 0, 7, 7, 167, 0, 4, 8, 3, 182, 1, 43]
abbrev dktX10_comesOut_3 : List UInt8 := dkwX10_comesOut_3 ++ dktX10_comesOut_4
def dkwX10_comesOut_2 : List UInt8 := [180, 1, 40, 4, 100, 181, 1, 40, 42, 28, 16, 8, 160, 0, 7, 5, 167, 0, 24, 28, 16, 9]
abbrev dktX10_comesOut_2 : List UInt8 := dkwX10_comesOut_2 ++ dktX10_comesOut_3
def dkwX10_comesOut_1 : List UInt8 := [159, 0, 19, 27, 153, 0, 16, 28, 16, 8, 159, 0, 9, 28, 16, 9, 160, 0, 4, 177, 42, 89]
abbrev dktX10_comesOut_1 : List UInt8 := dkwX10_comesOut_1 ++ dktX10_comesOut_2
def dkwX10_comesOut_0 : List UInt8 := [42, 180, 1, 40, 158, 0, 87, 42, 180, 0, 110, 42, 180, 1, 40, 4, 100, 46, 61, 28, 16, 6]
abbrev dktX10_comesOut_0 : List UInt8 := dkwX10_comesOut_0 ++ dktX10_comesOut_1
theorem dksX10_comesOut_0 : cX10_comesOut.data.toList.drop 0 = dktX10_comesOut_0 := by decide +kernel
theorem dksX10_comesOut_1 : cX10_comesOut.data.toList.drop 22 = dktX10_comesOut_1 := dk_seg dksX10_comesOut_0 22 rfl rfl
theorem dksX10_comesOut_2 : cX10_comesOut.data.toList.drop 44 = dktX10_comesOut_2 := dk_seg dksX10_comesOut_1 22 rfl rfl
theorem dksX10_comesOut_3 : cX10_comesOut.data.toList.drop 66 = dktX10_comesOut_3 := dk_seg dksX10_comesOut_2 22 rfl rfl
theorem dksX10_comesOut_4 : cX10_comesOut.data.toList.drop 88 = dktX10_comesOut_4 := dk_seg dksX10_comesOut_3 22 rfl rfl
theorem dX10_comesOut_0 : decode cX10_comesOut 0 = .ok (.aload_n 0, 1) := dk_42 (dk_at dksX10_comesOut_0 0 rfl rfl)
theorem dX10_comesOut_1 : decode cX10_comesOut 1 = .ok (.getfield 296, 3) := dk_180 1 40 (dk_at dksX10_comesOut_0 1 rfl rfl)
theorem dX10_comesOut_4 : decode cX10_comesOut 4 = .ok (.ifCond .le 87, 3) := dk_158 0 87 (dk_at dksX10_comesOut_0 4 rfl rfl)
theorem dX10_comesOut_7 : decode cX10_comesOut 7 = .ok (.aload_n 0, 1) := dk_42 (dk_at dksX10_comesOut_0 7 rfl rfl)
theorem dX10_comesOut_8 : decode cX10_comesOut 8 = .ok (.getfield 110, 3) := dk_180 0 110 (dk_at dksX10_comesOut_0 8 rfl rfl)
theorem dX10_comesOut_11 : decode cX10_comesOut 11 = .ok (.aload_n 0, 1) := dk_42 (dk_at dksX10_comesOut_0 11 rfl rfl)
theorem dX10_comesOut_12 : decode cX10_comesOut 12 = .ok (.getfield 296, 3) := dk_180 1 40 (dk_at dksX10_comesOut_0 12 rfl rfl)
theorem dX10_comesOut_15 : decode cX10_comesOut 15 = .ok (.iconst 1, 1) := dk_4 (dk_at dksX10_comesOut_0 15 rfl rfl)
theorem dX10_comesOut_16 : decode cX10_comesOut 16 = .ok (.isub, 1) := dk_100 (dk_at dksX10_comesOut_0 16 rfl rfl)
theorem dX10_comesOut_17 : decode cX10_comesOut 17 = .ok (.iaload, 1) := dk_46 (dk_at dksX10_comesOut_0 17 rfl rfl)
theorem dX10_comesOut_18 : decode cX10_comesOut 18 = .ok (.istore_n 2, 1) := dk_61 (dk_at dksX10_comesOut_0 18 rfl rfl)
theorem dX10_comesOut_19 : decode cX10_comesOut 19 = .ok (.iload_n 2, 1) := dk_28 (dk_at dksX10_comesOut_0 19 rfl rfl)
theorem dX10_comesOut_20 : decode cX10_comesOut 20 = .ok (.bipush 6, 2) := dk_16 6 (dk_at dksX10_comesOut_0 20 rfl rfl)
theorem dX10_comesOut_22 : decode cX10_comesOut 22 = .ok (.if_icmp .eq 19, 3) := dk_159 0 19 (dk_at dksX10_comesOut_1 0 rfl rfl)
theorem dX10_comesOut_25 : decode cX10_comesOut 25 = .ok (.iload_n 1, 1) := dk_27 (dk_at dksX10_comesOut_1 3 rfl rfl)
theorem dX10_comesOut_26 : decode cX10_comesOut 26 = .ok (.ifCond .eq 16, 3) := dk_153 0 16 (dk_at dksX10_comesOut_1 4 rfl rfl)
theorem dX10_comesOut_29 : decode cX10_comesOut 29 = .ok (.iload_n 2, 1) := dk_28 (dk_at dksX10_comesOut_1 7 rfl rfl)
theorem dX10_comesOut_30 : decode cX10_comesOut 30 = .ok (.bipush 8, 2) := dk_16 8 (dk_at dksX10_comesOut_1 8 rfl rfl)
theorem dX10_comesOut_32 : decode cX10_comesOut 32 = .ok (.if_icmp .eq 9, 3) := dk_159 0 9 (dk_at dksX10_comesOut_1 10 rfl rfl)
theorem dX10_comesOut_35 : decode cX10_comesOut 35 = .ok (.iload_n 2, 1) := dk_28 (dk_at dksX10_comesOut_1 13 rfl rfl)
theorem dX10_comesOut_36 : decode cX10_comesOut 36 = .ok (.bipush 9, 2) := dk_16 9 (dk_at dksX10_comesOut_1 14 rfl rfl)
theorem dX10_comesOut_38 : decode cX10_comesOut 38 = .ok (.if_icmp .ne 4, 3) := dk_160 0 4 (dk_at dksX10_comesOut_1 16 rfl rfl)
theorem dX10_comesOut_41 : decode cX10_comesOut 41 = .ok (.return_, 1) := dk_177 (dk_at dksX10_comesOut_1 19 rfl rfl)
theorem dX10_comesOut_42 : decode cX10_comesOut 42 = .ok (.aload_n 0, 1) := dk_42 (dk_at dksX10_comesOut_1 20 rfl rfl)
theorem dX10_comesOut_43 : decode cX10_comesOut 43 = .ok (.dup, 1) := dk_89 (dk_at dksX10_comesOut_1 21 rfl rfl)
theorem dX10_comesOut_44 : decode cX10_comesOut 44 = .ok (.getfield 296, 3) := dk_180 1 40 (dk_at dksX10_comesOut_2 0 rfl rfl)
theorem dX10_comesOut_47 : decode cX10_comesOut 47 = .ok (.iconst 1, 1) := dk_4 (dk_at dksX10_comesOut_2 3 rfl rfl)
theorem dX10_comesOut_48 : decode cX10_comesOut 48 = .ok (.isub, 1) := dk_100 (dk_at dksX10_comesOut_2 4 rfl rfl)
theorem dX10_comesOut_49 : decode cX10_comesOut 49 = .ok (.putfield 296, 3) := dk_181 1 40 (dk_at dksX10_comesOut_2 5 rfl rfl)
theorem dX10_comesOut_52 : decode cX10_comesOut 52 = .ok (.aload_n 0, 1) := dk_42 (dk_at dksX10_comesOut_2 8 rfl rfl)
theorem dX10_comesOut_53 : decode cX10_comesOut 53 = .ok (.iload_n 2, 1) := dk_28 (dk_at dksX10_comesOut_2 9 rfl rfl)
theorem dX10_comesOut_54 : decode cX10_comesOut 54 = .ok (.bipush 8, 2) := dk_16 8 (dk_at dksX10_comesOut_2 10 rfl rfl)
theorem dX10_comesOut_56 : decode cX10_comesOut 56 = .ok (.if_icmp .ne 7, 3) := dk_160 0 7 (dk_at dksX10_comesOut_2 12 rfl rfl)
theorem dX10_comesOut_59 : decode cX10_comesOut 59 = .ok (.iconst 2, 1) := dk_5 (dk_at dksX10_comesOut_2 15 rfl rfl)
theorem dX10_comesOut_60 : decode cX10_comesOut 60 = .ok (.goto 24, 3) := dk_167 0 24 (dk_at dksX10_comesOut_2 16 rfl rfl)
theorem dX10_comesOut_63 : decode cX10_comesOut 63 = .ok (.iload_n 2, 1) := dk_28 (dk_at dksX10_comesOut_2 19 rfl rfl)
theorem dX10_comesOut_64 : decode cX10_comesOut 64 = .ok (.bipush 9, 2) := dk_16 9 (dk_at dksX10_comesOut_2 20 rfl rfl)
theorem dX10_comesOut_66 : decode cX10_comesOut 66 = .ok (.if_icmp .ne 7, 3) := dk_160 0 7 (dk_at dksX10_comesOut_3 0 rfl rfl)
theorem dX10_comesOut_69 : decode cX10_comesOut 69 = .ok (.iconst 3, 1) := dk_6 (dk_at dksX10_comesOut_3 3 rfl rfl)
theorem dX10_comesOut_70 : decode cX10_comesOut 70 = .ok (.goto 14, 3) := dk_167 0 14 (dk_at dksX10_comesOut_3 4 rfl rfl)
theorem dX10_comesOut_73 : decode cX10_comesOut 73 = .ok (.iload_n 2, 1) := dk_28 (dk_at dksX10_comesOut_3 7 rfl rfl)
theorem dX10_comesOut_74 : decode cX10_comesOut 74 = .ok (.bipush 10, 2) := dk_16 10 (dk_at dksX10_comesOut_3 8 rfl rfl)
theorem dX10_comesOut_76 : decode cX10_comesOut 76 = .ok (.if_icmp .ne 7, 3) := dk_160 0 7 (dk_at dksX10_comesOut_3 10 rfl rfl)
theorem dX10_comesOut_79 : decode cX10_comesOut 79 = .ok (.iconst 4, 1) := dk_7 (dk_at dksX10_comesOut_3 13 rfl rfl)
theorem dX10_comesOut_80 : decode cX10_comesOut 80 = .ok (.goto 4, 3) := dk_167 0 4 (dk_at dksX10_comesOut_3 14 rfl rfl)
theorem dX10_comesOut_83 : decode cX10_comesOut 83 = .ok (.iconst 5, 1) := dk_8 (dk_at dksX10_comesOut_3 17 rfl rfl)
theorem dX10_comesOut_84 : decode cX10_comesOut 84 = .ok (.iconst 0, 1) := dk_3 (dk_at dksX10_comesOut_3 18 rfl rfl)
theorem dX10_comesOut_85 : decode cX10_comesOut 85 = .ok (.invokevirtual 299, 3) := dk_182 1 43 (dk_at dksX10_comesOut_3 19 rfl rfl)
theorem dX10_comesOut_88 : decode cX10_comesOut 88 = .ok (.goto (-88), 3) := dk_167 255 168 (dk_at dksX10_comesOut_4 0 rfl rfl)
theorem dX10_comesOut_91 : decode cX10_comesOut 91 = .ok (.return_, 1) := dk_177 (dk_at dksX10_comesOut_4 3 rfl rfl)
abbrev cX10_term : ByteArray := prog_21_method_31_code
def yX10_term : MethodName := ⟨RX10, "term", "()V"⟩
def dkwX10_term_1 : List UInt8 := [42, 180, 0, 101, 42, 180, 0, 242, 42, 180, 0, 245, 79, 42, 89, 180, 0, 242, 4, 96, 181, 0, 242, 177]
abbrev dktX10_term_1 : List UInt8 := dkwX10_term_1 ++ []
def dkwX10_term_0 : List UInt8 := [42, 180, 0, 98, 42, 180, 0, 242, 42, 180, 0, 245, 79, 42, 180, 0, 203, 154, 0, 7, 42, 182, 1, 34]
abbrev dktX10_term_0 : List UInt8 := dkwX10_term_0 ++ dktX10_term_1
theorem dksX10_term_0 : cX10_term.data.toList.drop 0 = dktX10_term_0 := by decide +kernel
theorem dksX10_term_1 : cX10_term.data.toList.drop 24 = dktX10_term_1 := dk_seg dksX10_term_0 24 rfl rfl
theorem dX10_term_0 : decode cX10_term 0 = .ok (.aload_n 0, 1) := dk_42 (dk_at dksX10_term_0 0 rfl rfl)
theorem dX10_term_1 : decode cX10_term 1 = .ok (.getfield 98, 3) := dk_180 0 98 (dk_at dksX10_term_0 1 rfl rfl)
theorem dX10_term_4 : decode cX10_term 4 = .ok (.aload_n 0, 1) := dk_42 (dk_at dksX10_term_0 4 rfl rfl)
theorem dX10_term_5 : decode cX10_term 5 = .ok (.getfield 242, 3) := dk_180 0 242 (dk_at dksX10_term_0 5 rfl rfl)
theorem dX10_term_8 : decode cX10_term 8 = .ok (.aload_n 0, 1) := dk_42 (dk_at dksX10_term_0 8 rfl rfl)
theorem dX10_term_9 : decode cX10_term 9 = .ok (.getfield 245, 3) := dk_180 0 245 (dk_at dksX10_term_0 9 rfl rfl)
theorem dX10_term_12 : decode cX10_term 12 = .ok (.iastore, 1) := dk_79 (dk_at dksX10_term_0 12 rfl rfl)
theorem dX10_term_13 : decode cX10_term 13 = .ok (.aload_n 0, 1) := dk_42 (dk_at dksX10_term_0 13 rfl rfl)
theorem dX10_term_14 : decode cX10_term 14 = .ok (.getfield 203, 3) := dk_180 0 203 (dk_at dksX10_term_0 14 rfl rfl)
theorem dX10_term_17 : decode cX10_term 17 = .ok (.ifCond .ne 7, 3) := dk_154 0 7 (dk_at dksX10_term_0 17 rfl rfl)
theorem dX10_term_20 : decode cX10_term 20 = .ok (.aload_n 0, 1) := dk_42 (dk_at dksX10_term_0 20 rfl rfl)
theorem dX10_term_21 : decode cX10_term 21 = .ok (.invokevirtual 290, 3) := dk_182 1 34 (dk_at dksX10_term_0 21 rfl rfl)
theorem dX10_term_24 : decode cX10_term 24 = .ok (.aload_n 0, 1) := dk_42 (dk_at dksX10_term_1 0 rfl rfl)
theorem dX10_term_25 : decode cX10_term 25 = .ok (.getfield 101, 3) := dk_180 0 101 (dk_at dksX10_term_1 1 rfl rfl)
theorem dX10_term_28 : decode cX10_term 28 = .ok (.aload_n 0, 1) := dk_42 (dk_at dksX10_term_1 4 rfl rfl)
theorem dX10_term_29 : decode cX10_term 29 = .ok (.getfield 242, 3) := dk_180 0 242 (dk_at dksX10_term_1 5 rfl rfl)
theorem dX10_term_32 : decode cX10_term 32 = .ok (.aload_n 0, 1) := dk_42 (dk_at dksX10_term_1 8 rfl rfl)
theorem dX10_term_33 : decode cX10_term 33 = .ok (.getfield 245, 3) := dk_180 0 245 (dk_at dksX10_term_1 9 rfl rfl)
theorem dX10_term_36 : decode cX10_term 36 = .ok (.iastore, 1) := dk_79 (dk_at dksX10_term_1 12 rfl rfl)
theorem dX10_term_37 : decode cX10_term 37 = .ok (.aload_n 0, 1) := dk_42 (dk_at dksX10_term_1 13 rfl rfl)
theorem dX10_term_38 : decode cX10_term 38 = .ok (.dup, 1) := dk_89 (dk_at dksX10_term_1 14 rfl rfl)
theorem dX10_term_39 : decode cX10_term 39 = .ok (.getfield 242, 3) := dk_180 0 242 (dk_at dksX10_term_1 15 rfl rfl)
theorem dX10_term_42 : decode cX10_term 42 = .ok (.iconst 1, 1) := dk_4 (dk_at dksX10_term_1 18 rfl rfl)
theorem dX10_term_43 : decode cX10_term 43 = .ok (.iadd, 1) := dk_96 (dk_at dksX10_term_1 19 rfl rfl)
theorem dX10_term_44 : decode cX10_term 44 = .ok (.putfield 242, 3) := dk_181 0 242 (dk_at dksX10_term_1 20 rfl rfl)
theorem dX10_term_47 : decode cX10_term 47 = .ok (.return_, 1) := dk_177 (dk_at dksX10_term_1 23 rfl rfl)
abbrev cX10_place : ByteArray := prog_21_method_21_code
def yX10_place : MethodName := ⟨RX10, "place", "()I"⟩
theorem dX10_place_0 : decode cX10_place 0 = .ok (.aload_n 0, 1) := by decide +kernel
theorem dX10_place_1 : decode cX10_place 1 = .ok (.getfield 37, 3) := by decide +kernel
theorem dX10_place_4 : decode cX10_place 4 = .ok (.ireturn, 1) := by decide +kernel
abbrev cX10_door : ByteArray := prog_21_method_67_code
def yX10_door : MethodName := ⟨RX10, "door", "(II)I"⟩
def dkwX10_door_4 : List UInt8 := [16, 42, 27, 96, 46, 172, 42, 27, 182, 1, 134, 172, 42, 27, 182, 1, 101, 172, 2, 172]
abbrev dktX10_door_4 : List UInt8 := dkwX10_door_4 ++ []
def dkwX10_door_3 : List UInt8 := [180, 0, 122, 16, 30, 27, 96, 46, 172, 42, 180, 0, 122, 16, 36, 27, 96, 46, 172, 42, 180, 0, 122]
abbrev dktX10_door_3 : List UInt8 := dkwX10_door_3 ++ dktX10_door_4
def dkwX10_door_2 : List UInt8 := [42, 180, 0, 122, 7, 27, 104, 28, 96, 46, 172, 42, 180, 0, 122, 16, 24, 27, 96, 46, 172, 42]
abbrev dktX10_door_2 : List UInt8 := dkwX10_door_2 ++ dktX10_door_3
def dkwX10_door_1 : List UInt8 := [170, 0, 0, 0, 116, 0, 0, 0, 0, 0, 0, 0, 9, 0, 0, 0, 53, 0, 0, 0, 53, 0, 0, 0, 53, 0, 0, 0, 53, 0, 0, 0, 64, 0, 0, 0, 74, 0, 0, 0, 84, 0, 0, 0, 94, 0, 0, 0, 104, 0, 0, 0, 110]
abbrev dktX10_door_1 : List UInt8 := dkwX10_door_1 ++ dktX10_door_2
def dkwX10_door_0 : List UInt8 := [42, 27, 182, 1, 131, 154, 0, 5, 2, 172, 42, 182, 1, 67, 28]
abbrev dktX10_door_0 : List UInt8 := dkwX10_door_0 ++ dktX10_door_1
theorem dksX10_door_0 : cX10_door.data.toList.drop 0 = dktX10_door_0 := by decide +kernel
theorem dksX10_door_1 : cX10_door.data.toList.drop 15 = dktX10_door_1 := dk_seg dksX10_door_0 15 rfl rfl
theorem dksX10_door_2 : cX10_door.data.toList.drop 68 = dktX10_door_2 := dk_seg dksX10_door_1 53 rfl rfl
theorem dksX10_door_3 : cX10_door.data.toList.drop 90 = dktX10_door_3 := dk_seg dksX10_door_2 22 rfl rfl
theorem dksX10_door_4 : cX10_door.data.toList.drop 113 = dktX10_door_4 := dk_seg dksX10_door_3 23 rfl rfl
theorem dX10_door_0 : decode cX10_door 0 = .ok (.aload_n 0, 1) := dk_42 (dk_at dksX10_door_0 0 rfl rfl)
theorem dX10_door_1 : decode cX10_door 1 = .ok (.iload_n 1, 1) := dk_27 (dk_at dksX10_door_0 1 rfl rfl)
theorem dX10_door_2 : decode cX10_door 2 = .ok (.invokevirtual 387, 3) := dk_182 1 131 (dk_at dksX10_door_0 2 rfl rfl)
theorem dX10_door_5 : decode cX10_door 5 = .ok (.ifCond .ne 5, 3) := dk_154 0 5 (dk_at dksX10_door_0 5 rfl rfl)
theorem dX10_door_8 : decode cX10_door 8 = .ok (.iconst (-1), 1) := dk_2 (dk_at dksX10_door_0 8 rfl rfl)
theorem dX10_door_9 : decode cX10_door 9 = .ok (.ireturn, 1) := dk_172 (dk_at dksX10_door_0 9 rfl rfl)
theorem dX10_door_10 : decode cX10_door 10 = .ok (.aload_n 0, 1) := dk_42 (dk_at dksX10_door_0 10 rfl rfl)
theorem dX10_door_11 : decode cX10_door 11 = .ok (.invokevirtual 323, 3) := dk_182 1 67 (dk_at dksX10_door_0 11 rfl rfl)
theorem dX10_door_14 : decode cX10_door 14 = .ok (.iload_n 2, 1) := dk_28 (dk_at dksX10_door_0 14 rfl rfl)
theorem dX10_door_15 : decode cX10_door 15 = .ok (.tableswitch 116 0 9 #[53, 53, 53, 53, 64, 74, 84, 94, 104, 110], 53) := by decide +kernel
theorem dX10_door_68 : decode cX10_door 68 = .ok (.aload_n 0, 1) := dk_42 (dk_at dksX10_door_2 0 rfl rfl)
theorem dX10_door_69 : decode cX10_door 69 = .ok (.getfield 122, 3) := dk_180 0 122 (dk_at dksX10_door_2 1 rfl rfl)
theorem dX10_door_72 : decode cX10_door 72 = .ok (.iconst 4, 1) := dk_7 (dk_at dksX10_door_2 4 rfl rfl)
theorem dX10_door_73 : decode cX10_door 73 = .ok (.iload_n 1, 1) := dk_27 (dk_at dksX10_door_2 5 rfl rfl)
theorem dX10_door_74 : decode cX10_door 74 = .ok (.imul, 1) := dk_104 (dk_at dksX10_door_2 6 rfl rfl)
theorem dX10_door_75 : decode cX10_door 75 = .ok (.iload_n 2, 1) := dk_28 (dk_at dksX10_door_2 7 rfl rfl)
theorem dX10_door_76 : decode cX10_door 76 = .ok (.iadd, 1) := dk_96 (dk_at dksX10_door_2 8 rfl rfl)
theorem dX10_door_77 : decode cX10_door 77 = .ok (.iaload, 1) := dk_46 (dk_at dksX10_door_2 9 rfl rfl)
theorem dX10_door_78 : decode cX10_door 78 = .ok (.ireturn, 1) := dk_172 (dk_at dksX10_door_2 10 rfl rfl)
theorem dX10_door_79 : decode cX10_door 79 = .ok (.aload_n 0, 1) := dk_42 (dk_at dksX10_door_2 11 rfl rfl)
theorem dX10_door_80 : decode cX10_door 80 = .ok (.getfield 122, 3) := dk_180 0 122 (dk_at dksX10_door_2 12 rfl rfl)
theorem dX10_door_83 : decode cX10_door 83 = .ok (.bipush 24, 2) := dk_16 24 (dk_at dksX10_door_2 15 rfl rfl)
theorem dX10_door_85 : decode cX10_door 85 = .ok (.iload_n 1, 1) := dk_27 (dk_at dksX10_door_2 17 rfl rfl)
theorem dX10_door_86 : decode cX10_door 86 = .ok (.iadd, 1) := dk_96 (dk_at dksX10_door_2 18 rfl rfl)
theorem dX10_door_87 : decode cX10_door 87 = .ok (.iaload, 1) := dk_46 (dk_at dksX10_door_2 19 rfl rfl)
theorem dX10_door_88 : decode cX10_door 88 = .ok (.ireturn, 1) := dk_172 (dk_at dksX10_door_2 20 rfl rfl)
theorem dX10_door_89 : decode cX10_door 89 = .ok (.aload_n 0, 1) := dk_42 (dk_at dksX10_door_2 21 rfl rfl)
theorem dX10_door_90 : decode cX10_door 90 = .ok (.getfield 122, 3) := dk_180 0 122 (dk_at dksX10_door_3 0 rfl rfl)
theorem dX10_door_93 : decode cX10_door 93 = .ok (.bipush 30, 2) := dk_16 30 (dk_at dksX10_door_3 3 rfl rfl)
theorem dX10_door_95 : decode cX10_door 95 = .ok (.iload_n 1, 1) := dk_27 (dk_at dksX10_door_3 5 rfl rfl)
theorem dX10_door_96 : decode cX10_door 96 = .ok (.iadd, 1) := dk_96 (dk_at dksX10_door_3 6 rfl rfl)
theorem dX10_door_97 : decode cX10_door 97 = .ok (.iaload, 1) := dk_46 (dk_at dksX10_door_3 7 rfl rfl)
theorem dX10_door_98 : decode cX10_door 98 = .ok (.ireturn, 1) := dk_172 (dk_at dksX10_door_3 8 rfl rfl)
theorem dX10_door_99 : decode cX10_door 99 = .ok (.aload_n 0, 1) := dk_42 (dk_at dksX10_door_3 9 rfl rfl)
theorem dX10_door_100 : decode cX10_door 100 = .ok (.getfield 122, 3) := dk_180 0 122 (dk_at dksX10_door_3 10 rfl rfl)
theorem dX10_door_103 : decode cX10_door 103 = .ok (.bipush 36, 2) := dk_16 36 (dk_at dksX10_door_3 13 rfl rfl)
theorem dX10_door_105 : decode cX10_door 105 = .ok (.iload_n 1, 1) := dk_27 (dk_at dksX10_door_3 15 rfl rfl)
theorem dX10_door_106 : decode cX10_door 106 = .ok (.iadd, 1) := dk_96 (dk_at dksX10_door_3 16 rfl rfl)
theorem dX10_door_107 : decode cX10_door 107 = .ok (.iaload, 1) := dk_46 (dk_at dksX10_door_3 17 rfl rfl)
theorem dX10_door_108 : decode cX10_door 108 = .ok (.ireturn, 1) := dk_172 (dk_at dksX10_door_3 18 rfl rfl)
theorem dX10_door_109 : decode cX10_door 109 = .ok (.aload_n 0, 1) := dk_42 (dk_at dksX10_door_3 19 rfl rfl)
theorem dX10_door_110 : decode cX10_door 110 = .ok (.getfield 122, 3) := dk_180 0 122 (dk_at dksX10_door_3 20 rfl rfl)
theorem dX10_door_113 : decode cX10_door 113 = .ok (.bipush 42, 2) := dk_16 42 (dk_at dksX10_door_4 0 rfl rfl)
theorem dX10_door_115 : decode cX10_door 115 = .ok (.iload_n 1, 1) := dk_27 (dk_at dksX10_door_4 2 rfl rfl)
theorem dX10_door_116 : decode cX10_door 116 = .ok (.iadd, 1) := dk_96 (dk_at dksX10_door_4 3 rfl rfl)
theorem dX10_door_117 : decode cX10_door 117 = .ok (.iaload, 1) := dk_46 (dk_at dksX10_door_4 4 rfl rfl)
theorem dX10_door_118 : decode cX10_door 118 = .ok (.ireturn, 1) := dk_172 (dk_at dksX10_door_4 5 rfl rfl)
theorem dX10_door_119 : decode cX10_door 119 = .ok (.aload_n 0, 1) := dk_42 (dk_at dksX10_door_4 6 rfl rfl)
theorem dX10_door_120 : decode cX10_door 120 = .ok (.iload_n 1, 1) := dk_27 (dk_at dksX10_door_4 7 rfl rfl)
theorem dX10_door_121 : decode cX10_door 121 = .ok (.invokevirtual 390, 3) := dk_182 1 134 (dk_at dksX10_door_4 8 rfl rfl)
theorem dX10_door_124 : decode cX10_door 124 = .ok (.ireturn, 1) := dk_172 (dk_at dksX10_door_4 11 rfl rfl)
theorem dX10_door_125 : decode cX10_door 125 = .ok (.aload_n 0, 1) := dk_42 (dk_at dksX10_door_4 12 rfl rfl)
theorem dX10_door_126 : decode cX10_door 126 = .ok (.iload_n 1, 1) := dk_27 (dk_at dksX10_door_4 13 rfl rfl)
theorem dX10_door_127 : decode cX10_door 127 = .ok (.invokevirtual 357, 3) := dk_182 1 101 (dk_at dksX10_door_4 14 rfl rfl)
theorem dX10_door_130 : decode cX10_door 130 = .ok (.ireturn, 1) := dk_172 (dk_at dksX10_door_4 17 rfl rfl)
theorem dX10_door_131 : decode cX10_door 131 = .ok (.iconst (-1), 1) := dk_2 (dk_at dksX10_door_4 18 rfl rfl)
theorem dX10_door_132 : decode cX10_door 132 = .ok (.ireturn, 1) := dk_172 (dk_at dksX10_door_4 19 rfl rfl)
abbrev cX10_isDoor : ByteArray := prog_21_method_41_code
def yX10_isDoor : MethodName := ⟨RX10, "isDoor", "(I)Z"⟩
def dkwX10_isDoor_0 : List UInt8 := [27, 3, 42, 180, 0, 46, 42, 180, 0, 233, 46, 4, 100, 184, 1, 57, 172]
abbrev dktX10_isDoor_0 : List UInt8 := dkwX10_isDoor_0 ++ []
theorem dksX10_isDoor_0 : cX10_isDoor.data.toList.drop 0 = dktX10_isDoor_0 := by decide +kernel
theorem dX10_isDoor_0 : decode cX10_isDoor 0 = .ok (.iload_n 1, 1) := dk_27 (dk_at dksX10_isDoor_0 0 rfl rfl)
theorem dX10_isDoor_1 : decode cX10_isDoor 1 = .ok (.iconst 0, 1) := dk_3 (dk_at dksX10_isDoor_0 1 rfl rfl)
theorem dX10_isDoor_2 : decode cX10_isDoor 2 = .ok (.aload_n 0, 1) := dk_42 (dk_at dksX10_isDoor_0 2 rfl rfl)
theorem dX10_isDoor_3 : decode cX10_isDoor 3 = .ok (.getfield 46, 3) := dk_180 0 46 (dk_at dksX10_isDoor_0 3 rfl rfl)
theorem dX10_isDoor_6 : decode cX10_isDoor 6 = .ok (.aload_n 0, 1) := dk_42 (dk_at dksX10_isDoor_0 6 rfl rfl)
theorem dX10_isDoor_7 : decode cX10_isDoor 7 = .ok (.getfield 233, 3) := dk_180 0 233 (dk_at dksX10_isDoor_0 7 rfl rfl)
theorem dX10_isDoor_10 : decode cX10_isDoor 10 = .ok (.iaload, 1) := dk_46 (dk_at dksX10_isDoor_0 10 rfl rfl)
theorem dX10_isDoor_11 : decode cX10_isDoor 11 = .ok (.iconst 1, 1) := dk_4 (dk_at dksX10_isDoor_0 11 rfl rfl)
theorem dX10_isDoor_12 : decode cX10_isDoor 12 = .ok (.isub, 1) := dk_100 (dk_at dksX10_isDoor_0 12 rfl rfl)
theorem dX10_isDoor_13 : decode cX10_isDoor 13 = .ok (.invokestatic 313, 3) := dk_184 1 57 (dk_at dksX10_isDoor_0 13 rfl rfl)
theorem dX10_isDoor_16 : decode cX10_isDoor 16 = .ok (.ireturn, 1) := dk_172 (dk_at dksX10_isDoor_0 16 rfl rfl)
abbrev cX10_in : ByteArray := prog_21_method_37_code
def yX10_in : MethodName := ⟨RX10, "in", "(III)Z"⟩
def dkwX10_in_0 : List UInt8 := [26, 27, 161, 0, 12, 26, 28, 163, 0, 7, 4, 167, 0, 4, 3, 172]
abbrev dktX10_in_0 : List UInt8 := dkwX10_in_0 ++ []
theorem dksX10_in_0 : cX10_in.data.toList.drop 0 = dktX10_in_0 := by decide +kernel
theorem dX10_in_0 : decode cX10_in 0 = .ok (.iload_n 0, 1) := dk_26 (dk_at dksX10_in_0 0 rfl rfl)
theorem dX10_in_1 : decode cX10_in 1 = .ok (.iload_n 1, 1) := dk_27 (dk_at dksX10_in_0 1 rfl rfl)
theorem dX10_in_2 : decode cX10_in 2 = .ok (.if_icmp .lt 12, 3) := dk_161 0 12 (dk_at dksX10_in_0 2 rfl rfl)
theorem dX10_in_5 : decode cX10_in 5 = .ok (.iload_n 0, 1) := dk_26 (dk_at dksX10_in_0 5 rfl rfl)
theorem dX10_in_6 : decode cX10_in 6 = .ok (.iload_n 2, 1) := dk_28 (dk_at dksX10_in_0 6 rfl rfl)
theorem dX10_in_7 : decode cX10_in 7 = .ok (.if_icmp .gt 7, 3) := dk_163 0 7 (dk_at dksX10_in_0 7 rfl rfl)
theorem dX10_in_10 : decode cX10_in 10 = .ok (.iconst 1, 1) := dk_4 (dk_at dksX10_in_0 10 rfl rfl)
theorem dX10_in_11 : decode cX10_in 11 = .ok (.goto 4, 3) := dk_167 0 4 (dk_at dksX10_in_0 11 rfl rfl)
theorem dX10_in_14 : decode cX10_in 14 = .ok (.iconst 0, 1) := dk_3 (dk_at dksX10_in_0 14 rfl rfl)
theorem dX10_in_15 : decode cX10_in 15 = .ok (.ireturn, 1) := dk_172 (dk_at dksX10_in_0 15 rfl rfl)
abbrev cX10_copies : ByteArray := prog_21_method_46_code
def yX10_copies : MethodName := ⟨RX10, "copies", "()V"⟩
def dkwX10_copies_1 : List UInt8 := [167, 255, 235, 42, 42, 180, 0, 79, 42, 180, 0, 233, 46, 181, 1, 61, 42, 3, 181, 1, 64, 177]
abbrev dktX10_copies_1 : List UInt8 := dkwX10_copies_1 ++ []
def dkwX10_copies_0 : List UInt8 := [3, 60, 27, 16, 70, 162, 0, 21, 42, 180, 0, 122, 27, 42, 180, 0, 119, 27, 46, 79, 132, 1, 1]
abbrev dktX10_copies_0 : List UInt8 := dkwX10_copies_0 ++ dktX10_copies_1
theorem dksX10_copies_0 : cX10_copies.data.toList.drop 0 = dktX10_copies_0 := by decide +kernel
theorem dksX10_copies_1 : cX10_copies.data.toList.drop 23 = dktX10_copies_1 := dk_seg dksX10_copies_0 23 rfl rfl
theorem dX10_copies_0 : decode cX10_copies 0 = .ok (.iconst 0, 1) := dk_3 (dk_at dksX10_copies_0 0 rfl rfl)
theorem dX10_copies_1 : decode cX10_copies 1 = .ok (.istore_n 1, 1) := dk_60 (dk_at dksX10_copies_0 1 rfl rfl)
theorem dX10_copies_2 : decode cX10_copies 2 = .ok (.iload_n 1, 1) := dk_27 (dk_at dksX10_copies_0 2 rfl rfl)
theorem dX10_copies_3 : decode cX10_copies 3 = .ok (.bipush 70, 2) := dk_16 70 (dk_at dksX10_copies_0 3 rfl rfl)
theorem dX10_copies_5 : decode cX10_copies 5 = .ok (.if_icmp .ge 21, 3) := dk_162 0 21 (dk_at dksX10_copies_0 5 rfl rfl)
theorem dX10_copies_8 : decode cX10_copies 8 = .ok (.aload_n 0, 1) := dk_42 (dk_at dksX10_copies_0 8 rfl rfl)
theorem dX10_copies_9 : decode cX10_copies 9 = .ok (.getfield 122, 3) := dk_180 0 122 (dk_at dksX10_copies_0 9 rfl rfl)
theorem dX10_copies_12 : decode cX10_copies 12 = .ok (.iload_n 1, 1) := dk_27 (dk_at dksX10_copies_0 12 rfl rfl)
theorem dX10_copies_13 : decode cX10_copies 13 = .ok (.aload_n 0, 1) := dk_42 (dk_at dksX10_copies_0 13 rfl rfl)
theorem dX10_copies_14 : decode cX10_copies 14 = .ok (.getfield 119, 3) := dk_180 0 119 (dk_at dksX10_copies_0 14 rfl rfl)
theorem dX10_copies_17 : decode cX10_copies 17 = .ok (.iload_n 1, 1) := dk_27 (dk_at dksX10_copies_0 17 rfl rfl)
theorem dX10_copies_18 : decode cX10_copies 18 = .ok (.iaload, 1) := dk_46 (dk_at dksX10_copies_0 18 rfl rfl)
theorem dX10_copies_19 : decode cX10_copies 19 = .ok (.iastore, 1) := dk_79 (dk_at dksX10_copies_0 19 rfl rfl)
theorem dX10_copies_20 : decode cX10_copies 20 = .ok (.iinc 1 1, 3) := dk_132 1 1 (dk_at dksX10_copies_0 20 rfl rfl)
theorem dX10_copies_23 : decode cX10_copies 23 = .ok (.goto (-21), 3) := dk_167 255 235 (dk_at dksX10_copies_1 0 rfl rfl)
theorem dX10_copies_26 : decode cX10_copies 26 = .ok (.aload_n 0, 1) := dk_42 (dk_at dksX10_copies_1 3 rfl rfl)
theorem dX10_copies_27 : decode cX10_copies 27 = .ok (.aload_n 0, 1) := dk_42 (dk_at dksX10_copies_1 4 rfl rfl)
theorem dX10_copies_28 : decode cX10_copies 28 = .ok (.getfield 79, 3) := dk_180 0 79 (dk_at dksX10_copies_1 5 rfl rfl)
theorem dX10_copies_31 : decode cX10_copies 31 = .ok (.aload_n 0, 1) := dk_42 (dk_at dksX10_copies_1 8 rfl rfl)
theorem dX10_copies_32 : decode cX10_copies 32 = .ok (.getfield 233, 3) := dk_180 0 233 (dk_at dksX10_copies_1 9 rfl rfl)
theorem dX10_copies_35 : decode cX10_copies 35 = .ok (.iaload, 1) := dk_46 (dk_at dksX10_copies_1 12 rfl rfl)
theorem dX10_copies_36 : decode cX10_copies 36 = .ok (.putfield 317, 3) := dk_181 1 61 (dk_at dksX10_copies_1 13 rfl rfl)
theorem dX10_copies_39 : decode cX10_copies 39 = .ok (.aload_n 0, 1) := dk_42 (dk_at dksX10_copies_1 16 rfl rfl)
theorem dX10_copies_40 : decode cX10_copies 40 = .ok (.iconst 0, 1) := dk_3 (dk_at dksX10_copies_1 17 rfl rfl)
theorem dX10_copies_41 : decode cX10_copies 41 = .ok (.putfield 320, 3) := dk_181 1 64 (dk_at dksX10_copies_1 18 rfl rfl)
theorem dX10_copies_44 : decode cX10_copies 44 = .ok (.return_, 1) := dk_177 (dk_at dksX10_copies_1 21 rfl rfl)
abbrev cX10_knownBy : ByteArray := prog_21_method_55_code
def yX10_knownBy : MethodName := ⟨RX10, "knownBy", "(I)I"⟩
def dkwX10_knownBy_3 : List UInt8 := [28, 172]
abbrev dktX10_knownBy_3 : List UInt8 := dkwX10_knownBy_3 ++ []
def dkwX10_knownBy_2 : List UInt8 := [155, 0, 12, 21, 5, 29, 161, 0, 6, 167, 0, 9, 21, 4, 61, 21, 5, 62, 132, 4, 1, 167, 255, 197]
abbrev dktX10_knownBy_2 : List UInt8 := dkwX10_knownBy_2 ++ dktX10_knownBy_3
def dkwX10_knownBy_1 : List UInt8 := [21, 4, 182, 1, 86, 54, 5, 21, 5, 42, 180, 0, 76, 42, 180, 0, 233, 46, 163, 0, 22, 28]
abbrev dktX10_knownBy_1 : List UInt8 := dkwX10_knownBy_1 ++ dktX10_knownBy_2
def dkwX10_knownBy_0 : List UInt8 := [16, 254, 61, 3, 62, 3, 54, 4, 21, 4, 42, 180, 0, 52, 42, 180, 0, 233, 46, 162, 0, 51, 42, 27]
abbrev dktX10_knownBy_0 : List UInt8 := dkwX10_knownBy_0 ++ dktX10_knownBy_1
theorem dksX10_knownBy_0 : cX10_knownBy.data.toList.drop 0 = dktX10_knownBy_0 := by decide +kernel
theorem dksX10_knownBy_1 : cX10_knownBy.data.toList.drop 24 = dktX10_knownBy_1 := dk_seg dksX10_knownBy_0 24 rfl rfl
theorem dksX10_knownBy_2 : cX10_knownBy.data.toList.drop 46 = dktX10_knownBy_2 := dk_seg dksX10_knownBy_1 22 rfl rfl
theorem dksX10_knownBy_3 : cX10_knownBy.data.toList.drop 70 = dktX10_knownBy_3 := dk_seg dksX10_knownBy_2 24 rfl rfl
theorem dX10_knownBy_0 : decode cX10_knownBy 0 = .ok (.bipush (-2), 2) := dk_16 254 (dk_at dksX10_knownBy_0 0 rfl rfl)
theorem dX10_knownBy_2 : decode cX10_knownBy 2 = .ok (.istore_n 2, 1) := dk_61 (dk_at dksX10_knownBy_0 2 rfl rfl)
theorem dX10_knownBy_3 : decode cX10_knownBy 3 = .ok (.iconst 0, 1) := dk_3 (dk_at dksX10_knownBy_0 3 rfl rfl)
theorem dX10_knownBy_4 : decode cX10_knownBy 4 = .ok (.istore_n 3, 1) := dk_62 (dk_at dksX10_knownBy_0 4 rfl rfl)
theorem dX10_knownBy_5 : decode cX10_knownBy 5 = .ok (.iconst 0, 1) := dk_3 (dk_at dksX10_knownBy_0 5 rfl rfl)
theorem dX10_knownBy_6 : decode cX10_knownBy 6 = .ok (.istore 4, 2) := dk_54 4 (dk_at dksX10_knownBy_0 6 rfl rfl)
theorem dX10_knownBy_8 : decode cX10_knownBy 8 = .ok (.iload 4, 2) := dk_21 4 (dk_at dksX10_knownBy_0 8 rfl rfl)
theorem dX10_knownBy_10 : decode cX10_knownBy 10 = .ok (.aload_n 0, 1) := dk_42 (dk_at dksX10_knownBy_0 10 rfl rfl)
theorem dX10_knownBy_11 : decode cX10_knownBy 11 = .ok (.getfield 52, 3) := dk_180 0 52 (dk_at dksX10_knownBy_0 11 rfl rfl)
theorem dX10_knownBy_14 : decode cX10_knownBy 14 = .ok (.aload_n 0, 1) := dk_42 (dk_at dksX10_knownBy_0 14 rfl rfl)
theorem dX10_knownBy_15 : decode cX10_knownBy 15 = .ok (.getfield 233, 3) := dk_180 0 233 (dk_at dksX10_knownBy_0 15 rfl rfl)
theorem dX10_knownBy_18 : decode cX10_knownBy 18 = .ok (.iaload, 1) := dk_46 (dk_at dksX10_knownBy_0 18 rfl rfl)
theorem dX10_knownBy_19 : decode cX10_knownBy 19 = .ok (.if_icmp .ge 51, 3) := dk_162 0 51 (dk_at dksX10_knownBy_0 19 rfl rfl)
theorem dX10_knownBy_22 : decode cX10_knownBy 22 = .ok (.aload_n 0, 1) := dk_42 (dk_at dksX10_knownBy_0 22 rfl rfl)
theorem dX10_knownBy_23 : decode cX10_knownBy 23 = .ok (.iload_n 1, 1) := dk_27 (dk_at dksX10_knownBy_0 23 rfl rfl)
theorem dX10_knownBy_24 : decode cX10_knownBy 24 = .ok (.iload 4, 2) := dk_21 4 (dk_at dksX10_knownBy_1 0 rfl rfl)
theorem dX10_knownBy_26 : decode cX10_knownBy 26 = .ok (.invokevirtual 342, 3) := dk_182 1 86 (dk_at dksX10_knownBy_1 2 rfl rfl)
theorem dX10_knownBy_29 : decode cX10_knownBy 29 = .ok (.istore 5, 2) := dk_54 5 (dk_at dksX10_knownBy_1 5 rfl rfl)
theorem dX10_knownBy_31 : decode cX10_knownBy 31 = .ok (.iload 5, 2) := dk_21 5 (dk_at dksX10_knownBy_1 7 rfl rfl)
theorem dX10_knownBy_33 : decode cX10_knownBy 33 = .ok (.aload_n 0, 1) := dk_42 (dk_at dksX10_knownBy_1 9 rfl rfl)
theorem dX10_knownBy_34 : decode cX10_knownBy 34 = .ok (.getfield 76, 3) := dk_180 0 76 (dk_at dksX10_knownBy_1 10 rfl rfl)
theorem dX10_knownBy_37 : decode cX10_knownBy 37 = .ok (.aload_n 0, 1) := dk_42 (dk_at dksX10_knownBy_1 13 rfl rfl)
theorem dX10_knownBy_38 : decode cX10_knownBy 38 = .ok (.getfield 233, 3) := dk_180 0 233 (dk_at dksX10_knownBy_1 14 rfl rfl)
theorem dX10_knownBy_41 : decode cX10_knownBy 41 = .ok (.iaload, 1) := dk_46 (dk_at dksX10_knownBy_1 17 rfl rfl)
theorem dX10_knownBy_42 : decode cX10_knownBy 42 = .ok (.if_icmp .gt 22, 3) := dk_163 0 22 (dk_at dksX10_knownBy_1 18 rfl rfl)
theorem dX10_knownBy_45 : decode cX10_knownBy 45 = .ok (.iload_n 2, 1) := dk_28 (dk_at dksX10_knownBy_1 21 rfl rfl)
theorem dX10_knownBy_46 : decode cX10_knownBy 46 = .ok (.ifCond .lt 12, 3) := dk_155 0 12 (dk_at dksX10_knownBy_2 0 rfl rfl)
theorem dX10_knownBy_49 : decode cX10_knownBy 49 = .ok (.iload 5, 2) := dk_21 5 (dk_at dksX10_knownBy_2 3 rfl rfl)
theorem dX10_knownBy_51 : decode cX10_knownBy 51 = .ok (.iload_n 3, 1) := dk_29 (dk_at dksX10_knownBy_2 5 rfl rfl)
theorem dX10_knownBy_52 : decode cX10_knownBy 52 = .ok (.if_icmp .lt 6, 3) := dk_161 0 6 (dk_at dksX10_knownBy_2 6 rfl rfl)
theorem dX10_knownBy_55 : decode cX10_knownBy 55 = .ok (.goto 9, 3) := dk_167 0 9 (dk_at dksX10_knownBy_2 9 rfl rfl)
theorem dX10_knownBy_58 : decode cX10_knownBy 58 = .ok (.iload 4, 2) := dk_21 4 (dk_at dksX10_knownBy_2 12 rfl rfl)
theorem dX10_knownBy_60 : decode cX10_knownBy 60 = .ok (.istore_n 2, 1) := dk_61 (dk_at dksX10_knownBy_2 14 rfl rfl)
theorem dX10_knownBy_61 : decode cX10_knownBy 61 = .ok (.iload 5, 2) := dk_21 5 (dk_at dksX10_knownBy_2 15 rfl rfl)
theorem dX10_knownBy_63 : decode cX10_knownBy 63 = .ok (.istore_n 3, 1) := dk_62 (dk_at dksX10_knownBy_2 17 rfl rfl)
theorem dX10_knownBy_64 : decode cX10_knownBy 64 = .ok (.iinc 4 1, 3) := dk_132 4 1 (dk_at dksX10_knownBy_2 18 rfl rfl)
theorem dX10_knownBy_67 : decode cX10_knownBy 67 = .ok (.goto (-59), 3) := dk_167 255 197 (dk_at dksX10_knownBy_2 21 rfl rfl)
theorem dX10_knownBy_70 : decode cX10_knownBy 70 = .ok (.iload_n 2, 1) := dk_28 (dk_at dksX10_knownBy_3 0 rfl rfl)
theorem dX10_knownBy_71 : decode cX10_knownBy 71 = .ok (.ireturn, 1) := dk_172 (dk_at dksX10_knownBy_3 1 rfl rfl)
abbrev cX10_unlikeTo : ByteArray := prog_21_method_53_code
def yX10_unlikeTo : MethodName := ⟨RX10, "unlikeTo", "(II)I"⟩
def dkwX10_unlikeTo_1 : List UInt8 := [28, 21, 4, 182, 1, 77, 184, 1, 80, 96, 62, 132, 4, 1, 167, 255, 223, 29, 172]
abbrev dktX10_unlikeTo_1 : List UInt8 := dkwX10_unlikeTo_1 ++ []
def dkwX10_unlikeTo_0 : List UInt8 := [3, 62, 3, 54, 4, 21, 4, 7, 162, 0, 33, 29, 42, 180, 0, 122, 7, 27, 104, 21, 4, 96, 46, 42]
abbrev dktX10_unlikeTo_0 : List UInt8 := dkwX10_unlikeTo_0 ++ dktX10_unlikeTo_1
theorem dksX10_unlikeTo_0 : cX10_unlikeTo.data.toList.drop 0 = dktX10_unlikeTo_0 := by decide +kernel
theorem dksX10_unlikeTo_1 : cX10_unlikeTo.data.toList.drop 24 = dktX10_unlikeTo_1 := dk_seg dksX10_unlikeTo_0 24 rfl rfl
theorem dX10_unlikeTo_0 : decode cX10_unlikeTo 0 = .ok (.iconst 0, 1) := dk_3 (dk_at dksX10_unlikeTo_0 0 rfl rfl)
theorem dX10_unlikeTo_1 : decode cX10_unlikeTo 1 = .ok (.istore_n 3, 1) := dk_62 (dk_at dksX10_unlikeTo_0 1 rfl rfl)
theorem dX10_unlikeTo_2 : decode cX10_unlikeTo 2 = .ok (.iconst 0, 1) := dk_3 (dk_at dksX10_unlikeTo_0 2 rfl rfl)
theorem dX10_unlikeTo_3 : decode cX10_unlikeTo 3 = .ok (.istore 4, 2) := dk_54 4 (dk_at dksX10_unlikeTo_0 3 rfl rfl)
theorem dX10_unlikeTo_5 : decode cX10_unlikeTo 5 = .ok (.iload 4, 2) := dk_21 4 (dk_at dksX10_unlikeTo_0 5 rfl rfl)
theorem dX10_unlikeTo_7 : decode cX10_unlikeTo 7 = .ok (.iconst 4, 1) := dk_7 (dk_at dksX10_unlikeTo_0 7 rfl rfl)
theorem dX10_unlikeTo_8 : decode cX10_unlikeTo 8 = .ok (.if_icmp .ge 33, 3) := dk_162 0 33 (dk_at dksX10_unlikeTo_0 8 rfl rfl)
theorem dX10_unlikeTo_11 : decode cX10_unlikeTo 11 = .ok (.iload_n 3, 1) := dk_29 (dk_at dksX10_unlikeTo_0 11 rfl rfl)
theorem dX10_unlikeTo_12 : decode cX10_unlikeTo 12 = .ok (.aload_n 0, 1) := dk_42 (dk_at dksX10_unlikeTo_0 12 rfl rfl)
theorem dX10_unlikeTo_13 : decode cX10_unlikeTo 13 = .ok (.getfield 122, 3) := dk_180 0 122 (dk_at dksX10_unlikeTo_0 13 rfl rfl)
theorem dX10_unlikeTo_16 : decode cX10_unlikeTo 16 = .ok (.iconst 4, 1) := dk_7 (dk_at dksX10_unlikeTo_0 16 rfl rfl)
theorem dX10_unlikeTo_17 : decode cX10_unlikeTo 17 = .ok (.iload_n 1, 1) := dk_27 (dk_at dksX10_unlikeTo_0 17 rfl rfl)
theorem dX10_unlikeTo_18 : decode cX10_unlikeTo 18 = .ok (.imul, 1) := dk_104 (dk_at dksX10_unlikeTo_0 18 rfl rfl)
theorem dX10_unlikeTo_19 : decode cX10_unlikeTo 19 = .ok (.iload 4, 2) := dk_21 4 (dk_at dksX10_unlikeTo_0 19 rfl rfl)
theorem dX10_unlikeTo_21 : decode cX10_unlikeTo 21 = .ok (.iadd, 1) := dk_96 (dk_at dksX10_unlikeTo_0 21 rfl rfl)
theorem dX10_unlikeTo_22 : decode cX10_unlikeTo 22 = .ok (.iaload, 1) := dk_46 (dk_at dksX10_unlikeTo_0 22 rfl rfl)
theorem dX10_unlikeTo_23 : decode cX10_unlikeTo 23 = .ok (.aload_n 0, 1) := dk_42 (dk_at dksX10_unlikeTo_0 23 rfl rfl)
theorem dX10_unlikeTo_24 : decode cX10_unlikeTo 24 = .ok (.iload_n 2, 1) := dk_28 (dk_at dksX10_unlikeTo_1 0 rfl rfl)
theorem dX10_unlikeTo_25 : decode cX10_unlikeTo 25 = .ok (.iload 4, 2) := dk_21 4 (dk_at dksX10_unlikeTo_1 1 rfl rfl)
theorem dX10_unlikeTo_27 : decode cX10_unlikeTo 27 = .ok (.invokevirtual 333, 3) := dk_182 1 77 (dk_at dksX10_unlikeTo_1 3 rfl rfl)
theorem dX10_unlikeTo_30 : decode cX10_unlikeTo 30 = .ok (.invokestatic 336, 3) := dk_184 1 80 (dk_at dksX10_unlikeTo_1 6 rfl rfl)
theorem dX10_unlikeTo_33 : decode cX10_unlikeTo 33 = .ok (.iadd, 1) := dk_96 (dk_at dksX10_unlikeTo_1 9 rfl rfl)
theorem dX10_unlikeTo_34 : decode cX10_unlikeTo 34 = .ok (.istore_n 3, 1) := dk_62 (dk_at dksX10_unlikeTo_1 10 rfl rfl)
theorem dX10_unlikeTo_35 : decode cX10_unlikeTo 35 = .ok (.iinc 4 1, 3) := dk_132 4 1 (dk_at dksX10_unlikeTo_1 11 rfl rfl)
theorem dX10_unlikeTo_38 : decode cX10_unlikeTo 38 = .ok (.goto (-33), 3) := dk_167 255 223 (dk_at dksX10_unlikeTo_1 14 rfl rfl)
theorem dX10_unlikeTo_41 : decode cX10_unlikeTo 41 = .ok (.iload_n 3, 1) := dk_29 (dk_at dksX10_unlikeTo_1 17 rfl rfl)
theorem dX10_unlikeTo_42 : decode cX10_unlikeTo 42 = .ok (.ireturn, 1) := dk_172 (dk_at dksX10_unlikeTo_1 18 rfl rfl)
abbrev cX10_facePart : ByteArray := prog_21_method_51_code
def yX10_facePart : MethodName := ⟨RX10, "facePart", "(II)I"⟩
def dkwX10_facePart_0 : List UInt8 := [42, 180, 0, 55, 16, 20, 42, 180, 0, 233, 104, 7, 27, 104, 96, 28, 96, 46, 172]
abbrev dktX10_facePart_0 : List UInt8 := dkwX10_facePart_0 ++ []
theorem dksX10_facePart_0 : cX10_facePart.data.toList.drop 0 = dktX10_facePart_0 := by decide +kernel
theorem dX10_facePart_0 : decode cX10_facePart 0 = .ok (.aload_n 0, 1) := dk_42 (dk_at dksX10_facePart_0 0 rfl rfl)
theorem dX10_facePart_1 : decode cX10_facePart 1 = .ok (.getfield 55, 3) := dk_180 0 55 (dk_at dksX10_facePart_0 1 rfl rfl)
theorem dX10_facePart_4 : decode cX10_facePart 4 = .ok (.bipush 20, 2) := dk_16 20 (dk_at dksX10_facePart_0 4 rfl rfl)
theorem dX10_facePart_6 : decode cX10_facePart 6 = .ok (.aload_n 0, 1) := dk_42 (dk_at dksX10_facePart_0 6 rfl rfl)
theorem dX10_facePart_7 : decode cX10_facePart 7 = .ok (.getfield 233, 3) := dk_180 0 233 (dk_at dksX10_facePart_0 7 rfl rfl)
theorem dX10_facePart_10 : decode cX10_facePart 10 = .ok (.imul, 1) := dk_104 (dk_at dksX10_facePart_0 10 rfl rfl)
theorem dX10_facePart_11 : decode cX10_facePart 11 = .ok (.iconst 4, 1) := dk_7 (dk_at dksX10_facePart_0 11 rfl rfl)
theorem dX10_facePart_12 : decode cX10_facePart 12 = .ok (.iload_n 1, 1) := dk_27 (dk_at dksX10_facePart_0 12 rfl rfl)
theorem dX10_facePart_13 : decode cX10_facePart 13 = .ok (.imul, 1) := dk_104 (dk_at dksX10_facePart_0 13 rfl rfl)
theorem dX10_facePart_14 : decode cX10_facePart 14 = .ok (.iadd, 1) := dk_96 (dk_at dksX10_facePart_0 14 rfl rfl)
theorem dX10_facePart_15 : decode cX10_facePart 15 = .ok (.iload_n 2, 1) := dk_28 (dk_at dksX10_facePart_0 15 rfl rfl)
theorem dX10_facePart_16 : decode cX10_facePart 16 = .ok (.iadd, 1) := dk_96 (dk_at dksX10_facePart_0 16 rfl rfl)
theorem dX10_facePart_17 : decode cX10_facePart 17 = .ok (.iaload, 1) := dk_46 (dk_at dksX10_facePart_0 17 rfl rfl)
theorem dX10_facePart_18 : decode cX10_facePart 18 = .ok (.ireturn, 1) := dk_172 (dk_at dksX10_facePart_0 18 rfl rfl)
abbrev cX10_off : ByteArray := prog_21_method_40_code
def yX10_off : MethodName := ⟨RX10, "off", "(II)I"⟩
def dkwX10_off_0 : List UInt8 := [26, 27, 162, 0, 9, 27, 26, 100, 167, 0, 6, 26, 27, 100, 172]
abbrev dktX10_off_0 : List UInt8 := dkwX10_off_0 ++ []
theorem dksX10_off_0 : cX10_off.data.toList.drop 0 = dktX10_off_0 := by decide +kernel
theorem dX10_off_0 : decode cX10_off 0 = .ok (.iload_n 0, 1) := dk_26 (dk_at dksX10_off_0 0 rfl rfl)
theorem dX10_off_1 : decode cX10_off 1 = .ok (.iload_n 1, 1) := dk_27 (dk_at dksX10_off_0 1 rfl rfl)
theorem dX10_off_2 : decode cX10_off 2 = .ok (.if_icmp .ge 9, 3) := dk_162 0 9 (dk_at dksX10_off_0 2 rfl rfl)
theorem dX10_off_5 : decode cX10_off 5 = .ok (.iload_n 1, 1) := dk_27 (dk_at dksX10_off_0 5 rfl rfl)
theorem dX10_off_6 : decode cX10_off 6 = .ok (.iload_n 0, 1) := dk_26 (dk_at dksX10_off_0 6 rfl rfl)
theorem dX10_off_7 : decode cX10_off 7 = .ok (.isub, 1) := dk_100 (dk_at dksX10_off_0 7 rfl rfl)
theorem dX10_off_8 : decode cX10_off 8 = .ok (.goto 6, 3) := dk_167 0 6 (dk_at dksX10_off_0 8 rfl rfl)
theorem dX10_off_11 : decode cX10_off 11 = .ok (.iload_n 0, 1) := dk_26 (dk_at dksX10_off_0 11 rfl rfl)
theorem dX10_off_12 : decode cX10_off 12 = .ok (.iload_n 1, 1) := dk_27 (dk_at dksX10_off_0 12 rfl rfl)
theorem dX10_off_13 : decode cX10_off 13 = .ok (.isub, 1) := dk_100 (dk_at dksX10_off_0 13 rfl rfl)
theorem dX10_off_14 : decode cX10_off 14 = .ok (.ireturn, 1) := dk_172 (dk_at dksX10_off_0 14 rfl rfl)
abbrev cX10_unlikeFirst : ByteArray := prog_21_method_54_code
def yX10_unlikeFirst : MethodName := ⟨RX10, "unlikeFirst", "(I)I"⟩
def dkwX10_unlikeFirst_1 : List UInt8 := [182, 1, 83, 184, 1, 80, 96, 61, 132, 3, 1, 167, 255, 226, 28, 172]
abbrev dktX10_unlikeFirst_1 : List UInt8 := dkwX10_unlikeFirst_1 ++ []
def dkwX10_unlikeFirst_0 : List UInt8 := [3, 61, 3, 62, 29, 7, 162, 0, 31, 28, 42, 180, 0, 122, 7, 27, 104, 29, 96, 46, 42, 27, 29]
abbrev dktX10_unlikeFirst_0 : List UInt8 := dkwX10_unlikeFirst_0 ++ dktX10_unlikeFirst_1
theorem dksX10_unlikeFirst_0 : cX10_unlikeFirst.data.toList.drop 0 = dktX10_unlikeFirst_0 := by decide +kernel
theorem dksX10_unlikeFirst_1 : cX10_unlikeFirst.data.toList.drop 23 = dktX10_unlikeFirst_1 := dk_seg dksX10_unlikeFirst_0 23 rfl rfl
theorem dX10_unlikeFirst_0 : decode cX10_unlikeFirst 0 = .ok (.iconst 0, 1) := dk_3 (dk_at dksX10_unlikeFirst_0 0 rfl rfl)
theorem dX10_unlikeFirst_1 : decode cX10_unlikeFirst 1 = .ok (.istore_n 2, 1) := dk_61 (dk_at dksX10_unlikeFirst_0 1 rfl rfl)
theorem dX10_unlikeFirst_2 : decode cX10_unlikeFirst 2 = .ok (.iconst 0, 1) := dk_3 (dk_at dksX10_unlikeFirst_0 2 rfl rfl)
theorem dX10_unlikeFirst_3 : decode cX10_unlikeFirst 3 = .ok (.istore_n 3, 1) := dk_62 (dk_at dksX10_unlikeFirst_0 3 rfl rfl)
theorem dX10_unlikeFirst_4 : decode cX10_unlikeFirst 4 = .ok (.iload_n 3, 1) := dk_29 (dk_at dksX10_unlikeFirst_0 4 rfl rfl)
theorem dX10_unlikeFirst_5 : decode cX10_unlikeFirst 5 = .ok (.iconst 4, 1) := dk_7 (dk_at dksX10_unlikeFirst_0 5 rfl rfl)
theorem dX10_unlikeFirst_6 : decode cX10_unlikeFirst 6 = .ok (.if_icmp .ge 31, 3) := dk_162 0 31 (dk_at dksX10_unlikeFirst_0 6 rfl rfl)
theorem dX10_unlikeFirst_9 : decode cX10_unlikeFirst 9 = .ok (.iload_n 2, 1) := dk_28 (dk_at dksX10_unlikeFirst_0 9 rfl rfl)
theorem dX10_unlikeFirst_10 : decode cX10_unlikeFirst 10 = .ok (.aload_n 0, 1) := dk_42 (dk_at dksX10_unlikeFirst_0 10 rfl rfl)
theorem dX10_unlikeFirst_11 : decode cX10_unlikeFirst 11 = .ok (.getfield 122, 3) := dk_180 0 122 (dk_at dksX10_unlikeFirst_0 11 rfl rfl)
theorem dX10_unlikeFirst_14 : decode cX10_unlikeFirst 14 = .ok (.iconst 4, 1) := dk_7 (dk_at dksX10_unlikeFirst_0 14 rfl rfl)
theorem dX10_unlikeFirst_15 : decode cX10_unlikeFirst 15 = .ok (.iload_n 1, 1) := dk_27 (dk_at dksX10_unlikeFirst_0 15 rfl rfl)
theorem dX10_unlikeFirst_16 : decode cX10_unlikeFirst 16 = .ok (.imul, 1) := dk_104 (dk_at dksX10_unlikeFirst_0 16 rfl rfl)
theorem dX10_unlikeFirst_17 : decode cX10_unlikeFirst 17 = .ok (.iload_n 3, 1) := dk_29 (dk_at dksX10_unlikeFirst_0 17 rfl rfl)
theorem dX10_unlikeFirst_18 : decode cX10_unlikeFirst 18 = .ok (.iadd, 1) := dk_96 (dk_at dksX10_unlikeFirst_0 18 rfl rfl)
theorem dX10_unlikeFirst_19 : decode cX10_unlikeFirst 19 = .ok (.iaload, 1) := dk_46 (dk_at dksX10_unlikeFirst_0 19 rfl rfl)
theorem dX10_unlikeFirst_20 : decode cX10_unlikeFirst 20 = .ok (.aload_n 0, 1) := dk_42 (dk_at dksX10_unlikeFirst_0 20 rfl rfl)
theorem dX10_unlikeFirst_21 : decode cX10_unlikeFirst 21 = .ok (.iload_n 1, 1) := dk_27 (dk_at dksX10_unlikeFirst_0 21 rfl rfl)
theorem dX10_unlikeFirst_22 : decode cX10_unlikeFirst 22 = .ok (.iload_n 3, 1) := dk_29 (dk_at dksX10_unlikeFirst_0 22 rfl rfl)
theorem dX10_unlikeFirst_23 : decode cX10_unlikeFirst 23 = .ok (.invokevirtual 339, 3) := dk_182 1 83 (dk_at dksX10_unlikeFirst_1 0 rfl rfl)
theorem dX10_unlikeFirst_26 : decode cX10_unlikeFirst 26 = .ok (.invokestatic 336, 3) := dk_184 1 80 (dk_at dksX10_unlikeFirst_1 3 rfl rfl)
theorem dX10_unlikeFirst_29 : decode cX10_unlikeFirst 29 = .ok (.iadd, 1) := dk_96 (dk_at dksX10_unlikeFirst_1 6 rfl rfl)
theorem dX10_unlikeFirst_30 : decode cX10_unlikeFirst 30 = .ok (.istore_n 2, 1) := dk_61 (dk_at dksX10_unlikeFirst_1 7 rfl rfl)
theorem dX10_unlikeFirst_31 : decode cX10_unlikeFirst 31 = .ok (.iinc 3 1, 3) := dk_132 3 1 (dk_at dksX10_unlikeFirst_1 8 rfl rfl)
theorem dX10_unlikeFirst_34 : decode cX10_unlikeFirst 34 = .ok (.goto (-30), 3) := dk_167 255 226 (dk_at dksX10_unlikeFirst_1 11 rfl rfl)
theorem dX10_unlikeFirst_37 : decode cX10_unlikeFirst 37 = .ok (.iload_n 2, 1) := dk_28 (dk_at dksX10_unlikeFirst_1 14 rfl rfl)
theorem dX10_unlikeFirst_38 : decode cX10_unlikeFirst 38 = .ok (.ireturn, 1) := dk_172 (dk_at dksX10_unlikeFirst_1 15 rfl rfl)
abbrev cX10_firstPart : ByteArray := prog_21_method_52_code
def yX10_firstPart : MethodName := ⟨RX10, "firstPart", "(II)I"⟩
def dkwX10_firstPart_0 : List UInt8 := [42, 180, 0, 49, 16, 24, 42, 180, 0, 233, 104, 7, 27, 104, 96, 28, 96, 46, 172]
abbrev dktX10_firstPart_0 : List UInt8 := dkwX10_firstPart_0 ++ []
theorem dksX10_firstPart_0 : cX10_firstPart.data.toList.drop 0 = dktX10_firstPart_0 := by decide +kernel
theorem dX10_firstPart_0 : decode cX10_firstPart 0 = .ok (.aload_n 0, 1) := dk_42 (dk_at dksX10_firstPart_0 0 rfl rfl)
theorem dX10_firstPart_1 : decode cX10_firstPart 1 = .ok (.getfield 49, 3) := dk_180 0 49 (dk_at dksX10_firstPart_0 1 rfl rfl)
theorem dX10_firstPart_4 : decode cX10_firstPart 4 = .ok (.bipush 24, 2) := dk_16 24 (dk_at dksX10_firstPart_0 4 rfl rfl)
theorem dX10_firstPart_6 : decode cX10_firstPart 6 = .ok (.aload_n 0, 1) := dk_42 (dk_at dksX10_firstPart_0 6 rfl rfl)
theorem dX10_firstPart_7 : decode cX10_firstPart 7 = .ok (.getfield 233, 3) := dk_180 0 233 (dk_at dksX10_firstPart_0 7 rfl rfl)
theorem dX10_firstPart_10 : decode cX10_firstPart 10 = .ok (.imul, 1) := dk_104 (dk_at dksX10_firstPart_0 10 rfl rfl)
theorem dX10_firstPart_11 : decode cX10_firstPart 11 = .ok (.iconst 4, 1) := dk_7 (dk_at dksX10_firstPart_0 11 rfl rfl)
theorem dX10_firstPart_12 : decode cX10_firstPart 12 = .ok (.iload_n 1, 1) := dk_27 (dk_at dksX10_firstPart_0 12 rfl rfl)
theorem dX10_firstPart_13 : decode cX10_firstPart 13 = .ok (.imul, 1) := dk_104 (dk_at dksX10_firstPart_0 13 rfl rfl)
theorem dX10_firstPart_14 : decode cX10_firstPart 14 = .ok (.iadd, 1) := dk_96 (dk_at dksX10_firstPart_0 14 rfl rfl)
theorem dX10_firstPart_15 : decode cX10_firstPart 15 = .ok (.iload_n 2, 1) := dk_28 (dk_at dksX10_firstPart_0 15 rfl rfl)
theorem dX10_firstPart_16 : decode cX10_firstPart 16 = .ok (.iadd, 1) := dk_96 (dk_at dksX10_firstPart_0 16 rfl rfl)
theorem dX10_firstPart_17 : decode cX10_firstPart 17 = .ok (.iaload, 1) := dk_46 (dk_at dksX10_firstPart_0 17 rfl rfl)
theorem dX10_firstPart_18 : decode cX10_firstPart 18 = .ok (.ireturn, 1) := dk_172 (dk_at dksX10_firstPart_0 18 rfl rfl)
abbrev cX10_caller : ByteArray := prog_21_method_68_code
def yX10_caller : MethodName := ⟨RX10, "caller", "(II)I"⟩
def dkwX10_caller_3 : List UInt8 := [182, 1, 134, 27, 160, 0, 10, 29, 4, 21, 4, 120, 128, 62, 132, 4, 1, 167, 255, 222, 29, 172]
abbrev dktX10_caller_3 : List UInt8 := dkwX10_caller_3 ++ []
def dkwX10_caller_2 : List UInt8 := [46, 172, 3, 62, 3, 54, 4, 21, 4, 42, 180, 0, 46, 42, 180, 0, 233, 46, 162, 0, 26, 42, 21, 4]
abbrev dktX10_caller_2 : List UInt8 := dkwX10_caller_2 ++ dktX10_caller_3
def dkwX10_caller_1 : List UInt8 := [7, 162, 0, 10, 42, 27, 28, 182, 1, 77, 172, 28, 7, 160, 0, 13, 42, 180, 0, 122, 16, 64, 27, 96]
abbrev dktX10_caller_1 : List UInt8 := dkwX10_caller_1 ++ dktX10_caller_2
def dkwX10_caller_0 : List UInt8 := [42, 27, 182, 1, 137, 153, 0, 12, 28, 3, 8, 184, 1, 57, 154, 0, 5, 2, 172, 42, 182, 1, 67, 28]
abbrev dktX10_caller_0 : List UInt8 := dkwX10_caller_0 ++ dktX10_caller_1
theorem dksX10_caller_0 : cX10_caller.data.toList.drop 0 = dktX10_caller_0 := by decide +kernel
theorem dksX10_caller_1 : cX10_caller.data.toList.drop 24 = dktX10_caller_1 := dk_seg dksX10_caller_0 24 rfl rfl
theorem dksX10_caller_2 : cX10_caller.data.toList.drop 48 = dktX10_caller_2 := dk_seg dksX10_caller_1 24 rfl rfl
theorem dksX10_caller_3 : cX10_caller.data.toList.drop 72 = dktX10_caller_3 := dk_seg dksX10_caller_2 24 rfl rfl
theorem dX10_caller_0 : decode cX10_caller 0 = .ok (.aload_n 0, 1) := dk_42 (dk_at dksX10_caller_0 0 rfl rfl)
theorem dX10_caller_1 : decode cX10_caller 1 = .ok (.iload_n 1, 1) := dk_27 (dk_at dksX10_caller_0 1 rfl rfl)
theorem dX10_caller_2 : decode cX10_caller 2 = .ok (.invokevirtual 393, 3) := dk_182 1 137 (dk_at dksX10_caller_0 2 rfl rfl)
theorem dX10_caller_5 : decode cX10_caller 5 = .ok (.ifCond .eq 12, 3) := dk_153 0 12 (dk_at dksX10_caller_0 5 rfl rfl)
theorem dX10_caller_8 : decode cX10_caller 8 = .ok (.iload_n 2, 1) := dk_28 (dk_at dksX10_caller_0 8 rfl rfl)
theorem dX10_caller_9 : decode cX10_caller 9 = .ok (.iconst 0, 1) := dk_3 (dk_at dksX10_caller_0 9 rfl rfl)
theorem dX10_caller_10 : decode cX10_caller 10 = .ok (.iconst 5, 1) := dk_8 (dk_at dksX10_caller_0 10 rfl rfl)
theorem dX10_caller_11 : decode cX10_caller 11 = .ok (.invokestatic 313, 3) := dk_184 1 57 (dk_at dksX10_caller_0 11 rfl rfl)
theorem dX10_caller_14 : decode cX10_caller 14 = .ok (.ifCond .ne 5, 3) := dk_154 0 5 (dk_at dksX10_caller_0 14 rfl rfl)
theorem dX10_caller_17 : decode cX10_caller 17 = .ok (.iconst (-1), 1) := dk_2 (dk_at dksX10_caller_0 17 rfl rfl)
theorem dX10_caller_18 : decode cX10_caller 18 = .ok (.ireturn, 1) := dk_172 (dk_at dksX10_caller_0 18 rfl rfl)
theorem dX10_caller_19 : decode cX10_caller 19 = .ok (.aload_n 0, 1) := dk_42 (dk_at dksX10_caller_0 19 rfl rfl)
theorem dX10_caller_20 : decode cX10_caller 20 = .ok (.invokevirtual 323, 3) := dk_182 1 67 (dk_at dksX10_caller_0 20 rfl rfl)
theorem dX10_caller_23 : decode cX10_caller 23 = .ok (.iload_n 2, 1) := dk_28 (dk_at dksX10_caller_0 23 rfl rfl)
theorem dX10_caller_24 : decode cX10_caller 24 = .ok (.iconst 4, 1) := dk_7 (dk_at dksX10_caller_1 0 rfl rfl)
theorem dX10_caller_25 : decode cX10_caller 25 = .ok (.if_icmp .ge 10, 3) := dk_162 0 10 (dk_at dksX10_caller_1 1 rfl rfl)
theorem dX10_caller_28 : decode cX10_caller 28 = .ok (.aload_n 0, 1) := dk_42 (dk_at dksX10_caller_1 4 rfl rfl)
theorem dX10_caller_29 : decode cX10_caller 29 = .ok (.iload_n 1, 1) := dk_27 (dk_at dksX10_caller_1 5 rfl rfl)
theorem dX10_caller_30 : decode cX10_caller 30 = .ok (.iload_n 2, 1) := dk_28 (dk_at dksX10_caller_1 6 rfl rfl)
theorem dX10_caller_31 : decode cX10_caller 31 = .ok (.invokevirtual 333, 3) := dk_182 1 77 (dk_at dksX10_caller_1 7 rfl rfl)
theorem dX10_caller_34 : decode cX10_caller 34 = .ok (.ireturn, 1) := dk_172 (dk_at dksX10_caller_1 10 rfl rfl)
theorem dX10_caller_35 : decode cX10_caller 35 = .ok (.iload_n 2, 1) := dk_28 (dk_at dksX10_caller_1 11 rfl rfl)
theorem dX10_caller_36 : decode cX10_caller 36 = .ok (.iconst 4, 1) := dk_7 (dk_at dksX10_caller_1 12 rfl rfl)
theorem dX10_caller_37 : decode cX10_caller 37 = .ok (.if_icmp .ne 13, 3) := dk_160 0 13 (dk_at dksX10_caller_1 13 rfl rfl)
theorem dX10_caller_40 : decode cX10_caller 40 = .ok (.aload_n 0, 1) := dk_42 (dk_at dksX10_caller_1 16 rfl rfl)
theorem dX10_caller_41 : decode cX10_caller 41 = .ok (.getfield 122, 3) := dk_180 0 122 (dk_at dksX10_caller_1 17 rfl rfl)
theorem dX10_caller_44 : decode cX10_caller 44 = .ok (.bipush 64, 2) := dk_16 64 (dk_at dksX10_caller_1 20 rfl rfl)
theorem dX10_caller_46 : decode cX10_caller 46 = .ok (.iload_n 1, 1) := dk_27 (dk_at dksX10_caller_1 22 rfl rfl)
theorem dX10_caller_47 : decode cX10_caller 47 = .ok (.iadd, 1) := dk_96 (dk_at dksX10_caller_1 23 rfl rfl)
theorem dX10_caller_48 : decode cX10_caller 48 = .ok (.iaload, 1) := dk_46 (dk_at dksX10_caller_2 0 rfl rfl)
theorem dX10_caller_49 : decode cX10_caller 49 = .ok (.ireturn, 1) := dk_172 (dk_at dksX10_caller_2 1 rfl rfl)
theorem dX10_caller_50 : decode cX10_caller 50 = .ok (.iconst 0, 1) := dk_3 (dk_at dksX10_caller_2 2 rfl rfl)
theorem dX10_caller_51 : decode cX10_caller 51 = .ok (.istore_n 3, 1) := dk_62 (dk_at dksX10_caller_2 3 rfl rfl)
theorem dX10_caller_52 : decode cX10_caller 52 = .ok (.iconst 0, 1) := dk_3 (dk_at dksX10_caller_2 4 rfl rfl)
theorem dX10_caller_53 : decode cX10_caller 53 = .ok (.istore 4, 2) := dk_54 4 (dk_at dksX10_caller_2 5 rfl rfl)
theorem dX10_caller_55 : decode cX10_caller 55 = .ok (.iload 4, 2) := dk_21 4 (dk_at dksX10_caller_2 7 rfl rfl)
theorem dX10_caller_57 : decode cX10_caller 57 = .ok (.aload_n 0, 1) := dk_42 (dk_at dksX10_caller_2 9 rfl rfl)
theorem dX10_caller_58 : decode cX10_caller 58 = .ok (.getfield 46, 3) := dk_180 0 46 (dk_at dksX10_caller_2 10 rfl rfl)
theorem dX10_caller_61 : decode cX10_caller 61 = .ok (.aload_n 0, 1) := dk_42 (dk_at dksX10_caller_2 13 rfl rfl)
theorem dX10_caller_62 : decode cX10_caller 62 = .ok (.getfield 233, 3) := dk_180 0 233 (dk_at dksX10_caller_2 14 rfl rfl)
theorem dX10_caller_65 : decode cX10_caller 65 = .ok (.iaload, 1) := dk_46 (dk_at dksX10_caller_2 17 rfl rfl)
theorem dX10_caller_66 : decode cX10_caller 66 = .ok (.if_icmp .ge 26, 3) := dk_162 0 26 (dk_at dksX10_caller_2 18 rfl rfl)
theorem dX10_caller_69 : decode cX10_caller 69 = .ok (.aload_n 0, 1) := dk_42 (dk_at dksX10_caller_2 21 rfl rfl)
theorem dX10_caller_70 : decode cX10_caller 70 = .ok (.iload 4, 2) := dk_21 4 (dk_at dksX10_caller_2 22 rfl rfl)
theorem dX10_caller_72 : decode cX10_caller 72 = .ok (.invokevirtual 390, 3) := dk_182 1 134 (dk_at dksX10_caller_3 0 rfl rfl)
theorem dX10_caller_75 : decode cX10_caller 75 = .ok (.iload_n 1, 1) := dk_27 (dk_at dksX10_caller_3 3 rfl rfl)
theorem dX10_caller_76 : decode cX10_caller 76 = .ok (.if_icmp .ne 10, 3) := dk_160 0 10 (dk_at dksX10_caller_3 4 rfl rfl)
theorem dX10_caller_79 : decode cX10_caller 79 = .ok (.iload_n 3, 1) := dk_29 (dk_at dksX10_caller_3 7 rfl rfl)
theorem dX10_caller_80 : decode cX10_caller 80 = .ok (.iconst 1, 1) := dk_4 (dk_at dksX10_caller_3 8 rfl rfl)
theorem dX10_caller_81 : decode cX10_caller 81 = .ok (.iload 4, 2) := dk_21 4 (dk_at dksX10_caller_3 9 rfl rfl)
theorem dX10_caller_83 : decode cX10_caller 83 = .ok (.ishl, 1) := dk_120 (dk_at dksX10_caller_3 11 rfl rfl)
theorem dX10_caller_84 : decode cX10_caller 84 = .ok (.ior, 1) := dk_128 (dk_at dksX10_caller_3 12 rfl rfl)
theorem dX10_caller_85 : decode cX10_caller 85 = .ok (.istore_n 3, 1) := dk_62 (dk_at dksX10_caller_3 13 rfl rfl)
theorem dX10_caller_86 : decode cX10_caller 86 = .ok (.iinc 4 1, 3) := dk_132 4 1 (dk_at dksX10_caller_3 14 rfl rfl)
theorem dX10_caller_89 : decode cX10_caller 89 = .ok (.goto (-34), 3) := dk_167 255 222 (dk_at dksX10_caller_3 17 rfl rfl)
theorem dX10_caller_92 : decode cX10_caller 92 = .ok (.iload_n 3, 1) := dk_29 (dk_at dksX10_caller_3 20 rfl rfl)
theorem dX10_caller_93 : decode cX10_caller 93 = .ok (.ireturn, 1) := dk_172 (dk_at dksX10_caller_3 21 rfl rfl)
abbrev cX10_isCaller : ByteArray := prog_21_method_42_code
def yX10_isCaller : MethodName := ⟨RX10, "isCaller", "(I)Z"⟩
def dkwX10_isCaller_0 : List UInt8 := [27, 3, 42, 180, 0, 52, 42, 180, 0, 233, 46, 4, 100, 184, 1, 57, 172]
abbrev dktX10_isCaller_0 : List UInt8 := dkwX10_isCaller_0 ++ []
theorem dksX10_isCaller_0 : cX10_isCaller.data.toList.drop 0 = dktX10_isCaller_0 := by decide +kernel
theorem dX10_isCaller_0 : decode cX10_isCaller 0 = .ok (.iload_n 1, 1) := dk_27 (dk_at dksX10_isCaller_0 0 rfl rfl)
theorem dX10_isCaller_1 : decode cX10_isCaller 1 = .ok (.iconst 0, 1) := dk_3 (dk_at dksX10_isCaller_0 1 rfl rfl)
theorem dX10_isCaller_2 : decode cX10_isCaller 2 = .ok (.aload_n 0, 1) := dk_42 (dk_at dksX10_isCaller_0 2 rfl rfl)
theorem dX10_isCaller_3 : decode cX10_isCaller 3 = .ok (.getfield 52, 3) := dk_180 0 52 (dk_at dksX10_isCaller_0 3 rfl rfl)
theorem dX10_isCaller_6 : decode cX10_isCaller 6 = .ok (.aload_n 0, 1) := dk_42 (dk_at dksX10_isCaller_0 6 rfl rfl)
theorem dX10_isCaller_7 : decode cX10_isCaller 7 = .ok (.getfield 233, 3) := dk_180 0 233 (dk_at dksX10_isCaller_0 7 rfl rfl)
theorem dX10_isCaller_10 : decode cX10_isCaller 10 = .ok (.iaload, 1) := dk_46 (dk_at dksX10_isCaller_0 10 rfl rfl)
theorem dX10_isCaller_11 : decode cX10_isCaller 11 = .ok (.iconst 1, 1) := dk_4 (dk_at dksX10_isCaller_0 11 rfl rfl)
theorem dX10_isCaller_12 : decode cX10_isCaller 12 = .ok (.isub, 1) := dk_100 (dk_at dksX10_isCaller_0 12 rfl rfl)
theorem dX10_isCaller_13 : decode cX10_isCaller 13 = .ok (.invokestatic 313, 3) := dk_184 1 57 (dk_at dksX10_isCaller_0 13 rfl rfl)
theorem dX10_isCaller_16 : decode cX10_isCaller 16 = .ok (.ireturn, 1) := dk_172 (dk_at dksX10_isCaller_0 16 rfl rfl)
abbrev cX10_round : ByteArray := prog_21_method_69_code
def yX10_round : MethodName := ⟨RX10, "round", "(II)I"⟩
def dkwX10_round_4 : List UInt8 := [46, 182, 1, 114, 153, 0, 7, 4, 167, 0, 4, 3, 172, 2, 172]
abbrev dktX10_round_4 : List UInt8 := dkwX10_round_4 ++ []
def dkwX10_round_3 : List UInt8 := [180, 0, 70, 29, 46, 172, 42, 180, 0, 119, 16, 54, 27, 96, 46, 172, 42, 27, 42, 180, 0, 119, 16, 69]
abbrev dktX10_round_3 : List UInt8 := dkwX10_round_3 ++ dktX10_round_4
def dkwX10_round_2 : List UInt8 := [42, 180, 0, 61, 29, 46, 172, 42, 180, 0, 64, 29, 46, 172, 42, 180, 0, 67, 29, 46, 172, 42]
abbrev dktX10_round_2 : List UInt8 := dkwX10_round_2 ++ dktX10_round_3
def dkwX10_round_1 : List UInt8 := [170, 0, 0, 0, 0, 0, 98, 0, 0, 0, 0, 0, 0, 0, 5, 0, 0, 0, 39, 0, 0, 0, 46, 0, 0, 0, 53, 0, 0, 0, 60, 0, 0, 0, 67, 0, 0, 0, 77]
abbrev dktX10_round_1 : List UInt8 := dkwX10_round_1 ++ dktX10_round_2
def dkwX10_round_0 : List UInt8 := [42, 27, 182, 1, 140, 154, 0, 5, 2, 172, 16, 10, 42, 180, 0, 233, 104, 27, 96, 62, 28]
abbrev dktX10_round_0 : List UInt8 := dkwX10_round_0 ++ dktX10_round_1
theorem dksX10_round_0 : cX10_round.data.toList.drop 0 = dktX10_round_0 := by decide +kernel
theorem dksX10_round_1 : cX10_round.data.toList.drop 21 = dktX10_round_1 := dk_seg dksX10_round_0 21 rfl rfl
theorem dksX10_round_2 : cX10_round.data.toList.drop 60 = dktX10_round_2 := dk_seg dksX10_round_1 39 rfl rfl
theorem dksX10_round_3 : cX10_round.data.toList.drop 82 = dktX10_round_3 := dk_seg dksX10_round_2 22 rfl rfl
theorem dksX10_round_4 : cX10_round.data.toList.drop 106 = dktX10_round_4 := dk_seg dksX10_round_3 24 rfl rfl
theorem dX10_round_0 : decode cX10_round 0 = .ok (.aload_n 0, 1) := dk_42 (dk_at dksX10_round_0 0 rfl rfl)
theorem dX10_round_1 : decode cX10_round 1 = .ok (.iload_n 1, 1) := dk_27 (dk_at dksX10_round_0 1 rfl rfl)
theorem dX10_round_2 : decode cX10_round 2 = .ok (.invokevirtual 396, 3) := dk_182 1 140 (dk_at dksX10_round_0 2 rfl rfl)
theorem dX10_round_5 : decode cX10_round 5 = .ok (.ifCond .ne 5, 3) := dk_154 0 5 (dk_at dksX10_round_0 5 rfl rfl)
theorem dX10_round_8 : decode cX10_round 8 = .ok (.iconst (-1), 1) := dk_2 (dk_at dksX10_round_0 8 rfl rfl)
theorem dX10_round_9 : decode cX10_round 9 = .ok (.ireturn, 1) := dk_172 (dk_at dksX10_round_0 9 rfl rfl)
theorem dX10_round_10 : decode cX10_round 10 = .ok (.bipush 10, 2) := dk_16 10 (dk_at dksX10_round_0 10 rfl rfl)
theorem dX10_round_12 : decode cX10_round 12 = .ok (.aload_n 0, 1) := dk_42 (dk_at dksX10_round_0 12 rfl rfl)
theorem dX10_round_13 : decode cX10_round 13 = .ok (.getfield 233, 3) := dk_180 0 233 (dk_at dksX10_round_0 13 rfl rfl)
theorem dX10_round_16 : decode cX10_round 16 = .ok (.imul, 1) := dk_104 (dk_at dksX10_round_0 16 rfl rfl)
theorem dX10_round_17 : decode cX10_round 17 = .ok (.iload_n 1, 1) := dk_27 (dk_at dksX10_round_0 17 rfl rfl)
theorem dX10_round_18 : decode cX10_round 18 = .ok (.iadd, 1) := dk_96 (dk_at dksX10_round_0 18 rfl rfl)
theorem dX10_round_19 : decode cX10_round 19 = .ok (.istore_n 3, 1) := dk_62 (dk_at dksX10_round_0 19 rfl rfl)
theorem dX10_round_20 : decode cX10_round 20 = .ok (.iload_n 2, 1) := dk_28 (dk_at dksX10_round_0 20 rfl rfl)
theorem dX10_round_21 : decode cX10_round 21 = .ok (.tableswitch 98 0 5 #[39, 46, 53, 60, 67, 77], 39) := by decide +kernel
theorem dX10_round_60 : decode cX10_round 60 = .ok (.aload_n 0, 1) := dk_42 (dk_at dksX10_round_2 0 rfl rfl)
theorem dX10_round_61 : decode cX10_round 61 = .ok (.getfield 61, 3) := dk_180 0 61 (dk_at dksX10_round_2 1 rfl rfl)
theorem dX10_round_64 : decode cX10_round 64 = .ok (.iload_n 3, 1) := dk_29 (dk_at dksX10_round_2 4 rfl rfl)
theorem dX10_round_65 : decode cX10_round 65 = .ok (.iaload, 1) := dk_46 (dk_at dksX10_round_2 5 rfl rfl)
theorem dX10_round_66 : decode cX10_round 66 = .ok (.ireturn, 1) := dk_172 (dk_at dksX10_round_2 6 rfl rfl)
theorem dX10_round_67 : decode cX10_round 67 = .ok (.aload_n 0, 1) := dk_42 (dk_at dksX10_round_2 7 rfl rfl)
theorem dX10_round_68 : decode cX10_round 68 = .ok (.getfield 64, 3) := dk_180 0 64 (dk_at dksX10_round_2 8 rfl rfl)
theorem dX10_round_71 : decode cX10_round 71 = .ok (.iload_n 3, 1) := dk_29 (dk_at dksX10_round_2 11 rfl rfl)
theorem dX10_round_72 : decode cX10_round 72 = .ok (.iaload, 1) := dk_46 (dk_at dksX10_round_2 12 rfl rfl)
theorem dX10_round_73 : decode cX10_round 73 = .ok (.ireturn, 1) := dk_172 (dk_at dksX10_round_2 13 rfl rfl)
theorem dX10_round_74 : decode cX10_round 74 = .ok (.aload_n 0, 1) := dk_42 (dk_at dksX10_round_2 14 rfl rfl)
theorem dX10_round_75 : decode cX10_round 75 = .ok (.getfield 67, 3) := dk_180 0 67 (dk_at dksX10_round_2 15 rfl rfl)
theorem dX10_round_78 : decode cX10_round 78 = .ok (.iload_n 3, 1) := dk_29 (dk_at dksX10_round_2 18 rfl rfl)
theorem dX10_round_79 : decode cX10_round 79 = .ok (.iaload, 1) := dk_46 (dk_at dksX10_round_2 19 rfl rfl)
theorem dX10_round_80 : decode cX10_round 80 = .ok (.ireturn, 1) := dk_172 (dk_at dksX10_round_2 20 rfl rfl)
theorem dX10_round_81 : decode cX10_round 81 = .ok (.aload_n 0, 1) := dk_42 (dk_at dksX10_round_2 21 rfl rfl)
theorem dX10_round_82 : decode cX10_round 82 = .ok (.getfield 70, 3) := dk_180 0 70 (dk_at dksX10_round_3 0 rfl rfl)
theorem dX10_round_85 : decode cX10_round 85 = .ok (.iload_n 3, 1) := dk_29 (dk_at dksX10_round_3 3 rfl rfl)
theorem dX10_round_86 : decode cX10_round 86 = .ok (.iaload, 1) := dk_46 (dk_at dksX10_round_3 4 rfl rfl)
theorem dX10_round_87 : decode cX10_round 87 = .ok (.ireturn, 1) := dk_172 (dk_at dksX10_round_3 5 rfl rfl)
theorem dX10_round_88 : decode cX10_round 88 = .ok (.aload_n 0, 1) := dk_42 (dk_at dksX10_round_3 6 rfl rfl)
theorem dX10_round_89 : decode cX10_round 89 = .ok (.getfield 119, 3) := dk_180 0 119 (dk_at dksX10_round_3 7 rfl rfl)
theorem dX10_round_92 : decode cX10_round 92 = .ok (.bipush 54, 2) := dk_16 54 (dk_at dksX10_round_3 10 rfl rfl)
theorem dX10_round_94 : decode cX10_round 94 = .ok (.iload_n 1, 1) := dk_27 (dk_at dksX10_round_3 12 rfl rfl)
theorem dX10_round_95 : decode cX10_round 95 = .ok (.iadd, 1) := dk_96 (dk_at dksX10_round_3 13 rfl rfl)
theorem dX10_round_96 : decode cX10_round 96 = .ok (.iaload, 1) := dk_46 (dk_at dksX10_round_3 14 rfl rfl)
theorem dX10_round_97 : decode cX10_round 97 = .ok (.ireturn, 1) := dk_172 (dk_at dksX10_round_3 15 rfl rfl)
theorem dX10_round_98 : decode cX10_round 98 = .ok (.aload_n 0, 1) := dk_42 (dk_at dksX10_round_3 16 rfl rfl)
theorem dX10_round_99 : decode cX10_round 99 = .ok (.iload_n 1, 1) := dk_27 (dk_at dksX10_round_3 17 rfl rfl)
theorem dX10_round_100 : decode cX10_round 100 = .ok (.aload_n 0, 1) := dk_42 (dk_at dksX10_round_3 18 rfl rfl)
theorem dX10_round_101 : decode cX10_round 101 = .ok (.getfield 119, 3) := dk_180 0 119 (dk_at dksX10_round_3 19 rfl rfl)
theorem dX10_round_104 : decode cX10_round 104 = .ok (.bipush 69, 2) := dk_16 69 (dk_at dksX10_round_3 22 rfl rfl)
theorem dX10_round_106 : decode cX10_round 106 = .ok (.iaload, 1) := dk_46 (dk_at dksX10_round_4 0 rfl rfl)
theorem dX10_round_107 : decode cX10_round 107 = .ok (.invokevirtual 370, 3) := dk_182 1 114 (dk_at dksX10_round_4 1 rfl rfl)
theorem dX10_round_110 : decode cX10_round 110 = .ok (.ifCond .eq 7, 3) := dk_153 0 7 (dk_at dksX10_round_4 4 rfl rfl)
theorem dX10_round_113 : decode cX10_round 113 = .ok (.iconst 1, 1) := dk_4 (dk_at dksX10_round_4 7 rfl rfl)
theorem dX10_round_114 : decode cX10_round 114 = .ok (.goto 4, 3) := dk_167 0 4 (dk_at dksX10_round_4 8 rfl rfl)
theorem dX10_round_117 : decode cX10_round 117 = .ok (.iconst 0, 1) := dk_3 (dk_at dksX10_round_4 11 rfl rfl)
theorem dX10_round_118 : decode cX10_round 118 = .ok (.ireturn, 1) := dk_172 (dk_at dksX10_round_4 12 rfl rfl)
theorem dX10_round_119 : decode cX10_round 119 = .ok (.iconst (-1), 1) := dk_2 (dk_at dksX10_round_4 13 rfl rfl)
theorem dX10_round_120 : decode cX10_round 120 = .ok (.ireturn, 1) := dk_172 (dk_at dksX10_round_4 14 rfl rfl)
abbrev cX10_isRound : ByteArray := prog_21_method_43_code
def yX10_isRound : MethodName := ⟨RX10, "isRound", "(I)Z"⟩
def dkwX10_isRound_0 : List UInt8 := [27, 3, 42, 180, 0, 58, 42, 180, 0, 233, 46, 4, 100, 184, 1, 57, 172]
abbrev dktX10_isRound_0 : List UInt8 := dkwX10_isRound_0 ++ []
theorem dksX10_isRound_0 : cX10_isRound.data.toList.drop 0 = dktX10_isRound_0 := by decide +kernel
theorem dX10_isRound_0 : decode cX10_isRound 0 = .ok (.iload_n 1, 1) := dk_27 (dk_at dksX10_isRound_0 0 rfl rfl)
theorem dX10_isRound_1 : decode cX10_isRound 1 = .ok (.iconst 0, 1) := dk_3 (dk_at dksX10_isRound_0 1 rfl rfl)
theorem dX10_isRound_2 : decode cX10_isRound 2 = .ok (.aload_n 0, 1) := dk_42 (dk_at dksX10_isRound_0 2 rfl rfl)
theorem dX10_isRound_3 : decode cX10_isRound 3 = .ok (.getfield 58, 3) := dk_180 0 58 (dk_at dksX10_isRound_0 3 rfl rfl)
theorem dX10_isRound_6 : decode cX10_isRound 6 = .ok (.aload_n 0, 1) := dk_42 (dk_at dksX10_isRound_0 6 rfl rfl)
theorem dX10_isRound_7 : decode cX10_isRound 7 = .ok (.getfield 233, 3) := dk_180 0 233 (dk_at dksX10_isRound_0 7 rfl rfl)
theorem dX10_isRound_10 : decode cX10_isRound 10 = .ok (.iaload, 1) := dk_46 (dk_at dksX10_isRound_0 10 rfl rfl)
theorem dX10_isRound_11 : decode cX10_isRound 11 = .ok (.iconst 1, 1) := dk_4 (dk_at dksX10_isRound_0 11 rfl rfl)
theorem dX10_isRound_12 : decode cX10_isRound 12 = .ok (.isub, 1) := dk_100 (dk_at dksX10_isRound_0 12 rfl rfl)
theorem dX10_isRound_13 : decode cX10_isRound 13 = .ok (.invokestatic 313, 3) := dk_184 1 57 (dk_at dksX10_isRound_0 13 rfl rfl)
theorem dX10_isRound_16 : decode cX10_isRound 16 = .ok (.ireturn, 1) := dk_172 (dk_at dksX10_isRound_0 16 rfl rfl)
abbrev cX10_isDue : ByteArray := prog_21_method_63_code
def yX10_isDue : MethodName := ⟨RX10, "isDue", "(II)Z"⟩
def dkwX10_isDue_1 : List UInt8 := [180, 0, 67, 16, 10, 42, 180, 0, 233, 104, 27, 96, 46, 112, 154, 0, 7, 4, 167, 0, 4, 3, 172]
abbrev dktX10_isDue_1 : List UInt8 := dkwX10_isDue_1 ++ []
def dkwX10_isDue_0 : List UInt8 := [42, 180, 0, 70, 16, 10, 42, 180, 0, 233, 104, 27, 96, 46, 62, 28, 29, 161, 0, 28, 28, 29, 100, 42]
abbrev dktX10_isDue_0 : List UInt8 := dkwX10_isDue_0 ++ dktX10_isDue_1
theorem dksX10_isDue_0 : cX10_isDue.data.toList.drop 0 = dktX10_isDue_0 := by decide +kernel
theorem dksX10_isDue_1 : cX10_isDue.data.toList.drop 24 = dktX10_isDue_1 := dk_seg dksX10_isDue_0 24 rfl rfl
theorem dX10_isDue_0 : decode cX10_isDue 0 = .ok (.aload_n 0, 1) := dk_42 (dk_at dksX10_isDue_0 0 rfl rfl)
theorem dX10_isDue_1 : decode cX10_isDue 1 = .ok (.getfield 70, 3) := dk_180 0 70 (dk_at dksX10_isDue_0 1 rfl rfl)
theorem dX10_isDue_4 : decode cX10_isDue 4 = .ok (.bipush 10, 2) := dk_16 10 (dk_at dksX10_isDue_0 4 rfl rfl)
theorem dX10_isDue_6 : decode cX10_isDue 6 = .ok (.aload_n 0, 1) := dk_42 (dk_at dksX10_isDue_0 6 rfl rfl)
theorem dX10_isDue_7 : decode cX10_isDue 7 = .ok (.getfield 233, 3) := dk_180 0 233 (dk_at dksX10_isDue_0 7 rfl rfl)
theorem dX10_isDue_10 : decode cX10_isDue 10 = .ok (.imul, 1) := dk_104 (dk_at dksX10_isDue_0 10 rfl rfl)
theorem dX10_isDue_11 : decode cX10_isDue 11 = .ok (.iload_n 1, 1) := dk_27 (dk_at dksX10_isDue_0 11 rfl rfl)
theorem dX10_isDue_12 : decode cX10_isDue 12 = .ok (.iadd, 1) := dk_96 (dk_at dksX10_isDue_0 12 rfl rfl)
theorem dX10_isDue_13 : decode cX10_isDue 13 = .ok (.iaload, 1) := dk_46 (dk_at dksX10_isDue_0 13 rfl rfl)
theorem dX10_isDue_14 : decode cX10_isDue 14 = .ok (.istore_n 3, 1) := dk_62 (dk_at dksX10_isDue_0 14 rfl rfl)
theorem dX10_isDue_15 : decode cX10_isDue 15 = .ok (.iload_n 2, 1) := dk_28 (dk_at dksX10_isDue_0 15 rfl rfl)
theorem dX10_isDue_16 : decode cX10_isDue 16 = .ok (.iload_n 3, 1) := dk_29 (dk_at dksX10_isDue_0 16 rfl rfl)
theorem dX10_isDue_17 : decode cX10_isDue 17 = .ok (.if_icmp .lt 28, 3) := dk_161 0 28 (dk_at dksX10_isDue_0 17 rfl rfl)
theorem dX10_isDue_20 : decode cX10_isDue 20 = .ok (.iload_n 2, 1) := dk_28 (dk_at dksX10_isDue_0 20 rfl rfl)
theorem dX10_isDue_21 : decode cX10_isDue 21 = .ok (.iload_n 3, 1) := dk_29 (dk_at dksX10_isDue_0 21 rfl rfl)
theorem dX10_isDue_22 : decode cX10_isDue 22 = .ok (.isub, 1) := dk_100 (dk_at dksX10_isDue_0 22 rfl rfl)
theorem dX10_isDue_23 : decode cX10_isDue 23 = .ok (.aload_n 0, 1) := dk_42 (dk_at dksX10_isDue_0 23 rfl rfl)
theorem dX10_isDue_24 : decode cX10_isDue 24 = .ok (.getfield 67, 3) := dk_180 0 67 (dk_at dksX10_isDue_1 0 rfl rfl)
theorem dX10_isDue_27 : decode cX10_isDue 27 = .ok (.bipush 10, 2) := dk_16 10 (dk_at dksX10_isDue_1 3 rfl rfl)
theorem dX10_isDue_29 : decode cX10_isDue 29 = .ok (.aload_n 0, 1) := dk_42 (dk_at dksX10_isDue_1 5 rfl rfl)
theorem dX10_isDue_30 : decode cX10_isDue 30 = .ok (.getfield 233, 3) := dk_180 0 233 (dk_at dksX10_isDue_1 6 rfl rfl)
theorem dX10_isDue_33 : decode cX10_isDue 33 = .ok (.imul, 1) := dk_104 (dk_at dksX10_isDue_1 9 rfl rfl)
theorem dX10_isDue_34 : decode cX10_isDue 34 = .ok (.iload_n 1, 1) := dk_27 (dk_at dksX10_isDue_1 10 rfl rfl)
theorem dX10_isDue_35 : decode cX10_isDue 35 = .ok (.iadd, 1) := dk_96 (dk_at dksX10_isDue_1 11 rfl rfl)
theorem dX10_isDue_36 : decode cX10_isDue 36 = .ok (.iaload, 1) := dk_46 (dk_at dksX10_isDue_1 12 rfl rfl)
theorem dX10_isDue_37 : decode cX10_isDue 37 = .ok (.irem, 1) := dk_112 (dk_at dksX10_isDue_1 13 rfl rfl)
theorem dX10_isDue_38 : decode cX10_isDue 38 = .ok (.ifCond .ne 7, 3) := dk_154 0 7 (dk_at dksX10_isDue_1 14 rfl rfl)
theorem dX10_isDue_41 : decode cX10_isDue 41 = .ok (.iconst 1, 1) := dk_4 (dk_at dksX10_isDue_1 17 rfl rfl)
theorem dX10_isDue_42 : decode cX10_isDue 42 = .ok (.goto 4, 3) := dk_167 0 4 (dk_at dksX10_isDue_1 18 rfl rfl)
theorem dX10_isDue_45 : decode cX10_isDue 45 = .ok (.iconst 0, 1) := dk_3 (dk_at dksX10_isDue_1 21 rfl rfl)
theorem dX10_isDue_46 : decode cX10_isDue 46 = .ok (.ireturn, 1) := dk_172 (dk_at dksX10_isDue_1 22 rfl rfl)
abbrev cX10_unlike : ByteArray := prog_21_method_71_code
def yX10_unlike : MethodName := ⟨RX10, "unlike", "(II)I"⟩
def dkwX10_unlike_0 : List UInt8 := [42, 27, 28, 182, 1, 143, 154, 0, 5, 2, 172, 42, 182, 1, 67, 42, 27, 28, 182, 1, 86, 172]
abbrev dktX10_unlike_0 : List UInt8 := dkwX10_unlike_0 ++ []
theorem dksX10_unlike_0 : cX10_unlike.data.toList.drop 0 = dktX10_unlike_0 := by decide +kernel
theorem dX10_unlike_0 : decode cX10_unlike 0 = .ok (.aload_n 0, 1) := dk_42 (dk_at dksX10_unlike_0 0 rfl rfl)
theorem dX10_unlike_1 : decode cX10_unlike 1 = .ok (.iload_n 1, 1) := dk_27 (dk_at dksX10_unlike_0 1 rfl rfl)
theorem dX10_unlike_2 : decode cX10_unlike 2 = .ok (.iload_n 2, 1) := dk_28 (dk_at dksX10_unlike_0 2 rfl rfl)
theorem dX10_unlike_3 : decode cX10_unlike 3 = .ok (.invokevirtual 399, 3) := dk_182 1 143 (dk_at dksX10_unlike_0 3 rfl rfl)
theorem dX10_unlike_6 : decode cX10_unlike 6 = .ok (.ifCond .ne 5, 3) := dk_154 0 5 (dk_at dksX10_unlike_0 6 rfl rfl)
theorem dX10_unlike_9 : decode cX10_unlike 9 = .ok (.iconst (-1), 1) := dk_2 (dk_at dksX10_unlike_0 9 rfl rfl)
theorem dX10_unlike_10 : decode cX10_unlike 10 = .ok (.ireturn, 1) := dk_172 (dk_at dksX10_unlike_0 10 rfl rfl)
theorem dX10_unlike_11 : decode cX10_unlike 11 = .ok (.aload_n 0, 1) := dk_42 (dk_at dksX10_unlike_0 11 rfl rfl)
theorem dX10_unlike_12 : decode cX10_unlike 12 = .ok (.invokevirtual 323, 3) := dk_182 1 67 (dk_at dksX10_unlike_0 12 rfl rfl)
theorem dX10_unlike_15 : decode cX10_unlike 15 = .ok (.aload_n 0, 1) := dk_42 (dk_at dksX10_unlike_0 15 rfl rfl)
theorem dX10_unlike_16 : decode cX10_unlike 16 = .ok (.iload_n 1, 1) := dk_27 (dk_at dksX10_unlike_0 16 rfl rfl)
theorem dX10_unlike_17 : decode cX10_unlike 17 = .ok (.iload_n 2, 1) := dk_28 (dk_at dksX10_unlike_0 17 rfl rfl)
theorem dX10_unlike_18 : decode cX10_unlike 18 = .ok (.invokevirtual 342, 3) := dk_182 1 86 (dk_at dksX10_unlike_0 18 rfl rfl)
theorem dX10_unlike_21 : decode cX10_unlike 21 = .ok (.ireturn, 1) := dk_172 (dk_at dksX10_unlike_0 21 rfl rfl)
abbrev cX10_areBoth : ByteArray := prog_21_method_70_code
def yX10_areBoth : MethodName := ⟨RX10, "areBoth", "(II)Z"⟩
def dkwX10_areBoth_0 : List UInt8 := [42, 27, 182, 1, 131, 153, 0, 15, 42, 28, 182, 1, 137, 153, 0, 7, 4, 167, 0, 4, 3, 172]
abbrev dktX10_areBoth_0 : List UInt8 := dkwX10_areBoth_0 ++ []
theorem dksX10_areBoth_0 : cX10_areBoth.data.toList.drop 0 = dktX10_areBoth_0 := by decide +kernel
theorem dX10_areBoth_0 : decode cX10_areBoth 0 = .ok (.aload_n 0, 1) := dk_42 (dk_at dksX10_areBoth_0 0 rfl rfl)
theorem dX10_areBoth_1 : decode cX10_areBoth 1 = .ok (.iload_n 1, 1) := dk_27 (dk_at dksX10_areBoth_0 1 rfl rfl)
theorem dX10_areBoth_2 : decode cX10_areBoth 2 = .ok (.invokevirtual 387, 3) := dk_182 1 131 (dk_at dksX10_areBoth_0 2 rfl rfl)
theorem dX10_areBoth_5 : decode cX10_areBoth 5 = .ok (.ifCond .eq 15, 3) := dk_153 0 15 (dk_at dksX10_areBoth_0 5 rfl rfl)
theorem dX10_areBoth_8 : decode cX10_areBoth 8 = .ok (.aload_n 0, 1) := dk_42 (dk_at dksX10_areBoth_0 8 rfl rfl)
theorem dX10_areBoth_9 : decode cX10_areBoth 9 = .ok (.iload_n 2, 1) := dk_28 (dk_at dksX10_areBoth_0 9 rfl rfl)
theorem dX10_areBoth_10 : decode cX10_areBoth 10 = .ok (.invokevirtual 393, 3) := dk_182 1 137 (dk_at dksX10_areBoth_0 10 rfl rfl)
theorem dX10_areBoth_13 : decode cX10_areBoth 13 = .ok (.ifCond .eq 7, 3) := dk_153 0 7 (dk_at dksX10_areBoth_0 13 rfl rfl)
theorem dX10_areBoth_16 : decode cX10_areBoth 16 = .ok (.iconst 1, 1) := dk_4 (dk_at dksX10_areBoth_0 16 rfl rfl)
theorem dX10_areBoth_17 : decode cX10_areBoth 17 = .ok (.goto 4, 3) := dk_167 0 4 (dk_at dksX10_areBoth_0 17 rfl rfl)
theorem dX10_areBoth_20 : decode cX10_areBoth 20 = .ok (.iconst 0, 1) := dk_3 (dk_at dksX10_areBoth_0 20 rfl rfl)
theorem dX10_areBoth_21 : decode cX10_areBoth 21 = .ok (.ireturn, 1) := dk_172 (dk_at dksX10_areBoth_0 21 rfl rfl)
abbrev cX10_tells : ByteArray := prog_21_method_72_code
def yX10_tells : MethodName := ⟨RX10, "tells", "(III)I"⟩
def dkwX10_tells_1 : List UInt8 := [29, 7, 160, 0, 12, 42, 27, 28, 182, 1, 104, 167, 0, 10, 42, 27, 28, 29, 182, 1, 107, 172]
abbrev dktX10_tells_1 : List UInt8 := dkwX10_tells_1 ++ []
def dkwX10_tells_0 : List UInt8 := [42, 27, 28, 182, 1, 143, 153, 0, 12, 29, 3, 7, 184, 1, 57, 154, 0, 5, 2, 172, 42, 182, 1, 67]
abbrev dktX10_tells_0 : List UInt8 := dkwX10_tells_0 ++ dktX10_tells_1
theorem dksX10_tells_0 : cX10_tells.data.toList.drop 0 = dktX10_tells_0 := by decide +kernel
theorem dksX10_tells_1 : cX10_tells.data.toList.drop 24 = dktX10_tells_1 := dk_seg dksX10_tells_0 24 rfl rfl
theorem dX10_tells_0 : decode cX10_tells 0 = .ok (.aload_n 0, 1) := dk_42 (dk_at dksX10_tells_0 0 rfl rfl)
theorem dX10_tells_1 : decode cX10_tells 1 = .ok (.iload_n 1, 1) := dk_27 (dk_at dksX10_tells_0 1 rfl rfl)
theorem dX10_tells_2 : decode cX10_tells 2 = .ok (.iload_n 2, 1) := dk_28 (dk_at dksX10_tells_0 2 rfl rfl)
theorem dX10_tells_3 : decode cX10_tells 3 = .ok (.invokevirtual 399, 3) := dk_182 1 143 (dk_at dksX10_tells_0 3 rfl rfl)
theorem dX10_tells_6 : decode cX10_tells 6 = .ok (.ifCond .eq 12, 3) := dk_153 0 12 (dk_at dksX10_tells_0 6 rfl rfl)
theorem dX10_tells_9 : decode cX10_tells 9 = .ok (.iload_n 3, 1) := dk_29 (dk_at dksX10_tells_0 9 rfl rfl)
theorem dX10_tells_10 : decode cX10_tells 10 = .ok (.iconst 0, 1) := dk_3 (dk_at dksX10_tells_0 10 rfl rfl)
theorem dX10_tells_11 : decode cX10_tells 11 = .ok (.iconst 4, 1) := dk_7 (dk_at dksX10_tells_0 11 rfl rfl)
theorem dX10_tells_12 : decode cX10_tells 12 = .ok (.invokestatic 313, 3) := dk_184 1 57 (dk_at dksX10_tells_0 12 rfl rfl)
theorem dX10_tells_15 : decode cX10_tells 15 = .ok (.ifCond .ne 5, 3) := dk_154 0 5 (dk_at dksX10_tells_0 15 rfl rfl)
theorem dX10_tells_18 : decode cX10_tells 18 = .ok (.iconst (-1), 1) := dk_2 (dk_at dksX10_tells_0 18 rfl rfl)
theorem dX10_tells_19 : decode cX10_tells 19 = .ok (.ireturn, 1) := dk_172 (dk_at dksX10_tells_0 19 rfl rfl)
theorem dX10_tells_20 : decode cX10_tells 20 = .ok (.aload_n 0, 1) := dk_42 (dk_at dksX10_tells_0 20 rfl rfl)
theorem dX10_tells_21 : decode cX10_tells 21 = .ok (.invokevirtual 323, 3) := dk_182 1 67 (dk_at dksX10_tells_0 21 rfl rfl)
theorem dX10_tells_24 : decode cX10_tells 24 = .ok (.iload_n 3, 1) := dk_29 (dk_at dksX10_tells_1 0 rfl rfl)
theorem dX10_tells_25 : decode cX10_tells 25 = .ok (.iconst 4, 1) := dk_7 (dk_at dksX10_tells_1 1 rfl rfl)
theorem dX10_tells_26 : decode cX10_tells 26 = .ok (.if_icmp .ne 12, 3) := dk_160 0 12 (dk_at dksX10_tells_1 2 rfl rfl)
theorem dX10_tells_29 : decode cX10_tells 29 = .ok (.aload_n 0, 1) := dk_42 (dk_at dksX10_tells_1 5 rfl rfl)
theorem dX10_tells_30 : decode cX10_tells 30 = .ok (.iload_n 1, 1) := dk_27 (dk_at dksX10_tells_1 6 rfl rfl)
theorem dX10_tells_31 : decode cX10_tells 31 = .ok (.iload_n 2, 1) := dk_28 (dk_at dksX10_tells_1 7 rfl rfl)
theorem dX10_tells_32 : decode cX10_tells 32 = .ok (.invokevirtual 360, 3) := dk_182 1 104 (dk_at dksX10_tells_1 8 rfl rfl)
theorem dX10_tells_35 : decode cX10_tells 35 = .ok (.goto 10, 3) := dk_167 0 10 (dk_at dksX10_tells_1 11 rfl rfl)
theorem dX10_tells_38 : decode cX10_tells 38 = .ok (.aload_n 0, 1) := dk_42 (dk_at dksX10_tells_1 14 rfl rfl)
theorem dX10_tells_39 : decode cX10_tells 39 = .ok (.iload_n 1, 1) := dk_27 (dk_at dksX10_tells_1 15 rfl rfl)
theorem dX10_tells_40 : decode cX10_tells 40 = .ok (.iload_n 2, 1) := dk_28 (dk_at dksX10_tells_1 16 rfl rfl)
theorem dX10_tells_41 : decode cX10_tells 41 = .ok (.iload_n 3, 1) := dk_29 (dk_at dksX10_tells_1 17 rfl rfl)
theorem dX10_tells_42 : decode cX10_tells 42 = .ok (.invokevirtual 363, 3) := dk_182 1 107 (dk_at dksX10_tells_1 18 rfl rfl)
theorem dX10_tells_45 : decode cX10_tells 45 = .ok (.ireturn, 1) := dk_172 (dk_at dksX10_tells_1 21 rfl rfl)
abbrev cX10_paysOf : ByteArray := prog_21_method_59_code
def yX10_paysOf : MethodName := ⟨RX10, "paysOf", "(II)I"⟩
def dkwX10_paysOf_2 : List UInt8 := [16, 99, 184, 1, 98, 172]
abbrev dktX10_paysOf_2 : List UInt8 := dkwX10_paysOf_2 ++ []
def dkwX10_paysOf_1 : List UInt8 := [16, 6, 42, 27, 28, 182, 1, 86, 79, 42, 180, 0, 113, 16, 7, 28, 79, 42, 5, 4, 182, 1, 95, 3]
abbrev dktX10_paysOf_1 : List UInt8 := dkwX10_paysOf_1 ++ dktX10_paysOf_2
def dkwX10_paysOf_0 : List UInt8 := [42, 27, 3, 182, 1, 92, 42, 180, 0, 113, 3, 3, 79, 42, 180, 0, 113, 8, 3, 79, 42, 180, 0, 113]
abbrev dktX10_paysOf_0 : List UInt8 := dkwX10_paysOf_0 ++ dktX10_paysOf_1
theorem dksX10_paysOf_0 : cX10_paysOf.data.toList.drop 0 = dktX10_paysOf_0 := by decide +kernel
theorem dksX10_paysOf_1 : cX10_paysOf.data.toList.drop 24 = dktX10_paysOf_1 := dk_seg dksX10_paysOf_0 24 rfl rfl
theorem dksX10_paysOf_2 : cX10_paysOf.data.toList.drop 48 = dktX10_paysOf_2 := dk_seg dksX10_paysOf_1 24 rfl rfl
theorem dX10_paysOf_0 : decode cX10_paysOf 0 = .ok (.aload_n 0, 1) := dk_42 (dk_at dksX10_paysOf_0 0 rfl rfl)
theorem dX10_paysOf_1 : decode cX10_paysOf 1 = .ok (.iload_n 1, 1) := dk_27 (dk_at dksX10_paysOf_0 1 rfl rfl)
theorem dX10_paysOf_2 : decode cX10_paysOf 2 = .ok (.iconst 0, 1) := dk_3 (dk_at dksX10_paysOf_0 2 rfl rfl)
theorem dX10_paysOf_3 : decode cX10_paysOf 3 = .ok (.invokevirtual 348, 3) := dk_182 1 92 (dk_at dksX10_paysOf_0 3 rfl rfl)
theorem dX10_paysOf_6 : decode cX10_paysOf 6 = .ok (.aload_n 0, 1) := dk_42 (dk_at dksX10_paysOf_0 6 rfl rfl)
theorem dX10_paysOf_7 : decode cX10_paysOf 7 = .ok (.getfield 113, 3) := dk_180 0 113 (dk_at dksX10_paysOf_0 7 rfl rfl)
theorem dX10_paysOf_10 : decode cX10_paysOf 10 = .ok (.iconst 0, 1) := dk_3 (dk_at dksX10_paysOf_0 10 rfl rfl)
theorem dX10_paysOf_11 : decode cX10_paysOf 11 = .ok (.iconst 0, 1) := dk_3 (dk_at dksX10_paysOf_0 11 rfl rfl)
theorem dX10_paysOf_12 : decode cX10_paysOf 12 = .ok (.iastore, 1) := dk_79 (dk_at dksX10_paysOf_0 12 rfl rfl)
theorem dX10_paysOf_13 : decode cX10_paysOf 13 = .ok (.aload_n 0, 1) := dk_42 (dk_at dksX10_paysOf_0 13 rfl rfl)
theorem dX10_paysOf_14 : decode cX10_paysOf 14 = .ok (.getfield 113, 3) := dk_180 0 113 (dk_at dksX10_paysOf_0 14 rfl rfl)
theorem dX10_paysOf_17 : decode cX10_paysOf 17 = .ok (.iconst 5, 1) := dk_8 (dk_at dksX10_paysOf_0 17 rfl rfl)
theorem dX10_paysOf_18 : decode cX10_paysOf 18 = .ok (.iconst 0, 1) := dk_3 (dk_at dksX10_paysOf_0 18 rfl rfl)
theorem dX10_paysOf_19 : decode cX10_paysOf 19 = .ok (.iastore, 1) := dk_79 (dk_at dksX10_paysOf_0 19 rfl rfl)
theorem dX10_paysOf_20 : decode cX10_paysOf 20 = .ok (.aload_n 0, 1) := dk_42 (dk_at dksX10_paysOf_0 20 rfl rfl)
theorem dX10_paysOf_21 : decode cX10_paysOf 21 = .ok (.getfield 113, 3) := dk_180 0 113 (dk_at dksX10_paysOf_0 21 rfl rfl)
theorem dX10_paysOf_24 : decode cX10_paysOf 24 = .ok (.bipush 6, 2) := dk_16 6 (dk_at dksX10_paysOf_1 0 rfl rfl)
theorem dX10_paysOf_26 : decode cX10_paysOf 26 = .ok (.aload_n 0, 1) := dk_42 (dk_at dksX10_paysOf_1 2 rfl rfl)
theorem dX10_paysOf_27 : decode cX10_paysOf 27 = .ok (.iload_n 1, 1) := dk_27 (dk_at dksX10_paysOf_1 3 rfl rfl)
theorem dX10_paysOf_28 : decode cX10_paysOf 28 = .ok (.iload_n 2, 1) := dk_28 (dk_at dksX10_paysOf_1 4 rfl rfl)
theorem dX10_paysOf_29 : decode cX10_paysOf 29 = .ok (.invokevirtual 342, 3) := dk_182 1 86 (dk_at dksX10_paysOf_1 5 rfl rfl)
theorem dX10_paysOf_32 : decode cX10_paysOf 32 = .ok (.iastore, 1) := dk_79 (dk_at dksX10_paysOf_1 8 rfl rfl)
theorem dX10_paysOf_33 : decode cX10_paysOf 33 = .ok (.aload_n 0, 1) := dk_42 (dk_at dksX10_paysOf_1 9 rfl rfl)
theorem dX10_paysOf_34 : decode cX10_paysOf 34 = .ok (.getfield 113, 3) := dk_180 0 113 (dk_at dksX10_paysOf_1 10 rfl rfl)
theorem dX10_paysOf_37 : decode cX10_paysOf 37 = .ok (.bipush 7, 2) := dk_16 7 (dk_at dksX10_paysOf_1 13 rfl rfl)
theorem dX10_paysOf_39 : decode cX10_paysOf 39 = .ok (.iload_n 2, 1) := dk_28 (dk_at dksX10_paysOf_1 15 rfl rfl)
theorem dX10_paysOf_40 : decode cX10_paysOf 40 = .ok (.iastore, 1) := dk_79 (dk_at dksX10_paysOf_1 16 rfl rfl)
theorem dX10_paysOf_41 : decode cX10_paysOf 41 = .ok (.aload_n 0, 1) := dk_42 (dk_at dksX10_paysOf_1 17 rfl rfl)
theorem dX10_paysOf_42 : decode cX10_paysOf 42 = .ok (.iconst 2, 1) := dk_5 (dk_at dksX10_paysOf_1 18 rfl rfl)
theorem dX10_paysOf_43 : decode cX10_paysOf 43 = .ok (.iconst 1, 1) := dk_4 (dk_at dksX10_paysOf_1 19 rfl rfl)
theorem dX10_paysOf_44 : decode cX10_paysOf 44 = .ok (.invokevirtual 351, 3) := dk_182 1 95 (dk_at dksX10_paysOf_1 20 rfl rfl)
theorem dX10_paysOf_47 : decode cX10_paysOf 47 = .ok (.iconst 0, 1) := dk_3 (dk_at dksX10_paysOf_1 23 rfl rfl)
theorem dX10_paysOf_48 : decode cX10_paysOf 48 = .ok (.bipush 99, 2) := dk_16 99 (dk_at dksX10_paysOf_2 0 rfl rfl)
theorem dX10_paysOf_50 : decode cX10_paysOf 50 = .ok (.invokestatic 354, 3) := dk_184 1 98 (dk_at dksX10_paysOf_2 2 rfl rfl)
theorem dX10_paysOf_53 : decode cX10_paysOf 53 = .ok (.ireturn, 1) := dk_172 (dk_at dksX10_paysOf_2 5 rfl rfl)
abbrev cX10_looks : ByteArray := prog_21_method_56_code
def yX10_looks : MethodName := ⟨RX10, "looks", "(II)V"⟩
def dkwX10_looks_3 : List UInt8 := [16, 8, 42, 180, 0, 122, 16, 36, 27, 96, 46, 79, 177]
abbrev dktX10_looks_3 : List UInt8 := dkwX10_looks_3 ++ []
def dkwX10_looks_2 : List UInt8 := [16, 69, 46, 79, 42, 180, 0, 113, 8, 42, 180, 0, 122, 7, 27, 104, 28, 96, 46, 79, 42, 180, 0, 113]
abbrev dktX10_looks_2 : List UInt8 := dkwX10_looks_2 ++ dktX10_looks_3
def dkwX10_looks_1 : List UInt8 := [180, 0, 113, 6, 42, 180, 0, 122, 16, 30, 27, 96, 46, 79, 42, 180, 0, 113, 7, 42, 180, 0, 122]
abbrev dktX10_looks_1 : List UInt8 := dkwX10_looks_1 ++ dktX10_looks_2
def dkwX10_looks_0 : List UInt8 := [42, 180, 0, 113, 4, 28, 79, 42, 180, 0, 113, 5, 42, 180, 0, 122, 16, 24, 27, 96, 46, 79, 42]
abbrev dktX10_looks_0 : List UInt8 := dkwX10_looks_0 ++ dktX10_looks_1
theorem dksX10_looks_0 : cX10_looks.data.toList.drop 0 = dktX10_looks_0 := by decide +kernel
theorem dksX10_looks_1 : cX10_looks.data.toList.drop 23 = dktX10_looks_1 := dk_seg dksX10_looks_0 23 rfl rfl
theorem dksX10_looks_2 : cX10_looks.data.toList.drop 46 = dktX10_looks_2 := dk_seg dksX10_looks_1 23 rfl rfl
theorem dksX10_looks_3 : cX10_looks.data.toList.drop 70 = dktX10_looks_3 := dk_seg dksX10_looks_2 24 rfl rfl
theorem dX10_looks_0 : decode cX10_looks 0 = .ok (.aload_n 0, 1) := dk_42 (dk_at dksX10_looks_0 0 rfl rfl)
theorem dX10_looks_1 : decode cX10_looks 1 = .ok (.getfield 113, 3) := dk_180 0 113 (dk_at dksX10_looks_0 1 rfl rfl)
theorem dX10_looks_4 : decode cX10_looks 4 = .ok (.iconst 1, 1) := dk_4 (dk_at dksX10_looks_0 4 rfl rfl)
theorem dX10_looks_5 : decode cX10_looks 5 = .ok (.iload_n 2, 1) := dk_28 (dk_at dksX10_looks_0 5 rfl rfl)
theorem dX10_looks_6 : decode cX10_looks 6 = .ok (.iastore, 1) := dk_79 (dk_at dksX10_looks_0 6 rfl rfl)
theorem dX10_looks_7 : decode cX10_looks 7 = .ok (.aload_n 0, 1) := dk_42 (dk_at dksX10_looks_0 7 rfl rfl)
theorem dX10_looks_8 : decode cX10_looks 8 = .ok (.getfield 113, 3) := dk_180 0 113 (dk_at dksX10_looks_0 8 rfl rfl)
theorem dX10_looks_11 : decode cX10_looks 11 = .ok (.iconst 2, 1) := dk_5 (dk_at dksX10_looks_0 11 rfl rfl)
theorem dX10_looks_12 : decode cX10_looks 12 = .ok (.aload_n 0, 1) := dk_42 (dk_at dksX10_looks_0 12 rfl rfl)
theorem dX10_looks_13 : decode cX10_looks 13 = .ok (.getfield 122, 3) := dk_180 0 122 (dk_at dksX10_looks_0 13 rfl rfl)
theorem dX10_looks_16 : decode cX10_looks 16 = .ok (.bipush 24, 2) := dk_16 24 (dk_at dksX10_looks_0 16 rfl rfl)
theorem dX10_looks_18 : decode cX10_looks 18 = .ok (.iload_n 1, 1) := dk_27 (dk_at dksX10_looks_0 18 rfl rfl)
theorem dX10_looks_19 : decode cX10_looks 19 = .ok (.iadd, 1) := dk_96 (dk_at dksX10_looks_0 19 rfl rfl)
theorem dX10_looks_20 : decode cX10_looks 20 = .ok (.iaload, 1) := dk_46 (dk_at dksX10_looks_0 20 rfl rfl)
theorem dX10_looks_21 : decode cX10_looks 21 = .ok (.iastore, 1) := dk_79 (dk_at dksX10_looks_0 21 rfl rfl)
theorem dX10_looks_22 : decode cX10_looks 22 = .ok (.aload_n 0, 1) := dk_42 (dk_at dksX10_looks_0 22 rfl rfl)
theorem dX10_looks_23 : decode cX10_looks 23 = .ok (.getfield 113, 3) := dk_180 0 113 (dk_at dksX10_looks_1 0 rfl rfl)
theorem dX10_looks_26 : decode cX10_looks 26 = .ok (.iconst 3, 1) := dk_6 (dk_at dksX10_looks_1 3 rfl rfl)
theorem dX10_looks_27 : decode cX10_looks 27 = .ok (.aload_n 0, 1) := dk_42 (dk_at dksX10_looks_1 4 rfl rfl)
theorem dX10_looks_28 : decode cX10_looks 28 = .ok (.getfield 122, 3) := dk_180 0 122 (dk_at dksX10_looks_1 5 rfl rfl)
theorem dX10_looks_31 : decode cX10_looks 31 = .ok (.bipush 30, 2) := dk_16 30 (dk_at dksX10_looks_1 8 rfl rfl)
theorem dX10_looks_33 : decode cX10_looks 33 = .ok (.iload_n 1, 1) := dk_27 (dk_at dksX10_looks_1 10 rfl rfl)
theorem dX10_looks_34 : decode cX10_looks 34 = .ok (.iadd, 1) := dk_96 (dk_at dksX10_looks_1 11 rfl rfl)
theorem dX10_looks_35 : decode cX10_looks 35 = .ok (.iaload, 1) := dk_46 (dk_at dksX10_looks_1 12 rfl rfl)
theorem dX10_looks_36 : decode cX10_looks 36 = .ok (.iastore, 1) := dk_79 (dk_at dksX10_looks_1 13 rfl rfl)
theorem dX10_looks_37 : decode cX10_looks 37 = .ok (.aload_n 0, 1) := dk_42 (dk_at dksX10_looks_1 14 rfl rfl)
theorem dX10_looks_38 : decode cX10_looks 38 = .ok (.getfield 113, 3) := dk_180 0 113 (dk_at dksX10_looks_1 15 rfl rfl)
theorem dX10_looks_41 : decode cX10_looks 41 = .ok (.iconst 4, 1) := dk_7 (dk_at dksX10_looks_1 18 rfl rfl)
theorem dX10_looks_42 : decode cX10_looks 42 = .ok (.aload_n 0, 1) := dk_42 (dk_at dksX10_looks_1 19 rfl rfl)
theorem dX10_looks_43 : decode cX10_looks 43 = .ok (.getfield 122, 3) := dk_180 0 122 (dk_at dksX10_looks_1 20 rfl rfl)
theorem dX10_looks_46 : decode cX10_looks 46 = .ok (.bipush 69, 2) := dk_16 69 (dk_at dksX10_looks_2 0 rfl rfl)
theorem dX10_looks_48 : decode cX10_looks 48 = .ok (.iaload, 1) := dk_46 (dk_at dksX10_looks_2 2 rfl rfl)
theorem dX10_looks_49 : decode cX10_looks 49 = .ok (.iastore, 1) := dk_79 (dk_at dksX10_looks_2 3 rfl rfl)
theorem dX10_looks_50 : decode cX10_looks 50 = .ok (.aload_n 0, 1) := dk_42 (dk_at dksX10_looks_2 4 rfl rfl)
theorem dX10_looks_51 : decode cX10_looks 51 = .ok (.getfield 113, 3) := dk_180 0 113 (dk_at dksX10_looks_2 5 rfl rfl)
theorem dX10_looks_54 : decode cX10_looks 54 = .ok (.iconst 5, 1) := dk_8 (dk_at dksX10_looks_2 8 rfl rfl)
theorem dX10_looks_55 : decode cX10_looks 55 = .ok (.aload_n 0, 1) := dk_42 (dk_at dksX10_looks_2 9 rfl rfl)
theorem dX10_looks_56 : decode cX10_looks 56 = .ok (.getfield 122, 3) := dk_180 0 122 (dk_at dksX10_looks_2 10 rfl rfl)
theorem dX10_looks_59 : decode cX10_looks 59 = .ok (.iconst 4, 1) := dk_7 (dk_at dksX10_looks_2 13 rfl rfl)
theorem dX10_looks_60 : decode cX10_looks 60 = .ok (.iload_n 1, 1) := dk_27 (dk_at dksX10_looks_2 14 rfl rfl)
theorem dX10_looks_61 : decode cX10_looks 61 = .ok (.imul, 1) := dk_104 (dk_at dksX10_looks_2 15 rfl rfl)
theorem dX10_looks_62 : decode cX10_looks 62 = .ok (.iload_n 2, 1) := dk_28 (dk_at dksX10_looks_2 16 rfl rfl)
theorem dX10_looks_63 : decode cX10_looks 63 = .ok (.iadd, 1) := dk_96 (dk_at dksX10_looks_2 17 rfl rfl)
theorem dX10_looks_64 : decode cX10_looks 64 = .ok (.iaload, 1) := dk_46 (dk_at dksX10_looks_2 18 rfl rfl)
theorem dX10_looks_65 : decode cX10_looks 65 = .ok (.iastore, 1) := dk_79 (dk_at dksX10_looks_2 19 rfl rfl)
theorem dX10_looks_66 : decode cX10_looks 66 = .ok (.aload_n 0, 1) := dk_42 (dk_at dksX10_looks_2 20 rfl rfl)
theorem dX10_looks_67 : decode cX10_looks 67 = .ok (.getfield 113, 3) := dk_180 0 113 (dk_at dksX10_looks_2 21 rfl rfl)
theorem dX10_looks_70 : decode cX10_looks 70 = .ok (.bipush 8, 2) := dk_16 8 (dk_at dksX10_looks_3 0 rfl rfl)
theorem dX10_looks_72 : decode cX10_looks 72 = .ok (.aload_n 0, 1) := dk_42 (dk_at dksX10_looks_3 2 rfl rfl)
theorem dX10_looks_73 : decode cX10_looks 73 = .ok (.getfield 122, 3) := dk_180 0 122 (dk_at dksX10_looks_3 3 rfl rfl)
theorem dX10_looks_76 : decode cX10_looks 76 = .ok (.bipush 36, 2) := dk_16 36 (dk_at dksX10_looks_3 6 rfl rfl)
theorem dX10_looks_78 : decode cX10_looks 78 = .ok (.iload_n 1, 1) := dk_27 (dk_at dksX10_looks_3 8 rfl rfl)
theorem dX10_looks_79 : decode cX10_looks 79 = .ok (.iadd, 1) := dk_96 (dk_at dksX10_looks_3 9 rfl rfl)
theorem dX10_looks_80 : decode cX10_looks 80 = .ok (.iaload, 1) := dk_46 (dk_at dksX10_looks_3 10 rfl rfl)
theorem dX10_looks_81 : decode cX10_looks 81 = .ok (.iastore, 1) := dk_79 (dk_at dksX10_looks_3 11 rfl rfl)
theorem dX10_looks_82 : decode cX10_looks 82 = .ok (.return_, 1) := dk_177 (dk_at dksX10_looks_3 12 rfl rfl)
abbrev cX10_lawTells : ByteArray := prog_21_method_57_code
def yX10_lawTells : MethodName := ⟨RX10, "lawTells", "(II)I"⟩
def dkwX10_lawTells_6 : List UInt8 := [180, 1, 53, 153, 0, 7, 3, 167, 0, 5, 21, 5, 172, 132, 4, 1, 167, 255, 139, 3, 172]
abbrev dktX10_lawTells_6 : List UInt8 := dkwX10_lawTells_6 ++ []
def dkwX10_lawTells_5 : List UInt8 := [167, 0, 37, 42, 42, 180, 0, 98, 21, 4, 46, 42, 180, 0, 101, 21, 4, 46, 182, 1, 89, 54, 5, 42]
abbrev dktX10_lawTells_5 : List UInt8 := dkwX10_lawTells_5 ++ dktX10_lawTells_6
def dkwX10_lawTells_4 : List UInt8 := [21, 4, 46, 182, 1, 89, 54, 6, 42, 180, 1, 53, 153, 0, 5, 3, 172, 21, 5, 21, 6, 161, 0, 6]
abbrev dktX10_lawTells_4 : List UInt8 := dkwX10_lawTells_4 ++ dktX10_lawTells_5
def dkwX10_lawTells_3 : List UInt8 := [180, 0, 95, 21, 4, 46, 182, 1, 89, 54, 5, 42, 42, 180, 0, 95, 21, 4, 46, 42, 180, 0, 98]
abbrev dktX10_lawTells_3 : List UInt8 := dkwX10_lawTells_3 ++ dktX10_lawTells_4
def dkwX10_lawTells_2 : List UInt8 := [162, 0, 112, 42, 180, 0, 88, 21, 4, 51, 153, 0, 62, 42, 42, 180, 0, 92, 21, 4, 46, 42]
abbrev dktX10_lawTells_2 : List UInt8 := dkwX10_lawTells_2 ++ dktX10_lawTells_3
def dkwX10_lawTells_1 : List UInt8 := [28, 172, 42, 3, 181, 1, 53, 42, 180, 0, 82, 29, 46, 54, 4, 21, 4, 42, 180, 0, 85, 29, 46]
abbrev dktX10_lawTells_1 : List UInt8 := dkwX10_lawTells_1 ++ dktX10_lawTells_2
def dkwX10_lawTells_0 : List UInt8 := [6, 42, 180, 0, 233, 104, 27, 96, 62, 42, 180, 0, 82, 29, 46, 42, 180, 0, 85, 29, 46, 160, 0, 5]
abbrev dktX10_lawTells_0 : List UInt8 := dkwX10_lawTells_0 ++ dktX10_lawTells_1
theorem dksX10_lawTells_0 : cX10_lawTells.data.toList.drop 0 = dktX10_lawTells_0 := by decide +kernel
theorem dksX10_lawTells_1 : cX10_lawTells.data.toList.drop 24 = dktX10_lawTells_1 := dk_seg dksX10_lawTells_0 24 rfl rfl
theorem dksX10_lawTells_2 : cX10_lawTells.data.toList.drop 47 = dktX10_lawTells_2 := dk_seg dksX10_lawTells_1 23 rfl rfl
theorem dksX10_lawTells_3 : cX10_lawTells.data.toList.drop 69 = dktX10_lawTells_3 := dk_seg dksX10_lawTells_2 22 rfl rfl
theorem dksX10_lawTells_4 : cX10_lawTells.data.toList.drop 92 = dktX10_lawTells_4 := dk_seg dksX10_lawTells_3 23 rfl rfl
theorem dksX10_lawTells_5 : cX10_lawTells.data.toList.drop 116 = dktX10_lawTells_5 := dk_seg dksX10_lawTells_4 24 rfl rfl
theorem dksX10_lawTells_6 : cX10_lawTells.data.toList.drop 140 = dktX10_lawTells_6 := dk_seg dksX10_lawTells_5 24 rfl rfl
theorem dX10_lawTells_0 : decode cX10_lawTells 0 = .ok (.iconst 3, 1) := dk_6 (dk_at dksX10_lawTells_0 0 rfl rfl)
theorem dX10_lawTells_1 : decode cX10_lawTells 1 = .ok (.aload_n 0, 1) := dk_42 (dk_at dksX10_lawTells_0 1 rfl rfl)
theorem dX10_lawTells_2 : decode cX10_lawTells 2 = .ok (.getfield 233, 3) := dk_180 0 233 (dk_at dksX10_lawTells_0 2 rfl rfl)
theorem dX10_lawTells_5 : decode cX10_lawTells 5 = .ok (.imul, 1) := dk_104 (dk_at dksX10_lawTells_0 5 rfl rfl)
theorem dX10_lawTells_6 : decode cX10_lawTells 6 = .ok (.iload_n 1, 1) := dk_27 (dk_at dksX10_lawTells_0 6 rfl rfl)
theorem dX10_lawTells_7 : decode cX10_lawTells 7 = .ok (.iadd, 1) := dk_96 (dk_at dksX10_lawTells_0 7 rfl rfl)
theorem dX10_lawTells_8 : decode cX10_lawTells 8 = .ok (.istore_n 3, 1) := dk_62 (dk_at dksX10_lawTells_0 8 rfl rfl)
theorem dX10_lawTells_9 : decode cX10_lawTells 9 = .ok (.aload_n 0, 1) := dk_42 (dk_at dksX10_lawTells_0 9 rfl rfl)
theorem dX10_lawTells_10 : decode cX10_lawTells 10 = .ok (.getfield 82, 3) := dk_180 0 82 (dk_at dksX10_lawTells_0 10 rfl rfl)
theorem dX10_lawTells_13 : decode cX10_lawTells 13 = .ok (.iload_n 3, 1) := dk_29 (dk_at dksX10_lawTells_0 13 rfl rfl)
theorem dX10_lawTells_14 : decode cX10_lawTells 14 = .ok (.iaload, 1) := dk_46 (dk_at dksX10_lawTells_0 14 rfl rfl)
theorem dX10_lawTells_15 : decode cX10_lawTells 15 = .ok (.aload_n 0, 1) := dk_42 (dk_at dksX10_lawTells_0 15 rfl rfl)
theorem dX10_lawTells_16 : decode cX10_lawTells 16 = .ok (.getfield 85, 3) := dk_180 0 85 (dk_at dksX10_lawTells_0 16 rfl rfl)
theorem dX10_lawTells_19 : decode cX10_lawTells 19 = .ok (.iload_n 3, 1) := dk_29 (dk_at dksX10_lawTells_0 19 rfl rfl)
theorem dX10_lawTells_20 : decode cX10_lawTells 20 = .ok (.iaload, 1) := dk_46 (dk_at dksX10_lawTells_0 20 rfl rfl)
theorem dX10_lawTells_21 : decode cX10_lawTells 21 = .ok (.if_icmp .ne 5, 3) := dk_160 0 5 (dk_at dksX10_lawTells_0 21 rfl rfl)
theorem dX10_lawTells_24 : decode cX10_lawTells 24 = .ok (.iload_n 2, 1) := dk_28 (dk_at dksX10_lawTells_1 0 rfl rfl)
theorem dX10_lawTells_25 : decode cX10_lawTells 25 = .ok (.ireturn, 1) := dk_172 (dk_at dksX10_lawTells_1 1 rfl rfl)
theorem dX10_lawTells_26 : decode cX10_lawTells 26 = .ok (.aload_n 0, 1) := dk_42 (dk_at dksX10_lawTells_1 2 rfl rfl)
theorem dX10_lawTells_27 : decode cX10_lawTells 27 = .ok (.iconst 0, 1) := dk_3 (dk_at dksX10_lawTells_1 3 rfl rfl)
theorem dX10_lawTells_28 : decode cX10_lawTells 28 = .ok (.putfield 309, 3) := dk_181 1 53 (dk_at dksX10_lawTells_1 4 rfl rfl)
theorem dX10_lawTells_31 : decode cX10_lawTells 31 = .ok (.aload_n 0, 1) := dk_42 (dk_at dksX10_lawTells_1 7 rfl rfl)
theorem dX10_lawTells_32 : decode cX10_lawTells 32 = .ok (.getfield 82, 3) := dk_180 0 82 (dk_at dksX10_lawTells_1 8 rfl rfl)
theorem dX10_lawTells_35 : decode cX10_lawTells 35 = .ok (.iload_n 3, 1) := dk_29 (dk_at dksX10_lawTells_1 11 rfl rfl)
theorem dX10_lawTells_36 : decode cX10_lawTells 36 = .ok (.iaload, 1) := dk_46 (dk_at dksX10_lawTells_1 12 rfl rfl)
theorem dX10_lawTells_37 : decode cX10_lawTells 37 = .ok (.istore 4, 2) := dk_54 4 (dk_at dksX10_lawTells_1 13 rfl rfl)
theorem dX10_lawTells_39 : decode cX10_lawTells 39 = .ok (.iload 4, 2) := dk_21 4 (dk_at dksX10_lawTells_1 15 rfl rfl)
theorem dX10_lawTells_41 : decode cX10_lawTells 41 = .ok (.aload_n 0, 1) := dk_42 (dk_at dksX10_lawTells_1 17 rfl rfl)
theorem dX10_lawTells_42 : decode cX10_lawTells 42 = .ok (.getfield 85, 3) := dk_180 0 85 (dk_at dksX10_lawTells_1 18 rfl rfl)
theorem dX10_lawTells_45 : decode cX10_lawTells 45 = .ok (.iload_n 3, 1) := dk_29 (dk_at dksX10_lawTells_1 21 rfl rfl)
theorem dX10_lawTells_46 : decode cX10_lawTells 46 = .ok (.iaload, 1) := dk_46 (dk_at dksX10_lawTells_1 22 rfl rfl)
theorem dX10_lawTells_47 : decode cX10_lawTells 47 = .ok (.if_icmp .ge 112, 3) := dk_162 0 112 (dk_at dksX10_lawTells_2 0 rfl rfl)
theorem dX10_lawTells_50 : decode cX10_lawTells 50 = .ok (.aload_n 0, 1) := dk_42 (dk_at dksX10_lawTells_2 3 rfl rfl)
theorem dX10_lawTells_51 : decode cX10_lawTells 51 = .ok (.getfield 88, 3) := dk_180 0 88 (dk_at dksX10_lawTells_2 4 rfl rfl)
theorem dX10_lawTells_54 : decode cX10_lawTells 54 = .ok (.iload 4, 2) := dk_21 4 (dk_at dksX10_lawTells_2 7 rfl rfl)
theorem dX10_lawTells_56 : decode cX10_lawTells 56 = .ok (.baload, 1) := dk_51 (dk_at dksX10_lawTells_2 9 rfl rfl)
theorem dX10_lawTells_57 : decode cX10_lawTells 57 = .ok (.ifCond .eq 62, 3) := dk_153 0 62 (dk_at dksX10_lawTells_2 10 rfl rfl)
theorem dX10_lawTells_60 : decode cX10_lawTells 60 = .ok (.aload_n 0, 1) := dk_42 (dk_at dksX10_lawTells_2 13 rfl rfl)
theorem dX10_lawTells_61 : decode cX10_lawTells 61 = .ok (.aload_n 0, 1) := dk_42 (dk_at dksX10_lawTells_2 14 rfl rfl)
theorem dX10_lawTells_62 : decode cX10_lawTells 62 = .ok (.getfield 92, 3) := dk_180 0 92 (dk_at dksX10_lawTells_2 15 rfl rfl)
theorem dX10_lawTells_65 : decode cX10_lawTells 65 = .ok (.iload 4, 2) := dk_21 4 (dk_at dksX10_lawTells_2 18 rfl rfl)
theorem dX10_lawTells_67 : decode cX10_lawTells 67 = .ok (.iaload, 1) := dk_46 (dk_at dksX10_lawTells_2 20 rfl rfl)
theorem dX10_lawTells_68 : decode cX10_lawTells 68 = .ok (.aload_n 0, 1) := dk_42 (dk_at dksX10_lawTells_2 21 rfl rfl)
theorem dX10_lawTells_69 : decode cX10_lawTells 69 = .ok (.getfield 95, 3) := dk_180 0 95 (dk_at dksX10_lawTells_3 0 rfl rfl)
theorem dX10_lawTells_72 : decode cX10_lawTells 72 = .ok (.iload 4, 2) := dk_21 4 (dk_at dksX10_lawTells_3 3 rfl rfl)
theorem dX10_lawTells_74 : decode cX10_lawTells 74 = .ok (.iaload, 1) := dk_46 (dk_at dksX10_lawTells_3 5 rfl rfl)
theorem dX10_lawTells_75 : decode cX10_lawTells 75 = .ok (.invokevirtual 345, 3) := dk_182 1 89 (dk_at dksX10_lawTells_3 6 rfl rfl)
theorem dX10_lawTells_78 : decode cX10_lawTells 78 = .ok (.istore 5, 2) := dk_54 5 (dk_at dksX10_lawTells_3 9 rfl rfl)
theorem dX10_lawTells_80 : decode cX10_lawTells 80 = .ok (.aload_n 0, 1) := dk_42 (dk_at dksX10_lawTells_3 11 rfl rfl)
theorem dX10_lawTells_81 : decode cX10_lawTells 81 = .ok (.aload_n 0, 1) := dk_42 (dk_at dksX10_lawTells_3 12 rfl rfl)
theorem dX10_lawTells_82 : decode cX10_lawTells 82 = .ok (.getfield 95, 3) := dk_180 0 95 (dk_at dksX10_lawTells_3 13 rfl rfl)
theorem dX10_lawTells_85 : decode cX10_lawTells 85 = .ok (.iload 4, 2) := dk_21 4 (dk_at dksX10_lawTells_3 16 rfl rfl)
theorem dX10_lawTells_87 : decode cX10_lawTells 87 = .ok (.iaload, 1) := dk_46 (dk_at dksX10_lawTells_3 18 rfl rfl)
theorem dX10_lawTells_88 : decode cX10_lawTells 88 = .ok (.aload_n 0, 1) := dk_42 (dk_at dksX10_lawTells_3 19 rfl rfl)
theorem dX10_lawTells_89 : decode cX10_lawTells 89 = .ok (.getfield 98, 3) := dk_180 0 98 (dk_at dksX10_lawTells_3 20 rfl rfl)
theorem dX10_lawTells_92 : decode cX10_lawTells 92 = .ok (.iload 4, 2) := dk_21 4 (dk_at dksX10_lawTells_4 0 rfl rfl)
theorem dX10_lawTells_94 : decode cX10_lawTells 94 = .ok (.iaload, 1) := dk_46 (dk_at dksX10_lawTells_4 2 rfl rfl)
theorem dX10_lawTells_95 : decode cX10_lawTells 95 = .ok (.invokevirtual 345, 3) := dk_182 1 89 (dk_at dksX10_lawTells_4 3 rfl rfl)
theorem dX10_lawTells_98 : decode cX10_lawTells 98 = .ok (.istore 6, 2) := dk_54 6 (dk_at dksX10_lawTells_4 6 rfl rfl)
theorem dX10_lawTells_100 : decode cX10_lawTells 100 = .ok (.aload_n 0, 1) := dk_42 (dk_at dksX10_lawTells_4 8 rfl rfl)
theorem dX10_lawTells_101 : decode cX10_lawTells 101 = .ok (.getfield 309, 3) := dk_180 1 53 (dk_at dksX10_lawTells_4 9 rfl rfl)
theorem dX10_lawTells_104 : decode cX10_lawTells 104 = .ok (.ifCond .eq 5, 3) := dk_153 0 5 (dk_at dksX10_lawTells_4 12 rfl rfl)
theorem dX10_lawTells_107 : decode cX10_lawTells 107 = .ok (.iconst 0, 1) := dk_3 (dk_at dksX10_lawTells_4 15 rfl rfl)
theorem dX10_lawTells_108 : decode cX10_lawTells 108 = .ok (.ireturn, 1) := dk_172 (dk_at dksX10_lawTells_4 16 rfl rfl)
theorem dX10_lawTells_109 : decode cX10_lawTells 109 = .ok (.iload 5, 2) := dk_21 5 (dk_at dksX10_lawTells_4 17 rfl rfl)
theorem dX10_lawTells_111 : decode cX10_lawTells 111 = .ok (.iload 6, 2) := dk_21 6 (dk_at dksX10_lawTells_4 19 rfl rfl)
theorem dX10_lawTells_113 : decode cX10_lawTells 113 = .ok (.if_icmp .lt 6, 3) := dk_161 0 6 (dk_at dksX10_lawTells_4 21 rfl rfl)
theorem dX10_lawTells_116 : decode cX10_lawTells 116 = .ok (.goto 37, 3) := dk_167 0 37 (dk_at dksX10_lawTells_5 0 rfl rfl)
theorem dX10_lawTells_119 : decode cX10_lawTells 119 = .ok (.aload_n 0, 1) := dk_42 (dk_at dksX10_lawTells_5 3 rfl rfl)
theorem dX10_lawTells_120 : decode cX10_lawTells 120 = .ok (.aload_n 0, 1) := dk_42 (dk_at dksX10_lawTells_5 4 rfl rfl)
theorem dX10_lawTells_121 : decode cX10_lawTells 121 = .ok (.getfield 98, 3) := dk_180 0 98 (dk_at dksX10_lawTells_5 5 rfl rfl)
theorem dX10_lawTells_124 : decode cX10_lawTells 124 = .ok (.iload 4, 2) := dk_21 4 (dk_at dksX10_lawTells_5 8 rfl rfl)
theorem dX10_lawTells_126 : decode cX10_lawTells 126 = .ok (.iaload, 1) := dk_46 (dk_at dksX10_lawTells_5 10 rfl rfl)
theorem dX10_lawTells_127 : decode cX10_lawTells 127 = .ok (.aload_n 0, 1) := dk_42 (dk_at dksX10_lawTells_5 11 rfl rfl)
theorem dX10_lawTells_128 : decode cX10_lawTells 128 = .ok (.getfield 101, 3) := dk_180 0 101 (dk_at dksX10_lawTells_5 12 rfl rfl)
theorem dX10_lawTells_131 : decode cX10_lawTells 131 = .ok (.iload 4, 2) := dk_21 4 (dk_at dksX10_lawTells_5 15 rfl rfl)
theorem dX10_lawTells_133 : decode cX10_lawTells 133 = .ok (.iaload, 1) := dk_46 (dk_at dksX10_lawTells_5 17 rfl rfl)
theorem dX10_lawTells_134 : decode cX10_lawTells 134 = .ok (.invokevirtual 345, 3) := dk_182 1 89 (dk_at dksX10_lawTells_5 18 rfl rfl)
theorem dX10_lawTells_137 : decode cX10_lawTells 137 = .ok (.istore 5, 2) := dk_54 5 (dk_at dksX10_lawTells_5 21 rfl rfl)
theorem dX10_lawTells_139 : decode cX10_lawTells 139 = .ok (.aload_n 0, 1) := dk_42 (dk_at dksX10_lawTells_5 23 rfl rfl)
theorem dX10_lawTells_140 : decode cX10_lawTells 140 = .ok (.getfield 309, 3) := dk_180 1 53 (dk_at dksX10_lawTells_6 0 rfl rfl)
theorem dX10_lawTells_143 : decode cX10_lawTells 143 = .ok (.ifCond .eq 7, 3) := dk_153 0 7 (dk_at dksX10_lawTells_6 3 rfl rfl)
theorem dX10_lawTells_146 : decode cX10_lawTells 146 = .ok (.iconst 0, 1) := dk_3 (dk_at dksX10_lawTells_6 6 rfl rfl)
theorem dX10_lawTells_147 : decode cX10_lawTells 147 = .ok (.goto 5, 3) := dk_167 0 5 (dk_at dksX10_lawTells_6 7 rfl rfl)
theorem dX10_lawTells_150 : decode cX10_lawTells 150 = .ok (.iload 5, 2) := dk_21 5 (dk_at dksX10_lawTells_6 10 rfl rfl)
theorem dX10_lawTells_152 : decode cX10_lawTells 152 = .ok (.ireturn, 1) := dk_172 (dk_at dksX10_lawTells_6 12 rfl rfl)
theorem dX10_lawTells_153 : decode cX10_lawTells 153 = .ok (.iinc 4 1, 3) := dk_132 4 1 (dk_at dksX10_lawTells_6 13 rfl rfl)
theorem dX10_lawTells_156 : decode cX10_lawTells 156 = .ok (.goto (-117), 3) := dk_167 255 139 (dk_at dksX10_lawTells_6 16 rfl rfl)
theorem dX10_lawTells_159 : decode cX10_lawTells 159 = .ok (.iconst 0, 1) := dk_3 (dk_at dksX10_lawTells_6 19 rfl rfl)
theorem dX10_lawTells_160 : decode cX10_lawTells 160 = .ok (.ireturn, 1) := dk_172 (dk_at dksX10_lawTells_6 20 rfl rfl)
abbrev cX10_termOf : ByteArray := prog_21_method_36_code
def yX10_termOf : MethodName := ⟨RX10, "termOf", "(II)I"⟩
def dkwX10_termOf_7 : List UInt8 := [132, 4, 1, 167, 255, 99, 42, 180, 0, 116, 3, 46, 172]
abbrev dktX10_termOf_7 : List UInt8 := dkwX10_termOf_7 ++ []
def dkwX10_termOf_6 : List UInt8 := [167, 0, 22, 21, 5, 7, 160, 0, 11, 21, 6, 21, 7, 104, 167, 0, 8, 21, 6, 21, 7, 108, 79]
abbrev dktX10_termOf_6 : List UInt8 := dkwX10_termOf_6 ++ dktX10_termOf_7
def dkwX10_termOf_5 : List UInt8 := [160, 0, 11, 21, 6, 21, 7, 96, 167, 0, 36, 21, 5, 6, 160, 0, 11, 21, 6, 21, 7, 100]
abbrev dktX10_termOf_5 : List UInt8 := dkwX10_termOf_5 ++ dktX10_termOf_6
def dkwX10_termOf_4 : List UInt8 := [21, 7, 154, 0, 10, 42, 4, 181, 1, 53, 3, 172, 42, 180, 0, 116, 29, 4, 100, 21, 5, 5]
abbrev dktX10_termOf_4 : List UInt8 := dkwX10_termOf_4 ++ dktX10_termOf_5
def dkwX10_termOf_3 : List UInt8 := [180, 0, 116, 29, 4, 100, 46, 54, 6, 42, 180, 0, 116, 29, 46, 54, 7, 21, 5, 8, 160, 0, 15]
abbrev dktX10_termOf_3 : List UInt8 := dkwX10_termOf_3 ++ dktX10_termOf_4
def dkwX10_termOf_2 : List UInt8 := [180, 0, 113, 42, 180, 0, 107, 21, 4, 46, 46, 79, 132, 3, 1, 167, 0, 97, 132, 3, 255, 42]
abbrev dktX10_termOf_2 : List UInt8 := dkwX10_termOf_2 ++ dktX10_termOf_3
def dkwX10_termOf_1 : List UInt8 := [162, 0, 42, 42, 180, 0, 116, 29, 21, 5, 154, 0, 13, 42, 180, 0, 107, 21, 4, 46, 167, 0, 15, 42]
abbrev dktX10_termOf_1 : List UInt8 := dkwX10_termOf_1 ++ dktX10_termOf_2
def dkwX10_termOf_0 : List UInt8 := [3, 62, 27, 54, 4, 21, 4, 28, 162, 0, 157, 42, 180, 0, 104, 21, 4, 46, 54, 5, 21, 5, 5]
abbrev dktX10_termOf_0 : List UInt8 := dkwX10_termOf_0 ++ dktX10_termOf_1
theorem dksX10_termOf_0 : cX10_termOf.data.toList.drop 0 = dktX10_termOf_0 := by decide +kernel
theorem dksX10_termOf_1 : cX10_termOf.data.toList.drop 23 = dktX10_termOf_1 := dk_seg dksX10_termOf_0 23 rfl rfl
theorem dksX10_termOf_2 : cX10_termOf.data.toList.drop 47 = dktX10_termOf_2 := dk_seg dksX10_termOf_1 24 rfl rfl
theorem dksX10_termOf_3 : cX10_termOf.data.toList.drop 69 = dktX10_termOf_3 := dk_seg dksX10_termOf_2 22 rfl rfl
theorem dksX10_termOf_4 : cX10_termOf.data.toList.drop 92 = dktX10_termOf_4 := dk_seg dksX10_termOf_3 23 rfl rfl
theorem dksX10_termOf_5 : cX10_termOf.data.toList.drop 114 = dktX10_termOf_5 := dk_seg dksX10_termOf_4 22 rfl rfl
theorem dksX10_termOf_6 : cX10_termOf.data.toList.drop 136 = dktX10_termOf_6 := dk_seg dksX10_termOf_5 22 rfl rfl
theorem dksX10_termOf_7 : cX10_termOf.data.toList.drop 159 = dktX10_termOf_7 := dk_seg dksX10_termOf_6 23 rfl rfl
theorem dX10_termOf_0 : decode cX10_termOf 0 = .ok (.iconst 0, 1) := dk_3 (dk_at dksX10_termOf_0 0 rfl rfl)
theorem dX10_termOf_1 : decode cX10_termOf 1 = .ok (.istore_n 3, 1) := dk_62 (dk_at dksX10_termOf_0 1 rfl rfl)
theorem dX10_termOf_2 : decode cX10_termOf 2 = .ok (.iload_n 1, 1) := dk_27 (dk_at dksX10_termOf_0 2 rfl rfl)
theorem dX10_termOf_3 : decode cX10_termOf 3 = .ok (.istore 4, 2) := dk_54 4 (dk_at dksX10_termOf_0 3 rfl rfl)
theorem dX10_termOf_5 : decode cX10_termOf 5 = .ok (.iload 4, 2) := dk_21 4 (dk_at dksX10_termOf_0 5 rfl rfl)
theorem dX10_termOf_7 : decode cX10_termOf 7 = .ok (.iload_n 2, 1) := dk_28 (dk_at dksX10_termOf_0 7 rfl rfl)
theorem dX10_termOf_8 : decode cX10_termOf 8 = .ok (.if_icmp .ge 157, 3) := dk_162 0 157 (dk_at dksX10_termOf_0 8 rfl rfl)
theorem dX10_termOf_11 : decode cX10_termOf 11 = .ok (.aload_n 0, 1) := dk_42 (dk_at dksX10_termOf_0 11 rfl rfl)
theorem dX10_termOf_12 : decode cX10_termOf 12 = .ok (.getfield 104, 3) := dk_180 0 104 (dk_at dksX10_termOf_0 12 rfl rfl)
theorem dX10_termOf_15 : decode cX10_termOf 15 = .ok (.iload 4, 2) := dk_21 4 (dk_at dksX10_termOf_0 15 rfl rfl)
theorem dX10_termOf_17 : decode cX10_termOf 17 = .ok (.iaload, 1) := dk_46 (dk_at dksX10_termOf_0 17 rfl rfl)
theorem dX10_termOf_18 : decode cX10_termOf 18 = .ok (.istore 5, 2) := dk_54 5 (dk_at dksX10_termOf_0 18 rfl rfl)
theorem dX10_termOf_20 : decode cX10_termOf 20 = .ok (.iload 5, 2) := dk_21 5 (dk_at dksX10_termOf_0 20 rfl rfl)
theorem dX10_termOf_22 : decode cX10_termOf 22 = .ok (.iconst 2, 1) := dk_5 (dk_at dksX10_termOf_0 22 rfl rfl)
theorem dX10_termOf_23 : decode cX10_termOf 23 = .ok (.if_icmp .ge 42, 3) := dk_162 0 42 (dk_at dksX10_termOf_1 0 rfl rfl)
theorem dX10_termOf_26 : decode cX10_termOf 26 = .ok (.aload_n 0, 1) := dk_42 (dk_at dksX10_termOf_1 3 rfl rfl)
theorem dX10_termOf_27 : decode cX10_termOf 27 = .ok (.getfield 116, 3) := dk_180 0 116 (dk_at dksX10_termOf_1 4 rfl rfl)
theorem dX10_termOf_30 : decode cX10_termOf 30 = .ok (.iload_n 3, 1) := dk_29 (dk_at dksX10_termOf_1 7 rfl rfl)
theorem dX10_termOf_31 : decode cX10_termOf 31 = .ok (.iload 5, 2) := dk_21 5 (dk_at dksX10_termOf_1 8 rfl rfl)
theorem dX10_termOf_33 : decode cX10_termOf 33 = .ok (.ifCond .ne 13, 3) := dk_154 0 13 (dk_at dksX10_termOf_1 10 rfl rfl)
theorem dX10_termOf_36 : decode cX10_termOf 36 = .ok (.aload_n 0, 1) := dk_42 (dk_at dksX10_termOf_1 13 rfl rfl)
theorem dX10_termOf_37 : decode cX10_termOf 37 = .ok (.getfield 107, 3) := dk_180 0 107 (dk_at dksX10_termOf_1 14 rfl rfl)
theorem dX10_termOf_40 : decode cX10_termOf 40 = .ok (.iload 4, 2) := dk_21 4 (dk_at dksX10_termOf_1 17 rfl rfl)
theorem dX10_termOf_42 : decode cX10_termOf 42 = .ok (.iaload, 1) := dk_46 (dk_at dksX10_termOf_1 19 rfl rfl)
theorem dX10_termOf_43 : decode cX10_termOf 43 = .ok (.goto 15, 3) := dk_167 0 15 (dk_at dksX10_termOf_1 20 rfl rfl)
theorem dX10_termOf_46 : decode cX10_termOf 46 = .ok (.aload_n 0, 1) := dk_42 (dk_at dksX10_termOf_1 23 rfl rfl)
theorem dX10_termOf_47 : decode cX10_termOf 47 = .ok (.getfield 113, 3) := dk_180 0 113 (dk_at dksX10_termOf_2 0 rfl rfl)
theorem dX10_termOf_50 : decode cX10_termOf 50 = .ok (.aload_n 0, 1) := dk_42 (dk_at dksX10_termOf_2 3 rfl rfl)
theorem dX10_termOf_51 : decode cX10_termOf 51 = .ok (.getfield 107, 3) := dk_180 0 107 (dk_at dksX10_termOf_2 4 rfl rfl)
theorem dX10_termOf_54 : decode cX10_termOf 54 = .ok (.iload 4, 2) := dk_21 4 (dk_at dksX10_termOf_2 7 rfl rfl)
theorem dX10_termOf_56 : decode cX10_termOf 56 = .ok (.iaload, 1) := dk_46 (dk_at dksX10_termOf_2 9 rfl rfl)
theorem dX10_termOf_57 : decode cX10_termOf 57 = .ok (.iaload, 1) := dk_46 (dk_at dksX10_termOf_2 10 rfl rfl)
theorem dX10_termOf_58 : decode cX10_termOf 58 = .ok (.iastore, 1) := dk_79 (dk_at dksX10_termOf_2 11 rfl rfl)
theorem dX10_termOf_59 : decode cX10_termOf 59 = .ok (.iinc 3 1, 3) := dk_132 3 1 (dk_at dksX10_termOf_2 12 rfl rfl)
theorem dX10_termOf_62 : decode cX10_termOf 62 = .ok (.goto 97, 3) := dk_167 0 97 (dk_at dksX10_termOf_2 15 rfl rfl)
theorem dX10_termOf_65 : decode cX10_termOf 65 = .ok (.iinc 3 (-1), 3) := dk_132 3 255 (dk_at dksX10_termOf_2 18 rfl rfl)
theorem dX10_termOf_68 : decode cX10_termOf 68 = .ok (.aload_n 0, 1) := dk_42 (dk_at dksX10_termOf_2 21 rfl rfl)
theorem dX10_termOf_69 : decode cX10_termOf 69 = .ok (.getfield 116, 3) := dk_180 0 116 (dk_at dksX10_termOf_3 0 rfl rfl)
theorem dX10_termOf_72 : decode cX10_termOf 72 = .ok (.iload_n 3, 1) := dk_29 (dk_at dksX10_termOf_3 3 rfl rfl)
theorem dX10_termOf_73 : decode cX10_termOf 73 = .ok (.iconst 1, 1) := dk_4 (dk_at dksX10_termOf_3 4 rfl rfl)
theorem dX10_termOf_74 : decode cX10_termOf 74 = .ok (.isub, 1) := dk_100 (dk_at dksX10_termOf_3 5 rfl rfl)
theorem dX10_termOf_75 : decode cX10_termOf 75 = .ok (.iaload, 1) := dk_46 (dk_at dksX10_termOf_3 6 rfl rfl)
theorem dX10_termOf_76 : decode cX10_termOf 76 = .ok (.istore 6, 2) := dk_54 6 (dk_at dksX10_termOf_3 7 rfl rfl)
theorem dX10_termOf_78 : decode cX10_termOf 78 = .ok (.aload_n 0, 1) := dk_42 (dk_at dksX10_termOf_3 9 rfl rfl)
theorem dX10_termOf_79 : decode cX10_termOf 79 = .ok (.getfield 116, 3) := dk_180 0 116 (dk_at dksX10_termOf_3 10 rfl rfl)
theorem dX10_termOf_82 : decode cX10_termOf 82 = .ok (.iload_n 3, 1) := dk_29 (dk_at dksX10_termOf_3 13 rfl rfl)
theorem dX10_termOf_83 : decode cX10_termOf 83 = .ok (.iaload, 1) := dk_46 (dk_at dksX10_termOf_3 14 rfl rfl)
theorem dX10_termOf_84 : decode cX10_termOf 84 = .ok (.istore 7, 2) := dk_54 7 (dk_at dksX10_termOf_3 15 rfl rfl)
theorem dX10_termOf_86 : decode cX10_termOf 86 = .ok (.iload 5, 2) := dk_21 5 (dk_at dksX10_termOf_3 17 rfl rfl)
theorem dX10_termOf_88 : decode cX10_termOf 88 = .ok (.iconst 5, 1) := dk_8 (dk_at dksX10_termOf_3 19 rfl rfl)
theorem dX10_termOf_89 : decode cX10_termOf 89 = .ok (.if_icmp .ne 15, 3) := dk_160 0 15 (dk_at dksX10_termOf_3 20 rfl rfl)
theorem dX10_termOf_92 : decode cX10_termOf 92 = .ok (.iload 7, 2) := dk_21 7 (dk_at dksX10_termOf_4 0 rfl rfl)
theorem dX10_termOf_94 : decode cX10_termOf 94 = .ok (.ifCond .ne 10, 3) := dk_154 0 10 (dk_at dksX10_termOf_4 2 rfl rfl)
theorem dX10_termOf_97 : decode cX10_termOf 97 = .ok (.aload_n 0, 1) := dk_42 (dk_at dksX10_termOf_4 5 rfl rfl)
theorem dX10_termOf_98 : decode cX10_termOf 98 = .ok (.iconst 1, 1) := dk_4 (dk_at dksX10_termOf_4 6 rfl rfl)
theorem dX10_termOf_99 : decode cX10_termOf 99 = .ok (.putfield 309, 3) := dk_181 1 53 (dk_at dksX10_termOf_4 7 rfl rfl)
theorem dX10_termOf_102 : decode cX10_termOf 102 = .ok (.iconst 0, 1) := dk_3 (dk_at dksX10_termOf_4 10 rfl rfl)
theorem dX10_termOf_103 : decode cX10_termOf 103 = .ok (.ireturn, 1) := dk_172 (dk_at dksX10_termOf_4 11 rfl rfl)
theorem dX10_termOf_104 : decode cX10_termOf 104 = .ok (.aload_n 0, 1) := dk_42 (dk_at dksX10_termOf_4 12 rfl rfl)
theorem dX10_termOf_105 : decode cX10_termOf 105 = .ok (.getfield 116, 3) := dk_180 0 116 (dk_at dksX10_termOf_4 13 rfl rfl)
theorem dX10_termOf_108 : decode cX10_termOf 108 = .ok (.iload_n 3, 1) := dk_29 (dk_at dksX10_termOf_4 16 rfl rfl)
theorem dX10_termOf_109 : decode cX10_termOf 109 = .ok (.iconst 1, 1) := dk_4 (dk_at dksX10_termOf_4 17 rfl rfl)
theorem dX10_termOf_110 : decode cX10_termOf 110 = .ok (.isub, 1) := dk_100 (dk_at dksX10_termOf_4 18 rfl rfl)
theorem dX10_termOf_111 : decode cX10_termOf 111 = .ok (.iload 5, 2) := dk_21 5 (dk_at dksX10_termOf_4 19 rfl rfl)
theorem dX10_termOf_113 : decode cX10_termOf 113 = .ok (.iconst 2, 1) := dk_5 (dk_at dksX10_termOf_4 21 rfl rfl)
theorem dX10_termOf_114 : decode cX10_termOf 114 = .ok (.if_icmp .ne 11, 3) := dk_160 0 11 (dk_at dksX10_termOf_5 0 rfl rfl)
theorem dX10_termOf_117 : decode cX10_termOf 117 = .ok (.iload 6, 2) := dk_21 6 (dk_at dksX10_termOf_5 3 rfl rfl)
theorem dX10_termOf_119 : decode cX10_termOf 119 = .ok (.iload 7, 2) := dk_21 7 (dk_at dksX10_termOf_5 5 rfl rfl)
theorem dX10_termOf_121 : decode cX10_termOf 121 = .ok (.iadd, 1) := dk_96 (dk_at dksX10_termOf_5 7 rfl rfl)
theorem dX10_termOf_122 : decode cX10_termOf 122 = .ok (.goto 36, 3) := dk_167 0 36 (dk_at dksX10_termOf_5 8 rfl rfl)
theorem dX10_termOf_125 : decode cX10_termOf 125 = .ok (.iload 5, 2) := dk_21 5 (dk_at dksX10_termOf_5 11 rfl rfl)
theorem dX10_termOf_127 : decode cX10_termOf 127 = .ok (.iconst 3, 1) := dk_6 (dk_at dksX10_termOf_5 13 rfl rfl)
theorem dX10_termOf_128 : decode cX10_termOf 128 = .ok (.if_icmp .ne 11, 3) := dk_160 0 11 (dk_at dksX10_termOf_5 14 rfl rfl)
theorem dX10_termOf_131 : decode cX10_termOf 131 = .ok (.iload 6, 2) := dk_21 6 (dk_at dksX10_termOf_5 17 rfl rfl)
theorem dX10_termOf_133 : decode cX10_termOf 133 = .ok (.iload 7, 2) := dk_21 7 (dk_at dksX10_termOf_5 19 rfl rfl)
theorem dX10_termOf_135 : decode cX10_termOf 135 = .ok (.isub, 1) := dk_100 (dk_at dksX10_termOf_5 21 rfl rfl)
theorem dX10_termOf_136 : decode cX10_termOf 136 = .ok (.goto 22, 3) := dk_167 0 22 (dk_at dksX10_termOf_6 0 rfl rfl)
theorem dX10_termOf_139 : decode cX10_termOf 139 = .ok (.iload 5, 2) := dk_21 5 (dk_at dksX10_termOf_6 3 rfl rfl)
theorem dX10_termOf_141 : decode cX10_termOf 141 = .ok (.iconst 4, 1) := dk_7 (dk_at dksX10_termOf_6 5 rfl rfl)
theorem dX10_termOf_142 : decode cX10_termOf 142 = .ok (.if_icmp .ne 11, 3) := dk_160 0 11 (dk_at dksX10_termOf_6 6 rfl rfl)
theorem dX10_termOf_145 : decode cX10_termOf 145 = .ok (.iload 6, 2) := dk_21 6 (dk_at dksX10_termOf_6 9 rfl rfl)
theorem dX10_termOf_147 : decode cX10_termOf 147 = .ok (.iload 7, 2) := dk_21 7 (dk_at dksX10_termOf_6 11 rfl rfl)
theorem dX10_termOf_149 : decode cX10_termOf 149 = .ok (.imul, 1) := dk_104 (dk_at dksX10_termOf_6 13 rfl rfl)
theorem dX10_termOf_150 : decode cX10_termOf 150 = .ok (.goto 8, 3) := dk_167 0 8 (dk_at dksX10_termOf_6 14 rfl rfl)
theorem dX10_termOf_153 : decode cX10_termOf 153 = .ok (.iload 6, 2) := dk_21 6 (dk_at dksX10_termOf_6 17 rfl rfl)
theorem dX10_termOf_155 : decode cX10_termOf 155 = .ok (.iload 7, 2) := dk_21 7 (dk_at dksX10_termOf_6 19 rfl rfl)
theorem dX10_termOf_157 : decode cX10_termOf 157 = .ok (.idiv, 1) := dk_108 (dk_at dksX10_termOf_6 21 rfl rfl)
theorem dX10_termOf_158 : decode cX10_termOf 158 = .ok (.iastore, 1) := dk_79 (dk_at dksX10_termOf_6 22 rfl rfl)
theorem dX10_termOf_159 : decode cX10_termOf 159 = .ok (.iinc 4 1, 3) := dk_132 4 1 (dk_at dksX10_termOf_7 0 rfl rfl)
theorem dX10_termOf_162 : decode cX10_termOf 162 = .ok (.goto (-157), 3) := dk_167 255 99 (dk_at dksX10_termOf_7 3 rfl rfl)
theorem dX10_termOf_165 : decode cX10_termOf 165 = .ok (.aload_n 0, 1) := dk_42 (dk_at dksX10_termOf_7 6 rfl rfl)
theorem dX10_termOf_166 : decode cX10_termOf 166 = .ok (.getfield 116, 3) := dk_180 0 116 (dk_at dksX10_termOf_7 7 rfl rfl)
theorem dX10_termOf_169 : decode cX10_termOf 169 = .ok (.iconst 0, 1) := dk_3 (dk_at dksX10_termOf_7 10 rfl rfl)
theorem dX10_termOf_170 : decode cX10_termOf 170 = .ok (.iaload, 1) := dk_46 (dk_at dksX10_termOf_7 11 rfl rfl)
theorem dX10_termOf_171 : decode cX10_termOf 171 = .ok (.ireturn, 1) := dk_172 (dk_at dksX10_termOf_7 12 rfl rfl)
abbrev cX10_within : ByteArray := prog_21_method_38_code
def yX10_within : MethodName := ⟨RX10, "within", "(III)I"⟩
def dkwX10_within_0 : List UInt8 := [26, 27, 162, 0, 7, 27, 167, 0, 13, 26, 28, 164, 0, 7, 28, 167, 0, 4, 26, 172]
abbrev dktX10_within_0 : List UInt8 := dkwX10_within_0 ++ []
theorem dksX10_within_0 : cX10_within.data.toList.drop 0 = dktX10_within_0 := by decide +kernel
theorem dX10_within_0 : decode cX10_within 0 = .ok (.iload_n 0, 1) := dk_26 (dk_at dksX10_within_0 0 rfl rfl)
theorem dX10_within_1 : decode cX10_within 1 = .ok (.iload_n 1, 1) := dk_27 (dk_at dksX10_within_0 1 rfl rfl)
theorem dX10_within_2 : decode cX10_within 2 = .ok (.if_icmp .ge 7, 3) := dk_162 0 7 (dk_at dksX10_within_0 2 rfl rfl)
theorem dX10_within_5 : decode cX10_within 5 = .ok (.iload_n 1, 1) := dk_27 (dk_at dksX10_within_0 5 rfl rfl)
theorem dX10_within_6 : decode cX10_within 6 = .ok (.goto 13, 3) := dk_167 0 13 (dk_at dksX10_within_0 6 rfl rfl)
theorem dX10_within_9 : decode cX10_within 9 = .ok (.iload_n 0, 1) := dk_26 (dk_at dksX10_within_0 9 rfl rfl)
theorem dX10_within_10 : decode cX10_within 10 = .ok (.iload_n 2, 1) := dk_28 (dk_at dksX10_within_0 10 rfl rfl)
theorem dX10_within_11 : decode cX10_within 11 = .ok (.if_icmp .le 7, 3) := dk_164 0 7 (dk_at dksX10_within_0 11 rfl rfl)
theorem dX10_within_14 : decode cX10_within 14 = .ok (.iload_n 2, 1) := dk_28 (dk_at dksX10_within_0 14 rfl rfl)
theorem dX10_within_15 : decode cX10_within 15 = .ok (.goto 4, 3) := dk_167 0 4 (dk_at dksX10_within_0 15 rfl rfl)
theorem dX10_within_18 : decode cX10_within 18 = .ok (.iload_n 0, 1) := dk_26 (dk_at dksX10_within_0 18 rfl rfl)
theorem dX10_within_19 : decode cX10_within 19 = .ok (.ireturn, 1) := dk_172 (dk_at dksX10_within_0 19 rfl rfl)
abbrev cX10_givesOf : ByteArray := prog_21_method_58_code
def yX10_givesOf : MethodName := ⟨RX10, "givesOf", "(III)I"⟩
def dkwX10_givesOf_3 : List UInt8 := [172]
abbrev dktX10_givesOf_3 : List UInt8 := dkwX10_givesOf_3 ++ []
def dkwX10_givesOf_2 : List UInt8 := [182, 1, 86, 79, 42, 180, 0, 113, 16, 7, 28, 79, 42, 3, 4, 182, 1, 95, 3, 21, 4, 184, 1, 98]
abbrev dktX10_givesOf_2 : List UInt8 := dkwX10_givesOf_2 ++ dktX10_givesOf_3
def dkwX10_givesOf_1 : List UInt8 := [184, 1, 80, 54, 4, 42, 180, 0, 113, 3, 21, 4, 79, 42, 180, 0, 113, 16, 6, 42, 27, 28]
abbrev dktX10_givesOf_1 : List UInt8 := dkwX10_givesOf_1 ++ dktX10_givesOf_2
def dkwX10_givesOf_0 : List UInt8 := [42, 27, 29, 182, 1, 92, 42, 180, 0, 122, 7, 27, 104, 29, 96, 46, 42, 28, 29, 182, 1, 77]
abbrev dktX10_givesOf_0 : List UInt8 := dkwX10_givesOf_0 ++ dktX10_givesOf_1
theorem dksX10_givesOf_0 : cX10_givesOf.data.toList.drop 0 = dktX10_givesOf_0 := by decide +kernel
theorem dksX10_givesOf_1 : cX10_givesOf.data.toList.drop 22 = dktX10_givesOf_1 := dk_seg dksX10_givesOf_0 22 rfl rfl
theorem dksX10_givesOf_2 : cX10_givesOf.data.toList.drop 44 = dktX10_givesOf_2 := dk_seg dksX10_givesOf_1 22 rfl rfl
theorem dksX10_givesOf_3 : cX10_givesOf.data.toList.drop 68 = dktX10_givesOf_3 := dk_seg dksX10_givesOf_2 24 rfl rfl
theorem dX10_givesOf_0 : decode cX10_givesOf 0 = .ok (.aload_n 0, 1) := dk_42 (dk_at dksX10_givesOf_0 0 rfl rfl)
theorem dX10_givesOf_1 : decode cX10_givesOf 1 = .ok (.iload_n 1, 1) := dk_27 (dk_at dksX10_givesOf_0 1 rfl rfl)
theorem dX10_givesOf_2 : decode cX10_givesOf 2 = .ok (.iload_n 3, 1) := dk_29 (dk_at dksX10_givesOf_0 2 rfl rfl)
theorem dX10_givesOf_3 : decode cX10_givesOf 3 = .ok (.invokevirtual 348, 3) := dk_182 1 92 (dk_at dksX10_givesOf_0 3 rfl rfl)
theorem dX10_givesOf_6 : decode cX10_givesOf 6 = .ok (.aload_n 0, 1) := dk_42 (dk_at dksX10_givesOf_0 6 rfl rfl)
theorem dX10_givesOf_7 : decode cX10_givesOf 7 = .ok (.getfield 122, 3) := dk_180 0 122 (dk_at dksX10_givesOf_0 7 rfl rfl)
theorem dX10_givesOf_10 : decode cX10_givesOf 10 = .ok (.iconst 4, 1) := dk_7 (dk_at dksX10_givesOf_0 10 rfl rfl)
theorem dX10_givesOf_11 : decode cX10_givesOf 11 = .ok (.iload_n 1, 1) := dk_27 (dk_at dksX10_givesOf_0 11 rfl rfl)
theorem dX10_givesOf_12 : decode cX10_givesOf 12 = .ok (.imul, 1) := dk_104 (dk_at dksX10_givesOf_0 12 rfl rfl)
theorem dX10_givesOf_13 : decode cX10_givesOf 13 = .ok (.iload_n 3, 1) := dk_29 (dk_at dksX10_givesOf_0 13 rfl rfl)
theorem dX10_givesOf_14 : decode cX10_givesOf 14 = .ok (.iadd, 1) := dk_96 (dk_at dksX10_givesOf_0 14 rfl rfl)
theorem dX10_givesOf_15 : decode cX10_givesOf 15 = .ok (.iaload, 1) := dk_46 (dk_at dksX10_givesOf_0 15 rfl rfl)
theorem dX10_givesOf_16 : decode cX10_givesOf 16 = .ok (.aload_n 0, 1) := dk_42 (dk_at dksX10_givesOf_0 16 rfl rfl)
theorem dX10_givesOf_17 : decode cX10_givesOf 17 = .ok (.iload_n 2, 1) := dk_28 (dk_at dksX10_givesOf_0 17 rfl rfl)
theorem dX10_givesOf_18 : decode cX10_givesOf 18 = .ok (.iload_n 3, 1) := dk_29 (dk_at dksX10_givesOf_0 18 rfl rfl)
theorem dX10_givesOf_19 : decode cX10_givesOf 19 = .ok (.invokevirtual 333, 3) := dk_182 1 77 (dk_at dksX10_givesOf_0 19 rfl rfl)
theorem dX10_givesOf_22 : decode cX10_givesOf 22 = .ok (.invokestatic 336, 3) := dk_184 1 80 (dk_at dksX10_givesOf_1 0 rfl rfl)
theorem dX10_givesOf_25 : decode cX10_givesOf 25 = .ok (.istore 4, 2) := dk_54 4 (dk_at dksX10_givesOf_1 3 rfl rfl)
theorem dX10_givesOf_27 : decode cX10_givesOf 27 = .ok (.aload_n 0, 1) := dk_42 (dk_at dksX10_givesOf_1 5 rfl rfl)
theorem dX10_givesOf_28 : decode cX10_givesOf 28 = .ok (.getfield 113, 3) := dk_180 0 113 (dk_at dksX10_givesOf_1 6 rfl rfl)
theorem dX10_givesOf_31 : decode cX10_givesOf 31 = .ok (.iconst 0, 1) := dk_3 (dk_at dksX10_givesOf_1 9 rfl rfl)
theorem dX10_givesOf_32 : decode cX10_givesOf 32 = .ok (.iload 4, 2) := dk_21 4 (dk_at dksX10_givesOf_1 10 rfl rfl)
theorem dX10_givesOf_34 : decode cX10_givesOf 34 = .ok (.iastore, 1) := dk_79 (dk_at dksX10_givesOf_1 12 rfl rfl)
theorem dX10_givesOf_35 : decode cX10_givesOf 35 = .ok (.aload_n 0, 1) := dk_42 (dk_at dksX10_givesOf_1 13 rfl rfl)
theorem dX10_givesOf_36 : decode cX10_givesOf 36 = .ok (.getfield 113, 3) := dk_180 0 113 (dk_at dksX10_givesOf_1 14 rfl rfl)
theorem dX10_givesOf_39 : decode cX10_givesOf 39 = .ok (.bipush 6, 2) := dk_16 6 (dk_at dksX10_givesOf_1 17 rfl rfl)
theorem dX10_givesOf_41 : decode cX10_givesOf 41 = .ok (.aload_n 0, 1) := dk_42 (dk_at dksX10_givesOf_1 19 rfl rfl)
theorem dX10_givesOf_42 : decode cX10_givesOf 42 = .ok (.iload_n 1, 1) := dk_27 (dk_at dksX10_givesOf_1 20 rfl rfl)
theorem dX10_givesOf_43 : decode cX10_givesOf 43 = .ok (.iload_n 2, 1) := dk_28 (dk_at dksX10_givesOf_1 21 rfl rfl)
theorem dX10_givesOf_44 : decode cX10_givesOf 44 = .ok (.invokevirtual 342, 3) := dk_182 1 86 (dk_at dksX10_givesOf_2 0 rfl rfl)
theorem dX10_givesOf_47 : decode cX10_givesOf 47 = .ok (.iastore, 1) := dk_79 (dk_at dksX10_givesOf_2 3 rfl rfl)
theorem dX10_givesOf_48 : decode cX10_givesOf 48 = .ok (.aload_n 0, 1) := dk_42 (dk_at dksX10_givesOf_2 4 rfl rfl)
theorem dX10_givesOf_49 : decode cX10_givesOf 49 = .ok (.getfield 113, 3) := dk_180 0 113 (dk_at dksX10_givesOf_2 5 rfl rfl)
theorem dX10_givesOf_52 : decode cX10_givesOf 52 = .ok (.bipush 7, 2) := dk_16 7 (dk_at dksX10_givesOf_2 8 rfl rfl)
theorem dX10_givesOf_54 : decode cX10_givesOf 54 = .ok (.iload_n 2, 1) := dk_28 (dk_at dksX10_givesOf_2 10 rfl rfl)
theorem dX10_givesOf_55 : decode cX10_givesOf 55 = .ok (.iastore, 1) := dk_79 (dk_at dksX10_givesOf_2 11 rfl rfl)
theorem dX10_givesOf_56 : decode cX10_givesOf 56 = .ok (.aload_n 0, 1) := dk_42 (dk_at dksX10_givesOf_2 12 rfl rfl)
theorem dX10_givesOf_57 : decode cX10_givesOf 57 = .ok (.iconst 0, 1) := dk_3 (dk_at dksX10_givesOf_2 13 rfl rfl)
theorem dX10_givesOf_58 : decode cX10_givesOf 58 = .ok (.iconst 1, 1) := dk_4 (dk_at dksX10_givesOf_2 14 rfl rfl)
theorem dX10_givesOf_59 : decode cX10_givesOf 59 = .ok (.invokevirtual 351, 3) := dk_182 1 95 (dk_at dksX10_givesOf_2 15 rfl rfl)
theorem dX10_givesOf_62 : decode cX10_givesOf 62 = .ok (.iconst 0, 1) := dk_3 (dk_at dksX10_givesOf_2 18 rfl rfl)
theorem dX10_givesOf_63 : decode cX10_givesOf 63 = .ok (.iload 4, 2) := dk_21 4 (dk_at dksX10_givesOf_2 19 rfl rfl)
theorem dX10_givesOf_65 : decode cX10_givesOf 65 = .ok (.invokestatic 354, 3) := dk_184 1 98 (dk_at dksX10_givesOf_2 21 rfl rfl)
theorem dX10_givesOf_68 : decode cX10_givesOf 68 = .ok (.ireturn, 1) := dk_172 (dk_at dksX10_givesOf_3 0 rfl rfl)
abbrev cX10_lift : ByteArray := prog_21_method_74_code
def yX10_lift : MethodName := ⟨RX10, "lift", "(II)Z"⟩
def dkwX10_lift_1 : List UInt8 := [182, 1, 146, 4, 172]
abbrev dktX10_lift_1 : List UInt8 := dkwX10_lift_1 ++ []
def dkwX10_lift_0 : List UInt8 := [42, 27, 28, 182, 1, 143, 154, 0, 5, 3, 172, 42, 182, 1, 67, 42, 27, 28, 182, 1, 118, 42]
abbrev dktX10_lift_0 : List UInt8 := dkwX10_lift_0 ++ dktX10_lift_1
theorem dksX10_lift_0 : cX10_lift.data.toList.drop 0 = dktX10_lift_0 := by decide +kernel
theorem dksX10_lift_1 : cX10_lift.data.toList.drop 22 = dktX10_lift_1 := dk_seg dksX10_lift_0 22 rfl rfl
theorem dX10_lift_0 : decode cX10_lift 0 = .ok (.aload_n 0, 1) := dk_42 (dk_at dksX10_lift_0 0 rfl rfl)
theorem dX10_lift_1 : decode cX10_lift 1 = .ok (.iload_n 1, 1) := dk_27 (dk_at dksX10_lift_0 1 rfl rfl)
theorem dX10_lift_2 : decode cX10_lift 2 = .ok (.iload_n 2, 1) := dk_28 (dk_at dksX10_lift_0 2 rfl rfl)
theorem dX10_lift_3 : decode cX10_lift 3 = .ok (.invokevirtual 399, 3) := dk_182 1 143 (dk_at dksX10_lift_0 3 rfl rfl)
theorem dX10_lift_6 : decode cX10_lift 6 = .ok (.ifCond .ne 5, 3) := dk_154 0 5 (dk_at dksX10_lift_0 6 rfl rfl)
theorem dX10_lift_9 : decode cX10_lift 9 = .ok (.iconst 0, 1) := dk_3 (dk_at dksX10_lift_0 9 rfl rfl)
theorem dX10_lift_10 : decode cX10_lift 10 = .ok (.ireturn, 1) := dk_172 (dk_at dksX10_lift_0 10 rfl rfl)
theorem dX10_lift_11 : decode cX10_lift 11 = .ok (.aload_n 0, 1) := dk_42 (dk_at dksX10_lift_0 11 rfl rfl)
theorem dX10_lift_12 : decode cX10_lift 12 = .ok (.invokevirtual 323, 3) := dk_182 1 67 (dk_at dksX10_lift_0 12 rfl rfl)
theorem dX10_lift_15 : decode cX10_lift 15 = .ok (.aload_n 0, 1) := dk_42 (dk_at dksX10_lift_0 15 rfl rfl)
theorem dX10_lift_16 : decode cX10_lift 16 = .ok (.iload_n 1, 1) := dk_27 (dk_at dksX10_lift_0 16 rfl rfl)
theorem dX10_lift_17 : decode cX10_lift 17 = .ok (.iload_n 2, 1) := dk_28 (dk_at dksX10_lift_0 17 rfl rfl)
theorem dX10_lift_18 : decode cX10_lift 18 = .ok (.invokevirtual 374, 3) := dk_182 1 118 (dk_at dksX10_lift_0 18 rfl rfl)
theorem dX10_lift_21 : decode cX10_lift 21 = .ok (.aload_n 0, 1) := dk_42 (dk_at dksX10_lift_0 21 rfl rfl)
theorem dX10_lift_22 : decode cX10_lift 22 = .ok (.invokevirtual 402, 3) := dk_182 1 146 (dk_at dksX10_lift_1 0 rfl rfl)
theorem dX10_lift_25 : decode cX10_lift 25 = .ok (.iconst 1, 1) := dk_4 (dk_at dksX10_lift_1 3 rfl rfl)
theorem dX10_lift_26 : decode cX10_lift 26 = .ok (.ireturn, 1) := dk_172 (dk_at dksX10_lift_1 4 rfl rfl)
abbrev cX10_lifted : ByteArray := prog_21_method_62_code
def yX10_lifted : MethodName := ⟨RX10, "lifted", "(II)V"⟩
def dkwX10_lifted_6 : List UInt8 := [79, 42, 180, 0, 122, 16, 48, 27, 96, 4, 79, 177]
abbrev dktX10_lifted_6 : List UInt8 := dkwX10_lifted_6 ++ []
def dkwX10_lifted_5 : List UInt8 := [180, 0, 122, 16, 24, 27, 96, 92, 46, 4, 96, 79, 42, 180, 0, 122, 16, 64, 28, 96, 92, 46, 4, 96]
abbrev dktX10_lifted_5 : List UInt8 := dkwX10_lifted_5 ++ dktX10_lifted_6
def dkwX10_lifted_4 : List UInt8 := [16, 42, 27, 96, 42, 180, 0, 122, 16, 42, 27, 96, 46, 29, 96, 3, 19, 1, 113, 184, 1, 98, 79, 42]
abbrev dktX10_lifted_4 : List UInt8 := dkwX10_lifted_4 ++ dktX10_lifted_5
def dkwX10_lifted_3 : List UInt8 := [182, 1, 77, 42, 180, 0, 125, 21, 4, 46, 184, 1, 110, 79, 132, 4, 1, 167, 255, 208, 42, 180, 0, 122]
abbrev dktX10_lifted_3 : List UInt8 := dkwX10_lifted_3 ++ dktX10_lifted_4
def dkwX10_lifted_2 : List UInt8 := [180, 0, 122, 7, 27, 104, 21, 4, 96, 42, 180, 0, 122, 7, 27, 104, 21, 4, 96, 46, 42, 28, 21, 4]
abbrev dktX10_lifted_2 : List UInt8 := dkwX10_lifted_2 ++ dktX10_lifted_3
def dkwX10_lifted_1 : List UInt8 := [28, 21, 4, 182, 1, 107, 79, 132, 4, 1, 167, 255, 232, 3, 54, 4, 21, 4, 7, 162, 0, 48, 42]
abbrev dktX10_lifted_1 : List UInt8 := dkwX10_lifted_1 ++ dktX10_lifted_2
def dkwX10_lifted_0 : List UInt8 := [42, 27, 28, 182, 1, 104, 62, 3, 54, 4, 21, 4, 7, 162, 0, 24, 42, 180, 0, 125, 21, 4, 42, 27]
abbrev dktX10_lifted_0 : List UInt8 := dkwX10_lifted_0 ++ dktX10_lifted_1
theorem dksX10_lifted_0 : cX10_lifted.data.toList.drop 0 = dktX10_lifted_0 := by decide +kernel
theorem dksX10_lifted_1 : cX10_lifted.data.toList.drop 24 = dktX10_lifted_1 := dk_seg dksX10_lifted_0 24 rfl rfl
theorem dksX10_lifted_2 : cX10_lifted.data.toList.drop 47 = dktX10_lifted_2 := dk_seg dksX10_lifted_1 23 rfl rfl
theorem dksX10_lifted_3 : cX10_lifted.data.toList.drop 71 = dktX10_lifted_3 := dk_seg dksX10_lifted_2 24 rfl rfl
theorem dksX10_lifted_4 : cX10_lifted.data.toList.drop 95 = dktX10_lifted_4 := dk_seg dksX10_lifted_3 24 rfl rfl
theorem dksX10_lifted_5 : cX10_lifted.data.toList.drop 119 = dktX10_lifted_5 := dk_seg dksX10_lifted_4 24 rfl rfl
theorem dksX10_lifted_6 : cX10_lifted.data.toList.drop 143 = dktX10_lifted_6 := dk_seg dksX10_lifted_5 24 rfl rfl
theorem dX10_lifted_0 : decode cX10_lifted 0 = .ok (.aload_n 0, 1) := dk_42 (dk_at dksX10_lifted_0 0 rfl rfl)
theorem dX10_lifted_1 : decode cX10_lifted 1 = .ok (.iload_n 1, 1) := dk_27 (dk_at dksX10_lifted_0 1 rfl rfl)
theorem dX10_lifted_2 : decode cX10_lifted 2 = .ok (.iload_n 2, 1) := dk_28 (dk_at dksX10_lifted_0 2 rfl rfl)
theorem dX10_lifted_3 : decode cX10_lifted 3 = .ok (.invokevirtual 360, 3) := dk_182 1 104 (dk_at dksX10_lifted_0 3 rfl rfl)
theorem dX10_lifted_6 : decode cX10_lifted 6 = .ok (.istore_n 3, 1) := dk_62 (dk_at dksX10_lifted_0 6 rfl rfl)
theorem dX10_lifted_7 : decode cX10_lifted 7 = .ok (.iconst 0, 1) := dk_3 (dk_at dksX10_lifted_0 7 rfl rfl)
theorem dX10_lifted_8 : decode cX10_lifted 8 = .ok (.istore 4, 2) := dk_54 4 (dk_at dksX10_lifted_0 8 rfl rfl)
theorem dX10_lifted_10 : decode cX10_lifted 10 = .ok (.iload 4, 2) := dk_21 4 (dk_at dksX10_lifted_0 10 rfl rfl)
theorem dX10_lifted_12 : decode cX10_lifted 12 = .ok (.iconst 4, 1) := dk_7 (dk_at dksX10_lifted_0 12 rfl rfl)
theorem dX10_lifted_13 : decode cX10_lifted 13 = .ok (.if_icmp .ge 24, 3) := dk_162 0 24 (dk_at dksX10_lifted_0 13 rfl rfl)
theorem dX10_lifted_16 : decode cX10_lifted 16 = .ok (.aload_n 0, 1) := dk_42 (dk_at dksX10_lifted_0 16 rfl rfl)
theorem dX10_lifted_17 : decode cX10_lifted 17 = .ok (.getfield 125, 3) := dk_180 0 125 (dk_at dksX10_lifted_0 17 rfl rfl)
theorem dX10_lifted_20 : decode cX10_lifted 20 = .ok (.iload 4, 2) := dk_21 4 (dk_at dksX10_lifted_0 20 rfl rfl)
theorem dX10_lifted_22 : decode cX10_lifted 22 = .ok (.aload_n 0, 1) := dk_42 (dk_at dksX10_lifted_0 22 rfl rfl)
theorem dX10_lifted_23 : decode cX10_lifted 23 = .ok (.iload_n 1, 1) := dk_27 (dk_at dksX10_lifted_0 23 rfl rfl)
theorem dX10_lifted_24 : decode cX10_lifted 24 = .ok (.iload_n 2, 1) := dk_28 (dk_at dksX10_lifted_1 0 rfl rfl)
theorem dX10_lifted_25 : decode cX10_lifted 25 = .ok (.iload 4, 2) := dk_21 4 (dk_at dksX10_lifted_1 1 rfl rfl)
theorem dX10_lifted_27 : decode cX10_lifted 27 = .ok (.invokevirtual 363, 3) := dk_182 1 107 (dk_at dksX10_lifted_1 3 rfl rfl)
theorem dX10_lifted_30 : decode cX10_lifted 30 = .ok (.iastore, 1) := dk_79 (dk_at dksX10_lifted_1 6 rfl rfl)
theorem dX10_lifted_31 : decode cX10_lifted 31 = .ok (.iinc 4 1, 3) := dk_132 4 1 (dk_at dksX10_lifted_1 7 rfl rfl)
theorem dX10_lifted_34 : decode cX10_lifted 34 = .ok (.goto (-24), 3) := dk_167 255 232 (dk_at dksX10_lifted_1 10 rfl rfl)
theorem dX10_lifted_37 : decode cX10_lifted 37 = .ok (.iconst 0, 1) := dk_3 (dk_at dksX10_lifted_1 13 rfl rfl)
theorem dX10_lifted_38 : decode cX10_lifted 38 = .ok (.istore 4, 2) := dk_54 4 (dk_at dksX10_lifted_1 14 rfl rfl)
theorem dX10_lifted_40 : decode cX10_lifted 40 = .ok (.iload 4, 2) := dk_21 4 (dk_at dksX10_lifted_1 16 rfl rfl)
theorem dX10_lifted_42 : decode cX10_lifted 42 = .ok (.iconst 4, 1) := dk_7 (dk_at dksX10_lifted_1 18 rfl rfl)
theorem dX10_lifted_43 : decode cX10_lifted 43 = .ok (.if_icmp .ge 48, 3) := dk_162 0 48 (dk_at dksX10_lifted_1 19 rfl rfl)
theorem dX10_lifted_46 : decode cX10_lifted 46 = .ok (.aload_n 0, 1) := dk_42 (dk_at dksX10_lifted_1 22 rfl rfl)
theorem dX10_lifted_47 : decode cX10_lifted 47 = .ok (.getfield 122, 3) := dk_180 0 122 (dk_at dksX10_lifted_2 0 rfl rfl)
theorem dX10_lifted_50 : decode cX10_lifted 50 = .ok (.iconst 4, 1) := dk_7 (dk_at dksX10_lifted_2 3 rfl rfl)
theorem dX10_lifted_51 : decode cX10_lifted 51 = .ok (.iload_n 1, 1) := dk_27 (dk_at dksX10_lifted_2 4 rfl rfl)
theorem dX10_lifted_52 : decode cX10_lifted 52 = .ok (.imul, 1) := dk_104 (dk_at dksX10_lifted_2 5 rfl rfl)
theorem dX10_lifted_53 : decode cX10_lifted 53 = .ok (.iload 4, 2) := dk_21 4 (dk_at dksX10_lifted_2 6 rfl rfl)
theorem dX10_lifted_55 : decode cX10_lifted 55 = .ok (.iadd, 1) := dk_96 (dk_at dksX10_lifted_2 8 rfl rfl)
theorem dX10_lifted_56 : decode cX10_lifted 56 = .ok (.aload_n 0, 1) := dk_42 (dk_at dksX10_lifted_2 9 rfl rfl)
theorem dX10_lifted_57 : decode cX10_lifted 57 = .ok (.getfield 122, 3) := dk_180 0 122 (dk_at dksX10_lifted_2 10 rfl rfl)
theorem dX10_lifted_60 : decode cX10_lifted 60 = .ok (.iconst 4, 1) := dk_7 (dk_at dksX10_lifted_2 13 rfl rfl)
theorem dX10_lifted_61 : decode cX10_lifted 61 = .ok (.iload_n 1, 1) := dk_27 (dk_at dksX10_lifted_2 14 rfl rfl)
theorem dX10_lifted_62 : decode cX10_lifted 62 = .ok (.imul, 1) := dk_104 (dk_at dksX10_lifted_2 15 rfl rfl)
theorem dX10_lifted_63 : decode cX10_lifted 63 = .ok (.iload 4, 2) := dk_21 4 (dk_at dksX10_lifted_2 16 rfl rfl)
theorem dX10_lifted_65 : decode cX10_lifted 65 = .ok (.iadd, 1) := dk_96 (dk_at dksX10_lifted_2 18 rfl rfl)
theorem dX10_lifted_66 : decode cX10_lifted 66 = .ok (.iaload, 1) := dk_46 (dk_at dksX10_lifted_2 19 rfl rfl)
theorem dX10_lifted_67 : decode cX10_lifted 67 = .ok (.aload_n 0, 1) := dk_42 (dk_at dksX10_lifted_2 20 rfl rfl)
theorem dX10_lifted_68 : decode cX10_lifted 68 = .ok (.iload_n 2, 1) := dk_28 (dk_at dksX10_lifted_2 21 rfl rfl)
theorem dX10_lifted_69 : decode cX10_lifted 69 = .ok (.iload 4, 2) := dk_21 4 (dk_at dksX10_lifted_2 22 rfl rfl)
theorem dX10_lifted_71 : decode cX10_lifted 71 = .ok (.invokevirtual 333, 3) := dk_182 1 77 (dk_at dksX10_lifted_3 0 rfl rfl)
theorem dX10_lifted_74 : decode cX10_lifted 74 = .ok (.aload_n 0, 1) := dk_42 (dk_at dksX10_lifted_3 3 rfl rfl)
theorem dX10_lifted_75 : decode cX10_lifted 75 = .ok (.getfield 125, 3) := dk_180 0 125 (dk_at dksX10_lifted_3 4 rfl rfl)
theorem dX10_lifted_78 : decode cX10_lifted 78 = .ok (.iload 4, 2) := dk_21 4 (dk_at dksX10_lifted_3 7 rfl rfl)
theorem dX10_lifted_80 : decode cX10_lifted 80 = .ok (.iaload, 1) := dk_46 (dk_at dksX10_lifted_3 9 rfl rfl)
theorem dX10_lifted_81 : decode cX10_lifted 81 = .ok (.invokestatic 366, 3) := dk_184 1 110 (dk_at dksX10_lifted_3 10 rfl rfl)
theorem dX10_lifted_84 : decode cX10_lifted 84 = .ok (.iastore, 1) := dk_79 (dk_at dksX10_lifted_3 13 rfl rfl)
theorem dX10_lifted_85 : decode cX10_lifted 85 = .ok (.iinc 4 1, 3) := dk_132 4 1 (dk_at dksX10_lifted_3 14 rfl rfl)
theorem dX10_lifted_88 : decode cX10_lifted 88 = .ok (.goto (-48), 3) := dk_167 255 208 (dk_at dksX10_lifted_3 17 rfl rfl)
theorem dX10_lifted_91 : decode cX10_lifted 91 = .ok (.aload_n 0, 1) := dk_42 (dk_at dksX10_lifted_3 20 rfl rfl)
theorem dX10_lifted_92 : decode cX10_lifted 92 = .ok (.getfield 122, 3) := dk_180 0 122 (dk_at dksX10_lifted_3 21 rfl rfl)
theorem dX10_lifted_95 : decode cX10_lifted 95 = .ok (.bipush 42, 2) := dk_16 42 (dk_at dksX10_lifted_4 0 rfl rfl)
theorem dX10_lifted_97 : decode cX10_lifted 97 = .ok (.iload_n 1, 1) := dk_27 (dk_at dksX10_lifted_4 2 rfl rfl)
theorem dX10_lifted_98 : decode cX10_lifted 98 = .ok (.iadd, 1) := dk_96 (dk_at dksX10_lifted_4 3 rfl rfl)
theorem dX10_lifted_99 : decode cX10_lifted 99 = .ok (.aload_n 0, 1) := dk_42 (dk_at dksX10_lifted_4 4 rfl rfl)
theorem dX10_lifted_100 : decode cX10_lifted 100 = .ok (.getfield 122, 3) := dk_180 0 122 (dk_at dksX10_lifted_4 5 rfl rfl)
theorem dX10_lifted_103 : decode cX10_lifted 103 = .ok (.bipush 42, 2) := dk_16 42 (dk_at dksX10_lifted_4 8 rfl rfl)
theorem dX10_lifted_105 : decode cX10_lifted 105 = .ok (.iload_n 1, 1) := dk_27 (dk_at dksX10_lifted_4 10 rfl rfl)
theorem dX10_lifted_106 : decode cX10_lifted 106 = .ok (.iadd, 1) := dk_96 (dk_at dksX10_lifted_4 11 rfl rfl)
theorem dX10_lifted_107 : decode cX10_lifted 107 = .ok (.iaload, 1) := dk_46 (dk_at dksX10_lifted_4 12 rfl rfl)
theorem dX10_lifted_108 : decode cX10_lifted 108 = .ok (.iload_n 3, 1) := dk_29 (dk_at dksX10_lifted_4 13 rfl rfl)
theorem dX10_lifted_109 : decode cX10_lifted 109 = .ok (.iadd, 1) := dk_96 (dk_at dksX10_lifted_4 14 rfl rfl)
theorem dX10_lifted_110 : decode cX10_lifted 110 = .ok (.iconst 0, 1) := dk_3 (dk_at dksX10_lifted_4 15 rfl rfl)
theorem dX10_lifted_111 : decode cX10_lifted 111 = .ok (.ldc_w 369, 3) := dk_19 1 113 (dk_at dksX10_lifted_4 16 rfl rfl)
theorem dX10_lifted_114 : decode cX10_lifted 114 = .ok (.invokestatic 354, 3) := dk_184 1 98 (dk_at dksX10_lifted_4 19 rfl rfl)
theorem dX10_lifted_117 : decode cX10_lifted 117 = .ok (.iastore, 1) := dk_79 (dk_at dksX10_lifted_4 22 rfl rfl)
theorem dX10_lifted_118 : decode cX10_lifted 118 = .ok (.aload_n 0, 1) := dk_42 (dk_at dksX10_lifted_4 23 rfl rfl)
theorem dX10_lifted_119 : decode cX10_lifted 119 = .ok (.getfield 122, 3) := dk_180 0 122 (dk_at dksX10_lifted_5 0 rfl rfl)
theorem dX10_lifted_122 : decode cX10_lifted 122 = .ok (.bipush 24, 2) := dk_16 24 (dk_at dksX10_lifted_5 3 rfl rfl)
theorem dX10_lifted_124 : decode cX10_lifted 124 = .ok (.iload_n 1, 1) := dk_27 (dk_at dksX10_lifted_5 5 rfl rfl)
theorem dX10_lifted_125 : decode cX10_lifted 125 = .ok (.iadd, 1) := dk_96 (dk_at dksX10_lifted_5 6 rfl rfl)
theorem dX10_lifted_126 : decode cX10_lifted 126 = .ok (.dup2, 1) := dk_92 (dk_at dksX10_lifted_5 7 rfl rfl)
theorem dX10_lifted_127 : decode cX10_lifted 127 = .ok (.iaload, 1) := dk_46 (dk_at dksX10_lifted_5 8 rfl rfl)
theorem dX10_lifted_128 : decode cX10_lifted 128 = .ok (.iconst 1, 1) := dk_4 (dk_at dksX10_lifted_5 9 rfl rfl)
theorem dX10_lifted_129 : decode cX10_lifted 129 = .ok (.iadd, 1) := dk_96 (dk_at dksX10_lifted_5 10 rfl rfl)
theorem dX10_lifted_130 : decode cX10_lifted 130 = .ok (.iastore, 1) := dk_79 (dk_at dksX10_lifted_5 11 rfl rfl)
theorem dX10_lifted_131 : decode cX10_lifted 131 = .ok (.aload_n 0, 1) := dk_42 (dk_at dksX10_lifted_5 12 rfl rfl)
theorem dX10_lifted_132 : decode cX10_lifted 132 = .ok (.getfield 122, 3) := dk_180 0 122 (dk_at dksX10_lifted_5 13 rfl rfl)
theorem dX10_lifted_135 : decode cX10_lifted 135 = .ok (.bipush 64, 2) := dk_16 64 (dk_at dksX10_lifted_5 16 rfl rfl)
theorem dX10_lifted_137 : decode cX10_lifted 137 = .ok (.iload_n 2, 1) := dk_28 (dk_at dksX10_lifted_5 18 rfl rfl)
theorem dX10_lifted_138 : decode cX10_lifted 138 = .ok (.iadd, 1) := dk_96 (dk_at dksX10_lifted_5 19 rfl rfl)
theorem dX10_lifted_139 : decode cX10_lifted 139 = .ok (.dup2, 1) := dk_92 (dk_at dksX10_lifted_5 20 rfl rfl)
theorem dX10_lifted_140 : decode cX10_lifted 140 = .ok (.iaload, 1) := dk_46 (dk_at dksX10_lifted_5 21 rfl rfl)
theorem dX10_lifted_141 : decode cX10_lifted 141 = .ok (.iconst 1, 1) := dk_4 (dk_at dksX10_lifted_5 22 rfl rfl)
theorem dX10_lifted_142 : decode cX10_lifted 142 = .ok (.iadd, 1) := dk_96 (dk_at dksX10_lifted_5 23 rfl rfl)
theorem dX10_lifted_143 : decode cX10_lifted 143 = .ok (.iastore, 1) := dk_79 (dk_at dksX10_lifted_6 0 rfl rfl)
theorem dX10_lifted_144 : decode cX10_lifted 144 = .ok (.aload_n 0, 1) := dk_42 (dk_at dksX10_lifted_6 1 rfl rfl)
theorem dX10_lifted_145 : decode cX10_lifted 145 = .ok (.getfield 122, 3) := dk_180 0 122 (dk_at dksX10_lifted_6 2 rfl rfl)
theorem dX10_lifted_148 : decode cX10_lifted 148 = .ok (.bipush 48, 2) := dk_16 48 (dk_at dksX10_lifted_6 5 rfl rfl)
theorem dX10_lifted_150 : decode cX10_lifted 150 = .ok (.iload_n 1, 1) := dk_27 (dk_at dksX10_lifted_6 7 rfl rfl)
theorem dX10_lifted_151 : decode cX10_lifted 151 = .ok (.iadd, 1) := dk_96 (dk_at dksX10_lifted_6 8 rfl rfl)
theorem dX10_lifted_152 : decode cX10_lifted 152 = .ok (.iconst 1, 1) := dk_4 (dk_at dksX10_lifted_6 9 rfl rfl)
theorem dX10_lifted_153 : decode cX10_lifted 153 = .ok (.iastore, 1) := dk_79 (dk_at dksX10_lifted_6 10 rfl rfl)
theorem dX10_lifted_154 : decode cX10_lifted 154 = .ok (.return_, 1) := dk_177 (dk_at dksX10_lifted_6 11 rfl rfl)
abbrev cX10_towardsBy : ByteArray := prog_21_method_61_code
def yX10_towardsBy : MethodName := ⟨RX10, "towardsBy", "(III)I"⟩
def dkwX10_towardsBy_0 : List UInt8 := [26, 27, 162, 0, 9, 26, 28, 96, 167, 0, 6, 26, 28, 100, 172]
abbrev dktX10_towardsBy_0 : List UInt8 := dkwX10_towardsBy_0 ++ []
theorem dksX10_towardsBy_0 : cX10_towardsBy.data.toList.drop 0 = dktX10_towardsBy_0 := by decide +kernel
theorem dX10_towardsBy_0 : decode cX10_towardsBy 0 = .ok (.iload_n 0, 1) := dk_26 (dk_at dksX10_towardsBy_0 0 rfl rfl)
theorem dX10_towardsBy_1 : decode cX10_towardsBy 1 = .ok (.iload_n 1, 1) := dk_27 (dk_at dksX10_towardsBy_0 1 rfl rfl)
theorem dX10_towardsBy_2 : decode cX10_towardsBy 2 = .ok (.if_icmp .ge 9, 3) := dk_162 0 9 (dk_at dksX10_towardsBy_0 2 rfl rfl)
theorem dX10_towardsBy_5 : decode cX10_towardsBy 5 = .ok (.iload_n 0, 1) := dk_26 (dk_at dksX10_towardsBy_0 5 rfl rfl)
theorem dX10_towardsBy_6 : decode cX10_towardsBy 6 = .ok (.iload_n 2, 1) := dk_28 (dk_at dksX10_towardsBy_0 6 rfl rfl)
theorem dX10_towardsBy_7 : decode cX10_towardsBy 7 = .ok (.iadd, 1) := dk_96 (dk_at dksX10_towardsBy_0 7 rfl rfl)
theorem dX10_towardsBy_8 : decode cX10_towardsBy 8 = .ok (.goto 6, 3) := dk_167 0 6 (dk_at dksX10_towardsBy_0 8 rfl rfl)
theorem dX10_towardsBy_11 : decode cX10_towardsBy 11 = .ok (.iload_n 0, 1) := dk_26 (dk_at dksX10_towardsBy_0 11 rfl rfl)
theorem dX10_towardsBy_12 : decode cX10_towardsBy 12 = .ok (.iload_n 2, 1) := dk_28 (dk_at dksX10_towardsBy_0 12 rfl rfl)
theorem dX10_towardsBy_13 : decode cX10_towardsBy 13 = .ok (.isub, 1) := dk_100 (dk_at dksX10_towardsBy_0 13 rfl rfl)
theorem dX10_towardsBy_14 : decode cX10_towardsBy 14 = .ok (.ireturn, 1) := dk_172 (dk_at dksX10_towardsBy_0 14 rfl rfl)
abbrev cX10_records : ByteArray := prog_21_method_73_code
def yX10_records : MethodName := ⟨RX10, "records", "()V"⟩
def dkwX10_records_4 : List UInt8 := [182, 0, 163, 177]
abbrev dktX10_records_4 : List UInt8 := dkwX10_records_4 ++ []
def dkwX10_records_3 : List UInt8 := [42, 180, 0, 119, 27, 46, 79, 132, 1, 1, 167, 255, 227, 42, 89, 180, 0, 251, 4, 96, 181, 0, 251, 42]
abbrev dktX10_records_3 : List UInt8 := dkwX10_records_3 ++ dktX10_records_4
def dkwX10_records_2 : List UInt8 := [181, 0, 251, 3, 60, 27, 16, 70, 162, 0, 29, 42, 180, 0, 128, 16, 70, 42, 180, 0, 251, 104, 27, 96]
abbrev dktX10_records_2 : List UInt8 := dkwX10_records_2 ++ dktX10_records_3
def dkwX10_records_1 : List UInt8 := [180, 0, 128, 27, 16, 70, 96, 46, 79, 132, 1, 1, 167, 255, 231, 42, 89, 180, 0, 251, 4, 100]
abbrev dktX10_records_1 : List UInt8 := dkwX10_records_1 ++ dktX10_records_2
def dkwX10_records_0 : List UInt8 := [42, 180, 0, 251, 16, 40, 160, 0, 43, 3, 60, 27, 17, 10, 170, 162, 0, 24, 42, 180, 0, 128, 27, 42]
abbrev dktX10_records_0 : List UInt8 := dkwX10_records_0 ++ dktX10_records_1
theorem dksX10_records_0 : cX10_records.data.toList.drop 0 = dktX10_records_0 := by decide +kernel
theorem dksX10_records_1 : cX10_records.data.toList.drop 24 = dktX10_records_1 := dk_seg dksX10_records_0 24 rfl rfl
theorem dksX10_records_2 : cX10_records.data.toList.drop 46 = dktX10_records_2 := dk_seg dksX10_records_1 22 rfl rfl
theorem dksX10_records_3 : cX10_records.data.toList.drop 70 = dktX10_records_3 := dk_seg dksX10_records_2 24 rfl rfl
theorem dksX10_records_4 : cX10_records.data.toList.drop 94 = dktX10_records_4 := dk_seg dksX10_records_3 24 rfl rfl
theorem dX10_records_0 : decode cX10_records 0 = .ok (.aload_n 0, 1) := dk_42 (dk_at dksX10_records_0 0 rfl rfl)
theorem dX10_records_1 : decode cX10_records 1 = .ok (.getfield 251, 3) := dk_180 0 251 (dk_at dksX10_records_0 1 rfl rfl)
theorem dX10_records_4 : decode cX10_records 4 = .ok (.bipush 40, 2) := dk_16 40 (dk_at dksX10_records_0 4 rfl rfl)
theorem dX10_records_6 : decode cX10_records 6 = .ok (.if_icmp .ne 43, 3) := dk_160 0 43 (dk_at dksX10_records_0 6 rfl rfl)
theorem dX10_records_9 : decode cX10_records 9 = .ok (.iconst 0, 1) := dk_3 (dk_at dksX10_records_0 9 rfl rfl)
theorem dX10_records_10 : decode cX10_records 10 = .ok (.istore_n 1, 1) := dk_60 (dk_at dksX10_records_0 10 rfl rfl)
theorem dX10_records_11 : decode cX10_records 11 = .ok (.iload_n 1, 1) := dk_27 (dk_at dksX10_records_0 11 rfl rfl)
theorem dX10_records_12 : decode cX10_records 12 = .ok (.sipush 2730, 3) := dk_17 10 170 (dk_at dksX10_records_0 12 rfl rfl)
theorem dX10_records_15 : decode cX10_records 15 = .ok (.if_icmp .ge 24, 3) := dk_162 0 24 (dk_at dksX10_records_0 15 rfl rfl)
theorem dX10_records_18 : decode cX10_records 18 = .ok (.aload_n 0, 1) := dk_42 (dk_at dksX10_records_0 18 rfl rfl)
theorem dX10_records_19 : decode cX10_records 19 = .ok (.getfield 128, 3) := dk_180 0 128 (dk_at dksX10_records_0 19 rfl rfl)
theorem dX10_records_22 : decode cX10_records 22 = .ok (.iload_n 1, 1) := dk_27 (dk_at dksX10_records_0 22 rfl rfl)
theorem dX10_records_23 : decode cX10_records 23 = .ok (.aload_n 0, 1) := dk_42 (dk_at dksX10_records_0 23 rfl rfl)
theorem dX10_records_24 : decode cX10_records 24 = .ok (.getfield 128, 3) := dk_180 0 128 (dk_at dksX10_records_1 0 rfl rfl)
theorem dX10_records_27 : decode cX10_records 27 = .ok (.iload_n 1, 1) := dk_27 (dk_at dksX10_records_1 3 rfl rfl)
theorem dX10_records_28 : decode cX10_records 28 = .ok (.bipush 70, 2) := dk_16 70 (dk_at dksX10_records_1 4 rfl rfl)
theorem dX10_records_30 : decode cX10_records 30 = .ok (.iadd, 1) := dk_96 (dk_at dksX10_records_1 6 rfl rfl)
theorem dX10_records_31 : decode cX10_records 31 = .ok (.iaload, 1) := dk_46 (dk_at dksX10_records_1 7 rfl rfl)
theorem dX10_records_32 : decode cX10_records 32 = .ok (.iastore, 1) := dk_79 (dk_at dksX10_records_1 8 rfl rfl)
theorem dX10_records_33 : decode cX10_records 33 = .ok (.iinc 1 1, 3) := dk_132 1 1 (dk_at dksX10_records_1 9 rfl rfl)
theorem dX10_records_36 : decode cX10_records 36 = .ok (.goto (-25), 3) := dk_167 255 231 (dk_at dksX10_records_1 12 rfl rfl)
theorem dX10_records_39 : decode cX10_records 39 = .ok (.aload_n 0, 1) := dk_42 (dk_at dksX10_records_1 15 rfl rfl)
theorem dX10_records_40 : decode cX10_records 40 = .ok (.dup, 1) := dk_89 (dk_at dksX10_records_1 16 rfl rfl)
theorem dX10_records_41 : decode cX10_records 41 = .ok (.getfield 251, 3) := dk_180 0 251 (dk_at dksX10_records_1 17 rfl rfl)
theorem dX10_records_44 : decode cX10_records 44 = .ok (.iconst 1, 1) := dk_4 (dk_at dksX10_records_1 20 rfl rfl)
theorem dX10_records_45 : decode cX10_records 45 = .ok (.isub, 1) := dk_100 (dk_at dksX10_records_1 21 rfl rfl)
theorem dX10_records_46 : decode cX10_records 46 = .ok (.putfield 251, 3) := dk_181 0 251 (dk_at dksX10_records_2 0 rfl rfl)
theorem dX10_records_49 : decode cX10_records 49 = .ok (.iconst 0, 1) := dk_3 (dk_at dksX10_records_2 3 rfl rfl)
theorem dX10_records_50 : decode cX10_records 50 = .ok (.istore_n 1, 1) := dk_60 (dk_at dksX10_records_2 4 rfl rfl)
theorem dX10_records_51 : decode cX10_records 51 = .ok (.iload_n 1, 1) := dk_27 (dk_at dksX10_records_2 5 rfl rfl)
theorem dX10_records_52 : decode cX10_records 52 = .ok (.bipush 70, 2) := dk_16 70 (dk_at dksX10_records_2 6 rfl rfl)
theorem dX10_records_54 : decode cX10_records 54 = .ok (.if_icmp .ge 29, 3) := dk_162 0 29 (dk_at dksX10_records_2 8 rfl rfl)
theorem dX10_records_57 : decode cX10_records 57 = .ok (.aload_n 0, 1) := dk_42 (dk_at dksX10_records_2 11 rfl rfl)
theorem dX10_records_58 : decode cX10_records 58 = .ok (.getfield 128, 3) := dk_180 0 128 (dk_at dksX10_records_2 12 rfl rfl)
theorem dX10_records_61 : decode cX10_records 61 = .ok (.bipush 70, 2) := dk_16 70 (dk_at dksX10_records_2 15 rfl rfl)
theorem dX10_records_63 : decode cX10_records 63 = .ok (.aload_n 0, 1) := dk_42 (dk_at dksX10_records_2 17 rfl rfl)
theorem dX10_records_64 : decode cX10_records 64 = .ok (.getfield 251, 3) := dk_180 0 251 (dk_at dksX10_records_2 18 rfl rfl)
theorem dX10_records_67 : decode cX10_records 67 = .ok (.imul, 1) := dk_104 (dk_at dksX10_records_2 21 rfl rfl)
theorem dX10_records_68 : decode cX10_records 68 = .ok (.iload_n 1, 1) := dk_27 (dk_at dksX10_records_2 22 rfl rfl)
theorem dX10_records_69 : decode cX10_records 69 = .ok (.iadd, 1) := dk_96 (dk_at dksX10_records_2 23 rfl rfl)
theorem dX10_records_70 : decode cX10_records 70 = .ok (.aload_n 0, 1) := dk_42 (dk_at dksX10_records_3 0 rfl rfl)
theorem dX10_records_71 : decode cX10_records 71 = .ok (.getfield 119, 3) := dk_180 0 119 (dk_at dksX10_records_3 1 rfl rfl)
theorem dX10_records_74 : decode cX10_records 74 = .ok (.iload_n 1, 1) := dk_27 (dk_at dksX10_records_3 4 rfl rfl)
theorem dX10_records_75 : decode cX10_records 75 = .ok (.iaload, 1) := dk_46 (dk_at dksX10_records_3 5 rfl rfl)
theorem dX10_records_76 : decode cX10_records 76 = .ok (.iastore, 1) := dk_79 (dk_at dksX10_records_3 6 rfl rfl)
theorem dX10_records_77 : decode cX10_records 77 = .ok (.iinc 1 1, 3) := dk_132 1 1 (dk_at dksX10_records_3 7 rfl rfl)
theorem dX10_records_80 : decode cX10_records 80 = .ok (.goto (-29), 3) := dk_167 255 227 (dk_at dksX10_records_3 10 rfl rfl)
theorem dX10_records_83 : decode cX10_records 83 = .ok (.aload_n 0, 1) := dk_42 (dk_at dksX10_records_3 13 rfl rfl)
theorem dX10_records_84 : decode cX10_records 84 = .ok (.dup, 1) := dk_89 (dk_at dksX10_records_3 14 rfl rfl)
theorem dX10_records_85 : decode cX10_records 85 = .ok (.getfield 251, 3) := dk_180 0 251 (dk_at dksX10_records_3 15 rfl rfl)
theorem dX10_records_88 : decode cX10_records 88 = .ok (.iconst 1, 1) := dk_4 (dk_at dksX10_records_3 18 rfl rfl)
theorem dX10_records_89 : decode cX10_records 89 = .ok (.iadd, 1) := dk_96 (dk_at dksX10_records_3 19 rfl rfl)
theorem dX10_records_90 : decode cX10_records 90 = .ok (.putfield 251, 3) := dk_181 0 251 (dk_at dksX10_records_3 20 rfl rfl)
theorem dX10_records_93 : decode cX10_records 93 = .ok (.aload_n 0, 1) := dk_42 (dk_at dksX10_records_3 23 rfl rfl)
theorem dX10_records_94 : decode cX10_records 94 = .ok (.invokevirtual 163, 3) := dk_182 0 163 (dk_at dksX10_records_4 0 rfl rfl)
theorem dX10_records_97 : decode cX10_records 97 = .ok (.return_, 1) := dk_177 (dk_at dksX10_records_4 3 rfl rfl)
abbrev cX10_polish : ByteArray := prog_21_method_75_code
def yX10_polish : MethodName := ⟨RX10, "polish", "(I)Z"⟩
def dkwX10_polish_1 : List UInt8 := [172]
abbrev dktX10_polish_1 : List UInt8 := dkwX10_polish_1 ++ []
def dkwX10_polish_0 : List UInt8 := [42, 27, 182, 1, 131, 154, 0, 5, 3, 172, 42, 182, 1, 67, 42, 27, 182, 1, 149, 42, 182, 1, 146, 4]
abbrev dktX10_polish_0 : List UInt8 := dkwX10_polish_0 ++ dktX10_polish_1
theorem dksX10_polish_0 : cX10_polish.data.toList.drop 0 = dktX10_polish_0 := by decide +kernel
theorem dksX10_polish_1 : cX10_polish.data.toList.drop 24 = dktX10_polish_1 := dk_seg dksX10_polish_0 24 rfl rfl
theorem dX10_polish_0 : decode cX10_polish 0 = .ok (.aload_n 0, 1) := dk_42 (dk_at dksX10_polish_0 0 rfl rfl)
theorem dX10_polish_1 : decode cX10_polish 1 = .ok (.iload_n 1, 1) := dk_27 (dk_at dksX10_polish_0 1 rfl rfl)
theorem dX10_polish_2 : decode cX10_polish 2 = .ok (.invokevirtual 387, 3) := dk_182 1 131 (dk_at dksX10_polish_0 2 rfl rfl)
theorem dX10_polish_5 : decode cX10_polish 5 = .ok (.ifCond .ne 5, 3) := dk_154 0 5 (dk_at dksX10_polish_0 5 rfl rfl)
theorem dX10_polish_8 : decode cX10_polish 8 = .ok (.iconst 0, 1) := dk_3 (dk_at dksX10_polish_0 8 rfl rfl)
theorem dX10_polish_9 : decode cX10_polish 9 = .ok (.ireturn, 1) := dk_172 (dk_at dksX10_polish_0 9 rfl rfl)
theorem dX10_polish_10 : decode cX10_polish 10 = .ok (.aload_n 0, 1) := dk_42 (dk_at dksX10_polish_0 10 rfl rfl)
theorem dX10_polish_11 : decode cX10_polish 11 = .ok (.invokevirtual 323, 3) := dk_182 1 67 (dk_at dksX10_polish_0 11 rfl rfl)
theorem dX10_polish_14 : decode cX10_polish 14 = .ok (.aload_n 0, 1) := dk_42 (dk_at dksX10_polish_0 14 rfl rfl)
theorem dX10_polish_15 : decode cX10_polish 15 = .ok (.iload_n 1, 1) := dk_27 (dk_at dksX10_polish_0 15 rfl rfl)
theorem dX10_polish_16 : decode cX10_polish 16 = .ok (.invokevirtual 405, 3) := dk_182 1 149 (dk_at dksX10_polish_0 16 rfl rfl)
theorem dX10_polish_19 : decode cX10_polish 19 = .ok (.aload_n 0, 1) := dk_42 (dk_at dksX10_polish_0 19 rfl rfl)
theorem dX10_polish_20 : decode cX10_polish 20 = .ok (.invokevirtual 402, 3) := dk_182 1 146 (dk_at dksX10_polish_0 20 rfl rfl)
theorem dX10_polish_23 : decode cX10_polish 23 = .ok (.iconst 1, 1) := dk_4 (dk_at dksX10_polish_0 23 rfl rfl)
theorem dX10_polish_24 : decode cX10_polish 24 = .ok (.ireturn, 1) := dk_172 (dk_at dksX10_polish_1 0 rfl rfl)
abbrev cX10_polished : ByteArray := prog_21_method_66_code
def yX10_polished : MethodName := ⟨RX10, "polished", "(I)V"⟩
def dkwX10_polished_3 : List UInt8 := [46, 4, 96, 79, 177]
abbrev dktX10_polished_3 : List UInt8 := dkwX10_polished_3 ++ []
def dkwX10_polished_2 : List UInt8 := [184, 1, 80, 5, 108, 184, 1, 110, 79, 132, 2, 1, 167, 255, 198, 42, 180, 0, 122, 16, 36, 27, 96, 92]
abbrev dktX10_polished_2 : List UInt8 := dkwX10_polished_2 ++ dktX10_polished_3
def dkwX10_polished_1 : List UInt8 := [96, 46, 42, 27, 28, 182, 1, 83, 42, 180, 0, 122, 7, 27, 104, 28, 96, 46, 42, 27, 28, 182, 1, 83]
abbrev dktX10_polished_1 : List UInt8 := dkwX10_polished_1 ++ dktX10_polished_2
def dkwX10_polished_0 : List UInt8 := [3, 61, 28, 7, 162, 0, 59, 42, 180, 0, 122, 7, 27, 104, 28, 96, 42, 180, 0, 122, 7, 27, 104, 28]
abbrev dktX10_polished_0 : List UInt8 := dkwX10_polished_0 ++ dktX10_polished_1
theorem dksX10_polished_0 : cX10_polished.data.toList.drop 0 = dktX10_polished_0 := by decide +kernel
theorem dksX10_polished_1 : cX10_polished.data.toList.drop 24 = dktX10_polished_1 := dk_seg dksX10_polished_0 24 rfl rfl
theorem dksX10_polished_2 : cX10_polished.data.toList.drop 48 = dktX10_polished_2 := dk_seg dksX10_polished_1 24 rfl rfl
theorem dksX10_polished_3 : cX10_polished.data.toList.drop 72 = dktX10_polished_3 := dk_seg dksX10_polished_2 24 rfl rfl
theorem dX10_polished_0 : decode cX10_polished 0 = .ok (.iconst 0, 1) := dk_3 (dk_at dksX10_polished_0 0 rfl rfl)
theorem dX10_polished_1 : decode cX10_polished 1 = .ok (.istore_n 2, 1) := dk_61 (dk_at dksX10_polished_0 1 rfl rfl)
theorem dX10_polished_2 : decode cX10_polished 2 = .ok (.iload_n 2, 1) := dk_28 (dk_at dksX10_polished_0 2 rfl rfl)
theorem dX10_polished_3 : decode cX10_polished 3 = .ok (.iconst 4, 1) := dk_7 (dk_at dksX10_polished_0 3 rfl rfl)
theorem dX10_polished_4 : decode cX10_polished 4 = .ok (.if_icmp .ge 59, 3) := dk_162 0 59 (dk_at dksX10_polished_0 4 rfl rfl)
theorem dX10_polished_7 : decode cX10_polished 7 = .ok (.aload_n 0, 1) := dk_42 (dk_at dksX10_polished_0 7 rfl rfl)
theorem dX10_polished_8 : decode cX10_polished 8 = .ok (.getfield 122, 3) := dk_180 0 122 (dk_at dksX10_polished_0 8 rfl rfl)
theorem dX10_polished_11 : decode cX10_polished 11 = .ok (.iconst 4, 1) := dk_7 (dk_at dksX10_polished_0 11 rfl rfl)
theorem dX10_polished_12 : decode cX10_polished 12 = .ok (.iload_n 1, 1) := dk_27 (dk_at dksX10_polished_0 12 rfl rfl)
theorem dX10_polished_13 : decode cX10_polished 13 = .ok (.imul, 1) := dk_104 (dk_at dksX10_polished_0 13 rfl rfl)
theorem dX10_polished_14 : decode cX10_polished 14 = .ok (.iload_n 2, 1) := dk_28 (dk_at dksX10_polished_0 14 rfl rfl)
theorem dX10_polished_15 : decode cX10_polished 15 = .ok (.iadd, 1) := dk_96 (dk_at dksX10_polished_0 15 rfl rfl)
theorem dX10_polished_16 : decode cX10_polished 16 = .ok (.aload_n 0, 1) := dk_42 (dk_at dksX10_polished_0 16 rfl rfl)
theorem dX10_polished_17 : decode cX10_polished 17 = .ok (.getfield 122, 3) := dk_180 0 122 (dk_at dksX10_polished_0 17 rfl rfl)
theorem dX10_polished_20 : decode cX10_polished 20 = .ok (.iconst 4, 1) := dk_7 (dk_at dksX10_polished_0 20 rfl rfl)
theorem dX10_polished_21 : decode cX10_polished 21 = .ok (.iload_n 1, 1) := dk_27 (dk_at dksX10_polished_0 21 rfl rfl)
theorem dX10_polished_22 : decode cX10_polished 22 = .ok (.imul, 1) := dk_104 (dk_at dksX10_polished_0 22 rfl rfl)
theorem dX10_polished_23 : decode cX10_polished 23 = .ok (.iload_n 2, 1) := dk_28 (dk_at dksX10_polished_0 23 rfl rfl)
theorem dX10_polished_24 : decode cX10_polished 24 = .ok (.iadd, 1) := dk_96 (dk_at dksX10_polished_1 0 rfl rfl)
theorem dX10_polished_25 : decode cX10_polished 25 = .ok (.iaload, 1) := dk_46 (dk_at dksX10_polished_1 1 rfl rfl)
theorem dX10_polished_26 : decode cX10_polished 26 = .ok (.aload_n 0, 1) := dk_42 (dk_at dksX10_polished_1 2 rfl rfl)
theorem dX10_polished_27 : decode cX10_polished 27 = .ok (.iload_n 1, 1) := dk_27 (dk_at dksX10_polished_1 3 rfl rfl)
theorem dX10_polished_28 : decode cX10_polished 28 = .ok (.iload_n 2, 1) := dk_28 (dk_at dksX10_polished_1 4 rfl rfl)
theorem dX10_polished_29 : decode cX10_polished 29 = .ok (.invokevirtual 339, 3) := dk_182 1 83 (dk_at dksX10_polished_1 5 rfl rfl)
theorem dX10_polished_32 : decode cX10_polished 32 = .ok (.aload_n 0, 1) := dk_42 (dk_at dksX10_polished_1 8 rfl rfl)
theorem dX10_polished_33 : decode cX10_polished 33 = .ok (.getfield 122, 3) := dk_180 0 122 (dk_at dksX10_polished_1 9 rfl rfl)
theorem dX10_polished_36 : decode cX10_polished 36 = .ok (.iconst 4, 1) := dk_7 (dk_at dksX10_polished_1 12 rfl rfl)
theorem dX10_polished_37 : decode cX10_polished 37 = .ok (.iload_n 1, 1) := dk_27 (dk_at dksX10_polished_1 13 rfl rfl)
theorem dX10_polished_38 : decode cX10_polished 38 = .ok (.imul, 1) := dk_104 (dk_at dksX10_polished_1 14 rfl rfl)
theorem dX10_polished_39 : decode cX10_polished 39 = .ok (.iload_n 2, 1) := dk_28 (dk_at dksX10_polished_1 15 rfl rfl)
theorem dX10_polished_40 : decode cX10_polished 40 = .ok (.iadd, 1) := dk_96 (dk_at dksX10_polished_1 16 rfl rfl)
theorem dX10_polished_41 : decode cX10_polished 41 = .ok (.iaload, 1) := dk_46 (dk_at dksX10_polished_1 17 rfl rfl)
theorem dX10_polished_42 : decode cX10_polished 42 = .ok (.aload_n 0, 1) := dk_42 (dk_at dksX10_polished_1 18 rfl rfl)
theorem dX10_polished_43 : decode cX10_polished 43 = .ok (.iload_n 1, 1) := dk_27 (dk_at dksX10_polished_1 19 rfl rfl)
theorem dX10_polished_44 : decode cX10_polished 44 = .ok (.iload_n 2, 1) := dk_28 (dk_at dksX10_polished_1 20 rfl rfl)
theorem dX10_polished_45 : decode cX10_polished 45 = .ok (.invokevirtual 339, 3) := dk_182 1 83 (dk_at dksX10_polished_1 21 rfl rfl)
theorem dX10_polished_48 : decode cX10_polished 48 = .ok (.invokestatic 336, 3) := dk_184 1 80 (dk_at dksX10_polished_2 0 rfl rfl)
theorem dX10_polished_51 : decode cX10_polished 51 = .ok (.iconst 2, 1) := dk_5 (dk_at dksX10_polished_2 3 rfl rfl)
theorem dX10_polished_52 : decode cX10_polished 52 = .ok (.idiv, 1) := dk_108 (dk_at dksX10_polished_2 4 rfl rfl)
theorem dX10_polished_53 : decode cX10_polished 53 = .ok (.invokestatic 366, 3) := dk_184 1 110 (dk_at dksX10_polished_2 5 rfl rfl)
theorem dX10_polished_56 : decode cX10_polished 56 = .ok (.iastore, 1) := dk_79 (dk_at dksX10_polished_2 8 rfl rfl)
theorem dX10_polished_57 : decode cX10_polished 57 = .ok (.iinc 2 1, 3) := dk_132 2 1 (dk_at dksX10_polished_2 9 rfl rfl)
theorem dX10_polished_60 : decode cX10_polished 60 = .ok (.goto (-58), 3) := dk_167 255 198 (dk_at dksX10_polished_2 12 rfl rfl)
theorem dX10_polished_63 : decode cX10_polished 63 = .ok (.aload_n 0, 1) := dk_42 (dk_at dksX10_polished_2 15 rfl rfl)
theorem dX10_polished_64 : decode cX10_polished 64 = .ok (.getfield 122, 3) := dk_180 0 122 (dk_at dksX10_polished_2 16 rfl rfl)
theorem dX10_polished_67 : decode cX10_polished 67 = .ok (.bipush 36, 2) := dk_16 36 (dk_at dksX10_polished_2 19 rfl rfl)
theorem dX10_polished_69 : decode cX10_polished 69 = .ok (.iload_n 1, 1) := dk_27 (dk_at dksX10_polished_2 21 rfl rfl)
theorem dX10_polished_70 : decode cX10_polished 70 = .ok (.iadd, 1) := dk_96 (dk_at dksX10_polished_2 22 rfl rfl)
theorem dX10_polished_71 : decode cX10_polished 71 = .ok (.dup2, 1) := dk_92 (dk_at dksX10_polished_2 23 rfl rfl)
theorem dX10_polished_72 : decode cX10_polished 72 = .ok (.iaload, 1) := dk_46 (dk_at dksX10_polished_3 0 rfl rfl)
theorem dX10_polished_73 : decode cX10_polished 73 = .ok (.iconst 1, 1) := dk_4 (dk_at dksX10_polished_3 1 rfl rfl)
theorem dX10_polished_74 : decode cX10_polished 74 = .ok (.iadd, 1) := dk_96 (dk_at dksX10_polished_3 2 rfl rfl)
theorem dX10_polished_75 : decode cX10_polished 75 = .ok (.iastore, 1) := dk_79 (dk_at dksX10_polished_3 3 rfl rfl)
theorem dX10_polished_76 : decode cX10_polished 76 = .ok (.return_, 1) := dk_177 (dk_at dksX10_polished_3 4 rfl rfl)
abbrev cX10_file : ByteArray := prog_21_method_77_code
def yX10_file : MethodName := ⟨RX10, "file", "(II)Z"⟩
def dkwX10_file_2 : List UInt8 := [182, 1, 146, 4, 172]
abbrev dktX10_file_2 : List UInt8 := dkwX10_file_2 ++ []
def dkwX10_file_1 : List UInt8 := [46, 154, 0, 5, 3, 172, 42, 182, 1, 67, 42, 180, 0, 122, 7, 27, 104, 28, 96, 3, 79, 42]
abbrev dktX10_file_1 : List UInt8 := dkwX10_file_1 ++ dktX10_file_2
def dkwX10_file_0 : List UInt8 := [42, 27, 182, 1, 131, 153, 0, 23, 28, 184, 1, 152, 153, 0, 16, 42, 180, 0, 119, 7, 27, 104, 28, 96]
abbrev dktX10_file_0 : List UInt8 := dkwX10_file_0 ++ dktX10_file_1
theorem dksX10_file_0 : cX10_file.data.toList.drop 0 = dktX10_file_0 := by decide +kernel
theorem dksX10_file_1 : cX10_file.data.toList.drop 24 = dktX10_file_1 := dk_seg dksX10_file_0 24 rfl rfl
theorem dksX10_file_2 : cX10_file.data.toList.drop 46 = dktX10_file_2 := dk_seg dksX10_file_1 22 rfl rfl
theorem dX10_file_0 : decode cX10_file 0 = .ok (.aload_n 0, 1) := dk_42 (dk_at dksX10_file_0 0 rfl rfl)
theorem dX10_file_1 : decode cX10_file 1 = .ok (.iload_n 1, 1) := dk_27 (dk_at dksX10_file_0 1 rfl rfl)
theorem dX10_file_2 : decode cX10_file 2 = .ok (.invokevirtual 387, 3) := dk_182 1 131 (dk_at dksX10_file_0 2 rfl rfl)
theorem dX10_file_5 : decode cX10_file 5 = .ok (.ifCond .eq 23, 3) := dk_153 0 23 (dk_at dksX10_file_0 5 rfl rfl)
theorem dX10_file_8 : decode cX10_file 8 = .ok (.iload_n 2, 1) := dk_28 (dk_at dksX10_file_0 8 rfl rfl)
theorem dX10_file_9 : decode cX10_file 9 = .ok (.invokestatic 408, 3) := dk_184 1 152 (dk_at dksX10_file_0 9 rfl rfl)
theorem dX10_file_12 : decode cX10_file 12 = .ok (.ifCond .eq 16, 3) := dk_153 0 16 (dk_at dksX10_file_0 12 rfl rfl)
theorem dX10_file_15 : decode cX10_file 15 = .ok (.aload_n 0, 1) := dk_42 (dk_at dksX10_file_0 15 rfl rfl)
theorem dX10_file_16 : decode cX10_file 16 = .ok (.getfield 119, 3) := dk_180 0 119 (dk_at dksX10_file_0 16 rfl rfl)
theorem dX10_file_19 : decode cX10_file 19 = .ok (.iconst 4, 1) := dk_7 (dk_at dksX10_file_0 19 rfl rfl)
theorem dX10_file_20 : decode cX10_file 20 = .ok (.iload_n 1, 1) := dk_27 (dk_at dksX10_file_0 20 rfl rfl)
theorem dX10_file_21 : decode cX10_file 21 = .ok (.imul, 1) := dk_104 (dk_at dksX10_file_0 21 rfl rfl)
theorem dX10_file_22 : decode cX10_file 22 = .ok (.iload_n 2, 1) := dk_28 (dk_at dksX10_file_0 22 rfl rfl)
theorem dX10_file_23 : decode cX10_file 23 = .ok (.iadd, 1) := dk_96 (dk_at dksX10_file_0 23 rfl rfl)
theorem dX10_file_24 : decode cX10_file 24 = .ok (.iaload, 1) := dk_46 (dk_at dksX10_file_1 0 rfl rfl)
theorem dX10_file_25 : decode cX10_file 25 = .ok (.ifCond .ne 5, 3) := dk_154 0 5 (dk_at dksX10_file_1 1 rfl rfl)
theorem dX10_file_28 : decode cX10_file 28 = .ok (.iconst 0, 1) := dk_3 (dk_at dksX10_file_1 4 rfl rfl)
theorem dX10_file_29 : decode cX10_file 29 = .ok (.ireturn, 1) := dk_172 (dk_at dksX10_file_1 5 rfl rfl)
theorem dX10_file_30 : decode cX10_file 30 = .ok (.aload_n 0, 1) := dk_42 (dk_at dksX10_file_1 6 rfl rfl)
theorem dX10_file_31 : decode cX10_file 31 = .ok (.invokevirtual 323, 3) := dk_182 1 67 (dk_at dksX10_file_1 7 rfl rfl)
theorem dX10_file_34 : decode cX10_file 34 = .ok (.aload_n 0, 1) := dk_42 (dk_at dksX10_file_1 10 rfl rfl)
theorem dX10_file_35 : decode cX10_file 35 = .ok (.getfield 122, 3) := dk_180 0 122 (dk_at dksX10_file_1 11 rfl rfl)
theorem dX10_file_38 : decode cX10_file 38 = .ok (.iconst 4, 1) := dk_7 (dk_at dksX10_file_1 14 rfl rfl)
theorem dX10_file_39 : decode cX10_file 39 = .ok (.iload_n 1, 1) := dk_27 (dk_at dksX10_file_1 15 rfl rfl)
theorem dX10_file_40 : decode cX10_file 40 = .ok (.imul, 1) := dk_104 (dk_at dksX10_file_1 16 rfl rfl)
theorem dX10_file_41 : decode cX10_file 41 = .ok (.iload_n 2, 1) := dk_28 (dk_at dksX10_file_1 17 rfl rfl)
theorem dX10_file_42 : decode cX10_file 42 = .ok (.iadd, 1) := dk_96 (dk_at dksX10_file_1 18 rfl rfl)
theorem dX10_file_43 : decode cX10_file 43 = .ok (.iconst 0, 1) := dk_3 (dk_at dksX10_file_1 19 rfl rfl)
theorem dX10_file_44 : decode cX10_file 44 = .ok (.iastore, 1) := dk_79 (dk_at dksX10_file_1 20 rfl rfl)
theorem dX10_file_45 : decode cX10_file 45 = .ok (.aload_n 0, 1) := dk_42 (dk_at dksX10_file_1 21 rfl rfl)
theorem dX10_file_46 : decode cX10_file 46 = .ok (.invokevirtual 402, 3) := dk_182 1 146 (dk_at dksX10_file_2 0 rfl rfl)
theorem dX10_file_49 : decode cX10_file 49 = .ok (.iconst 1, 1) := dk_4 (dk_at dksX10_file_2 3 rfl rfl)
theorem dX10_file_50 : decode cX10_file 50 = .ok (.ireturn, 1) := dk_172 (dk_at dksX10_file_2 4 rfl rfl)
abbrev cX10_isPart : ByteArray := prog_21_method_76_code
def yX10_isPart : MethodName := ⟨RX10, "isPart", "(I)Z"⟩
def dkwX10_isPart_0 : List UInt8 := [26, 3, 6, 184, 1, 57, 172]
abbrev dktX10_isPart_0 : List UInt8 := dkwX10_isPart_0 ++ []
theorem dksX10_isPart_0 : cX10_isPart.data.toList.drop 0 = dktX10_isPart_0 := by decide +kernel
theorem dX10_isPart_0 : decode cX10_isPart 0 = .ok (.iload_n 0, 1) := dk_26 (dk_at dksX10_isPart_0 0 rfl rfl)
theorem dX10_isPart_1 : decode cX10_isPart 1 = .ok (.iconst 0, 1) := dk_3 (dk_at dksX10_isPart_0 1 rfl rfl)
theorem dX10_isPart_2 : decode cX10_isPart 2 = .ok (.iconst 3, 1) := dk_6 (dk_at dksX10_isPart_0 2 rfl rfl)
theorem dX10_isPart_3 : decode cX10_isPart 3 = .ok (.invokestatic 313, 3) := dk_184 1 57 (dk_at dksX10_isPart_0 3 rfl rfl)
theorem dX10_isPart_6 : decode cX10_isPart 6 = .ok (.ireturn, 1) := dk_172 (dk_at dksX10_isPart_0 6 rfl rfl)
abbrev cX10_keep : ByteArray := prog_21_method_78_code
def yX10_keep : MethodName := ⟨RX10, "keep", "(IZ)Z"⟩
def dkwX10_keep_2 : List UInt8 := [153, 0, 7, 4, 167, 0, 4, 3, 79, 42, 182, 1, 146, 4, 172]
abbrev dktX10_keep_2 : List UInt8 := dkwX10_keep_2 ++ []
def dkwX10_keep_1 : List UInt8 := [167, 0, 4, 3, 28, 160, 0, 5, 3, 172, 42, 182, 1, 67, 42, 180, 0, 122, 16, 54, 27, 96, 28]
abbrev dktX10_keep_1 : List UInt8 := dkwX10_keep_1 ++ dktX10_keep_2
def dkwX10_keep_0 : List UInt8 := [42, 27, 182, 1, 140, 153, 0, 25, 42, 180, 0, 119, 16, 54, 27, 96, 46, 4, 160, 0, 7, 4]
abbrev dktX10_keep_0 : List UInt8 := dkwX10_keep_0 ++ dktX10_keep_1
theorem dksX10_keep_0 : cX10_keep.data.toList.drop 0 = dktX10_keep_0 := by decide +kernel
theorem dksX10_keep_1 : cX10_keep.data.toList.drop 22 = dktX10_keep_1 := dk_seg dksX10_keep_0 22 rfl rfl
theorem dksX10_keep_2 : cX10_keep.data.toList.drop 45 = dktX10_keep_2 := dk_seg dksX10_keep_1 23 rfl rfl
theorem dX10_keep_0 : decode cX10_keep 0 = .ok (.aload_n 0, 1) := dk_42 (dk_at dksX10_keep_0 0 rfl rfl)
theorem dX10_keep_1 : decode cX10_keep 1 = .ok (.iload_n 1, 1) := dk_27 (dk_at dksX10_keep_0 1 rfl rfl)
theorem dX10_keep_2 : decode cX10_keep 2 = .ok (.invokevirtual 396, 3) := dk_182 1 140 (dk_at dksX10_keep_0 2 rfl rfl)
theorem dX10_keep_5 : decode cX10_keep 5 = .ok (.ifCond .eq 25, 3) := dk_153 0 25 (dk_at dksX10_keep_0 5 rfl rfl)
theorem dX10_keep_8 : decode cX10_keep 8 = .ok (.aload_n 0, 1) := dk_42 (dk_at dksX10_keep_0 8 rfl rfl)
theorem dX10_keep_9 : decode cX10_keep 9 = .ok (.getfield 119, 3) := dk_180 0 119 (dk_at dksX10_keep_0 9 rfl rfl)
theorem dX10_keep_12 : decode cX10_keep 12 = .ok (.bipush 54, 2) := dk_16 54 (dk_at dksX10_keep_0 12 rfl rfl)
theorem dX10_keep_14 : decode cX10_keep 14 = .ok (.iload_n 1, 1) := dk_27 (dk_at dksX10_keep_0 14 rfl rfl)
theorem dX10_keep_15 : decode cX10_keep 15 = .ok (.iadd, 1) := dk_96 (dk_at dksX10_keep_0 15 rfl rfl)
theorem dX10_keep_16 : decode cX10_keep 16 = .ok (.iaload, 1) := dk_46 (dk_at dksX10_keep_0 16 rfl rfl)
theorem dX10_keep_17 : decode cX10_keep 17 = .ok (.iconst 1, 1) := dk_4 (dk_at dksX10_keep_0 17 rfl rfl)
theorem dX10_keep_18 : decode cX10_keep 18 = .ok (.if_icmp .ne 7, 3) := dk_160 0 7 (dk_at dksX10_keep_0 18 rfl rfl)
theorem dX10_keep_21 : decode cX10_keep 21 = .ok (.iconst 1, 1) := dk_4 (dk_at dksX10_keep_0 21 rfl rfl)
theorem dX10_keep_22 : decode cX10_keep 22 = .ok (.goto 4, 3) := dk_167 0 4 (dk_at dksX10_keep_1 0 rfl rfl)
theorem dX10_keep_25 : decode cX10_keep 25 = .ok (.iconst 0, 1) := dk_3 (dk_at dksX10_keep_1 3 rfl rfl)
theorem dX10_keep_26 : decode cX10_keep 26 = .ok (.iload_n 2, 1) := dk_28 (dk_at dksX10_keep_1 4 rfl rfl)
theorem dX10_keep_27 : decode cX10_keep 27 = .ok (.if_icmp .ne 5, 3) := dk_160 0 5 (dk_at dksX10_keep_1 5 rfl rfl)
theorem dX10_keep_30 : decode cX10_keep 30 = .ok (.iconst 0, 1) := dk_3 (dk_at dksX10_keep_1 8 rfl rfl)
theorem dX10_keep_31 : decode cX10_keep 31 = .ok (.ireturn, 1) := dk_172 (dk_at dksX10_keep_1 9 rfl rfl)
theorem dX10_keep_32 : decode cX10_keep 32 = .ok (.aload_n 0, 1) := dk_42 (dk_at dksX10_keep_1 10 rfl rfl)
theorem dX10_keep_33 : decode cX10_keep 33 = .ok (.invokevirtual 323, 3) := dk_182 1 67 (dk_at dksX10_keep_1 11 rfl rfl)
theorem dX10_keep_36 : decode cX10_keep 36 = .ok (.aload_n 0, 1) := dk_42 (dk_at dksX10_keep_1 14 rfl rfl)
theorem dX10_keep_37 : decode cX10_keep 37 = .ok (.getfield 122, 3) := dk_180 0 122 (dk_at dksX10_keep_1 15 rfl rfl)
theorem dX10_keep_40 : decode cX10_keep 40 = .ok (.bipush 54, 2) := dk_16 54 (dk_at dksX10_keep_1 18 rfl rfl)
theorem dX10_keep_42 : decode cX10_keep 42 = .ok (.iload_n 1, 1) := dk_27 (dk_at dksX10_keep_1 20 rfl rfl)
theorem dX10_keep_43 : decode cX10_keep 43 = .ok (.iadd, 1) := dk_96 (dk_at dksX10_keep_1 21 rfl rfl)
theorem dX10_keep_44 : decode cX10_keep 44 = .ok (.iload_n 2, 1) := dk_28 (dk_at dksX10_keep_1 22 rfl rfl)
theorem dX10_keep_45 : decode cX10_keep 45 = .ok (.ifCond .eq 7, 3) := dk_153 0 7 (dk_at dksX10_keep_2 0 rfl rfl)
theorem dX10_keep_48 : decode cX10_keep 48 = .ok (.iconst 1, 1) := dk_4 (dk_at dksX10_keep_2 3 rfl rfl)
theorem dX10_keep_49 : decode cX10_keep 49 = .ok (.goto 4, 3) := dk_167 0 4 (dk_at dksX10_keep_2 4 rfl rfl)
theorem dX10_keep_52 : decode cX10_keep 52 = .ok (.iconst 0, 1) := dk_3 (dk_at dksX10_keep_2 7 rfl rfl)
theorem dX10_keep_53 : decode cX10_keep 53 = .ok (.iastore, 1) := dk_79 (dk_at dksX10_keep_2 8 rfl rfl)
theorem dX10_keep_54 : decode cX10_keep 54 = .ok (.aload_n 0, 1) := dk_42 (dk_at dksX10_keep_2 9 rfl rfl)
theorem dX10_keep_55 : decode cX10_keep 55 = .ok (.invokevirtual 402, 3) := dk_182 1 146 (dk_at dksX10_keep_2 10 rfl rfl)
theorem dX10_keep_58 : decode cX10_keep 58 = .ok (.iconst 1, 1) := dk_4 (dk_at dksX10_keep_2 13 rfl rfl)
theorem dX10_keep_59 : decode cX10_keep 59 = .ok (.ireturn, 1) := dk_172 (dk_at dksX10_keep_2 14 rfl rfl)
abbrev cX10_days : ByteArray := prog_21_method_81_code
def yX10_days : MethodName := ⟨RX10, "days", "(I)I"⟩
def dkwX10_days_1 : List UInt8 := [182, 1, 67, 42, 27, 182, 1, 158, 42, 182, 1, 146, 42, 180, 0, 119, 16, 69, 46, 172]
abbrev dktX10_days_1 : List UInt8 := dkwX10_days_1 ++ []
def dkwX10_days_0 : List UInt8 := [27, 184, 1, 155, 154, 0, 5, 2, 172, 27, 154, 0, 11, 42, 180, 0, 119, 16, 69, 46, 172, 42]
abbrev dktX10_days_0 : List UInt8 := dkwX10_days_0 ++ dktX10_days_1
theorem dksX10_days_0 : cX10_days.data.toList.drop 0 = dktX10_days_0 := by decide +kernel
theorem dksX10_days_1 : cX10_days.data.toList.drop 22 = dktX10_days_1 := dk_seg dksX10_days_0 22 rfl rfl
theorem dX10_days_0 : decode cX10_days 0 = .ok (.iload_n 1, 1) := dk_27 (dk_at dksX10_days_0 0 rfl rfl)
theorem dX10_days_1 : decode cX10_days 1 = .ok (.invokestatic 411, 3) := dk_184 1 155 (dk_at dksX10_days_0 1 rfl rfl)
theorem dX10_days_4 : decode cX10_days 4 = .ok (.ifCond .ne 5, 3) := dk_154 0 5 (dk_at dksX10_days_0 4 rfl rfl)
theorem dX10_days_7 : decode cX10_days 7 = .ok (.iconst (-1), 1) := dk_2 (dk_at dksX10_days_0 7 rfl rfl)
theorem dX10_days_8 : decode cX10_days 8 = .ok (.ireturn, 1) := dk_172 (dk_at dksX10_days_0 8 rfl rfl)
theorem dX10_days_9 : decode cX10_days 9 = .ok (.iload_n 1, 1) := dk_27 (dk_at dksX10_days_0 9 rfl rfl)
theorem dX10_days_10 : decode cX10_days 10 = .ok (.ifCond .ne 11, 3) := dk_154 0 11 (dk_at dksX10_days_0 10 rfl rfl)
theorem dX10_days_13 : decode cX10_days 13 = .ok (.aload_n 0, 1) := dk_42 (dk_at dksX10_days_0 13 rfl rfl)
theorem dX10_days_14 : decode cX10_days 14 = .ok (.getfield 119, 3) := dk_180 0 119 (dk_at dksX10_days_0 14 rfl rfl)
theorem dX10_days_17 : decode cX10_days 17 = .ok (.bipush 69, 2) := dk_16 69 (dk_at dksX10_days_0 17 rfl rfl)
theorem dX10_days_19 : decode cX10_days 19 = .ok (.iaload, 1) := dk_46 (dk_at dksX10_days_0 19 rfl rfl)
theorem dX10_days_20 : decode cX10_days 20 = .ok (.ireturn, 1) := dk_172 (dk_at dksX10_days_0 20 rfl rfl)
theorem dX10_days_21 : decode cX10_days 21 = .ok (.aload_n 0, 1) := dk_42 (dk_at dksX10_days_0 21 rfl rfl)
theorem dX10_days_22 : decode cX10_days 22 = .ok (.invokevirtual 323, 3) := dk_182 1 67 (dk_at dksX10_days_1 0 rfl rfl)
theorem dX10_days_25 : decode cX10_days 25 = .ok (.aload_n 0, 1) := dk_42 (dk_at dksX10_days_1 3 rfl rfl)
theorem dX10_days_26 : decode cX10_days 26 = .ok (.iload_n 1, 1) := dk_27 (dk_at dksX10_days_1 4 rfl rfl)
theorem dX10_days_27 : decode cX10_days 27 = .ok (.invokevirtual 414, 3) := dk_182 1 158 (dk_at dksX10_days_1 5 rfl rfl)
theorem dX10_days_30 : decode cX10_days 30 = .ok (.aload_n 0, 1) := dk_42 (dk_at dksX10_days_1 8 rfl rfl)
theorem dX10_days_31 : decode cX10_days 31 = .ok (.invokevirtual 402, 3) := dk_182 1 146 (dk_at dksX10_days_1 9 rfl rfl)
theorem dX10_days_34 : decode cX10_days 34 = .ok (.aload_n 0, 1) := dk_42 (dk_at dksX10_days_1 12 rfl rfl)
theorem dX10_days_35 : decode cX10_days 35 = .ok (.getfield 119, 3) := dk_180 0 119 (dk_at dksX10_days_1 13 rfl rfl)
theorem dX10_days_38 : decode cX10_days 38 = .ok (.bipush 69, 2) := dk_16 69 (dk_at dksX10_days_1 16 rfl rfl)
theorem dX10_days_40 : decode cX10_days 40 = .ok (.iaload, 1) := dk_46 (dk_at dksX10_days_1 18 rfl rfl)
theorem dX10_days_41 : decode cX10_days 41 = .ok (.ireturn, 1) := dk_172 (dk_at dksX10_days_1 19 rfl rfl)
abbrev cX10_isLong : ByteArray := prog_21_method_79_code
def yX10_isLong : MethodName := ⟨RX10, "isLong", "(I)Z"⟩
def dkwX10_isLong_0 : List UInt8 := [26, 3, 16, 60, 184, 1, 57, 172]
abbrev dktX10_isLong_0 : List UInt8 := dkwX10_isLong_0 ++ []
theorem dksX10_isLong_0 : cX10_isLong.data.toList.drop 0 = dktX10_isLong_0 := by decide +kernel
theorem dX10_isLong_0 : decode cX10_isLong 0 = .ok (.iload_n 0, 1) := dk_26 (dk_at dksX10_isLong_0 0 rfl rfl)
theorem dX10_isLong_1 : decode cX10_isLong 1 = .ok (.iconst 0, 1) := dk_3 (dk_at dksX10_isLong_0 1 rfl rfl)
theorem dX10_isLong_2 : decode cX10_isLong 2 = .ok (.bipush 60, 2) := dk_16 60 (dk_at dksX10_isLong_0 2 rfl rfl)
theorem dX10_isLong_4 : decode cX10_isLong 4 = .ok (.invokestatic 313, 3) := dk_184 1 57 (dk_at dksX10_isLong_0 4 rfl rfl)
theorem dX10_isLong_7 : decode cX10_isLong 7 = .ok (.ireturn, 1) := dk_172 (dk_at dksX10_isLong_0 7 rfl rfl)
abbrev cX10_goes : ByteArray := prog_21_method_65_code
def yX10_goes : MethodName := ⟨RX10, "goes", "(I)V"⟩
def dkwX10_goes_0 : List UInt8 := [3, 61, 28, 27, 162, 0, 13, 42, 182, 1, 128, 132, 2, 1, 167, 255, 244, 177]
abbrev dktX10_goes_0 : List UInt8 := dkwX10_goes_0 ++ []
theorem dksX10_goes_0 : cX10_goes.data.toList.drop 0 = dktX10_goes_0 := by decide +kernel
theorem dX10_goes_0 : decode cX10_goes 0 = .ok (.iconst 0, 1) := dk_3 (dk_at dksX10_goes_0 0 rfl rfl)
theorem dX10_goes_1 : decode cX10_goes 1 = .ok (.istore_n 2, 1) := dk_61 (dk_at dksX10_goes_0 1 rfl rfl)
theorem dX10_goes_2 : decode cX10_goes 2 = .ok (.iload_n 2, 1) := dk_28 (dk_at dksX10_goes_0 2 rfl rfl)
theorem dX10_goes_3 : decode cX10_goes 3 = .ok (.iload_n 1, 1) := dk_27 (dk_at dksX10_goes_0 3 rfl rfl)
theorem dX10_goes_4 : decode cX10_goes 4 = .ok (.if_icmp .ge 13, 3) := dk_162 0 13 (dk_at dksX10_goes_0 4 rfl rfl)
theorem dX10_goes_7 : decode cX10_goes 7 = .ok (.aload_n 0, 1) := dk_42 (dk_at dksX10_goes_0 7 rfl rfl)
theorem dX10_goes_8 : decode cX10_goes 8 = .ok (.invokevirtual 384, 3) := dk_182 1 128 (dk_at dksX10_goes_0 8 rfl rfl)
theorem dX10_goes_11 : decode cX10_goes 11 = .ok (.iinc 2 1, 3) := dk_132 2 1 (dk_at dksX10_goes_0 11 rfl rfl)
theorem dX10_goes_14 : decode cX10_goes 14 = .ok (.goto (-12), 3) := dk_167 255 244 (dk_at dksX10_goes_0 14 rfl rfl)
theorem dX10_goes_17 : decode cX10_goes 17 = .ok (.return_, 1) := dk_177 (dk_at dksX10_goes_0 17 rfl rfl)
abbrev cX10_dayGoes : ByteArray := prog_21_method_64_code
def yX10_dayGoes : MethodName := ⟨RX10, "dayGoes", "()V"⟩
def dkwX10_dayGoes_14 : List UInt8 := [79, 132, 2, 1, 167, 255, 186, 42, 180, 0, 122, 16, 69, 92, 46, 4, 96, 79, 177]
abbrev dktX10_dayGoes_14 : List UInt8 := dkwX10_dayGoes_14 ++ []
def dkwX10_dayGoes_13 : List UInt8 := [16, 30, 28, 96, 46, 4, 96, 3, 17, 3, 231, 184, 1, 98, 79, 42, 180, 0, 122, 16, 48, 28, 96, 3]
abbrev dktX10_dayGoes_13 : List UInt8 := dkwX10_dayGoes_13 ++ dktX10_dayGoes_14
def dkwX10_dayGoes_12 : List UInt8 := [28, 96, 42, 180, 0, 122, 16, 48, 28, 96, 46, 4, 160, 0, 7, 3, 167, 0, 21, 42, 180, 0, 122]
abbrev dktX10_dayGoes_12 : List UInt8 := dkwX10_dayGoes_12 ++ dktX10_dayGoes_13
def dkwX10_dayGoes_11 : List UInt8 := [167, 255, 167, 3, 61, 28, 42, 180, 0, 46, 42, 180, 0, 233, 46, 162, 0, 63, 42, 180, 0, 122, 16, 30]
abbrev dktX10_dayGoes_11 : List UInt8 := dkwX10_dayGoes_11 ++ dktX10_dayGoes_12
def dkwX10_dayGoes_10 : List UInt8 := [28, 29, 182, 1, 83, 42, 180, 0, 125, 29, 46, 184, 1, 110, 79, 132, 3, 1, 167, 255, 213, 132, 2, 1]
abbrev dktX10_dayGoes_10 : List UInt8 := dkwX10_dayGoes_10 ++ dktX10_dayGoes_11
def dkwX10_dayGoes_9 : List UInt8 := [7, 162, 0, 44, 42, 180, 0, 122, 7, 28, 104, 29, 96, 42, 180, 0, 122, 7, 28, 104, 29, 96, 46, 42]
abbrev dktX10_dayGoes_9 : List UInt8 := dkwX10_dayGoes_9 ++ dktX10_dayGoes_10
def dkwX10_dayGoes_8 : List UInt8 := [162, 0, 21, 42, 180, 0, 125, 29, 42, 28, 29, 182, 1, 125, 79, 132, 3, 1, 167, 255, 236, 3, 62, 29]
abbrev dktX10_dayGoes_8 : List UInt8 := dkwX10_dayGoes_8 ++ dktX10_dayGoes_9
def dkwX10_dayGoes_7 : List UInt8 := [167, 255, 193, 3, 61, 28, 42, 180, 0, 46, 42, 180, 0, 233, 46, 162, 0, 82, 3, 62, 29, 7]
abbrev dktX10_dayGoes_7 : List UInt8 := dkwX10_dayGoes_7 ++ dktX10_dayGoes_8
def dkwX10_dayGoes_6 : List UInt8 := [42, 180, 0, 122, 29, 46, 158, 0, 13, 42, 180, 0, 122, 29, 92, 46, 4, 100, 79, 132, 2, 1]
abbrev dktX10_dayGoes_6 : List UInt8 := dkwX10_dayGoes_6 ++ dktX10_dayGoes_7
def dkwX10_dayGoes_5 : List UInt8 := [7, 28, 104, 42, 16, 16, 42, 180, 0, 122, 16, 69, 46, 104, 4, 96, 28, 96, 7, 182, 1, 74, 96, 62]
abbrev dktX10_dayGoes_5 : List UInt8 := dkwX10_dayGoes_5 ++ dktX10_dayGoes_6
def dkwX10_dayGoes_4 : List UInt8 := [167, 0, 4, 3, 60, 3, 61, 28, 42, 180, 0, 46, 42, 180, 0, 233, 46, 162, 0, 56, 27, 153, 0, 52]
abbrev dktX10_dayGoes_4 : List UInt8 := dkwX10_dayGoes_4 ++ dktX10_dayGoes_5
def dkwX10_dayGoes_3 : List UInt8 := [182, 1, 118, 132, 1, 1, 167, 255, 180, 42, 180, 1, 64, 154, 0, 14, 42, 182, 1, 121, 153, 0, 7, 4]
abbrev dktX10_dayGoes_3 : List UInt8 := dkwX10_dayGoes_3 ++ dktX10_dayGoes_4
def dkwX10_dayGoes_2 : List UInt8 := [16, 10, 42, 180, 0, 233, 104, 27, 96, 46, 42, 180, 0, 61, 16, 10, 42, 180, 0, 233, 104, 27, 96, 46]
abbrev dktX10_dayGoes_2 : List UInt8 := dkwX10_dayGoes_2 ++ dktX10_dayGoes_3
def dkwX10_dayGoes_1 : List UInt8 := [4, 160, 0, 50, 42, 27, 42, 180, 0, 122, 16, 69, 46, 182, 1, 114, 153, 0, 35, 42, 42, 180, 0, 64]
abbrev dktX10_dayGoes_1 : List UInt8 := dkwX10_dayGoes_1 ++ dktX10_dayGoes_2
def dkwX10_dayGoes_0 : List UInt8 := [3, 60, 27, 42, 180, 0, 58, 42, 180, 0, 233, 46, 162, 0, 69, 42, 180, 0, 122, 16, 54, 27, 96, 46]
abbrev dktX10_dayGoes_0 : List UInt8 := dkwX10_dayGoes_0 ++ dktX10_dayGoes_1
theorem dksX10_dayGoes_0 : cX10_dayGoes.data.toList.drop 0 = dktX10_dayGoes_0 := by decide +kernel
theorem dksX10_dayGoes_1 : cX10_dayGoes.data.toList.drop 24 = dktX10_dayGoes_1 := dk_seg dksX10_dayGoes_0 24 rfl rfl
theorem dksX10_dayGoes_2 : cX10_dayGoes.data.toList.drop 48 = dktX10_dayGoes_2 := dk_seg dksX10_dayGoes_1 24 rfl rfl
theorem dksX10_dayGoes_3 : cX10_dayGoes.data.toList.drop 72 = dktX10_dayGoes_3 := dk_seg dksX10_dayGoes_2 24 rfl rfl
theorem dksX10_dayGoes_4 : cX10_dayGoes.data.toList.drop 96 = dktX10_dayGoes_4 := dk_seg dksX10_dayGoes_3 24 rfl rfl
theorem dksX10_dayGoes_5 : cX10_dayGoes.data.toList.drop 120 = dktX10_dayGoes_5 := dk_seg dksX10_dayGoes_4 24 rfl rfl
theorem dksX10_dayGoes_6 : cX10_dayGoes.data.toList.drop 144 = dktX10_dayGoes_6 := dk_seg dksX10_dayGoes_5 24 rfl rfl
theorem dksX10_dayGoes_7 : cX10_dayGoes.data.toList.drop 166 = dktX10_dayGoes_7 := dk_seg dksX10_dayGoes_6 22 rfl rfl
theorem dksX10_dayGoes_8 : cX10_dayGoes.data.toList.drop 188 = dktX10_dayGoes_8 := dk_seg dksX10_dayGoes_7 22 rfl rfl
theorem dksX10_dayGoes_9 : cX10_dayGoes.data.toList.drop 212 = dktX10_dayGoes_9 := dk_seg dksX10_dayGoes_8 24 rfl rfl
theorem dksX10_dayGoes_10 : cX10_dayGoes.data.toList.drop 236 = dktX10_dayGoes_10 := dk_seg dksX10_dayGoes_9 24 rfl rfl
theorem dksX10_dayGoes_11 : cX10_dayGoes.data.toList.drop 260 = dktX10_dayGoes_11 := dk_seg dksX10_dayGoes_10 24 rfl rfl
theorem dksX10_dayGoes_12 : cX10_dayGoes.data.toList.drop 284 = dktX10_dayGoes_12 := dk_seg dksX10_dayGoes_11 24 rfl rfl
theorem dksX10_dayGoes_13 : cX10_dayGoes.data.toList.drop 307 = dktX10_dayGoes_13 := dk_seg dksX10_dayGoes_12 23 rfl rfl
theorem dksX10_dayGoes_14 : cX10_dayGoes.data.toList.drop 331 = dktX10_dayGoes_14 := dk_seg dksX10_dayGoes_13 24 rfl rfl
theorem dX10_dayGoes_0 : decode cX10_dayGoes 0 = .ok (.iconst 0, 1) := dk_3 (dk_at dksX10_dayGoes_0 0 rfl rfl)
theorem dX10_dayGoes_1 : decode cX10_dayGoes 1 = .ok (.istore_n 1, 1) := dk_60 (dk_at dksX10_dayGoes_0 1 rfl rfl)
theorem dX10_dayGoes_2 : decode cX10_dayGoes 2 = .ok (.iload_n 1, 1) := dk_27 (dk_at dksX10_dayGoes_0 2 rfl rfl)
theorem dX10_dayGoes_3 : decode cX10_dayGoes 3 = .ok (.aload_n 0, 1) := dk_42 (dk_at dksX10_dayGoes_0 3 rfl rfl)
theorem dX10_dayGoes_4 : decode cX10_dayGoes 4 = .ok (.getfield 58, 3) := dk_180 0 58 (dk_at dksX10_dayGoes_0 4 rfl rfl)
theorem dX10_dayGoes_7 : decode cX10_dayGoes 7 = .ok (.aload_n 0, 1) := dk_42 (dk_at dksX10_dayGoes_0 7 rfl rfl)
theorem dX10_dayGoes_8 : decode cX10_dayGoes 8 = .ok (.getfield 233, 3) := dk_180 0 233 (dk_at dksX10_dayGoes_0 8 rfl rfl)
theorem dX10_dayGoes_11 : decode cX10_dayGoes 11 = .ok (.iaload, 1) := dk_46 (dk_at dksX10_dayGoes_0 11 rfl rfl)
theorem dX10_dayGoes_12 : decode cX10_dayGoes 12 = .ok (.if_icmp .ge 69, 3) := dk_162 0 69 (dk_at dksX10_dayGoes_0 12 rfl rfl)
theorem dX10_dayGoes_15 : decode cX10_dayGoes 15 = .ok (.aload_n 0, 1) := dk_42 (dk_at dksX10_dayGoes_0 15 rfl rfl)
theorem dX10_dayGoes_16 : decode cX10_dayGoes 16 = .ok (.getfield 122, 3) := dk_180 0 122 (dk_at dksX10_dayGoes_0 16 rfl rfl)
theorem dX10_dayGoes_19 : decode cX10_dayGoes 19 = .ok (.bipush 54, 2) := dk_16 54 (dk_at dksX10_dayGoes_0 19 rfl rfl)
theorem dX10_dayGoes_21 : decode cX10_dayGoes 21 = .ok (.iload_n 1, 1) := dk_27 (dk_at dksX10_dayGoes_0 21 rfl rfl)
theorem dX10_dayGoes_22 : decode cX10_dayGoes 22 = .ok (.iadd, 1) := dk_96 (dk_at dksX10_dayGoes_0 22 rfl rfl)
theorem dX10_dayGoes_23 : decode cX10_dayGoes 23 = .ok (.iaload, 1) := dk_46 (dk_at dksX10_dayGoes_0 23 rfl rfl)
theorem dX10_dayGoes_24 : decode cX10_dayGoes 24 = .ok (.iconst 1, 1) := dk_4 (dk_at dksX10_dayGoes_1 0 rfl rfl)
theorem dX10_dayGoes_25 : decode cX10_dayGoes 25 = .ok (.if_icmp .ne 50, 3) := dk_160 0 50 (dk_at dksX10_dayGoes_1 1 rfl rfl)
theorem dX10_dayGoes_28 : decode cX10_dayGoes 28 = .ok (.aload_n 0, 1) := dk_42 (dk_at dksX10_dayGoes_1 4 rfl rfl)
theorem dX10_dayGoes_29 : decode cX10_dayGoes 29 = .ok (.iload_n 1, 1) := dk_27 (dk_at dksX10_dayGoes_1 5 rfl rfl)
theorem dX10_dayGoes_30 : decode cX10_dayGoes 30 = .ok (.aload_n 0, 1) := dk_42 (dk_at dksX10_dayGoes_1 6 rfl rfl)
theorem dX10_dayGoes_31 : decode cX10_dayGoes 31 = .ok (.getfield 122, 3) := dk_180 0 122 (dk_at dksX10_dayGoes_1 7 rfl rfl)
theorem dX10_dayGoes_34 : decode cX10_dayGoes 34 = .ok (.bipush 69, 2) := dk_16 69 (dk_at dksX10_dayGoes_1 10 rfl rfl)
theorem dX10_dayGoes_36 : decode cX10_dayGoes 36 = .ok (.iaload, 1) := dk_46 (dk_at dksX10_dayGoes_1 12 rfl rfl)
theorem dX10_dayGoes_37 : decode cX10_dayGoes 37 = .ok (.invokevirtual 370, 3) := dk_182 1 114 (dk_at dksX10_dayGoes_1 13 rfl rfl)
theorem dX10_dayGoes_40 : decode cX10_dayGoes 40 = .ok (.ifCond .eq 35, 3) := dk_153 0 35 (dk_at dksX10_dayGoes_1 16 rfl rfl)
theorem dX10_dayGoes_43 : decode cX10_dayGoes 43 = .ok (.aload_n 0, 1) := dk_42 (dk_at dksX10_dayGoes_1 19 rfl rfl)
theorem dX10_dayGoes_44 : decode cX10_dayGoes 44 = .ok (.aload_n 0, 1) := dk_42 (dk_at dksX10_dayGoes_1 20 rfl rfl)
theorem dX10_dayGoes_45 : decode cX10_dayGoes 45 = .ok (.getfield 64, 3) := dk_180 0 64 (dk_at dksX10_dayGoes_1 21 rfl rfl)
theorem dX10_dayGoes_48 : decode cX10_dayGoes 48 = .ok (.bipush 10, 2) := dk_16 10 (dk_at dksX10_dayGoes_2 0 rfl rfl)
theorem dX10_dayGoes_50 : decode cX10_dayGoes 50 = .ok (.aload_n 0, 1) := dk_42 (dk_at dksX10_dayGoes_2 2 rfl rfl)
theorem dX10_dayGoes_51 : decode cX10_dayGoes 51 = .ok (.getfield 233, 3) := dk_180 0 233 (dk_at dksX10_dayGoes_2 3 rfl rfl)
theorem dX10_dayGoes_54 : decode cX10_dayGoes 54 = .ok (.imul, 1) := dk_104 (dk_at dksX10_dayGoes_2 6 rfl rfl)
theorem dX10_dayGoes_55 : decode cX10_dayGoes 55 = .ok (.iload_n 1, 1) := dk_27 (dk_at dksX10_dayGoes_2 7 rfl rfl)
theorem dX10_dayGoes_56 : decode cX10_dayGoes 56 = .ok (.iadd, 1) := dk_96 (dk_at dksX10_dayGoes_2 8 rfl rfl)
theorem dX10_dayGoes_57 : decode cX10_dayGoes 57 = .ok (.iaload, 1) := dk_46 (dk_at dksX10_dayGoes_2 9 rfl rfl)
theorem dX10_dayGoes_58 : decode cX10_dayGoes 58 = .ok (.aload_n 0, 1) := dk_42 (dk_at dksX10_dayGoes_2 10 rfl rfl)
theorem dX10_dayGoes_59 : decode cX10_dayGoes 59 = .ok (.getfield 61, 3) := dk_180 0 61 (dk_at dksX10_dayGoes_2 11 rfl rfl)
theorem dX10_dayGoes_62 : decode cX10_dayGoes 62 = .ok (.bipush 10, 2) := dk_16 10 (dk_at dksX10_dayGoes_2 14 rfl rfl)
theorem dX10_dayGoes_64 : decode cX10_dayGoes 64 = .ok (.aload_n 0, 1) := dk_42 (dk_at dksX10_dayGoes_2 16 rfl rfl)
theorem dX10_dayGoes_65 : decode cX10_dayGoes 65 = .ok (.getfield 233, 3) := dk_180 0 233 (dk_at dksX10_dayGoes_2 17 rfl rfl)
theorem dX10_dayGoes_68 : decode cX10_dayGoes 68 = .ok (.imul, 1) := dk_104 (dk_at dksX10_dayGoes_2 20 rfl rfl)
theorem dX10_dayGoes_69 : decode cX10_dayGoes 69 = .ok (.iload_n 1, 1) := dk_27 (dk_at dksX10_dayGoes_2 21 rfl rfl)
theorem dX10_dayGoes_70 : decode cX10_dayGoes 70 = .ok (.iadd, 1) := dk_96 (dk_at dksX10_dayGoes_2 22 rfl rfl)
theorem dX10_dayGoes_71 : decode cX10_dayGoes 71 = .ok (.iaload, 1) := dk_46 (dk_at dksX10_dayGoes_2 23 rfl rfl)
theorem dX10_dayGoes_72 : decode cX10_dayGoes 72 = .ok (.invokevirtual 374, 3) := dk_182 1 118 (dk_at dksX10_dayGoes_3 0 rfl rfl)
theorem dX10_dayGoes_75 : decode cX10_dayGoes 75 = .ok (.iinc 1 1, 3) := dk_132 1 1 (dk_at dksX10_dayGoes_3 3 rfl rfl)
theorem dX10_dayGoes_78 : decode cX10_dayGoes 78 = .ok (.goto (-76), 3) := dk_167 255 180 (dk_at dksX10_dayGoes_3 6 rfl rfl)
theorem dX10_dayGoes_81 : decode cX10_dayGoes 81 = .ok (.aload_n 0, 1) := dk_42 (dk_at dksX10_dayGoes_3 9 rfl rfl)
theorem dX10_dayGoes_82 : decode cX10_dayGoes 82 = .ok (.getfield 320, 3) := dk_180 1 64 (dk_at dksX10_dayGoes_3 10 rfl rfl)
theorem dX10_dayGoes_85 : decode cX10_dayGoes 85 = .ok (.ifCond .ne 14, 3) := dk_154 0 14 (dk_at dksX10_dayGoes_3 13 rfl rfl)
theorem dX10_dayGoes_88 : decode cX10_dayGoes 88 = .ok (.aload_n 0, 1) := dk_42 (dk_at dksX10_dayGoes_3 16 rfl rfl)
theorem dX10_dayGoes_89 : decode cX10_dayGoes 89 = .ok (.invokevirtual 377, 3) := dk_182 1 121 (dk_at dksX10_dayGoes_3 17 rfl rfl)
theorem dX10_dayGoes_92 : decode cX10_dayGoes 92 = .ok (.ifCond .eq 7, 3) := dk_153 0 7 (dk_at dksX10_dayGoes_3 20 rfl rfl)
theorem dX10_dayGoes_95 : decode cX10_dayGoes 95 = .ok (.iconst 1, 1) := dk_4 (dk_at dksX10_dayGoes_3 23 rfl rfl)
theorem dX10_dayGoes_96 : decode cX10_dayGoes 96 = .ok (.goto 4, 3) := dk_167 0 4 (dk_at dksX10_dayGoes_4 0 rfl rfl)
theorem dX10_dayGoes_99 : decode cX10_dayGoes 99 = .ok (.iconst 0, 1) := dk_3 (dk_at dksX10_dayGoes_4 3 rfl rfl)
theorem dX10_dayGoes_100 : decode cX10_dayGoes 100 = .ok (.istore_n 1, 1) := dk_60 (dk_at dksX10_dayGoes_4 4 rfl rfl)
theorem dX10_dayGoes_101 : decode cX10_dayGoes 101 = .ok (.iconst 0, 1) := dk_3 (dk_at dksX10_dayGoes_4 5 rfl rfl)
theorem dX10_dayGoes_102 : decode cX10_dayGoes 102 = .ok (.istore_n 2, 1) := dk_61 (dk_at dksX10_dayGoes_4 6 rfl rfl)
theorem dX10_dayGoes_103 : decode cX10_dayGoes 103 = .ok (.iload_n 2, 1) := dk_28 (dk_at dksX10_dayGoes_4 7 rfl rfl)
theorem dX10_dayGoes_104 : decode cX10_dayGoes 104 = .ok (.aload_n 0, 1) := dk_42 (dk_at dksX10_dayGoes_4 8 rfl rfl)
theorem dX10_dayGoes_105 : decode cX10_dayGoes 105 = .ok (.getfield 46, 3) := dk_180 0 46 (dk_at dksX10_dayGoes_4 9 rfl rfl)
theorem dX10_dayGoes_108 : decode cX10_dayGoes 108 = .ok (.aload_n 0, 1) := dk_42 (dk_at dksX10_dayGoes_4 12 rfl rfl)
theorem dX10_dayGoes_109 : decode cX10_dayGoes 109 = .ok (.getfield 233, 3) := dk_180 0 233 (dk_at dksX10_dayGoes_4 13 rfl rfl)
theorem dX10_dayGoes_112 : decode cX10_dayGoes 112 = .ok (.iaload, 1) := dk_46 (dk_at dksX10_dayGoes_4 16 rfl rfl)
theorem dX10_dayGoes_113 : decode cX10_dayGoes 113 = .ok (.if_icmp .ge 56, 3) := dk_162 0 56 (dk_at dksX10_dayGoes_4 17 rfl rfl)
theorem dX10_dayGoes_116 : decode cX10_dayGoes 116 = .ok (.iload_n 1, 1) := dk_27 (dk_at dksX10_dayGoes_4 20 rfl rfl)
theorem dX10_dayGoes_117 : decode cX10_dayGoes 117 = .ok (.ifCond .eq 52, 3) := dk_153 0 52 (dk_at dksX10_dayGoes_4 21 rfl rfl)
theorem dX10_dayGoes_120 : decode cX10_dayGoes 120 = .ok (.iconst 4, 1) := dk_7 (dk_at dksX10_dayGoes_5 0 rfl rfl)
theorem dX10_dayGoes_121 : decode cX10_dayGoes 121 = .ok (.iload_n 2, 1) := dk_28 (dk_at dksX10_dayGoes_5 1 rfl rfl)
theorem dX10_dayGoes_122 : decode cX10_dayGoes 122 = .ok (.imul, 1) := dk_104 (dk_at dksX10_dayGoes_5 2 rfl rfl)
theorem dX10_dayGoes_123 : decode cX10_dayGoes 123 = .ok (.aload_n 0, 1) := dk_42 (dk_at dksX10_dayGoes_5 3 rfl rfl)
theorem dX10_dayGoes_124 : decode cX10_dayGoes 124 = .ok (.bipush 16, 2) := dk_16 16 (dk_at dksX10_dayGoes_5 4 rfl rfl)
theorem dX10_dayGoes_126 : decode cX10_dayGoes 126 = .ok (.aload_n 0, 1) := dk_42 (dk_at dksX10_dayGoes_5 6 rfl rfl)
theorem dX10_dayGoes_127 : decode cX10_dayGoes 127 = .ok (.getfield 122, 3) := dk_180 0 122 (dk_at dksX10_dayGoes_5 7 rfl rfl)
theorem dX10_dayGoes_130 : decode cX10_dayGoes 130 = .ok (.bipush 69, 2) := dk_16 69 (dk_at dksX10_dayGoes_5 10 rfl rfl)
theorem dX10_dayGoes_132 : decode cX10_dayGoes 132 = .ok (.iaload, 1) := dk_46 (dk_at dksX10_dayGoes_5 12 rfl rfl)
theorem dX10_dayGoes_133 : decode cX10_dayGoes 133 = .ok (.imul, 1) := dk_104 (dk_at dksX10_dayGoes_5 13 rfl rfl)
theorem dX10_dayGoes_134 : decode cX10_dayGoes 134 = .ok (.iconst 1, 1) := dk_4 (dk_at dksX10_dayGoes_5 14 rfl rfl)
theorem dX10_dayGoes_135 : decode cX10_dayGoes 135 = .ok (.iadd, 1) := dk_96 (dk_at dksX10_dayGoes_5 15 rfl rfl)
theorem dX10_dayGoes_136 : decode cX10_dayGoes 136 = .ok (.iload_n 2, 1) := dk_28 (dk_at dksX10_dayGoes_5 16 rfl rfl)
theorem dX10_dayGoes_137 : decode cX10_dayGoes 137 = .ok (.iadd, 1) := dk_96 (dk_at dksX10_dayGoes_5 17 rfl rfl)
theorem dX10_dayGoes_138 : decode cX10_dayGoes 138 = .ok (.iconst 4, 1) := dk_7 (dk_at dksX10_dayGoes_5 18 rfl rfl)
theorem dX10_dayGoes_139 : decode cX10_dayGoes 139 = .ok (.invokevirtual 330, 3) := dk_182 1 74 (dk_at dksX10_dayGoes_5 19 rfl rfl)
theorem dX10_dayGoes_142 : decode cX10_dayGoes 142 = .ok (.iadd, 1) := dk_96 (dk_at dksX10_dayGoes_5 22 rfl rfl)
theorem dX10_dayGoes_143 : decode cX10_dayGoes 143 = .ok (.istore_n 3, 1) := dk_62 (dk_at dksX10_dayGoes_5 23 rfl rfl)
theorem dX10_dayGoes_144 : decode cX10_dayGoes 144 = .ok (.aload_n 0, 1) := dk_42 (dk_at dksX10_dayGoes_6 0 rfl rfl)
theorem dX10_dayGoes_145 : decode cX10_dayGoes 145 = .ok (.getfield 122, 3) := dk_180 0 122 (dk_at dksX10_dayGoes_6 1 rfl rfl)
theorem dX10_dayGoes_148 : decode cX10_dayGoes 148 = .ok (.iload_n 3, 1) := dk_29 (dk_at dksX10_dayGoes_6 4 rfl rfl)
theorem dX10_dayGoes_149 : decode cX10_dayGoes 149 = .ok (.iaload, 1) := dk_46 (dk_at dksX10_dayGoes_6 5 rfl rfl)
theorem dX10_dayGoes_150 : decode cX10_dayGoes 150 = .ok (.ifCond .le 13, 3) := dk_158 0 13 (dk_at dksX10_dayGoes_6 6 rfl rfl)
theorem dX10_dayGoes_153 : decode cX10_dayGoes 153 = .ok (.aload_n 0, 1) := dk_42 (dk_at dksX10_dayGoes_6 9 rfl rfl)
theorem dX10_dayGoes_154 : decode cX10_dayGoes 154 = .ok (.getfield 122, 3) := dk_180 0 122 (dk_at dksX10_dayGoes_6 10 rfl rfl)
theorem dX10_dayGoes_157 : decode cX10_dayGoes 157 = .ok (.iload_n 3, 1) := dk_29 (dk_at dksX10_dayGoes_6 13 rfl rfl)
theorem dX10_dayGoes_158 : decode cX10_dayGoes 158 = .ok (.dup2, 1) := dk_92 (dk_at dksX10_dayGoes_6 14 rfl rfl)
theorem dX10_dayGoes_159 : decode cX10_dayGoes 159 = .ok (.iaload, 1) := dk_46 (dk_at dksX10_dayGoes_6 15 rfl rfl)
theorem dX10_dayGoes_160 : decode cX10_dayGoes 160 = .ok (.iconst 1, 1) := dk_4 (dk_at dksX10_dayGoes_6 16 rfl rfl)
theorem dX10_dayGoes_161 : decode cX10_dayGoes 161 = .ok (.isub, 1) := dk_100 (dk_at dksX10_dayGoes_6 17 rfl rfl)
theorem dX10_dayGoes_162 : decode cX10_dayGoes 162 = .ok (.iastore, 1) := dk_79 (dk_at dksX10_dayGoes_6 18 rfl rfl)
theorem dX10_dayGoes_163 : decode cX10_dayGoes 163 = .ok (.iinc 2 1, 3) := dk_132 2 1 (dk_at dksX10_dayGoes_6 19 rfl rfl)
theorem dX10_dayGoes_166 : decode cX10_dayGoes 166 = .ok (.goto (-63), 3) := dk_167 255 193 (dk_at dksX10_dayGoes_7 0 rfl rfl)
theorem dX10_dayGoes_169 : decode cX10_dayGoes 169 = .ok (.iconst 0, 1) := dk_3 (dk_at dksX10_dayGoes_7 3 rfl rfl)
theorem dX10_dayGoes_170 : decode cX10_dayGoes 170 = .ok (.istore_n 2, 1) := dk_61 (dk_at dksX10_dayGoes_7 4 rfl rfl)
theorem dX10_dayGoes_171 : decode cX10_dayGoes 171 = .ok (.iload_n 2, 1) := dk_28 (dk_at dksX10_dayGoes_7 5 rfl rfl)
theorem dX10_dayGoes_172 : decode cX10_dayGoes 172 = .ok (.aload_n 0, 1) := dk_42 (dk_at dksX10_dayGoes_7 6 rfl rfl)
theorem dX10_dayGoes_173 : decode cX10_dayGoes 173 = .ok (.getfield 46, 3) := dk_180 0 46 (dk_at dksX10_dayGoes_7 7 rfl rfl)
theorem dX10_dayGoes_176 : decode cX10_dayGoes 176 = .ok (.aload_n 0, 1) := dk_42 (dk_at dksX10_dayGoes_7 10 rfl rfl)
theorem dX10_dayGoes_177 : decode cX10_dayGoes 177 = .ok (.getfield 233, 3) := dk_180 0 233 (dk_at dksX10_dayGoes_7 11 rfl rfl)
theorem dX10_dayGoes_180 : decode cX10_dayGoes 180 = .ok (.iaload, 1) := dk_46 (dk_at dksX10_dayGoes_7 14 rfl rfl)
theorem dX10_dayGoes_181 : decode cX10_dayGoes 181 = .ok (.if_icmp .ge 82, 3) := dk_162 0 82 (dk_at dksX10_dayGoes_7 15 rfl rfl)
theorem dX10_dayGoes_184 : decode cX10_dayGoes 184 = .ok (.iconst 0, 1) := dk_3 (dk_at dksX10_dayGoes_7 18 rfl rfl)
theorem dX10_dayGoes_185 : decode cX10_dayGoes 185 = .ok (.istore_n 3, 1) := dk_62 (dk_at dksX10_dayGoes_7 19 rfl rfl)
theorem dX10_dayGoes_186 : decode cX10_dayGoes 186 = .ok (.iload_n 3, 1) := dk_29 (dk_at dksX10_dayGoes_7 20 rfl rfl)
theorem dX10_dayGoes_187 : decode cX10_dayGoes 187 = .ok (.iconst 4, 1) := dk_7 (dk_at dksX10_dayGoes_7 21 rfl rfl)
theorem dX10_dayGoes_188 : decode cX10_dayGoes 188 = .ok (.if_icmp .ge 21, 3) := dk_162 0 21 (dk_at dksX10_dayGoes_8 0 rfl rfl)
theorem dX10_dayGoes_191 : decode cX10_dayGoes 191 = .ok (.aload_n 0, 1) := dk_42 (dk_at dksX10_dayGoes_8 3 rfl rfl)
theorem dX10_dayGoes_192 : decode cX10_dayGoes 192 = .ok (.getfield 125, 3) := dk_180 0 125 (dk_at dksX10_dayGoes_8 4 rfl rfl)
theorem dX10_dayGoes_195 : decode cX10_dayGoes 195 = .ok (.iload_n 3, 1) := dk_29 (dk_at dksX10_dayGoes_8 7 rfl rfl)
theorem dX10_dayGoes_196 : decode cX10_dayGoes 196 = .ok (.aload_n 0, 1) := dk_42 (dk_at dksX10_dayGoes_8 8 rfl rfl)
theorem dX10_dayGoes_197 : decode cX10_dayGoes 197 = .ok (.iload_n 2, 1) := dk_28 (dk_at dksX10_dayGoes_8 9 rfl rfl)
theorem dX10_dayGoes_198 : decode cX10_dayGoes 198 = .ok (.iload_n 3, 1) := dk_29 (dk_at dksX10_dayGoes_8 10 rfl rfl)
theorem dX10_dayGoes_199 : decode cX10_dayGoes 199 = .ok (.invokevirtual 381, 3) := dk_182 1 125 (dk_at dksX10_dayGoes_8 11 rfl rfl)
theorem dX10_dayGoes_202 : decode cX10_dayGoes 202 = .ok (.iastore, 1) := dk_79 (dk_at dksX10_dayGoes_8 14 rfl rfl)
theorem dX10_dayGoes_203 : decode cX10_dayGoes 203 = .ok (.iinc 3 1, 3) := dk_132 3 1 (dk_at dksX10_dayGoes_8 15 rfl rfl)
theorem dX10_dayGoes_206 : decode cX10_dayGoes 206 = .ok (.goto (-20), 3) := dk_167 255 236 (dk_at dksX10_dayGoes_8 18 rfl rfl)
theorem dX10_dayGoes_209 : decode cX10_dayGoes 209 = .ok (.iconst 0, 1) := dk_3 (dk_at dksX10_dayGoes_8 21 rfl rfl)
theorem dX10_dayGoes_210 : decode cX10_dayGoes 210 = .ok (.istore_n 3, 1) := dk_62 (dk_at dksX10_dayGoes_8 22 rfl rfl)
theorem dX10_dayGoes_211 : decode cX10_dayGoes 211 = .ok (.iload_n 3, 1) := dk_29 (dk_at dksX10_dayGoes_8 23 rfl rfl)
theorem dX10_dayGoes_212 : decode cX10_dayGoes 212 = .ok (.iconst 4, 1) := dk_7 (dk_at dksX10_dayGoes_9 0 rfl rfl)
theorem dX10_dayGoes_213 : decode cX10_dayGoes 213 = .ok (.if_icmp .ge 44, 3) := dk_162 0 44 (dk_at dksX10_dayGoes_9 1 rfl rfl)
theorem dX10_dayGoes_216 : decode cX10_dayGoes 216 = .ok (.aload_n 0, 1) := dk_42 (dk_at dksX10_dayGoes_9 4 rfl rfl)
theorem dX10_dayGoes_217 : decode cX10_dayGoes 217 = .ok (.getfield 122, 3) := dk_180 0 122 (dk_at dksX10_dayGoes_9 5 rfl rfl)
theorem dX10_dayGoes_220 : decode cX10_dayGoes 220 = .ok (.iconst 4, 1) := dk_7 (dk_at dksX10_dayGoes_9 8 rfl rfl)
theorem dX10_dayGoes_221 : decode cX10_dayGoes 221 = .ok (.iload_n 2, 1) := dk_28 (dk_at dksX10_dayGoes_9 9 rfl rfl)
theorem dX10_dayGoes_222 : decode cX10_dayGoes 222 = .ok (.imul, 1) := dk_104 (dk_at dksX10_dayGoes_9 10 rfl rfl)
theorem dX10_dayGoes_223 : decode cX10_dayGoes 223 = .ok (.iload_n 3, 1) := dk_29 (dk_at dksX10_dayGoes_9 11 rfl rfl)
theorem dX10_dayGoes_224 : decode cX10_dayGoes 224 = .ok (.iadd, 1) := dk_96 (dk_at dksX10_dayGoes_9 12 rfl rfl)
theorem dX10_dayGoes_225 : decode cX10_dayGoes 225 = .ok (.aload_n 0, 1) := dk_42 (dk_at dksX10_dayGoes_9 13 rfl rfl)
theorem dX10_dayGoes_226 : decode cX10_dayGoes 226 = .ok (.getfield 122, 3) := dk_180 0 122 (dk_at dksX10_dayGoes_9 14 rfl rfl)
theorem dX10_dayGoes_229 : decode cX10_dayGoes 229 = .ok (.iconst 4, 1) := dk_7 (dk_at dksX10_dayGoes_9 17 rfl rfl)
theorem dX10_dayGoes_230 : decode cX10_dayGoes 230 = .ok (.iload_n 2, 1) := dk_28 (dk_at dksX10_dayGoes_9 18 rfl rfl)
theorem dX10_dayGoes_231 : decode cX10_dayGoes 231 = .ok (.imul, 1) := dk_104 (dk_at dksX10_dayGoes_9 19 rfl rfl)
theorem dX10_dayGoes_232 : decode cX10_dayGoes 232 = .ok (.iload_n 3, 1) := dk_29 (dk_at dksX10_dayGoes_9 20 rfl rfl)
theorem dX10_dayGoes_233 : decode cX10_dayGoes 233 = .ok (.iadd, 1) := dk_96 (dk_at dksX10_dayGoes_9 21 rfl rfl)
theorem dX10_dayGoes_234 : decode cX10_dayGoes 234 = .ok (.iaload, 1) := dk_46 (dk_at dksX10_dayGoes_9 22 rfl rfl)
theorem dX10_dayGoes_235 : decode cX10_dayGoes 235 = .ok (.aload_n 0, 1) := dk_42 (dk_at dksX10_dayGoes_9 23 rfl rfl)
theorem dX10_dayGoes_236 : decode cX10_dayGoes 236 = .ok (.iload_n 2, 1) := dk_28 (dk_at dksX10_dayGoes_10 0 rfl rfl)
theorem dX10_dayGoes_237 : decode cX10_dayGoes 237 = .ok (.iload_n 3, 1) := dk_29 (dk_at dksX10_dayGoes_10 1 rfl rfl)
theorem dX10_dayGoes_238 : decode cX10_dayGoes 238 = .ok (.invokevirtual 339, 3) := dk_182 1 83 (dk_at dksX10_dayGoes_10 2 rfl rfl)
theorem dX10_dayGoes_241 : decode cX10_dayGoes 241 = .ok (.aload_n 0, 1) := dk_42 (dk_at dksX10_dayGoes_10 5 rfl rfl)
theorem dX10_dayGoes_242 : decode cX10_dayGoes 242 = .ok (.getfield 125, 3) := dk_180 0 125 (dk_at dksX10_dayGoes_10 6 rfl rfl)
theorem dX10_dayGoes_245 : decode cX10_dayGoes 245 = .ok (.iload_n 3, 1) := dk_29 (dk_at dksX10_dayGoes_10 9 rfl rfl)
theorem dX10_dayGoes_246 : decode cX10_dayGoes 246 = .ok (.iaload, 1) := dk_46 (dk_at dksX10_dayGoes_10 10 rfl rfl)
theorem dX10_dayGoes_247 : decode cX10_dayGoes 247 = .ok (.invokestatic 366, 3) := dk_184 1 110 (dk_at dksX10_dayGoes_10 11 rfl rfl)
theorem dX10_dayGoes_250 : decode cX10_dayGoes 250 = .ok (.iastore, 1) := dk_79 (dk_at dksX10_dayGoes_10 14 rfl rfl)
theorem dX10_dayGoes_251 : decode cX10_dayGoes 251 = .ok (.iinc 3 1, 3) := dk_132 3 1 (dk_at dksX10_dayGoes_10 15 rfl rfl)
theorem dX10_dayGoes_254 : decode cX10_dayGoes 254 = .ok (.goto (-43), 3) := dk_167 255 213 (dk_at dksX10_dayGoes_10 18 rfl rfl)
theorem dX10_dayGoes_257 : decode cX10_dayGoes 257 = .ok (.iinc 2 1, 3) := dk_132 2 1 (dk_at dksX10_dayGoes_10 21 rfl rfl)
theorem dX10_dayGoes_260 : decode cX10_dayGoes 260 = .ok (.goto (-89), 3) := dk_167 255 167 (dk_at dksX10_dayGoes_11 0 rfl rfl)
theorem dX10_dayGoes_263 : decode cX10_dayGoes 263 = .ok (.iconst 0, 1) := dk_3 (dk_at dksX10_dayGoes_11 3 rfl rfl)
theorem dX10_dayGoes_264 : decode cX10_dayGoes 264 = .ok (.istore_n 2, 1) := dk_61 (dk_at dksX10_dayGoes_11 4 rfl rfl)
theorem dX10_dayGoes_265 : decode cX10_dayGoes 265 = .ok (.iload_n 2, 1) := dk_28 (dk_at dksX10_dayGoes_11 5 rfl rfl)
theorem dX10_dayGoes_266 : decode cX10_dayGoes 266 = .ok (.aload_n 0, 1) := dk_42 (dk_at dksX10_dayGoes_11 6 rfl rfl)
theorem dX10_dayGoes_267 : decode cX10_dayGoes 267 = .ok (.getfield 46, 3) := dk_180 0 46 (dk_at dksX10_dayGoes_11 7 rfl rfl)
theorem dX10_dayGoes_270 : decode cX10_dayGoes 270 = .ok (.aload_n 0, 1) := dk_42 (dk_at dksX10_dayGoes_11 10 rfl rfl)
theorem dX10_dayGoes_271 : decode cX10_dayGoes 271 = .ok (.getfield 233, 3) := dk_180 0 233 (dk_at dksX10_dayGoes_11 11 rfl rfl)
theorem dX10_dayGoes_274 : decode cX10_dayGoes 274 = .ok (.iaload, 1) := dk_46 (dk_at dksX10_dayGoes_11 14 rfl rfl)
theorem dX10_dayGoes_275 : decode cX10_dayGoes 275 = .ok (.if_icmp .ge 63, 3) := dk_162 0 63 (dk_at dksX10_dayGoes_11 15 rfl rfl)
theorem dX10_dayGoes_278 : decode cX10_dayGoes 278 = .ok (.aload_n 0, 1) := dk_42 (dk_at dksX10_dayGoes_11 18 rfl rfl)
theorem dX10_dayGoes_279 : decode cX10_dayGoes 279 = .ok (.getfield 122, 3) := dk_180 0 122 (dk_at dksX10_dayGoes_11 19 rfl rfl)
theorem dX10_dayGoes_282 : decode cX10_dayGoes 282 = .ok (.bipush 30, 2) := dk_16 30 (dk_at dksX10_dayGoes_11 22 rfl rfl)
theorem dX10_dayGoes_284 : decode cX10_dayGoes 284 = .ok (.iload_n 2, 1) := dk_28 (dk_at dksX10_dayGoes_12 0 rfl rfl)
theorem dX10_dayGoes_285 : decode cX10_dayGoes 285 = .ok (.iadd, 1) := dk_96 (dk_at dksX10_dayGoes_12 1 rfl rfl)
theorem dX10_dayGoes_286 : decode cX10_dayGoes 286 = .ok (.aload_n 0, 1) := dk_42 (dk_at dksX10_dayGoes_12 2 rfl rfl)
theorem dX10_dayGoes_287 : decode cX10_dayGoes 287 = .ok (.getfield 122, 3) := dk_180 0 122 (dk_at dksX10_dayGoes_12 3 rfl rfl)
theorem dX10_dayGoes_290 : decode cX10_dayGoes 290 = .ok (.bipush 48, 2) := dk_16 48 (dk_at dksX10_dayGoes_12 6 rfl rfl)
theorem dX10_dayGoes_292 : decode cX10_dayGoes 292 = .ok (.iload_n 2, 1) := dk_28 (dk_at dksX10_dayGoes_12 8 rfl rfl)
theorem dX10_dayGoes_293 : decode cX10_dayGoes 293 = .ok (.iadd, 1) := dk_96 (dk_at dksX10_dayGoes_12 9 rfl rfl)
theorem dX10_dayGoes_294 : decode cX10_dayGoes 294 = .ok (.iaload, 1) := dk_46 (dk_at dksX10_dayGoes_12 10 rfl rfl)
theorem dX10_dayGoes_295 : decode cX10_dayGoes 295 = .ok (.iconst 1, 1) := dk_4 (dk_at dksX10_dayGoes_12 11 rfl rfl)
theorem dX10_dayGoes_296 : decode cX10_dayGoes 296 = .ok (.if_icmp .ne 7, 3) := dk_160 0 7 (dk_at dksX10_dayGoes_12 12 rfl rfl)
theorem dX10_dayGoes_299 : decode cX10_dayGoes 299 = .ok (.iconst 0, 1) := dk_3 (dk_at dksX10_dayGoes_12 15 rfl rfl)
theorem dX10_dayGoes_300 : decode cX10_dayGoes 300 = .ok (.goto 21, 3) := dk_167 0 21 (dk_at dksX10_dayGoes_12 16 rfl rfl)
theorem dX10_dayGoes_303 : decode cX10_dayGoes 303 = .ok (.aload_n 0, 1) := dk_42 (dk_at dksX10_dayGoes_12 19 rfl rfl)
theorem dX10_dayGoes_304 : decode cX10_dayGoes 304 = .ok (.getfield 122, 3) := dk_180 0 122 (dk_at dksX10_dayGoes_12 20 rfl rfl)
theorem dX10_dayGoes_307 : decode cX10_dayGoes 307 = .ok (.bipush 30, 2) := dk_16 30 (dk_at dksX10_dayGoes_13 0 rfl rfl)
theorem dX10_dayGoes_309 : decode cX10_dayGoes 309 = .ok (.iload_n 2, 1) := dk_28 (dk_at dksX10_dayGoes_13 2 rfl rfl)
theorem dX10_dayGoes_310 : decode cX10_dayGoes 310 = .ok (.iadd, 1) := dk_96 (dk_at dksX10_dayGoes_13 3 rfl rfl)
theorem dX10_dayGoes_311 : decode cX10_dayGoes 311 = .ok (.iaload, 1) := dk_46 (dk_at dksX10_dayGoes_13 4 rfl rfl)
theorem dX10_dayGoes_312 : decode cX10_dayGoes 312 = .ok (.iconst 1, 1) := dk_4 (dk_at dksX10_dayGoes_13 5 rfl rfl)
theorem dX10_dayGoes_313 : decode cX10_dayGoes 313 = .ok (.iadd, 1) := dk_96 (dk_at dksX10_dayGoes_13 6 rfl rfl)
theorem dX10_dayGoes_314 : decode cX10_dayGoes 314 = .ok (.iconst 0, 1) := dk_3 (dk_at dksX10_dayGoes_13 7 rfl rfl)
theorem dX10_dayGoes_315 : decode cX10_dayGoes 315 = .ok (.sipush 999, 3) := dk_17 3 231 (dk_at dksX10_dayGoes_13 8 rfl rfl)
theorem dX10_dayGoes_318 : decode cX10_dayGoes 318 = .ok (.invokestatic 354, 3) := dk_184 1 98 (dk_at dksX10_dayGoes_13 11 rfl rfl)
theorem dX10_dayGoes_321 : decode cX10_dayGoes 321 = .ok (.iastore, 1) := dk_79 (dk_at dksX10_dayGoes_13 14 rfl rfl)
theorem dX10_dayGoes_322 : decode cX10_dayGoes 322 = .ok (.aload_n 0, 1) := dk_42 (dk_at dksX10_dayGoes_13 15 rfl rfl)
theorem dX10_dayGoes_323 : decode cX10_dayGoes 323 = .ok (.getfield 122, 3) := dk_180 0 122 (dk_at dksX10_dayGoes_13 16 rfl rfl)
theorem dX10_dayGoes_326 : decode cX10_dayGoes 326 = .ok (.bipush 48, 2) := dk_16 48 (dk_at dksX10_dayGoes_13 19 rfl rfl)
theorem dX10_dayGoes_328 : decode cX10_dayGoes 328 = .ok (.iload_n 2, 1) := dk_28 (dk_at dksX10_dayGoes_13 21 rfl rfl)
theorem dX10_dayGoes_329 : decode cX10_dayGoes 329 = .ok (.iadd, 1) := dk_96 (dk_at dksX10_dayGoes_13 22 rfl rfl)
theorem dX10_dayGoes_330 : decode cX10_dayGoes 330 = .ok (.iconst 0, 1) := dk_3 (dk_at dksX10_dayGoes_13 23 rfl rfl)
theorem dX10_dayGoes_331 : decode cX10_dayGoes 331 = .ok (.iastore, 1) := dk_79 (dk_at dksX10_dayGoes_14 0 rfl rfl)
theorem dX10_dayGoes_332 : decode cX10_dayGoes 332 = .ok (.iinc 2 1, 3) := dk_132 2 1 (dk_at dksX10_dayGoes_14 1 rfl rfl)
theorem dX10_dayGoes_335 : decode cX10_dayGoes 335 = .ok (.goto (-70), 3) := dk_167 255 186 (dk_at dksX10_dayGoes_14 4 rfl rfl)
theorem dX10_dayGoes_338 : decode cX10_dayGoes 338 = .ok (.aload_n 0, 1) := dk_42 (dk_at dksX10_dayGoes_14 7 rfl rfl)
theorem dX10_dayGoes_339 : decode cX10_dayGoes 339 = .ok (.getfield 122, 3) := dk_180 0 122 (dk_at dksX10_dayGoes_14 8 rfl rfl)
theorem dX10_dayGoes_342 : decode cX10_dayGoes 342 = .ok (.bipush 69, 2) := dk_16 69 (dk_at dksX10_dayGoes_14 11 rfl rfl)
theorem dX10_dayGoes_344 : decode cX10_dayGoes 344 = .ok (.dup2, 1) := dk_92 (dk_at dksX10_dayGoes_14 13 rfl rfl)
theorem dX10_dayGoes_345 : decode cX10_dayGoes 345 = .ok (.iaload, 1) := dk_46 (dk_at dksX10_dayGoes_14 14 rfl rfl)
theorem dX10_dayGoes_346 : decode cX10_dayGoes 346 = .ok (.iconst 1, 1) := dk_4 (dk_at dksX10_dayGoes_14 15 rfl rfl)
theorem dX10_dayGoes_347 : decode cX10_dayGoes 347 = .ok (.iadd, 1) := dk_96 (dk_at dksX10_dayGoes_14 16 rfl rfl)
theorem dX10_dayGoes_348 : decode cX10_dayGoes 348 = .ok (.iastore, 1) := dk_79 (dk_at dksX10_dayGoes_14 17 rfl rfl)
theorem dX10_dayGoes_349 : decode cX10_dayGoes 349 = .ok (.return_, 1) := dk_177 (dk_at dksX10_dayGoes_14 18 rfl rfl)
abbrev cX10_isWind : ByteArray := prog_21_method_50_code
def yX10_isWind : MethodName := ⟨RX10, "isWind", "()Z"⟩
def dkwX10_isWind_1 : List UInt8 := [46, 162, 0, 7, 4, 167, 0, 4, 3, 172]
abbrev dktX10_isWind_1 : List UInt8 := dkwX10_isWind_1 ++ []
def dkwX10_isWind_0 : List UInt8 := [42, 16, 16, 42, 180, 0, 122, 16, 69, 46, 104, 16, 100, 182, 1, 74, 42, 180, 0, 73, 42, 180, 0, 233]
abbrev dktX10_isWind_0 : List UInt8 := dkwX10_isWind_0 ++ dktX10_isWind_1
theorem dksX10_isWind_0 : cX10_isWind.data.toList.drop 0 = dktX10_isWind_0 := by decide +kernel
theorem dksX10_isWind_1 : cX10_isWind.data.toList.drop 24 = dktX10_isWind_1 := dk_seg dksX10_isWind_0 24 rfl rfl
theorem dX10_isWind_0 : decode cX10_isWind 0 = .ok (.aload_n 0, 1) := dk_42 (dk_at dksX10_isWind_0 0 rfl rfl)
theorem dX10_isWind_1 : decode cX10_isWind 1 = .ok (.bipush 16, 2) := dk_16 16 (dk_at dksX10_isWind_0 1 rfl rfl)
theorem dX10_isWind_3 : decode cX10_isWind 3 = .ok (.aload_n 0, 1) := dk_42 (dk_at dksX10_isWind_0 3 rfl rfl)
theorem dX10_isWind_4 : decode cX10_isWind 4 = .ok (.getfield 122, 3) := dk_180 0 122 (dk_at dksX10_isWind_0 4 rfl rfl)
theorem dX10_isWind_7 : decode cX10_isWind 7 = .ok (.bipush 69, 2) := dk_16 69 (dk_at dksX10_isWind_0 7 rfl rfl)
theorem dX10_isWind_9 : decode cX10_isWind 9 = .ok (.iaload, 1) := dk_46 (dk_at dksX10_isWind_0 9 rfl rfl)
theorem dX10_isWind_10 : decode cX10_isWind 10 = .ok (.imul, 1) := dk_104 (dk_at dksX10_isWind_0 10 rfl rfl)
theorem dX10_isWind_11 : decode cX10_isWind 11 = .ok (.bipush 100, 2) := dk_16 100 (dk_at dksX10_isWind_0 11 rfl rfl)
theorem dX10_isWind_13 : decode cX10_isWind 13 = .ok (.invokevirtual 330, 3) := dk_182 1 74 (dk_at dksX10_isWind_0 13 rfl rfl)
theorem dX10_isWind_16 : decode cX10_isWind 16 = .ok (.aload_n 0, 1) := dk_42 (dk_at dksX10_isWind_0 16 rfl rfl)
theorem dX10_isWind_17 : decode cX10_isWind 17 = .ok (.getfield 73, 3) := dk_180 0 73 (dk_at dksX10_isWind_0 17 rfl rfl)
theorem dX10_isWind_20 : decode cX10_isWind 20 = .ok (.aload_n 0, 1) := dk_42 (dk_at dksX10_isWind_0 20 rfl rfl)
theorem dX10_isWind_21 : decode cX10_isWind 21 = .ok (.getfield 233, 3) := dk_180 0 233 (dk_at dksX10_isWind_0 21 rfl rfl)
theorem dX10_isWind_24 : decode cX10_isWind 24 = .ok (.iaload, 1) := dk_46 (dk_at dksX10_isWind_1 0 rfl rfl)
theorem dX10_isWind_25 : decode cX10_isWind 25 = .ok (.if_icmp .ge 7, 3) := dk_162 0 7 (dk_at dksX10_isWind_1 1 rfl rfl)
theorem dX10_isWind_28 : decode cX10_isWind 28 = .ok (.iconst 1, 1) := dk_4 (dk_at dksX10_isWind_1 4 rfl rfl)
theorem dX10_isWind_29 : decode cX10_isWind 29 = .ok (.goto 4, 3) := dk_167 0 4 (dk_at dksX10_isWind_1 5 rfl rfl)
theorem dX10_isWind_32 : decode cX10_isWind 32 = .ok (.iconst 0, 1) := dk_3 (dk_at dksX10_isWind_1 8 rfl rfl)
theorem dX10_isWind_33 : decode cX10_isWind 33 = .ok (.ireturn, 1) := dk_172 (dk_at dksX10_isWind_1 9 rfl rfl)
abbrev cX10_lotOf : ByteArray := prog_21_method_49_code
def yX10_lotOf : MethodName := ⟨RX10, "lotOf", "(II)I"⟩
def dkwX10_lotOf_0 : List UInt8 := [42, 180, 1, 61, 17, 0, 151, 184, 1, 71, 27, 184, 1, 71, 4, 124, 28, 112, 172]
abbrev dktX10_lotOf_0 : List UInt8 := dkwX10_lotOf_0 ++ []
theorem dksX10_lotOf_0 : cX10_lotOf.data.toList.drop 0 = dktX10_lotOf_0 := by decide +kernel
theorem dX10_lotOf_0 : decode cX10_lotOf 0 = .ok (.aload_n 0, 1) := dk_42 (dk_at dksX10_lotOf_0 0 rfl rfl)
theorem dX10_lotOf_1 : decode cX10_lotOf 1 = .ok (.getfield 317, 3) := dk_180 1 61 (dk_at dksX10_lotOf_0 1 rfl rfl)
theorem dX10_lotOf_4 : decode cX10_lotOf 4 = .ok (.sipush 151, 3) := dk_17 0 151 (dk_at dksX10_lotOf_0 4 rfl rfl)
theorem dX10_lotOf_7 : decode cX10_lotOf 7 = .ok (.invokestatic 327, 3) := dk_184 1 71 (dk_at dksX10_lotOf_0 7 rfl rfl)
theorem dX10_lotOf_10 : decode cX10_lotOf 10 = .ok (.iload_n 1, 1) := dk_27 (dk_at dksX10_lotOf_0 10 rfl rfl)
theorem dX10_lotOf_11 : decode cX10_lotOf 11 = .ok (.invokestatic 327, 3) := dk_184 1 71 (dk_at dksX10_lotOf_0 11 rfl rfl)
theorem dX10_lotOf_14 : decode cX10_lotOf 14 = .ok (.iconst 1, 1) := dk_4 (dk_at dksX10_lotOf_0 14 rfl rfl)
theorem dX10_lotOf_15 : decode cX10_lotOf 15 = .ok (.iushr, 1) := dk_124 (dk_at dksX10_lotOf_0 15 rfl rfl)
theorem dX10_lotOf_16 : decode cX10_lotOf 16 = .ok (.iload_n 2, 1) := dk_28 (dk_at dksX10_lotOf_0 16 rfl rfl)
theorem dX10_lotOf_17 : decode cX10_lotOf 17 = .ok (.irem, 1) := dk_112 (dk_at dksX10_lotOf_0 17 rfl rfl)
theorem dX10_lotOf_18 : decode cX10_lotOf 18 = .ok (.ireturn, 1) := dk_172 (dk_at dksX10_lotOf_0 18 rfl rfl)
abbrev cX10_mixed : ByteArray := prog_21_method_48_code
def yX10_mixed : MethodName := ⟨RX10, "mixed", "(II)I"⟩
def dkwX10_mixed_0 : List UInt8 := [26, 27, 130, 19, 1, 70, 104, 17, 48, 57, 96, 61, 28, 28, 16, 15, 124, 130, 172]
abbrev dktX10_mixed_0 : List UInt8 := dkwX10_mixed_0 ++ []
theorem dksX10_mixed_0 : cX10_mixed.data.toList.drop 0 = dktX10_mixed_0 := by decide +kernel
theorem dX10_mixed_0 : decode cX10_mixed 0 = .ok (.iload_n 0, 1) := dk_26 (dk_at dksX10_mixed_0 0 rfl rfl)
theorem dX10_mixed_1 : decode cX10_mixed 1 = .ok (.iload_n 1, 1) := dk_27 (dk_at dksX10_mixed_0 1 rfl rfl)
theorem dX10_mixed_2 : decode cX10_mixed 2 = .ok (.ixor, 1) := dk_130 (dk_at dksX10_mixed_0 2 rfl rfl)
theorem dX10_mixed_3 : decode cX10_mixed 3 = .ok (.ldc_w 326, 3) := dk_19 1 70 (dk_at dksX10_mixed_0 3 rfl rfl)
theorem dX10_mixed_6 : decode cX10_mixed 6 = .ok (.imul, 1) := dk_104 (dk_at dksX10_mixed_0 6 rfl rfl)
theorem dX10_mixed_7 : decode cX10_mixed 7 = .ok (.sipush 12345, 3) := dk_17 48 57 (dk_at dksX10_mixed_0 7 rfl rfl)
theorem dX10_mixed_10 : decode cX10_mixed 10 = .ok (.iadd, 1) := dk_96 (dk_at dksX10_mixed_0 10 rfl rfl)
theorem dX10_mixed_11 : decode cX10_mixed 11 = .ok (.istore_n 2, 1) := dk_61 (dk_at dksX10_mixed_0 11 rfl rfl)
theorem dX10_mixed_12 : decode cX10_mixed 12 = .ok (.iload_n 2, 1) := dk_28 (dk_at dksX10_mixed_0 12 rfl rfl)
theorem dX10_mixed_13 : decode cX10_mixed 13 = .ok (.iload_n 2, 1) := dk_28 (dk_at dksX10_mixed_0 13 rfl rfl)
theorem dX10_mixed_14 : decode cX10_mixed 14 = .ok (.bipush 15, 2) := dk_16 15 (dk_at dksX10_mixed_0 14 rfl rfl)
theorem dX10_mixed_16 : decode cX10_mixed 16 = .ok (.iushr, 1) := dk_124 (dk_at dksX10_mixed_0 16 rfl rfl)
theorem dX10_mixed_17 : decode cX10_mixed 17 = .ok (.ixor, 1) := dk_130 (dk_at dksX10_mixed_0 17 rfl rfl)
theorem dX10_mixed_18 : decode cX10_mixed 18 = .ok (.ireturn, 1) := dk_172 (dk_at dksX10_mixed_0 18 rfl rfl)
abbrev cX10_wearsOf : ByteArray := prog_21_method_60_code
def yX10_wearsOf : MethodName := ⟨RX10, "wearsOf", "(II)I"⟩
def dkwX10_wearsOf_2 : List UInt8 := [180, 0, 113, 16, 7, 27, 79, 42, 4, 3, 182, 1, 95, 3, 29, 184, 1, 98, 172]
abbrev dktX10_wearsOf_2 : List UInt8 := dkwX10_wearsOf_2 ++ []
def dkwX10_wearsOf_1 : List UInt8 := [184, 1, 80, 62, 42, 180, 0, 113, 3, 29, 79, 42, 180, 0, 113, 16, 6, 42, 27, 182, 1, 101, 79, 42]
abbrev dktX10_wearsOf_1 : List UInt8 := dkwX10_wearsOf_1 ++ dktX10_wearsOf_2
def dkwX10_wearsOf_0 : List UInt8 := [42, 27, 28, 182, 1, 92, 42, 180, 0, 122, 7, 27, 104, 28, 96, 46, 42, 27, 28, 182, 1, 83]
abbrev dktX10_wearsOf_0 : List UInt8 := dkwX10_wearsOf_0 ++ dktX10_wearsOf_1
theorem dksX10_wearsOf_0 : cX10_wearsOf.data.toList.drop 0 = dktX10_wearsOf_0 := by decide +kernel
theorem dksX10_wearsOf_1 : cX10_wearsOf.data.toList.drop 22 = dktX10_wearsOf_1 := dk_seg dksX10_wearsOf_0 22 rfl rfl
theorem dksX10_wearsOf_2 : cX10_wearsOf.data.toList.drop 46 = dktX10_wearsOf_2 := dk_seg dksX10_wearsOf_1 24 rfl rfl
theorem dX10_wearsOf_0 : decode cX10_wearsOf 0 = .ok (.aload_n 0, 1) := dk_42 (dk_at dksX10_wearsOf_0 0 rfl rfl)
theorem dX10_wearsOf_1 : decode cX10_wearsOf 1 = .ok (.iload_n 1, 1) := dk_27 (dk_at dksX10_wearsOf_0 1 rfl rfl)
theorem dX10_wearsOf_2 : decode cX10_wearsOf 2 = .ok (.iload_n 2, 1) := dk_28 (dk_at dksX10_wearsOf_0 2 rfl rfl)
theorem dX10_wearsOf_3 : decode cX10_wearsOf 3 = .ok (.invokevirtual 348, 3) := dk_182 1 92 (dk_at dksX10_wearsOf_0 3 rfl rfl)
theorem dX10_wearsOf_6 : decode cX10_wearsOf 6 = .ok (.aload_n 0, 1) := dk_42 (dk_at dksX10_wearsOf_0 6 rfl rfl)
theorem dX10_wearsOf_7 : decode cX10_wearsOf 7 = .ok (.getfield 122, 3) := dk_180 0 122 (dk_at dksX10_wearsOf_0 7 rfl rfl)
theorem dX10_wearsOf_10 : decode cX10_wearsOf 10 = .ok (.iconst 4, 1) := dk_7 (dk_at dksX10_wearsOf_0 10 rfl rfl)
theorem dX10_wearsOf_11 : decode cX10_wearsOf 11 = .ok (.iload_n 1, 1) := dk_27 (dk_at dksX10_wearsOf_0 11 rfl rfl)
theorem dX10_wearsOf_12 : decode cX10_wearsOf 12 = .ok (.imul, 1) := dk_104 (dk_at dksX10_wearsOf_0 12 rfl rfl)
theorem dX10_wearsOf_13 : decode cX10_wearsOf 13 = .ok (.iload_n 2, 1) := dk_28 (dk_at dksX10_wearsOf_0 13 rfl rfl)
theorem dX10_wearsOf_14 : decode cX10_wearsOf 14 = .ok (.iadd, 1) := dk_96 (dk_at dksX10_wearsOf_0 14 rfl rfl)
theorem dX10_wearsOf_15 : decode cX10_wearsOf 15 = .ok (.iaload, 1) := dk_46 (dk_at dksX10_wearsOf_0 15 rfl rfl)
theorem dX10_wearsOf_16 : decode cX10_wearsOf 16 = .ok (.aload_n 0, 1) := dk_42 (dk_at dksX10_wearsOf_0 16 rfl rfl)
theorem dX10_wearsOf_17 : decode cX10_wearsOf 17 = .ok (.iload_n 1, 1) := dk_27 (dk_at dksX10_wearsOf_0 17 rfl rfl)
theorem dX10_wearsOf_18 : decode cX10_wearsOf 18 = .ok (.iload_n 2, 1) := dk_28 (dk_at dksX10_wearsOf_0 18 rfl rfl)
theorem dX10_wearsOf_19 : decode cX10_wearsOf 19 = .ok (.invokevirtual 339, 3) := dk_182 1 83 (dk_at dksX10_wearsOf_0 19 rfl rfl)
theorem dX10_wearsOf_22 : decode cX10_wearsOf 22 = .ok (.invokestatic 336, 3) := dk_184 1 80 (dk_at dksX10_wearsOf_1 0 rfl rfl)
theorem dX10_wearsOf_25 : decode cX10_wearsOf 25 = .ok (.istore_n 3, 1) := dk_62 (dk_at dksX10_wearsOf_1 3 rfl rfl)
theorem dX10_wearsOf_26 : decode cX10_wearsOf 26 = .ok (.aload_n 0, 1) := dk_42 (dk_at dksX10_wearsOf_1 4 rfl rfl)
theorem dX10_wearsOf_27 : decode cX10_wearsOf 27 = .ok (.getfield 113, 3) := dk_180 0 113 (dk_at dksX10_wearsOf_1 5 rfl rfl)
theorem dX10_wearsOf_30 : decode cX10_wearsOf 30 = .ok (.iconst 0, 1) := dk_3 (dk_at dksX10_wearsOf_1 8 rfl rfl)
theorem dX10_wearsOf_31 : decode cX10_wearsOf 31 = .ok (.iload_n 3, 1) := dk_29 (dk_at dksX10_wearsOf_1 9 rfl rfl)
theorem dX10_wearsOf_32 : decode cX10_wearsOf 32 = .ok (.iastore, 1) := dk_79 (dk_at dksX10_wearsOf_1 10 rfl rfl)
theorem dX10_wearsOf_33 : decode cX10_wearsOf 33 = .ok (.aload_n 0, 1) := dk_42 (dk_at dksX10_wearsOf_1 11 rfl rfl)
theorem dX10_wearsOf_34 : decode cX10_wearsOf 34 = .ok (.getfield 113, 3) := dk_180 0 113 (dk_at dksX10_wearsOf_1 12 rfl rfl)
theorem dX10_wearsOf_37 : decode cX10_wearsOf 37 = .ok (.bipush 6, 2) := dk_16 6 (dk_at dksX10_wearsOf_1 15 rfl rfl)
theorem dX10_wearsOf_39 : decode cX10_wearsOf 39 = .ok (.aload_n 0, 1) := dk_42 (dk_at dksX10_wearsOf_1 17 rfl rfl)
theorem dX10_wearsOf_40 : decode cX10_wearsOf 40 = .ok (.iload_n 1, 1) := dk_27 (dk_at dksX10_wearsOf_1 18 rfl rfl)
theorem dX10_wearsOf_41 : decode cX10_wearsOf 41 = .ok (.invokevirtual 357, 3) := dk_182 1 101 (dk_at dksX10_wearsOf_1 19 rfl rfl)
theorem dX10_wearsOf_44 : decode cX10_wearsOf 44 = .ok (.iastore, 1) := dk_79 (dk_at dksX10_wearsOf_1 22 rfl rfl)
theorem dX10_wearsOf_45 : decode cX10_wearsOf 45 = .ok (.aload_n 0, 1) := dk_42 (dk_at dksX10_wearsOf_1 23 rfl rfl)
theorem dX10_wearsOf_46 : decode cX10_wearsOf 46 = .ok (.getfield 113, 3) := dk_180 0 113 (dk_at dksX10_wearsOf_2 0 rfl rfl)
theorem dX10_wearsOf_49 : decode cX10_wearsOf 49 = .ok (.bipush 7, 2) := dk_16 7 (dk_at dksX10_wearsOf_2 3 rfl rfl)
theorem dX10_wearsOf_51 : decode cX10_wearsOf 51 = .ok (.iload_n 1, 1) := dk_27 (dk_at dksX10_wearsOf_2 5 rfl rfl)
theorem dX10_wearsOf_52 : decode cX10_wearsOf 52 = .ok (.iastore, 1) := dk_79 (dk_at dksX10_wearsOf_2 6 rfl rfl)
theorem dX10_wearsOf_53 : decode cX10_wearsOf 53 = .ok (.aload_n 0, 1) := dk_42 (dk_at dksX10_wearsOf_2 7 rfl rfl)
theorem dX10_wearsOf_54 : decode cX10_wearsOf 54 = .ok (.iconst 1, 1) := dk_4 (dk_at dksX10_wearsOf_2 8 rfl rfl)
theorem dX10_wearsOf_55 : decode cX10_wearsOf 55 = .ok (.iconst 0, 1) := dk_3 (dk_at dksX10_wearsOf_2 9 rfl rfl)
theorem dX10_wearsOf_56 : decode cX10_wearsOf 56 = .ok (.invokevirtual 351, 3) := dk_182 1 95 (dk_at dksX10_wearsOf_2 10 rfl rfl)
theorem dX10_wearsOf_59 : decode cX10_wearsOf 59 = .ok (.iconst 0, 1) := dk_3 (dk_at dksX10_wearsOf_2 13 rfl rfl)
theorem dX10_wearsOf_60 : decode cX10_wearsOf 60 = .ok (.iload_n 3, 1) := dk_29 (dk_at dksX10_wearsOf_2 14 rfl rfl)
theorem dX10_wearsOf_61 : decode cX10_wearsOf 61 = .ok (.invokestatic 354, 3) := dk_184 1 98 (dk_at dksX10_wearsOf_2 15 rfl rfl)
theorem dX10_wearsOf_64 : decode cX10_wearsOf 64 = .ok (.ireturn, 1) := dk_172 (dk_at dksX10_wearsOf_2 18 rfl rfl)
abbrev cX10_undo : ByteArray := prog_21_method_82_code
def yX10_undo : MethodName := ⟨RX10, "undo", "()Z"⟩
def dkwX10_undo_2 : List UInt8 := [132, 1, 1, 167, 255, 227, 4, 172]
abbrev dktX10_undo_2 : List UInt8 := dkwX10_undo_2 ++ []
def dkwX10_undo_1 : List UInt8 := [162, 0, 29, 42, 180, 0, 119, 27, 42, 180, 0, 128, 16, 70, 42, 180, 0, 251, 104, 27, 96, 46, 79]
abbrev dktX10_undo_1 : List UInt8 := dkwX10_undo_1 ++ dktX10_undo_2
def dkwX10_undo_0 : List UInt8 := [42, 180, 0, 251, 154, 0, 5, 3, 172, 42, 89, 180, 0, 251, 4, 100, 181, 0, 251, 3, 60, 27, 16, 70]
abbrev dktX10_undo_0 : List UInt8 := dkwX10_undo_0 ++ dktX10_undo_1
theorem dksX10_undo_0 : cX10_undo.data.toList.drop 0 = dktX10_undo_0 := by decide +kernel
theorem dksX10_undo_1 : cX10_undo.data.toList.drop 24 = dktX10_undo_1 := dk_seg dksX10_undo_0 24 rfl rfl
theorem dksX10_undo_2 : cX10_undo.data.toList.drop 47 = dktX10_undo_2 := dk_seg dksX10_undo_1 23 rfl rfl
theorem dX10_undo_0 : decode cX10_undo 0 = .ok (.aload_n 0, 1) := dk_42 (dk_at dksX10_undo_0 0 rfl rfl)
theorem dX10_undo_1 : decode cX10_undo 1 = .ok (.getfield 251, 3) := dk_180 0 251 (dk_at dksX10_undo_0 1 rfl rfl)
theorem dX10_undo_4 : decode cX10_undo 4 = .ok (.ifCond .ne 5, 3) := dk_154 0 5 (dk_at dksX10_undo_0 4 rfl rfl)
theorem dX10_undo_7 : decode cX10_undo 7 = .ok (.iconst 0, 1) := dk_3 (dk_at dksX10_undo_0 7 rfl rfl)
theorem dX10_undo_8 : decode cX10_undo 8 = .ok (.ireturn, 1) := dk_172 (dk_at dksX10_undo_0 8 rfl rfl)
theorem dX10_undo_9 : decode cX10_undo 9 = .ok (.aload_n 0, 1) := dk_42 (dk_at dksX10_undo_0 9 rfl rfl)
theorem dX10_undo_10 : decode cX10_undo 10 = .ok (.dup, 1) := dk_89 (dk_at dksX10_undo_0 10 rfl rfl)
theorem dX10_undo_11 : decode cX10_undo 11 = .ok (.getfield 251, 3) := dk_180 0 251 (dk_at dksX10_undo_0 11 rfl rfl)
theorem dX10_undo_14 : decode cX10_undo 14 = .ok (.iconst 1, 1) := dk_4 (dk_at dksX10_undo_0 14 rfl rfl)
theorem dX10_undo_15 : decode cX10_undo 15 = .ok (.isub, 1) := dk_100 (dk_at dksX10_undo_0 15 rfl rfl)
theorem dX10_undo_16 : decode cX10_undo 16 = .ok (.putfield 251, 3) := dk_181 0 251 (dk_at dksX10_undo_0 16 rfl rfl)
theorem dX10_undo_19 : decode cX10_undo 19 = .ok (.iconst 0, 1) := dk_3 (dk_at dksX10_undo_0 19 rfl rfl)
theorem dX10_undo_20 : decode cX10_undo 20 = .ok (.istore_n 1, 1) := dk_60 (dk_at dksX10_undo_0 20 rfl rfl)
theorem dX10_undo_21 : decode cX10_undo 21 = .ok (.iload_n 1, 1) := dk_27 (dk_at dksX10_undo_0 21 rfl rfl)
theorem dX10_undo_22 : decode cX10_undo 22 = .ok (.bipush 70, 2) := dk_16 70 (dk_at dksX10_undo_0 22 rfl rfl)
theorem dX10_undo_24 : decode cX10_undo 24 = .ok (.if_icmp .ge 29, 3) := dk_162 0 29 (dk_at dksX10_undo_1 0 rfl rfl)
theorem dX10_undo_27 : decode cX10_undo 27 = .ok (.aload_n 0, 1) := dk_42 (dk_at dksX10_undo_1 3 rfl rfl)
theorem dX10_undo_28 : decode cX10_undo 28 = .ok (.getfield 119, 3) := dk_180 0 119 (dk_at dksX10_undo_1 4 rfl rfl)
theorem dX10_undo_31 : decode cX10_undo 31 = .ok (.iload_n 1, 1) := dk_27 (dk_at dksX10_undo_1 7 rfl rfl)
theorem dX10_undo_32 : decode cX10_undo 32 = .ok (.aload_n 0, 1) := dk_42 (dk_at dksX10_undo_1 8 rfl rfl)
theorem dX10_undo_33 : decode cX10_undo 33 = .ok (.getfield 128, 3) := dk_180 0 128 (dk_at dksX10_undo_1 9 rfl rfl)
theorem dX10_undo_36 : decode cX10_undo 36 = .ok (.bipush 70, 2) := dk_16 70 (dk_at dksX10_undo_1 12 rfl rfl)
theorem dX10_undo_38 : decode cX10_undo 38 = .ok (.aload_n 0, 1) := dk_42 (dk_at dksX10_undo_1 14 rfl rfl)
theorem dX10_undo_39 : decode cX10_undo 39 = .ok (.getfield 251, 3) := dk_180 0 251 (dk_at dksX10_undo_1 15 rfl rfl)
theorem dX10_undo_42 : decode cX10_undo 42 = .ok (.imul, 1) := dk_104 (dk_at dksX10_undo_1 18 rfl rfl)
theorem dX10_undo_43 : decode cX10_undo 43 = .ok (.iload_n 1, 1) := dk_27 (dk_at dksX10_undo_1 19 rfl rfl)
theorem dX10_undo_44 : decode cX10_undo 44 = .ok (.iadd, 1) := dk_96 (dk_at dksX10_undo_1 20 rfl rfl)
theorem dX10_undo_45 : decode cX10_undo 45 = .ok (.iaload, 1) := dk_46 (dk_at dksX10_undo_1 21 rfl rfl)
theorem dX10_undo_46 : decode cX10_undo 46 = .ok (.iastore, 1) := dk_79 (dk_at dksX10_undo_1 22 rfl rfl)
theorem dX10_undo_47 : decode cX10_undo 47 = .ok (.iinc 1 1, 3) := dk_132 1 1 (dk_at dksX10_undo_2 0 rfl rfl)
theorem dX10_undo_50 : decode cX10_undo 50 = .ok (.goto (-29), 3) := dk_167 255 227 (dk_at dksX10_undo_2 3 rfl rfl)
theorem dX10_undo_53 : decode cX10_undo 53 = .ok (.iconst 1, 1) := dk_4 (dk_at dksX10_undo_2 6 rfl rfl)
theorem dX10_undo_54 : decode cX10_undo 54 = .ok (.ireturn, 1) := dk_172 (dk_at dksX10_undo_2 7 rfl rfl)
abbrev cX10_lifts : ByteArray := prog_21_method_86_code
def yX10_lifts : MethodName := ⟨RX10, "lifts", "(III)I"⟩
def dkwX10_lifts_4 : List UInt8 := [2, 172, 132, 5, 1, 167, 255, 190, 132, 4, 1, 167, 255, 175, 16, 254, 172]
abbrev dktX10_lifts_4 : List UInt8 := dkwX10_lifts_4 ++ []
def dkwX10_lifts_3 : List UInt8 := [160, 0, 6, 21, 4, 172, 29, 21, 4, 162, 0, 15, 42, 21, 5, 21, 4, 29, 182, 1, 164, 167, 0, 4]
abbrev dktX10_lifts_3 : List UInt8 := dkwX10_lifts_3 ++ dktX10_lifts_4
def dkwX10_lifts_2 : List UInt8 := [184, 1, 161, 162, 0, 53, 42, 27, 28, 21, 5, 21, 4, 182, 1, 167, 154, 0, 6, 167, 0, 31, 29, 2]
abbrev dktX10_lifts_2 : List UInt8 := dkwX10_lifts_2 ++ dktX10_lifts_3
def dkwX10_lifts_1 : List UInt8 := [21, 4, 7, 163, 0, 81, 3, 54, 5, 21, 5, 42, 180, 0, 52, 42, 180, 0, 233, 46, 21, 4]
abbrev dktX10_lifts_1 : List UInt8 := dkwX10_lifts_1 ++ dktX10_lifts_2
def dkwX10_lifts_0 : List UInt8 := [42, 27, 28, 182, 1, 143, 153, 0, 12, 29, 2, 6, 184, 1, 57, 154, 0, 5, 2, 172, 3, 54, 4]
abbrev dktX10_lifts_0 : List UInt8 := dkwX10_lifts_0 ++ dktX10_lifts_1
theorem dksX10_lifts_0 : cX10_lifts.data.toList.drop 0 = dktX10_lifts_0 := by decide +kernel
theorem dksX10_lifts_1 : cX10_lifts.data.toList.drop 23 = dktX10_lifts_1 := dk_seg dksX10_lifts_0 23 rfl rfl
theorem dksX10_lifts_2 : cX10_lifts.data.toList.drop 45 = dktX10_lifts_2 := dk_seg dksX10_lifts_1 22 rfl rfl
theorem dksX10_lifts_3 : cX10_lifts.data.toList.drop 69 = dktX10_lifts_3 := dk_seg dksX10_lifts_2 24 rfl rfl
theorem dksX10_lifts_4 : cX10_lifts.data.toList.drop 93 = dktX10_lifts_4 := dk_seg dksX10_lifts_3 24 rfl rfl
theorem dX10_lifts_0 : decode cX10_lifts 0 = .ok (.aload_n 0, 1) := dk_42 (dk_at dksX10_lifts_0 0 rfl rfl)
theorem dX10_lifts_1 : decode cX10_lifts 1 = .ok (.iload_n 1, 1) := dk_27 (dk_at dksX10_lifts_0 1 rfl rfl)
theorem dX10_lifts_2 : decode cX10_lifts 2 = .ok (.iload_n 2, 1) := dk_28 (dk_at dksX10_lifts_0 2 rfl rfl)
theorem dX10_lifts_3 : decode cX10_lifts 3 = .ok (.invokevirtual 399, 3) := dk_182 1 143 (dk_at dksX10_lifts_0 3 rfl rfl)
theorem dX10_lifts_6 : decode cX10_lifts 6 = .ok (.ifCond .eq 12, 3) := dk_153 0 12 (dk_at dksX10_lifts_0 6 rfl rfl)
theorem dX10_lifts_9 : decode cX10_lifts 9 = .ok (.iload_n 3, 1) := dk_29 (dk_at dksX10_lifts_0 9 rfl rfl)
theorem dX10_lifts_10 : decode cX10_lifts 10 = .ok (.iconst (-1), 1) := dk_2 (dk_at dksX10_lifts_0 10 rfl rfl)
theorem dX10_lifts_11 : decode cX10_lifts 11 = .ok (.iconst 3, 1) := dk_6 (dk_at dksX10_lifts_0 11 rfl rfl)
theorem dX10_lifts_12 : decode cX10_lifts 12 = .ok (.invokestatic 313, 3) := dk_184 1 57 (dk_at dksX10_lifts_0 12 rfl rfl)
theorem dX10_lifts_15 : decode cX10_lifts 15 = .ok (.ifCond .ne 5, 3) := dk_154 0 5 (dk_at dksX10_lifts_0 15 rfl rfl)
theorem dX10_lifts_18 : decode cX10_lifts 18 = .ok (.iconst (-1), 1) := dk_2 (dk_at dksX10_lifts_0 18 rfl rfl)
theorem dX10_lifts_19 : decode cX10_lifts 19 = .ok (.ireturn, 1) := dk_172 (dk_at dksX10_lifts_0 19 rfl rfl)
theorem dX10_lifts_20 : decode cX10_lifts 20 = .ok (.iconst 0, 1) := dk_3 (dk_at dksX10_lifts_0 20 rfl rfl)
theorem dX10_lifts_21 : decode cX10_lifts 21 = .ok (.istore 4, 2) := dk_54 4 (dk_at dksX10_lifts_0 21 rfl rfl)
theorem dX10_lifts_23 : decode cX10_lifts 23 = .ok (.iload 4, 2) := dk_21 4 (dk_at dksX10_lifts_1 0 rfl rfl)
theorem dX10_lifts_25 : decode cX10_lifts 25 = .ok (.iconst 4, 1) := dk_7 (dk_at dksX10_lifts_1 2 rfl rfl)
theorem dX10_lifts_26 : decode cX10_lifts 26 = .ok (.if_icmp .gt 81, 3) := dk_163 0 81 (dk_at dksX10_lifts_1 3 rfl rfl)
theorem dX10_lifts_29 : decode cX10_lifts 29 = .ok (.iconst 0, 1) := dk_3 (dk_at dksX10_lifts_1 6 rfl rfl)
theorem dX10_lifts_30 : decode cX10_lifts 30 = .ok (.istore 5, 2) := dk_54 5 (dk_at dksX10_lifts_1 7 rfl rfl)
theorem dX10_lifts_32 : decode cX10_lifts 32 = .ok (.iload 5, 2) := dk_21 5 (dk_at dksX10_lifts_1 9 rfl rfl)
theorem dX10_lifts_34 : decode cX10_lifts 34 = .ok (.aload_n 0, 1) := dk_42 (dk_at dksX10_lifts_1 11 rfl rfl)
theorem dX10_lifts_35 : decode cX10_lifts 35 = .ok (.getfield 52, 3) := dk_180 0 52 (dk_at dksX10_lifts_1 12 rfl rfl)
theorem dX10_lifts_38 : decode cX10_lifts 38 = .ok (.aload_n 0, 1) := dk_42 (dk_at dksX10_lifts_1 15 rfl rfl)
theorem dX10_lifts_39 : decode cX10_lifts 39 = .ok (.getfield 233, 3) := dk_180 0 233 (dk_at dksX10_lifts_1 16 rfl rfl)
theorem dX10_lifts_42 : decode cX10_lifts 42 = .ok (.iaload, 1) := dk_46 (dk_at dksX10_lifts_1 19 rfl rfl)
theorem dX10_lifts_43 : decode cX10_lifts 43 = .ok (.iload 4, 2) := dk_21 4 (dk_at dksX10_lifts_1 20 rfl rfl)
theorem dX10_lifts_45 : decode cX10_lifts 45 = .ok (.invokestatic 417, 3) := dk_184 1 161 (dk_at dksX10_lifts_2 0 rfl rfl)
theorem dX10_lifts_48 : decode cX10_lifts 48 = .ok (.if_icmp .ge 53, 3) := dk_162 0 53 (dk_at dksX10_lifts_2 3 rfl rfl)
theorem dX10_lifts_51 : decode cX10_lifts 51 = .ok (.aload_n 0, 1) := dk_42 (dk_at dksX10_lifts_2 6 rfl rfl)
theorem dX10_lifts_52 : decode cX10_lifts 52 = .ok (.iload_n 1, 1) := dk_27 (dk_at dksX10_lifts_2 7 rfl rfl)
theorem dX10_lifts_53 : decode cX10_lifts 53 = .ok (.iload_n 2, 1) := dk_28 (dk_at dksX10_lifts_2 8 rfl rfl)
theorem dX10_lifts_54 : decode cX10_lifts 54 = .ok (.iload 5, 2) := dk_21 5 (dk_at dksX10_lifts_2 9 rfl rfl)
theorem dX10_lifts_56 : decode cX10_lifts 56 = .ok (.iload 4, 2) := dk_21 4 (dk_at dksX10_lifts_2 11 rfl rfl)
theorem dX10_lifts_58 : decode cX10_lifts 58 = .ok (.invokevirtual 423, 3) := dk_182 1 167 (dk_at dksX10_lifts_2 13 rfl rfl)
theorem dX10_lifts_61 : decode cX10_lifts 61 = .ok (.ifCond .ne 6, 3) := dk_154 0 6 (dk_at dksX10_lifts_2 16 rfl rfl)
theorem dX10_lifts_64 : decode cX10_lifts 64 = .ok (.goto 31, 3) := dk_167 0 31 (dk_at dksX10_lifts_2 19 rfl rfl)
theorem dX10_lifts_67 : decode cX10_lifts 67 = .ok (.iload_n 3, 1) := dk_29 (dk_at dksX10_lifts_2 22 rfl rfl)
theorem dX10_lifts_68 : decode cX10_lifts 68 = .ok (.iconst (-1), 1) := dk_2 (dk_at dksX10_lifts_2 23 rfl rfl)
theorem dX10_lifts_69 : decode cX10_lifts 69 = .ok (.if_icmp .ne 6, 3) := dk_160 0 6 (dk_at dksX10_lifts_3 0 rfl rfl)
theorem dX10_lifts_72 : decode cX10_lifts 72 = .ok (.iload 4, 2) := dk_21 4 (dk_at dksX10_lifts_3 3 rfl rfl)
theorem dX10_lifts_74 : decode cX10_lifts 74 = .ok (.ireturn, 1) := dk_172 (dk_at dksX10_lifts_3 5 rfl rfl)
theorem dX10_lifts_75 : decode cX10_lifts 75 = .ok (.iload_n 3, 1) := dk_29 (dk_at dksX10_lifts_3 6 rfl rfl)
theorem dX10_lifts_76 : decode cX10_lifts 76 = .ok (.iload 4, 2) := dk_21 4 (dk_at dksX10_lifts_3 7 rfl rfl)
theorem dX10_lifts_78 : decode cX10_lifts 78 = .ok (.if_icmp .ge 15, 3) := dk_162 0 15 (dk_at dksX10_lifts_3 9 rfl rfl)
theorem dX10_lifts_81 : decode cX10_lifts 81 = .ok (.aload_n 0, 1) := dk_42 (dk_at dksX10_lifts_3 12 rfl rfl)
theorem dX10_lifts_82 : decode cX10_lifts 82 = .ok (.iload 5, 2) := dk_21 5 (dk_at dksX10_lifts_3 13 rfl rfl)
theorem dX10_lifts_84 : decode cX10_lifts 84 = .ok (.iload 4, 2) := dk_21 4 (dk_at dksX10_lifts_3 15 rfl rfl)
theorem dX10_lifts_86 : decode cX10_lifts 86 = .ok (.iload_n 3, 1) := dk_29 (dk_at dksX10_lifts_3 17 rfl rfl)
theorem dX10_lifts_87 : decode cX10_lifts 87 = .ok (.invokevirtual 420, 3) := dk_182 1 164 (dk_at dksX10_lifts_3 18 rfl rfl)
theorem dX10_lifts_90 : decode cX10_lifts 90 = .ok (.goto 4, 3) := dk_167 0 4 (dk_at dksX10_lifts_3 21 rfl rfl)
theorem dX10_lifts_93 : decode cX10_lifts 93 = .ok (.iconst (-1), 1) := dk_2 (dk_at dksX10_lifts_4 0 rfl rfl)
theorem dX10_lifts_94 : decode cX10_lifts 94 = .ok (.ireturn, 1) := dk_172 (dk_at dksX10_lifts_4 1 rfl rfl)
theorem dX10_lifts_95 : decode cX10_lifts 95 = .ok (.iinc 5 1, 3) := dk_132 5 1 (dk_at dksX10_lifts_4 2 rfl rfl)
theorem dX10_lifts_98 : decode cX10_lifts 98 = .ok (.goto (-66), 3) := dk_167 255 190 (dk_at dksX10_lifts_4 5 rfl rfl)
theorem dX10_lifts_101 : decode cX10_lifts 101 = .ok (.iinc 4 1, 3) := dk_132 4 1 (dk_at dksX10_lifts_4 8 rfl rfl)
theorem dX10_lifts_104 : decode cX10_lifts 104 = .ok (.goto (-81), 3) := dk_167 255 175 (dk_at dksX10_lifts_4 11 rfl rfl)
theorem dX10_lifts_107 : decode cX10_lifts 107 = .ok (.bipush (-2), 2) := dk_16 254 (dk_at dksX10_lifts_4 14 rfl rfl)
theorem dX10_lifts_109 : decode cX10_lifts 109 = .ok (.ireturn, 1) := dk_172 (dk_at dksX10_lifts_4 16 rfl rfl)
abbrev cX10_power : ByteArray := prog_21_method_83_code
def yX10_power : MethodName := ⟨RX10, "power", "(II)I"⟩
def dkwX10_power_0 : List UInt8 := [4, 61, 3, 62, 29, 27, 162, 0, 13, 28, 26, 104, 61, 132, 3, 1, 167, 255, 244, 28, 172]
abbrev dktX10_power_0 : List UInt8 := dkwX10_power_0 ++ []
theorem dksX10_power_0 : cX10_power.data.toList.drop 0 = dktX10_power_0 := by decide +kernel
theorem dX10_power_0 : decode cX10_power 0 = .ok (.iconst 1, 1) := dk_4 (dk_at dksX10_power_0 0 rfl rfl)
theorem dX10_power_1 : decode cX10_power 1 = .ok (.istore_n 2, 1) := dk_61 (dk_at dksX10_power_0 1 rfl rfl)
theorem dX10_power_2 : decode cX10_power 2 = .ok (.iconst 0, 1) := dk_3 (dk_at dksX10_power_0 2 rfl rfl)
theorem dX10_power_3 : decode cX10_power 3 = .ok (.istore_n 3, 1) := dk_62 (dk_at dksX10_power_0 3 rfl rfl)
theorem dX10_power_4 : decode cX10_power 4 = .ok (.iload_n 3, 1) := dk_29 (dk_at dksX10_power_0 4 rfl rfl)
theorem dX10_power_5 : decode cX10_power 5 = .ok (.iload_n 1, 1) := dk_27 (dk_at dksX10_power_0 5 rfl rfl)
theorem dX10_power_6 : decode cX10_power 6 = .ok (.if_icmp .ge 13, 3) := dk_162 0 13 (dk_at dksX10_power_0 6 rfl rfl)
theorem dX10_power_9 : decode cX10_power 9 = .ok (.iload_n 2, 1) := dk_28 (dk_at dksX10_power_0 9 rfl rfl)
theorem dX10_power_10 : decode cX10_power 10 = .ok (.iload_n 0, 1) := dk_26 (dk_at dksX10_power_0 10 rfl rfl)
theorem dX10_power_11 : decode cX10_power 11 = .ok (.imul, 1) := dk_104 (dk_at dksX10_power_0 11 rfl rfl)
theorem dX10_power_12 : decode cX10_power 12 = .ok (.istore_n 2, 1) := dk_61 (dk_at dksX10_power_0 12 rfl rfl)
theorem dX10_power_13 : decode cX10_power 13 = .ok (.iinc 3 1, 3) := dk_132 3 1 (dk_at dksX10_power_0 13 rfl rfl)
theorem dX10_power_16 : decode cX10_power 16 = .ok (.goto (-12), 3) := dk_167 255 244 (dk_at dksX10_power_0 16 rfl rfl)
theorem dX10_power_19 : decode cX10_power 19 = .ok (.iload_n 2, 1) := dk_28 (dk_at dksX10_power_0 19 rfl rfl)
theorem dX10_power_20 : decode cX10_power 20 = .ok (.ireturn, 1) := dk_172 (dk_at dksX10_power_0 20 rfl rfl)
abbrev cX10_doesWay : ByteArray := prog_21_method_85_code
def yX10_doesWay : MethodName := ⟨RX10, "doesWay", "(IIII)Z"⟩
def dkwX10_doesWay_2 : List UInt8 := [167, 0, 4, 3, 172]
abbrev dktX10_doesWay_2 : List UInt8 := dkwX10_doesWay_2 ++ []
def dkwX10_doesWay_1 : List UInt8 := [182, 1, 164, 182, 1, 118, 132, 5, 1, 167, 255, 232, 42, 27, 182, 1, 134, 28, 160, 0, 7, 4]
abbrev dktX10_doesWay_1 : List UInt8 := dkwX10_doesWay_1 ++ dktX10_doesWay_2
def dkwX10_doesWay_0 : List UInt8 := [42, 182, 1, 67, 3, 54, 5, 21, 5, 21, 4, 162, 0, 23, 42, 27, 42, 29, 21, 4, 21, 5]
abbrev dktX10_doesWay_0 : List UInt8 := dkwX10_doesWay_0 ++ dktX10_doesWay_1
theorem dksX10_doesWay_0 : cX10_doesWay.data.toList.drop 0 = dktX10_doesWay_0 := by decide +kernel
theorem dksX10_doesWay_1 : cX10_doesWay.data.toList.drop 22 = dktX10_doesWay_1 := dk_seg dksX10_doesWay_0 22 rfl rfl
theorem dksX10_doesWay_2 : cX10_doesWay.data.toList.drop 44 = dktX10_doesWay_2 := dk_seg dksX10_doesWay_1 22 rfl rfl
theorem dX10_doesWay_0 : decode cX10_doesWay 0 = .ok (.aload_n 0, 1) := dk_42 (dk_at dksX10_doesWay_0 0 rfl rfl)
theorem dX10_doesWay_1 : decode cX10_doesWay 1 = .ok (.invokevirtual 323, 3) := dk_182 1 67 (dk_at dksX10_doesWay_0 1 rfl rfl)
theorem dX10_doesWay_4 : decode cX10_doesWay 4 = .ok (.iconst 0, 1) := dk_3 (dk_at dksX10_doesWay_0 4 rfl rfl)
theorem dX10_doesWay_5 : decode cX10_doesWay 5 = .ok (.istore 5, 2) := dk_54 5 (dk_at dksX10_doesWay_0 5 rfl rfl)
theorem dX10_doesWay_7 : decode cX10_doesWay 7 = .ok (.iload 5, 2) := dk_21 5 (dk_at dksX10_doesWay_0 7 rfl rfl)
theorem dX10_doesWay_9 : decode cX10_doesWay 9 = .ok (.iload 4, 2) := dk_21 4 (dk_at dksX10_doesWay_0 9 rfl rfl)
theorem dX10_doesWay_11 : decode cX10_doesWay 11 = .ok (.if_icmp .ge 23, 3) := dk_162 0 23 (dk_at dksX10_doesWay_0 11 rfl rfl)
theorem dX10_doesWay_14 : decode cX10_doesWay 14 = .ok (.aload_n 0, 1) := dk_42 (dk_at dksX10_doesWay_0 14 rfl rfl)
theorem dX10_doesWay_15 : decode cX10_doesWay 15 = .ok (.iload_n 1, 1) := dk_27 (dk_at dksX10_doesWay_0 15 rfl rfl)
theorem dX10_doesWay_16 : decode cX10_doesWay 16 = .ok (.aload_n 0, 1) := dk_42 (dk_at dksX10_doesWay_0 16 rfl rfl)
theorem dX10_doesWay_17 : decode cX10_doesWay 17 = .ok (.iload_n 3, 1) := dk_29 (dk_at dksX10_doesWay_0 17 rfl rfl)
theorem dX10_doesWay_18 : decode cX10_doesWay 18 = .ok (.iload 4, 2) := dk_21 4 (dk_at dksX10_doesWay_0 18 rfl rfl)
theorem dX10_doesWay_20 : decode cX10_doesWay 20 = .ok (.iload 5, 2) := dk_21 5 (dk_at dksX10_doesWay_0 20 rfl rfl)
theorem dX10_doesWay_22 : decode cX10_doesWay 22 = .ok (.invokevirtual 420, 3) := dk_182 1 164 (dk_at dksX10_doesWay_1 0 rfl rfl)
theorem dX10_doesWay_25 : decode cX10_doesWay 25 = .ok (.invokevirtual 374, 3) := dk_182 1 118 (dk_at dksX10_doesWay_1 3 rfl rfl)
theorem dX10_doesWay_28 : decode cX10_doesWay 28 = .ok (.iinc 5 1, 3) := dk_132 5 1 (dk_at dksX10_doesWay_1 6 rfl rfl)
theorem dX10_doesWay_31 : decode cX10_doesWay 31 = .ok (.goto (-24), 3) := dk_167 255 232 (dk_at dksX10_doesWay_1 9 rfl rfl)
theorem dX10_doesWay_34 : decode cX10_doesWay 34 = .ok (.aload_n 0, 1) := dk_42 (dk_at dksX10_doesWay_1 12 rfl rfl)
theorem dX10_doesWay_35 : decode cX10_doesWay 35 = .ok (.iload_n 1, 1) := dk_27 (dk_at dksX10_doesWay_1 13 rfl rfl)
theorem dX10_doesWay_36 : decode cX10_doesWay 36 = .ok (.invokevirtual 390, 3) := dk_182 1 134 (dk_at dksX10_doesWay_1 14 rfl rfl)
theorem dX10_doesWay_39 : decode cX10_doesWay 39 = .ok (.iload_n 2, 1) := dk_28 (dk_at dksX10_doesWay_1 17 rfl rfl)
theorem dX10_doesWay_40 : decode cX10_doesWay 40 = .ok (.if_icmp .ne 7, 3) := dk_160 0 7 (dk_at dksX10_doesWay_1 18 rfl rfl)
theorem dX10_doesWay_43 : decode cX10_doesWay 43 = .ok (.iconst 1, 1) := dk_4 (dk_at dksX10_doesWay_1 21 rfl rfl)
theorem dX10_doesWay_44 : decode cX10_doesWay 44 = .ok (.goto 4, 3) := dk_167 0 4 (dk_at dksX10_doesWay_2 0 rfl rfl)
theorem dX10_doesWay_47 : decode cX10_doesWay 47 = .ok (.iconst 0, 1) := dk_3 (dk_at dksX10_doesWay_2 3 rfl rfl)
theorem dX10_doesWay_48 : decode cX10_doesWay 48 = .ok (.ireturn, 1) := dk_172 (dk_at dksX10_doesWay_2 4 rfl rfl)
abbrev cX10_digitOf : ByteArray := prog_21_method_84_code
def yX10_digitOf : MethodName := ⟨RX10, "digitOf", "(III)I"⟩
def dkwX10_digitOf_1 : List UInt8 := [180, 0, 233, 46, 112, 172]
abbrev dktX10_digitOf_1 : List UInt8 := dkwX10_digitOf_1 ++ []
def dkwX10_digitOf_0 : List UInt8 := [27, 42, 180, 0, 52, 42, 180, 0, 233, 46, 28, 4, 100, 29, 100, 184, 1, 161, 108, 42, 180, 0, 52, 42]
abbrev dktX10_digitOf_0 : List UInt8 := dkwX10_digitOf_0 ++ dktX10_digitOf_1
theorem dksX10_digitOf_0 : cX10_digitOf.data.toList.drop 0 = dktX10_digitOf_0 := by decide +kernel
theorem dksX10_digitOf_1 : cX10_digitOf.data.toList.drop 24 = dktX10_digitOf_1 := dk_seg dksX10_digitOf_0 24 rfl rfl
theorem dX10_digitOf_0 : decode cX10_digitOf 0 = .ok (.iload_n 1, 1) := dk_27 (dk_at dksX10_digitOf_0 0 rfl rfl)
theorem dX10_digitOf_1 : decode cX10_digitOf 1 = .ok (.aload_n 0, 1) := dk_42 (dk_at dksX10_digitOf_0 1 rfl rfl)
theorem dX10_digitOf_2 : decode cX10_digitOf 2 = .ok (.getfield 52, 3) := dk_180 0 52 (dk_at dksX10_digitOf_0 2 rfl rfl)
theorem dX10_digitOf_5 : decode cX10_digitOf 5 = .ok (.aload_n 0, 1) := dk_42 (dk_at dksX10_digitOf_0 5 rfl rfl)
theorem dX10_digitOf_6 : decode cX10_digitOf 6 = .ok (.getfield 233, 3) := dk_180 0 233 (dk_at dksX10_digitOf_0 6 rfl rfl)
theorem dX10_digitOf_9 : decode cX10_digitOf 9 = .ok (.iaload, 1) := dk_46 (dk_at dksX10_digitOf_0 9 rfl rfl)
theorem dX10_digitOf_10 : decode cX10_digitOf 10 = .ok (.iload_n 2, 1) := dk_28 (dk_at dksX10_digitOf_0 10 rfl rfl)
theorem dX10_digitOf_11 : decode cX10_digitOf 11 = .ok (.iconst 1, 1) := dk_4 (dk_at dksX10_digitOf_0 11 rfl rfl)
theorem dX10_digitOf_12 : decode cX10_digitOf 12 = .ok (.isub, 1) := dk_100 (dk_at dksX10_digitOf_0 12 rfl rfl)
theorem dX10_digitOf_13 : decode cX10_digitOf 13 = .ok (.iload_n 3, 1) := dk_29 (dk_at dksX10_digitOf_0 13 rfl rfl)
theorem dX10_digitOf_14 : decode cX10_digitOf 14 = .ok (.isub, 1) := dk_100 (dk_at dksX10_digitOf_0 14 rfl rfl)
theorem dX10_digitOf_15 : decode cX10_digitOf 15 = .ok (.invokestatic 417, 3) := dk_184 1 161 (dk_at dksX10_digitOf_0 15 rfl rfl)
theorem dX10_digitOf_18 : decode cX10_digitOf 18 = .ok (.idiv, 1) := dk_108 (dk_at dksX10_digitOf_0 18 rfl rfl)
theorem dX10_digitOf_19 : decode cX10_digitOf 19 = .ok (.aload_n 0, 1) := dk_42 (dk_at dksX10_digitOf_0 19 rfl rfl)
theorem dX10_digitOf_20 : decode cX10_digitOf 20 = .ok (.getfield 52, 3) := dk_180 0 52 (dk_at dksX10_digitOf_0 20 rfl rfl)
theorem dX10_digitOf_23 : decode cX10_digitOf 23 = .ok (.aload_n 0, 1) := dk_42 (dk_at dksX10_digitOf_0 23 rfl rfl)
theorem dX10_digitOf_24 : decode cX10_digitOf 24 = .ok (.getfield 233, 3) := dk_180 0 233 (dk_at dksX10_digitOf_1 0 rfl rfl)
theorem dX10_digitOf_27 : decode cX10_digitOf 27 = .ok (.iaload, 1) := dk_46 (dk_at dksX10_digitOf_1 3 rfl rfl)
theorem dX10_digitOf_28 : decode cX10_digitOf 28 = .ok (.irem, 1) := dk_112 (dk_at dksX10_digitOf_1 4 rfl rfl)
theorem dX10_digitOf_29 : decode cX10_digitOf 29 = .ok (.ireturn, 1) := dk_172 (dk_at dksX10_digitOf_1 5 rfl rfl)
abbrev cX10_towards : ByteArray := prog_21_method_87_code
def yX10_towards : MethodName := ⟨RX10, "towards", "(III)I"⟩
def dkwX10_towards_4 : List UInt8 := [21, 4, 167, 0, 5, 21, 5, 172]
abbrev dktX10_towards_4 : List UInt8 := dkwX10_towards_4 ++ []
def dkwX10_towards_3 : List UInt8 := [161, 0, 6, 167, 0, 11, 21, 6, 54, 4, 21, 7, 54, 5, 132, 6, 1, 167, 255, 197, 29, 154, 0, 8]
abbrev dktX10_towards_3 : List UInt8 := dkwX10_towards_3 ++ dktX10_towards_4
def dkwX10_towards_2 : List UInt8 := [27, 21, 6, 182, 1, 118, 42, 27, 28, 182, 1, 86, 54, 7, 21, 4, 155, 0, 13, 21, 7, 21, 5]
abbrev dktX10_towards_2 : List UInt8 := dkwX10_towards_2 ++ dktX10_towards_3
def dkwX10_towards_1 : List UInt8 := [54, 5, 3, 54, 6, 21, 6, 42, 180, 0, 52, 42, 180, 0, 233, 46, 162, 0, 51, 42, 182, 1, 67, 42]
abbrev dktX10_towards_1 : List UInt8 := dkwX10_towards_1 ++ dktX10_towards_2
def dkwX10_towards_0 : List UInt8 := [42, 27, 28, 182, 1, 143, 153, 0, 12, 29, 3, 4, 184, 1, 57, 154, 0, 5, 2, 172, 2, 54, 4, 3]
abbrev dktX10_towards_0 : List UInt8 := dkwX10_towards_0 ++ dktX10_towards_1
theorem dksX10_towards_0 : cX10_towards.data.toList.drop 0 = dktX10_towards_0 := by decide +kernel
theorem dksX10_towards_1 : cX10_towards.data.toList.drop 24 = dktX10_towards_1 := dk_seg dksX10_towards_0 24 rfl rfl
theorem dksX10_towards_2 : cX10_towards.data.toList.drop 48 = dktX10_towards_2 := dk_seg dksX10_towards_1 24 rfl rfl
theorem dksX10_towards_3 : cX10_towards.data.toList.drop 71 = dktX10_towards_3 := dk_seg dksX10_towards_2 23 rfl rfl
theorem dksX10_towards_4 : cX10_towards.data.toList.drop 95 = dktX10_towards_4 := dk_seg dksX10_towards_3 24 rfl rfl
theorem dX10_towards_0 : decode cX10_towards 0 = .ok (.aload_n 0, 1) := dk_42 (dk_at dksX10_towards_0 0 rfl rfl)
theorem dX10_towards_1 : decode cX10_towards 1 = .ok (.iload_n 1, 1) := dk_27 (dk_at dksX10_towards_0 1 rfl rfl)
theorem dX10_towards_2 : decode cX10_towards 2 = .ok (.iload_n 2, 1) := dk_28 (dk_at dksX10_towards_0 2 rfl rfl)
theorem dX10_towards_3 : decode cX10_towards 3 = .ok (.invokevirtual 399, 3) := dk_182 1 143 (dk_at dksX10_towards_0 3 rfl rfl)
theorem dX10_towards_6 : decode cX10_towards 6 = .ok (.ifCond .eq 12, 3) := dk_153 0 12 (dk_at dksX10_towards_0 6 rfl rfl)
theorem dX10_towards_9 : decode cX10_towards 9 = .ok (.iload_n 3, 1) := dk_29 (dk_at dksX10_towards_0 9 rfl rfl)
theorem dX10_towards_10 : decode cX10_towards 10 = .ok (.iconst 0, 1) := dk_3 (dk_at dksX10_towards_0 10 rfl rfl)
theorem dX10_towards_11 : decode cX10_towards 11 = .ok (.iconst 1, 1) := dk_4 (dk_at dksX10_towards_0 11 rfl rfl)
theorem dX10_towards_12 : decode cX10_towards 12 = .ok (.invokestatic 313, 3) := dk_184 1 57 (dk_at dksX10_towards_0 12 rfl rfl)
theorem dX10_towards_15 : decode cX10_towards 15 = .ok (.ifCond .ne 5, 3) := dk_154 0 5 (dk_at dksX10_towards_0 15 rfl rfl)
theorem dX10_towards_18 : decode cX10_towards 18 = .ok (.iconst (-1), 1) := dk_2 (dk_at dksX10_towards_0 18 rfl rfl)
theorem dX10_towards_19 : decode cX10_towards 19 = .ok (.ireturn, 1) := dk_172 (dk_at dksX10_towards_0 19 rfl rfl)
theorem dX10_towards_20 : decode cX10_towards 20 = .ok (.iconst (-1), 1) := dk_2 (dk_at dksX10_towards_0 20 rfl rfl)
theorem dX10_towards_21 : decode cX10_towards 21 = .ok (.istore 4, 2) := dk_54 4 (dk_at dksX10_towards_0 21 rfl rfl)
theorem dX10_towards_23 : decode cX10_towards 23 = .ok (.iconst 0, 1) := dk_3 (dk_at dksX10_towards_0 23 rfl rfl)
theorem dX10_towards_24 : decode cX10_towards 24 = .ok (.istore 5, 2) := dk_54 5 (dk_at dksX10_towards_1 0 rfl rfl)
theorem dX10_towards_26 : decode cX10_towards 26 = .ok (.iconst 0, 1) := dk_3 (dk_at dksX10_towards_1 2 rfl rfl)
theorem dX10_towards_27 : decode cX10_towards 27 = .ok (.istore 6, 2) := dk_54 6 (dk_at dksX10_towards_1 3 rfl rfl)
theorem dX10_towards_29 : decode cX10_towards 29 = .ok (.iload 6, 2) := dk_21 6 (dk_at dksX10_towards_1 5 rfl rfl)
theorem dX10_towards_31 : decode cX10_towards 31 = .ok (.aload_n 0, 1) := dk_42 (dk_at dksX10_towards_1 7 rfl rfl)
theorem dX10_towards_32 : decode cX10_towards 32 = .ok (.getfield 52, 3) := dk_180 0 52 (dk_at dksX10_towards_1 8 rfl rfl)
theorem dX10_towards_35 : decode cX10_towards 35 = .ok (.aload_n 0, 1) := dk_42 (dk_at dksX10_towards_1 11 rfl rfl)
theorem dX10_towards_36 : decode cX10_towards 36 = .ok (.getfield 233, 3) := dk_180 0 233 (dk_at dksX10_towards_1 12 rfl rfl)
theorem dX10_towards_39 : decode cX10_towards 39 = .ok (.iaload, 1) := dk_46 (dk_at dksX10_towards_1 15 rfl rfl)
theorem dX10_towards_40 : decode cX10_towards 40 = .ok (.if_icmp .ge 51, 3) := dk_162 0 51 (dk_at dksX10_towards_1 16 rfl rfl)
theorem dX10_towards_43 : decode cX10_towards 43 = .ok (.aload_n 0, 1) := dk_42 (dk_at dksX10_towards_1 19 rfl rfl)
theorem dX10_towards_44 : decode cX10_towards 44 = .ok (.invokevirtual 323, 3) := dk_182 1 67 (dk_at dksX10_towards_1 20 rfl rfl)
theorem dX10_towards_47 : decode cX10_towards 47 = .ok (.aload_n 0, 1) := dk_42 (dk_at dksX10_towards_1 23 rfl rfl)
theorem dX10_towards_48 : decode cX10_towards 48 = .ok (.iload_n 1, 1) := dk_27 (dk_at dksX10_towards_2 0 rfl rfl)
theorem dX10_towards_49 : decode cX10_towards 49 = .ok (.iload 6, 2) := dk_21 6 (dk_at dksX10_towards_2 1 rfl rfl)
theorem dX10_towards_51 : decode cX10_towards 51 = .ok (.invokevirtual 374, 3) := dk_182 1 118 (dk_at dksX10_towards_2 3 rfl rfl)
theorem dX10_towards_54 : decode cX10_towards 54 = .ok (.aload_n 0, 1) := dk_42 (dk_at dksX10_towards_2 6 rfl rfl)
theorem dX10_towards_55 : decode cX10_towards 55 = .ok (.iload_n 1, 1) := dk_27 (dk_at dksX10_towards_2 7 rfl rfl)
theorem dX10_towards_56 : decode cX10_towards 56 = .ok (.iload_n 2, 1) := dk_28 (dk_at dksX10_towards_2 8 rfl rfl)
theorem dX10_towards_57 : decode cX10_towards 57 = .ok (.invokevirtual 342, 3) := dk_182 1 86 (dk_at dksX10_towards_2 9 rfl rfl)
theorem dX10_towards_60 : decode cX10_towards 60 = .ok (.istore 7, 2) := dk_54 7 (dk_at dksX10_towards_2 12 rfl rfl)
theorem dX10_towards_62 : decode cX10_towards 62 = .ok (.iload 4, 2) := dk_21 4 (dk_at dksX10_towards_2 14 rfl rfl)
theorem dX10_towards_64 : decode cX10_towards 64 = .ok (.ifCond .lt 13, 3) := dk_155 0 13 (dk_at dksX10_towards_2 16 rfl rfl)
theorem dX10_towards_67 : decode cX10_towards 67 = .ok (.iload 7, 2) := dk_21 7 (dk_at dksX10_towards_2 19 rfl rfl)
theorem dX10_towards_69 : decode cX10_towards 69 = .ok (.iload 5, 2) := dk_21 5 (dk_at dksX10_towards_2 21 rfl rfl)
theorem dX10_towards_71 : decode cX10_towards 71 = .ok (.if_icmp .lt 6, 3) := dk_161 0 6 (dk_at dksX10_towards_3 0 rfl rfl)
theorem dX10_towards_74 : decode cX10_towards 74 = .ok (.goto 11, 3) := dk_167 0 11 (dk_at dksX10_towards_3 3 rfl rfl)
theorem dX10_towards_77 : decode cX10_towards 77 = .ok (.iload 6, 2) := dk_21 6 (dk_at dksX10_towards_3 6 rfl rfl)
theorem dX10_towards_79 : decode cX10_towards 79 = .ok (.istore 4, 2) := dk_54 4 (dk_at dksX10_towards_3 8 rfl rfl)
theorem dX10_towards_81 : decode cX10_towards 81 = .ok (.iload 7, 2) := dk_21 7 (dk_at dksX10_towards_3 10 rfl rfl)
theorem dX10_towards_83 : decode cX10_towards 83 = .ok (.istore 5, 2) := dk_54 5 (dk_at dksX10_towards_3 12 rfl rfl)
theorem dX10_towards_85 : decode cX10_towards 85 = .ok (.iinc 6 1, 3) := dk_132 6 1 (dk_at dksX10_towards_3 14 rfl rfl)
theorem dX10_towards_88 : decode cX10_towards 88 = .ok (.goto (-59), 3) := dk_167 255 197 (dk_at dksX10_towards_3 17 rfl rfl)
theorem dX10_towards_91 : decode cX10_towards 91 = .ok (.iload_n 3, 1) := dk_29 (dk_at dksX10_towards_3 20 rfl rfl)
theorem dX10_towards_92 : decode cX10_towards 92 = .ok (.ifCond .ne 8, 3) := dk_154 0 8 (dk_at dksX10_towards_3 21 rfl rfl)
theorem dX10_towards_95 : decode cX10_towards 95 = .ok (.iload 4, 2) := dk_21 4 (dk_at dksX10_towards_4 0 rfl rfl)
theorem dX10_towards_97 : decode cX10_towards 97 = .ok (.goto 5, 3) := dk_167 0 5 (dk_at dksX10_towards_4 2 rfl rfl)
theorem dX10_towards_100 : decode cX10_towards 100 = .ok (.iload 5, 2) := dk_21 5 (dk_at dksX10_towards_4 5 rfl rfl)
theorem dX10_towards_102 : decode cX10_towards 102 = .ok (.ireturn, 1) := dk_172 (dk_at dksX10_towards_4 7 rfl rfl)
abbrev cX10_without : ByteArray := prog_21_method_88_code
def yX10_without : MethodName := ⟨RX10, "without", "(II)I"⟩
def dkwX10_without_2 : List UInt8 := [180, 0, 233, 104, 27, 96, 46, 182, 1, 134, 172]
abbrev dktX10_without_2 : List UInt8 := dkwX10_without_2 ++ []
def dkwX10_without_1 : List UInt8 := [180, 0, 122, 16, 54, 27, 96, 3, 79, 42, 28, 182, 1, 158, 42, 42, 180, 0, 64, 16, 10, 42]
abbrev dktX10_without_1 : List UInt8 := dkwX10_without_1 ++ dktX10_without_2
def dkwX10_without_0 : List UInt8 := [42, 27, 182, 1, 140, 153, 0, 10, 28, 184, 1, 171, 154, 0, 5, 2, 172, 42, 182, 1, 174, 42]
abbrev dktX10_without_0 : List UInt8 := dkwX10_without_0 ++ dktX10_without_1
theorem dksX10_without_0 : cX10_without.data.toList.drop 0 = dktX10_without_0 := by decide +kernel
theorem dksX10_without_1 : cX10_without.data.toList.drop 22 = dktX10_without_1 := dk_seg dksX10_without_0 22 rfl rfl
theorem dksX10_without_2 : cX10_without.data.toList.drop 44 = dktX10_without_2 := dk_seg dksX10_without_1 22 rfl rfl
theorem dX10_without_0 : decode cX10_without 0 = .ok (.aload_n 0, 1) := dk_42 (dk_at dksX10_without_0 0 rfl rfl)
theorem dX10_without_1 : decode cX10_without 1 = .ok (.iload_n 1, 1) := dk_27 (dk_at dksX10_without_0 1 rfl rfl)
theorem dX10_without_2 : decode cX10_without 2 = .ok (.invokevirtual 396, 3) := dk_182 1 140 (dk_at dksX10_without_0 2 rfl rfl)
theorem dX10_without_5 : decode cX10_without 5 = .ok (.ifCond .eq 10, 3) := dk_153 0 10 (dk_at dksX10_without_0 5 rfl rfl)
theorem dX10_without_8 : decode cX10_without 8 = .ok (.iload_n 2, 1) := dk_28 (dk_at dksX10_without_0 8 rfl rfl)
theorem dX10_without_9 : decode cX10_without 9 = .ok (.invokestatic 427, 3) := dk_184 1 171 (dk_at dksX10_without_0 9 rfl rfl)
theorem dX10_without_12 : decode cX10_without 12 = .ok (.ifCond .ne 5, 3) := dk_154 0 5 (dk_at dksX10_without_0 12 rfl rfl)
theorem dX10_without_15 : decode cX10_without 15 = .ok (.iconst (-1), 1) := dk_2 (dk_at dksX10_without_0 15 rfl rfl)
theorem dX10_without_16 : decode cX10_without 16 = .ok (.ireturn, 1) := dk_172 (dk_at dksX10_without_0 16 rfl rfl)
theorem dX10_without_17 : decode cX10_without 17 = .ok (.aload_n 0, 1) := dk_42 (dk_at dksX10_without_0 17 rfl rfl)
theorem dX10_without_18 : decode cX10_without 18 = .ok (.invokevirtual 430, 3) := dk_182 1 174 (dk_at dksX10_without_0 18 rfl rfl)
theorem dX10_without_21 : decode cX10_without 21 = .ok (.aload_n 0, 1) := dk_42 (dk_at dksX10_without_0 21 rfl rfl)
theorem dX10_without_22 : decode cX10_without 22 = .ok (.getfield 122, 3) := dk_180 0 122 (dk_at dksX10_without_1 0 rfl rfl)
theorem dX10_without_25 : decode cX10_without 25 = .ok (.bipush 54, 2) := dk_16 54 (dk_at dksX10_without_1 3 rfl rfl)
theorem dX10_without_27 : decode cX10_without 27 = .ok (.iload_n 1, 1) := dk_27 (dk_at dksX10_without_1 5 rfl rfl)
theorem dX10_without_28 : decode cX10_without 28 = .ok (.iadd, 1) := dk_96 (dk_at dksX10_without_1 6 rfl rfl)
theorem dX10_without_29 : decode cX10_without 29 = .ok (.iconst 0, 1) := dk_3 (dk_at dksX10_without_1 7 rfl rfl)
theorem dX10_without_30 : decode cX10_without 30 = .ok (.iastore, 1) := dk_79 (dk_at dksX10_without_1 8 rfl rfl)
theorem dX10_without_31 : decode cX10_without 31 = .ok (.aload_n 0, 1) := dk_42 (dk_at dksX10_without_1 9 rfl rfl)
theorem dX10_without_32 : decode cX10_without 32 = .ok (.iload_n 2, 1) := dk_28 (dk_at dksX10_without_1 10 rfl rfl)
theorem dX10_without_33 : decode cX10_without 33 = .ok (.invokevirtual 414, 3) := dk_182 1 158 (dk_at dksX10_without_1 11 rfl rfl)
theorem dX10_without_36 : decode cX10_without 36 = .ok (.aload_n 0, 1) := dk_42 (dk_at dksX10_without_1 14 rfl rfl)
theorem dX10_without_37 : decode cX10_without 37 = .ok (.aload_n 0, 1) := dk_42 (dk_at dksX10_without_1 15 rfl rfl)
theorem dX10_without_38 : decode cX10_without 38 = .ok (.getfield 64, 3) := dk_180 0 64 (dk_at dksX10_without_1 16 rfl rfl)
theorem dX10_without_41 : decode cX10_without 41 = .ok (.bipush 10, 2) := dk_16 10 (dk_at dksX10_without_1 19 rfl rfl)
theorem dX10_without_43 : decode cX10_without 43 = .ok (.aload_n 0, 1) := dk_42 (dk_at dksX10_without_1 21 rfl rfl)
theorem dX10_without_44 : decode cX10_without 44 = .ok (.getfield 233, 3) := dk_180 0 233 (dk_at dksX10_without_2 0 rfl rfl)
theorem dX10_without_47 : decode cX10_without 47 = .ok (.imul, 1) := dk_104 (dk_at dksX10_without_2 3 rfl rfl)
theorem dX10_without_48 : decode cX10_without 48 = .ok (.iload_n 1, 1) := dk_27 (dk_at dksX10_without_2 4 rfl rfl)
theorem dX10_without_49 : decode cX10_without 49 = .ok (.iadd, 1) := dk_96 (dk_at dksX10_without_2 5 rfl rfl)
theorem dX10_without_50 : decode cX10_without 50 = .ok (.iaload, 1) := dk_46 (dk_at dksX10_without_2 6 rfl rfl)
theorem dX10_without_51 : decode cX10_without 51 = .ok (.invokevirtual 390, 3) := dk_182 1 134 (dk_at dksX10_without_2 7 rfl rfl)
theorem dX10_without_54 : decode cX10_without 54 = .ok (.ireturn, 1) := dk_172 (dk_at dksX10_without_2 10 rfl rfl)
abbrev cX10_isSome : ByteArray := prog_21_method_80_code
def yX10_isSome : MethodName := ⟨RX10, "isSome", "(I)Z"⟩
def dkwX10_isSome_0 : List UInt8 := [26, 4, 16, 60, 184, 1, 57, 172]
abbrev dktX10_isSome_0 : List UInt8 := dkwX10_isSome_0 ++ []
theorem dksX10_isSome_0 : cX10_isSome.data.toList.drop 0 = dktX10_isSome_0 := by decide +kernel
theorem dX10_isSome_0 : decode cX10_isSome 0 = .ok (.iload_n 0, 1) := dk_26 (dk_at dksX10_isSome_0 0 rfl rfl)
theorem dX10_isSome_1 : decode cX10_isSome 1 = .ok (.iconst 1, 1) := dk_4 (dk_at dksX10_isSome_0 1 rfl rfl)
theorem dX10_isSome_2 : decode cX10_isSome 2 = .ok (.bipush 60, 2) := dk_16 60 (dk_at dksX10_isSome_0 2 rfl rfl)
theorem dX10_isSome_4 : decode cX10_isSome 4 = .ok (.invokestatic 313, 3) := dk_184 1 57 (dk_at dksX10_isSome_0 4 rfl rfl)
theorem dX10_isSome_7 : decode cX10_isSome 7 = .ok (.ireturn, 1) := dk_172 (dk_at dksX10_isSome_0 7 rfl rfl)
abbrev cX10_copiesStill : ByteArray := prog_21_method_47_code
def yX10_copiesStill : MethodName := ⟨RX10, "copiesStill", "()V"⟩
def dkwX10_copiesStill_0 : List UInt8 := [42, 182, 1, 67, 42, 4, 181, 1, 64, 177]
abbrev dktX10_copiesStill_0 : List UInt8 := dkwX10_copiesStill_0 ++ []
theorem dksX10_copiesStill_0 : cX10_copiesStill.data.toList.drop 0 = dktX10_copiesStill_0 := by decide +kernel
theorem dX10_copiesStill_0 : decode cX10_copiesStill 0 = .ok (.aload_n 0, 1) := dk_42 (dk_at dksX10_copiesStill_0 0 rfl rfl)
theorem dX10_copiesStill_1 : decode cX10_copiesStill 1 = .ok (.invokevirtual 323, 3) := dk_182 1 67 (dk_at dksX10_copiesStill_0 1 rfl rfl)
theorem dX10_copiesStill_4 : decode cX10_copiesStill 4 = .ok (.aload_n 0, 1) := dk_42 (dk_at dksX10_copiesStill_0 4 rfl rfl)
theorem dX10_copiesStill_5 : decode cX10_copiesStill 5 = .ok (.iconst 1, 1) := dk_4 (dk_at dksX10_copiesStill_0 5 rfl rfl)
theorem dX10_copiesStill_6 : decode cX10_copiesStill 6 = .ok (.putfield 320, 3) := dk_181 1 64 (dk_at dksX10_copiesStill_0 6 rfl rfl)
theorem dX10_copiesStill_9 : decode cX10_copiesStill 9 = .ok (.return_, 1) := dk_177 (dk_at dksX10_copiesStill_0 9 rfl rfl)
abbrev cX10_twins : ByteArray := prog_21_method_90_code
def yX10_twins : MethodName := ⟨RX10, "twins", "(I)I"⟩
def dkwX10_twins_4 : List UInt8 := [167, 255, 202, 132, 4, 1, 167, 255, 176, 27, 154, 0, 7, 28, 167, 0, 4, 29, 172]
abbrev dktX10_twins_4 : List UInt8 := dkwX10_twins_4 ++ []
def dkwX10_twins_3 : List UInt8 := [167, 0, 21, 16, 10, 21, 4, 104, 21, 5, 96, 61, 42, 21, 4, 21, 5, 182, 1, 177, 62, 132, 5, 1]
abbrev dktX10_twins_3 : List UInt8 := dkwX10_twins_3 ++ dktX10_twins_4
def dkwX10_twins_2 : List UInt8 := [180, 0, 233, 46, 162, 0, 46, 28, 155, 0, 18, 42, 21, 4, 21, 5, 182, 1, 177, 29, 161, 0, 6]
abbrev dktX10_twins_2 : List UInt8 := dkwX10_twins_2 ++ dktX10_twins_3
def dkwX10_twins_1 : List UInt8 := [180, 0, 46, 42, 180, 0, 233, 46, 162, 0, 72, 21, 4, 4, 96, 54, 5, 21, 5, 42, 180, 0, 46, 42]
abbrev dktX10_twins_1 : List UInt8 := dkwX10_twins_1 ++ dktX10_twins_2
def dkwX10_twins_0 : List UInt8 := [27, 3, 4, 184, 1, 57, 154, 0, 5, 2, 172, 16, 254, 61, 16, 254, 62, 3, 54, 4, 21, 4, 42]
abbrev dktX10_twins_0 : List UInt8 := dkwX10_twins_0 ++ dktX10_twins_1
theorem dksX10_twins_0 : cX10_twins.data.toList.drop 0 = dktX10_twins_0 := by decide +kernel
theorem dksX10_twins_1 : cX10_twins.data.toList.drop 23 = dktX10_twins_1 := dk_seg dksX10_twins_0 23 rfl rfl
theorem dksX10_twins_2 : cX10_twins.data.toList.drop 47 = dktX10_twins_2 := dk_seg dksX10_twins_1 24 rfl rfl
theorem dksX10_twins_3 : cX10_twins.data.toList.drop 70 = dktX10_twins_3 := dk_seg dksX10_twins_2 23 rfl rfl
theorem dksX10_twins_4 : cX10_twins.data.toList.drop 94 = dktX10_twins_4 := dk_seg dksX10_twins_3 24 rfl rfl
theorem dX10_twins_0 : decode cX10_twins 0 = .ok (.iload_n 1, 1) := dk_27 (dk_at dksX10_twins_0 0 rfl rfl)
theorem dX10_twins_1 : decode cX10_twins 1 = .ok (.iconst 0, 1) := dk_3 (dk_at dksX10_twins_0 1 rfl rfl)
theorem dX10_twins_2 : decode cX10_twins 2 = .ok (.iconst 1, 1) := dk_4 (dk_at dksX10_twins_0 2 rfl rfl)
theorem dX10_twins_3 : decode cX10_twins 3 = .ok (.invokestatic 313, 3) := dk_184 1 57 (dk_at dksX10_twins_0 3 rfl rfl)
theorem dX10_twins_6 : decode cX10_twins 6 = .ok (.ifCond .ne 5, 3) := dk_154 0 5 (dk_at dksX10_twins_0 6 rfl rfl)
theorem dX10_twins_9 : decode cX10_twins 9 = .ok (.iconst (-1), 1) := dk_2 (dk_at dksX10_twins_0 9 rfl rfl)
theorem dX10_twins_10 : decode cX10_twins 10 = .ok (.ireturn, 1) := dk_172 (dk_at dksX10_twins_0 10 rfl rfl)
theorem dX10_twins_11 : decode cX10_twins 11 = .ok (.bipush (-2), 2) := dk_16 254 (dk_at dksX10_twins_0 11 rfl rfl)
theorem dX10_twins_13 : decode cX10_twins 13 = .ok (.istore_n 2, 1) := dk_61 (dk_at dksX10_twins_0 13 rfl rfl)
theorem dX10_twins_14 : decode cX10_twins 14 = .ok (.bipush (-2), 2) := dk_16 254 (dk_at dksX10_twins_0 14 rfl rfl)
theorem dX10_twins_16 : decode cX10_twins 16 = .ok (.istore_n 3, 1) := dk_62 (dk_at dksX10_twins_0 16 rfl rfl)
theorem dX10_twins_17 : decode cX10_twins 17 = .ok (.iconst 0, 1) := dk_3 (dk_at dksX10_twins_0 17 rfl rfl)
theorem dX10_twins_18 : decode cX10_twins 18 = .ok (.istore 4, 2) := dk_54 4 (dk_at dksX10_twins_0 18 rfl rfl)
theorem dX10_twins_20 : decode cX10_twins 20 = .ok (.iload 4, 2) := dk_21 4 (dk_at dksX10_twins_0 20 rfl rfl)
theorem dX10_twins_22 : decode cX10_twins 22 = .ok (.aload_n 0, 1) := dk_42 (dk_at dksX10_twins_0 22 rfl rfl)
theorem dX10_twins_23 : decode cX10_twins 23 = .ok (.getfield 46, 3) := dk_180 0 46 (dk_at dksX10_twins_1 0 rfl rfl)
theorem dX10_twins_26 : decode cX10_twins 26 = .ok (.aload_n 0, 1) := dk_42 (dk_at dksX10_twins_1 3 rfl rfl)
theorem dX10_twins_27 : decode cX10_twins 27 = .ok (.getfield 233, 3) := dk_180 0 233 (dk_at dksX10_twins_1 4 rfl rfl)
theorem dX10_twins_30 : decode cX10_twins 30 = .ok (.iaload, 1) := dk_46 (dk_at dksX10_twins_1 7 rfl rfl)
theorem dX10_twins_31 : decode cX10_twins 31 = .ok (.if_icmp .ge 72, 3) := dk_162 0 72 (dk_at dksX10_twins_1 8 rfl rfl)
theorem dX10_twins_34 : decode cX10_twins 34 = .ok (.iload 4, 2) := dk_21 4 (dk_at dksX10_twins_1 11 rfl rfl)
theorem dX10_twins_36 : decode cX10_twins 36 = .ok (.iconst 1, 1) := dk_4 (dk_at dksX10_twins_1 13 rfl rfl)
theorem dX10_twins_37 : decode cX10_twins 37 = .ok (.iadd, 1) := dk_96 (dk_at dksX10_twins_1 14 rfl rfl)
theorem dX10_twins_38 : decode cX10_twins 38 = .ok (.istore 5, 2) := dk_54 5 (dk_at dksX10_twins_1 15 rfl rfl)
theorem dX10_twins_40 : decode cX10_twins 40 = .ok (.iload 5, 2) := dk_21 5 (dk_at dksX10_twins_1 17 rfl rfl)
theorem dX10_twins_42 : decode cX10_twins 42 = .ok (.aload_n 0, 1) := dk_42 (dk_at dksX10_twins_1 19 rfl rfl)
theorem dX10_twins_43 : decode cX10_twins 43 = .ok (.getfield 46, 3) := dk_180 0 46 (dk_at dksX10_twins_1 20 rfl rfl)
theorem dX10_twins_46 : decode cX10_twins 46 = .ok (.aload_n 0, 1) := dk_42 (dk_at dksX10_twins_1 23 rfl rfl)
theorem dX10_twins_47 : decode cX10_twins 47 = .ok (.getfield 233, 3) := dk_180 0 233 (dk_at dksX10_twins_2 0 rfl rfl)
theorem dX10_twins_50 : decode cX10_twins 50 = .ok (.iaload, 1) := dk_46 (dk_at dksX10_twins_2 3 rfl rfl)
theorem dX10_twins_51 : decode cX10_twins 51 = .ok (.if_icmp .ge 46, 3) := dk_162 0 46 (dk_at dksX10_twins_2 4 rfl rfl)
theorem dX10_twins_54 : decode cX10_twins 54 = .ok (.iload_n 2, 1) := dk_28 (dk_at dksX10_twins_2 7 rfl rfl)
theorem dX10_twins_55 : decode cX10_twins 55 = .ok (.ifCond .lt 18, 3) := dk_155 0 18 (dk_at dksX10_twins_2 8 rfl rfl)
theorem dX10_twins_58 : decode cX10_twins 58 = .ok (.aload_n 0, 1) := dk_42 (dk_at dksX10_twins_2 11 rfl rfl)
theorem dX10_twins_59 : decode cX10_twins 59 = .ok (.iload 4, 2) := dk_21 4 (dk_at dksX10_twins_2 12 rfl rfl)
theorem dX10_twins_61 : decode cX10_twins 61 = .ok (.iload 5, 2) := dk_21 5 (dk_at dksX10_twins_2 14 rfl rfl)
theorem dX10_twins_63 : decode cX10_twins 63 = .ok (.invokevirtual 433, 3) := dk_182 1 177 (dk_at dksX10_twins_2 16 rfl rfl)
theorem dX10_twins_66 : decode cX10_twins 66 = .ok (.iload_n 3, 1) := dk_29 (dk_at dksX10_twins_2 19 rfl rfl)
theorem dX10_twins_67 : decode cX10_twins 67 = .ok (.if_icmp .lt 6, 3) := dk_161 0 6 (dk_at dksX10_twins_2 20 rfl rfl)
theorem dX10_twins_70 : decode cX10_twins 70 = .ok (.goto 21, 3) := dk_167 0 21 (dk_at dksX10_twins_3 0 rfl rfl)
theorem dX10_twins_73 : decode cX10_twins 73 = .ok (.bipush 10, 2) := dk_16 10 (dk_at dksX10_twins_3 3 rfl rfl)
theorem dX10_twins_75 : decode cX10_twins 75 = .ok (.iload 4, 2) := dk_21 4 (dk_at dksX10_twins_3 5 rfl rfl)
theorem dX10_twins_77 : decode cX10_twins 77 = .ok (.imul, 1) := dk_104 (dk_at dksX10_twins_3 7 rfl rfl)
theorem dX10_twins_78 : decode cX10_twins 78 = .ok (.iload 5, 2) := dk_21 5 (dk_at dksX10_twins_3 8 rfl rfl)
theorem dX10_twins_80 : decode cX10_twins 80 = .ok (.iadd, 1) := dk_96 (dk_at dksX10_twins_3 10 rfl rfl)
theorem dX10_twins_81 : decode cX10_twins 81 = .ok (.istore_n 2, 1) := dk_61 (dk_at dksX10_twins_3 11 rfl rfl)
theorem dX10_twins_82 : decode cX10_twins 82 = .ok (.aload_n 0, 1) := dk_42 (dk_at dksX10_twins_3 12 rfl rfl)
theorem dX10_twins_83 : decode cX10_twins 83 = .ok (.iload 4, 2) := dk_21 4 (dk_at dksX10_twins_3 13 rfl rfl)
theorem dX10_twins_85 : decode cX10_twins 85 = .ok (.iload 5, 2) := dk_21 5 (dk_at dksX10_twins_3 15 rfl rfl)
theorem dX10_twins_87 : decode cX10_twins 87 = .ok (.invokevirtual 433, 3) := dk_182 1 177 (dk_at dksX10_twins_3 17 rfl rfl)
theorem dX10_twins_90 : decode cX10_twins 90 = .ok (.istore_n 3, 1) := dk_62 (dk_at dksX10_twins_3 20 rfl rfl)
theorem dX10_twins_91 : decode cX10_twins 91 = .ok (.iinc 5 1, 3) := dk_132 5 1 (dk_at dksX10_twins_3 21 rfl rfl)
theorem dX10_twins_94 : decode cX10_twins 94 = .ok (.goto (-54), 3) := dk_167 255 202 (dk_at dksX10_twins_4 0 rfl rfl)
theorem dX10_twins_97 : decode cX10_twins 97 = .ok (.iinc 4 1, 3) := dk_132 4 1 (dk_at dksX10_twins_4 3 rfl rfl)
theorem dX10_twins_100 : decode cX10_twins 100 = .ok (.goto (-80), 3) := dk_167 255 176 (dk_at dksX10_twins_4 6 rfl rfl)
theorem dX10_twins_103 : decode cX10_twins 103 = .ok (.iload_n 1, 1) := dk_27 (dk_at dksX10_twins_4 9 rfl rfl)
theorem dX10_twins_104 : decode cX10_twins 104 = .ok (.ifCond .ne 7, 3) := dk_154 0 7 (dk_at dksX10_twins_4 10 rfl rfl)
theorem dX10_twins_107 : decode cX10_twins 107 = .ok (.iload_n 2, 1) := dk_28 (dk_at dksX10_twins_4 13 rfl rfl)
theorem dX10_twins_108 : decode cX10_twins 108 = .ok (.goto 4, 3) := dk_167 0 4 (dk_at dksX10_twins_4 14 rfl rfl)
theorem dX10_twins_111 : decode cX10_twins 111 = .ok (.iload_n 3, 1) := dk_29 (dk_at dksX10_twins_4 17 rfl rfl)
theorem dX10_twins_112 : decode cX10_twins 112 = .ok (.ireturn, 1) := dk_172 (dk_at dksX10_twins_4 18 rfl rfl)
abbrev cX10_doorsApart : ByteArray := prog_21_method_89_code
def yX10_doorsApart : MethodName := ⟨RX10, "doorsApart", "(II)I"⟩
def dkwX10_doorsApart_1 : List UInt8 := [180, 0, 119, 7, 28, 104, 21, 4, 96, 46, 184, 1, 80, 96, 62, 132, 4, 1, 167, 255, 219, 29, 172]
abbrev dktX10_doorsApart_1 : List UInt8 := dkwX10_doorsApart_1 ++ []
def dkwX10_doorsApart_0 : List UInt8 := [3, 62, 3, 54, 4, 21, 4, 7, 162, 0, 37, 29, 42, 180, 0, 119, 7, 27, 104, 21, 4, 96, 46, 42]
abbrev dktX10_doorsApart_0 : List UInt8 := dkwX10_doorsApart_0 ++ dktX10_doorsApart_1
theorem dksX10_doorsApart_0 : cX10_doorsApart.data.toList.drop 0 = dktX10_doorsApart_0 := by decide +kernel
theorem dksX10_doorsApart_1 : cX10_doorsApart.data.toList.drop 24 = dktX10_doorsApart_1 := dk_seg dksX10_doorsApart_0 24 rfl rfl
theorem dX10_doorsApart_0 : decode cX10_doorsApart 0 = .ok (.iconst 0, 1) := dk_3 (dk_at dksX10_doorsApart_0 0 rfl rfl)
theorem dX10_doorsApart_1 : decode cX10_doorsApart 1 = .ok (.istore_n 3, 1) := dk_62 (dk_at dksX10_doorsApart_0 1 rfl rfl)
theorem dX10_doorsApart_2 : decode cX10_doorsApart 2 = .ok (.iconst 0, 1) := dk_3 (dk_at dksX10_doorsApart_0 2 rfl rfl)
theorem dX10_doorsApart_3 : decode cX10_doorsApart 3 = .ok (.istore 4, 2) := dk_54 4 (dk_at dksX10_doorsApart_0 3 rfl rfl)
theorem dX10_doorsApart_5 : decode cX10_doorsApart 5 = .ok (.iload 4, 2) := dk_21 4 (dk_at dksX10_doorsApart_0 5 rfl rfl)
theorem dX10_doorsApart_7 : decode cX10_doorsApart 7 = .ok (.iconst 4, 1) := dk_7 (dk_at dksX10_doorsApart_0 7 rfl rfl)
theorem dX10_doorsApart_8 : decode cX10_doorsApart 8 = .ok (.if_icmp .ge 37, 3) := dk_162 0 37 (dk_at dksX10_doorsApart_0 8 rfl rfl)
theorem dX10_doorsApart_11 : decode cX10_doorsApart 11 = .ok (.iload_n 3, 1) := dk_29 (dk_at dksX10_doorsApart_0 11 rfl rfl)
theorem dX10_doorsApart_12 : decode cX10_doorsApart 12 = .ok (.aload_n 0, 1) := dk_42 (dk_at dksX10_doorsApart_0 12 rfl rfl)
theorem dX10_doorsApart_13 : decode cX10_doorsApart 13 = .ok (.getfield 119, 3) := dk_180 0 119 (dk_at dksX10_doorsApart_0 13 rfl rfl)
theorem dX10_doorsApart_16 : decode cX10_doorsApart 16 = .ok (.iconst 4, 1) := dk_7 (dk_at dksX10_doorsApart_0 16 rfl rfl)
theorem dX10_doorsApart_17 : decode cX10_doorsApart 17 = .ok (.iload_n 1, 1) := dk_27 (dk_at dksX10_doorsApart_0 17 rfl rfl)
theorem dX10_doorsApart_18 : decode cX10_doorsApart 18 = .ok (.imul, 1) := dk_104 (dk_at dksX10_doorsApart_0 18 rfl rfl)
theorem dX10_doorsApart_19 : decode cX10_doorsApart 19 = .ok (.iload 4, 2) := dk_21 4 (dk_at dksX10_doorsApart_0 19 rfl rfl)
theorem dX10_doorsApart_21 : decode cX10_doorsApart 21 = .ok (.iadd, 1) := dk_96 (dk_at dksX10_doorsApart_0 21 rfl rfl)
theorem dX10_doorsApart_22 : decode cX10_doorsApart 22 = .ok (.iaload, 1) := dk_46 (dk_at dksX10_doorsApart_0 22 rfl rfl)
theorem dX10_doorsApart_23 : decode cX10_doorsApart 23 = .ok (.aload_n 0, 1) := dk_42 (dk_at dksX10_doorsApart_0 23 rfl rfl)
theorem dX10_doorsApart_24 : decode cX10_doorsApart 24 = .ok (.getfield 119, 3) := dk_180 0 119 (dk_at dksX10_doorsApart_1 0 rfl rfl)
theorem dX10_doorsApart_27 : decode cX10_doorsApart 27 = .ok (.iconst 4, 1) := dk_7 (dk_at dksX10_doorsApart_1 3 rfl rfl)
theorem dX10_doorsApart_28 : decode cX10_doorsApart 28 = .ok (.iload_n 2, 1) := dk_28 (dk_at dksX10_doorsApart_1 4 rfl rfl)
theorem dX10_doorsApart_29 : decode cX10_doorsApart 29 = .ok (.imul, 1) := dk_104 (dk_at dksX10_doorsApart_1 5 rfl rfl)
theorem dX10_doorsApart_30 : decode cX10_doorsApart 30 = .ok (.iload 4, 2) := dk_21 4 (dk_at dksX10_doorsApart_1 6 rfl rfl)
theorem dX10_doorsApart_32 : decode cX10_doorsApart 32 = .ok (.iadd, 1) := dk_96 (dk_at dksX10_doorsApart_1 8 rfl rfl)
theorem dX10_doorsApart_33 : decode cX10_doorsApart 33 = .ok (.iaload, 1) := dk_46 (dk_at dksX10_doorsApart_1 9 rfl rfl)
theorem dX10_doorsApart_34 : decode cX10_doorsApart 34 = .ok (.invokestatic 336, 3) := dk_184 1 80 (dk_at dksX10_doorsApart_1 10 rfl rfl)
theorem dX10_doorsApart_37 : decode cX10_doorsApart 37 = .ok (.iadd, 1) := dk_96 (dk_at dksX10_doorsApart_1 13 rfl rfl)
theorem dX10_doorsApart_38 : decode cX10_doorsApart 38 = .ok (.istore_n 3, 1) := dk_62 (dk_at dksX10_doorsApart_1 14 rfl rfl)
theorem dX10_doorsApart_39 : decode cX10_doorsApart 39 = .ok (.iinc 4 1, 3) := dk_132 4 1 (dk_at dksX10_doorsApart_1 15 rfl rfl)
theorem dX10_doorsApart_42 : decode cX10_doorsApart 42 = .ok (.goto (-37), 3) := dk_167 255 219 (dk_at dksX10_doorsApart_1 18 rfl rfl)
theorem dX10_doorsApart_45 : decode cX10_doorsApart 45 = .ok (.iload_n 3, 1) := dk_29 (dk_at dksX10_doorsApart_1 21 rfl rfl)
theorem dX10_doorsApart_46 : decode cX10_doorsApart 46 = .ok (.ireturn, 1) := dk_172 (dk_at dksX10_doorsApart_1 22 rfl rfl)
abbrev cX10_confused : ByteArray := prog_21_method_92_code
def yX10_confused : MethodName := ⟨RX10, "confused", "(I)I"⟩
def dkwX10_confused_4 : List UInt8 := [167, 255, 202, 132, 4, 1, 167, 255, 176, 27, 154, 0, 7, 28, 167, 0, 4, 29, 172]
abbrev dktX10_confused_4 : List UInt8 := dkwX10_confused_4 ++ []
def dkwX10_confused_3 : List UInt8 := [167, 0, 21, 16, 10, 21, 4, 104, 21, 5, 96, 61, 42, 21, 4, 21, 5, 182, 1, 180, 62, 132, 5, 1]
abbrev dktX10_confused_3 : List UInt8 := dkwX10_confused_3 ++ dktX10_confused_4
def dkwX10_confused_2 : List UInt8 := [180, 0, 233, 46, 162, 0, 46, 28, 155, 0, 18, 42, 21, 4, 21, 5, 182, 1, 180, 29, 161, 0, 6]
abbrev dktX10_confused_2 : List UInt8 := dkwX10_confused_2 ++ dktX10_confused_3
def dkwX10_confused_1 : List UInt8 := [180, 0, 52, 42, 180, 0, 233, 46, 162, 0, 72, 21, 4, 4, 96, 54, 5, 21, 5, 42, 180, 0, 52, 42]
abbrev dktX10_confused_1 : List UInt8 := dkwX10_confused_1 ++ dktX10_confused_2
def dkwX10_confused_0 : List UInt8 := [27, 3, 4, 184, 1, 57, 154, 0, 5, 2, 172, 16, 254, 61, 16, 254, 62, 3, 54, 4, 21, 4, 42]
abbrev dktX10_confused_0 : List UInt8 := dkwX10_confused_0 ++ dktX10_confused_1
theorem dksX10_confused_0 : cX10_confused.data.toList.drop 0 = dktX10_confused_0 := by decide +kernel
theorem dksX10_confused_1 : cX10_confused.data.toList.drop 23 = dktX10_confused_1 := dk_seg dksX10_confused_0 23 rfl rfl
theorem dksX10_confused_2 : cX10_confused.data.toList.drop 47 = dktX10_confused_2 := dk_seg dksX10_confused_1 24 rfl rfl
theorem dksX10_confused_3 : cX10_confused.data.toList.drop 70 = dktX10_confused_3 := dk_seg dksX10_confused_2 23 rfl rfl
theorem dksX10_confused_4 : cX10_confused.data.toList.drop 94 = dktX10_confused_4 := dk_seg dksX10_confused_3 24 rfl rfl
theorem dX10_confused_0 : decode cX10_confused 0 = .ok (.iload_n 1, 1) := dk_27 (dk_at dksX10_confused_0 0 rfl rfl)
theorem dX10_confused_1 : decode cX10_confused 1 = .ok (.iconst 0, 1) := dk_3 (dk_at dksX10_confused_0 1 rfl rfl)
theorem dX10_confused_2 : decode cX10_confused 2 = .ok (.iconst 1, 1) := dk_4 (dk_at dksX10_confused_0 2 rfl rfl)
theorem dX10_confused_3 : decode cX10_confused 3 = .ok (.invokestatic 313, 3) := dk_184 1 57 (dk_at dksX10_confused_0 3 rfl rfl)
theorem dX10_confused_6 : decode cX10_confused 6 = .ok (.ifCond .ne 5, 3) := dk_154 0 5 (dk_at dksX10_confused_0 6 rfl rfl)
theorem dX10_confused_9 : decode cX10_confused 9 = .ok (.iconst (-1), 1) := dk_2 (dk_at dksX10_confused_0 9 rfl rfl)
theorem dX10_confused_10 : decode cX10_confused 10 = .ok (.ireturn, 1) := dk_172 (dk_at dksX10_confused_0 10 rfl rfl)
theorem dX10_confused_11 : decode cX10_confused 11 = .ok (.bipush (-2), 2) := dk_16 254 (dk_at dksX10_confused_0 11 rfl rfl)
theorem dX10_confused_13 : decode cX10_confused 13 = .ok (.istore_n 2, 1) := dk_61 (dk_at dksX10_confused_0 13 rfl rfl)
theorem dX10_confused_14 : decode cX10_confused 14 = .ok (.bipush (-2), 2) := dk_16 254 (dk_at dksX10_confused_0 14 rfl rfl)
theorem dX10_confused_16 : decode cX10_confused 16 = .ok (.istore_n 3, 1) := dk_62 (dk_at dksX10_confused_0 16 rfl rfl)
theorem dX10_confused_17 : decode cX10_confused 17 = .ok (.iconst 0, 1) := dk_3 (dk_at dksX10_confused_0 17 rfl rfl)
theorem dX10_confused_18 : decode cX10_confused 18 = .ok (.istore 4, 2) := dk_54 4 (dk_at dksX10_confused_0 18 rfl rfl)
theorem dX10_confused_20 : decode cX10_confused 20 = .ok (.iload 4, 2) := dk_21 4 (dk_at dksX10_confused_0 20 rfl rfl)
theorem dX10_confused_22 : decode cX10_confused 22 = .ok (.aload_n 0, 1) := dk_42 (dk_at dksX10_confused_0 22 rfl rfl)
theorem dX10_confused_23 : decode cX10_confused 23 = .ok (.getfield 52, 3) := dk_180 0 52 (dk_at dksX10_confused_1 0 rfl rfl)
theorem dX10_confused_26 : decode cX10_confused 26 = .ok (.aload_n 0, 1) := dk_42 (dk_at dksX10_confused_1 3 rfl rfl)
theorem dX10_confused_27 : decode cX10_confused 27 = .ok (.getfield 233, 3) := dk_180 0 233 (dk_at dksX10_confused_1 4 rfl rfl)
theorem dX10_confused_30 : decode cX10_confused 30 = .ok (.iaload, 1) := dk_46 (dk_at dksX10_confused_1 7 rfl rfl)
theorem dX10_confused_31 : decode cX10_confused 31 = .ok (.if_icmp .ge 72, 3) := dk_162 0 72 (dk_at dksX10_confused_1 8 rfl rfl)
theorem dX10_confused_34 : decode cX10_confused 34 = .ok (.iload 4, 2) := dk_21 4 (dk_at dksX10_confused_1 11 rfl rfl)
theorem dX10_confused_36 : decode cX10_confused 36 = .ok (.iconst 1, 1) := dk_4 (dk_at dksX10_confused_1 13 rfl rfl)
theorem dX10_confused_37 : decode cX10_confused 37 = .ok (.iadd, 1) := dk_96 (dk_at dksX10_confused_1 14 rfl rfl)
theorem dX10_confused_38 : decode cX10_confused 38 = .ok (.istore 5, 2) := dk_54 5 (dk_at dksX10_confused_1 15 rfl rfl)
theorem dX10_confused_40 : decode cX10_confused 40 = .ok (.iload 5, 2) := dk_21 5 (dk_at dksX10_confused_1 17 rfl rfl)
theorem dX10_confused_42 : decode cX10_confused 42 = .ok (.aload_n 0, 1) := dk_42 (dk_at dksX10_confused_1 19 rfl rfl)
theorem dX10_confused_43 : decode cX10_confused 43 = .ok (.getfield 52, 3) := dk_180 0 52 (dk_at dksX10_confused_1 20 rfl rfl)
theorem dX10_confused_46 : decode cX10_confused 46 = .ok (.aload_n 0, 1) := dk_42 (dk_at dksX10_confused_1 23 rfl rfl)
theorem dX10_confused_47 : decode cX10_confused 47 = .ok (.getfield 233, 3) := dk_180 0 233 (dk_at dksX10_confused_2 0 rfl rfl)
theorem dX10_confused_50 : decode cX10_confused 50 = .ok (.iaload, 1) := dk_46 (dk_at dksX10_confused_2 3 rfl rfl)
theorem dX10_confused_51 : decode cX10_confused 51 = .ok (.if_icmp .ge 46, 3) := dk_162 0 46 (dk_at dksX10_confused_2 4 rfl rfl)
theorem dX10_confused_54 : decode cX10_confused 54 = .ok (.iload_n 2, 1) := dk_28 (dk_at dksX10_confused_2 7 rfl rfl)
theorem dX10_confused_55 : decode cX10_confused 55 = .ok (.ifCond .lt 18, 3) := dk_155 0 18 (dk_at dksX10_confused_2 8 rfl rfl)
theorem dX10_confused_58 : decode cX10_confused 58 = .ok (.aload_n 0, 1) := dk_42 (dk_at dksX10_confused_2 11 rfl rfl)
theorem dX10_confused_59 : decode cX10_confused 59 = .ok (.iload 4, 2) := dk_21 4 (dk_at dksX10_confused_2 12 rfl rfl)
theorem dX10_confused_61 : decode cX10_confused 61 = .ok (.iload 5, 2) := dk_21 5 (dk_at dksX10_confused_2 14 rfl rfl)
theorem dX10_confused_63 : decode cX10_confused 63 = .ok (.invokevirtual 436, 3) := dk_182 1 180 (dk_at dksX10_confused_2 16 rfl rfl)
theorem dX10_confused_66 : decode cX10_confused 66 = .ok (.iload_n 3, 1) := dk_29 (dk_at dksX10_confused_2 19 rfl rfl)
theorem dX10_confused_67 : decode cX10_confused 67 = .ok (.if_icmp .lt 6, 3) := dk_161 0 6 (dk_at dksX10_confused_2 20 rfl rfl)
theorem dX10_confused_70 : decode cX10_confused 70 = .ok (.goto 21, 3) := dk_167 0 21 (dk_at dksX10_confused_3 0 rfl rfl)
theorem dX10_confused_73 : decode cX10_confused 73 = .ok (.bipush 10, 2) := dk_16 10 (dk_at dksX10_confused_3 3 rfl rfl)
theorem dX10_confused_75 : decode cX10_confused 75 = .ok (.iload 4, 2) := dk_21 4 (dk_at dksX10_confused_3 5 rfl rfl)
theorem dX10_confused_77 : decode cX10_confused 77 = .ok (.imul, 1) := dk_104 (dk_at dksX10_confused_3 7 rfl rfl)
theorem dX10_confused_78 : decode cX10_confused 78 = .ok (.iload 5, 2) := dk_21 5 (dk_at dksX10_confused_3 8 rfl rfl)
theorem dX10_confused_80 : decode cX10_confused 80 = .ok (.iadd, 1) := dk_96 (dk_at dksX10_confused_3 10 rfl rfl)
theorem dX10_confused_81 : decode cX10_confused 81 = .ok (.istore_n 2, 1) := dk_61 (dk_at dksX10_confused_3 11 rfl rfl)
theorem dX10_confused_82 : decode cX10_confused 82 = .ok (.aload_n 0, 1) := dk_42 (dk_at dksX10_confused_3 12 rfl rfl)
theorem dX10_confused_83 : decode cX10_confused 83 = .ok (.iload 4, 2) := dk_21 4 (dk_at dksX10_confused_3 13 rfl rfl)
theorem dX10_confused_85 : decode cX10_confused 85 = .ok (.iload 5, 2) := dk_21 5 (dk_at dksX10_confused_3 15 rfl rfl)
theorem dX10_confused_87 : decode cX10_confused 87 = .ok (.invokevirtual 436, 3) := dk_182 1 180 (dk_at dksX10_confused_3 17 rfl rfl)
theorem dX10_confused_90 : decode cX10_confused 90 = .ok (.istore_n 3, 1) := dk_62 (dk_at dksX10_confused_3 20 rfl rfl)
theorem dX10_confused_91 : decode cX10_confused 91 = .ok (.iinc 5 1, 3) := dk_132 5 1 (dk_at dksX10_confused_3 21 rfl rfl)
theorem dX10_confused_94 : decode cX10_confused 94 = .ok (.goto (-54), 3) := dk_167 255 202 (dk_at dksX10_confused_4 0 rfl rfl)
theorem dX10_confused_97 : decode cX10_confused 97 = .ok (.iinc 4 1, 3) := dk_132 4 1 (dk_at dksX10_confused_4 3 rfl rfl)
theorem dX10_confused_100 : decode cX10_confused 100 = .ok (.goto (-80), 3) := dk_167 255 176 (dk_at dksX10_confused_4 6 rfl rfl)
theorem dX10_confused_103 : decode cX10_confused 103 = .ok (.iload_n 1, 1) := dk_27 (dk_at dksX10_confused_4 9 rfl rfl)
theorem dX10_confused_104 : decode cX10_confused 104 = .ok (.ifCond .ne 7, 3) := dk_154 0 7 (dk_at dksX10_confused_4 10 rfl rfl)
theorem dX10_confused_107 : decode cX10_confused 107 = .ok (.iload_n 2, 1) := dk_28 (dk_at dksX10_confused_4 13 rfl rfl)
theorem dX10_confused_108 : decode cX10_confused 108 = .ok (.goto 4, 3) := dk_167 0 4 (dk_at dksX10_confused_4 14 rfl rfl)
theorem dX10_confused_111 : decode cX10_confused 111 = .ok (.iload_n 3, 1) := dk_29 (dk_at dksX10_confused_4 17 rfl rfl)
theorem dX10_confused_112 : decode cX10_confused 112 = .ok (.ireturn, 1) := dk_172 (dk_at dksX10_confused_4 18 rfl rfl)
abbrev cX10_callersApart : ByteArray := prog_21_method_91_code
def yX10_callersApart : MethodName := ⟨RX10, "callersApart", "(II)I"⟩
def dkwX10_callersApart_1 : List UInt8 := [182, 1, 77, 184, 1, 80, 96, 62, 132, 4, 1, 167, 255, 227, 29, 172]
abbrev dktX10_callersApart_1 : List UInt8 := dkwX10_callersApart_1 ++ []
def dkwX10_callersApart_0 : List UInt8 := [3, 62, 3, 54, 4, 21, 4, 7, 162, 0, 29, 29, 42, 27, 21, 4, 182, 1, 77, 42, 28, 21, 4]
abbrev dktX10_callersApart_0 : List UInt8 := dkwX10_callersApart_0 ++ dktX10_callersApart_1
theorem dksX10_callersApart_0 : cX10_callersApart.data.toList.drop 0 = dktX10_callersApart_0 := by decide +kernel
theorem dksX10_callersApart_1 : cX10_callersApart.data.toList.drop 23 = dktX10_callersApart_1 := dk_seg dksX10_callersApart_0 23 rfl rfl
theorem dX10_callersApart_0 : decode cX10_callersApart 0 = .ok (.iconst 0, 1) := dk_3 (dk_at dksX10_callersApart_0 0 rfl rfl)
theorem dX10_callersApart_1 : decode cX10_callersApart 1 = .ok (.istore_n 3, 1) := dk_62 (dk_at dksX10_callersApart_0 1 rfl rfl)
theorem dX10_callersApart_2 : decode cX10_callersApart 2 = .ok (.iconst 0, 1) := dk_3 (dk_at dksX10_callersApart_0 2 rfl rfl)
theorem dX10_callersApart_3 : decode cX10_callersApart 3 = .ok (.istore 4, 2) := dk_54 4 (dk_at dksX10_callersApart_0 3 rfl rfl)
theorem dX10_callersApart_5 : decode cX10_callersApart 5 = .ok (.iload 4, 2) := dk_21 4 (dk_at dksX10_callersApart_0 5 rfl rfl)
theorem dX10_callersApart_7 : decode cX10_callersApart 7 = .ok (.iconst 4, 1) := dk_7 (dk_at dksX10_callersApart_0 7 rfl rfl)
theorem dX10_callersApart_8 : decode cX10_callersApart 8 = .ok (.if_icmp .ge 29, 3) := dk_162 0 29 (dk_at dksX10_callersApart_0 8 rfl rfl)
theorem dX10_callersApart_11 : decode cX10_callersApart 11 = .ok (.iload_n 3, 1) := dk_29 (dk_at dksX10_callersApart_0 11 rfl rfl)
theorem dX10_callersApart_12 : decode cX10_callersApart 12 = .ok (.aload_n 0, 1) := dk_42 (dk_at dksX10_callersApart_0 12 rfl rfl)
theorem dX10_callersApart_13 : decode cX10_callersApart 13 = .ok (.iload_n 1, 1) := dk_27 (dk_at dksX10_callersApart_0 13 rfl rfl)
theorem dX10_callersApart_14 : decode cX10_callersApart 14 = .ok (.iload 4, 2) := dk_21 4 (dk_at dksX10_callersApart_0 14 rfl rfl)
theorem dX10_callersApart_16 : decode cX10_callersApart 16 = .ok (.invokevirtual 333, 3) := dk_182 1 77 (dk_at dksX10_callersApart_0 16 rfl rfl)
theorem dX10_callersApart_19 : decode cX10_callersApart 19 = .ok (.aload_n 0, 1) := dk_42 (dk_at dksX10_callersApart_0 19 rfl rfl)
theorem dX10_callersApart_20 : decode cX10_callersApart 20 = .ok (.iload_n 2, 1) := dk_28 (dk_at dksX10_callersApart_0 20 rfl rfl)
theorem dX10_callersApart_21 : decode cX10_callersApart 21 = .ok (.iload 4, 2) := dk_21 4 (dk_at dksX10_callersApart_0 21 rfl rfl)
theorem dX10_callersApart_23 : decode cX10_callersApart 23 = .ok (.invokevirtual 333, 3) := dk_182 1 77 (dk_at dksX10_callersApart_1 0 rfl rfl)
theorem dX10_callersApart_26 : decode cX10_callersApart 26 = .ok (.invokestatic 336, 3) := dk_184 1 80 (dk_at dksX10_callersApart_1 3 rfl rfl)
theorem dX10_callersApart_29 : decode cX10_callersApart 29 = .ok (.iadd, 1) := dk_96 (dk_at dksX10_callersApart_1 6 rfl rfl)
theorem dX10_callersApart_30 : decode cX10_callersApart 30 = .ok (.istore_n 3, 1) := dk_62 (dk_at dksX10_callersApart_1 7 rfl rfl)
theorem dX10_callersApart_31 : decode cX10_callersApart 31 = .ok (.iinc 4 1, 3) := dk_132 4 1 (dk_at dksX10_callersApart_1 8 rfl rfl)
theorem dX10_callersApart_34 : decode cX10_callersApart 34 = .ok (.goto (-29), 3) := dk_167 255 227 (dk_at dksX10_callersApart_1 11 rfl rfl)
theorem dX10_callersApart_37 : decode cX10_callersApart 37 = .ok (.iload_n 3, 1) := dk_29 (dk_at dksX10_callersApart_1 14 rfl rfl)
theorem dX10_callersApart_38 : decode cX10_callersApart 38 = .ok (.ireturn, 1) := dk_172 (dk_at dksX10_callersApart_1 15 rfl rfl)
abbrev cX10_paired : ByteArray := prog_21_method_96_code
def yX10_paired : MethodName := ⟨RX10, "paired", "(I)I"⟩
def dkwX10_paired_5 : List UInt8 := [27, 29, 182, 1, 189, 172]
abbrev dktX10_paired_5 : List UInt8 := dkwX10_paired_5 ++ []
def dkwX10_paired_4 : List UInt8 := [182, 1, 189, 54, 5, 21, 5, 155, 0, 10, 29, 4, 21, 5, 120, 128, 62, 132, 4, 1, 167, 255, 226, 42]
abbrev dktX10_paired_4 : List UInt8 := dkwX10_paired_4 ++ dktX10_paired_5
def dkwX10_paired_3 : List UInt8 := [46, 17, 39, 16, 28, 104, 96, 172, 3, 62, 3, 54, 4, 21, 4, 27, 162, 0, 30, 42, 21, 4, 29]
abbrev dktX10_paired_3 : List UInt8 := dkwX10_paired_3 ++ dktX10_paired_4
def dkwX10_paired_2 : List UInt8 := [46, 167, 0, 12, 42, 180, 0, 52, 42, 180, 0, 233, 46, 61, 27, 2, 160, 0, 16, 42, 180, 0, 131, 3]
abbrev dktX10_paired_2 : List UInt8 := dkwX10_paired_2 ++ dktX10_paired_3
def dkwX10_paired_1 : List UInt8 := [180, 0, 233, 46, 42, 180, 0, 52, 42, 180, 0, 233, 46, 162, 0, 15, 42, 180, 0, 46, 42, 180, 0, 233]
abbrev dktX10_paired_1 : List UInt8 := dkwX10_paired_1 ++ dktX10_paired_2
def dkwX10_paired_0 : List UInt8 := [27, 2, 159, 0, 13, 42, 27, 182, 1, 131, 154, 0, 5, 2, 172, 42, 182, 1, 186, 42, 180, 0, 46, 42]
abbrev dktX10_paired_0 : List UInt8 := dkwX10_paired_0 ++ dktX10_paired_1
theorem dksX10_paired_0 : cX10_paired.data.toList.drop 0 = dktX10_paired_0 := by decide +kernel
theorem dksX10_paired_1 : cX10_paired.data.toList.drop 24 = dktX10_paired_1 := dk_seg dksX10_paired_0 24 rfl rfl
theorem dksX10_paired_2 : cX10_paired.data.toList.drop 48 = dktX10_paired_2 := dk_seg dksX10_paired_1 24 rfl rfl
theorem dksX10_paired_3 : cX10_paired.data.toList.drop 72 = dktX10_paired_3 := dk_seg dksX10_paired_2 24 rfl rfl
theorem dksX10_paired_4 : cX10_paired.data.toList.drop 95 = dktX10_paired_4 := dk_seg dksX10_paired_3 23 rfl rfl
theorem dksX10_paired_5 : cX10_paired.data.toList.drop 119 = dktX10_paired_5 := dk_seg dksX10_paired_4 24 rfl rfl
theorem dX10_paired_0 : decode cX10_paired 0 = .ok (.iload_n 1, 1) := dk_27 (dk_at dksX10_paired_0 0 rfl rfl)
theorem dX10_paired_1 : decode cX10_paired 1 = .ok (.iconst (-1), 1) := dk_2 (dk_at dksX10_paired_0 1 rfl rfl)
theorem dX10_paired_2 : decode cX10_paired 2 = .ok (.if_icmp .eq 13, 3) := dk_159 0 13 (dk_at dksX10_paired_0 2 rfl rfl)
theorem dX10_paired_5 : decode cX10_paired 5 = .ok (.aload_n 0, 1) := dk_42 (dk_at dksX10_paired_0 5 rfl rfl)
theorem dX10_paired_6 : decode cX10_paired 6 = .ok (.iload_n 1, 1) := dk_27 (dk_at dksX10_paired_0 6 rfl rfl)
theorem dX10_paired_7 : decode cX10_paired 7 = .ok (.invokevirtual 387, 3) := dk_182 1 131 (dk_at dksX10_paired_0 7 rfl rfl)
theorem dX10_paired_10 : decode cX10_paired 10 = .ok (.ifCond .ne 5, 3) := dk_154 0 5 (dk_at dksX10_paired_0 10 rfl rfl)
theorem dX10_paired_13 : decode cX10_paired 13 = .ok (.iconst (-1), 1) := dk_2 (dk_at dksX10_paired_0 13 rfl rfl)
theorem dX10_paired_14 : decode cX10_paired 14 = .ok (.ireturn, 1) := dk_172 (dk_at dksX10_paired_0 14 rfl rfl)
theorem dX10_paired_15 : decode cX10_paired 15 = .ok (.aload_n 0, 1) := dk_42 (dk_at dksX10_paired_0 15 rfl rfl)
theorem dX10_paired_16 : decode cX10_paired 16 = .ok (.invokevirtual 442, 3) := dk_182 1 186 (dk_at dksX10_paired_0 16 rfl rfl)
theorem dX10_paired_19 : decode cX10_paired 19 = .ok (.aload_n 0, 1) := dk_42 (dk_at dksX10_paired_0 19 rfl rfl)
theorem dX10_paired_20 : decode cX10_paired 20 = .ok (.getfield 46, 3) := dk_180 0 46 (dk_at dksX10_paired_0 20 rfl rfl)
theorem dX10_paired_23 : decode cX10_paired 23 = .ok (.aload_n 0, 1) := dk_42 (dk_at dksX10_paired_0 23 rfl rfl)
theorem dX10_paired_24 : decode cX10_paired 24 = .ok (.getfield 233, 3) := dk_180 0 233 (dk_at dksX10_paired_1 0 rfl rfl)
theorem dX10_paired_27 : decode cX10_paired 27 = .ok (.iaload, 1) := dk_46 (dk_at dksX10_paired_1 3 rfl rfl)
theorem dX10_paired_28 : decode cX10_paired 28 = .ok (.aload_n 0, 1) := dk_42 (dk_at dksX10_paired_1 4 rfl rfl)
theorem dX10_paired_29 : decode cX10_paired 29 = .ok (.getfield 52, 3) := dk_180 0 52 (dk_at dksX10_paired_1 5 rfl rfl)
theorem dX10_paired_32 : decode cX10_paired 32 = .ok (.aload_n 0, 1) := dk_42 (dk_at dksX10_paired_1 8 rfl rfl)
theorem dX10_paired_33 : decode cX10_paired 33 = .ok (.getfield 233, 3) := dk_180 0 233 (dk_at dksX10_paired_1 9 rfl rfl)
theorem dX10_paired_36 : decode cX10_paired 36 = .ok (.iaload, 1) := dk_46 (dk_at dksX10_paired_1 12 rfl rfl)
theorem dX10_paired_37 : decode cX10_paired 37 = .ok (.if_icmp .ge 15, 3) := dk_162 0 15 (dk_at dksX10_paired_1 13 rfl rfl)
theorem dX10_paired_40 : decode cX10_paired 40 = .ok (.aload_n 0, 1) := dk_42 (dk_at dksX10_paired_1 16 rfl rfl)
theorem dX10_paired_41 : decode cX10_paired 41 = .ok (.getfield 46, 3) := dk_180 0 46 (dk_at dksX10_paired_1 17 rfl rfl)
theorem dX10_paired_44 : decode cX10_paired 44 = .ok (.aload_n 0, 1) := dk_42 (dk_at dksX10_paired_1 20 rfl rfl)
theorem dX10_paired_45 : decode cX10_paired 45 = .ok (.getfield 233, 3) := dk_180 0 233 (dk_at dksX10_paired_1 21 rfl rfl)
theorem dX10_paired_48 : decode cX10_paired 48 = .ok (.iaload, 1) := dk_46 (dk_at dksX10_paired_2 0 rfl rfl)
theorem dX10_paired_49 : decode cX10_paired 49 = .ok (.goto 12, 3) := dk_167 0 12 (dk_at dksX10_paired_2 1 rfl rfl)
theorem dX10_paired_52 : decode cX10_paired 52 = .ok (.aload_n 0, 1) := dk_42 (dk_at dksX10_paired_2 4 rfl rfl)
theorem dX10_paired_53 : decode cX10_paired 53 = .ok (.getfield 52, 3) := dk_180 0 52 (dk_at dksX10_paired_2 5 rfl rfl)
theorem dX10_paired_56 : decode cX10_paired 56 = .ok (.aload_n 0, 1) := dk_42 (dk_at dksX10_paired_2 8 rfl rfl)
theorem dX10_paired_57 : decode cX10_paired 57 = .ok (.getfield 233, 3) := dk_180 0 233 (dk_at dksX10_paired_2 9 rfl rfl)
theorem dX10_paired_60 : decode cX10_paired 60 = .ok (.iaload, 1) := dk_46 (dk_at dksX10_paired_2 12 rfl rfl)
theorem dX10_paired_61 : decode cX10_paired 61 = .ok (.istore_n 2, 1) := dk_61 (dk_at dksX10_paired_2 13 rfl rfl)
theorem dX10_paired_62 : decode cX10_paired 62 = .ok (.iload_n 1, 1) := dk_27 (dk_at dksX10_paired_2 14 rfl rfl)
theorem dX10_paired_63 : decode cX10_paired 63 = .ok (.iconst (-1), 1) := dk_2 (dk_at dksX10_paired_2 15 rfl rfl)
theorem dX10_paired_64 : decode cX10_paired 64 = .ok (.if_icmp .ne 16, 3) := dk_160 0 16 (dk_at dksX10_paired_2 16 rfl rfl)
theorem dX10_paired_67 : decode cX10_paired 67 = .ok (.aload_n 0, 1) := dk_42 (dk_at dksX10_paired_2 19 rfl rfl)
theorem dX10_paired_68 : decode cX10_paired 68 = .ok (.getfield 131, 3) := dk_180 0 131 (dk_at dksX10_paired_2 20 rfl rfl)
theorem dX10_paired_71 : decode cX10_paired 71 = .ok (.iconst 0, 1) := dk_3 (dk_at dksX10_paired_2 23 rfl rfl)
theorem dX10_paired_72 : decode cX10_paired 72 = .ok (.iaload, 1) := dk_46 (dk_at dksX10_paired_3 0 rfl rfl)
theorem dX10_paired_73 : decode cX10_paired 73 = .ok (.sipush 10000, 3) := dk_17 39 16 (dk_at dksX10_paired_3 1 rfl rfl)
theorem dX10_paired_76 : decode cX10_paired 76 = .ok (.iload_n 2, 1) := dk_28 (dk_at dksX10_paired_3 4 rfl rfl)
theorem dX10_paired_77 : decode cX10_paired 77 = .ok (.imul, 1) := dk_104 (dk_at dksX10_paired_3 5 rfl rfl)
theorem dX10_paired_78 : decode cX10_paired 78 = .ok (.iadd, 1) := dk_96 (dk_at dksX10_paired_3 6 rfl rfl)
theorem dX10_paired_79 : decode cX10_paired 79 = .ok (.ireturn, 1) := dk_172 (dk_at dksX10_paired_3 7 rfl rfl)
theorem dX10_paired_80 : decode cX10_paired 80 = .ok (.iconst 0, 1) := dk_3 (dk_at dksX10_paired_3 8 rfl rfl)
theorem dX10_paired_81 : decode cX10_paired 81 = .ok (.istore_n 3, 1) := dk_62 (dk_at dksX10_paired_3 9 rfl rfl)
theorem dX10_paired_82 : decode cX10_paired 82 = .ok (.iconst 0, 1) := dk_3 (dk_at dksX10_paired_3 10 rfl rfl)
theorem dX10_paired_83 : decode cX10_paired 83 = .ok (.istore 4, 2) := dk_54 4 (dk_at dksX10_paired_3 11 rfl rfl)
theorem dX10_paired_85 : decode cX10_paired 85 = .ok (.iload 4, 2) := dk_21 4 (dk_at dksX10_paired_3 13 rfl rfl)
theorem dX10_paired_87 : decode cX10_paired 87 = .ok (.iload_n 1, 1) := dk_27 (dk_at dksX10_paired_3 15 rfl rfl)
theorem dX10_paired_88 : decode cX10_paired 88 = .ok (.if_icmp .ge 30, 3) := dk_162 0 30 (dk_at dksX10_paired_3 16 rfl rfl)
theorem dX10_paired_91 : decode cX10_paired 91 = .ok (.aload_n 0, 1) := dk_42 (dk_at dksX10_paired_3 19 rfl rfl)
theorem dX10_paired_92 : decode cX10_paired 92 = .ok (.iload 4, 2) := dk_21 4 (dk_at dksX10_paired_3 20 rfl rfl)
theorem dX10_paired_94 : decode cX10_paired 94 = .ok (.iload_n 3, 1) := dk_29 (dk_at dksX10_paired_3 22 rfl rfl)
theorem dX10_paired_95 : decode cX10_paired 95 = .ok (.invokevirtual 445, 3) := dk_182 1 189 (dk_at dksX10_paired_4 0 rfl rfl)
theorem dX10_paired_98 : decode cX10_paired 98 = .ok (.istore 5, 2) := dk_54 5 (dk_at dksX10_paired_4 3 rfl rfl)
theorem dX10_paired_100 : decode cX10_paired 100 = .ok (.iload 5, 2) := dk_21 5 (dk_at dksX10_paired_4 5 rfl rfl)
theorem dX10_paired_102 : decode cX10_paired 102 = .ok (.ifCond .lt 10, 3) := dk_155 0 10 (dk_at dksX10_paired_4 7 rfl rfl)
theorem dX10_paired_105 : decode cX10_paired 105 = .ok (.iload_n 3, 1) := dk_29 (dk_at dksX10_paired_4 10 rfl rfl)
theorem dX10_paired_106 : decode cX10_paired 106 = .ok (.iconst 1, 1) := dk_4 (dk_at dksX10_paired_4 11 rfl rfl)
theorem dX10_paired_107 : decode cX10_paired 107 = .ok (.iload 5, 2) := dk_21 5 (dk_at dksX10_paired_4 12 rfl rfl)
theorem dX10_paired_109 : decode cX10_paired 109 = .ok (.ishl, 1) := dk_120 (dk_at dksX10_paired_4 14 rfl rfl)
theorem dX10_paired_110 : decode cX10_paired 110 = .ok (.ior, 1) := dk_128 (dk_at dksX10_paired_4 15 rfl rfl)
theorem dX10_paired_111 : decode cX10_paired 111 = .ok (.istore_n 3, 1) := dk_62 (dk_at dksX10_paired_4 16 rfl rfl)
theorem dX10_paired_112 : decode cX10_paired 112 = .ok (.iinc 4 1, 3) := dk_132 4 1 (dk_at dksX10_paired_4 17 rfl rfl)
theorem dX10_paired_115 : decode cX10_paired 115 = .ok (.goto (-30), 3) := dk_167 255 226 (dk_at dksX10_paired_4 20 rfl rfl)
theorem dX10_paired_118 : decode cX10_paired 118 = .ok (.aload_n 0, 1) := dk_42 (dk_at dksX10_paired_4 23 rfl rfl)
theorem dX10_paired_119 : decode cX10_paired 119 = .ok (.iload_n 1, 1) := dk_27 (dk_at dksX10_paired_5 0 rfl rfl)
theorem dX10_paired_120 : decode cX10_paired 120 = .ok (.iload_n 3, 1) := dk_29 (dk_at dksX10_paired_5 1 rfl rfl)
theorem dX10_paired_121 : decode cX10_paired 121 = .ok (.invokevirtual 445, 3) := dk_182 1 189 (dk_at dksX10_paired_5 2 rfl rfl)
theorem dX10_paired_124 : decode cX10_paired 124 = .ok (.ireturn, 1) := dk_172 (dk_at dksX10_paired_5 5 rfl rfl)
abbrev cX10_fillsPaired : ByteArray := prog_21_method_94_code
def yX10_fillsPaired : MethodName := ⟨RX10, "fillsPaired", "()V"⟩
def dkwX10_fillsPaired_6 : List UInt8 := [79, 132, 2, 1, 167, 255, 167, 132, 1, 255, 167, 255, 155, 177]
abbrev dktX10_fillsPaired_6 : List UInt8 := dkwX10_fillsPaired_6 ++ []
def dkwX10_fillsPaired_5 : List UInt8 := [21, 4, 28, 182, 1, 183, 62, 132, 4, 1, 167, 255, 209, 42, 180, 0, 131, 16, 32, 27, 104, 28, 96, 29]
abbrev dktX10_fillsPaired_5 : List UInt8 := dkwX10_fillsPaired_5 ++ dktX10_fillsPaired_6
def dkwX10_fillsPaired_4 : List UInt8 := [28, 21, 4, 122, 4, 126, 154, 0, 24, 42, 27, 21, 4, 28, 182, 1, 183, 29, 162, 0, 12, 42, 27]
abbrev dktX10_fillsPaired_4 : List UInt8 := dkwX10_fillsPaired_4 ++ dktX10_fillsPaired_5
def dkwX10_fillsPaired_3 : List UInt8 := [16, 32, 96, 28, 96, 46, 62, 3, 54, 4, 21, 4, 42, 180, 0, 52, 42, 180, 0, 233, 46, 162, 0, 39]
abbrev dktX10_fillsPaired_3 : List UInt8 := dkwX10_fillsPaired_3 ++ dktX10_fillsPaired_4
def dkwX10_fillsPaired_2 : List UInt8 := [4, 100, 60, 27, 155, 0, 103, 3, 61, 28, 16, 32, 162, 0, 89, 42, 180, 0, 131, 16, 32, 27, 104]
abbrev dktX10_fillsPaired_2 : List UInt8 := dkwX10_fillsPaired_2 ++ dktX10_fillsPaired_3
def dkwX10_fillsPaired_1 : List UInt8 := [180, 0, 233, 46, 104, 27, 96, 3, 79, 132, 1, 1, 167, 255, 227, 42, 180, 0, 46, 42, 180, 0, 233, 46]
abbrev dktX10_fillsPaired_1 : List UInt8 := dkwX10_fillsPaired_1 ++ dktX10_fillsPaired_2
def dkwX10_fillsPaired_0 : List UInt8 := [42, 182, 1, 67, 3, 60, 27, 16, 32, 162, 0, 29, 42, 180, 0, 131, 16, 32, 42, 180, 0, 46, 42]
abbrev dktX10_fillsPaired_0 : List UInt8 := dkwX10_fillsPaired_0 ++ dktX10_fillsPaired_1
theorem dksX10_fillsPaired_0 : cX10_fillsPaired.data.toList.drop 0 = dktX10_fillsPaired_0 := by decide +kernel
theorem dksX10_fillsPaired_1 : cX10_fillsPaired.data.toList.drop 23 = dktX10_fillsPaired_1 := dk_seg dksX10_fillsPaired_0 23 rfl rfl
theorem dksX10_fillsPaired_2 : cX10_fillsPaired.data.toList.drop 47 = dktX10_fillsPaired_2 := dk_seg dksX10_fillsPaired_1 24 rfl rfl
theorem dksX10_fillsPaired_3 : cX10_fillsPaired.data.toList.drop 70 = dktX10_fillsPaired_3 := dk_seg dksX10_fillsPaired_2 23 rfl rfl
theorem dksX10_fillsPaired_4 : cX10_fillsPaired.data.toList.drop 94 = dktX10_fillsPaired_4 := dk_seg dksX10_fillsPaired_3 24 rfl rfl
theorem dksX10_fillsPaired_5 : cX10_fillsPaired.data.toList.drop 117 = dktX10_fillsPaired_5 := dk_seg dksX10_fillsPaired_4 23 rfl rfl
theorem dksX10_fillsPaired_6 : cX10_fillsPaired.data.toList.drop 141 = dktX10_fillsPaired_6 := dk_seg dksX10_fillsPaired_5 24 rfl rfl
theorem dX10_fillsPaired_0 : decode cX10_fillsPaired 0 = .ok (.aload_n 0, 1) := dk_42 (dk_at dksX10_fillsPaired_0 0 rfl rfl)
theorem dX10_fillsPaired_1 : decode cX10_fillsPaired 1 = .ok (.invokevirtual 323, 3) := dk_182 1 67 (dk_at dksX10_fillsPaired_0 1 rfl rfl)
theorem dX10_fillsPaired_4 : decode cX10_fillsPaired 4 = .ok (.iconst 0, 1) := dk_3 (dk_at dksX10_fillsPaired_0 4 rfl rfl)
theorem dX10_fillsPaired_5 : decode cX10_fillsPaired 5 = .ok (.istore_n 1, 1) := dk_60 (dk_at dksX10_fillsPaired_0 5 rfl rfl)
theorem dX10_fillsPaired_6 : decode cX10_fillsPaired 6 = .ok (.iload_n 1, 1) := dk_27 (dk_at dksX10_fillsPaired_0 6 rfl rfl)
theorem dX10_fillsPaired_7 : decode cX10_fillsPaired 7 = .ok (.bipush 32, 2) := dk_16 32 (dk_at dksX10_fillsPaired_0 7 rfl rfl)
theorem dX10_fillsPaired_9 : decode cX10_fillsPaired 9 = .ok (.if_icmp .ge 29, 3) := dk_162 0 29 (dk_at dksX10_fillsPaired_0 9 rfl rfl)
theorem dX10_fillsPaired_12 : decode cX10_fillsPaired 12 = .ok (.aload_n 0, 1) := dk_42 (dk_at dksX10_fillsPaired_0 12 rfl rfl)
theorem dX10_fillsPaired_13 : decode cX10_fillsPaired 13 = .ok (.getfield 131, 3) := dk_180 0 131 (dk_at dksX10_fillsPaired_0 13 rfl rfl)
theorem dX10_fillsPaired_16 : decode cX10_fillsPaired 16 = .ok (.bipush 32, 2) := dk_16 32 (dk_at dksX10_fillsPaired_0 16 rfl rfl)
theorem dX10_fillsPaired_18 : decode cX10_fillsPaired 18 = .ok (.aload_n 0, 1) := dk_42 (dk_at dksX10_fillsPaired_0 18 rfl rfl)
theorem dX10_fillsPaired_19 : decode cX10_fillsPaired 19 = .ok (.getfield 46, 3) := dk_180 0 46 (dk_at dksX10_fillsPaired_0 19 rfl rfl)
theorem dX10_fillsPaired_22 : decode cX10_fillsPaired 22 = .ok (.aload_n 0, 1) := dk_42 (dk_at dksX10_fillsPaired_0 22 rfl rfl)
theorem dX10_fillsPaired_23 : decode cX10_fillsPaired 23 = .ok (.getfield 233, 3) := dk_180 0 233 (dk_at dksX10_fillsPaired_1 0 rfl rfl)
theorem dX10_fillsPaired_26 : decode cX10_fillsPaired 26 = .ok (.iaload, 1) := dk_46 (dk_at dksX10_fillsPaired_1 3 rfl rfl)
theorem dX10_fillsPaired_27 : decode cX10_fillsPaired 27 = .ok (.imul, 1) := dk_104 (dk_at dksX10_fillsPaired_1 4 rfl rfl)
theorem dX10_fillsPaired_28 : decode cX10_fillsPaired 28 = .ok (.iload_n 1, 1) := dk_27 (dk_at dksX10_fillsPaired_1 5 rfl rfl)
theorem dX10_fillsPaired_29 : decode cX10_fillsPaired 29 = .ok (.iadd, 1) := dk_96 (dk_at dksX10_fillsPaired_1 6 rfl rfl)
theorem dX10_fillsPaired_30 : decode cX10_fillsPaired 30 = .ok (.iconst 0, 1) := dk_3 (dk_at dksX10_fillsPaired_1 7 rfl rfl)
theorem dX10_fillsPaired_31 : decode cX10_fillsPaired 31 = .ok (.iastore, 1) := dk_79 (dk_at dksX10_fillsPaired_1 8 rfl rfl)
theorem dX10_fillsPaired_32 : decode cX10_fillsPaired 32 = .ok (.iinc 1 1, 3) := dk_132 1 1 (dk_at dksX10_fillsPaired_1 9 rfl rfl)
theorem dX10_fillsPaired_35 : decode cX10_fillsPaired 35 = .ok (.goto (-29), 3) := dk_167 255 227 (dk_at dksX10_fillsPaired_1 12 rfl rfl)
theorem dX10_fillsPaired_38 : decode cX10_fillsPaired 38 = .ok (.aload_n 0, 1) := dk_42 (dk_at dksX10_fillsPaired_1 15 rfl rfl)
theorem dX10_fillsPaired_39 : decode cX10_fillsPaired 39 = .ok (.getfield 46, 3) := dk_180 0 46 (dk_at dksX10_fillsPaired_1 16 rfl rfl)
theorem dX10_fillsPaired_42 : decode cX10_fillsPaired 42 = .ok (.aload_n 0, 1) := dk_42 (dk_at dksX10_fillsPaired_1 19 rfl rfl)
theorem dX10_fillsPaired_43 : decode cX10_fillsPaired 43 = .ok (.getfield 233, 3) := dk_180 0 233 (dk_at dksX10_fillsPaired_1 20 rfl rfl)
theorem dX10_fillsPaired_46 : decode cX10_fillsPaired 46 = .ok (.iaload, 1) := dk_46 (dk_at dksX10_fillsPaired_1 23 rfl rfl)
theorem dX10_fillsPaired_47 : decode cX10_fillsPaired 47 = .ok (.iconst 1, 1) := dk_4 (dk_at dksX10_fillsPaired_2 0 rfl rfl)
theorem dX10_fillsPaired_48 : decode cX10_fillsPaired 48 = .ok (.isub, 1) := dk_100 (dk_at dksX10_fillsPaired_2 1 rfl rfl)
theorem dX10_fillsPaired_49 : decode cX10_fillsPaired 49 = .ok (.istore_n 1, 1) := dk_60 (dk_at dksX10_fillsPaired_2 2 rfl rfl)
theorem dX10_fillsPaired_50 : decode cX10_fillsPaired 50 = .ok (.iload_n 1, 1) := dk_27 (dk_at dksX10_fillsPaired_2 3 rfl rfl)
theorem dX10_fillsPaired_51 : decode cX10_fillsPaired 51 = .ok (.ifCond .lt 103, 3) := dk_155 0 103 (dk_at dksX10_fillsPaired_2 4 rfl rfl)
theorem dX10_fillsPaired_54 : decode cX10_fillsPaired 54 = .ok (.iconst 0, 1) := dk_3 (dk_at dksX10_fillsPaired_2 7 rfl rfl)
theorem dX10_fillsPaired_55 : decode cX10_fillsPaired 55 = .ok (.istore_n 2, 1) := dk_61 (dk_at dksX10_fillsPaired_2 8 rfl rfl)
theorem dX10_fillsPaired_56 : decode cX10_fillsPaired 56 = .ok (.iload_n 2, 1) := dk_28 (dk_at dksX10_fillsPaired_2 9 rfl rfl)
theorem dX10_fillsPaired_57 : decode cX10_fillsPaired 57 = .ok (.bipush 32, 2) := dk_16 32 (dk_at dksX10_fillsPaired_2 10 rfl rfl)
theorem dX10_fillsPaired_59 : decode cX10_fillsPaired 59 = .ok (.if_icmp .ge 89, 3) := dk_162 0 89 (dk_at dksX10_fillsPaired_2 12 rfl rfl)
theorem dX10_fillsPaired_62 : decode cX10_fillsPaired 62 = .ok (.aload_n 0, 1) := dk_42 (dk_at dksX10_fillsPaired_2 15 rfl rfl)
theorem dX10_fillsPaired_63 : decode cX10_fillsPaired 63 = .ok (.getfield 131, 3) := dk_180 0 131 (dk_at dksX10_fillsPaired_2 16 rfl rfl)
theorem dX10_fillsPaired_66 : decode cX10_fillsPaired 66 = .ok (.bipush 32, 2) := dk_16 32 (dk_at dksX10_fillsPaired_2 19 rfl rfl)
theorem dX10_fillsPaired_68 : decode cX10_fillsPaired 68 = .ok (.iload_n 1, 1) := dk_27 (dk_at dksX10_fillsPaired_2 21 rfl rfl)
theorem dX10_fillsPaired_69 : decode cX10_fillsPaired 69 = .ok (.imul, 1) := dk_104 (dk_at dksX10_fillsPaired_2 22 rfl rfl)
theorem dX10_fillsPaired_70 : decode cX10_fillsPaired 70 = .ok (.bipush 32, 2) := dk_16 32 (dk_at dksX10_fillsPaired_3 0 rfl rfl)
theorem dX10_fillsPaired_72 : decode cX10_fillsPaired 72 = .ok (.iadd, 1) := dk_96 (dk_at dksX10_fillsPaired_3 2 rfl rfl)
theorem dX10_fillsPaired_73 : decode cX10_fillsPaired 73 = .ok (.iload_n 2, 1) := dk_28 (dk_at dksX10_fillsPaired_3 3 rfl rfl)
theorem dX10_fillsPaired_74 : decode cX10_fillsPaired 74 = .ok (.iadd, 1) := dk_96 (dk_at dksX10_fillsPaired_3 4 rfl rfl)
theorem dX10_fillsPaired_75 : decode cX10_fillsPaired 75 = .ok (.iaload, 1) := dk_46 (dk_at dksX10_fillsPaired_3 5 rfl rfl)
theorem dX10_fillsPaired_76 : decode cX10_fillsPaired 76 = .ok (.istore_n 3, 1) := dk_62 (dk_at dksX10_fillsPaired_3 6 rfl rfl)
theorem dX10_fillsPaired_77 : decode cX10_fillsPaired 77 = .ok (.iconst 0, 1) := dk_3 (dk_at dksX10_fillsPaired_3 7 rfl rfl)
theorem dX10_fillsPaired_78 : decode cX10_fillsPaired 78 = .ok (.istore 4, 2) := dk_54 4 (dk_at dksX10_fillsPaired_3 8 rfl rfl)
theorem dX10_fillsPaired_80 : decode cX10_fillsPaired 80 = .ok (.iload 4, 2) := dk_21 4 (dk_at dksX10_fillsPaired_3 10 rfl rfl)
theorem dX10_fillsPaired_82 : decode cX10_fillsPaired 82 = .ok (.aload_n 0, 1) := dk_42 (dk_at dksX10_fillsPaired_3 12 rfl rfl)
theorem dX10_fillsPaired_83 : decode cX10_fillsPaired 83 = .ok (.getfield 52, 3) := dk_180 0 52 (dk_at dksX10_fillsPaired_3 13 rfl rfl)
theorem dX10_fillsPaired_86 : decode cX10_fillsPaired 86 = .ok (.aload_n 0, 1) := dk_42 (dk_at dksX10_fillsPaired_3 16 rfl rfl)
theorem dX10_fillsPaired_87 : decode cX10_fillsPaired 87 = .ok (.getfield 233, 3) := dk_180 0 233 (dk_at dksX10_fillsPaired_3 17 rfl rfl)
theorem dX10_fillsPaired_90 : decode cX10_fillsPaired 90 = .ok (.iaload, 1) := dk_46 (dk_at dksX10_fillsPaired_3 20 rfl rfl)
theorem dX10_fillsPaired_91 : decode cX10_fillsPaired 91 = .ok (.if_icmp .ge 39, 3) := dk_162 0 39 (dk_at dksX10_fillsPaired_3 21 rfl rfl)
theorem dX10_fillsPaired_94 : decode cX10_fillsPaired 94 = .ok (.iload_n 2, 1) := dk_28 (dk_at dksX10_fillsPaired_4 0 rfl rfl)
theorem dX10_fillsPaired_95 : decode cX10_fillsPaired 95 = .ok (.iload 4, 2) := dk_21 4 (dk_at dksX10_fillsPaired_4 1 rfl rfl)
theorem dX10_fillsPaired_97 : decode cX10_fillsPaired 97 = .ok (.ishr, 1) := dk_122 (dk_at dksX10_fillsPaired_4 3 rfl rfl)
theorem dX10_fillsPaired_98 : decode cX10_fillsPaired 98 = .ok (.iconst 1, 1) := dk_4 (dk_at dksX10_fillsPaired_4 4 rfl rfl)
theorem dX10_fillsPaired_99 : decode cX10_fillsPaired 99 = .ok (.iand, 1) := dk_126 (dk_at dksX10_fillsPaired_4 5 rfl rfl)
theorem dX10_fillsPaired_100 : decode cX10_fillsPaired 100 = .ok (.ifCond .ne 24, 3) := dk_154 0 24 (dk_at dksX10_fillsPaired_4 6 rfl rfl)
theorem dX10_fillsPaired_103 : decode cX10_fillsPaired 103 = .ok (.aload_n 0, 1) := dk_42 (dk_at dksX10_fillsPaired_4 9 rfl rfl)
theorem dX10_fillsPaired_104 : decode cX10_fillsPaired 104 = .ok (.iload_n 1, 1) := dk_27 (dk_at dksX10_fillsPaired_4 10 rfl rfl)
theorem dX10_fillsPaired_105 : decode cX10_fillsPaired 105 = .ok (.iload 4, 2) := dk_21 4 (dk_at dksX10_fillsPaired_4 11 rfl rfl)
theorem dX10_fillsPaired_107 : decode cX10_fillsPaired 107 = .ok (.iload_n 2, 1) := dk_28 (dk_at dksX10_fillsPaired_4 13 rfl rfl)
theorem dX10_fillsPaired_108 : decode cX10_fillsPaired 108 = .ok (.invokevirtual 439, 3) := dk_182 1 183 (dk_at dksX10_fillsPaired_4 14 rfl rfl)
theorem dX10_fillsPaired_111 : decode cX10_fillsPaired 111 = .ok (.iload_n 3, 1) := dk_29 (dk_at dksX10_fillsPaired_4 17 rfl rfl)
theorem dX10_fillsPaired_112 : decode cX10_fillsPaired 112 = .ok (.if_icmp .ge 12, 3) := dk_162 0 12 (dk_at dksX10_fillsPaired_4 18 rfl rfl)
theorem dX10_fillsPaired_115 : decode cX10_fillsPaired 115 = .ok (.aload_n 0, 1) := dk_42 (dk_at dksX10_fillsPaired_4 21 rfl rfl)
theorem dX10_fillsPaired_116 : decode cX10_fillsPaired 116 = .ok (.iload_n 1, 1) := dk_27 (dk_at dksX10_fillsPaired_4 22 rfl rfl)
theorem dX10_fillsPaired_117 : decode cX10_fillsPaired 117 = .ok (.iload 4, 2) := dk_21 4 (dk_at dksX10_fillsPaired_5 0 rfl rfl)
theorem dX10_fillsPaired_119 : decode cX10_fillsPaired 119 = .ok (.iload_n 2, 1) := dk_28 (dk_at dksX10_fillsPaired_5 2 rfl rfl)
theorem dX10_fillsPaired_120 : decode cX10_fillsPaired 120 = .ok (.invokevirtual 439, 3) := dk_182 1 183 (dk_at dksX10_fillsPaired_5 3 rfl rfl)
theorem dX10_fillsPaired_123 : decode cX10_fillsPaired 123 = .ok (.istore_n 3, 1) := dk_62 (dk_at dksX10_fillsPaired_5 6 rfl rfl)
theorem dX10_fillsPaired_124 : decode cX10_fillsPaired 124 = .ok (.iinc 4 1, 3) := dk_132 4 1 (dk_at dksX10_fillsPaired_5 7 rfl rfl)
theorem dX10_fillsPaired_127 : decode cX10_fillsPaired 127 = .ok (.goto (-47), 3) := dk_167 255 209 (dk_at dksX10_fillsPaired_5 10 rfl rfl)
theorem dX10_fillsPaired_130 : decode cX10_fillsPaired 130 = .ok (.aload_n 0, 1) := dk_42 (dk_at dksX10_fillsPaired_5 13 rfl rfl)
theorem dX10_fillsPaired_131 : decode cX10_fillsPaired 131 = .ok (.getfield 131, 3) := dk_180 0 131 (dk_at dksX10_fillsPaired_5 14 rfl rfl)
theorem dX10_fillsPaired_134 : decode cX10_fillsPaired 134 = .ok (.bipush 32, 2) := dk_16 32 (dk_at dksX10_fillsPaired_5 17 rfl rfl)
theorem dX10_fillsPaired_136 : decode cX10_fillsPaired 136 = .ok (.iload_n 1, 1) := dk_27 (dk_at dksX10_fillsPaired_5 19 rfl rfl)
theorem dX10_fillsPaired_137 : decode cX10_fillsPaired 137 = .ok (.imul, 1) := dk_104 (dk_at dksX10_fillsPaired_5 20 rfl rfl)
theorem dX10_fillsPaired_138 : decode cX10_fillsPaired 138 = .ok (.iload_n 2, 1) := dk_28 (dk_at dksX10_fillsPaired_5 21 rfl rfl)
theorem dX10_fillsPaired_139 : decode cX10_fillsPaired 139 = .ok (.iadd, 1) := dk_96 (dk_at dksX10_fillsPaired_5 22 rfl rfl)
theorem dX10_fillsPaired_140 : decode cX10_fillsPaired 140 = .ok (.iload_n 3, 1) := dk_29 (dk_at dksX10_fillsPaired_5 23 rfl rfl)
theorem dX10_fillsPaired_141 : decode cX10_fillsPaired 141 = .ok (.iastore, 1) := dk_79 (dk_at dksX10_fillsPaired_6 0 rfl rfl)
theorem dX10_fillsPaired_142 : decode cX10_fillsPaired 142 = .ok (.iinc 2 1, 3) := dk_132 2 1 (dk_at dksX10_fillsPaired_6 1 rfl rfl)
theorem dX10_fillsPaired_145 : decode cX10_fillsPaired 145 = .ok (.goto (-89), 3) := dk_167 255 167 (dk_at dksX10_fillsPaired_6 4 rfl rfl)
theorem dX10_fillsPaired_148 : decode cX10_fillsPaired 148 = .ok (.iinc 1 (-1), 3) := dk_132 1 255 (dk_at dksX10_fillsPaired_6 7 rfl rfl)
theorem dX10_fillsPaired_151 : decode cX10_fillsPaired 151 = .ok (.goto (-101), 3) := dk_167 255 155 (dk_at dksX10_fillsPaired_6 10 rfl rfl)
theorem dX10_fillsPaired_154 : decode cX10_fillsPaired 154 = .ok (.return_, 1) := dk_177 (dk_at dksX10_fillsPaired_6 13 rfl rfl)
abbrev cX10_with : ByteArray := prog_21_method_93_code
def yX10_with : MethodName := ⟨RX10, "with", "(III)I"⟩
def dkwX10_with_1 : List UInt8 := [120, 128, 96, 46, 96, 172]
abbrev dktX10_with_1 : List UInt8 := dkwX10_with_1 ++ []
def dkwX10_with_0 : List UInt8 := [42, 27, 28, 182, 1, 86, 17, 39, 16, 100, 42, 180, 0, 131, 16, 32, 27, 104, 16, 32, 96, 29, 4, 28]
abbrev dktX10_with_0 : List UInt8 := dkwX10_with_0 ++ dktX10_with_1
theorem dksX10_with_0 : cX10_with.data.toList.drop 0 = dktX10_with_0 := by decide +kernel
theorem dksX10_with_1 : cX10_with.data.toList.drop 24 = dktX10_with_1 := dk_seg dksX10_with_0 24 rfl rfl
theorem dX10_with_0 : decode cX10_with 0 = .ok (.aload_n 0, 1) := dk_42 (dk_at dksX10_with_0 0 rfl rfl)
theorem dX10_with_1 : decode cX10_with 1 = .ok (.iload_n 1, 1) := dk_27 (dk_at dksX10_with_0 1 rfl rfl)
theorem dX10_with_2 : decode cX10_with 2 = .ok (.iload_n 2, 1) := dk_28 (dk_at dksX10_with_0 2 rfl rfl)
theorem dX10_with_3 : decode cX10_with 3 = .ok (.invokevirtual 342, 3) := dk_182 1 86 (dk_at dksX10_with_0 3 rfl rfl)
theorem dX10_with_6 : decode cX10_with 6 = .ok (.sipush 10000, 3) := dk_17 39 16 (dk_at dksX10_with_0 6 rfl rfl)
theorem dX10_with_9 : decode cX10_with 9 = .ok (.isub, 1) := dk_100 (dk_at dksX10_with_0 9 rfl rfl)
theorem dX10_with_10 : decode cX10_with 10 = .ok (.aload_n 0, 1) := dk_42 (dk_at dksX10_with_0 10 rfl rfl)
theorem dX10_with_11 : decode cX10_with 11 = .ok (.getfield 131, 3) := dk_180 0 131 (dk_at dksX10_with_0 11 rfl rfl)
theorem dX10_with_14 : decode cX10_with 14 = .ok (.bipush 32, 2) := dk_16 32 (dk_at dksX10_with_0 14 rfl rfl)
theorem dX10_with_16 : decode cX10_with 16 = .ok (.iload_n 1, 1) := dk_27 (dk_at dksX10_with_0 16 rfl rfl)
theorem dX10_with_17 : decode cX10_with 17 = .ok (.imul, 1) := dk_104 (dk_at dksX10_with_0 17 rfl rfl)
theorem dX10_with_18 : decode cX10_with 18 = .ok (.bipush 32, 2) := dk_16 32 (dk_at dksX10_with_0 18 rfl rfl)
theorem dX10_with_20 : decode cX10_with 20 = .ok (.iadd, 1) := dk_96 (dk_at dksX10_with_0 20 rfl rfl)
theorem dX10_with_21 : decode cX10_with 21 = .ok (.iload_n 3, 1) := dk_29 (dk_at dksX10_with_0 21 rfl rfl)
theorem dX10_with_22 : decode cX10_with 22 = .ok (.iconst 1, 1) := dk_4 (dk_at dksX10_with_0 22 rfl rfl)
theorem dX10_with_23 : decode cX10_with 23 = .ok (.iload_n 2, 1) := dk_28 (dk_at dksX10_with_0 23 rfl rfl)
theorem dX10_with_24 : decode cX10_with 24 = .ok (.ishl, 1) := dk_120 (dk_at dksX10_with_1 0 rfl rfl)
theorem dX10_with_25 : decode cX10_with 25 = .ok (.ior, 1) := dk_128 (dk_at dksX10_with_1 1 rfl rfl)
theorem dX10_with_26 : decode cX10_with 26 = .ok (.iadd, 1) := dk_96 (dk_at dksX10_with_1 2 rfl rfl)
theorem dX10_with_27 : decode cX10_with 27 = .ok (.iaload, 1) := dk_46 (dk_at dksX10_with_1 3 rfl rfl)
theorem dX10_with_28 : decode cX10_with 28 = .ok (.iadd, 1) := dk_96 (dk_at dksX10_with_1 4 rfl rfl)
theorem dX10_with_29 : decode cX10_with 29 = .ok (.ireturn, 1) := dk_172 (dk_at dksX10_with_1 5 rfl rfl)
abbrev cX10_lowestFor : ByteArray := prog_21_method_95_code
def yX10_lowestFor : MethodName := ⟨RX10, "lowestFor", "(II)I"⟩
def dkwX10_lowestFor_2 : List UInt8 := [132, 3, 1, 167, 255, 209, 16, 254, 172]
abbrev dktX10_lowestFor_2 : List UInt8 := dkwX10_lowestFor_2 ++ []
def dkwX10_lowestFor_1 : List UInt8 := [27, 29, 28, 182, 1, 183, 42, 180, 0, 131, 16, 32, 27, 104, 28, 96, 46, 160, 0, 5, 29, 172]
abbrev dktX10_lowestFor_1 : List UInt8 := dkwX10_lowestFor_1 ++ dktX10_lowestFor_2
def dkwX10_lowestFor_0 : List UInt8 := [3, 62, 29, 42, 180, 0, 52, 42, 180, 0, 233, 46, 162, 0, 40, 28, 29, 122, 4, 126, 154, 0, 26, 42]
abbrev dktX10_lowestFor_0 : List UInt8 := dkwX10_lowestFor_0 ++ dktX10_lowestFor_1
theorem dksX10_lowestFor_0 : cX10_lowestFor.data.toList.drop 0 = dktX10_lowestFor_0 := by decide +kernel
theorem dksX10_lowestFor_1 : cX10_lowestFor.data.toList.drop 24 = dktX10_lowestFor_1 := dk_seg dksX10_lowestFor_0 24 rfl rfl
theorem dksX10_lowestFor_2 : cX10_lowestFor.data.toList.drop 46 = dktX10_lowestFor_2 := dk_seg dksX10_lowestFor_1 22 rfl rfl
theorem dX10_lowestFor_0 : decode cX10_lowestFor 0 = .ok (.iconst 0, 1) := dk_3 (dk_at dksX10_lowestFor_0 0 rfl rfl)
theorem dX10_lowestFor_1 : decode cX10_lowestFor 1 = .ok (.istore_n 3, 1) := dk_62 (dk_at dksX10_lowestFor_0 1 rfl rfl)
theorem dX10_lowestFor_2 : decode cX10_lowestFor 2 = .ok (.iload_n 3, 1) := dk_29 (dk_at dksX10_lowestFor_0 2 rfl rfl)
theorem dX10_lowestFor_3 : decode cX10_lowestFor 3 = .ok (.aload_n 0, 1) := dk_42 (dk_at dksX10_lowestFor_0 3 rfl rfl)
theorem dX10_lowestFor_4 : decode cX10_lowestFor 4 = .ok (.getfield 52, 3) := dk_180 0 52 (dk_at dksX10_lowestFor_0 4 rfl rfl)
theorem dX10_lowestFor_7 : decode cX10_lowestFor 7 = .ok (.aload_n 0, 1) := dk_42 (dk_at dksX10_lowestFor_0 7 rfl rfl)
theorem dX10_lowestFor_8 : decode cX10_lowestFor 8 = .ok (.getfield 233, 3) := dk_180 0 233 (dk_at dksX10_lowestFor_0 8 rfl rfl)
theorem dX10_lowestFor_11 : decode cX10_lowestFor 11 = .ok (.iaload, 1) := dk_46 (dk_at dksX10_lowestFor_0 11 rfl rfl)
theorem dX10_lowestFor_12 : decode cX10_lowestFor 12 = .ok (.if_icmp .ge 40, 3) := dk_162 0 40 (dk_at dksX10_lowestFor_0 12 rfl rfl)
theorem dX10_lowestFor_15 : decode cX10_lowestFor 15 = .ok (.iload_n 2, 1) := dk_28 (dk_at dksX10_lowestFor_0 15 rfl rfl)
theorem dX10_lowestFor_16 : decode cX10_lowestFor 16 = .ok (.iload_n 3, 1) := dk_29 (dk_at dksX10_lowestFor_0 16 rfl rfl)
theorem dX10_lowestFor_17 : decode cX10_lowestFor 17 = .ok (.ishr, 1) := dk_122 (dk_at dksX10_lowestFor_0 17 rfl rfl)
theorem dX10_lowestFor_18 : decode cX10_lowestFor 18 = .ok (.iconst 1, 1) := dk_4 (dk_at dksX10_lowestFor_0 18 rfl rfl)
theorem dX10_lowestFor_19 : decode cX10_lowestFor 19 = .ok (.iand, 1) := dk_126 (dk_at dksX10_lowestFor_0 19 rfl rfl)
theorem dX10_lowestFor_20 : decode cX10_lowestFor 20 = .ok (.ifCond .ne 26, 3) := dk_154 0 26 (dk_at dksX10_lowestFor_0 20 rfl rfl)
theorem dX10_lowestFor_23 : decode cX10_lowestFor 23 = .ok (.aload_n 0, 1) := dk_42 (dk_at dksX10_lowestFor_0 23 rfl rfl)
theorem dX10_lowestFor_24 : decode cX10_lowestFor 24 = .ok (.iload_n 1, 1) := dk_27 (dk_at dksX10_lowestFor_1 0 rfl rfl)
theorem dX10_lowestFor_25 : decode cX10_lowestFor 25 = .ok (.iload_n 3, 1) := dk_29 (dk_at dksX10_lowestFor_1 1 rfl rfl)
theorem dX10_lowestFor_26 : decode cX10_lowestFor 26 = .ok (.iload_n 2, 1) := dk_28 (dk_at dksX10_lowestFor_1 2 rfl rfl)
theorem dX10_lowestFor_27 : decode cX10_lowestFor 27 = .ok (.invokevirtual 439, 3) := dk_182 1 183 (dk_at dksX10_lowestFor_1 3 rfl rfl)
theorem dX10_lowestFor_30 : decode cX10_lowestFor 30 = .ok (.aload_n 0, 1) := dk_42 (dk_at dksX10_lowestFor_1 6 rfl rfl)
theorem dX10_lowestFor_31 : decode cX10_lowestFor 31 = .ok (.getfield 131, 3) := dk_180 0 131 (dk_at dksX10_lowestFor_1 7 rfl rfl)
theorem dX10_lowestFor_34 : decode cX10_lowestFor 34 = .ok (.bipush 32, 2) := dk_16 32 (dk_at dksX10_lowestFor_1 10 rfl rfl)
theorem dX10_lowestFor_36 : decode cX10_lowestFor 36 = .ok (.iload_n 1, 1) := dk_27 (dk_at dksX10_lowestFor_1 12 rfl rfl)
theorem dX10_lowestFor_37 : decode cX10_lowestFor 37 = .ok (.imul, 1) := dk_104 (dk_at dksX10_lowestFor_1 13 rfl rfl)
theorem dX10_lowestFor_38 : decode cX10_lowestFor 38 = .ok (.iload_n 2, 1) := dk_28 (dk_at dksX10_lowestFor_1 14 rfl rfl)
theorem dX10_lowestFor_39 : decode cX10_lowestFor 39 = .ok (.iadd, 1) := dk_96 (dk_at dksX10_lowestFor_1 15 rfl rfl)
theorem dX10_lowestFor_40 : decode cX10_lowestFor 40 = .ok (.iaload, 1) := dk_46 (dk_at dksX10_lowestFor_1 16 rfl rfl)
theorem dX10_lowestFor_41 : decode cX10_lowestFor 41 = .ok (.if_icmp .ne 5, 3) := dk_160 0 5 (dk_at dksX10_lowestFor_1 17 rfl rfl)
theorem dX10_lowestFor_44 : decode cX10_lowestFor 44 = .ok (.iload_n 3, 1) := dk_29 (dk_at dksX10_lowestFor_1 20 rfl rfl)
theorem dX10_lowestFor_45 : decode cX10_lowestFor 45 = .ok (.ireturn, 1) := dk_172 (dk_at dksX10_lowestFor_1 21 rfl rfl)
theorem dX10_lowestFor_46 : decode cX10_lowestFor 46 = .ok (.iinc 3 1, 3) := dk_132 3 1 (dk_at dksX10_lowestFor_2 0 rfl rfl)
theorem dX10_lowestFor_49 : decode cX10_lowestFor 49 = .ok (.goto (-47), 3) := dk_167 255 209 (dk_at dksX10_lowestFor_2 3 rfl rfl)
theorem dX10_lowestFor_52 : decode cX10_lowestFor 52 = .ok (.bipush (-2), 2) := dk_16 254 (dk_at dksX10_lowestFor_2 6 rfl rfl)
theorem dX10_lowestFor_54 : decode cX10_lowestFor 54 = .ok (.ireturn, 1) := dk_172 (dk_at dksX10_lowestFor_2 8 rfl rfl)
abbrev cX10_changes : ByteArray := prog_21_method_97_code
def yX10_changes : MethodName := ⟨RX10, "changes", "(I)I"⟩
def dkwX10_changes_2 : List UInt8 := [167, 255, 232, 16, 254, 172]
abbrev dktX10_changes_2 : List UInt8 := dkwX10_changes_2 ++ []
def dkwX10_changes_1 : List UInt8 := [16, 60, 163, 0, 24, 42, 182, 1, 128, 42, 27, 182, 1, 134, 28, 159, 0, 5, 29, 172, 132, 3, 1]
abbrev dktX10_changes_1 : List UInt8 := dkwX10_changes_1 ++ dktX10_changes_2
def dkwX10_changes_0 : List UInt8 := [42, 27, 182, 1, 131, 154, 0, 5, 2, 172, 42, 182, 1, 174, 42, 27, 182, 1, 134, 61, 4, 62, 29]
abbrev dktX10_changes_0 : List UInt8 := dkwX10_changes_0 ++ dktX10_changes_1
theorem dksX10_changes_0 : cX10_changes.data.toList.drop 0 = dktX10_changes_0 := by decide +kernel
theorem dksX10_changes_1 : cX10_changes.data.toList.drop 23 = dktX10_changes_1 := dk_seg dksX10_changes_0 23 rfl rfl
theorem dksX10_changes_2 : cX10_changes.data.toList.drop 46 = dktX10_changes_2 := dk_seg dksX10_changes_1 23 rfl rfl
theorem dX10_changes_0 : decode cX10_changes 0 = .ok (.aload_n 0, 1) := dk_42 (dk_at dksX10_changes_0 0 rfl rfl)
theorem dX10_changes_1 : decode cX10_changes 1 = .ok (.iload_n 1, 1) := dk_27 (dk_at dksX10_changes_0 1 rfl rfl)
theorem dX10_changes_2 : decode cX10_changes 2 = .ok (.invokevirtual 387, 3) := dk_182 1 131 (dk_at dksX10_changes_0 2 rfl rfl)
theorem dX10_changes_5 : decode cX10_changes 5 = .ok (.ifCond .ne 5, 3) := dk_154 0 5 (dk_at dksX10_changes_0 5 rfl rfl)
theorem dX10_changes_8 : decode cX10_changes 8 = .ok (.iconst (-1), 1) := dk_2 (dk_at dksX10_changes_0 8 rfl rfl)
theorem dX10_changes_9 : decode cX10_changes 9 = .ok (.ireturn, 1) := dk_172 (dk_at dksX10_changes_0 9 rfl rfl)
theorem dX10_changes_10 : decode cX10_changes 10 = .ok (.aload_n 0, 1) := dk_42 (dk_at dksX10_changes_0 10 rfl rfl)
theorem dX10_changes_11 : decode cX10_changes 11 = .ok (.invokevirtual 430, 3) := dk_182 1 174 (dk_at dksX10_changes_0 11 rfl rfl)
theorem dX10_changes_14 : decode cX10_changes 14 = .ok (.aload_n 0, 1) := dk_42 (dk_at dksX10_changes_0 14 rfl rfl)
theorem dX10_changes_15 : decode cX10_changes 15 = .ok (.iload_n 1, 1) := dk_27 (dk_at dksX10_changes_0 15 rfl rfl)
theorem dX10_changes_16 : decode cX10_changes 16 = .ok (.invokevirtual 390, 3) := dk_182 1 134 (dk_at dksX10_changes_0 16 rfl rfl)
theorem dX10_changes_19 : decode cX10_changes 19 = .ok (.istore_n 2, 1) := dk_61 (dk_at dksX10_changes_0 19 rfl rfl)
theorem dX10_changes_20 : decode cX10_changes 20 = .ok (.iconst 1, 1) := dk_4 (dk_at dksX10_changes_0 20 rfl rfl)
theorem dX10_changes_21 : decode cX10_changes 21 = .ok (.istore_n 3, 1) := dk_62 (dk_at dksX10_changes_0 21 rfl rfl)
theorem dX10_changes_22 : decode cX10_changes 22 = .ok (.iload_n 3, 1) := dk_29 (dk_at dksX10_changes_0 22 rfl rfl)
theorem dX10_changes_23 : decode cX10_changes 23 = .ok (.bipush 60, 2) := dk_16 60 (dk_at dksX10_changes_1 0 rfl rfl)
theorem dX10_changes_25 : decode cX10_changes 25 = .ok (.if_icmp .gt 24, 3) := dk_163 0 24 (dk_at dksX10_changes_1 2 rfl rfl)
theorem dX10_changes_28 : decode cX10_changes 28 = .ok (.aload_n 0, 1) := dk_42 (dk_at dksX10_changes_1 5 rfl rfl)
theorem dX10_changes_29 : decode cX10_changes 29 = .ok (.invokevirtual 384, 3) := dk_182 1 128 (dk_at dksX10_changes_1 6 rfl rfl)
theorem dX10_changes_32 : decode cX10_changes 32 = .ok (.aload_n 0, 1) := dk_42 (dk_at dksX10_changes_1 9 rfl rfl)
theorem dX10_changes_33 : decode cX10_changes 33 = .ok (.iload_n 1, 1) := dk_27 (dk_at dksX10_changes_1 10 rfl rfl)
theorem dX10_changes_34 : decode cX10_changes 34 = .ok (.invokevirtual 390, 3) := dk_182 1 134 (dk_at dksX10_changes_1 11 rfl rfl)
theorem dX10_changes_37 : decode cX10_changes 37 = .ok (.iload_n 2, 1) := dk_28 (dk_at dksX10_changes_1 14 rfl rfl)
theorem dX10_changes_38 : decode cX10_changes 38 = .ok (.if_icmp .eq 5, 3) := dk_159 0 5 (dk_at dksX10_changes_1 15 rfl rfl)
theorem dX10_changes_41 : decode cX10_changes 41 = .ok (.iload_n 3, 1) := dk_29 (dk_at dksX10_changes_1 18 rfl rfl)
theorem dX10_changes_42 : decode cX10_changes 42 = .ok (.ireturn, 1) := dk_172 (dk_at dksX10_changes_1 19 rfl rfl)
theorem dX10_changes_43 : decode cX10_changes 43 = .ok (.iinc 3 1, 3) := dk_132 3 1 (dk_at dksX10_changes_1 20 rfl rfl)
theorem dX10_changes_46 : decode cX10_changes 46 = .ok (.goto (-24), 3) := dk_167 255 232 (dk_at dksX10_changes_2 0 rfl rfl)
theorem dX10_changes_49 : decode cX10_changes 49 = .ok (.bipush (-2), 2) := dk_16 254 (dk_at dksX10_changes_2 3 rfl rfl)
theorem dX10_changes_51 : decode cX10_changes 51 = .ok (.ireturn, 1) := dk_172 (dk_at dksX10_changes_2 5 rfl rfl)
abbrev cX10_rubs : ByteArray := prog_21_method_98_code
def yX10_rubs : MethodName := ⟨RX10, "rubs", "(I)I"⟩
def dkwX10_rubs_2 : List UInt8 := [159, 0, 5, 29, 172, 132, 3, 1, 167, 255, 231, 16, 254, 172]
abbrev dktX10_rubs_2 : List UInt8 := dkwX10_rubs_2 ++ []
def dkwX10_rubs_1 : List UInt8 := [16, 254, 172, 4, 62, 29, 16, 10, 163, 0, 25, 42, 27, 182, 1, 149, 42, 27, 182, 1, 134, 28]
abbrev dktX10_rubs_1 : List UInt8 := dkwX10_rubs_1 ++ dktX10_rubs_2
def dkwX10_rubs_0 : List UInt8 := [42, 27, 182, 1, 131, 154, 0, 5, 2, 172, 42, 182, 1, 67, 42, 27, 182, 1, 134, 61, 28, 156, 0, 6]
abbrev dktX10_rubs_0 : List UInt8 := dkwX10_rubs_0 ++ dktX10_rubs_1
theorem dksX10_rubs_0 : cX10_rubs.data.toList.drop 0 = dktX10_rubs_0 := by decide +kernel
theorem dksX10_rubs_1 : cX10_rubs.data.toList.drop 24 = dktX10_rubs_1 := dk_seg dksX10_rubs_0 24 rfl rfl
theorem dksX10_rubs_2 : cX10_rubs.data.toList.drop 46 = dktX10_rubs_2 := dk_seg dksX10_rubs_1 22 rfl rfl
theorem dX10_rubs_0 : decode cX10_rubs 0 = .ok (.aload_n 0, 1) := dk_42 (dk_at dksX10_rubs_0 0 rfl rfl)
theorem dX10_rubs_1 : decode cX10_rubs 1 = .ok (.iload_n 1, 1) := dk_27 (dk_at dksX10_rubs_0 1 rfl rfl)
theorem dX10_rubs_2 : decode cX10_rubs 2 = .ok (.invokevirtual 387, 3) := dk_182 1 131 (dk_at dksX10_rubs_0 2 rfl rfl)
theorem dX10_rubs_5 : decode cX10_rubs 5 = .ok (.ifCond .ne 5, 3) := dk_154 0 5 (dk_at dksX10_rubs_0 5 rfl rfl)
theorem dX10_rubs_8 : decode cX10_rubs 8 = .ok (.iconst (-1), 1) := dk_2 (dk_at dksX10_rubs_0 8 rfl rfl)
theorem dX10_rubs_9 : decode cX10_rubs 9 = .ok (.ireturn, 1) := dk_172 (dk_at dksX10_rubs_0 9 rfl rfl)
theorem dX10_rubs_10 : decode cX10_rubs 10 = .ok (.aload_n 0, 1) := dk_42 (dk_at dksX10_rubs_0 10 rfl rfl)
theorem dX10_rubs_11 : decode cX10_rubs 11 = .ok (.invokevirtual 323, 3) := dk_182 1 67 (dk_at dksX10_rubs_0 11 rfl rfl)
theorem dX10_rubs_14 : decode cX10_rubs 14 = .ok (.aload_n 0, 1) := dk_42 (dk_at dksX10_rubs_0 14 rfl rfl)
theorem dX10_rubs_15 : decode cX10_rubs 15 = .ok (.iload_n 1, 1) := dk_27 (dk_at dksX10_rubs_0 15 rfl rfl)
theorem dX10_rubs_16 : decode cX10_rubs 16 = .ok (.invokevirtual 390, 3) := dk_182 1 134 (dk_at dksX10_rubs_0 16 rfl rfl)
theorem dX10_rubs_19 : decode cX10_rubs 19 = .ok (.istore_n 2, 1) := dk_61 (dk_at dksX10_rubs_0 19 rfl rfl)
theorem dX10_rubs_20 : decode cX10_rubs 20 = .ok (.iload_n 2, 1) := dk_28 (dk_at dksX10_rubs_0 20 rfl rfl)
theorem dX10_rubs_21 : decode cX10_rubs 21 = .ok (.ifCond .ge 6, 3) := dk_156 0 6 (dk_at dksX10_rubs_0 21 rfl rfl)
theorem dX10_rubs_24 : decode cX10_rubs 24 = .ok (.bipush (-2), 2) := dk_16 254 (dk_at dksX10_rubs_1 0 rfl rfl)
theorem dX10_rubs_26 : decode cX10_rubs 26 = .ok (.ireturn, 1) := dk_172 (dk_at dksX10_rubs_1 2 rfl rfl)
theorem dX10_rubs_27 : decode cX10_rubs 27 = .ok (.iconst 1, 1) := dk_4 (dk_at dksX10_rubs_1 3 rfl rfl)
theorem dX10_rubs_28 : decode cX10_rubs 28 = .ok (.istore_n 3, 1) := dk_62 (dk_at dksX10_rubs_1 4 rfl rfl)
theorem dX10_rubs_29 : decode cX10_rubs 29 = .ok (.iload_n 3, 1) := dk_29 (dk_at dksX10_rubs_1 5 rfl rfl)
theorem dX10_rubs_30 : decode cX10_rubs 30 = .ok (.bipush 10, 2) := dk_16 10 (dk_at dksX10_rubs_1 6 rfl rfl)
theorem dX10_rubs_32 : decode cX10_rubs 32 = .ok (.if_icmp .gt 25, 3) := dk_163 0 25 (dk_at dksX10_rubs_1 8 rfl rfl)
theorem dX10_rubs_35 : decode cX10_rubs 35 = .ok (.aload_n 0, 1) := dk_42 (dk_at dksX10_rubs_1 11 rfl rfl)
theorem dX10_rubs_36 : decode cX10_rubs 36 = .ok (.iload_n 1, 1) := dk_27 (dk_at dksX10_rubs_1 12 rfl rfl)
theorem dX10_rubs_37 : decode cX10_rubs 37 = .ok (.invokevirtual 405, 3) := dk_182 1 149 (dk_at dksX10_rubs_1 13 rfl rfl)
theorem dX10_rubs_40 : decode cX10_rubs 40 = .ok (.aload_n 0, 1) := dk_42 (dk_at dksX10_rubs_1 16 rfl rfl)
theorem dX10_rubs_41 : decode cX10_rubs 41 = .ok (.iload_n 1, 1) := dk_27 (dk_at dksX10_rubs_1 17 rfl rfl)
theorem dX10_rubs_42 : decode cX10_rubs 42 = .ok (.invokevirtual 390, 3) := dk_182 1 134 (dk_at dksX10_rubs_1 18 rfl rfl)
theorem dX10_rubs_45 : decode cX10_rubs 45 = .ok (.iload_n 2, 1) := dk_28 (dk_at dksX10_rubs_1 21 rfl rfl)
theorem dX10_rubs_46 : decode cX10_rubs 46 = .ok (.if_icmp .eq 5, 3) := dk_159 0 5 (dk_at dksX10_rubs_2 0 rfl rfl)
theorem dX10_rubs_49 : decode cX10_rubs 49 = .ok (.iload_n 3, 1) := dk_29 (dk_at dksX10_rubs_2 3 rfl rfl)
theorem dX10_rubs_50 : decode cX10_rubs 50 = .ok (.ireturn, 1) := dk_172 (dk_at dksX10_rubs_2 4 rfl rfl)
theorem dX10_rubs_51 : decode cX10_rubs 51 = .ok (.iinc 3 1, 3) := dk_132 3 1 (dk_at dksX10_rubs_2 5 rfl rfl)
theorem dX10_rubs_54 : decode cX10_rubs 54 = .ok (.goto (-25), 3) := dk_167 255 231 (dk_at dksX10_rubs_2 8 rfl rfl)
theorem dX10_rubs_57 : decode cX10_rubs 57 = .ok (.bipush (-2), 2) := dk_16 254 (dk_at dksX10_rubs_2 11 rfl rfl)
theorem dX10_rubs_59 : decode cX10_rubs 59 = .ok (.ireturn, 1) := dk_172 (dk_at dksX10_rubs_2 13 rfl rfl)
abbrev cX10_when : ByteArray := prog_21_method_99_code
def yX10_when : MethodName := ⟨RX10, "when", "(II)I"⟩
def dkwX10_when_1 : List UInt8 := [27, 182, 1, 134, 28, 160, 0, 5, 29, 172, 42, 182, 1, 128, 132, 3, 1, 167, 255, 232, 16, 254, 172]
abbrev dktX10_when_1 : List UInt8 := dkwX10_when_1 ++ []
def dkwX10_when_0 : List UInt8 := [42, 27, 28, 182, 1, 143, 154, 0, 5, 2, 172, 42, 182, 1, 174, 3, 62, 29, 16, 60, 163, 0, 24, 42]
abbrev dktX10_when_0 : List UInt8 := dkwX10_when_0 ++ dktX10_when_1
theorem dksX10_when_0 : cX10_when.data.toList.drop 0 = dktX10_when_0 := by decide +kernel
theorem dksX10_when_1 : cX10_when.data.toList.drop 24 = dktX10_when_1 := dk_seg dksX10_when_0 24 rfl rfl
theorem dX10_when_0 : decode cX10_when 0 = .ok (.aload_n 0, 1) := dk_42 (dk_at dksX10_when_0 0 rfl rfl)
theorem dX10_when_1 : decode cX10_when 1 = .ok (.iload_n 1, 1) := dk_27 (dk_at dksX10_when_0 1 rfl rfl)
theorem dX10_when_2 : decode cX10_when 2 = .ok (.iload_n 2, 1) := dk_28 (dk_at dksX10_when_0 2 rfl rfl)
theorem dX10_when_3 : decode cX10_when 3 = .ok (.invokevirtual 399, 3) := dk_182 1 143 (dk_at dksX10_when_0 3 rfl rfl)
theorem dX10_when_6 : decode cX10_when 6 = .ok (.ifCond .ne 5, 3) := dk_154 0 5 (dk_at dksX10_when_0 6 rfl rfl)
theorem dX10_when_9 : decode cX10_when 9 = .ok (.iconst (-1), 1) := dk_2 (dk_at dksX10_when_0 9 rfl rfl)
theorem dX10_when_10 : decode cX10_when 10 = .ok (.ireturn, 1) := dk_172 (dk_at dksX10_when_0 10 rfl rfl)
theorem dX10_when_11 : decode cX10_when 11 = .ok (.aload_n 0, 1) := dk_42 (dk_at dksX10_when_0 11 rfl rfl)
theorem dX10_when_12 : decode cX10_when 12 = .ok (.invokevirtual 430, 3) := dk_182 1 174 (dk_at dksX10_when_0 12 rfl rfl)
theorem dX10_when_15 : decode cX10_when 15 = .ok (.iconst 0, 1) := dk_3 (dk_at dksX10_when_0 15 rfl rfl)
theorem dX10_when_16 : decode cX10_when 16 = .ok (.istore_n 3, 1) := dk_62 (dk_at dksX10_when_0 16 rfl rfl)
theorem dX10_when_17 : decode cX10_when 17 = .ok (.iload_n 3, 1) := dk_29 (dk_at dksX10_when_0 17 rfl rfl)
theorem dX10_when_18 : decode cX10_when 18 = .ok (.bipush 60, 2) := dk_16 60 (dk_at dksX10_when_0 18 rfl rfl)
theorem dX10_when_20 : decode cX10_when 20 = .ok (.if_icmp .gt 24, 3) := dk_163 0 24 (dk_at dksX10_when_0 20 rfl rfl)
theorem dX10_when_23 : decode cX10_when 23 = .ok (.aload_n 0, 1) := dk_42 (dk_at dksX10_when_0 23 rfl rfl)
theorem dX10_when_24 : decode cX10_when 24 = .ok (.iload_n 1, 1) := dk_27 (dk_at dksX10_when_1 0 rfl rfl)
theorem dX10_when_25 : decode cX10_when 25 = .ok (.invokevirtual 390, 3) := dk_182 1 134 (dk_at dksX10_when_1 1 rfl rfl)
theorem dX10_when_28 : decode cX10_when 28 = .ok (.iload_n 2, 1) := dk_28 (dk_at dksX10_when_1 4 rfl rfl)
theorem dX10_when_29 : decode cX10_when 29 = .ok (.if_icmp .ne 5, 3) := dk_160 0 5 (dk_at dksX10_when_1 5 rfl rfl)
theorem dX10_when_32 : decode cX10_when 32 = .ok (.iload_n 3, 1) := dk_29 (dk_at dksX10_when_1 8 rfl rfl)
theorem dX10_when_33 : decode cX10_when 33 = .ok (.ireturn, 1) := dk_172 (dk_at dksX10_when_1 9 rfl rfl)
theorem dX10_when_34 : decode cX10_when 34 = .ok (.aload_n 0, 1) := dk_42 (dk_at dksX10_when_1 10 rfl rfl)
theorem dX10_when_35 : decode cX10_when 35 = .ok (.invokevirtual 384, 3) := dk_182 1 128 (dk_at dksX10_when_1 11 rfl rfl)
theorem dX10_when_38 : decode cX10_when 38 = .ok (.iinc 3 1, 3) := dk_132 3 1 (dk_at dksX10_when_1 14 rfl rfl)
theorem dX10_when_41 : decode cX10_when 41 = .ok (.goto (-24), 3) := dk_167 255 232 (dk_at dksX10_when_1 17 rfl rfl)
theorem dX10_when_44 : decode cX10_when 44 = .ok (.bipush (-2), 2) := dk_16 254 (dk_at dksX10_when_1 20 rfl rfl)
theorem dX10_when_46 : decode cX10_when 46 = .ok (.ireturn, 1) := dk_172 (dk_at dksX10_when_1 22 rfl rfl)
abbrev cX10_alone : ByteArray := prog_21_method_100_code
def yX10_alone : MethodName := ⟨RX10, "alone", "(II)I"⟩
def dkwX10_alone_2 : List UInt8 := [172]
abbrev dktX10_alone_2 : List UInt8 := dkwX10_alone_2 ++ []
def dkwX10_alone_1 : List UInt8 := [27, 182, 1, 134, 28, 160, 0, 5, 29, 172, 42, 27, 28, 182, 1, 118, 132, 3, 1, 167, 255, 230, 16, 254]
abbrev dktX10_alone_1 : List UInt8 := dkwX10_alone_1 ++ dktX10_alone_2
def dkwX10_alone_0 : List UInt8 := [42, 27, 28, 182, 1, 143, 154, 0, 5, 2, 172, 42, 182, 1, 67, 3, 62, 29, 16, 60, 163, 0, 26, 42]
abbrev dktX10_alone_0 : List UInt8 := dkwX10_alone_0 ++ dktX10_alone_1
theorem dksX10_alone_0 : cX10_alone.data.toList.drop 0 = dktX10_alone_0 := by decide +kernel
theorem dksX10_alone_1 : cX10_alone.data.toList.drop 24 = dktX10_alone_1 := dk_seg dksX10_alone_0 24 rfl rfl
theorem dksX10_alone_2 : cX10_alone.data.toList.drop 48 = dktX10_alone_2 := dk_seg dksX10_alone_1 24 rfl rfl
theorem dX10_alone_0 : decode cX10_alone 0 = .ok (.aload_n 0, 1) := dk_42 (dk_at dksX10_alone_0 0 rfl rfl)
theorem dX10_alone_1 : decode cX10_alone 1 = .ok (.iload_n 1, 1) := dk_27 (dk_at dksX10_alone_0 1 rfl rfl)
theorem dX10_alone_2 : decode cX10_alone 2 = .ok (.iload_n 2, 1) := dk_28 (dk_at dksX10_alone_0 2 rfl rfl)
theorem dX10_alone_3 : decode cX10_alone 3 = .ok (.invokevirtual 399, 3) := dk_182 1 143 (dk_at dksX10_alone_0 3 rfl rfl)
theorem dX10_alone_6 : decode cX10_alone 6 = .ok (.ifCond .ne 5, 3) := dk_154 0 5 (dk_at dksX10_alone_0 6 rfl rfl)
theorem dX10_alone_9 : decode cX10_alone 9 = .ok (.iconst (-1), 1) := dk_2 (dk_at dksX10_alone_0 9 rfl rfl)
theorem dX10_alone_10 : decode cX10_alone 10 = .ok (.ireturn, 1) := dk_172 (dk_at dksX10_alone_0 10 rfl rfl)
theorem dX10_alone_11 : decode cX10_alone 11 = .ok (.aload_n 0, 1) := dk_42 (dk_at dksX10_alone_0 11 rfl rfl)
theorem dX10_alone_12 : decode cX10_alone 12 = .ok (.invokevirtual 323, 3) := dk_182 1 67 (dk_at dksX10_alone_0 12 rfl rfl)
theorem dX10_alone_15 : decode cX10_alone 15 = .ok (.iconst 0, 1) := dk_3 (dk_at dksX10_alone_0 15 rfl rfl)
theorem dX10_alone_16 : decode cX10_alone 16 = .ok (.istore_n 3, 1) := dk_62 (dk_at dksX10_alone_0 16 rfl rfl)
theorem dX10_alone_17 : decode cX10_alone 17 = .ok (.iload_n 3, 1) := dk_29 (dk_at dksX10_alone_0 17 rfl rfl)
theorem dX10_alone_18 : decode cX10_alone 18 = .ok (.bipush 60, 2) := dk_16 60 (dk_at dksX10_alone_0 18 rfl rfl)
theorem dX10_alone_20 : decode cX10_alone 20 = .ok (.if_icmp .gt 26, 3) := dk_163 0 26 (dk_at dksX10_alone_0 20 rfl rfl)
theorem dX10_alone_23 : decode cX10_alone 23 = .ok (.aload_n 0, 1) := dk_42 (dk_at dksX10_alone_0 23 rfl rfl)
theorem dX10_alone_24 : decode cX10_alone 24 = .ok (.iload_n 1, 1) := dk_27 (dk_at dksX10_alone_1 0 rfl rfl)
theorem dX10_alone_25 : decode cX10_alone 25 = .ok (.invokevirtual 390, 3) := dk_182 1 134 (dk_at dksX10_alone_1 1 rfl rfl)
theorem dX10_alone_28 : decode cX10_alone 28 = .ok (.iload_n 2, 1) := dk_28 (dk_at dksX10_alone_1 4 rfl rfl)
theorem dX10_alone_29 : decode cX10_alone 29 = .ok (.if_icmp .ne 5, 3) := dk_160 0 5 (dk_at dksX10_alone_1 5 rfl rfl)
theorem dX10_alone_32 : decode cX10_alone 32 = .ok (.iload_n 3, 1) := dk_29 (dk_at dksX10_alone_1 8 rfl rfl)
theorem dX10_alone_33 : decode cX10_alone 33 = .ok (.ireturn, 1) := dk_172 (dk_at dksX10_alone_1 9 rfl rfl)
theorem dX10_alone_34 : decode cX10_alone 34 = .ok (.aload_n 0, 1) := dk_42 (dk_at dksX10_alone_1 10 rfl rfl)
theorem dX10_alone_35 : decode cX10_alone 35 = .ok (.iload_n 1, 1) := dk_27 (dk_at dksX10_alone_1 11 rfl rfl)
theorem dX10_alone_36 : decode cX10_alone 36 = .ok (.iload_n 2, 1) := dk_28 (dk_at dksX10_alone_1 12 rfl rfl)
theorem dX10_alone_37 : decode cX10_alone 37 = .ok (.invokevirtual 374, 3) := dk_182 1 118 (dk_at dksX10_alone_1 13 rfl rfl)
theorem dX10_alone_40 : decode cX10_alone 40 = .ok (.iinc 3 1, 3) := dk_132 3 1 (dk_at dksX10_alone_1 16 rfl rfl)
theorem dX10_alone_43 : decode cX10_alone 43 = .ok (.goto (-26), 3) := dk_167 255 230 (dk_at dksX10_alone_1 19 rfl rfl)
theorem dX10_alone_46 : decode cX10_alone 46 = .ok (.bipush (-2), 2) := dk_16 254 (dk_at dksX10_alone_1 22 rfl rfl)
theorem dX10_alone_48 : decode cX10_alone 48 = .ok (.ireturn, 1) := dk_172 (dk_at dksX10_alone_2 0 rfl rfl)
abbrev cX10_nearest : ByteArray := prog_21_method_101_code
def yX10_nearest : MethodName := ⟨RX10, "nearest", "(II)I"⟩
def dkwX10_nearest_3 : List UInt8 := [42, 29, 28, 182, 1, 77, 184, 1, 80, 162, 0, 6, 21, 4, 62, 132, 4, 1, 167, 255, 190, 29, 172]
abbrev dktX10_nearest_3 : List UInt8 := dkwX10_nearest_3 ++ []
def dkwX10_nearest_2 : List UInt8 := [104, 28, 96, 46, 42, 21, 4, 28, 182, 1, 77, 184, 1, 80, 42, 180, 0, 119, 7, 27, 104, 28, 96, 46]
abbrev dktX10_nearest_2 : List UInt8 := dkwX10_nearest_2 ++ dktX10_nearest_3
def dkwX10_nearest_1 : List UInt8 := [21, 4, 42, 180, 0, 52, 42, 180, 0, 233, 46, 162, 0, 58, 29, 155, 0, 45, 42, 180, 0, 119, 7, 27]
abbrev dktX10_nearest_1 : List UInt8 := dkwX10_nearest_1 ++ dktX10_nearest_2
def dkwX10_nearest_0 : List UInt8 := [42, 27, 182, 1, 131, 153, 0, 10, 28, 184, 1, 152, 154, 0, 5, 2, 172, 16, 254, 62, 3, 54, 4]
abbrev dktX10_nearest_0 : List UInt8 := dkwX10_nearest_0 ++ dktX10_nearest_1
theorem dksX10_nearest_0 : cX10_nearest.data.toList.drop 0 = dktX10_nearest_0 := by decide +kernel
theorem dksX10_nearest_1 : cX10_nearest.data.toList.drop 23 = dktX10_nearest_1 := dk_seg dksX10_nearest_0 23 rfl rfl
theorem dksX10_nearest_2 : cX10_nearest.data.toList.drop 47 = dktX10_nearest_2 := dk_seg dksX10_nearest_1 24 rfl rfl
theorem dksX10_nearest_3 : cX10_nearest.data.toList.drop 71 = dktX10_nearest_3 := dk_seg dksX10_nearest_2 24 rfl rfl
theorem dX10_nearest_0 : decode cX10_nearest 0 = .ok (.aload_n 0, 1) := dk_42 (dk_at dksX10_nearest_0 0 rfl rfl)
theorem dX10_nearest_1 : decode cX10_nearest 1 = .ok (.iload_n 1, 1) := dk_27 (dk_at dksX10_nearest_0 1 rfl rfl)
theorem dX10_nearest_2 : decode cX10_nearest 2 = .ok (.invokevirtual 387, 3) := dk_182 1 131 (dk_at dksX10_nearest_0 2 rfl rfl)
theorem dX10_nearest_5 : decode cX10_nearest 5 = .ok (.ifCond .eq 10, 3) := dk_153 0 10 (dk_at dksX10_nearest_0 5 rfl rfl)
theorem dX10_nearest_8 : decode cX10_nearest 8 = .ok (.iload_n 2, 1) := dk_28 (dk_at dksX10_nearest_0 8 rfl rfl)
theorem dX10_nearest_9 : decode cX10_nearest 9 = .ok (.invokestatic 408, 3) := dk_184 1 152 (dk_at dksX10_nearest_0 9 rfl rfl)
theorem dX10_nearest_12 : decode cX10_nearest 12 = .ok (.ifCond .ne 5, 3) := dk_154 0 5 (dk_at dksX10_nearest_0 12 rfl rfl)
theorem dX10_nearest_15 : decode cX10_nearest 15 = .ok (.iconst (-1), 1) := dk_2 (dk_at dksX10_nearest_0 15 rfl rfl)
theorem dX10_nearest_16 : decode cX10_nearest 16 = .ok (.ireturn, 1) := dk_172 (dk_at dksX10_nearest_0 16 rfl rfl)
theorem dX10_nearest_17 : decode cX10_nearest 17 = .ok (.bipush (-2), 2) := dk_16 254 (dk_at dksX10_nearest_0 17 rfl rfl)
theorem dX10_nearest_19 : decode cX10_nearest 19 = .ok (.istore_n 3, 1) := dk_62 (dk_at dksX10_nearest_0 19 rfl rfl)
theorem dX10_nearest_20 : decode cX10_nearest 20 = .ok (.iconst 0, 1) := dk_3 (dk_at dksX10_nearest_0 20 rfl rfl)
theorem dX10_nearest_21 : decode cX10_nearest 21 = .ok (.istore 4, 2) := dk_54 4 (dk_at dksX10_nearest_0 21 rfl rfl)
theorem dX10_nearest_23 : decode cX10_nearest 23 = .ok (.iload 4, 2) := dk_21 4 (dk_at dksX10_nearest_1 0 rfl rfl)
theorem dX10_nearest_25 : decode cX10_nearest 25 = .ok (.aload_n 0, 1) := dk_42 (dk_at dksX10_nearest_1 2 rfl rfl)
theorem dX10_nearest_26 : decode cX10_nearest 26 = .ok (.getfield 52, 3) := dk_180 0 52 (dk_at dksX10_nearest_1 3 rfl rfl)
theorem dX10_nearest_29 : decode cX10_nearest 29 = .ok (.aload_n 0, 1) := dk_42 (dk_at dksX10_nearest_1 6 rfl rfl)
theorem dX10_nearest_30 : decode cX10_nearest 30 = .ok (.getfield 233, 3) := dk_180 0 233 (dk_at dksX10_nearest_1 7 rfl rfl)
theorem dX10_nearest_33 : decode cX10_nearest 33 = .ok (.iaload, 1) := dk_46 (dk_at dksX10_nearest_1 10 rfl rfl)
theorem dX10_nearest_34 : decode cX10_nearest 34 = .ok (.if_icmp .ge 58, 3) := dk_162 0 58 (dk_at dksX10_nearest_1 11 rfl rfl)
theorem dX10_nearest_37 : decode cX10_nearest 37 = .ok (.iload_n 3, 1) := dk_29 (dk_at dksX10_nearest_1 14 rfl rfl)
theorem dX10_nearest_38 : decode cX10_nearest 38 = .ok (.ifCond .lt 45, 3) := dk_155 0 45 (dk_at dksX10_nearest_1 15 rfl rfl)
theorem dX10_nearest_41 : decode cX10_nearest 41 = .ok (.aload_n 0, 1) := dk_42 (dk_at dksX10_nearest_1 18 rfl rfl)
theorem dX10_nearest_42 : decode cX10_nearest 42 = .ok (.getfield 119, 3) := dk_180 0 119 (dk_at dksX10_nearest_1 19 rfl rfl)
theorem dX10_nearest_45 : decode cX10_nearest 45 = .ok (.iconst 4, 1) := dk_7 (dk_at dksX10_nearest_1 22 rfl rfl)
theorem dX10_nearest_46 : decode cX10_nearest 46 = .ok (.iload_n 1, 1) := dk_27 (dk_at dksX10_nearest_1 23 rfl rfl)
theorem dX10_nearest_47 : decode cX10_nearest 47 = .ok (.imul, 1) := dk_104 (dk_at dksX10_nearest_2 0 rfl rfl)
theorem dX10_nearest_48 : decode cX10_nearest 48 = .ok (.iload_n 2, 1) := dk_28 (dk_at dksX10_nearest_2 1 rfl rfl)
theorem dX10_nearest_49 : decode cX10_nearest 49 = .ok (.iadd, 1) := dk_96 (dk_at dksX10_nearest_2 2 rfl rfl)
theorem dX10_nearest_50 : decode cX10_nearest 50 = .ok (.iaload, 1) := dk_46 (dk_at dksX10_nearest_2 3 rfl rfl)
theorem dX10_nearest_51 : decode cX10_nearest 51 = .ok (.aload_n 0, 1) := dk_42 (dk_at dksX10_nearest_2 4 rfl rfl)
theorem dX10_nearest_52 : decode cX10_nearest 52 = .ok (.iload 4, 2) := dk_21 4 (dk_at dksX10_nearest_2 5 rfl rfl)
theorem dX10_nearest_54 : decode cX10_nearest 54 = .ok (.iload_n 2, 1) := dk_28 (dk_at dksX10_nearest_2 7 rfl rfl)
theorem dX10_nearest_55 : decode cX10_nearest 55 = .ok (.invokevirtual 333, 3) := dk_182 1 77 (dk_at dksX10_nearest_2 8 rfl rfl)
theorem dX10_nearest_58 : decode cX10_nearest 58 = .ok (.invokestatic 336, 3) := dk_184 1 80 (dk_at dksX10_nearest_2 11 rfl rfl)
theorem dX10_nearest_61 : decode cX10_nearest 61 = .ok (.aload_n 0, 1) := dk_42 (dk_at dksX10_nearest_2 14 rfl rfl)
theorem dX10_nearest_62 : decode cX10_nearest 62 = .ok (.getfield 119, 3) := dk_180 0 119 (dk_at dksX10_nearest_2 15 rfl rfl)
theorem dX10_nearest_65 : decode cX10_nearest 65 = .ok (.iconst 4, 1) := dk_7 (dk_at dksX10_nearest_2 18 rfl rfl)
theorem dX10_nearest_66 : decode cX10_nearest 66 = .ok (.iload_n 1, 1) := dk_27 (dk_at dksX10_nearest_2 19 rfl rfl)
theorem dX10_nearest_67 : decode cX10_nearest 67 = .ok (.imul, 1) := dk_104 (dk_at dksX10_nearest_2 20 rfl rfl)
theorem dX10_nearest_68 : decode cX10_nearest 68 = .ok (.iload_n 2, 1) := dk_28 (dk_at dksX10_nearest_2 21 rfl rfl)
theorem dX10_nearest_69 : decode cX10_nearest 69 = .ok (.iadd, 1) := dk_96 (dk_at dksX10_nearest_2 22 rfl rfl)
theorem dX10_nearest_70 : decode cX10_nearest 70 = .ok (.iaload, 1) := dk_46 (dk_at dksX10_nearest_2 23 rfl rfl)
theorem dX10_nearest_71 : decode cX10_nearest 71 = .ok (.aload_n 0, 1) := dk_42 (dk_at dksX10_nearest_3 0 rfl rfl)
theorem dX10_nearest_72 : decode cX10_nearest 72 = .ok (.iload_n 3, 1) := dk_29 (dk_at dksX10_nearest_3 1 rfl rfl)
theorem dX10_nearest_73 : decode cX10_nearest 73 = .ok (.iload_n 2, 1) := dk_28 (dk_at dksX10_nearest_3 2 rfl rfl)
theorem dX10_nearest_74 : decode cX10_nearest 74 = .ok (.invokevirtual 333, 3) := dk_182 1 77 (dk_at dksX10_nearest_3 3 rfl rfl)
theorem dX10_nearest_77 : decode cX10_nearest 77 = .ok (.invokestatic 336, 3) := dk_184 1 80 (dk_at dksX10_nearest_3 6 rfl rfl)
theorem dX10_nearest_80 : decode cX10_nearest 80 = .ok (.if_icmp .ge 6, 3) := dk_162 0 6 (dk_at dksX10_nearest_3 9 rfl rfl)
theorem dX10_nearest_83 : decode cX10_nearest 83 = .ok (.iload 4, 2) := dk_21 4 (dk_at dksX10_nearest_3 12 rfl rfl)
theorem dX10_nearest_85 : decode cX10_nearest 85 = .ok (.istore_n 3, 1) := dk_62 (dk_at dksX10_nearest_3 14 rfl rfl)
theorem dX10_nearest_86 : decode cX10_nearest 86 = .ok (.iinc 4 1, 3) := dk_132 4 1 (dk_at dksX10_nearest_3 15 rfl rfl)
theorem dX10_nearest_89 : decode cX10_nearest 89 = .ok (.goto (-66), 3) := dk_167 255 190 (dk_at dksX10_nearest_3 18 rfl rfl)
theorem dX10_nearest_92 : decode cX10_nearest 92 = .ok (.iload_n 3, 1) := dk_29 (dk_at dksX10_nearest_3 21 rfl rfl)
theorem dX10_nearest_93 : decode cX10_nearest 93 = .ok (.ireturn, 1) := dk_172 (dk_at dksX10_nearest_3 22 rfl rfl)
abbrev cX10_same : ByteArray := prog_21_method_102_code
def yX10_same : MethodName := ⟨RX10, "same", "(II)I"⟩
def dkwX10_same_2 : List UInt8 := [120, 128, 62, 132, 4, 1, 167, 255, 219, 29, 172]
abbrev dktX10_same_2 : List UInt8 := dkwX10_same_2 ++ []
def dkwX10_same_1 : List UInt8 := [180, 0, 119, 7, 27, 104, 21, 4, 96, 46, 42, 28, 21, 4, 182, 1, 77, 160, 0, 10, 29, 4, 21, 4]
abbrev dktX10_same_1 : List UInt8 := dkwX10_same_1 ++ dktX10_same_2
def dkwX10_same_0 : List UInt8 := [42, 27, 28, 182, 1, 143, 154, 0, 5, 2, 172, 3, 62, 3, 54, 4, 21, 4, 7, 162, 0, 37, 42]
abbrev dktX10_same_0 : List UInt8 := dkwX10_same_0 ++ dktX10_same_1
theorem dksX10_same_0 : cX10_same.data.toList.drop 0 = dktX10_same_0 := by decide +kernel
theorem dksX10_same_1 : cX10_same.data.toList.drop 23 = dktX10_same_1 := dk_seg dksX10_same_0 23 rfl rfl
theorem dksX10_same_2 : cX10_same.data.toList.drop 47 = dktX10_same_2 := dk_seg dksX10_same_1 24 rfl rfl
theorem dX10_same_0 : decode cX10_same 0 = .ok (.aload_n 0, 1) := dk_42 (dk_at dksX10_same_0 0 rfl rfl)
theorem dX10_same_1 : decode cX10_same 1 = .ok (.iload_n 1, 1) := dk_27 (dk_at dksX10_same_0 1 rfl rfl)
theorem dX10_same_2 : decode cX10_same 2 = .ok (.iload_n 2, 1) := dk_28 (dk_at dksX10_same_0 2 rfl rfl)
theorem dX10_same_3 : decode cX10_same 3 = .ok (.invokevirtual 399, 3) := dk_182 1 143 (dk_at dksX10_same_0 3 rfl rfl)
theorem dX10_same_6 : decode cX10_same 6 = .ok (.ifCond .ne 5, 3) := dk_154 0 5 (dk_at dksX10_same_0 6 rfl rfl)
theorem dX10_same_9 : decode cX10_same 9 = .ok (.iconst (-1), 1) := dk_2 (dk_at dksX10_same_0 9 rfl rfl)
theorem dX10_same_10 : decode cX10_same 10 = .ok (.ireturn, 1) := dk_172 (dk_at dksX10_same_0 10 rfl rfl)
theorem dX10_same_11 : decode cX10_same 11 = .ok (.iconst 0, 1) := dk_3 (dk_at dksX10_same_0 11 rfl rfl)
theorem dX10_same_12 : decode cX10_same 12 = .ok (.istore_n 3, 1) := dk_62 (dk_at dksX10_same_0 12 rfl rfl)
theorem dX10_same_13 : decode cX10_same 13 = .ok (.iconst 0, 1) := dk_3 (dk_at dksX10_same_0 13 rfl rfl)
theorem dX10_same_14 : decode cX10_same 14 = .ok (.istore 4, 2) := dk_54 4 (dk_at dksX10_same_0 14 rfl rfl)
theorem dX10_same_16 : decode cX10_same 16 = .ok (.iload 4, 2) := dk_21 4 (dk_at dksX10_same_0 16 rfl rfl)
theorem dX10_same_18 : decode cX10_same 18 = .ok (.iconst 4, 1) := dk_7 (dk_at dksX10_same_0 18 rfl rfl)
theorem dX10_same_19 : decode cX10_same 19 = .ok (.if_icmp .ge 37, 3) := dk_162 0 37 (dk_at dksX10_same_0 19 rfl rfl)
theorem dX10_same_22 : decode cX10_same 22 = .ok (.aload_n 0, 1) := dk_42 (dk_at dksX10_same_0 22 rfl rfl)
theorem dX10_same_23 : decode cX10_same 23 = .ok (.getfield 119, 3) := dk_180 0 119 (dk_at dksX10_same_1 0 rfl rfl)
theorem dX10_same_26 : decode cX10_same 26 = .ok (.iconst 4, 1) := dk_7 (dk_at dksX10_same_1 3 rfl rfl)
theorem dX10_same_27 : decode cX10_same 27 = .ok (.iload_n 1, 1) := dk_27 (dk_at dksX10_same_1 4 rfl rfl)
theorem dX10_same_28 : decode cX10_same 28 = .ok (.imul, 1) := dk_104 (dk_at dksX10_same_1 5 rfl rfl)
theorem dX10_same_29 : decode cX10_same 29 = .ok (.iload 4, 2) := dk_21 4 (dk_at dksX10_same_1 6 rfl rfl)
theorem dX10_same_31 : decode cX10_same 31 = .ok (.iadd, 1) := dk_96 (dk_at dksX10_same_1 8 rfl rfl)
theorem dX10_same_32 : decode cX10_same 32 = .ok (.iaload, 1) := dk_46 (dk_at dksX10_same_1 9 rfl rfl)
theorem dX10_same_33 : decode cX10_same 33 = .ok (.aload_n 0, 1) := dk_42 (dk_at dksX10_same_1 10 rfl rfl)
theorem dX10_same_34 : decode cX10_same 34 = .ok (.iload_n 2, 1) := dk_28 (dk_at dksX10_same_1 11 rfl rfl)
theorem dX10_same_35 : decode cX10_same 35 = .ok (.iload 4, 2) := dk_21 4 (dk_at dksX10_same_1 12 rfl rfl)
theorem dX10_same_37 : decode cX10_same 37 = .ok (.invokevirtual 333, 3) := dk_182 1 77 (dk_at dksX10_same_1 14 rfl rfl)
theorem dX10_same_40 : decode cX10_same 40 = .ok (.if_icmp .ne 10, 3) := dk_160 0 10 (dk_at dksX10_same_1 17 rfl rfl)
theorem dX10_same_43 : decode cX10_same 43 = .ok (.iload_n 3, 1) := dk_29 (dk_at dksX10_same_1 20 rfl rfl)
theorem dX10_same_44 : decode cX10_same 44 = .ok (.iconst 1, 1) := dk_4 (dk_at dksX10_same_1 21 rfl rfl)
theorem dX10_same_45 : decode cX10_same 45 = .ok (.iload 4, 2) := dk_21 4 (dk_at dksX10_same_1 22 rfl rfl)
theorem dX10_same_47 : decode cX10_same 47 = .ok (.ishl, 1) := dk_120 (dk_at dksX10_same_2 0 rfl rfl)
theorem dX10_same_48 : decode cX10_same 48 = .ok (.ior, 1) := dk_128 (dk_at dksX10_same_2 1 rfl rfl)
theorem dX10_same_49 : decode cX10_same 49 = .ok (.istore_n 3, 1) := dk_62 (dk_at dksX10_same_2 2 rfl rfl)
theorem dX10_same_50 : decode cX10_same 50 = .ok (.iinc 4 1, 3) := dk_132 4 1 (dk_at dksX10_same_2 3 rfl rfl)
theorem dX10_same_53 : decode cX10_same 53 = .ok (.goto (-37), 3) := dk_167 255 219 (dk_at dksX10_same_2 6 rfl rfl)
theorem dX10_same_56 : decode cX10_same 56 = .ok (.iload_n 3, 1) := dk_29 (dk_at dksX10_same_2 9 rfl rfl)
theorem dX10_same_57 : decode cX10_same 57 = .ok (.ireturn, 1) := dk_172 (dk_at dksX10_same_2 10 rfl rfl)
abbrev cX10_shift : ByteArray := prog_21_method_103_code
def yX10_shift : MethodName := ⟨RX10, "shift", "(II)I"⟩
def dkwX10_shift_3 : List UInt8 := [29, 172]
abbrev dktX10_shift_3 : List UInt8 := dkwX10_shift_3 ++ []
def dkwX10_shift_2 : List UInt8 := [96, 46, 42, 180, 0, 119, 7, 27, 104, 21, 4, 96, 46, 184, 1, 80, 96, 62, 132, 4, 1, 167, 255, 219]
abbrev dktX10_shift_2 : List UInt8 := dkwX10_shift_2 ++ dktX10_shift_3
def dkwX10_shift_1 : List UInt8 := [182, 1, 158, 3, 62, 3, 54, 4, 21, 4, 7, 162, 0, 37, 29, 42, 180, 0, 122, 7, 27, 104, 21, 4]
abbrev dktX10_shift_1 : List UInt8 := dkwX10_shift_1 ++ dktX10_shift_2
def dkwX10_shift_0 : List UInt8 := [42, 27, 182, 1, 131, 153, 0, 10, 28, 184, 1, 155, 154, 0, 5, 2, 172, 42, 182, 1, 174, 42, 28]
abbrev dktX10_shift_0 : List UInt8 := dkwX10_shift_0 ++ dktX10_shift_1
theorem dksX10_shift_0 : cX10_shift.data.toList.drop 0 = dktX10_shift_0 := by decide +kernel
theorem dksX10_shift_1 : cX10_shift.data.toList.drop 23 = dktX10_shift_1 := dk_seg dksX10_shift_0 23 rfl rfl
theorem dksX10_shift_2 : cX10_shift.data.toList.drop 47 = dktX10_shift_2 := dk_seg dksX10_shift_1 24 rfl rfl
theorem dksX10_shift_3 : cX10_shift.data.toList.drop 71 = dktX10_shift_3 := dk_seg dksX10_shift_2 24 rfl rfl
theorem dX10_shift_0 : decode cX10_shift 0 = .ok (.aload_n 0, 1) := dk_42 (dk_at dksX10_shift_0 0 rfl rfl)
theorem dX10_shift_1 : decode cX10_shift 1 = .ok (.iload_n 1, 1) := dk_27 (dk_at dksX10_shift_0 1 rfl rfl)
theorem dX10_shift_2 : decode cX10_shift 2 = .ok (.invokevirtual 387, 3) := dk_182 1 131 (dk_at dksX10_shift_0 2 rfl rfl)
theorem dX10_shift_5 : decode cX10_shift 5 = .ok (.ifCond .eq 10, 3) := dk_153 0 10 (dk_at dksX10_shift_0 5 rfl rfl)
theorem dX10_shift_8 : decode cX10_shift 8 = .ok (.iload_n 2, 1) := dk_28 (dk_at dksX10_shift_0 8 rfl rfl)
theorem dX10_shift_9 : decode cX10_shift 9 = .ok (.invokestatic 411, 3) := dk_184 1 155 (dk_at dksX10_shift_0 9 rfl rfl)
theorem dX10_shift_12 : decode cX10_shift 12 = .ok (.ifCond .ne 5, 3) := dk_154 0 5 (dk_at dksX10_shift_0 12 rfl rfl)
theorem dX10_shift_15 : decode cX10_shift 15 = .ok (.iconst (-1), 1) := dk_2 (dk_at dksX10_shift_0 15 rfl rfl)
theorem dX10_shift_16 : decode cX10_shift 16 = .ok (.ireturn, 1) := dk_172 (dk_at dksX10_shift_0 16 rfl rfl)
theorem dX10_shift_17 : decode cX10_shift 17 = .ok (.aload_n 0, 1) := dk_42 (dk_at dksX10_shift_0 17 rfl rfl)
theorem dX10_shift_18 : decode cX10_shift 18 = .ok (.invokevirtual 430, 3) := dk_182 1 174 (dk_at dksX10_shift_0 18 rfl rfl)
theorem dX10_shift_21 : decode cX10_shift 21 = .ok (.aload_n 0, 1) := dk_42 (dk_at dksX10_shift_0 21 rfl rfl)
theorem dX10_shift_22 : decode cX10_shift 22 = .ok (.iload_n 2, 1) := dk_28 (dk_at dksX10_shift_0 22 rfl rfl)
theorem dX10_shift_23 : decode cX10_shift 23 = .ok (.invokevirtual 414, 3) := dk_182 1 158 (dk_at dksX10_shift_1 0 rfl rfl)
theorem dX10_shift_26 : decode cX10_shift 26 = .ok (.iconst 0, 1) := dk_3 (dk_at dksX10_shift_1 3 rfl rfl)
theorem dX10_shift_27 : decode cX10_shift 27 = .ok (.istore_n 3, 1) := dk_62 (dk_at dksX10_shift_1 4 rfl rfl)
theorem dX10_shift_28 : decode cX10_shift 28 = .ok (.iconst 0, 1) := dk_3 (dk_at dksX10_shift_1 5 rfl rfl)
theorem dX10_shift_29 : decode cX10_shift 29 = .ok (.istore 4, 2) := dk_54 4 (dk_at dksX10_shift_1 6 rfl rfl)
theorem dX10_shift_31 : decode cX10_shift 31 = .ok (.iload 4, 2) := dk_21 4 (dk_at dksX10_shift_1 8 rfl rfl)
theorem dX10_shift_33 : decode cX10_shift 33 = .ok (.iconst 4, 1) := dk_7 (dk_at dksX10_shift_1 10 rfl rfl)
theorem dX10_shift_34 : decode cX10_shift 34 = .ok (.if_icmp .ge 37, 3) := dk_162 0 37 (dk_at dksX10_shift_1 11 rfl rfl)
theorem dX10_shift_37 : decode cX10_shift 37 = .ok (.iload_n 3, 1) := dk_29 (dk_at dksX10_shift_1 14 rfl rfl)
theorem dX10_shift_38 : decode cX10_shift 38 = .ok (.aload_n 0, 1) := dk_42 (dk_at dksX10_shift_1 15 rfl rfl)
theorem dX10_shift_39 : decode cX10_shift 39 = .ok (.getfield 122, 3) := dk_180 0 122 (dk_at dksX10_shift_1 16 rfl rfl)
theorem dX10_shift_42 : decode cX10_shift 42 = .ok (.iconst 4, 1) := dk_7 (dk_at dksX10_shift_1 19 rfl rfl)
theorem dX10_shift_43 : decode cX10_shift 43 = .ok (.iload_n 1, 1) := dk_27 (dk_at dksX10_shift_1 20 rfl rfl)
theorem dX10_shift_44 : decode cX10_shift 44 = .ok (.imul, 1) := dk_104 (dk_at dksX10_shift_1 21 rfl rfl)
theorem dX10_shift_45 : decode cX10_shift 45 = .ok (.iload 4, 2) := dk_21 4 (dk_at dksX10_shift_1 22 rfl rfl)
theorem dX10_shift_47 : decode cX10_shift 47 = .ok (.iadd, 1) := dk_96 (dk_at dksX10_shift_2 0 rfl rfl)
theorem dX10_shift_48 : decode cX10_shift 48 = .ok (.iaload, 1) := dk_46 (dk_at dksX10_shift_2 1 rfl rfl)
theorem dX10_shift_49 : decode cX10_shift 49 = .ok (.aload_n 0, 1) := dk_42 (dk_at dksX10_shift_2 2 rfl rfl)
theorem dX10_shift_50 : decode cX10_shift 50 = .ok (.getfield 119, 3) := dk_180 0 119 (dk_at dksX10_shift_2 3 rfl rfl)
theorem dX10_shift_53 : decode cX10_shift 53 = .ok (.iconst 4, 1) := dk_7 (dk_at dksX10_shift_2 6 rfl rfl)
theorem dX10_shift_54 : decode cX10_shift 54 = .ok (.iload_n 1, 1) := dk_27 (dk_at dksX10_shift_2 7 rfl rfl)
theorem dX10_shift_55 : decode cX10_shift 55 = .ok (.imul, 1) := dk_104 (dk_at dksX10_shift_2 8 rfl rfl)
theorem dX10_shift_56 : decode cX10_shift 56 = .ok (.iload 4, 2) := dk_21 4 (dk_at dksX10_shift_2 9 rfl rfl)
theorem dX10_shift_58 : decode cX10_shift 58 = .ok (.iadd, 1) := dk_96 (dk_at dksX10_shift_2 11 rfl rfl)
theorem dX10_shift_59 : decode cX10_shift 59 = .ok (.iaload, 1) := dk_46 (dk_at dksX10_shift_2 12 rfl rfl)
theorem dX10_shift_60 : decode cX10_shift 60 = .ok (.invokestatic 336, 3) := dk_184 1 80 (dk_at dksX10_shift_2 13 rfl rfl)
theorem dX10_shift_63 : decode cX10_shift 63 = .ok (.iadd, 1) := dk_96 (dk_at dksX10_shift_2 16 rfl rfl)
theorem dX10_shift_64 : decode cX10_shift 64 = .ok (.istore_n 3, 1) := dk_62 (dk_at dksX10_shift_2 17 rfl rfl)
theorem dX10_shift_65 : decode cX10_shift 65 = .ok (.iinc 4 1, 3) := dk_132 4 1 (dk_at dksX10_shift_2 18 rfl rfl)
theorem dX10_shift_68 : decode cX10_shift 68 = .ok (.goto (-37), 3) := dk_167 255 219 (dk_at dksX10_shift_2 21 rfl rfl)
theorem dX10_shift_71 : decode cX10_shift 71 = .ok (.iload_n 3, 1) := dk_29 (dk_at dksX10_shift_3 0 rfl rfl)
theorem dX10_shift_72 : decode cX10_shift 72 = .ok (.ireturn, 1) := dk_172 (dk_at dksX10_shift_3 1 rfl rfl)
abbrev cX10_calls : ByteArray := prog_21_method_105_code
def yX10_calls : MethodName := ⟨RX10, "calls", "(II)I"⟩
def dkwX10_calls_3 : List UInt8 := [29, 172]
abbrev dktX10_calls_3 : List UInt8 := dkwX10_calls_3 ++ []
def dkwX10_calls_2 : List UInt8 := [21, 4, 96, 46, 27, 160, 0, 13, 29, 42, 21, 4, 28, 182, 1, 192, 96, 62, 132, 4, 1, 167, 255, 210]
abbrev dktX10_calls_2 : List UInt8 := dkwX10_calls_2 ++ dktX10_calls_3
def dkwX10_calls_1 : List UInt8 := [42, 180, 0, 58, 42, 180, 0, 233, 46, 162, 0, 38, 42, 180, 0, 64, 16, 10, 42, 180, 0, 233, 104]
abbrev dktX10_calls_1 : List UInt8 := dkwX10_calls_1 ++ dktX10_calls_2
def dkwX10_calls_0 : List UInt8 := [42, 27, 182, 1, 131, 153, 0, 10, 28, 184, 1, 171, 154, 0, 5, 2, 172, 3, 62, 3, 54, 4, 21, 4]
abbrev dktX10_calls_0 : List UInt8 := dkwX10_calls_0 ++ dktX10_calls_1
theorem dksX10_calls_0 : cX10_calls.data.toList.drop 0 = dktX10_calls_0 := by decide +kernel
theorem dksX10_calls_1 : cX10_calls.data.toList.drop 24 = dktX10_calls_1 := dk_seg dksX10_calls_0 24 rfl rfl
theorem dksX10_calls_2 : cX10_calls.data.toList.drop 47 = dktX10_calls_2 := dk_seg dksX10_calls_1 23 rfl rfl
theorem dksX10_calls_3 : cX10_calls.data.toList.drop 71 = dktX10_calls_3 := dk_seg dksX10_calls_2 24 rfl rfl
theorem dX10_calls_0 : decode cX10_calls 0 = .ok (.aload_n 0, 1) := dk_42 (dk_at dksX10_calls_0 0 rfl rfl)
theorem dX10_calls_1 : decode cX10_calls 1 = .ok (.iload_n 1, 1) := dk_27 (dk_at dksX10_calls_0 1 rfl rfl)
theorem dX10_calls_2 : decode cX10_calls 2 = .ok (.invokevirtual 387, 3) := dk_182 1 131 (dk_at dksX10_calls_0 2 rfl rfl)
theorem dX10_calls_5 : decode cX10_calls 5 = .ok (.ifCond .eq 10, 3) := dk_153 0 10 (dk_at dksX10_calls_0 5 rfl rfl)
theorem dX10_calls_8 : decode cX10_calls 8 = .ok (.iload_n 2, 1) := dk_28 (dk_at dksX10_calls_0 8 rfl rfl)
theorem dX10_calls_9 : decode cX10_calls 9 = .ok (.invokestatic 427, 3) := dk_184 1 171 (dk_at dksX10_calls_0 9 rfl rfl)
theorem dX10_calls_12 : decode cX10_calls 12 = .ok (.ifCond .ne 5, 3) := dk_154 0 5 (dk_at dksX10_calls_0 12 rfl rfl)
theorem dX10_calls_15 : decode cX10_calls 15 = .ok (.iconst (-1), 1) := dk_2 (dk_at dksX10_calls_0 15 rfl rfl)
theorem dX10_calls_16 : decode cX10_calls 16 = .ok (.ireturn, 1) := dk_172 (dk_at dksX10_calls_0 16 rfl rfl)
theorem dX10_calls_17 : decode cX10_calls 17 = .ok (.iconst 0, 1) := dk_3 (dk_at dksX10_calls_0 17 rfl rfl)
theorem dX10_calls_18 : decode cX10_calls 18 = .ok (.istore_n 3, 1) := dk_62 (dk_at dksX10_calls_0 18 rfl rfl)
theorem dX10_calls_19 : decode cX10_calls 19 = .ok (.iconst 0, 1) := dk_3 (dk_at dksX10_calls_0 19 rfl rfl)
theorem dX10_calls_20 : decode cX10_calls 20 = .ok (.istore 4, 2) := dk_54 4 (dk_at dksX10_calls_0 20 rfl rfl)
theorem dX10_calls_22 : decode cX10_calls 22 = .ok (.iload 4, 2) := dk_21 4 (dk_at dksX10_calls_0 22 rfl rfl)
theorem dX10_calls_24 : decode cX10_calls 24 = .ok (.aload_n 0, 1) := dk_42 (dk_at dksX10_calls_1 0 rfl rfl)
theorem dX10_calls_25 : decode cX10_calls 25 = .ok (.getfield 58, 3) := dk_180 0 58 (dk_at dksX10_calls_1 1 rfl rfl)
theorem dX10_calls_28 : decode cX10_calls 28 = .ok (.aload_n 0, 1) := dk_42 (dk_at dksX10_calls_1 4 rfl rfl)
theorem dX10_calls_29 : decode cX10_calls 29 = .ok (.getfield 233, 3) := dk_180 0 233 (dk_at dksX10_calls_1 5 rfl rfl)
theorem dX10_calls_32 : decode cX10_calls 32 = .ok (.iaload, 1) := dk_46 (dk_at dksX10_calls_1 8 rfl rfl)
theorem dX10_calls_33 : decode cX10_calls 33 = .ok (.if_icmp .ge 38, 3) := dk_162 0 38 (dk_at dksX10_calls_1 9 rfl rfl)
theorem dX10_calls_36 : decode cX10_calls 36 = .ok (.aload_n 0, 1) := dk_42 (dk_at dksX10_calls_1 12 rfl rfl)
theorem dX10_calls_37 : decode cX10_calls 37 = .ok (.getfield 64, 3) := dk_180 0 64 (dk_at dksX10_calls_1 13 rfl rfl)
theorem dX10_calls_40 : decode cX10_calls 40 = .ok (.bipush 10, 2) := dk_16 10 (dk_at dksX10_calls_1 16 rfl rfl)
theorem dX10_calls_42 : decode cX10_calls 42 = .ok (.aload_n 0, 1) := dk_42 (dk_at dksX10_calls_1 18 rfl rfl)
theorem dX10_calls_43 : decode cX10_calls 43 = .ok (.getfield 233, 3) := dk_180 0 233 (dk_at dksX10_calls_1 19 rfl rfl)
theorem dX10_calls_46 : decode cX10_calls 46 = .ok (.imul, 1) := dk_104 (dk_at dksX10_calls_1 22 rfl rfl)
theorem dX10_calls_47 : decode cX10_calls 47 = .ok (.iload 4, 2) := dk_21 4 (dk_at dksX10_calls_2 0 rfl rfl)
theorem dX10_calls_49 : decode cX10_calls 49 = .ok (.iadd, 1) := dk_96 (dk_at dksX10_calls_2 2 rfl rfl)
theorem dX10_calls_50 : decode cX10_calls 50 = .ok (.iaload, 1) := dk_46 (dk_at dksX10_calls_2 3 rfl rfl)
theorem dX10_calls_51 : decode cX10_calls 51 = .ok (.iload_n 1, 1) := dk_27 (dk_at dksX10_calls_2 4 rfl rfl)
theorem dX10_calls_52 : decode cX10_calls 52 = .ok (.if_icmp .ne 13, 3) := dk_160 0 13 (dk_at dksX10_calls_2 5 rfl rfl)
theorem dX10_calls_55 : decode cX10_calls 55 = .ok (.iload_n 3, 1) := dk_29 (dk_at dksX10_calls_2 8 rfl rfl)
theorem dX10_calls_56 : decode cX10_calls 56 = .ok (.aload_n 0, 1) := dk_42 (dk_at dksX10_calls_2 9 rfl rfl)
theorem dX10_calls_57 : decode cX10_calls 57 = .ok (.iload 4, 2) := dk_21 4 (dk_at dksX10_calls_2 10 rfl rfl)
theorem dX10_calls_59 : decode cX10_calls 59 = .ok (.iload_n 2, 1) := dk_28 (dk_at dksX10_calls_2 12 rfl rfl)
theorem dX10_calls_60 : decode cX10_calls 60 = .ok (.invokevirtual 448, 3) := dk_182 1 192 (dk_at dksX10_calls_2 13 rfl rfl)
theorem dX10_calls_63 : decode cX10_calls 63 = .ok (.iadd, 1) := dk_96 (dk_at dksX10_calls_2 16 rfl rfl)
theorem dX10_calls_64 : decode cX10_calls 64 = .ok (.istore_n 3, 1) := dk_62 (dk_at dksX10_calls_2 17 rfl rfl)
theorem dX10_calls_65 : decode cX10_calls 65 = .ok (.iinc 4 1, 3) := dk_132 4 1 (dk_at dksX10_calls_2 18 rfl rfl)
theorem dX10_calls_68 : decode cX10_calls 68 = .ok (.goto (-46), 3) := dk_167 255 210 (dk_at dksX10_calls_2 21 rfl rfl)
theorem dX10_calls_71 : decode cX10_calls 71 = .ok (.iload_n 3, 1) := dk_29 (dk_at dksX10_calls_3 0 rfl rfl)
theorem dX10_calls_72 : decode cX10_calls 72 = .ok (.ireturn, 1) := dk_172 (dk_at dksX10_calls_3 1 rfl rfl)
abbrev cX10_timesDue : ByteArray := prog_21_method_104_code
def yX10_timesDue : MethodName := ⟨RX10, "timesDue", "(II)I"⟩
def dkwX10_timesDue_2 : List UInt8 := [167, 255, 213, 29, 172]
abbrev dktX10_timesDue_2 : List UInt8 := dkwX10_timesDue_2 ++ []
def dkwX10_timesDue_1 : List UInt8 := [42, 27, 42, 180, 0, 119, 16, 69, 46, 21, 4, 96, 182, 1, 114, 153, 0, 6, 132, 3, 1, 132, 4, 1]
abbrev dktX10_timesDue_1 : List UInt8 := dkwX10_timesDue_1 ++ dktX10_timesDue_2
def dkwX10_timesDue_0 : List UInt8 := [3, 62, 3, 54, 4, 21, 4, 28, 162, 0, 43, 42, 180, 0, 119, 16, 54, 27, 96, 46, 4, 160, 0, 24]
abbrev dktX10_timesDue_0 : List UInt8 := dkwX10_timesDue_0 ++ dktX10_timesDue_1
theorem dksX10_timesDue_0 : cX10_timesDue.data.toList.drop 0 = dktX10_timesDue_0 := by decide +kernel
theorem dksX10_timesDue_1 : cX10_timesDue.data.toList.drop 24 = dktX10_timesDue_1 := dk_seg dksX10_timesDue_0 24 rfl rfl
theorem dksX10_timesDue_2 : cX10_timesDue.data.toList.drop 48 = dktX10_timesDue_2 := dk_seg dksX10_timesDue_1 24 rfl rfl
theorem dX10_timesDue_0 : decode cX10_timesDue 0 = .ok (.iconst 0, 1) := dk_3 (dk_at dksX10_timesDue_0 0 rfl rfl)
theorem dX10_timesDue_1 : decode cX10_timesDue 1 = .ok (.istore_n 3, 1) := dk_62 (dk_at dksX10_timesDue_0 1 rfl rfl)
theorem dX10_timesDue_2 : decode cX10_timesDue 2 = .ok (.iconst 0, 1) := dk_3 (dk_at dksX10_timesDue_0 2 rfl rfl)
theorem dX10_timesDue_3 : decode cX10_timesDue 3 = .ok (.istore 4, 2) := dk_54 4 (dk_at dksX10_timesDue_0 3 rfl rfl)
theorem dX10_timesDue_5 : decode cX10_timesDue 5 = .ok (.iload 4, 2) := dk_21 4 (dk_at dksX10_timesDue_0 5 rfl rfl)
theorem dX10_timesDue_7 : decode cX10_timesDue 7 = .ok (.iload_n 2, 1) := dk_28 (dk_at dksX10_timesDue_0 7 rfl rfl)
theorem dX10_timesDue_8 : decode cX10_timesDue 8 = .ok (.if_icmp .ge 43, 3) := dk_162 0 43 (dk_at dksX10_timesDue_0 8 rfl rfl)
theorem dX10_timesDue_11 : decode cX10_timesDue 11 = .ok (.aload_n 0, 1) := dk_42 (dk_at dksX10_timesDue_0 11 rfl rfl)
theorem dX10_timesDue_12 : decode cX10_timesDue 12 = .ok (.getfield 119, 3) := dk_180 0 119 (dk_at dksX10_timesDue_0 12 rfl rfl)
theorem dX10_timesDue_15 : decode cX10_timesDue 15 = .ok (.bipush 54, 2) := dk_16 54 (dk_at dksX10_timesDue_0 15 rfl rfl)
theorem dX10_timesDue_17 : decode cX10_timesDue 17 = .ok (.iload_n 1, 1) := dk_27 (dk_at dksX10_timesDue_0 17 rfl rfl)
theorem dX10_timesDue_18 : decode cX10_timesDue 18 = .ok (.iadd, 1) := dk_96 (dk_at dksX10_timesDue_0 18 rfl rfl)
theorem dX10_timesDue_19 : decode cX10_timesDue 19 = .ok (.iaload, 1) := dk_46 (dk_at dksX10_timesDue_0 19 rfl rfl)
theorem dX10_timesDue_20 : decode cX10_timesDue 20 = .ok (.iconst 1, 1) := dk_4 (dk_at dksX10_timesDue_0 20 rfl rfl)
theorem dX10_timesDue_21 : decode cX10_timesDue 21 = .ok (.if_icmp .ne 24, 3) := dk_160 0 24 (dk_at dksX10_timesDue_0 21 rfl rfl)
theorem dX10_timesDue_24 : decode cX10_timesDue 24 = .ok (.aload_n 0, 1) := dk_42 (dk_at dksX10_timesDue_1 0 rfl rfl)
theorem dX10_timesDue_25 : decode cX10_timesDue 25 = .ok (.iload_n 1, 1) := dk_27 (dk_at dksX10_timesDue_1 1 rfl rfl)
theorem dX10_timesDue_26 : decode cX10_timesDue 26 = .ok (.aload_n 0, 1) := dk_42 (dk_at dksX10_timesDue_1 2 rfl rfl)
theorem dX10_timesDue_27 : decode cX10_timesDue 27 = .ok (.getfield 119, 3) := dk_180 0 119 (dk_at dksX10_timesDue_1 3 rfl rfl)
theorem dX10_timesDue_30 : decode cX10_timesDue 30 = .ok (.bipush 69, 2) := dk_16 69 (dk_at dksX10_timesDue_1 6 rfl rfl)
theorem dX10_timesDue_32 : decode cX10_timesDue 32 = .ok (.iaload, 1) := dk_46 (dk_at dksX10_timesDue_1 8 rfl rfl)
theorem dX10_timesDue_33 : decode cX10_timesDue 33 = .ok (.iload 4, 2) := dk_21 4 (dk_at dksX10_timesDue_1 9 rfl rfl)
theorem dX10_timesDue_35 : decode cX10_timesDue 35 = .ok (.iadd, 1) := dk_96 (dk_at dksX10_timesDue_1 11 rfl rfl)
theorem dX10_timesDue_36 : decode cX10_timesDue 36 = .ok (.invokevirtual 370, 3) := dk_182 1 114 (dk_at dksX10_timesDue_1 12 rfl rfl)
theorem dX10_timesDue_39 : decode cX10_timesDue 39 = .ok (.ifCond .eq 6, 3) := dk_153 0 6 (dk_at dksX10_timesDue_1 15 rfl rfl)
theorem dX10_timesDue_42 : decode cX10_timesDue 42 = .ok (.iinc 3 1, 3) := dk_132 3 1 (dk_at dksX10_timesDue_1 18 rfl rfl)
theorem dX10_timesDue_45 : decode cX10_timesDue 45 = .ok (.iinc 4 1, 3) := dk_132 4 1 (dk_at dksX10_timesDue_1 21 rfl rfl)
theorem dX10_timesDue_48 : decode cX10_timesDue 48 = .ok (.goto (-43), 3) := dk_167 255 213 (dk_at dksX10_timesDue_2 0 rfl rfl)
theorem dX10_timesDue_51 : decode cX10_timesDue 51 = .ok (.iload_n 3, 1) := dk_29 (dk_at dksX10_timesDue_2 3 rfl rfl)
theorem dX10_timesDue_52 : decode cX10_timesDue 52 = .ok (.ireturn, 1) := dk_172 (dk_at dksX10_timesDue_2 4 rfl rfl)
abbrev cX10_busy : ByteArray := prog_21_method_106_code
def yX10_busy : MethodName := ⟨RX10, "busy", "(II)I"⟩
def dkwX10_busy_6 : List UInt8 := [21, 4, 62, 132, 4, 1, 167, 255, 220, 28, 154, 0, 7, 29, 167, 0, 9, 42, 180, 0, 134, 29, 46, 172]
abbrev dktX10_busy_6 : List UInt8 := dkwX10_busy_6 ++ []
def dkwX10_busy_5 : List UInt8 := [180, 0, 233, 46, 162, 0, 28, 42, 180, 0, 134, 21, 4, 46, 42, 180, 0, 134, 29, 46, 164, 0, 6]
abbrev dktX10_busy_5 : List UInt8 := dkwX10_busy_5 ++ dktX10_busy_6
def dkwX10_busy_4 : List UInt8 := [182, 1, 192, 96, 79, 132, 3, 1, 167, 255, 212, 3, 62, 4, 54, 4, 21, 4, 42, 180, 0, 52, 42]
abbrev dktX10_busy_4 : List UInt8 := dkwX10_busy_4 ++ dktX10_busy_5
def dkwX10_busy_3 : List UInt8 := [180, 0, 134, 42, 180, 0, 61, 16, 10, 42, 180, 0, 233, 104, 29, 96, 46, 92, 46, 42, 29, 27]
abbrev dktX10_busy_3 : List UInt8 := dkwX10_busy_3 ++ dktX10_busy_4
def dkwX10_busy_2 : List UInt8 := [132, 3, 1, 167, 255, 241, 3, 62, 29, 42, 180, 0, 58, 42, 180, 0, 233, 46, 162, 0, 37, 42]
abbrev dktX10_busy_2 : List UInt8 := dkwX10_busy_2 ++ dktX10_busy_3
def dkwX10_busy_1 : List UInt8 := [180, 0, 233, 46, 154, 0, 6, 16, 254, 172, 3, 62, 29, 8, 162, 0, 16, 42, 180, 0, 134, 29, 3, 79]
abbrev dktX10_busy_1 : List UInt8 := dkwX10_busy_1 ++ dktX10_busy_2
def dkwX10_busy_0 : List UInt8 := [27, 184, 1, 171, 153, 0, 12, 28, 3, 4, 184, 1, 57, 154, 0, 5, 2, 172, 42, 180, 0, 52, 42]
abbrev dktX10_busy_0 : List UInt8 := dkwX10_busy_0 ++ dktX10_busy_1
theorem dksX10_busy_0 : cX10_busy.data.toList.drop 0 = dktX10_busy_0 := by decide +kernel
theorem dksX10_busy_1 : cX10_busy.data.toList.drop 23 = dktX10_busy_1 := dk_seg dksX10_busy_0 23 rfl rfl
theorem dksX10_busy_2 : cX10_busy.data.toList.drop 47 = dktX10_busy_2 := dk_seg dksX10_busy_1 24 rfl rfl
theorem dksX10_busy_3 : cX10_busy.data.toList.drop 69 = dktX10_busy_3 := dk_seg dksX10_busy_2 22 rfl rfl
theorem dksX10_busy_4 : cX10_busy.data.toList.drop 91 = dktX10_busy_4 := dk_seg dksX10_busy_3 22 rfl rfl
theorem dksX10_busy_5 : cX10_busy.data.toList.drop 114 = dktX10_busy_5 := dk_seg dksX10_busy_4 23 rfl rfl
theorem dksX10_busy_6 : cX10_busy.data.toList.drop 137 = dktX10_busy_6 := dk_seg dksX10_busy_5 23 rfl rfl
theorem dX10_busy_0 : decode cX10_busy 0 = .ok (.iload_n 1, 1) := dk_27 (dk_at dksX10_busy_0 0 rfl rfl)
theorem dX10_busy_1 : decode cX10_busy 1 = .ok (.invokestatic 427, 3) := dk_184 1 171 (dk_at dksX10_busy_0 1 rfl rfl)
theorem dX10_busy_4 : decode cX10_busy 4 = .ok (.ifCond .eq 12, 3) := dk_153 0 12 (dk_at dksX10_busy_0 4 rfl rfl)
theorem dX10_busy_7 : decode cX10_busy 7 = .ok (.iload_n 2, 1) := dk_28 (dk_at dksX10_busy_0 7 rfl rfl)
theorem dX10_busy_8 : decode cX10_busy 8 = .ok (.iconst 0, 1) := dk_3 (dk_at dksX10_busy_0 8 rfl rfl)
theorem dX10_busy_9 : decode cX10_busy 9 = .ok (.iconst 1, 1) := dk_4 (dk_at dksX10_busy_0 9 rfl rfl)
theorem dX10_busy_10 : decode cX10_busy 10 = .ok (.invokestatic 313, 3) := dk_184 1 57 (dk_at dksX10_busy_0 10 rfl rfl)
theorem dX10_busy_13 : decode cX10_busy 13 = .ok (.ifCond .ne 5, 3) := dk_154 0 5 (dk_at dksX10_busy_0 13 rfl rfl)
theorem dX10_busy_16 : decode cX10_busy 16 = .ok (.iconst (-1), 1) := dk_2 (dk_at dksX10_busy_0 16 rfl rfl)
theorem dX10_busy_17 : decode cX10_busy 17 = .ok (.ireturn, 1) := dk_172 (dk_at dksX10_busy_0 17 rfl rfl)
theorem dX10_busy_18 : decode cX10_busy 18 = .ok (.aload_n 0, 1) := dk_42 (dk_at dksX10_busy_0 18 rfl rfl)
theorem dX10_busy_19 : decode cX10_busy 19 = .ok (.getfield 52, 3) := dk_180 0 52 (dk_at dksX10_busy_0 19 rfl rfl)
theorem dX10_busy_22 : decode cX10_busy 22 = .ok (.aload_n 0, 1) := dk_42 (dk_at dksX10_busy_0 22 rfl rfl)
theorem dX10_busy_23 : decode cX10_busy 23 = .ok (.getfield 233, 3) := dk_180 0 233 (dk_at dksX10_busy_1 0 rfl rfl)
theorem dX10_busy_26 : decode cX10_busy 26 = .ok (.iaload, 1) := dk_46 (dk_at dksX10_busy_1 3 rfl rfl)
theorem dX10_busy_27 : decode cX10_busy 27 = .ok (.ifCond .ne 6, 3) := dk_154 0 6 (dk_at dksX10_busy_1 4 rfl rfl)
theorem dX10_busy_30 : decode cX10_busy 30 = .ok (.bipush (-2), 2) := dk_16 254 (dk_at dksX10_busy_1 7 rfl rfl)
theorem dX10_busy_32 : decode cX10_busy 32 = .ok (.ireturn, 1) := dk_172 (dk_at dksX10_busy_1 9 rfl rfl)
theorem dX10_busy_33 : decode cX10_busy 33 = .ok (.iconst 0, 1) := dk_3 (dk_at dksX10_busy_1 10 rfl rfl)
theorem dX10_busy_34 : decode cX10_busy 34 = .ok (.istore_n 3, 1) := dk_62 (dk_at dksX10_busy_1 11 rfl rfl)
theorem dX10_busy_35 : decode cX10_busy 35 = .ok (.iload_n 3, 1) := dk_29 (dk_at dksX10_busy_1 12 rfl rfl)
theorem dX10_busy_36 : decode cX10_busy 36 = .ok (.iconst 5, 1) := dk_8 (dk_at dksX10_busy_1 13 rfl rfl)
theorem dX10_busy_37 : decode cX10_busy 37 = .ok (.if_icmp .ge 16, 3) := dk_162 0 16 (dk_at dksX10_busy_1 14 rfl rfl)
theorem dX10_busy_40 : decode cX10_busy 40 = .ok (.aload_n 0, 1) := dk_42 (dk_at dksX10_busy_1 17 rfl rfl)
theorem dX10_busy_41 : decode cX10_busy 41 = .ok (.getfield 134, 3) := dk_180 0 134 (dk_at dksX10_busy_1 18 rfl rfl)
theorem dX10_busy_44 : decode cX10_busy 44 = .ok (.iload_n 3, 1) := dk_29 (dk_at dksX10_busy_1 21 rfl rfl)
theorem dX10_busy_45 : decode cX10_busy 45 = .ok (.iconst 0, 1) := dk_3 (dk_at dksX10_busy_1 22 rfl rfl)
theorem dX10_busy_46 : decode cX10_busy 46 = .ok (.iastore, 1) := dk_79 (dk_at dksX10_busy_1 23 rfl rfl)
theorem dX10_busy_47 : decode cX10_busy 47 = .ok (.iinc 3 1, 3) := dk_132 3 1 (dk_at dksX10_busy_2 0 rfl rfl)
theorem dX10_busy_50 : decode cX10_busy 50 = .ok (.goto (-15), 3) := dk_167 255 241 (dk_at dksX10_busy_2 3 rfl rfl)
theorem dX10_busy_53 : decode cX10_busy 53 = .ok (.iconst 0, 1) := dk_3 (dk_at dksX10_busy_2 6 rfl rfl)
theorem dX10_busy_54 : decode cX10_busy 54 = .ok (.istore_n 3, 1) := dk_62 (dk_at dksX10_busy_2 7 rfl rfl)
theorem dX10_busy_55 : decode cX10_busy 55 = .ok (.iload_n 3, 1) := dk_29 (dk_at dksX10_busy_2 8 rfl rfl)
theorem dX10_busy_56 : decode cX10_busy 56 = .ok (.aload_n 0, 1) := dk_42 (dk_at dksX10_busy_2 9 rfl rfl)
theorem dX10_busy_57 : decode cX10_busy 57 = .ok (.getfield 58, 3) := dk_180 0 58 (dk_at dksX10_busy_2 10 rfl rfl)
theorem dX10_busy_60 : decode cX10_busy 60 = .ok (.aload_n 0, 1) := dk_42 (dk_at dksX10_busy_2 13 rfl rfl)
theorem dX10_busy_61 : decode cX10_busy 61 = .ok (.getfield 233, 3) := dk_180 0 233 (dk_at dksX10_busy_2 14 rfl rfl)
theorem dX10_busy_64 : decode cX10_busy 64 = .ok (.iaload, 1) := dk_46 (dk_at dksX10_busy_2 17 rfl rfl)
theorem dX10_busy_65 : decode cX10_busy 65 = .ok (.if_icmp .ge 37, 3) := dk_162 0 37 (dk_at dksX10_busy_2 18 rfl rfl)
theorem dX10_busy_68 : decode cX10_busy 68 = .ok (.aload_n 0, 1) := dk_42 (dk_at dksX10_busy_2 21 rfl rfl)
theorem dX10_busy_69 : decode cX10_busy 69 = .ok (.getfield 134, 3) := dk_180 0 134 (dk_at dksX10_busy_3 0 rfl rfl)
theorem dX10_busy_72 : decode cX10_busy 72 = .ok (.aload_n 0, 1) := dk_42 (dk_at dksX10_busy_3 3 rfl rfl)
theorem dX10_busy_73 : decode cX10_busy 73 = .ok (.getfield 61, 3) := dk_180 0 61 (dk_at dksX10_busy_3 4 rfl rfl)
theorem dX10_busy_76 : decode cX10_busy 76 = .ok (.bipush 10, 2) := dk_16 10 (dk_at dksX10_busy_3 7 rfl rfl)
theorem dX10_busy_78 : decode cX10_busy 78 = .ok (.aload_n 0, 1) := dk_42 (dk_at dksX10_busy_3 9 rfl rfl)
theorem dX10_busy_79 : decode cX10_busy 79 = .ok (.getfield 233, 3) := dk_180 0 233 (dk_at dksX10_busy_3 10 rfl rfl)
theorem dX10_busy_82 : decode cX10_busy 82 = .ok (.imul, 1) := dk_104 (dk_at dksX10_busy_3 13 rfl rfl)
theorem dX10_busy_83 : decode cX10_busy 83 = .ok (.iload_n 3, 1) := dk_29 (dk_at dksX10_busy_3 14 rfl rfl)
theorem dX10_busy_84 : decode cX10_busy 84 = .ok (.iadd, 1) := dk_96 (dk_at dksX10_busy_3 15 rfl rfl)
theorem dX10_busy_85 : decode cX10_busy 85 = .ok (.iaload, 1) := dk_46 (dk_at dksX10_busy_3 16 rfl rfl)
theorem dX10_busy_86 : decode cX10_busy 86 = .ok (.dup2, 1) := dk_92 (dk_at dksX10_busy_3 17 rfl rfl)
theorem dX10_busy_87 : decode cX10_busy 87 = .ok (.iaload, 1) := dk_46 (dk_at dksX10_busy_3 18 rfl rfl)
theorem dX10_busy_88 : decode cX10_busy 88 = .ok (.aload_n 0, 1) := dk_42 (dk_at dksX10_busy_3 19 rfl rfl)
theorem dX10_busy_89 : decode cX10_busy 89 = .ok (.iload_n 3, 1) := dk_29 (dk_at dksX10_busy_3 20 rfl rfl)
theorem dX10_busy_90 : decode cX10_busy 90 = .ok (.iload_n 1, 1) := dk_27 (dk_at dksX10_busy_3 21 rfl rfl)
theorem dX10_busy_91 : decode cX10_busy 91 = .ok (.invokevirtual 448, 3) := dk_182 1 192 (dk_at dksX10_busy_4 0 rfl rfl)
theorem dX10_busy_94 : decode cX10_busy 94 = .ok (.iadd, 1) := dk_96 (dk_at dksX10_busy_4 3 rfl rfl)
theorem dX10_busy_95 : decode cX10_busy 95 = .ok (.iastore, 1) := dk_79 (dk_at dksX10_busy_4 4 rfl rfl)
theorem dX10_busy_96 : decode cX10_busy 96 = .ok (.iinc 3 1, 3) := dk_132 3 1 (dk_at dksX10_busy_4 5 rfl rfl)
theorem dX10_busy_99 : decode cX10_busy 99 = .ok (.goto (-44), 3) := dk_167 255 212 (dk_at dksX10_busy_4 8 rfl rfl)
theorem dX10_busy_102 : decode cX10_busy 102 = .ok (.iconst 0, 1) := dk_3 (dk_at dksX10_busy_4 11 rfl rfl)
theorem dX10_busy_103 : decode cX10_busy 103 = .ok (.istore_n 3, 1) := dk_62 (dk_at dksX10_busy_4 12 rfl rfl)
theorem dX10_busy_104 : decode cX10_busy 104 = .ok (.iconst 1, 1) := dk_4 (dk_at dksX10_busy_4 13 rfl rfl)
theorem dX10_busy_105 : decode cX10_busy 105 = .ok (.istore 4, 2) := dk_54 4 (dk_at dksX10_busy_4 14 rfl rfl)
theorem dX10_busy_107 : decode cX10_busy 107 = .ok (.iload 4, 2) := dk_21 4 (dk_at dksX10_busy_4 16 rfl rfl)
theorem dX10_busy_109 : decode cX10_busy 109 = .ok (.aload_n 0, 1) := dk_42 (dk_at dksX10_busy_4 18 rfl rfl)
theorem dX10_busy_110 : decode cX10_busy 110 = .ok (.getfield 52, 3) := dk_180 0 52 (dk_at dksX10_busy_4 19 rfl rfl)
theorem dX10_busy_113 : decode cX10_busy 113 = .ok (.aload_n 0, 1) := dk_42 (dk_at dksX10_busy_4 22 rfl rfl)
theorem dX10_busy_114 : decode cX10_busy 114 = .ok (.getfield 233, 3) := dk_180 0 233 (dk_at dksX10_busy_5 0 rfl rfl)
theorem dX10_busy_117 : decode cX10_busy 117 = .ok (.iaload, 1) := dk_46 (dk_at dksX10_busy_5 3 rfl rfl)
theorem dX10_busy_118 : decode cX10_busy 118 = .ok (.if_icmp .ge 28, 3) := dk_162 0 28 (dk_at dksX10_busy_5 4 rfl rfl)
theorem dX10_busy_121 : decode cX10_busy 121 = .ok (.aload_n 0, 1) := dk_42 (dk_at dksX10_busy_5 7 rfl rfl)
theorem dX10_busy_122 : decode cX10_busy 122 = .ok (.getfield 134, 3) := dk_180 0 134 (dk_at dksX10_busy_5 8 rfl rfl)
theorem dX10_busy_125 : decode cX10_busy 125 = .ok (.iload 4, 2) := dk_21 4 (dk_at dksX10_busy_5 11 rfl rfl)
theorem dX10_busy_127 : decode cX10_busy 127 = .ok (.iaload, 1) := dk_46 (dk_at dksX10_busy_5 13 rfl rfl)
theorem dX10_busy_128 : decode cX10_busy 128 = .ok (.aload_n 0, 1) := dk_42 (dk_at dksX10_busy_5 14 rfl rfl)
theorem dX10_busy_129 : decode cX10_busy 129 = .ok (.getfield 134, 3) := dk_180 0 134 (dk_at dksX10_busy_5 15 rfl rfl)
theorem dX10_busy_132 : decode cX10_busy 132 = .ok (.iload_n 3, 1) := dk_29 (dk_at dksX10_busy_5 18 rfl rfl)
theorem dX10_busy_133 : decode cX10_busy 133 = .ok (.iaload, 1) := dk_46 (dk_at dksX10_busy_5 19 rfl rfl)
theorem dX10_busy_134 : decode cX10_busy 134 = .ok (.if_icmp .le 6, 3) := dk_164 0 6 (dk_at dksX10_busy_5 20 rfl rfl)
theorem dX10_busy_137 : decode cX10_busy 137 = .ok (.iload 4, 2) := dk_21 4 (dk_at dksX10_busy_6 0 rfl rfl)
theorem dX10_busy_139 : decode cX10_busy 139 = .ok (.istore_n 3, 1) := dk_62 (dk_at dksX10_busy_6 2 rfl rfl)
theorem dX10_busy_140 : decode cX10_busy 140 = .ok (.iinc 4 1, 3) := dk_132 4 1 (dk_at dksX10_busy_6 3 rfl rfl)
theorem dX10_busy_143 : decode cX10_busy 143 = .ok (.goto (-36), 3) := dk_167 255 220 (dk_at dksX10_busy_6 6 rfl rfl)
theorem dX10_busy_146 : decode cX10_busy 146 = .ok (.iload_n 2, 1) := dk_28 (dk_at dksX10_busy_6 9 rfl rfl)
theorem dX10_busy_147 : decode cX10_busy 147 = .ok (.ifCond .ne 7, 3) := dk_154 0 7 (dk_at dksX10_busy_6 10 rfl rfl)
theorem dX10_busy_150 : decode cX10_busy 150 = .ok (.iload_n 3, 1) := dk_29 (dk_at dksX10_busy_6 13 rfl rfl)
theorem dX10_busy_151 : decode cX10_busy 151 = .ok (.goto 9, 3) := dk_167 0 9 (dk_at dksX10_busy_6 14 rfl rfl)
theorem dX10_busy_154 : decode cX10_busy 154 = .ok (.aload_n 0, 1) := dk_42 (dk_at dksX10_busy_6 17 rfl rfl)
theorem dX10_busy_155 : decode cX10_busy 155 = .ok (.getfield 134, 3) := dk_180 0 134 (dk_at dksX10_busy_6 18 rfl rfl)
theorem dX10_busy_158 : decode cX10_busy 158 = .ok (.iload_n 3, 1) := dk_29 (dk_at dksX10_busy_6 21 rfl rfl)
theorem dX10_busy_159 : decode cX10_busy 159 = .ok (.iaload, 1) := dk_46 (dk_at dksX10_busy_6 22 rfl rfl)
theorem dX10_busy_160 : decode cX10_busy 160 = .ok (.ireturn, 1) := dk_172 (dk_at dksX10_busy_6 23 rfl rfl)
abbrev cX10_richest : ByteArray := prog_21_method_107_code
def yX10_richest : MethodName := ⟨RX10, "richest", "(II)I"⟩
def dkwX10_richest_4 : List UInt8 := [42, 180, 0, 122, 16, 42, 29, 96, 46, 172]
abbrev dktX10_richest_4 : List UInt8 := dkwX10_richest_4 ++ []
def dkwX10_richest_3 : List UInt8 := [164, 0, 6, 21, 4, 62, 132, 4, 1, 167, 255, 210, 29, 155, 0, 7, 28, 154, 0, 7, 29, 167, 0, 12]
abbrev dktX10_richest_3 : List UInt8 := dkwX10_richest_3 ++ dktX10_richest_4
def dkwX10_richest_2 : List UInt8 := [155, 0, 25, 42, 180, 0, 122, 16, 42, 21, 4, 96, 46, 42, 180, 0, 122, 16, 42, 29, 96, 46]
abbrev dktX10_richest_2 : List UInt8 := dkwX10_richest_2 ++ dktX10_richest_3
def dkwX10_richest_1 : List UInt8 := [182, 1, 158, 16, 254, 62, 3, 54, 4, 21, 4, 42, 180, 0, 46, 42, 180, 0, 233, 46, 162, 0, 38, 29]
abbrev dktX10_richest_1 : List UInt8 := dkwX10_richest_1 ++ dktX10_richest_2
def dkwX10_richest_0 : List UInt8 := [27, 184, 1, 155, 153, 0, 12, 28, 3, 4, 184, 1, 57, 154, 0, 5, 2, 172, 42, 182, 1, 174, 42, 27]
abbrev dktX10_richest_0 : List UInt8 := dkwX10_richest_0 ++ dktX10_richest_1
theorem dksX10_richest_0 : cX10_richest.data.toList.drop 0 = dktX10_richest_0 := by decide +kernel
theorem dksX10_richest_1 : cX10_richest.data.toList.drop 24 = dktX10_richest_1 := dk_seg dksX10_richest_0 24 rfl rfl
theorem dksX10_richest_2 : cX10_richest.data.toList.drop 48 = dktX10_richest_2 := dk_seg dksX10_richest_1 24 rfl rfl
theorem dksX10_richest_3 : cX10_richest.data.toList.drop 70 = dktX10_richest_3 := dk_seg dksX10_richest_2 22 rfl rfl
theorem dksX10_richest_4 : cX10_richest.data.toList.drop 94 = dktX10_richest_4 := dk_seg dksX10_richest_3 24 rfl rfl
theorem dX10_richest_0 : decode cX10_richest 0 = .ok (.iload_n 1, 1) := dk_27 (dk_at dksX10_richest_0 0 rfl rfl)
theorem dX10_richest_1 : decode cX10_richest 1 = .ok (.invokestatic 411, 3) := dk_184 1 155 (dk_at dksX10_richest_0 1 rfl rfl)
theorem dX10_richest_4 : decode cX10_richest 4 = .ok (.ifCond .eq 12, 3) := dk_153 0 12 (dk_at dksX10_richest_0 4 rfl rfl)
theorem dX10_richest_7 : decode cX10_richest 7 = .ok (.iload_n 2, 1) := dk_28 (dk_at dksX10_richest_0 7 rfl rfl)
theorem dX10_richest_8 : decode cX10_richest 8 = .ok (.iconst 0, 1) := dk_3 (dk_at dksX10_richest_0 8 rfl rfl)
theorem dX10_richest_9 : decode cX10_richest 9 = .ok (.iconst 1, 1) := dk_4 (dk_at dksX10_richest_0 9 rfl rfl)
theorem dX10_richest_10 : decode cX10_richest 10 = .ok (.invokestatic 313, 3) := dk_184 1 57 (dk_at dksX10_richest_0 10 rfl rfl)
theorem dX10_richest_13 : decode cX10_richest 13 = .ok (.ifCond .ne 5, 3) := dk_154 0 5 (dk_at dksX10_richest_0 13 rfl rfl)
theorem dX10_richest_16 : decode cX10_richest 16 = .ok (.iconst (-1), 1) := dk_2 (dk_at dksX10_richest_0 16 rfl rfl)
theorem dX10_richest_17 : decode cX10_richest 17 = .ok (.ireturn, 1) := dk_172 (dk_at dksX10_richest_0 17 rfl rfl)
theorem dX10_richest_18 : decode cX10_richest 18 = .ok (.aload_n 0, 1) := dk_42 (dk_at dksX10_richest_0 18 rfl rfl)
theorem dX10_richest_19 : decode cX10_richest 19 = .ok (.invokevirtual 430, 3) := dk_182 1 174 (dk_at dksX10_richest_0 19 rfl rfl)
theorem dX10_richest_22 : decode cX10_richest 22 = .ok (.aload_n 0, 1) := dk_42 (dk_at dksX10_richest_0 22 rfl rfl)
theorem dX10_richest_23 : decode cX10_richest 23 = .ok (.iload_n 1, 1) := dk_27 (dk_at dksX10_richest_0 23 rfl rfl)
theorem dX10_richest_24 : decode cX10_richest 24 = .ok (.invokevirtual 414, 3) := dk_182 1 158 (dk_at dksX10_richest_1 0 rfl rfl)
theorem dX10_richest_27 : decode cX10_richest 27 = .ok (.bipush (-2), 2) := dk_16 254 (dk_at dksX10_richest_1 3 rfl rfl)
theorem dX10_richest_29 : decode cX10_richest 29 = .ok (.istore_n 3, 1) := dk_62 (dk_at dksX10_richest_1 5 rfl rfl)
theorem dX10_richest_30 : decode cX10_richest 30 = .ok (.iconst 0, 1) := dk_3 (dk_at dksX10_richest_1 6 rfl rfl)
theorem dX10_richest_31 : decode cX10_richest 31 = .ok (.istore 4, 2) := dk_54 4 (dk_at dksX10_richest_1 7 rfl rfl)
theorem dX10_richest_33 : decode cX10_richest 33 = .ok (.iload 4, 2) := dk_21 4 (dk_at dksX10_richest_1 9 rfl rfl)
theorem dX10_richest_35 : decode cX10_richest 35 = .ok (.aload_n 0, 1) := dk_42 (dk_at dksX10_richest_1 11 rfl rfl)
theorem dX10_richest_36 : decode cX10_richest 36 = .ok (.getfield 46, 3) := dk_180 0 46 (dk_at dksX10_richest_1 12 rfl rfl)
theorem dX10_richest_39 : decode cX10_richest 39 = .ok (.aload_n 0, 1) := dk_42 (dk_at dksX10_richest_1 15 rfl rfl)
theorem dX10_richest_40 : decode cX10_richest 40 = .ok (.getfield 233, 3) := dk_180 0 233 (dk_at dksX10_richest_1 16 rfl rfl)
theorem dX10_richest_43 : decode cX10_richest 43 = .ok (.iaload, 1) := dk_46 (dk_at dksX10_richest_1 19 rfl rfl)
theorem dX10_richest_44 : decode cX10_richest 44 = .ok (.if_icmp .ge 38, 3) := dk_162 0 38 (dk_at dksX10_richest_1 20 rfl rfl)
theorem dX10_richest_47 : decode cX10_richest 47 = .ok (.iload_n 3, 1) := dk_29 (dk_at dksX10_richest_1 23 rfl rfl)
theorem dX10_richest_48 : decode cX10_richest 48 = .ok (.ifCond .lt 25, 3) := dk_155 0 25 (dk_at dksX10_richest_2 0 rfl rfl)
theorem dX10_richest_51 : decode cX10_richest 51 = .ok (.aload_n 0, 1) := dk_42 (dk_at dksX10_richest_2 3 rfl rfl)
theorem dX10_richest_52 : decode cX10_richest 52 = .ok (.getfield 122, 3) := dk_180 0 122 (dk_at dksX10_richest_2 4 rfl rfl)
theorem dX10_richest_55 : decode cX10_richest 55 = .ok (.bipush 42, 2) := dk_16 42 (dk_at dksX10_richest_2 7 rfl rfl)
theorem dX10_richest_57 : decode cX10_richest 57 = .ok (.iload 4, 2) := dk_21 4 (dk_at dksX10_richest_2 9 rfl rfl)
theorem dX10_richest_59 : decode cX10_richest 59 = .ok (.iadd, 1) := dk_96 (dk_at dksX10_richest_2 11 rfl rfl)
theorem dX10_richest_60 : decode cX10_richest 60 = .ok (.iaload, 1) := dk_46 (dk_at dksX10_richest_2 12 rfl rfl)
theorem dX10_richest_61 : decode cX10_richest 61 = .ok (.aload_n 0, 1) := dk_42 (dk_at dksX10_richest_2 13 rfl rfl)
theorem dX10_richest_62 : decode cX10_richest 62 = .ok (.getfield 122, 3) := dk_180 0 122 (dk_at dksX10_richest_2 14 rfl rfl)
theorem dX10_richest_65 : decode cX10_richest 65 = .ok (.bipush 42, 2) := dk_16 42 (dk_at dksX10_richest_2 17 rfl rfl)
theorem dX10_richest_67 : decode cX10_richest 67 = .ok (.iload_n 3, 1) := dk_29 (dk_at dksX10_richest_2 19 rfl rfl)
theorem dX10_richest_68 : decode cX10_richest 68 = .ok (.iadd, 1) := dk_96 (dk_at dksX10_richest_2 20 rfl rfl)
theorem dX10_richest_69 : decode cX10_richest 69 = .ok (.iaload, 1) := dk_46 (dk_at dksX10_richest_2 21 rfl rfl)
theorem dX10_richest_70 : decode cX10_richest 70 = .ok (.if_icmp .le 6, 3) := dk_164 0 6 (dk_at dksX10_richest_3 0 rfl rfl)
theorem dX10_richest_73 : decode cX10_richest 73 = .ok (.iload 4, 2) := dk_21 4 (dk_at dksX10_richest_3 3 rfl rfl)
theorem dX10_richest_75 : decode cX10_richest 75 = .ok (.istore_n 3, 1) := dk_62 (dk_at dksX10_richest_3 5 rfl rfl)
theorem dX10_richest_76 : decode cX10_richest 76 = .ok (.iinc 4 1, 3) := dk_132 4 1 (dk_at dksX10_richest_3 6 rfl rfl)
theorem dX10_richest_79 : decode cX10_richest 79 = .ok (.goto (-46), 3) := dk_167 255 210 (dk_at dksX10_richest_3 9 rfl rfl)
theorem dX10_richest_82 : decode cX10_richest 82 = .ok (.iload_n 3, 1) := dk_29 (dk_at dksX10_richest_3 12 rfl rfl)
theorem dX10_richest_83 : decode cX10_richest 83 = .ok (.ifCond .lt 7, 3) := dk_155 0 7 (dk_at dksX10_richest_3 13 rfl rfl)
theorem dX10_richest_86 : decode cX10_richest 86 = .ok (.iload_n 2, 1) := dk_28 (dk_at dksX10_richest_3 16 rfl rfl)
theorem dX10_richest_87 : decode cX10_richest 87 = .ok (.ifCond .ne 7, 3) := dk_154 0 7 (dk_at dksX10_richest_3 17 rfl rfl)
theorem dX10_richest_90 : decode cX10_richest 90 = .ok (.iload_n 3, 1) := dk_29 (dk_at dksX10_richest_3 20 rfl rfl)
theorem dX10_richest_91 : decode cX10_richest 91 = .ok (.goto 12, 3) := dk_167 0 12 (dk_at dksX10_richest_3 21 rfl rfl)
theorem dX10_richest_94 : decode cX10_richest 94 = .ok (.aload_n 0, 1) := dk_42 (dk_at dksX10_richest_4 0 rfl rfl)
theorem dX10_richest_95 : decode cX10_richest 95 = .ok (.getfield 122, 3) := dk_180 0 122 (dk_at dksX10_richest_4 1 rfl rfl)
theorem dX10_richest_98 : decode cX10_richest 98 = .ok (.bipush 42, 2) := dk_16 42 (dk_at dksX10_richest_4 4 rfl rfl)
theorem dX10_richest_100 : decode cX10_richest 100 = .ok (.iload_n 3, 1) := dk_29 (dk_at dksX10_richest_4 6 rfl rfl)
theorem dX10_richest_101 : decode cX10_richest 101 = .ok (.iadd, 1) := dk_96 (dk_at dksX10_richest_4 7 rfl rfl)
theorem dX10_richest_102 : decode cX10_richest 102 = .ok (.iaload, 1) := dk_46 (dk_at dksX10_richest_4 8 rfl rfl)
theorem dX10_richest_103 : decode cX10_richest 103 = .ok (.ireturn, 1) := dk_172 (dk_at dksX10_richest_4 9 rfl rfl)
abbrev cX10_flat : ByteArray := prog_21_method_108_code
def yX10_flat : MethodName := ⟨RX10, "flat", "(I)I"⟩
def dkwX10_flat_3 : List UInt8 := [167, 0, 8, 42, 28, 182, 1, 101, 172]
abbrev dktX10_flat_3 : List UInt8 := dkwX10_flat_3 ++ []
def dkwX10_flat_2 : List UInt8 := [182, 1, 101, 162, 0, 5, 29, 61, 132, 3, 1, 167, 255, 221, 28, 155, 0, 7, 27, 154, 0, 7, 28]
abbrev dktX10_flat_2 : List UInt8 := dkwX10_flat_2 ++ dktX10_flat_3
def dkwX10_flat_1 : List UInt8 := [180, 0, 46, 42, 180, 0, 233, 46, 162, 0, 28, 28, 155, 0, 16, 42, 29, 182, 1, 101, 42, 28]
abbrev dktX10_flat_1 : List UInt8 := dkwX10_flat_1 ++ dktX10_flat_2
def dkwX10_flat_0 : List UInt8 := [27, 3, 4, 184, 1, 57, 154, 0, 5, 2, 172, 42, 182, 1, 67, 16, 254, 61, 3, 62, 29, 42]
abbrev dktX10_flat_0 : List UInt8 := dkwX10_flat_0 ++ dktX10_flat_1
theorem dksX10_flat_0 : cX10_flat.data.toList.drop 0 = dktX10_flat_0 := by decide +kernel
theorem dksX10_flat_1 : cX10_flat.data.toList.drop 22 = dktX10_flat_1 := dk_seg dksX10_flat_0 22 rfl rfl
theorem dksX10_flat_2 : cX10_flat.data.toList.drop 44 = dktX10_flat_2 := dk_seg dksX10_flat_1 22 rfl rfl
theorem dksX10_flat_3 : cX10_flat.data.toList.drop 67 = dktX10_flat_3 := dk_seg dksX10_flat_2 23 rfl rfl
theorem dX10_flat_0 : decode cX10_flat 0 = .ok (.iload_n 1, 1) := dk_27 (dk_at dksX10_flat_0 0 rfl rfl)
theorem dX10_flat_1 : decode cX10_flat 1 = .ok (.iconst 0, 1) := dk_3 (dk_at dksX10_flat_0 1 rfl rfl)
theorem dX10_flat_2 : decode cX10_flat 2 = .ok (.iconst 1, 1) := dk_4 (dk_at dksX10_flat_0 2 rfl rfl)
theorem dX10_flat_3 : decode cX10_flat 3 = .ok (.invokestatic 313, 3) := dk_184 1 57 (dk_at dksX10_flat_0 3 rfl rfl)
theorem dX10_flat_6 : decode cX10_flat 6 = .ok (.ifCond .ne 5, 3) := dk_154 0 5 (dk_at dksX10_flat_0 6 rfl rfl)
theorem dX10_flat_9 : decode cX10_flat 9 = .ok (.iconst (-1), 1) := dk_2 (dk_at dksX10_flat_0 9 rfl rfl)
theorem dX10_flat_10 : decode cX10_flat 10 = .ok (.ireturn, 1) := dk_172 (dk_at dksX10_flat_0 10 rfl rfl)
theorem dX10_flat_11 : decode cX10_flat 11 = .ok (.aload_n 0, 1) := dk_42 (dk_at dksX10_flat_0 11 rfl rfl)
theorem dX10_flat_12 : decode cX10_flat 12 = .ok (.invokevirtual 323, 3) := dk_182 1 67 (dk_at dksX10_flat_0 12 rfl rfl)
theorem dX10_flat_15 : decode cX10_flat 15 = .ok (.bipush (-2), 2) := dk_16 254 (dk_at dksX10_flat_0 15 rfl rfl)
theorem dX10_flat_17 : decode cX10_flat 17 = .ok (.istore_n 2, 1) := dk_61 (dk_at dksX10_flat_0 17 rfl rfl)
theorem dX10_flat_18 : decode cX10_flat 18 = .ok (.iconst 0, 1) := dk_3 (dk_at dksX10_flat_0 18 rfl rfl)
theorem dX10_flat_19 : decode cX10_flat 19 = .ok (.istore_n 3, 1) := dk_62 (dk_at dksX10_flat_0 19 rfl rfl)
theorem dX10_flat_20 : decode cX10_flat 20 = .ok (.iload_n 3, 1) := dk_29 (dk_at dksX10_flat_0 20 rfl rfl)
theorem dX10_flat_21 : decode cX10_flat 21 = .ok (.aload_n 0, 1) := dk_42 (dk_at dksX10_flat_0 21 rfl rfl)
theorem dX10_flat_22 : decode cX10_flat 22 = .ok (.getfield 46, 3) := dk_180 0 46 (dk_at dksX10_flat_1 0 rfl rfl)
theorem dX10_flat_25 : decode cX10_flat 25 = .ok (.aload_n 0, 1) := dk_42 (dk_at dksX10_flat_1 3 rfl rfl)
theorem dX10_flat_26 : decode cX10_flat 26 = .ok (.getfield 233, 3) := dk_180 0 233 (dk_at dksX10_flat_1 4 rfl rfl)
theorem dX10_flat_29 : decode cX10_flat 29 = .ok (.iaload, 1) := dk_46 (dk_at dksX10_flat_1 7 rfl rfl)
theorem dX10_flat_30 : decode cX10_flat 30 = .ok (.if_icmp .ge 28, 3) := dk_162 0 28 (dk_at dksX10_flat_1 8 rfl rfl)
theorem dX10_flat_33 : decode cX10_flat 33 = .ok (.iload_n 2, 1) := dk_28 (dk_at dksX10_flat_1 11 rfl rfl)
theorem dX10_flat_34 : decode cX10_flat 34 = .ok (.ifCond .lt 16, 3) := dk_155 0 16 (dk_at dksX10_flat_1 12 rfl rfl)
theorem dX10_flat_37 : decode cX10_flat 37 = .ok (.aload_n 0, 1) := dk_42 (dk_at dksX10_flat_1 15 rfl rfl)
theorem dX10_flat_38 : decode cX10_flat 38 = .ok (.iload_n 3, 1) := dk_29 (dk_at dksX10_flat_1 16 rfl rfl)
theorem dX10_flat_39 : decode cX10_flat 39 = .ok (.invokevirtual 357, 3) := dk_182 1 101 (dk_at dksX10_flat_1 17 rfl rfl)
theorem dX10_flat_42 : decode cX10_flat 42 = .ok (.aload_n 0, 1) := dk_42 (dk_at dksX10_flat_1 20 rfl rfl)
theorem dX10_flat_43 : decode cX10_flat 43 = .ok (.iload_n 2, 1) := dk_28 (dk_at dksX10_flat_1 21 rfl rfl)
theorem dX10_flat_44 : decode cX10_flat 44 = .ok (.invokevirtual 357, 3) := dk_182 1 101 (dk_at dksX10_flat_2 0 rfl rfl)
theorem dX10_flat_47 : decode cX10_flat 47 = .ok (.if_icmp .ge 5, 3) := dk_162 0 5 (dk_at dksX10_flat_2 3 rfl rfl)
theorem dX10_flat_50 : decode cX10_flat 50 = .ok (.iload_n 3, 1) := dk_29 (dk_at dksX10_flat_2 6 rfl rfl)
theorem dX10_flat_51 : decode cX10_flat 51 = .ok (.istore_n 2, 1) := dk_61 (dk_at dksX10_flat_2 7 rfl rfl)
theorem dX10_flat_52 : decode cX10_flat 52 = .ok (.iinc 3 1, 3) := dk_132 3 1 (dk_at dksX10_flat_2 8 rfl rfl)
theorem dX10_flat_55 : decode cX10_flat 55 = .ok (.goto (-35), 3) := dk_167 255 221 (dk_at dksX10_flat_2 11 rfl rfl)
theorem dX10_flat_58 : decode cX10_flat 58 = .ok (.iload_n 2, 1) := dk_28 (dk_at dksX10_flat_2 14 rfl rfl)
theorem dX10_flat_59 : decode cX10_flat 59 = .ok (.ifCond .lt 7, 3) := dk_155 0 7 (dk_at dksX10_flat_2 15 rfl rfl)
theorem dX10_flat_62 : decode cX10_flat 62 = .ok (.iload_n 1, 1) := dk_27 (dk_at dksX10_flat_2 18 rfl rfl)
theorem dX10_flat_63 : decode cX10_flat 63 = .ok (.ifCond .ne 7, 3) := dk_154 0 7 (dk_at dksX10_flat_2 19 rfl rfl)
theorem dX10_flat_66 : decode cX10_flat 66 = .ok (.iload_n 2, 1) := dk_28 (dk_at dksX10_flat_2 22 rfl rfl)
theorem dX10_flat_67 : decode cX10_flat 67 = .ok (.goto 8, 3) := dk_167 0 8 (dk_at dksX10_flat_3 0 rfl rfl)
theorem dX10_flat_70 : decode cX10_flat 70 = .ok (.aload_n 0, 1) := dk_42 (dk_at dksX10_flat_3 3 rfl rfl)
theorem dX10_flat_71 : decode cX10_flat 71 = .ok (.iload_n 2, 1) := dk_28 (dk_at dksX10_flat_3 4 rfl rfl)
theorem dX10_flat_72 : decode cX10_flat 72 = .ok (.invokevirtual 357, 3) := dk_182 1 101 (dk_at dksX10_flat_3 5 rfl rfl)
theorem dX10_flat_75 : decode cX10_flat 75 = .ok (.ireturn, 1) := dk_172 (dk_at dksX10_flat_3 8 rfl rfl)
abbrev cX10_then : ByteArray := prog_21_method_109_code
def yX10_then : MethodName := ⟨RX10, "then", "(III)I"⟩
def dkwX10_then_3 : List UInt8 := [27, 96, 46, 172]
abbrev dktX10_then_3 : List UInt8 := dkwX10_then_3 ++ []
def dkwX10_then_2 : List UInt8 := [96, 46, 167, 0, 25, 29, 7, 160, 0, 11, 42, 27, 182, 1, 134, 167, 0, 12, 42, 180, 0, 122, 16, 42]
abbrev dktX10_then_2 : List UInt8 := dkwX10_then_2 ++ dktX10_then_3
def dkwX10_then_1 : List UInt8 := [2, 172, 42, 182, 1, 67, 42, 28, 182, 1, 158, 29, 7, 162, 0, 16, 42, 180, 0, 122, 7, 27, 104, 29]
abbrev dktX10_then_1 : List UInt8 := dkwX10_then_1 ++ dktX10_then_2
def dkwX10_then_0 : List UInt8 := [42, 27, 182, 1, 131, 153, 0, 19, 28, 184, 1, 155, 153, 0, 12, 29, 3, 8, 184, 1, 57, 154, 0, 5]
abbrev dktX10_then_0 : List UInt8 := dkwX10_then_0 ++ dktX10_then_1
theorem dksX10_then_0 : cX10_then.data.toList.drop 0 = dktX10_then_0 := by decide +kernel
theorem dksX10_then_1 : cX10_then.data.toList.drop 24 = dktX10_then_1 := dk_seg dksX10_then_0 24 rfl rfl
theorem dksX10_then_2 : cX10_then.data.toList.drop 48 = dktX10_then_2 := dk_seg dksX10_then_1 24 rfl rfl
theorem dksX10_then_3 : cX10_then.data.toList.drop 72 = dktX10_then_3 := dk_seg dksX10_then_2 24 rfl rfl
theorem dX10_then_0 : decode cX10_then 0 = .ok (.aload_n 0, 1) := dk_42 (dk_at dksX10_then_0 0 rfl rfl)
theorem dX10_then_1 : decode cX10_then 1 = .ok (.iload_n 1, 1) := dk_27 (dk_at dksX10_then_0 1 rfl rfl)
theorem dX10_then_2 : decode cX10_then 2 = .ok (.invokevirtual 387, 3) := dk_182 1 131 (dk_at dksX10_then_0 2 rfl rfl)
theorem dX10_then_5 : decode cX10_then 5 = .ok (.ifCond .eq 19, 3) := dk_153 0 19 (dk_at dksX10_then_0 5 rfl rfl)
theorem dX10_then_8 : decode cX10_then 8 = .ok (.iload_n 2, 1) := dk_28 (dk_at dksX10_then_0 8 rfl rfl)
theorem dX10_then_9 : decode cX10_then 9 = .ok (.invokestatic 411, 3) := dk_184 1 155 (dk_at dksX10_then_0 9 rfl rfl)
theorem dX10_then_12 : decode cX10_then 12 = .ok (.ifCond .eq 12, 3) := dk_153 0 12 (dk_at dksX10_then_0 12 rfl rfl)
theorem dX10_then_15 : decode cX10_then 15 = .ok (.iload_n 3, 1) := dk_29 (dk_at dksX10_then_0 15 rfl rfl)
theorem dX10_then_16 : decode cX10_then 16 = .ok (.iconst 0, 1) := dk_3 (dk_at dksX10_then_0 16 rfl rfl)
theorem dX10_then_17 : decode cX10_then 17 = .ok (.iconst 5, 1) := dk_8 (dk_at dksX10_then_0 17 rfl rfl)
theorem dX10_then_18 : decode cX10_then 18 = .ok (.invokestatic 313, 3) := dk_184 1 57 (dk_at dksX10_then_0 18 rfl rfl)
theorem dX10_then_21 : decode cX10_then 21 = .ok (.ifCond .ne 5, 3) := dk_154 0 5 (dk_at dksX10_then_0 21 rfl rfl)
theorem dX10_then_24 : decode cX10_then 24 = .ok (.iconst (-1), 1) := dk_2 (dk_at dksX10_then_1 0 rfl rfl)
theorem dX10_then_25 : decode cX10_then 25 = .ok (.ireturn, 1) := dk_172 (dk_at dksX10_then_1 1 rfl rfl)
theorem dX10_then_26 : decode cX10_then 26 = .ok (.aload_n 0, 1) := dk_42 (dk_at dksX10_then_1 2 rfl rfl)
theorem dX10_then_27 : decode cX10_then 27 = .ok (.invokevirtual 323, 3) := dk_182 1 67 (dk_at dksX10_then_1 3 rfl rfl)
theorem dX10_then_30 : decode cX10_then 30 = .ok (.aload_n 0, 1) := dk_42 (dk_at dksX10_then_1 6 rfl rfl)
theorem dX10_then_31 : decode cX10_then 31 = .ok (.iload_n 2, 1) := dk_28 (dk_at dksX10_then_1 7 rfl rfl)
theorem dX10_then_32 : decode cX10_then 32 = .ok (.invokevirtual 414, 3) := dk_182 1 158 (dk_at dksX10_then_1 8 rfl rfl)
theorem dX10_then_35 : decode cX10_then 35 = .ok (.iload_n 3, 1) := dk_29 (dk_at dksX10_then_1 11 rfl rfl)
theorem dX10_then_36 : decode cX10_then 36 = .ok (.iconst 4, 1) := dk_7 (dk_at dksX10_then_1 12 rfl rfl)
theorem dX10_then_37 : decode cX10_then 37 = .ok (.if_icmp .ge 16, 3) := dk_162 0 16 (dk_at dksX10_then_1 13 rfl rfl)
theorem dX10_then_40 : decode cX10_then 40 = .ok (.aload_n 0, 1) := dk_42 (dk_at dksX10_then_1 16 rfl rfl)
theorem dX10_then_41 : decode cX10_then 41 = .ok (.getfield 122, 3) := dk_180 0 122 (dk_at dksX10_then_1 17 rfl rfl)
theorem dX10_then_44 : decode cX10_then 44 = .ok (.iconst 4, 1) := dk_7 (dk_at dksX10_then_1 20 rfl rfl)
theorem dX10_then_45 : decode cX10_then 45 = .ok (.iload_n 1, 1) := dk_27 (dk_at dksX10_then_1 21 rfl rfl)
theorem dX10_then_46 : decode cX10_then 46 = .ok (.imul, 1) := dk_104 (dk_at dksX10_then_1 22 rfl rfl)
theorem dX10_then_47 : decode cX10_then 47 = .ok (.iload_n 3, 1) := dk_29 (dk_at dksX10_then_1 23 rfl rfl)
theorem dX10_then_48 : decode cX10_then 48 = .ok (.iadd, 1) := dk_96 (dk_at dksX10_then_2 0 rfl rfl)
theorem dX10_then_49 : decode cX10_then 49 = .ok (.iaload, 1) := dk_46 (dk_at dksX10_then_2 1 rfl rfl)
theorem dX10_then_50 : decode cX10_then 50 = .ok (.goto 25, 3) := dk_167 0 25 (dk_at dksX10_then_2 2 rfl rfl)
theorem dX10_then_53 : decode cX10_then 53 = .ok (.iload_n 3, 1) := dk_29 (dk_at dksX10_then_2 5 rfl rfl)
theorem dX10_then_54 : decode cX10_then 54 = .ok (.iconst 4, 1) := dk_7 (dk_at dksX10_then_2 6 rfl rfl)
theorem dX10_then_55 : decode cX10_then 55 = .ok (.if_icmp .ne 11, 3) := dk_160 0 11 (dk_at dksX10_then_2 7 rfl rfl)
theorem dX10_then_58 : decode cX10_then 58 = .ok (.aload_n 0, 1) := dk_42 (dk_at dksX10_then_2 10 rfl rfl)
theorem dX10_then_59 : decode cX10_then 59 = .ok (.iload_n 1, 1) := dk_27 (dk_at dksX10_then_2 11 rfl rfl)
theorem dX10_then_60 : decode cX10_then 60 = .ok (.invokevirtual 390, 3) := dk_182 1 134 (dk_at dksX10_then_2 12 rfl rfl)
theorem dX10_then_63 : decode cX10_then 63 = .ok (.goto 12, 3) := dk_167 0 12 (dk_at dksX10_then_2 15 rfl rfl)
theorem dX10_then_66 : decode cX10_then 66 = .ok (.aload_n 0, 1) := dk_42 (dk_at dksX10_then_2 18 rfl rfl)
theorem dX10_then_67 : decode cX10_then 67 = .ok (.getfield 122, 3) := dk_180 0 122 (dk_at dksX10_then_2 19 rfl rfl)
theorem dX10_then_70 : decode cX10_then 70 = .ok (.bipush 42, 2) := dk_16 42 (dk_at dksX10_then_2 22 rfl rfl)
theorem dX10_then_72 : decode cX10_then 72 = .ok (.iload_n 1, 1) := dk_27 (dk_at dksX10_then_3 0 rfl rfl)
theorem dX10_then_73 : decode cX10_then 73 = .ok (.iadd, 1) := dk_96 (dk_at dksX10_then_3 1 rfl rfl)
theorem dX10_then_74 : decode cX10_then 74 = .ok (.iaload, 1) := dk_46 (dk_at dksX10_then_3 2 rfl rfl)
theorem dX10_then_75 : decode cX10_then 75 = .ok (.ireturn, 1) := dk_172 (dk_at dksX10_then_3 3 rfl rfl)
abbrev cX10_year : ByteArray := prog_21_method_110_code
def yX10_year : MethodName := ⟨RX10, "year", "(IIII)I"⟩
def dkwX10_year_3 : List UInt8 := [132, 5, 1, 132, 6, 1, 167, 255, 214, 21, 5, 172]
abbrev dktX10_year_3 : List UInt8 := dkwX10_year_3 ++ []
def dkwX10_year_2 : List UInt8 := [180, 1, 61, 21, 6, 96, 181, 1, 61, 42, 29, 182, 1, 158, 42, 27, 182, 1, 134, 28, 160, 0, 6]
abbrev dktX10_year_2 : List UInt8 := dkwX10_year_2 ++ dktX10_year_3
def dkwX10_year_1 : List UInt8 := [154, 0, 5, 2, 172, 3, 54, 5, 3, 54, 6, 21, 6, 21, 4, 162, 0, 41, 42, 182, 1, 67, 42, 89]
abbrev dktX10_year_1 : List UInt8 := dkwX10_year_1 ++ dktX10_year_2
def dkwX10_year_0 : List UInt8 := [42, 27, 28, 182, 1, 143, 153, 0, 21, 29, 184, 1, 155, 153, 0, 14, 21, 4, 4, 16, 20, 184, 1, 57]
abbrev dktX10_year_0 : List UInt8 := dkwX10_year_0 ++ dktX10_year_1
theorem dksX10_year_0 : cX10_year.data.toList.drop 0 = dktX10_year_0 := by decide +kernel
theorem dksX10_year_1 : cX10_year.data.toList.drop 24 = dktX10_year_1 := dk_seg dksX10_year_0 24 rfl rfl
theorem dksX10_year_2 : cX10_year.data.toList.drop 48 = dktX10_year_2 := dk_seg dksX10_year_1 24 rfl rfl
theorem dksX10_year_3 : cX10_year.data.toList.drop 71 = dktX10_year_3 := dk_seg dksX10_year_2 23 rfl rfl
theorem dX10_year_0 : decode cX10_year 0 = .ok (.aload_n 0, 1) := dk_42 (dk_at dksX10_year_0 0 rfl rfl)
theorem dX10_year_1 : decode cX10_year 1 = .ok (.iload_n 1, 1) := dk_27 (dk_at dksX10_year_0 1 rfl rfl)
theorem dX10_year_2 : decode cX10_year 2 = .ok (.iload_n 2, 1) := dk_28 (dk_at dksX10_year_0 2 rfl rfl)
theorem dX10_year_3 : decode cX10_year 3 = .ok (.invokevirtual 399, 3) := dk_182 1 143 (dk_at dksX10_year_0 3 rfl rfl)
theorem dX10_year_6 : decode cX10_year 6 = .ok (.ifCond .eq 21, 3) := dk_153 0 21 (dk_at dksX10_year_0 6 rfl rfl)
theorem dX10_year_9 : decode cX10_year 9 = .ok (.iload_n 3, 1) := dk_29 (dk_at dksX10_year_0 9 rfl rfl)
theorem dX10_year_10 : decode cX10_year 10 = .ok (.invokestatic 411, 3) := dk_184 1 155 (dk_at dksX10_year_0 10 rfl rfl)
theorem dX10_year_13 : decode cX10_year 13 = .ok (.ifCond .eq 14, 3) := dk_153 0 14 (dk_at dksX10_year_0 13 rfl rfl)
theorem dX10_year_16 : decode cX10_year 16 = .ok (.iload 4, 2) := dk_21 4 (dk_at dksX10_year_0 16 rfl rfl)
theorem dX10_year_18 : decode cX10_year 18 = .ok (.iconst 1, 1) := dk_4 (dk_at dksX10_year_0 18 rfl rfl)
theorem dX10_year_19 : decode cX10_year 19 = .ok (.bipush 20, 2) := dk_16 20 (dk_at dksX10_year_0 19 rfl rfl)
theorem dX10_year_21 : decode cX10_year 21 = .ok (.invokestatic 313, 3) := dk_184 1 57 (dk_at dksX10_year_0 21 rfl rfl)
theorem dX10_year_24 : decode cX10_year 24 = .ok (.ifCond .ne 5, 3) := dk_154 0 5 (dk_at dksX10_year_1 0 rfl rfl)
theorem dX10_year_27 : decode cX10_year 27 = .ok (.iconst (-1), 1) := dk_2 (dk_at dksX10_year_1 3 rfl rfl)
theorem dX10_year_28 : decode cX10_year 28 = .ok (.ireturn, 1) := dk_172 (dk_at dksX10_year_1 4 rfl rfl)
theorem dX10_year_29 : decode cX10_year 29 = .ok (.iconst 0, 1) := dk_3 (dk_at dksX10_year_1 5 rfl rfl)
theorem dX10_year_30 : decode cX10_year 30 = .ok (.istore 5, 2) := dk_54 5 (dk_at dksX10_year_1 6 rfl rfl)
theorem dX10_year_32 : decode cX10_year 32 = .ok (.iconst 0, 1) := dk_3 (dk_at dksX10_year_1 8 rfl rfl)
theorem dX10_year_33 : decode cX10_year 33 = .ok (.istore 6, 2) := dk_54 6 (dk_at dksX10_year_1 9 rfl rfl)
theorem dX10_year_35 : decode cX10_year 35 = .ok (.iload 6, 2) := dk_21 6 (dk_at dksX10_year_1 11 rfl rfl)
theorem dX10_year_37 : decode cX10_year 37 = .ok (.iload 4, 2) := dk_21 4 (dk_at dksX10_year_1 13 rfl rfl)
theorem dX10_year_39 : decode cX10_year 39 = .ok (.if_icmp .ge 41, 3) := dk_162 0 41 (dk_at dksX10_year_1 15 rfl rfl)
theorem dX10_year_42 : decode cX10_year 42 = .ok (.aload_n 0, 1) := dk_42 (dk_at dksX10_year_1 18 rfl rfl)
theorem dX10_year_43 : decode cX10_year 43 = .ok (.invokevirtual 323, 3) := dk_182 1 67 (dk_at dksX10_year_1 19 rfl rfl)
theorem dX10_year_46 : decode cX10_year 46 = .ok (.aload_n 0, 1) := dk_42 (dk_at dksX10_year_1 22 rfl rfl)
theorem dX10_year_47 : decode cX10_year 47 = .ok (.dup, 1) := dk_89 (dk_at dksX10_year_1 23 rfl rfl)
theorem dX10_year_48 : decode cX10_year 48 = .ok (.getfield 317, 3) := dk_180 1 61 (dk_at dksX10_year_2 0 rfl rfl)
theorem dX10_year_51 : decode cX10_year 51 = .ok (.iload 6, 2) := dk_21 6 (dk_at dksX10_year_2 3 rfl rfl)
theorem dX10_year_53 : decode cX10_year 53 = .ok (.iadd, 1) := dk_96 (dk_at dksX10_year_2 5 rfl rfl)
theorem dX10_year_54 : decode cX10_year 54 = .ok (.putfield 317, 3) := dk_181 1 61 (dk_at dksX10_year_2 6 rfl rfl)
theorem dX10_year_57 : decode cX10_year 57 = .ok (.aload_n 0, 1) := dk_42 (dk_at dksX10_year_2 9 rfl rfl)
theorem dX10_year_58 : decode cX10_year 58 = .ok (.iload_n 3, 1) := dk_29 (dk_at dksX10_year_2 10 rfl rfl)
theorem dX10_year_59 : decode cX10_year 59 = .ok (.invokevirtual 414, 3) := dk_182 1 158 (dk_at dksX10_year_2 11 rfl rfl)
theorem dX10_year_62 : decode cX10_year 62 = .ok (.aload_n 0, 1) := dk_42 (dk_at dksX10_year_2 14 rfl rfl)
theorem dX10_year_63 : decode cX10_year 63 = .ok (.iload_n 1, 1) := dk_27 (dk_at dksX10_year_2 15 rfl rfl)
theorem dX10_year_64 : decode cX10_year 64 = .ok (.invokevirtual 390, 3) := dk_182 1 134 (dk_at dksX10_year_2 16 rfl rfl)
theorem dX10_year_67 : decode cX10_year 67 = .ok (.iload_n 2, 1) := dk_28 (dk_at dksX10_year_2 19 rfl rfl)
theorem dX10_year_68 : decode cX10_year 68 = .ok (.if_icmp .ne 6, 3) := dk_160 0 6 (dk_at dksX10_year_2 20 rfl rfl)
theorem dX10_year_71 : decode cX10_year 71 = .ok (.iinc 5 1, 3) := dk_132 5 1 (dk_at dksX10_year_3 0 rfl rfl)
theorem dX10_year_74 : decode cX10_year 74 = .ok (.iinc 6 1, 3) := dk_132 6 1 (dk_at dksX10_year_3 3 rfl rfl)
theorem dX10_year_77 : decode cX10_year 77 = .ok (.goto (-42), 3) := dk_167 255 214 (dk_at dksX10_year_3 6 rfl rfl)
theorem dX10_year_80 : decode cX10_year 80 = .ok (.iload 5, 2) := dk_21 5 (dk_at dksX10_year_3 9 rfl rfl)
theorem dX10_year_82 : decode cX10_year 82 = .ok (.ireturn, 1) := dk_172 (dk_at dksX10_year_3 11 rfl rfl)
abbrev cX10_tell : ByteArray := prog_21_method_111_code
def yX10_tell : MethodName := ⟨RX10, "tell", "(III)I"⟩
def dkwX10_tell_3 : List UInt8 := [4, 96, 181, 0, 254, 42, 180, 0, 254, 4, 100, 172]
abbrev dktX10_tell_3 : List UInt8 := dkwX10_tell_3 ++ []
def dkwX10_tell_2 : List UInt8 := [180, 0, 140, 42, 180, 0, 254, 28, 79, 42, 180, 0, 143, 42, 180, 0, 254, 29, 79, 42, 89, 180, 0, 254]
abbrev dktX10_tell_2 : List UInt8 := dkwX10_tell_2 ++ dktX10_tell_3
def dkwX10_tell_1 : List UInt8 := [29, 2, 4, 184, 1, 57, 154, 0, 5, 2, 172, 42, 180, 0, 137, 42, 180, 0, 254, 27, 79, 42]
abbrev dktX10_tell_1 : List UInt8 := dkwX10_tell_1 ++ dktX10_tell_2
def dkwX10_tell_0 : List UInt8 := [42, 180, 0, 254, 16, 20, 159, 0, 27, 42, 27, 182, 1, 131, 153, 0, 19, 28, 184, 1, 152, 153, 0, 12]
abbrev dktX10_tell_0 : List UInt8 := dkwX10_tell_0 ++ dktX10_tell_1
theorem dksX10_tell_0 : cX10_tell.data.toList.drop 0 = dktX10_tell_0 := by decide +kernel
theorem dksX10_tell_1 : cX10_tell.data.toList.drop 24 = dktX10_tell_1 := dk_seg dksX10_tell_0 24 rfl rfl
theorem dksX10_tell_2 : cX10_tell.data.toList.drop 46 = dktX10_tell_2 := dk_seg dksX10_tell_1 22 rfl rfl
theorem dksX10_tell_3 : cX10_tell.data.toList.drop 70 = dktX10_tell_3 := dk_seg dksX10_tell_2 24 rfl rfl
theorem dX10_tell_0 : decode cX10_tell 0 = .ok (.aload_n 0, 1) := dk_42 (dk_at dksX10_tell_0 0 rfl rfl)
theorem dX10_tell_1 : decode cX10_tell 1 = .ok (.getfield 254, 3) := dk_180 0 254 (dk_at dksX10_tell_0 1 rfl rfl)
theorem dX10_tell_4 : decode cX10_tell 4 = .ok (.bipush 20, 2) := dk_16 20 (dk_at dksX10_tell_0 4 rfl rfl)
theorem dX10_tell_6 : decode cX10_tell 6 = .ok (.if_icmp .eq 27, 3) := dk_159 0 27 (dk_at dksX10_tell_0 6 rfl rfl)
theorem dX10_tell_9 : decode cX10_tell 9 = .ok (.aload_n 0, 1) := dk_42 (dk_at dksX10_tell_0 9 rfl rfl)
theorem dX10_tell_10 : decode cX10_tell 10 = .ok (.iload_n 1, 1) := dk_27 (dk_at dksX10_tell_0 10 rfl rfl)
theorem dX10_tell_11 : decode cX10_tell 11 = .ok (.invokevirtual 387, 3) := dk_182 1 131 (dk_at dksX10_tell_0 11 rfl rfl)
theorem dX10_tell_14 : decode cX10_tell 14 = .ok (.ifCond .eq 19, 3) := dk_153 0 19 (dk_at dksX10_tell_0 14 rfl rfl)
theorem dX10_tell_17 : decode cX10_tell 17 = .ok (.iload_n 2, 1) := dk_28 (dk_at dksX10_tell_0 17 rfl rfl)
theorem dX10_tell_18 : decode cX10_tell 18 = .ok (.invokestatic 408, 3) := dk_184 1 152 (dk_at dksX10_tell_0 18 rfl rfl)
theorem dX10_tell_21 : decode cX10_tell 21 = .ok (.ifCond .eq 12, 3) := dk_153 0 12 (dk_at dksX10_tell_0 21 rfl rfl)
theorem dX10_tell_24 : decode cX10_tell 24 = .ok (.iload_n 3, 1) := dk_29 (dk_at dksX10_tell_1 0 rfl rfl)
theorem dX10_tell_25 : decode cX10_tell 25 = .ok (.iconst (-1), 1) := dk_2 (dk_at dksX10_tell_1 1 rfl rfl)
theorem dX10_tell_26 : decode cX10_tell 26 = .ok (.iconst 1, 1) := dk_4 (dk_at dksX10_tell_1 2 rfl rfl)
theorem dX10_tell_27 : decode cX10_tell 27 = .ok (.invokestatic 313, 3) := dk_184 1 57 (dk_at dksX10_tell_1 3 rfl rfl)
theorem dX10_tell_30 : decode cX10_tell 30 = .ok (.ifCond .ne 5, 3) := dk_154 0 5 (dk_at dksX10_tell_1 6 rfl rfl)
theorem dX10_tell_33 : decode cX10_tell 33 = .ok (.iconst (-1), 1) := dk_2 (dk_at dksX10_tell_1 9 rfl rfl)
theorem dX10_tell_34 : decode cX10_tell 34 = .ok (.ireturn, 1) := dk_172 (dk_at dksX10_tell_1 10 rfl rfl)
theorem dX10_tell_35 : decode cX10_tell 35 = .ok (.aload_n 0, 1) := dk_42 (dk_at dksX10_tell_1 11 rfl rfl)
theorem dX10_tell_36 : decode cX10_tell 36 = .ok (.getfield 137, 3) := dk_180 0 137 (dk_at dksX10_tell_1 12 rfl rfl)
theorem dX10_tell_39 : decode cX10_tell 39 = .ok (.aload_n 0, 1) := dk_42 (dk_at dksX10_tell_1 15 rfl rfl)
theorem dX10_tell_40 : decode cX10_tell 40 = .ok (.getfield 254, 3) := dk_180 0 254 (dk_at dksX10_tell_1 16 rfl rfl)
theorem dX10_tell_43 : decode cX10_tell 43 = .ok (.iload_n 1, 1) := dk_27 (dk_at dksX10_tell_1 19 rfl rfl)
theorem dX10_tell_44 : decode cX10_tell 44 = .ok (.iastore, 1) := dk_79 (dk_at dksX10_tell_1 20 rfl rfl)
theorem dX10_tell_45 : decode cX10_tell 45 = .ok (.aload_n 0, 1) := dk_42 (dk_at dksX10_tell_1 21 rfl rfl)
theorem dX10_tell_46 : decode cX10_tell 46 = .ok (.getfield 140, 3) := dk_180 0 140 (dk_at dksX10_tell_2 0 rfl rfl)
theorem dX10_tell_49 : decode cX10_tell 49 = .ok (.aload_n 0, 1) := dk_42 (dk_at dksX10_tell_2 3 rfl rfl)
theorem dX10_tell_50 : decode cX10_tell 50 = .ok (.getfield 254, 3) := dk_180 0 254 (dk_at dksX10_tell_2 4 rfl rfl)
theorem dX10_tell_53 : decode cX10_tell 53 = .ok (.iload_n 2, 1) := dk_28 (dk_at dksX10_tell_2 7 rfl rfl)
theorem dX10_tell_54 : decode cX10_tell 54 = .ok (.iastore, 1) := dk_79 (dk_at dksX10_tell_2 8 rfl rfl)
theorem dX10_tell_55 : decode cX10_tell 55 = .ok (.aload_n 0, 1) := dk_42 (dk_at dksX10_tell_2 9 rfl rfl)
theorem dX10_tell_56 : decode cX10_tell 56 = .ok (.getfield 143, 3) := dk_180 0 143 (dk_at dksX10_tell_2 10 rfl rfl)
theorem dX10_tell_59 : decode cX10_tell 59 = .ok (.aload_n 0, 1) := dk_42 (dk_at dksX10_tell_2 13 rfl rfl)
theorem dX10_tell_60 : decode cX10_tell 60 = .ok (.getfield 254, 3) := dk_180 0 254 (dk_at dksX10_tell_2 14 rfl rfl)
theorem dX10_tell_63 : decode cX10_tell 63 = .ok (.iload_n 3, 1) := dk_29 (dk_at dksX10_tell_2 17 rfl rfl)
theorem dX10_tell_64 : decode cX10_tell 64 = .ok (.iastore, 1) := dk_79 (dk_at dksX10_tell_2 18 rfl rfl)
theorem dX10_tell_65 : decode cX10_tell 65 = .ok (.aload_n 0, 1) := dk_42 (dk_at dksX10_tell_2 19 rfl rfl)
theorem dX10_tell_66 : decode cX10_tell 66 = .ok (.dup, 1) := dk_89 (dk_at dksX10_tell_2 20 rfl rfl)
theorem dX10_tell_67 : decode cX10_tell 67 = .ok (.getfield 254, 3) := dk_180 0 254 (dk_at dksX10_tell_2 21 rfl rfl)
theorem dX10_tell_70 : decode cX10_tell 70 = .ok (.iconst 1, 1) := dk_4 (dk_at dksX10_tell_3 0 rfl rfl)
theorem dX10_tell_71 : decode cX10_tell 71 = .ok (.iadd, 1) := dk_96 (dk_at dksX10_tell_3 1 rfl rfl)
theorem dX10_tell_72 : decode cX10_tell 72 = .ok (.putfield 254, 3) := dk_181 0 254 (dk_at dksX10_tell_3 2 rfl rfl)
theorem dX10_tell_75 : decode cX10_tell 75 = .ok (.aload_n 0, 1) := dk_42 (dk_at dksX10_tell_3 5 rfl rfl)
theorem dX10_tell_76 : decode cX10_tell 76 = .ok (.getfield 254, 3) := dk_180 0 254 (dk_at dksX10_tell_3 6 rfl rfl)
theorem dX10_tell_79 : decode cX10_tell 79 = .ok (.iconst 1, 1) := dk_4 (dk_at dksX10_tell_3 9 rfl rfl)
theorem dX10_tell_80 : decode cX10_tell 80 = .ok (.isub, 1) := dk_100 (dk_at dksX10_tell_3 10 rfl rfl)
theorem dX10_tell_81 : decode cX10_tell 81 = .ok (.ireturn, 1) := dk_172 (dk_at dksX10_tell_3 11 rfl rfl)
abbrev cX10_forget : ByteArray := prog_21_method_112_code
def yX10_forget : MethodName := ⟨RX10, "forget", "()I"⟩
def dkwX10_forget_0 : List UInt8 := [42, 180, 0, 254, 60, 42, 3, 181, 0, 254, 27, 172]
abbrev dktX10_forget_0 : List UInt8 := dkwX10_forget_0 ++ []
theorem dksX10_forget_0 : cX10_forget.data.toList.drop 0 = dktX10_forget_0 := by decide +kernel
theorem dX10_forget_0 : decode cX10_forget 0 = .ok (.aload_n 0, 1) := dk_42 (dk_at dksX10_forget_0 0 rfl rfl)
theorem dX10_forget_1 : decode cX10_forget 1 = .ok (.getfield 254, 3) := dk_180 0 254 (dk_at dksX10_forget_0 1 rfl rfl)
theorem dX10_forget_4 : decode cX10_forget 4 = .ok (.istore_n 1, 1) := dk_60 (dk_at dksX10_forget_0 4 rfl rfl)
theorem dX10_forget_5 : decode cX10_forget 5 = .ok (.aload_n 0, 1) := dk_42 (dk_at dksX10_forget_0 5 rfl rfl)
theorem dX10_forget_6 : decode cX10_forget 6 = .ok (.iconst 0, 1) := dk_3 (dk_at dksX10_forget_0 6 rfl rfl)
theorem dX10_forget_7 : decode cX10_forget 7 = .ok (.putfield 254, 3) := dk_181 0 254 (dk_at dksX10_forget_0 7 rfl rfl)
theorem dX10_forget_10 : decode cX10_forget 10 = .ok (.iload_n 1, 1) := dk_27 (dk_at dksX10_forget_0 10 rfl rfl)
theorem dX10_forget_11 : decode cX10_forget 11 = .ok (.ireturn, 1) := dk_172 (dk_at dksX10_forget_0 11 rfl rfl)
abbrev cX10_who : ByteArray := prog_21_method_115_code
def yX10_who : MethodName := ⟨RX10, "who", "(II)I"⟩
def dkwX10_who_1 : List UInt8 := [27, 182, 1, 198, 62, 28, 154, 0, 10, 29, 184, 1, 201, 167, 0, 4, 29, 172]
abbrev dktX10_who_1 : List UInt8 := dkwX10_who_1 ++ []
def dkwX10_who_0 : List UInt8 := [27, 3, 42, 180, 0, 254, 184, 1, 57, 153, 0, 12, 28, 3, 4, 184, 1, 57, 154, 0, 5, 2, 172, 42]
abbrev dktX10_who_0 : List UInt8 := dkwX10_who_0 ++ dktX10_who_1
theorem dksX10_who_0 : cX10_who.data.toList.drop 0 = dktX10_who_0 := by decide +kernel
theorem dksX10_who_1 : cX10_who.data.toList.drop 24 = dktX10_who_1 := dk_seg dksX10_who_0 24 rfl rfl
theorem dX10_who_0 : decode cX10_who 0 = .ok (.iload_n 1, 1) := dk_27 (dk_at dksX10_who_0 0 rfl rfl)
theorem dX10_who_1 : decode cX10_who 1 = .ok (.iconst 0, 1) := dk_3 (dk_at dksX10_who_0 1 rfl rfl)
theorem dX10_who_2 : decode cX10_who 2 = .ok (.aload_n 0, 1) := dk_42 (dk_at dksX10_who_0 2 rfl rfl)
theorem dX10_who_3 : decode cX10_who 3 = .ok (.getfield 254, 3) := dk_180 0 254 (dk_at dksX10_who_0 3 rfl rfl)
theorem dX10_who_6 : decode cX10_who 6 = .ok (.invokestatic 313, 3) := dk_184 1 57 (dk_at dksX10_who_0 6 rfl rfl)
theorem dX10_who_9 : decode cX10_who 9 = .ok (.ifCond .eq 12, 3) := dk_153 0 12 (dk_at dksX10_who_0 9 rfl rfl)
theorem dX10_who_12 : decode cX10_who 12 = .ok (.iload_n 2, 1) := dk_28 (dk_at dksX10_who_0 12 rfl rfl)
theorem dX10_who_13 : decode cX10_who 13 = .ok (.iconst 0, 1) := dk_3 (dk_at dksX10_who_0 13 rfl rfl)
theorem dX10_who_14 : decode cX10_who 14 = .ok (.iconst 1, 1) := dk_4 (dk_at dksX10_who_0 14 rfl rfl)
theorem dX10_who_15 : decode cX10_who 15 = .ok (.invokestatic 313, 3) := dk_184 1 57 (dk_at dksX10_who_0 15 rfl rfl)
theorem dX10_who_18 : decode cX10_who 18 = .ok (.ifCond .ne 5, 3) := dk_154 0 5 (dk_at dksX10_who_0 18 rfl rfl)
theorem dX10_who_21 : decode cX10_who 21 = .ok (.iconst (-1), 1) := dk_2 (dk_at dksX10_who_0 21 rfl rfl)
theorem dX10_who_22 : decode cX10_who 22 = .ok (.ireturn, 1) := dk_172 (dk_at dksX10_who_0 22 rfl rfl)
theorem dX10_who_23 : decode cX10_who 23 = .ok (.aload_n 0, 1) := dk_42 (dk_at dksX10_who_0 23 rfl rfl)
theorem dX10_who_24 : decode cX10_who 24 = .ok (.iload_n 1, 1) := dk_27 (dk_at dksX10_who_1 0 rfl rfl)
theorem dX10_who_25 : decode cX10_who 25 = .ok (.invokevirtual 454, 3) := dk_182 1 198 (dk_at dksX10_who_1 1 rfl rfl)
theorem dX10_who_28 : decode cX10_who 28 = .ok (.istore_n 3, 1) := dk_62 (dk_at dksX10_who_1 4 rfl rfl)
theorem dX10_who_29 : decode cX10_who 29 = .ok (.iload_n 2, 1) := dk_28 (dk_at dksX10_who_1 5 rfl rfl)
theorem dX10_who_30 : decode cX10_who 30 = .ok (.ifCond .ne 10, 3) := dk_154 0 10 (dk_at dksX10_who_1 6 rfl rfl)
theorem dX10_who_33 : decode cX10_who 33 = .ok (.iload_n 3, 1) := dk_29 (dk_at dksX10_who_1 9 rfl rfl)
theorem dX10_who_34 : decode cX10_who 34 = .ok (.invokestatic 457, 3) := dk_184 1 201 (dk_at dksX10_who_1 10 rfl rfl)
theorem dX10_who_37 : decode cX10_who 37 = .ok (.goto 4, 3) := dk_167 0 4 (dk_at dksX10_who_1 13 rfl rfl)
theorem dX10_who_40 : decode cX10_who 40 = .ok (.iload_n 3, 1) := dk_29 (dk_at dksX10_who_1 16 rfl rfl)
theorem dX10_who_41 : decode cX10_who 41 = .ok (.ireturn, 1) := dk_172 (dk_at dksX10_who_1 17 rfl rfl)
abbrev cX10_whoBits : ByteArray := prog_21_method_114_code
def yX10_whoBits : MethodName := ⟨RX10, "whoBits", "(I)I"⟩
def dkwX10_whoBits_3 : List UInt8 := [21, 4, 153, 0, 9, 28, 4, 29, 120, 128, 61, 132, 3, 1, 167, 255, 179, 28, 172]
abbrev dktX10_whoBits_3 : List UInt8 := dkwX10_whoBits_3 ++ []
def dkwX10_whoBits_2 : List UInt8 := [29, 182, 1, 195, 42, 180, 0, 143, 21, 5, 46, 159, 0, 6, 3, 54, 4, 132, 5, 1, 167, 255, 215]
abbrev dktX10_whoBits_2 : List UInt8 := dkwX10_whoBits_2 ++ dktX10_whoBits_3
def dkwX10_whoBits_1 : List UInt8 := [3, 54, 5, 21, 5, 27, 162, 0, 41, 42, 42, 180, 0, 137, 21, 5, 46, 42, 180, 0, 140, 21, 5, 46]
abbrev dktX10_whoBits_1 : List UInt8 := dkwX10_whoBits_1 ++ dktX10_whoBits_2
def dkwX10_whoBits_0 : List UInt8 := [42, 182, 1, 67, 3, 61, 3, 62, 29, 42, 180, 0, 52, 42, 180, 0, 233, 46, 162, 0, 70, 4, 54, 4]
abbrev dktX10_whoBits_0 : List UInt8 := dkwX10_whoBits_0 ++ dktX10_whoBits_1
theorem dksX10_whoBits_0 : cX10_whoBits.data.toList.drop 0 = dktX10_whoBits_0 := by decide +kernel
theorem dksX10_whoBits_1 : cX10_whoBits.data.toList.drop 24 = dktX10_whoBits_1 := dk_seg dksX10_whoBits_0 24 rfl rfl
theorem dksX10_whoBits_2 : cX10_whoBits.data.toList.drop 48 = dktX10_whoBits_2 := dk_seg dksX10_whoBits_1 24 rfl rfl
theorem dksX10_whoBits_3 : cX10_whoBits.data.toList.drop 71 = dktX10_whoBits_3 := dk_seg dksX10_whoBits_2 23 rfl rfl
theorem dX10_whoBits_0 : decode cX10_whoBits 0 = .ok (.aload_n 0, 1) := dk_42 (dk_at dksX10_whoBits_0 0 rfl rfl)
theorem dX10_whoBits_1 : decode cX10_whoBits 1 = .ok (.invokevirtual 323, 3) := dk_182 1 67 (dk_at dksX10_whoBits_0 1 rfl rfl)
theorem dX10_whoBits_4 : decode cX10_whoBits 4 = .ok (.iconst 0, 1) := dk_3 (dk_at dksX10_whoBits_0 4 rfl rfl)
theorem dX10_whoBits_5 : decode cX10_whoBits 5 = .ok (.istore_n 2, 1) := dk_61 (dk_at dksX10_whoBits_0 5 rfl rfl)
theorem dX10_whoBits_6 : decode cX10_whoBits 6 = .ok (.iconst 0, 1) := dk_3 (dk_at dksX10_whoBits_0 6 rfl rfl)
theorem dX10_whoBits_7 : decode cX10_whoBits 7 = .ok (.istore_n 3, 1) := dk_62 (dk_at dksX10_whoBits_0 7 rfl rfl)
theorem dX10_whoBits_8 : decode cX10_whoBits 8 = .ok (.iload_n 3, 1) := dk_29 (dk_at dksX10_whoBits_0 8 rfl rfl)
theorem dX10_whoBits_9 : decode cX10_whoBits 9 = .ok (.aload_n 0, 1) := dk_42 (dk_at dksX10_whoBits_0 9 rfl rfl)
theorem dX10_whoBits_10 : decode cX10_whoBits 10 = .ok (.getfield 52, 3) := dk_180 0 52 (dk_at dksX10_whoBits_0 10 rfl rfl)
theorem dX10_whoBits_13 : decode cX10_whoBits 13 = .ok (.aload_n 0, 1) := dk_42 (dk_at dksX10_whoBits_0 13 rfl rfl)
theorem dX10_whoBits_14 : decode cX10_whoBits 14 = .ok (.getfield 233, 3) := dk_180 0 233 (dk_at dksX10_whoBits_0 14 rfl rfl)
theorem dX10_whoBits_17 : decode cX10_whoBits 17 = .ok (.iaload, 1) := dk_46 (dk_at dksX10_whoBits_0 17 rfl rfl)
theorem dX10_whoBits_18 : decode cX10_whoBits 18 = .ok (.if_icmp .ge 70, 3) := dk_162 0 70 (dk_at dksX10_whoBits_0 18 rfl rfl)
theorem dX10_whoBits_21 : decode cX10_whoBits 21 = .ok (.iconst 1, 1) := dk_4 (dk_at dksX10_whoBits_0 21 rfl rfl)
theorem dX10_whoBits_22 : decode cX10_whoBits 22 = .ok (.istore 4, 2) := dk_54 4 (dk_at dksX10_whoBits_0 22 rfl rfl)
theorem dX10_whoBits_24 : decode cX10_whoBits 24 = .ok (.iconst 0, 1) := dk_3 (dk_at dksX10_whoBits_1 0 rfl rfl)
theorem dX10_whoBits_25 : decode cX10_whoBits 25 = .ok (.istore 5, 2) := dk_54 5 (dk_at dksX10_whoBits_1 1 rfl rfl)
theorem dX10_whoBits_27 : decode cX10_whoBits 27 = .ok (.iload 5, 2) := dk_21 5 (dk_at dksX10_whoBits_1 3 rfl rfl)
theorem dX10_whoBits_29 : decode cX10_whoBits 29 = .ok (.iload_n 1, 1) := dk_27 (dk_at dksX10_whoBits_1 5 rfl rfl)
theorem dX10_whoBits_30 : decode cX10_whoBits 30 = .ok (.if_icmp .ge 41, 3) := dk_162 0 41 (dk_at dksX10_whoBits_1 6 rfl rfl)
theorem dX10_whoBits_33 : decode cX10_whoBits 33 = .ok (.aload_n 0, 1) := dk_42 (dk_at dksX10_whoBits_1 9 rfl rfl)
theorem dX10_whoBits_34 : decode cX10_whoBits 34 = .ok (.aload_n 0, 1) := dk_42 (dk_at dksX10_whoBits_1 10 rfl rfl)
theorem dX10_whoBits_35 : decode cX10_whoBits 35 = .ok (.getfield 137, 3) := dk_180 0 137 (dk_at dksX10_whoBits_1 11 rfl rfl)
theorem dX10_whoBits_38 : decode cX10_whoBits 38 = .ok (.iload 5, 2) := dk_21 5 (dk_at dksX10_whoBits_1 14 rfl rfl)
theorem dX10_whoBits_40 : decode cX10_whoBits 40 = .ok (.iaload, 1) := dk_46 (dk_at dksX10_whoBits_1 16 rfl rfl)
theorem dX10_whoBits_41 : decode cX10_whoBits 41 = .ok (.aload_n 0, 1) := dk_42 (dk_at dksX10_whoBits_1 17 rfl rfl)
theorem dX10_whoBits_42 : decode cX10_whoBits 42 = .ok (.getfield 140, 3) := dk_180 0 140 (dk_at dksX10_whoBits_1 18 rfl rfl)
theorem dX10_whoBits_45 : decode cX10_whoBits 45 = .ok (.iload 5, 2) := dk_21 5 (dk_at dksX10_whoBits_1 21 rfl rfl)
theorem dX10_whoBits_47 : decode cX10_whoBits 47 = .ok (.iaload, 1) := dk_46 (dk_at dksX10_whoBits_1 23 rfl rfl)
theorem dX10_whoBits_48 : decode cX10_whoBits 48 = .ok (.iload_n 3, 1) := dk_29 (dk_at dksX10_whoBits_2 0 rfl rfl)
theorem dX10_whoBits_49 : decode cX10_whoBits 49 = .ok (.invokevirtual 451, 3) := dk_182 1 195 (dk_at dksX10_whoBits_2 1 rfl rfl)
theorem dX10_whoBits_52 : decode cX10_whoBits 52 = .ok (.aload_n 0, 1) := dk_42 (dk_at dksX10_whoBits_2 4 rfl rfl)
theorem dX10_whoBits_53 : decode cX10_whoBits 53 = .ok (.getfield 143, 3) := dk_180 0 143 (dk_at dksX10_whoBits_2 5 rfl rfl)
theorem dX10_whoBits_56 : decode cX10_whoBits 56 = .ok (.iload 5, 2) := dk_21 5 (dk_at dksX10_whoBits_2 8 rfl rfl)
theorem dX10_whoBits_58 : decode cX10_whoBits 58 = .ok (.iaload, 1) := dk_46 (dk_at dksX10_whoBits_2 10 rfl rfl)
theorem dX10_whoBits_59 : decode cX10_whoBits 59 = .ok (.if_icmp .eq 6, 3) := dk_159 0 6 (dk_at dksX10_whoBits_2 11 rfl rfl)
theorem dX10_whoBits_62 : decode cX10_whoBits 62 = .ok (.iconst 0, 1) := dk_3 (dk_at dksX10_whoBits_2 14 rfl rfl)
theorem dX10_whoBits_63 : decode cX10_whoBits 63 = .ok (.istore 4, 2) := dk_54 4 (dk_at dksX10_whoBits_2 15 rfl rfl)
theorem dX10_whoBits_65 : decode cX10_whoBits 65 = .ok (.iinc 5 1, 3) := dk_132 5 1 (dk_at dksX10_whoBits_2 17 rfl rfl)
theorem dX10_whoBits_68 : decode cX10_whoBits 68 = .ok (.goto (-41), 3) := dk_167 255 215 (dk_at dksX10_whoBits_2 20 rfl rfl)
theorem dX10_whoBits_71 : decode cX10_whoBits 71 = .ok (.iload 4, 2) := dk_21 4 (dk_at dksX10_whoBits_3 0 rfl rfl)
theorem dX10_whoBits_73 : decode cX10_whoBits 73 = .ok (.ifCond .eq 9, 3) := dk_153 0 9 (dk_at dksX10_whoBits_3 2 rfl rfl)
theorem dX10_whoBits_76 : decode cX10_whoBits 76 = .ok (.iload_n 2, 1) := dk_28 (dk_at dksX10_whoBits_3 5 rfl rfl)
theorem dX10_whoBits_77 : decode cX10_whoBits 77 = .ok (.iconst 1, 1) := dk_4 (dk_at dksX10_whoBits_3 6 rfl rfl)
theorem dX10_whoBits_78 : decode cX10_whoBits 78 = .ok (.iload_n 3, 1) := dk_29 (dk_at dksX10_whoBits_3 7 rfl rfl)
theorem dX10_whoBits_79 : decode cX10_whoBits 79 = .ok (.ishl, 1) := dk_120 (dk_at dksX10_whoBits_3 8 rfl rfl)
theorem dX10_whoBits_80 : decode cX10_whoBits 80 = .ok (.ior, 1) := dk_128 (dk_at dksX10_whoBits_3 9 rfl rfl)
theorem dX10_whoBits_81 : decode cX10_whoBits 81 = .ok (.istore_n 2, 1) := dk_61 (dk_at dksX10_whoBits_3 10 rfl rfl)
theorem dX10_whoBits_82 : decode cX10_whoBits 82 = .ok (.iinc 3 1, 3) := dk_132 3 1 (dk_at dksX10_whoBits_3 11 rfl rfl)
theorem dX10_whoBits_85 : decode cX10_whoBits 85 = .ok (.goto (-77), 3) := dk_167 255 179 (dk_at dksX10_whoBits_3 14 rfl rfl)
theorem dX10_whoBits_88 : decode cX10_whoBits 88 = .ok (.iload_n 2, 1) := dk_28 (dk_at dksX10_whoBits_3 17 rfl rfl)
theorem dX10_whoBits_89 : decode cX10_whoBits 89 = .ok (.ireturn, 1) := dk_172 (dk_at dksX10_whoBits_3 18 rfl rfl)
abbrev cX10_wayOf : ByteArray := prog_21_method_113_code
def yX10_wayOf : MethodName := ⟨RX10, "wayOf", "(III)I"⟩
def dkwX10_wayOf_1 : List UInt8 := [104, 28, 96, 46, 162, 0, 7, 2, 167, 0, 4, 4, 172]
abbrev dktX10_wayOf_1 : List UInt8 := dkwX10_wayOf_1 ++ []
def dkwX10_wayOf_0 : List UInt8 := [42, 27, 29, 28, 182, 1, 107, 154, 0, 5, 3, 172, 42, 29, 28, 182, 1, 77, 42, 180, 0, 122, 7, 27]
abbrev dktX10_wayOf_0 : List UInt8 := dkwX10_wayOf_0 ++ dktX10_wayOf_1
theorem dksX10_wayOf_0 : cX10_wayOf.data.toList.drop 0 = dktX10_wayOf_0 := by decide +kernel
theorem dksX10_wayOf_1 : cX10_wayOf.data.toList.drop 24 = dktX10_wayOf_1 := dk_seg dksX10_wayOf_0 24 rfl rfl
theorem dX10_wayOf_0 : decode cX10_wayOf 0 = .ok (.aload_n 0, 1) := dk_42 (dk_at dksX10_wayOf_0 0 rfl rfl)
theorem dX10_wayOf_1 : decode cX10_wayOf 1 = .ok (.iload_n 1, 1) := dk_27 (dk_at dksX10_wayOf_0 1 rfl rfl)
theorem dX10_wayOf_2 : decode cX10_wayOf 2 = .ok (.iload_n 3, 1) := dk_29 (dk_at dksX10_wayOf_0 2 rfl rfl)
theorem dX10_wayOf_3 : decode cX10_wayOf 3 = .ok (.iload_n 2, 1) := dk_28 (dk_at dksX10_wayOf_0 3 rfl rfl)
theorem dX10_wayOf_4 : decode cX10_wayOf 4 = .ok (.invokevirtual 363, 3) := dk_182 1 107 (dk_at dksX10_wayOf_0 4 rfl rfl)
theorem dX10_wayOf_7 : decode cX10_wayOf 7 = .ok (.ifCond .ne 5, 3) := dk_154 0 5 (dk_at dksX10_wayOf_0 7 rfl rfl)
theorem dX10_wayOf_10 : decode cX10_wayOf 10 = .ok (.iconst 0, 1) := dk_3 (dk_at dksX10_wayOf_0 10 rfl rfl)
theorem dX10_wayOf_11 : decode cX10_wayOf 11 = .ok (.ireturn, 1) := dk_172 (dk_at dksX10_wayOf_0 11 rfl rfl)
theorem dX10_wayOf_12 : decode cX10_wayOf 12 = .ok (.aload_n 0, 1) := dk_42 (dk_at dksX10_wayOf_0 12 rfl rfl)
theorem dX10_wayOf_13 : decode cX10_wayOf 13 = .ok (.iload_n 3, 1) := dk_29 (dk_at dksX10_wayOf_0 13 rfl rfl)
theorem dX10_wayOf_14 : decode cX10_wayOf 14 = .ok (.iload_n 2, 1) := dk_28 (dk_at dksX10_wayOf_0 14 rfl rfl)
theorem dX10_wayOf_15 : decode cX10_wayOf 15 = .ok (.invokevirtual 333, 3) := dk_182 1 77 (dk_at dksX10_wayOf_0 15 rfl rfl)
theorem dX10_wayOf_18 : decode cX10_wayOf 18 = .ok (.aload_n 0, 1) := dk_42 (dk_at dksX10_wayOf_0 18 rfl rfl)
theorem dX10_wayOf_19 : decode cX10_wayOf 19 = .ok (.getfield 122, 3) := dk_180 0 122 (dk_at dksX10_wayOf_0 19 rfl rfl)
theorem dX10_wayOf_22 : decode cX10_wayOf 22 = .ok (.iconst 4, 1) := dk_7 (dk_at dksX10_wayOf_0 22 rfl rfl)
theorem dX10_wayOf_23 : decode cX10_wayOf 23 = .ok (.iload_n 1, 1) := dk_27 (dk_at dksX10_wayOf_0 23 rfl rfl)
theorem dX10_wayOf_24 : decode cX10_wayOf 24 = .ok (.imul, 1) := dk_104 (dk_at dksX10_wayOf_1 0 rfl rfl)
theorem dX10_wayOf_25 : decode cX10_wayOf 25 = .ok (.iload_n 2, 1) := dk_28 (dk_at dksX10_wayOf_1 1 rfl rfl)
theorem dX10_wayOf_26 : decode cX10_wayOf 26 = .ok (.iadd, 1) := dk_96 (dk_at dksX10_wayOf_1 2 rfl rfl)
theorem dX10_wayOf_27 : decode cX10_wayOf 27 = .ok (.iaload, 1) := dk_46 (dk_at dksX10_wayOf_1 3 rfl rfl)
theorem dX10_wayOf_28 : decode cX10_wayOf 28 = .ok (.if_icmp .ge 7, 3) := dk_162 0 7 (dk_at dksX10_wayOf_1 4 rfl rfl)
theorem dX10_wayOf_31 : decode cX10_wayOf 31 = .ok (.iconst (-1), 1) := dk_2 (dk_at dksX10_wayOf_1 7 rfl rfl)
theorem dX10_wayOf_32 : decode cX10_wayOf 32 = .ok (.goto 4, 3) := dk_167 0 4 (dk_at dksX10_wayOf_1 8 rfl rfl)
theorem dX10_wayOf_35 : decode cX10_wayOf 35 = .ok (.iconst 1, 1) := dk_4 (dk_at dksX10_wayOf_1 11 rfl rfl)
theorem dX10_wayOf_36 : decode cX10_wayOf 36 = .ok (.ireturn, 1) := dk_172 (dk_at dksX10_wayOf_1 12 rfl rfl)
abbrev cX10_bits : ByteArray := prog_21_method_39_code
def yX10_bits : MethodName := ⟨RX10, "bits", "(I)I"⟩
def dkwX10_bits_1 : List UInt8 := [27, 172]
abbrev dktX10_bits_1 : List UInt8 := dkwX10_bits_1 ++ []
def dkwX10_bits_0 : List UInt8 := [3, 60, 3, 61, 28, 16, 10, 162, 0, 17, 27, 26, 28, 122, 4, 126, 96, 60, 132, 2, 1, 167, 255, 239]
abbrev dktX10_bits_0 : List UInt8 := dkwX10_bits_0 ++ dktX10_bits_1
theorem dksX10_bits_0 : cX10_bits.data.toList.drop 0 = dktX10_bits_0 := by decide +kernel
theorem dksX10_bits_1 : cX10_bits.data.toList.drop 24 = dktX10_bits_1 := dk_seg dksX10_bits_0 24 rfl rfl
theorem dX10_bits_0 : decode cX10_bits 0 = .ok (.iconst 0, 1) := dk_3 (dk_at dksX10_bits_0 0 rfl rfl)
theorem dX10_bits_1 : decode cX10_bits 1 = .ok (.istore_n 1, 1) := dk_60 (dk_at dksX10_bits_0 1 rfl rfl)
theorem dX10_bits_2 : decode cX10_bits 2 = .ok (.iconst 0, 1) := dk_3 (dk_at dksX10_bits_0 2 rfl rfl)
theorem dX10_bits_3 : decode cX10_bits 3 = .ok (.istore_n 2, 1) := dk_61 (dk_at dksX10_bits_0 3 rfl rfl)
theorem dX10_bits_4 : decode cX10_bits 4 = .ok (.iload_n 2, 1) := dk_28 (dk_at dksX10_bits_0 4 rfl rfl)
theorem dX10_bits_5 : decode cX10_bits 5 = .ok (.bipush 10, 2) := dk_16 10 (dk_at dksX10_bits_0 5 rfl rfl)
theorem dX10_bits_7 : decode cX10_bits 7 = .ok (.if_icmp .ge 17, 3) := dk_162 0 17 (dk_at dksX10_bits_0 7 rfl rfl)
theorem dX10_bits_10 : decode cX10_bits 10 = .ok (.iload_n 1, 1) := dk_27 (dk_at dksX10_bits_0 10 rfl rfl)
theorem dX10_bits_11 : decode cX10_bits 11 = .ok (.iload_n 0, 1) := dk_26 (dk_at dksX10_bits_0 11 rfl rfl)
theorem dX10_bits_12 : decode cX10_bits 12 = .ok (.iload_n 2, 1) := dk_28 (dk_at dksX10_bits_0 12 rfl rfl)
theorem dX10_bits_13 : decode cX10_bits 13 = .ok (.ishr, 1) := dk_122 (dk_at dksX10_bits_0 13 rfl rfl)
theorem dX10_bits_14 : decode cX10_bits 14 = .ok (.iconst 1, 1) := dk_4 (dk_at dksX10_bits_0 14 rfl rfl)
theorem dX10_bits_15 : decode cX10_bits 15 = .ok (.iand, 1) := dk_126 (dk_at dksX10_bits_0 15 rfl rfl)
theorem dX10_bits_16 : decode cX10_bits 16 = .ok (.iadd, 1) := dk_96 (dk_at dksX10_bits_0 16 rfl rfl)
theorem dX10_bits_17 : decode cX10_bits 17 = .ok (.istore_n 1, 1) := dk_60 (dk_at dksX10_bits_0 17 rfl rfl)
theorem dX10_bits_18 : decode cX10_bits 18 = .ok (.iinc 2 1, 3) := dk_132 2 1 (dk_at dksX10_bits_0 18 rfl rfl)
theorem dX10_bits_21 : decode cX10_bits 21 = .ok (.goto (-17), 3) := dk_167 255 239 (dk_at dksX10_bits_0 21 rfl rfl)
theorem dX10_bits_24 : decode cX10_bits 24 = .ok (.iload_n 1, 1) := dk_27 (dk_at dksX10_bits_1 0 rfl rfl)
theorem dX10_bits_25 : decode cX10_bits 25 = .ok (.ireturn, 1) := dk_172 (dk_at dksX10_bits_1 1 rfl rfl)
abbrev cX10_ask : ByteArray := prog_21_method_117_code
def yX10_ask : MethodName := ⟨RX10, "ask", "(I)I"⟩
def dkwX10_ask_4 : List UInt8 := [54, 4, 132, 5, 1, 167, 255, 187, 29, 172]
abbrev dktX10_ask_4 : List UInt8 := dkwX10_ask_4 ++ []
def dkwX10_ask_3 : List UInt8 := [21, 4, 161, 0, 6, 167, 0, 20, 16, 10, 21, 5, 7, 108, 104, 21, 5, 7, 112, 96, 62, 21, 6]
abbrev dktX10_ask_3 : List UInt8 := dkwX10_ask_3 ++ dktX10_ask_4
def dkwX10_ask_2 : List UInt8 := [153, 0, 55, 42, 28, 21, 5, 7, 108, 21, 5, 7, 112, 182, 1, 204, 54, 6, 29, 155, 0, 13, 21, 6]
abbrev dktX10_ask_2 : List UInt8 := dkwX10_ask_2 ++ dktX10_ask_3
def dkwX10_ask_1 : List UInt8 := [54, 4, 3, 54, 5, 21, 5, 7, 42, 180, 0, 46, 42, 180, 0, 233, 46, 104, 162, 0, 59, 28]
abbrev dktX10_ask_1 : List UInt8 := dkwX10_ask_1 ++ dktX10_ask_2
def dkwX10_ask_0 : List UInt8 := [27, 3, 42, 180, 0, 254, 184, 1, 57, 154, 0, 5, 2, 172, 42, 27, 182, 1, 198, 61, 16, 254, 62, 3]
abbrev dktX10_ask_0 : List UInt8 := dkwX10_ask_0 ++ dktX10_ask_1
theorem dksX10_ask_0 : cX10_ask.data.toList.drop 0 = dktX10_ask_0 := by decide +kernel
theorem dksX10_ask_1 : cX10_ask.data.toList.drop 24 = dktX10_ask_1 := dk_seg dksX10_ask_0 24 rfl rfl
theorem dksX10_ask_2 : cX10_ask.data.toList.drop 46 = dktX10_ask_2 := dk_seg dksX10_ask_1 22 rfl rfl
theorem dksX10_ask_3 : cX10_ask.data.toList.drop 70 = dktX10_ask_3 := dk_seg dksX10_ask_2 24 rfl rfl
theorem dksX10_ask_4 : cX10_ask.data.toList.drop 93 = dktX10_ask_4 := dk_seg dksX10_ask_3 23 rfl rfl
theorem dX10_ask_0 : decode cX10_ask 0 = .ok (.iload_n 1, 1) := dk_27 (dk_at dksX10_ask_0 0 rfl rfl)
theorem dX10_ask_1 : decode cX10_ask 1 = .ok (.iconst 0, 1) := dk_3 (dk_at dksX10_ask_0 1 rfl rfl)
theorem dX10_ask_2 : decode cX10_ask 2 = .ok (.aload_n 0, 1) := dk_42 (dk_at dksX10_ask_0 2 rfl rfl)
theorem dX10_ask_3 : decode cX10_ask 3 = .ok (.getfield 254, 3) := dk_180 0 254 (dk_at dksX10_ask_0 3 rfl rfl)
theorem dX10_ask_6 : decode cX10_ask 6 = .ok (.invokestatic 313, 3) := dk_184 1 57 (dk_at dksX10_ask_0 6 rfl rfl)
theorem dX10_ask_9 : decode cX10_ask 9 = .ok (.ifCond .ne 5, 3) := dk_154 0 5 (dk_at dksX10_ask_0 9 rfl rfl)
theorem dX10_ask_12 : decode cX10_ask 12 = .ok (.iconst (-1), 1) := dk_2 (dk_at dksX10_ask_0 12 rfl rfl)
theorem dX10_ask_13 : decode cX10_ask 13 = .ok (.ireturn, 1) := dk_172 (dk_at dksX10_ask_0 13 rfl rfl)
theorem dX10_ask_14 : decode cX10_ask 14 = .ok (.aload_n 0, 1) := dk_42 (dk_at dksX10_ask_0 14 rfl rfl)
theorem dX10_ask_15 : decode cX10_ask 15 = .ok (.iload_n 1, 1) := dk_27 (dk_at dksX10_ask_0 15 rfl rfl)
theorem dX10_ask_16 : decode cX10_ask 16 = .ok (.invokevirtual 454, 3) := dk_182 1 198 (dk_at dksX10_ask_0 16 rfl rfl)
theorem dX10_ask_19 : decode cX10_ask 19 = .ok (.istore_n 2, 1) := dk_61 (dk_at dksX10_ask_0 19 rfl rfl)
theorem dX10_ask_20 : decode cX10_ask 20 = .ok (.bipush (-2), 2) := dk_16 254 (dk_at dksX10_ask_0 20 rfl rfl)
theorem dX10_ask_22 : decode cX10_ask 22 = .ok (.istore_n 3, 1) := dk_62 (dk_at dksX10_ask_0 22 rfl rfl)
theorem dX10_ask_23 : decode cX10_ask 23 = .ok (.iconst 0, 1) := dk_3 (dk_at dksX10_ask_0 23 rfl rfl)
theorem dX10_ask_24 : decode cX10_ask 24 = .ok (.istore 4, 2) := dk_54 4 (dk_at dksX10_ask_1 0 rfl rfl)
theorem dX10_ask_26 : decode cX10_ask 26 = .ok (.iconst 0, 1) := dk_3 (dk_at dksX10_ask_1 2 rfl rfl)
theorem dX10_ask_27 : decode cX10_ask 27 = .ok (.istore 5, 2) := dk_54 5 (dk_at dksX10_ask_1 3 rfl rfl)
theorem dX10_ask_29 : decode cX10_ask 29 = .ok (.iload 5, 2) := dk_21 5 (dk_at dksX10_ask_1 5 rfl rfl)
theorem dX10_ask_31 : decode cX10_ask 31 = .ok (.iconst 4, 1) := dk_7 (dk_at dksX10_ask_1 7 rfl rfl)
theorem dX10_ask_32 : decode cX10_ask 32 = .ok (.aload_n 0, 1) := dk_42 (dk_at dksX10_ask_1 8 rfl rfl)
theorem dX10_ask_33 : decode cX10_ask 33 = .ok (.getfield 46, 3) := dk_180 0 46 (dk_at dksX10_ask_1 9 rfl rfl)
theorem dX10_ask_36 : decode cX10_ask 36 = .ok (.aload_n 0, 1) := dk_42 (dk_at dksX10_ask_1 12 rfl rfl)
theorem dX10_ask_37 : decode cX10_ask 37 = .ok (.getfield 233, 3) := dk_180 0 233 (dk_at dksX10_ask_1 13 rfl rfl)
theorem dX10_ask_40 : decode cX10_ask 40 = .ok (.iaload, 1) := dk_46 (dk_at dksX10_ask_1 16 rfl rfl)
theorem dX10_ask_41 : decode cX10_ask 41 = .ok (.imul, 1) := dk_104 (dk_at dksX10_ask_1 17 rfl rfl)
theorem dX10_ask_42 : decode cX10_ask 42 = .ok (.if_icmp .ge 59, 3) := dk_162 0 59 (dk_at dksX10_ask_1 18 rfl rfl)
theorem dX10_ask_45 : decode cX10_ask 45 = .ok (.iload_n 2, 1) := dk_28 (dk_at dksX10_ask_1 21 rfl rfl)
theorem dX10_ask_46 : decode cX10_ask 46 = .ok (.ifCond .eq 55, 3) := dk_153 0 55 (dk_at dksX10_ask_2 0 rfl rfl)
theorem dX10_ask_49 : decode cX10_ask 49 = .ok (.aload_n 0, 1) := dk_42 (dk_at dksX10_ask_2 3 rfl rfl)
theorem dX10_ask_50 : decode cX10_ask 50 = .ok (.iload_n 2, 1) := dk_28 (dk_at dksX10_ask_2 4 rfl rfl)
theorem dX10_ask_51 : decode cX10_ask 51 = .ok (.iload 5, 2) := dk_21 5 (dk_at dksX10_ask_2 5 rfl rfl)
theorem dX10_ask_53 : decode cX10_ask 53 = .ok (.iconst 4, 1) := dk_7 (dk_at dksX10_ask_2 7 rfl rfl)
theorem dX10_ask_54 : decode cX10_ask 54 = .ok (.idiv, 1) := dk_108 (dk_at dksX10_ask_2 8 rfl rfl)
theorem dX10_ask_55 : decode cX10_ask 55 = .ok (.iload 5, 2) := dk_21 5 (dk_at dksX10_ask_2 9 rfl rfl)
theorem dX10_ask_57 : decode cX10_ask 57 = .ok (.iconst 4, 1) := dk_7 (dk_at dksX10_ask_2 11 rfl rfl)
theorem dX10_ask_58 : decode cX10_ask 58 = .ok (.irem, 1) := dk_112 (dk_at dksX10_ask_2 12 rfl rfl)
theorem dX10_ask_59 : decode cX10_ask 59 = .ok (.invokevirtual 460, 3) := dk_182 1 204 (dk_at dksX10_ask_2 13 rfl rfl)
theorem dX10_ask_62 : decode cX10_ask 62 = .ok (.istore 6, 2) := dk_54 6 (dk_at dksX10_ask_2 16 rfl rfl)
theorem dX10_ask_64 : decode cX10_ask 64 = .ok (.iload_n 3, 1) := dk_29 (dk_at dksX10_ask_2 18 rfl rfl)
theorem dX10_ask_65 : decode cX10_ask 65 = .ok (.ifCond .lt 13, 3) := dk_155 0 13 (dk_at dksX10_ask_2 19 rfl rfl)
theorem dX10_ask_68 : decode cX10_ask 68 = .ok (.iload 6, 2) := dk_21 6 (dk_at dksX10_ask_2 22 rfl rfl)
theorem dX10_ask_70 : decode cX10_ask 70 = .ok (.iload 4, 2) := dk_21 4 (dk_at dksX10_ask_3 0 rfl rfl)
theorem dX10_ask_72 : decode cX10_ask 72 = .ok (.if_icmp .lt 6, 3) := dk_161 0 6 (dk_at dksX10_ask_3 2 rfl rfl)
theorem dX10_ask_75 : decode cX10_ask 75 = .ok (.goto 20, 3) := dk_167 0 20 (dk_at dksX10_ask_3 5 rfl rfl)
theorem dX10_ask_78 : decode cX10_ask 78 = .ok (.bipush 10, 2) := dk_16 10 (dk_at dksX10_ask_3 8 rfl rfl)
theorem dX10_ask_80 : decode cX10_ask 80 = .ok (.iload 5, 2) := dk_21 5 (dk_at dksX10_ask_3 10 rfl rfl)
theorem dX10_ask_82 : decode cX10_ask 82 = .ok (.iconst 4, 1) := dk_7 (dk_at dksX10_ask_3 12 rfl rfl)
theorem dX10_ask_83 : decode cX10_ask 83 = .ok (.idiv, 1) := dk_108 (dk_at dksX10_ask_3 13 rfl rfl)
theorem dX10_ask_84 : decode cX10_ask 84 = .ok (.imul, 1) := dk_104 (dk_at dksX10_ask_3 14 rfl rfl)
theorem dX10_ask_85 : decode cX10_ask 85 = .ok (.iload 5, 2) := dk_21 5 (dk_at dksX10_ask_3 15 rfl rfl)
theorem dX10_ask_87 : decode cX10_ask 87 = .ok (.iconst 4, 1) := dk_7 (dk_at dksX10_ask_3 17 rfl rfl)
theorem dX10_ask_88 : decode cX10_ask 88 = .ok (.irem, 1) := dk_112 (dk_at dksX10_ask_3 18 rfl rfl)
theorem dX10_ask_89 : decode cX10_ask 89 = .ok (.iadd, 1) := dk_96 (dk_at dksX10_ask_3 19 rfl rfl)
theorem dX10_ask_90 : decode cX10_ask 90 = .ok (.istore_n 3, 1) := dk_62 (dk_at dksX10_ask_3 20 rfl rfl)
theorem dX10_ask_91 : decode cX10_ask 91 = .ok (.iload 6, 2) := dk_21 6 (dk_at dksX10_ask_3 21 rfl rfl)
theorem dX10_ask_93 : decode cX10_ask 93 = .ok (.istore 4, 2) := dk_54 4 (dk_at dksX10_ask_4 0 rfl rfl)
theorem dX10_ask_95 : decode cX10_ask 95 = .ok (.iinc 5 1, 3) := dk_132 5 1 (dk_at dksX10_ask_4 2 rfl rfl)
theorem dX10_ask_98 : decode cX10_ask 98 = .ok (.goto (-69), 3) := dk_167 255 187 (dk_at dksX10_ask_4 5 rfl rfl)
theorem dX10_ask_101 : decode cX10_ask 101 = .ok (.iload_n 3, 1) := dk_29 (dk_at dksX10_ask_4 8 rfl rfl)
theorem dX10_ask_102 : decode cX10_ask 102 = .ok (.ireturn, 1) := dk_172 (dk_at dksX10_ask_4 9 rfl rfl)
abbrev cX10_worstOf : ByteArray := prog_21_method_116_code
def yX10_worstOf : MethodName := ⟨RX10, "worstOf", "(III)I"⟩
def dkwX10_worstOf_3 : List UInt8 := [21, 6, 54, 4, 132, 5, 1, 167, 255, 184, 21, 4, 172]
abbrev dktX10_worstOf_3 : List UInt8 := dkwX10_worstOf_3 ++ []
def dkwX10_worstOf_2 : List UInt8 := [182, 1, 195, 21, 5, 160, 0, 6, 132, 6, 1, 132, 7, 1, 167, 255, 213, 21, 6, 21, 4, 164, 0, 7]
abbrev dktX10_worstOf_2 : List UInt8 := dkwX10_worstOf_2 ++ dktX10_worstOf_3
def dkwX10_worstOf_1 : List UInt8 := [42, 180, 0, 233, 46, 162, 0, 35, 27, 21, 7, 122, 4, 126, 4, 160, 0, 19, 42, 28, 29, 21, 7]
abbrev dktX10_worstOf_1 : List UInt8 := dkwX10_worstOf_1 ++ dktX10_worstOf_2
def dkwX10_worstOf_0 : List UInt8 := [3, 54, 4, 2, 54, 5, 21, 5, 5, 162, 0, 72, 3, 54, 6, 3, 54, 7, 21, 7, 42, 180, 0, 52]
abbrev dktX10_worstOf_0 : List UInt8 := dkwX10_worstOf_0 ++ dktX10_worstOf_1
theorem dksX10_worstOf_0 : cX10_worstOf.data.toList.drop 0 = dktX10_worstOf_0 := by decide +kernel
theorem dksX10_worstOf_1 : cX10_worstOf.data.toList.drop 24 = dktX10_worstOf_1 := dk_seg dksX10_worstOf_0 24 rfl rfl
theorem dksX10_worstOf_2 : cX10_worstOf.data.toList.drop 47 = dktX10_worstOf_2 := dk_seg dksX10_worstOf_1 23 rfl rfl
theorem dksX10_worstOf_3 : cX10_worstOf.data.toList.drop 71 = dktX10_worstOf_3 := dk_seg dksX10_worstOf_2 24 rfl rfl
theorem dX10_worstOf_0 : decode cX10_worstOf 0 = .ok (.iconst 0, 1) := dk_3 (dk_at dksX10_worstOf_0 0 rfl rfl)
theorem dX10_worstOf_1 : decode cX10_worstOf 1 = .ok (.istore 4, 2) := dk_54 4 (dk_at dksX10_worstOf_0 1 rfl rfl)
theorem dX10_worstOf_3 : decode cX10_worstOf 3 = .ok (.iconst (-1), 1) := dk_2 (dk_at dksX10_worstOf_0 3 rfl rfl)
theorem dX10_worstOf_4 : decode cX10_worstOf 4 = .ok (.istore 5, 2) := dk_54 5 (dk_at dksX10_worstOf_0 4 rfl rfl)
theorem dX10_worstOf_6 : decode cX10_worstOf 6 = .ok (.iload 5, 2) := dk_21 5 (dk_at dksX10_worstOf_0 6 rfl rfl)
theorem dX10_worstOf_8 : decode cX10_worstOf 8 = .ok (.iconst 2, 1) := dk_5 (dk_at dksX10_worstOf_0 8 rfl rfl)
theorem dX10_worstOf_9 : decode cX10_worstOf 9 = .ok (.if_icmp .ge 72, 3) := dk_162 0 72 (dk_at dksX10_worstOf_0 9 rfl rfl)
theorem dX10_worstOf_12 : decode cX10_worstOf 12 = .ok (.iconst 0, 1) := dk_3 (dk_at dksX10_worstOf_0 12 rfl rfl)
theorem dX10_worstOf_13 : decode cX10_worstOf 13 = .ok (.istore 6, 2) := dk_54 6 (dk_at dksX10_worstOf_0 13 rfl rfl)
theorem dX10_worstOf_15 : decode cX10_worstOf 15 = .ok (.iconst 0, 1) := dk_3 (dk_at dksX10_worstOf_0 15 rfl rfl)
theorem dX10_worstOf_16 : decode cX10_worstOf 16 = .ok (.istore 7, 2) := dk_54 7 (dk_at dksX10_worstOf_0 16 rfl rfl)
theorem dX10_worstOf_18 : decode cX10_worstOf 18 = .ok (.iload 7, 2) := dk_21 7 (dk_at dksX10_worstOf_0 18 rfl rfl)
theorem dX10_worstOf_20 : decode cX10_worstOf 20 = .ok (.aload_n 0, 1) := dk_42 (dk_at dksX10_worstOf_0 20 rfl rfl)
theorem dX10_worstOf_21 : decode cX10_worstOf 21 = .ok (.getfield 52, 3) := dk_180 0 52 (dk_at dksX10_worstOf_0 21 rfl rfl)
theorem dX10_worstOf_24 : decode cX10_worstOf 24 = .ok (.aload_n 0, 1) := dk_42 (dk_at dksX10_worstOf_1 0 rfl rfl)
theorem dX10_worstOf_25 : decode cX10_worstOf 25 = .ok (.getfield 233, 3) := dk_180 0 233 (dk_at dksX10_worstOf_1 1 rfl rfl)
theorem dX10_worstOf_28 : decode cX10_worstOf 28 = .ok (.iaload, 1) := dk_46 (dk_at dksX10_worstOf_1 4 rfl rfl)
theorem dX10_worstOf_29 : decode cX10_worstOf 29 = .ok (.if_icmp .ge 35, 3) := dk_162 0 35 (dk_at dksX10_worstOf_1 5 rfl rfl)
theorem dX10_worstOf_32 : decode cX10_worstOf 32 = .ok (.iload_n 1, 1) := dk_27 (dk_at dksX10_worstOf_1 8 rfl rfl)
theorem dX10_worstOf_33 : decode cX10_worstOf 33 = .ok (.iload 7, 2) := dk_21 7 (dk_at dksX10_worstOf_1 9 rfl rfl)
theorem dX10_worstOf_35 : decode cX10_worstOf 35 = .ok (.ishr, 1) := dk_122 (dk_at dksX10_worstOf_1 11 rfl rfl)
theorem dX10_worstOf_36 : decode cX10_worstOf 36 = .ok (.iconst 1, 1) := dk_4 (dk_at dksX10_worstOf_1 12 rfl rfl)
theorem dX10_worstOf_37 : decode cX10_worstOf 37 = .ok (.iand, 1) := dk_126 (dk_at dksX10_worstOf_1 13 rfl rfl)
theorem dX10_worstOf_38 : decode cX10_worstOf 38 = .ok (.iconst 1, 1) := dk_4 (dk_at dksX10_worstOf_1 14 rfl rfl)
theorem dX10_worstOf_39 : decode cX10_worstOf 39 = .ok (.if_icmp .ne 19, 3) := dk_160 0 19 (dk_at dksX10_worstOf_1 15 rfl rfl)
theorem dX10_worstOf_42 : decode cX10_worstOf 42 = .ok (.aload_n 0, 1) := dk_42 (dk_at dksX10_worstOf_1 18 rfl rfl)
theorem dX10_worstOf_43 : decode cX10_worstOf 43 = .ok (.iload_n 2, 1) := dk_28 (dk_at dksX10_worstOf_1 19 rfl rfl)
theorem dX10_worstOf_44 : decode cX10_worstOf 44 = .ok (.iload_n 3, 1) := dk_29 (dk_at dksX10_worstOf_1 20 rfl rfl)
theorem dX10_worstOf_45 : decode cX10_worstOf 45 = .ok (.iload 7, 2) := dk_21 7 (dk_at dksX10_worstOf_1 21 rfl rfl)
theorem dX10_worstOf_47 : decode cX10_worstOf 47 = .ok (.invokevirtual 451, 3) := dk_182 1 195 (dk_at dksX10_worstOf_2 0 rfl rfl)
theorem dX10_worstOf_50 : decode cX10_worstOf 50 = .ok (.iload 5, 2) := dk_21 5 (dk_at dksX10_worstOf_2 3 rfl rfl)
theorem dX10_worstOf_52 : decode cX10_worstOf 52 = .ok (.if_icmp .ne 6, 3) := dk_160 0 6 (dk_at dksX10_worstOf_2 5 rfl rfl)
theorem dX10_worstOf_55 : decode cX10_worstOf 55 = .ok (.iinc 6 1, 3) := dk_132 6 1 (dk_at dksX10_worstOf_2 8 rfl rfl)
theorem dX10_worstOf_58 : decode cX10_worstOf 58 = .ok (.iinc 7 1, 3) := dk_132 7 1 (dk_at dksX10_worstOf_2 11 rfl rfl)
theorem dX10_worstOf_61 : decode cX10_worstOf 61 = .ok (.goto (-43), 3) := dk_167 255 213 (dk_at dksX10_worstOf_2 14 rfl rfl)
theorem dX10_worstOf_64 : decode cX10_worstOf 64 = .ok (.iload 6, 2) := dk_21 6 (dk_at dksX10_worstOf_2 17 rfl rfl)
theorem dX10_worstOf_66 : decode cX10_worstOf 66 = .ok (.iload 4, 2) := dk_21 4 (dk_at dksX10_worstOf_2 19 rfl rfl)
theorem dX10_worstOf_68 : decode cX10_worstOf 68 = .ok (.if_icmp .le 7, 3) := dk_164 0 7 (dk_at dksX10_worstOf_2 21 rfl rfl)
theorem dX10_worstOf_71 : decode cX10_worstOf 71 = .ok (.iload 6, 2) := dk_21 6 (dk_at dksX10_worstOf_3 0 rfl rfl)
theorem dX10_worstOf_73 : decode cX10_worstOf 73 = .ok (.istore 4, 2) := dk_54 4 (dk_at dksX10_worstOf_3 2 rfl rfl)
theorem dX10_worstOf_75 : decode cX10_worstOf 75 = .ok (.iinc 5 1, 3) := dk_132 5 1 (dk_at dksX10_worstOf_3 4 rfl rfl)
theorem dX10_worstOf_78 : decode cX10_worstOf 78 = .ok (.goto (-72), 3) := dk_167 255 184 (dk_at dksX10_worstOf_3 7 rfl rfl)
theorem dX10_worstOf_81 : decode cX10_worstOf 81 = .ok (.iload 4, 2) := dk_21 4 (dk_at dksX10_worstOf_3 10 rfl rfl)
theorem dX10_worstOf_83 : decode cX10_worstOf 83 = .ok (.ireturn, 1) := dk_172 (dk_at dksX10_worstOf_3 12 rfl rfl)
abbrev cX10_hold : ByteArray := prog_21_method_118_code
def yX10_hold : MethodName := ⟨RX10, "hold", "(I)Z"⟩
def dkwX10_hold_2 : List UInt8 := [167, 255, 230, 4, 172]
abbrev dktX10_hold_2 : List UInt8 := dkwX10_hold_2 ++ []
def dkwX10_hold_1 : List UInt8 := [162, 0, 26, 42, 180, 0, 149, 16, 70, 27, 104, 28, 96, 42, 180, 0, 119, 28, 46, 79, 132, 2, 1]
abbrev dktX10_hold_1 : List UInt8 := dkwX10_hold_1 ++ dktX10_hold_2
def dkwX10_hold_0 : List UInt8 := [27, 3, 5, 184, 1, 57, 154, 0, 5, 3, 172, 42, 180, 0, 146, 27, 4, 84, 3, 61, 28, 16, 70]
abbrev dktX10_hold_0 : List UInt8 := dkwX10_hold_0 ++ dktX10_hold_1
theorem dksX10_hold_0 : cX10_hold.data.toList.drop 0 = dktX10_hold_0 := by decide +kernel
theorem dksX10_hold_1 : cX10_hold.data.toList.drop 23 = dktX10_hold_1 := dk_seg dksX10_hold_0 23 rfl rfl
theorem dksX10_hold_2 : cX10_hold.data.toList.drop 46 = dktX10_hold_2 := dk_seg dksX10_hold_1 23 rfl rfl
theorem dX10_hold_0 : decode cX10_hold 0 = .ok (.iload_n 1, 1) := dk_27 (dk_at dksX10_hold_0 0 rfl rfl)
theorem dX10_hold_1 : decode cX10_hold 1 = .ok (.iconst 0, 1) := dk_3 (dk_at dksX10_hold_0 1 rfl rfl)
theorem dX10_hold_2 : decode cX10_hold 2 = .ok (.iconst 2, 1) := dk_5 (dk_at dksX10_hold_0 2 rfl rfl)
theorem dX10_hold_3 : decode cX10_hold 3 = .ok (.invokestatic 313, 3) := dk_184 1 57 (dk_at dksX10_hold_0 3 rfl rfl)
theorem dX10_hold_6 : decode cX10_hold 6 = .ok (.ifCond .ne 5, 3) := dk_154 0 5 (dk_at dksX10_hold_0 6 rfl rfl)
theorem dX10_hold_9 : decode cX10_hold 9 = .ok (.iconst 0, 1) := dk_3 (dk_at dksX10_hold_0 9 rfl rfl)
theorem dX10_hold_10 : decode cX10_hold 10 = .ok (.ireturn, 1) := dk_172 (dk_at dksX10_hold_0 10 rfl rfl)
theorem dX10_hold_11 : decode cX10_hold 11 = .ok (.aload_n 0, 1) := dk_42 (dk_at dksX10_hold_0 11 rfl rfl)
theorem dX10_hold_12 : decode cX10_hold 12 = .ok (.getfield 146, 3) := dk_180 0 146 (dk_at dksX10_hold_0 12 rfl rfl)
theorem dX10_hold_15 : decode cX10_hold 15 = .ok (.iload_n 1, 1) := dk_27 (dk_at dksX10_hold_0 15 rfl rfl)
theorem dX10_hold_16 : decode cX10_hold 16 = .ok (.iconst 1, 1) := dk_4 (dk_at dksX10_hold_0 16 rfl rfl)
theorem dX10_hold_17 : decode cX10_hold 17 = .ok (.bastore, 1) := dk_84 (dk_at dksX10_hold_0 17 rfl rfl)
theorem dX10_hold_18 : decode cX10_hold 18 = .ok (.iconst 0, 1) := dk_3 (dk_at dksX10_hold_0 18 rfl rfl)
theorem dX10_hold_19 : decode cX10_hold 19 = .ok (.istore_n 2, 1) := dk_61 (dk_at dksX10_hold_0 19 rfl rfl)
theorem dX10_hold_20 : decode cX10_hold 20 = .ok (.iload_n 2, 1) := dk_28 (dk_at dksX10_hold_0 20 rfl rfl)
theorem dX10_hold_21 : decode cX10_hold 21 = .ok (.bipush 70, 2) := dk_16 70 (dk_at dksX10_hold_0 21 rfl rfl)
theorem dX10_hold_23 : decode cX10_hold 23 = .ok (.if_icmp .ge 26, 3) := dk_162 0 26 (dk_at dksX10_hold_1 0 rfl rfl)
theorem dX10_hold_26 : decode cX10_hold 26 = .ok (.aload_n 0, 1) := dk_42 (dk_at dksX10_hold_1 3 rfl rfl)
theorem dX10_hold_27 : decode cX10_hold 27 = .ok (.getfield 149, 3) := dk_180 0 149 (dk_at dksX10_hold_1 4 rfl rfl)
theorem dX10_hold_30 : decode cX10_hold 30 = .ok (.bipush 70, 2) := dk_16 70 (dk_at dksX10_hold_1 7 rfl rfl)
theorem dX10_hold_32 : decode cX10_hold 32 = .ok (.iload_n 1, 1) := dk_27 (dk_at dksX10_hold_1 9 rfl rfl)
theorem dX10_hold_33 : decode cX10_hold 33 = .ok (.imul, 1) := dk_104 (dk_at dksX10_hold_1 10 rfl rfl)
theorem dX10_hold_34 : decode cX10_hold 34 = .ok (.iload_n 2, 1) := dk_28 (dk_at dksX10_hold_1 11 rfl rfl)
theorem dX10_hold_35 : decode cX10_hold 35 = .ok (.iadd, 1) := dk_96 (dk_at dksX10_hold_1 12 rfl rfl)
theorem dX10_hold_36 : decode cX10_hold 36 = .ok (.aload_n 0, 1) := dk_42 (dk_at dksX10_hold_1 13 rfl rfl)
theorem dX10_hold_37 : decode cX10_hold 37 = .ok (.getfield 119, 3) := dk_180 0 119 (dk_at dksX10_hold_1 14 rfl rfl)
theorem dX10_hold_40 : decode cX10_hold 40 = .ok (.iload_n 2, 1) := dk_28 (dk_at dksX10_hold_1 17 rfl rfl)
theorem dX10_hold_41 : decode cX10_hold 41 = .ok (.iaload, 1) := dk_46 (dk_at dksX10_hold_1 18 rfl rfl)
theorem dX10_hold_42 : decode cX10_hold 42 = .ok (.iastore, 1) := dk_79 (dk_at dksX10_hold_1 19 rfl rfl)
theorem dX10_hold_43 : decode cX10_hold 43 = .ok (.iinc 2 1, 3) := dk_132 2 1 (dk_at dksX10_hold_1 20 rfl rfl)
theorem dX10_hold_46 : decode cX10_hold 46 = .ok (.goto (-26), 3) := dk_167 255 230 (dk_at dksX10_hold_2 0 rfl rfl)
theorem dX10_hold_49 : decode cX10_hold 49 = .ok (.iconst 1, 1) := dk_4 (dk_at dksX10_hold_2 3 rfl rfl)
theorem dX10_hold_50 : decode cX10_hold 50 = .ok (.ireturn, 1) := dk_172 (dk_at dksX10_hold_2 4 rfl rfl)
abbrev cX10_restore : ByteArray := prog_21_method_119_code
def yX10_restore : MethodName := ⟨RX10, "restore", "(I)Z"⟩
def dkwX10_restore_2 : List UInt8 := [132, 2, 1, 167, 255, 230, 42, 3, 181, 0, 251, 4, 172]
abbrev dktX10_restore_2 : List UInt8 := dkwX10_restore_2 ++ []
def dkwX10_restore_1 : List UInt8 := [16, 70, 162, 0, 26, 42, 180, 0, 119, 28, 42, 180, 0, 149, 16, 70, 27, 104, 28, 96, 46, 79]
abbrev dktX10_restore_1 : List UInt8 := dkwX10_restore_1 ++ dktX10_restore_2
def dkwX10_restore_0 : List UInt8 := [27, 3, 5, 184, 1, 57, 153, 0, 12, 42, 180, 0, 146, 27, 51, 154, 0, 5, 3, 172, 3, 61, 28]
abbrev dktX10_restore_0 : List UInt8 := dkwX10_restore_0 ++ dktX10_restore_1
theorem dksX10_restore_0 : cX10_restore.data.toList.drop 0 = dktX10_restore_0 := by decide +kernel
theorem dksX10_restore_1 : cX10_restore.data.toList.drop 23 = dktX10_restore_1 := dk_seg dksX10_restore_0 23 rfl rfl
theorem dksX10_restore_2 : cX10_restore.data.toList.drop 45 = dktX10_restore_2 := dk_seg dksX10_restore_1 22 rfl rfl
theorem dX10_restore_0 : decode cX10_restore 0 = .ok (.iload_n 1, 1) := dk_27 (dk_at dksX10_restore_0 0 rfl rfl)
theorem dX10_restore_1 : decode cX10_restore 1 = .ok (.iconst 0, 1) := dk_3 (dk_at dksX10_restore_0 1 rfl rfl)
theorem dX10_restore_2 : decode cX10_restore 2 = .ok (.iconst 2, 1) := dk_5 (dk_at dksX10_restore_0 2 rfl rfl)
theorem dX10_restore_3 : decode cX10_restore 3 = .ok (.invokestatic 313, 3) := dk_184 1 57 (dk_at dksX10_restore_0 3 rfl rfl)
theorem dX10_restore_6 : decode cX10_restore 6 = .ok (.ifCond .eq 12, 3) := dk_153 0 12 (dk_at dksX10_restore_0 6 rfl rfl)
theorem dX10_restore_9 : decode cX10_restore 9 = .ok (.aload_n 0, 1) := dk_42 (dk_at dksX10_restore_0 9 rfl rfl)
theorem dX10_restore_10 : decode cX10_restore 10 = .ok (.getfield 146, 3) := dk_180 0 146 (dk_at dksX10_restore_0 10 rfl rfl)
theorem dX10_restore_13 : decode cX10_restore 13 = .ok (.iload_n 1, 1) := dk_27 (dk_at dksX10_restore_0 13 rfl rfl)
theorem dX10_restore_14 : decode cX10_restore 14 = .ok (.baload, 1) := dk_51 (dk_at dksX10_restore_0 14 rfl rfl)
theorem dX10_restore_15 : decode cX10_restore 15 = .ok (.ifCond .ne 5, 3) := dk_154 0 5 (dk_at dksX10_restore_0 15 rfl rfl)
theorem dX10_restore_18 : decode cX10_restore 18 = .ok (.iconst 0, 1) := dk_3 (dk_at dksX10_restore_0 18 rfl rfl)
theorem dX10_restore_19 : decode cX10_restore 19 = .ok (.ireturn, 1) := dk_172 (dk_at dksX10_restore_0 19 rfl rfl)
theorem dX10_restore_20 : decode cX10_restore 20 = .ok (.iconst 0, 1) := dk_3 (dk_at dksX10_restore_0 20 rfl rfl)
theorem dX10_restore_21 : decode cX10_restore 21 = .ok (.istore_n 2, 1) := dk_61 (dk_at dksX10_restore_0 21 rfl rfl)
theorem dX10_restore_22 : decode cX10_restore 22 = .ok (.iload_n 2, 1) := dk_28 (dk_at dksX10_restore_0 22 rfl rfl)
theorem dX10_restore_23 : decode cX10_restore 23 = .ok (.bipush 70, 2) := dk_16 70 (dk_at dksX10_restore_1 0 rfl rfl)
theorem dX10_restore_25 : decode cX10_restore 25 = .ok (.if_icmp .ge 26, 3) := dk_162 0 26 (dk_at dksX10_restore_1 2 rfl rfl)
theorem dX10_restore_28 : decode cX10_restore 28 = .ok (.aload_n 0, 1) := dk_42 (dk_at dksX10_restore_1 5 rfl rfl)
theorem dX10_restore_29 : decode cX10_restore 29 = .ok (.getfield 119, 3) := dk_180 0 119 (dk_at dksX10_restore_1 6 rfl rfl)
theorem dX10_restore_32 : decode cX10_restore 32 = .ok (.iload_n 2, 1) := dk_28 (dk_at dksX10_restore_1 9 rfl rfl)
theorem dX10_restore_33 : decode cX10_restore 33 = .ok (.aload_n 0, 1) := dk_42 (dk_at dksX10_restore_1 10 rfl rfl)
theorem dX10_restore_34 : decode cX10_restore 34 = .ok (.getfield 149, 3) := dk_180 0 149 (dk_at dksX10_restore_1 11 rfl rfl)
theorem dX10_restore_37 : decode cX10_restore 37 = .ok (.bipush 70, 2) := dk_16 70 (dk_at dksX10_restore_1 14 rfl rfl)
theorem dX10_restore_39 : decode cX10_restore 39 = .ok (.iload_n 1, 1) := dk_27 (dk_at dksX10_restore_1 16 rfl rfl)
theorem dX10_restore_40 : decode cX10_restore 40 = .ok (.imul, 1) := dk_104 (dk_at dksX10_restore_1 17 rfl rfl)
theorem dX10_restore_41 : decode cX10_restore 41 = .ok (.iload_n 2, 1) := dk_28 (dk_at dksX10_restore_1 18 rfl rfl)
theorem dX10_restore_42 : decode cX10_restore 42 = .ok (.iadd, 1) := dk_96 (dk_at dksX10_restore_1 19 rfl rfl)
theorem dX10_restore_43 : decode cX10_restore 43 = .ok (.iaload, 1) := dk_46 (dk_at dksX10_restore_1 20 rfl rfl)
theorem dX10_restore_44 : decode cX10_restore 44 = .ok (.iastore, 1) := dk_79 (dk_at dksX10_restore_1 21 rfl rfl)
theorem dX10_restore_45 : decode cX10_restore 45 = .ok (.iinc 2 1, 3) := dk_132 2 1 (dk_at dksX10_restore_2 0 rfl rfl)
theorem dX10_restore_48 : decode cX10_restore 48 = .ok (.goto (-26), 3) := dk_167 255 230 (dk_at dksX10_restore_2 3 rfl rfl)
theorem dX10_restore_51 : decode cX10_restore 51 = .ok (.aload_n 0, 1) := dk_42 (dk_at dksX10_restore_2 6 rfl rfl)
theorem dX10_restore_52 : decode cX10_restore 52 = .ok (.iconst 0, 1) := dk_3 (dk_at dksX10_restore_2 7 rfl rfl)
theorem dX10_restore_53 : decode cX10_restore 53 = .ok (.putfield 251, 3) := dk_181 0 251 (dk_at dksX10_restore_2 8 rfl rfl)
theorem dX10_restore_56 : decode cX10_restore 56 = .ok (.iconst 1, 1) := dk_4 (dk_at dksX10_restore_2 11 rfl rfl)
theorem dX10_restore_57 : decode cX10_restore 57 = .ok (.ireturn, 1) := dk_172 (dk_at dksX10_restore_2 12 rfl rfl)
abbrev cX10_count : ByteArray := prog_21_method_121_code
def yX10_count : MethodName := ⟨RX10, "count", "(I)I"⟩
def dkwX10_count_16 : List UInt8 := [182, 1, 207, 172, 2, 172]
abbrev dktX10_count_16 : List UInt8 := dkwX10_count_16 ++ []
def dkwX10_count_15 : List UInt8 := [46, 158, 0, 9, 28, 4, 29, 120, 128, 61, 132, 3, 1, 167, 255, 222, 28, 172, 42, 16, 36, 16, 6]
abbrev dktX10_count_15 : List UInt8 := dkwX10_count_15 ++ dktX10_count_16
def dkwX10_count_14 : List UInt8 := [172, 3, 62, 29, 42, 180, 0, 46, 42, 180, 0, 233, 46, 162, 0, 27, 42, 180, 0, 122, 16, 30, 29, 96]
abbrev dktX10_count_14 : List UInt8 := dkwX10_count_14 ++ dktX10_count_15
def dkwX10_count_13 : List UInt8 := [162, 0, 23, 42, 29, 182, 1, 101, 154, 0, 9, 28, 4, 29, 120, 128, 61, 132, 3, 1, 167, 255, 226, 28]
abbrev dktX10_count_13 : List UInt8 := dkwX10_count_13 ++ dktX10_count_14
def dkwX10_count_12 : List UInt8 := [61, 132, 3, 1, 167, 255, 222, 28, 184, 1, 201, 172, 3, 62, 29, 42, 180, 0, 46, 42, 180, 0, 233, 46]
abbrev dktX10_count_12 : List UInt8 := dkwX10_count_12 ++ dktX10_count_13
def dkwX10_count_11 : List UInt8 := [180, 0, 233, 46, 162, 0, 27, 42, 29, 182, 1, 134, 155, 0, 13, 28, 4, 42, 29, 182, 1, 134, 120, 128]
abbrev dktX10_count_11 : List UInt8 := dkwX10_count_11 ++ dktX10_count_12
def dkwX10_count_10 : List UInt8 := [172, 42, 182, 1, 121, 153, 0, 7, 4, 167, 0, 4, 3, 172, 3, 62, 29, 42, 180, 0, 46, 42]
abbrev dktX10_count_10 : List UInt8 := dkwX10_count_10 ++ dktX10_count_11
def dkwX10_count_9 : List UInt8 := [153, 0, 7, 4, 167, 0, 4, 3, 96, 42, 180, 0, 146, 5, 51, 153, 0, 7, 4, 167, 0, 4, 3, 96]
abbrev dktX10_count_9 : List UInt8 := dkwX10_count_9 ++ dktX10_count_10
def dkwX10_count_8 : List UInt8 := [180, 0, 254, 172, 42, 180, 0, 146, 3, 51, 153, 0, 7, 4, 167, 0, 4, 3, 42, 180, 0, 146, 4, 51]
abbrev dktX10_count_8 : List UInt8 := dkwX10_count_8 ++ dktX10_count_9
def dkwX10_count_7 : List UInt8 := [29, 120, 128, 61, 132, 3, 1, 167, 255, 226, 28, 172, 42, 180, 0, 166, 172, 42, 180, 0, 251, 172, 42]
abbrev dktX10_count_7 : List UInt8 := dkwX10_count_7 ++ dktX10_count_8
def dkwX10_count_6 : List UInt8 := [62, 29, 42, 180, 0, 58, 42, 180, 0, 233, 46, 162, 0, 23, 28, 42, 180, 0, 122, 16, 54, 29, 96, 46]
abbrev dktX10_count_6 : List UInt8 := dkwX10_count_6 ++ dktX10_count_7
def dkwX10_count_5 : List UInt8 := [167, 255, 226, 28, 172, 42, 16, 24, 16, 6, 182, 1, 207, 172, 42, 16, 42, 16, 6, 182, 1, 207, 172, 3]
abbrev dktX10_count_5 : List UInt8 := dkwX10_count_5 ++ dktX10_count_6
def dkwX10_count_4 : List UInt8 := [180, 0, 233, 46, 162, 0, 23, 42, 29, 182, 1, 134, 155, 0, 9, 28, 4, 29, 120, 128, 61, 132, 3, 1]
abbrev dktX10_count_4 : List UInt8 := dkwX10_count_4 ++ dktX10_count_5
def dkwX10_count_3 : List UInt8 := [42, 180, 0, 233, 46, 172, 42, 180, 0, 122, 16, 69, 46, 172, 3, 62, 29, 42, 180, 0, 46, 42]
abbrev dktX10_count_3 : List UInt8 := dkwX10_count_3 ++ dktX10_count_4
def dkwX10_count_2 : List UInt8 := [42, 180, 0, 46, 42, 180, 0, 233, 46, 172, 42, 180, 0, 52, 42, 180, 0, 233, 46, 172, 42, 180, 0, 58]
abbrev dktX10_count_2 : List UInt8 := dkwX10_count_2 ++ dktX10_count_3
def dkwX10_count_1 : List UInt8 := [170, 0, 0, 1, 159, 0, 0, 0, 0, 0, 0, 0, 16, 0, 0, 0, 81, 0, 0, 0, 91, 0, 0, 0, 101, 0, 0, 0, 111, 0, 0, 0, 119, 0, 0, 0, 156, 0, 0, 0, 165, 0, 0, 0, 174, 0, 0, 0, 211, 0, 0, 0, 216, 0, 0, 0, 221, 0, 0, 0, 226, 0, 0, 1, 15, 0, 0, 1, 28, 0, 0, 1, 72, 0, 0, 1, 109, 0, 0, 1, 150]
abbrev dktX10_count_1 : List UInt8 := dkwX10_count_1 ++ dktX10_count_2
def dkwX10_count_0 : List UInt8 := [42, 182, 1, 67, 3, 61, 27]
abbrev dktX10_count_0 : List UInt8 := dkwX10_count_0 ++ dktX10_count_1
theorem dksX10_count_0 : cX10_count.data.toList.drop 0 = dktX10_count_0 := by decide +kernel
theorem dksX10_count_1 : cX10_count.data.toList.drop 7 = dktX10_count_1 := dk_seg dksX10_count_0 7 rfl rfl
theorem dksX10_count_2 : cX10_count.data.toList.drop 88 = dktX10_count_2 := dk_seg dksX10_count_1 81 rfl rfl
theorem dksX10_count_3 : cX10_count.data.toList.drop 112 = dktX10_count_3 := dk_seg dksX10_count_2 24 rfl rfl
theorem dksX10_count_4 : cX10_count.data.toList.drop 134 = dktX10_count_4 := dk_seg dksX10_count_3 22 rfl rfl
theorem dksX10_count_5 : cX10_count.data.toList.drop 158 = dktX10_count_5 := dk_seg dksX10_count_4 24 rfl rfl
theorem dksX10_count_6 : cX10_count.data.toList.drop 182 = dktX10_count_6 := dk_seg dksX10_count_5 24 rfl rfl
theorem dksX10_count_7 : cX10_count.data.toList.drop 206 = dktX10_count_7 := dk_seg dksX10_count_6 24 rfl rfl
theorem dksX10_count_8 : cX10_count.data.toList.drop 229 = dktX10_count_8 := dk_seg dksX10_count_7 23 rfl rfl
theorem dksX10_count_9 : cX10_count.data.toList.drop 253 = dktX10_count_9 := dk_seg dksX10_count_8 24 rfl rfl
theorem dksX10_count_10 : cX10_count.data.toList.drop 277 = dktX10_count_10 := dk_seg dksX10_count_9 24 rfl rfl
theorem dksX10_count_11 : cX10_count.data.toList.drop 299 = dktX10_count_11 := dk_seg dksX10_count_10 22 rfl rfl
theorem dksX10_count_12 : cX10_count.data.toList.drop 323 = dktX10_count_12 := dk_seg dksX10_count_11 24 rfl rfl
theorem dksX10_count_13 : cX10_count.data.toList.drop 347 = dktX10_count_13 := dk_seg dksX10_count_12 24 rfl rfl
theorem dksX10_count_14 : cX10_count.data.toList.drop 371 = dktX10_count_14 := dk_seg dksX10_count_13 24 rfl rfl
theorem dksX10_count_15 : cX10_count.data.toList.drop 395 = dktX10_count_15 := dk_seg dksX10_count_14 24 rfl rfl
theorem dksX10_count_16 : cX10_count.data.toList.drop 418 = dktX10_count_16 := dk_seg dksX10_count_15 23 rfl rfl
theorem dX10_count_0 : decode cX10_count 0 = .ok (.aload_n 0, 1) := dk_42 (dk_at dksX10_count_0 0 rfl rfl)
theorem dX10_count_1 : decode cX10_count 1 = .ok (.invokevirtual 323, 3) := dk_182 1 67 (dk_at dksX10_count_0 1 rfl rfl)
theorem dX10_count_4 : decode cX10_count 4 = .ok (.iconst 0, 1) := dk_3 (dk_at dksX10_count_0 4 rfl rfl)
theorem dX10_count_5 : decode cX10_count 5 = .ok (.istore_n 2, 1) := dk_61 (dk_at dksX10_count_0 5 rfl rfl)
theorem dX10_count_6 : decode cX10_count 6 = .ok (.iload_n 1, 1) := dk_27 (dk_at dksX10_count_0 6 rfl rfl)
theorem dX10_count_7 : decode cX10_count 7 = .ok (.tableswitch 415 0 16 #[81, 91, 101, 111, 119, 156, 165, 174, 211, 216, 221, 226, 271, 284, 328, 365, 406], 81) := by decide +kernel
theorem dX10_count_88 : decode cX10_count 88 = .ok (.aload_n 0, 1) := dk_42 (dk_at dksX10_count_2 0 rfl rfl)
theorem dX10_count_89 : decode cX10_count 89 = .ok (.getfield 46, 3) := dk_180 0 46 (dk_at dksX10_count_2 1 rfl rfl)
theorem dX10_count_92 : decode cX10_count 92 = .ok (.aload_n 0, 1) := dk_42 (dk_at dksX10_count_2 4 rfl rfl)
theorem dX10_count_93 : decode cX10_count 93 = .ok (.getfield 233, 3) := dk_180 0 233 (dk_at dksX10_count_2 5 rfl rfl)
theorem dX10_count_96 : decode cX10_count 96 = .ok (.iaload, 1) := dk_46 (dk_at dksX10_count_2 8 rfl rfl)
theorem dX10_count_97 : decode cX10_count 97 = .ok (.ireturn, 1) := dk_172 (dk_at dksX10_count_2 9 rfl rfl)
theorem dX10_count_98 : decode cX10_count 98 = .ok (.aload_n 0, 1) := dk_42 (dk_at dksX10_count_2 10 rfl rfl)
theorem dX10_count_99 : decode cX10_count 99 = .ok (.getfield 52, 3) := dk_180 0 52 (dk_at dksX10_count_2 11 rfl rfl)
theorem dX10_count_102 : decode cX10_count 102 = .ok (.aload_n 0, 1) := dk_42 (dk_at dksX10_count_2 14 rfl rfl)
theorem dX10_count_103 : decode cX10_count 103 = .ok (.getfield 233, 3) := dk_180 0 233 (dk_at dksX10_count_2 15 rfl rfl)
theorem dX10_count_106 : decode cX10_count 106 = .ok (.iaload, 1) := dk_46 (dk_at dksX10_count_2 18 rfl rfl)
theorem dX10_count_107 : decode cX10_count 107 = .ok (.ireturn, 1) := dk_172 (dk_at dksX10_count_2 19 rfl rfl)
theorem dX10_count_108 : decode cX10_count 108 = .ok (.aload_n 0, 1) := dk_42 (dk_at dksX10_count_2 20 rfl rfl)
theorem dX10_count_109 : decode cX10_count 109 = .ok (.getfield 58, 3) := dk_180 0 58 (dk_at dksX10_count_2 21 rfl rfl)
theorem dX10_count_112 : decode cX10_count 112 = .ok (.aload_n 0, 1) := dk_42 (dk_at dksX10_count_3 0 rfl rfl)
theorem dX10_count_113 : decode cX10_count 113 = .ok (.getfield 233, 3) := dk_180 0 233 (dk_at dksX10_count_3 1 rfl rfl)
theorem dX10_count_116 : decode cX10_count 116 = .ok (.iaload, 1) := dk_46 (dk_at dksX10_count_3 4 rfl rfl)
theorem dX10_count_117 : decode cX10_count 117 = .ok (.ireturn, 1) := dk_172 (dk_at dksX10_count_3 5 rfl rfl)
theorem dX10_count_118 : decode cX10_count 118 = .ok (.aload_n 0, 1) := dk_42 (dk_at dksX10_count_3 6 rfl rfl)
theorem dX10_count_119 : decode cX10_count 119 = .ok (.getfield 122, 3) := dk_180 0 122 (dk_at dksX10_count_3 7 rfl rfl)
theorem dX10_count_122 : decode cX10_count 122 = .ok (.bipush 69, 2) := dk_16 69 (dk_at dksX10_count_3 10 rfl rfl)
theorem dX10_count_124 : decode cX10_count 124 = .ok (.iaload, 1) := dk_46 (dk_at dksX10_count_3 12 rfl rfl)
theorem dX10_count_125 : decode cX10_count 125 = .ok (.ireturn, 1) := dk_172 (dk_at dksX10_count_3 13 rfl rfl)
theorem dX10_count_126 : decode cX10_count 126 = .ok (.iconst 0, 1) := dk_3 (dk_at dksX10_count_3 14 rfl rfl)
theorem dX10_count_127 : decode cX10_count 127 = .ok (.istore_n 3, 1) := dk_62 (dk_at dksX10_count_3 15 rfl rfl)
theorem dX10_count_128 : decode cX10_count 128 = .ok (.iload_n 3, 1) := dk_29 (dk_at dksX10_count_3 16 rfl rfl)
theorem dX10_count_129 : decode cX10_count 129 = .ok (.aload_n 0, 1) := dk_42 (dk_at dksX10_count_3 17 rfl rfl)
theorem dX10_count_130 : decode cX10_count 130 = .ok (.getfield 46, 3) := dk_180 0 46 (dk_at dksX10_count_3 18 rfl rfl)
theorem dX10_count_133 : decode cX10_count 133 = .ok (.aload_n 0, 1) := dk_42 (dk_at dksX10_count_3 21 rfl rfl)
theorem dX10_count_134 : decode cX10_count 134 = .ok (.getfield 233, 3) := dk_180 0 233 (dk_at dksX10_count_4 0 rfl rfl)
theorem dX10_count_137 : decode cX10_count 137 = .ok (.iaload, 1) := dk_46 (dk_at dksX10_count_4 3 rfl rfl)
theorem dX10_count_138 : decode cX10_count 138 = .ok (.if_icmp .ge 23, 3) := dk_162 0 23 (dk_at dksX10_count_4 4 rfl rfl)
theorem dX10_count_141 : decode cX10_count 141 = .ok (.aload_n 0, 1) := dk_42 (dk_at dksX10_count_4 7 rfl rfl)
theorem dX10_count_142 : decode cX10_count 142 = .ok (.iload_n 3, 1) := dk_29 (dk_at dksX10_count_4 8 rfl rfl)
theorem dX10_count_143 : decode cX10_count 143 = .ok (.invokevirtual 390, 3) := dk_182 1 134 (dk_at dksX10_count_4 9 rfl rfl)
theorem dX10_count_146 : decode cX10_count 146 = .ok (.ifCond .lt 9, 3) := dk_155 0 9 (dk_at dksX10_count_4 12 rfl rfl)
theorem dX10_count_149 : decode cX10_count 149 = .ok (.iload_n 2, 1) := dk_28 (dk_at dksX10_count_4 15 rfl rfl)
theorem dX10_count_150 : decode cX10_count 150 = .ok (.iconst 1, 1) := dk_4 (dk_at dksX10_count_4 16 rfl rfl)
theorem dX10_count_151 : decode cX10_count 151 = .ok (.iload_n 3, 1) := dk_29 (dk_at dksX10_count_4 17 rfl rfl)
theorem dX10_count_152 : decode cX10_count 152 = .ok (.ishl, 1) := dk_120 (dk_at dksX10_count_4 18 rfl rfl)
theorem dX10_count_153 : decode cX10_count 153 = .ok (.ior, 1) := dk_128 (dk_at dksX10_count_4 19 rfl rfl)
theorem dX10_count_154 : decode cX10_count 154 = .ok (.istore_n 2, 1) := dk_61 (dk_at dksX10_count_4 20 rfl rfl)
theorem dX10_count_155 : decode cX10_count 155 = .ok (.iinc 3 1, 3) := dk_132 3 1 (dk_at dksX10_count_4 21 rfl rfl)
theorem dX10_count_158 : decode cX10_count 158 = .ok (.goto (-30), 3) := dk_167 255 226 (dk_at dksX10_count_5 0 rfl rfl)
theorem dX10_count_161 : decode cX10_count 161 = .ok (.iload_n 2, 1) := dk_28 (dk_at dksX10_count_5 3 rfl rfl)
theorem dX10_count_162 : decode cX10_count 162 = .ok (.ireturn, 1) := dk_172 (dk_at dksX10_count_5 4 rfl rfl)
theorem dX10_count_163 : decode cX10_count 163 = .ok (.aload_n 0, 1) := dk_42 (dk_at dksX10_count_5 5 rfl rfl)
theorem dX10_count_164 : decode cX10_count 164 = .ok (.bipush 24, 2) := dk_16 24 (dk_at dksX10_count_5 6 rfl rfl)
theorem dX10_count_166 : decode cX10_count 166 = .ok (.bipush 6, 2) := dk_16 6 (dk_at dksX10_count_5 8 rfl rfl)
theorem dX10_count_168 : decode cX10_count 168 = .ok (.invokevirtual 463, 3) := dk_182 1 207 (dk_at dksX10_count_5 10 rfl rfl)
theorem dX10_count_171 : decode cX10_count 171 = .ok (.ireturn, 1) := dk_172 (dk_at dksX10_count_5 13 rfl rfl)
theorem dX10_count_172 : decode cX10_count 172 = .ok (.aload_n 0, 1) := dk_42 (dk_at dksX10_count_5 14 rfl rfl)
theorem dX10_count_173 : decode cX10_count 173 = .ok (.bipush 42, 2) := dk_16 42 (dk_at dksX10_count_5 15 rfl rfl)
theorem dX10_count_175 : decode cX10_count 175 = .ok (.bipush 6, 2) := dk_16 6 (dk_at dksX10_count_5 17 rfl rfl)
theorem dX10_count_177 : decode cX10_count 177 = .ok (.invokevirtual 463, 3) := dk_182 1 207 (dk_at dksX10_count_5 19 rfl rfl)
theorem dX10_count_180 : decode cX10_count 180 = .ok (.ireturn, 1) := dk_172 (dk_at dksX10_count_5 22 rfl rfl)
theorem dX10_count_181 : decode cX10_count 181 = .ok (.iconst 0, 1) := dk_3 (dk_at dksX10_count_5 23 rfl rfl)
theorem dX10_count_182 : decode cX10_count 182 = .ok (.istore_n 3, 1) := dk_62 (dk_at dksX10_count_6 0 rfl rfl)
theorem dX10_count_183 : decode cX10_count 183 = .ok (.iload_n 3, 1) := dk_29 (dk_at dksX10_count_6 1 rfl rfl)
theorem dX10_count_184 : decode cX10_count 184 = .ok (.aload_n 0, 1) := dk_42 (dk_at dksX10_count_6 2 rfl rfl)
theorem dX10_count_185 : decode cX10_count 185 = .ok (.getfield 58, 3) := dk_180 0 58 (dk_at dksX10_count_6 3 rfl rfl)
theorem dX10_count_188 : decode cX10_count 188 = .ok (.aload_n 0, 1) := dk_42 (dk_at dksX10_count_6 6 rfl rfl)
theorem dX10_count_189 : decode cX10_count 189 = .ok (.getfield 233, 3) := dk_180 0 233 (dk_at dksX10_count_6 7 rfl rfl)
theorem dX10_count_192 : decode cX10_count 192 = .ok (.iaload, 1) := dk_46 (dk_at dksX10_count_6 10 rfl rfl)
theorem dX10_count_193 : decode cX10_count 193 = .ok (.if_icmp .ge 23, 3) := dk_162 0 23 (dk_at dksX10_count_6 11 rfl rfl)
theorem dX10_count_196 : decode cX10_count 196 = .ok (.iload_n 2, 1) := dk_28 (dk_at dksX10_count_6 14 rfl rfl)
theorem dX10_count_197 : decode cX10_count 197 = .ok (.aload_n 0, 1) := dk_42 (dk_at dksX10_count_6 15 rfl rfl)
theorem dX10_count_198 : decode cX10_count 198 = .ok (.getfield 122, 3) := dk_180 0 122 (dk_at dksX10_count_6 16 rfl rfl)
theorem dX10_count_201 : decode cX10_count 201 = .ok (.bipush 54, 2) := dk_16 54 (dk_at dksX10_count_6 19 rfl rfl)
theorem dX10_count_203 : decode cX10_count 203 = .ok (.iload_n 3, 1) := dk_29 (dk_at dksX10_count_6 21 rfl rfl)
theorem dX10_count_204 : decode cX10_count 204 = .ok (.iadd, 1) := dk_96 (dk_at dksX10_count_6 22 rfl rfl)
theorem dX10_count_205 : decode cX10_count 205 = .ok (.iaload, 1) := dk_46 (dk_at dksX10_count_6 23 rfl rfl)
theorem dX10_count_206 : decode cX10_count 206 = .ok (.iload_n 3, 1) := dk_29 (dk_at dksX10_count_7 0 rfl rfl)
theorem dX10_count_207 : decode cX10_count 207 = .ok (.ishl, 1) := dk_120 (dk_at dksX10_count_7 1 rfl rfl)
theorem dX10_count_208 : decode cX10_count 208 = .ok (.ior, 1) := dk_128 (dk_at dksX10_count_7 2 rfl rfl)
theorem dX10_count_209 : decode cX10_count 209 = .ok (.istore_n 2, 1) := dk_61 (dk_at dksX10_count_7 3 rfl rfl)
theorem dX10_count_210 : decode cX10_count 210 = .ok (.iinc 3 1, 3) := dk_132 3 1 (dk_at dksX10_count_7 4 rfl rfl)
theorem dX10_count_213 : decode cX10_count 213 = .ok (.goto (-30), 3) := dk_167 255 226 (dk_at dksX10_count_7 7 rfl rfl)
theorem dX10_count_216 : decode cX10_count 216 = .ok (.iload_n 2, 1) := dk_28 (dk_at dksX10_count_7 10 rfl rfl)
theorem dX10_count_217 : decode cX10_count 217 = .ok (.ireturn, 1) := dk_172 (dk_at dksX10_count_7 11 rfl rfl)
theorem dX10_count_218 : decode cX10_count 218 = .ok (.aload_n 0, 1) := dk_42 (dk_at dksX10_count_7 12 rfl rfl)
theorem dX10_count_219 : decode cX10_count 219 = .ok (.getfield 166, 3) := dk_180 0 166 (dk_at dksX10_count_7 13 rfl rfl)
theorem dX10_count_222 : decode cX10_count 222 = .ok (.ireturn, 1) := dk_172 (dk_at dksX10_count_7 16 rfl rfl)
theorem dX10_count_223 : decode cX10_count 223 = .ok (.aload_n 0, 1) := dk_42 (dk_at dksX10_count_7 17 rfl rfl)
theorem dX10_count_224 : decode cX10_count 224 = .ok (.getfield 251, 3) := dk_180 0 251 (dk_at dksX10_count_7 18 rfl rfl)
theorem dX10_count_227 : decode cX10_count 227 = .ok (.ireturn, 1) := dk_172 (dk_at dksX10_count_7 21 rfl rfl)
theorem dX10_count_228 : decode cX10_count 228 = .ok (.aload_n 0, 1) := dk_42 (dk_at dksX10_count_7 22 rfl rfl)
theorem dX10_count_229 : decode cX10_count 229 = .ok (.getfield 254, 3) := dk_180 0 254 (dk_at dksX10_count_8 0 rfl rfl)
theorem dX10_count_232 : decode cX10_count 232 = .ok (.ireturn, 1) := dk_172 (dk_at dksX10_count_8 3 rfl rfl)
theorem dX10_count_233 : decode cX10_count 233 = .ok (.aload_n 0, 1) := dk_42 (dk_at dksX10_count_8 4 rfl rfl)
theorem dX10_count_234 : decode cX10_count 234 = .ok (.getfield 146, 3) := dk_180 0 146 (dk_at dksX10_count_8 5 rfl rfl)
theorem dX10_count_237 : decode cX10_count 237 = .ok (.iconst 0, 1) := dk_3 (dk_at dksX10_count_8 8 rfl rfl)
theorem dX10_count_238 : decode cX10_count 238 = .ok (.baload, 1) := dk_51 (dk_at dksX10_count_8 9 rfl rfl)
theorem dX10_count_239 : decode cX10_count 239 = .ok (.ifCond .eq 7, 3) := dk_153 0 7 (dk_at dksX10_count_8 10 rfl rfl)
theorem dX10_count_242 : decode cX10_count 242 = .ok (.iconst 1, 1) := dk_4 (dk_at dksX10_count_8 13 rfl rfl)
theorem dX10_count_243 : decode cX10_count 243 = .ok (.goto 4, 3) := dk_167 0 4 (dk_at dksX10_count_8 14 rfl rfl)
theorem dX10_count_246 : decode cX10_count 246 = .ok (.iconst 0, 1) := dk_3 (dk_at dksX10_count_8 17 rfl rfl)
theorem dX10_count_247 : decode cX10_count 247 = .ok (.aload_n 0, 1) := dk_42 (dk_at dksX10_count_8 18 rfl rfl)
theorem dX10_count_248 : decode cX10_count 248 = .ok (.getfield 146, 3) := dk_180 0 146 (dk_at dksX10_count_8 19 rfl rfl)
theorem dX10_count_251 : decode cX10_count 251 = .ok (.iconst 1, 1) := dk_4 (dk_at dksX10_count_8 22 rfl rfl)
theorem dX10_count_252 : decode cX10_count 252 = .ok (.baload, 1) := dk_51 (dk_at dksX10_count_8 23 rfl rfl)
theorem dX10_count_253 : decode cX10_count 253 = .ok (.ifCond .eq 7, 3) := dk_153 0 7 (dk_at dksX10_count_9 0 rfl rfl)
theorem dX10_count_256 : decode cX10_count 256 = .ok (.iconst 1, 1) := dk_4 (dk_at dksX10_count_9 3 rfl rfl)
theorem dX10_count_257 : decode cX10_count 257 = .ok (.goto 4, 3) := dk_167 0 4 (dk_at dksX10_count_9 4 rfl rfl)
theorem dX10_count_260 : decode cX10_count 260 = .ok (.iconst 0, 1) := dk_3 (dk_at dksX10_count_9 7 rfl rfl)
theorem dX10_count_261 : decode cX10_count 261 = .ok (.iadd, 1) := dk_96 (dk_at dksX10_count_9 8 rfl rfl)
theorem dX10_count_262 : decode cX10_count 262 = .ok (.aload_n 0, 1) := dk_42 (dk_at dksX10_count_9 9 rfl rfl)
theorem dX10_count_263 : decode cX10_count 263 = .ok (.getfield 146, 3) := dk_180 0 146 (dk_at dksX10_count_9 10 rfl rfl)
theorem dX10_count_266 : decode cX10_count 266 = .ok (.iconst 2, 1) := dk_5 (dk_at dksX10_count_9 13 rfl rfl)
theorem dX10_count_267 : decode cX10_count 267 = .ok (.baload, 1) := dk_51 (dk_at dksX10_count_9 14 rfl rfl)
theorem dX10_count_268 : decode cX10_count 268 = .ok (.ifCond .eq 7, 3) := dk_153 0 7 (dk_at dksX10_count_9 15 rfl rfl)
theorem dX10_count_271 : decode cX10_count 271 = .ok (.iconst 1, 1) := dk_4 (dk_at dksX10_count_9 18 rfl rfl)
theorem dX10_count_272 : decode cX10_count 272 = .ok (.goto 4, 3) := dk_167 0 4 (dk_at dksX10_count_9 19 rfl rfl)
theorem dX10_count_275 : decode cX10_count 275 = .ok (.iconst 0, 1) := dk_3 (dk_at dksX10_count_9 22 rfl rfl)
theorem dX10_count_276 : decode cX10_count 276 = .ok (.iadd, 1) := dk_96 (dk_at dksX10_count_9 23 rfl rfl)
theorem dX10_count_277 : decode cX10_count 277 = .ok (.ireturn, 1) := dk_172 (dk_at dksX10_count_10 0 rfl rfl)
theorem dX10_count_278 : decode cX10_count 278 = .ok (.aload_n 0, 1) := dk_42 (dk_at dksX10_count_10 1 rfl rfl)
theorem dX10_count_279 : decode cX10_count 279 = .ok (.invokevirtual 377, 3) := dk_182 1 121 (dk_at dksX10_count_10 2 rfl rfl)
theorem dX10_count_282 : decode cX10_count 282 = .ok (.ifCond .eq 7, 3) := dk_153 0 7 (dk_at dksX10_count_10 5 rfl rfl)
theorem dX10_count_285 : decode cX10_count 285 = .ok (.iconst 1, 1) := dk_4 (dk_at dksX10_count_10 8 rfl rfl)
theorem dX10_count_286 : decode cX10_count 286 = .ok (.goto 4, 3) := dk_167 0 4 (dk_at dksX10_count_10 9 rfl rfl)
theorem dX10_count_289 : decode cX10_count 289 = .ok (.iconst 0, 1) := dk_3 (dk_at dksX10_count_10 12 rfl rfl)
theorem dX10_count_290 : decode cX10_count 290 = .ok (.ireturn, 1) := dk_172 (dk_at dksX10_count_10 13 rfl rfl)
theorem dX10_count_291 : decode cX10_count 291 = .ok (.iconst 0, 1) := dk_3 (dk_at dksX10_count_10 14 rfl rfl)
theorem dX10_count_292 : decode cX10_count 292 = .ok (.istore_n 3, 1) := dk_62 (dk_at dksX10_count_10 15 rfl rfl)
theorem dX10_count_293 : decode cX10_count 293 = .ok (.iload_n 3, 1) := dk_29 (dk_at dksX10_count_10 16 rfl rfl)
theorem dX10_count_294 : decode cX10_count 294 = .ok (.aload_n 0, 1) := dk_42 (dk_at dksX10_count_10 17 rfl rfl)
theorem dX10_count_295 : decode cX10_count 295 = .ok (.getfield 46, 3) := dk_180 0 46 (dk_at dksX10_count_10 18 rfl rfl)
theorem dX10_count_298 : decode cX10_count 298 = .ok (.aload_n 0, 1) := dk_42 (dk_at dksX10_count_10 21 rfl rfl)
theorem dX10_count_299 : decode cX10_count 299 = .ok (.getfield 233, 3) := dk_180 0 233 (dk_at dksX10_count_11 0 rfl rfl)
theorem dX10_count_302 : decode cX10_count 302 = .ok (.iaload, 1) := dk_46 (dk_at dksX10_count_11 3 rfl rfl)
theorem dX10_count_303 : decode cX10_count 303 = .ok (.if_icmp .ge 27, 3) := dk_162 0 27 (dk_at dksX10_count_11 4 rfl rfl)
theorem dX10_count_306 : decode cX10_count 306 = .ok (.aload_n 0, 1) := dk_42 (dk_at dksX10_count_11 7 rfl rfl)
theorem dX10_count_307 : decode cX10_count 307 = .ok (.iload_n 3, 1) := dk_29 (dk_at dksX10_count_11 8 rfl rfl)
theorem dX10_count_308 : decode cX10_count 308 = .ok (.invokevirtual 390, 3) := dk_182 1 134 (dk_at dksX10_count_11 9 rfl rfl)
theorem dX10_count_311 : decode cX10_count 311 = .ok (.ifCond .lt 13, 3) := dk_155 0 13 (dk_at dksX10_count_11 12 rfl rfl)
theorem dX10_count_314 : decode cX10_count 314 = .ok (.iload_n 2, 1) := dk_28 (dk_at dksX10_count_11 15 rfl rfl)
theorem dX10_count_315 : decode cX10_count 315 = .ok (.iconst 1, 1) := dk_4 (dk_at dksX10_count_11 16 rfl rfl)
theorem dX10_count_316 : decode cX10_count 316 = .ok (.aload_n 0, 1) := dk_42 (dk_at dksX10_count_11 17 rfl rfl)
theorem dX10_count_317 : decode cX10_count 317 = .ok (.iload_n 3, 1) := dk_29 (dk_at dksX10_count_11 18 rfl rfl)
theorem dX10_count_318 : decode cX10_count 318 = .ok (.invokevirtual 390, 3) := dk_182 1 134 (dk_at dksX10_count_11 19 rfl rfl)
theorem dX10_count_321 : decode cX10_count 321 = .ok (.ishl, 1) := dk_120 (dk_at dksX10_count_11 22 rfl rfl)
theorem dX10_count_322 : decode cX10_count 322 = .ok (.ior, 1) := dk_128 (dk_at dksX10_count_11 23 rfl rfl)
theorem dX10_count_323 : decode cX10_count 323 = .ok (.istore_n 2, 1) := dk_61 (dk_at dksX10_count_12 0 rfl rfl)
theorem dX10_count_324 : decode cX10_count 324 = .ok (.iinc 3 1, 3) := dk_132 3 1 (dk_at dksX10_count_12 1 rfl rfl)
theorem dX10_count_327 : decode cX10_count 327 = .ok (.goto (-34), 3) := dk_167 255 222 (dk_at dksX10_count_12 4 rfl rfl)
theorem dX10_count_330 : decode cX10_count 330 = .ok (.iload_n 2, 1) := dk_28 (dk_at dksX10_count_12 7 rfl rfl)
theorem dX10_count_331 : decode cX10_count 331 = .ok (.invokestatic 457, 3) := dk_184 1 201 (dk_at dksX10_count_12 8 rfl rfl)
theorem dX10_count_334 : decode cX10_count 334 = .ok (.ireturn, 1) := dk_172 (dk_at dksX10_count_12 11 rfl rfl)
theorem dX10_count_335 : decode cX10_count 335 = .ok (.iconst 0, 1) := dk_3 (dk_at dksX10_count_12 12 rfl rfl)
theorem dX10_count_336 : decode cX10_count 336 = .ok (.istore_n 3, 1) := dk_62 (dk_at dksX10_count_12 13 rfl rfl)
theorem dX10_count_337 : decode cX10_count 337 = .ok (.iload_n 3, 1) := dk_29 (dk_at dksX10_count_12 14 rfl rfl)
theorem dX10_count_338 : decode cX10_count 338 = .ok (.aload_n 0, 1) := dk_42 (dk_at dksX10_count_12 15 rfl rfl)
theorem dX10_count_339 : decode cX10_count 339 = .ok (.getfield 46, 3) := dk_180 0 46 (dk_at dksX10_count_12 16 rfl rfl)
theorem dX10_count_342 : decode cX10_count 342 = .ok (.aload_n 0, 1) := dk_42 (dk_at dksX10_count_12 19 rfl rfl)
theorem dX10_count_343 : decode cX10_count 343 = .ok (.getfield 233, 3) := dk_180 0 233 (dk_at dksX10_count_12 20 rfl rfl)
theorem dX10_count_346 : decode cX10_count 346 = .ok (.iaload, 1) := dk_46 (dk_at dksX10_count_12 23 rfl rfl)
theorem dX10_count_347 : decode cX10_count 347 = .ok (.if_icmp .ge 23, 3) := dk_162 0 23 (dk_at dksX10_count_13 0 rfl rfl)
theorem dX10_count_350 : decode cX10_count 350 = .ok (.aload_n 0, 1) := dk_42 (dk_at dksX10_count_13 3 rfl rfl)
theorem dX10_count_351 : decode cX10_count 351 = .ok (.iload_n 3, 1) := dk_29 (dk_at dksX10_count_13 4 rfl rfl)
theorem dX10_count_352 : decode cX10_count 352 = .ok (.invokevirtual 357, 3) := dk_182 1 101 (dk_at dksX10_count_13 5 rfl rfl)
theorem dX10_count_355 : decode cX10_count 355 = .ok (.ifCond .ne 9, 3) := dk_154 0 9 (dk_at dksX10_count_13 8 rfl rfl)
theorem dX10_count_358 : decode cX10_count 358 = .ok (.iload_n 2, 1) := dk_28 (dk_at dksX10_count_13 11 rfl rfl)
theorem dX10_count_359 : decode cX10_count 359 = .ok (.iconst 1, 1) := dk_4 (dk_at dksX10_count_13 12 rfl rfl)
theorem dX10_count_360 : decode cX10_count 360 = .ok (.iload_n 3, 1) := dk_29 (dk_at dksX10_count_13 13 rfl rfl)
theorem dX10_count_361 : decode cX10_count 361 = .ok (.ishl, 1) := dk_120 (dk_at dksX10_count_13 14 rfl rfl)
theorem dX10_count_362 : decode cX10_count 362 = .ok (.ior, 1) := dk_128 (dk_at dksX10_count_13 15 rfl rfl)
theorem dX10_count_363 : decode cX10_count 363 = .ok (.istore_n 2, 1) := dk_61 (dk_at dksX10_count_13 16 rfl rfl)
theorem dX10_count_364 : decode cX10_count 364 = .ok (.iinc 3 1, 3) := dk_132 3 1 (dk_at dksX10_count_13 17 rfl rfl)
theorem dX10_count_367 : decode cX10_count 367 = .ok (.goto (-30), 3) := dk_167 255 226 (dk_at dksX10_count_13 20 rfl rfl)
theorem dX10_count_370 : decode cX10_count 370 = .ok (.iload_n 2, 1) := dk_28 (dk_at dksX10_count_13 23 rfl rfl)
theorem dX10_count_371 : decode cX10_count 371 = .ok (.ireturn, 1) := dk_172 (dk_at dksX10_count_14 0 rfl rfl)
theorem dX10_count_372 : decode cX10_count 372 = .ok (.iconst 0, 1) := dk_3 (dk_at dksX10_count_14 1 rfl rfl)
theorem dX10_count_373 : decode cX10_count 373 = .ok (.istore_n 3, 1) := dk_62 (dk_at dksX10_count_14 2 rfl rfl)
theorem dX10_count_374 : decode cX10_count 374 = .ok (.iload_n 3, 1) := dk_29 (dk_at dksX10_count_14 3 rfl rfl)
theorem dX10_count_375 : decode cX10_count 375 = .ok (.aload_n 0, 1) := dk_42 (dk_at dksX10_count_14 4 rfl rfl)
theorem dX10_count_376 : decode cX10_count 376 = .ok (.getfield 46, 3) := dk_180 0 46 (dk_at dksX10_count_14 5 rfl rfl)
theorem dX10_count_379 : decode cX10_count 379 = .ok (.aload_n 0, 1) := dk_42 (dk_at dksX10_count_14 8 rfl rfl)
theorem dX10_count_380 : decode cX10_count 380 = .ok (.getfield 233, 3) := dk_180 0 233 (dk_at dksX10_count_14 9 rfl rfl)
theorem dX10_count_383 : decode cX10_count 383 = .ok (.iaload, 1) := dk_46 (dk_at dksX10_count_14 12 rfl rfl)
theorem dX10_count_384 : decode cX10_count 384 = .ok (.if_icmp .ge 27, 3) := dk_162 0 27 (dk_at dksX10_count_14 13 rfl rfl)
theorem dX10_count_387 : decode cX10_count 387 = .ok (.aload_n 0, 1) := dk_42 (dk_at dksX10_count_14 16 rfl rfl)
theorem dX10_count_388 : decode cX10_count 388 = .ok (.getfield 122, 3) := dk_180 0 122 (dk_at dksX10_count_14 17 rfl rfl)
theorem dX10_count_391 : decode cX10_count 391 = .ok (.bipush 30, 2) := dk_16 30 (dk_at dksX10_count_14 20 rfl rfl)
theorem dX10_count_393 : decode cX10_count 393 = .ok (.iload_n 3, 1) := dk_29 (dk_at dksX10_count_14 22 rfl rfl)
theorem dX10_count_394 : decode cX10_count 394 = .ok (.iadd, 1) := dk_96 (dk_at dksX10_count_14 23 rfl rfl)
theorem dX10_count_395 : decode cX10_count 395 = .ok (.iaload, 1) := dk_46 (dk_at dksX10_count_15 0 rfl rfl)
theorem dX10_count_396 : decode cX10_count 396 = .ok (.ifCond .le 9, 3) := dk_158 0 9 (dk_at dksX10_count_15 1 rfl rfl)
theorem dX10_count_399 : decode cX10_count 399 = .ok (.iload_n 2, 1) := dk_28 (dk_at dksX10_count_15 4 rfl rfl)
theorem dX10_count_400 : decode cX10_count 400 = .ok (.iconst 1, 1) := dk_4 (dk_at dksX10_count_15 5 rfl rfl)
theorem dX10_count_401 : decode cX10_count 401 = .ok (.iload_n 3, 1) := dk_29 (dk_at dksX10_count_15 6 rfl rfl)
theorem dX10_count_402 : decode cX10_count 402 = .ok (.ishl, 1) := dk_120 (dk_at dksX10_count_15 7 rfl rfl)
theorem dX10_count_403 : decode cX10_count 403 = .ok (.ior, 1) := dk_128 (dk_at dksX10_count_15 8 rfl rfl)
theorem dX10_count_404 : decode cX10_count 404 = .ok (.istore_n 2, 1) := dk_61 (dk_at dksX10_count_15 9 rfl rfl)
theorem dX10_count_405 : decode cX10_count 405 = .ok (.iinc 3 1, 3) := dk_132 3 1 (dk_at dksX10_count_15 10 rfl rfl)
theorem dX10_count_408 : decode cX10_count 408 = .ok (.goto (-34), 3) := dk_167 255 222 (dk_at dksX10_count_15 13 rfl rfl)
theorem dX10_count_411 : decode cX10_count 411 = .ok (.iload_n 2, 1) := dk_28 (dk_at dksX10_count_15 16 rfl rfl)
theorem dX10_count_412 : decode cX10_count 412 = .ok (.ireturn, 1) := dk_172 (dk_at dksX10_count_15 17 rfl rfl)
theorem dX10_count_413 : decode cX10_count 413 = .ok (.aload_n 0, 1) := dk_42 (dk_at dksX10_count_15 18 rfl rfl)
theorem dX10_count_414 : decode cX10_count 414 = .ok (.bipush 36, 2) := dk_16 36 (dk_at dksX10_count_15 19 rfl rfl)
theorem dX10_count_416 : decode cX10_count 416 = .ok (.bipush 6, 2) := dk_16 6 (dk_at dksX10_count_15 21 rfl rfl)
theorem dX10_count_418 : decode cX10_count 418 = .ok (.invokevirtual 463, 3) := dk_182 1 207 (dk_at dksX10_count_16 0 rfl rfl)
theorem dX10_count_421 : decode cX10_count 421 = .ok (.ireturn, 1) := dk_172 (dk_at dksX10_count_16 3 rfl rfl)
theorem dX10_count_422 : decode cX10_count 422 = .ok (.iconst (-1), 1) := dk_2 (dk_at dksX10_count_16 4 rfl rfl)
theorem dX10_count_423 : decode cX10_count 423 = .ok (.ireturn, 1) := dk_172 (dk_at dksX10_count_16 5 rfl rfl)
abbrev cX10_sumNow : ByteArray := prog_21_method_120_code
def yX10_sumNow : MethodName := ⟨RX10, "sumNow", "(II)I"⟩
def dkwX10_sumNow_1 : List UInt8 := [132, 4, 1, 167, 255, 235, 29, 172]
abbrev dktX10_sumNow_1 : List UInt8 := dkwX10_sumNow_1 ++ []
def dkwX10_sumNow_0 : List UInt8 := [3, 62, 27, 54, 4, 21, 4, 27, 28, 96, 162, 0, 19, 29, 42, 180, 0, 119, 21, 4, 46, 96, 62]
abbrev dktX10_sumNow_0 : List UInt8 := dkwX10_sumNow_0 ++ dktX10_sumNow_1
theorem dksX10_sumNow_0 : cX10_sumNow.data.toList.drop 0 = dktX10_sumNow_0 := by decide +kernel
theorem dksX10_sumNow_1 : cX10_sumNow.data.toList.drop 23 = dktX10_sumNow_1 := dk_seg dksX10_sumNow_0 23 rfl rfl
theorem dX10_sumNow_0 : decode cX10_sumNow 0 = .ok (.iconst 0, 1) := dk_3 (dk_at dksX10_sumNow_0 0 rfl rfl)
theorem dX10_sumNow_1 : decode cX10_sumNow 1 = .ok (.istore_n 3, 1) := dk_62 (dk_at dksX10_sumNow_0 1 rfl rfl)
theorem dX10_sumNow_2 : decode cX10_sumNow 2 = .ok (.iload_n 1, 1) := dk_27 (dk_at dksX10_sumNow_0 2 rfl rfl)
theorem dX10_sumNow_3 : decode cX10_sumNow 3 = .ok (.istore 4, 2) := dk_54 4 (dk_at dksX10_sumNow_0 3 rfl rfl)
theorem dX10_sumNow_5 : decode cX10_sumNow 5 = .ok (.iload 4, 2) := dk_21 4 (dk_at dksX10_sumNow_0 5 rfl rfl)
theorem dX10_sumNow_7 : decode cX10_sumNow 7 = .ok (.iload_n 1, 1) := dk_27 (dk_at dksX10_sumNow_0 7 rfl rfl)
theorem dX10_sumNow_8 : decode cX10_sumNow 8 = .ok (.iload_n 2, 1) := dk_28 (dk_at dksX10_sumNow_0 8 rfl rfl)
theorem dX10_sumNow_9 : decode cX10_sumNow 9 = .ok (.iadd, 1) := dk_96 (dk_at dksX10_sumNow_0 9 rfl rfl)
theorem dX10_sumNow_10 : decode cX10_sumNow 10 = .ok (.if_icmp .ge 19, 3) := dk_162 0 19 (dk_at dksX10_sumNow_0 10 rfl rfl)
theorem dX10_sumNow_13 : decode cX10_sumNow 13 = .ok (.iload_n 3, 1) := dk_29 (dk_at dksX10_sumNow_0 13 rfl rfl)
theorem dX10_sumNow_14 : decode cX10_sumNow 14 = .ok (.aload_n 0, 1) := dk_42 (dk_at dksX10_sumNow_0 14 rfl rfl)
theorem dX10_sumNow_15 : decode cX10_sumNow 15 = .ok (.getfield 119, 3) := dk_180 0 119 (dk_at dksX10_sumNow_0 15 rfl rfl)
theorem dX10_sumNow_18 : decode cX10_sumNow 18 = .ok (.iload 4, 2) := dk_21 4 (dk_at dksX10_sumNow_0 18 rfl rfl)
theorem dX10_sumNow_20 : decode cX10_sumNow 20 = .ok (.iaload, 1) := dk_46 (dk_at dksX10_sumNow_0 20 rfl rfl)
theorem dX10_sumNow_21 : decode cX10_sumNow 21 = .ok (.iadd, 1) := dk_96 (dk_at dksX10_sumNow_0 21 rfl rfl)
theorem dX10_sumNow_22 : decode cX10_sumNow 22 = .ok (.istore_n 3, 1) := dk_62 (dk_at dksX10_sumNow_0 22 rfl rfl)
theorem dX10_sumNow_23 : decode cX10_sumNow 23 = .ok (.iinc 4 1, 3) := dk_132 4 1 (dk_at dksX10_sumNow_1 0 rfl rfl)
theorem dX10_sumNow_26 : decode cX10_sumNow 26 = .ok (.goto (-21), 3) := dk_167 255 235 (dk_at dksX10_sumNow_1 3 rfl rfl)
theorem dX10_sumNow_29 : decode cX10_sumNow 29 = .ok (.iload_n 3, 1) := dk_29 (dk_at dksX10_sumNow_1 6 rfl rfl)
theorem dX10_sumNow_30 : decode cX10_sumNow 30 = .ok (.ireturn, 1) := dk_172 (dk_at dksX10_sumNow_1 7 rfl rfl)
theorem q133 : (Jvm.Cond.initialized "KnockerFacesModel") ∈ lw_all := lw_g (lw_at lw_m1 19 rfl) rfl
theorem q1072 : (Jvm.Cond.selects "KnockerFacesModel" ({ cls := "java/lang/Object", name := "getClass", desc := "()Ljava/lang/Class;" } : Jvm.MethodName) ({ cls := "java/lang/Object", name := "getClass", desc := "()Ljava/lang/Class;" } : Jvm.MethodName)) ∈ lw_all := lw_g (lw_at lw_m4 238 rfl) rfl
theorem q1492 : (Jvm.Cond.instantiable "KnockerFacesModel" (66 : Nat)) ∈ lw_all := lw_g (lw_at lw_m6 178 rfl) rfl
theorem q1494 : (Jvm.Cond.instanceMethod ({ cls := "KnockerFacesModel", name := "<init>", desc := "()V" } : Jvm.MethodName)) ∈ lw_all := lw_g (lw_at lw_m6 180 rfl) rfl
theorem q1495 : (Jvm.Cond.code ({ cls := "KnockerFacesModel", name := "<init>", desc := "()V" } : Jvm.MethodName) prog_21_method_2_code (1 : Nat) (Option.none : Option Jvm.ClassFile.FieldType)) ∈ lw_all := lw_g (lw_at lw_m6 181 rfl) rfl
theorem q1496 : (Jvm.Cond.methodLink "KnockerFacesModel" (7 : Nat) ({ cls := "java/lang/Object", name := "<init>", desc := "()V" } : Jvm.MethodName)) ∈ lw_all := lw_g (lw_at lw_m6 182 rfl) rfl
theorem q1497 : (Jvm.Cond.methodLink "KnockerFacesModel" (152 : Nat) ({ cls := "KnockerFacesModel", name := "plain", desc := "(I)V" } : Jvm.MethodName)) ∈ lw_all := lw_g (lw_at lw_m6 183 rfl) rfl
theorem q1498 : (Jvm.Cond.privateMethod ({ cls := "KnockerFacesModel", name := "plain", desc := "(I)V" } : Jvm.MethodName)) ∈ lw_tbl := lw_at lw_m6 184 rfl
theorem q1499 : (Jvm.Cond.instanceMethod ({ cls := "KnockerFacesModel", name := "plain", desc := "(I)V" } : Jvm.MethodName)) ∈ lw_all := lw_g (lw_at lw_m6 185 rfl) rfl
theorem q1500 : (Jvm.Cond.code ({ cls := "KnockerFacesModel", name := "plain", desc := "(I)V" } : Jvm.MethodName) prog_21_method_19_code (3 : Nat) (Option.none : Option Jvm.ClassFile.FieldType)) ∈ lw_all := lw_g (lw_at lw_m6 186 rfl) rfl
theorem q1501 : (Jvm.Cond.methodLink "KnockerFacesModel" (156 : Nat) ({ cls := "KnockerFacesModel", name := "word", desc := "(IIIIIII)J" } : Jvm.MethodName)) ∈ lw_all := lw_g (lw_at lw_m6 187 rfl) rfl
theorem q1502 : (Jvm.Cond.static ({ cls := "KnockerFacesModel", name := "word", desc := "(IIIIIII)J" } : Jvm.MethodName)) ∈ lw_all := lw_g (lw_at lw_m6 188 rfl) rfl
theorem q1503 : (Jvm.Cond.code ({ cls := "KnockerFacesModel", name := "word", desc := "(IIIIIII)J" } : Jvm.MethodName) prog_21_method_10_code (7 : Nat) (Option.some Jvm.ClassFile.FieldType.long)) ∈ lw_all := lw_g (lw_at lw_m6 189 rfl) rfl
theorem q1504 : (Jvm.Cond.methodLink "KnockerFacesModel" (177 : Nat) ({ cls := "KnockerFacesModel", name := "appends", desc := "(JI)J" } : Jvm.MethodName)) ∈ lw_all := lw_g (lw_at lw_m6 190 rfl) rfl
theorem q1505 : (Jvm.Cond.static ({ cls := "KnockerFacesModel", name := "appends", desc := "(JI)J" } : Jvm.MethodName)) ∈ lw_all := lw_g (lw_at lw_m6 191 rfl) rfl
theorem q1506 : (Jvm.Cond.code ({ cls := "KnockerFacesModel", name := "appends", desc := "(JI)J" } : Jvm.MethodName) prog_21_method_9_code (3 : Nat) (Option.some Jvm.ClassFile.FieldType.long)) ∈ lw_all := lw_g (lw_at lw_m6 192 rfl) rfl
theorem q1507 : (Jvm.Cond.constantLong "KnockerFacesModel" (175 : Nat) (27 : Int64)) ∈ lw_all := lw_g (lw_at lw_m6 193 rfl) rfl
theorem q1508 : (Jvm.Cond.methodLink "KnockerFacesModel" (160 : Nat) ({ cls := "KnockerFacesModel", name := "begins", desc := "()V" } : Jvm.MethodName)) ∈ lw_all := lw_g (lw_at lw_m6 194 rfl) rfl
theorem q1509 : (Jvm.Cond.privateMethod ({ cls := "KnockerFacesModel", name := "begins", desc := "()V" } : Jvm.MethodName)) ∈ lw_tbl := lw_at lw_m6 195 rfl
theorem q1510 : (Jvm.Cond.instanceMethod ({ cls := "KnockerFacesModel", name := "begins", desc := "()V" } : Jvm.MethodName)) ∈ lw_all := lw_g (lw_at lw_m6 196 rfl) rfl
theorem q1511 : (Jvm.Cond.code ({ cls := "KnockerFacesModel", name := "begins", desc := "()V" } : Jvm.MethodName) prog_21_method_44_code (2 : Nat) (Option.none : Option Jvm.ClassFile.FieldType)) ∈ lw_all := lw_g (lw_at lw_m6 197 rfl) rfl
theorem q1512 : (Jvm.Cond.methodLink "KnockerFacesModel" (163 : Nat) ({ cls := "KnockerFacesModel", name := "keepsRow", desc := "()V" } : Jvm.MethodName)) ∈ lw_all := lw_g (lw_at lw_m6 198 rfl) rfl
theorem q1513 : (Jvm.Cond.privateMethod ({ cls := "KnockerFacesModel", name := "keepsRow", desc := "()V" } : Jvm.MethodName)) ∈ lw_tbl := lw_at lw_m6 199 rfl
theorem q1514 : (Jvm.Cond.instanceMethod ({ cls := "KnockerFacesModel", name := "keepsRow", desc := "()V" } : Jvm.MethodName)) ∈ lw_all := lw_g (lw_at lw_m6 200 rfl) rfl
theorem q1515 : (Jvm.Cond.code ({ cls := "KnockerFacesModel", name := "keepsRow", desc := "()V" } : Jvm.MethodName) prog_21_method_45_code (2 : Nat) (Option.none : Option Jvm.ClassFile.FieldType)) ∈ lw_all := lw_g (lw_at lw_m6 201 rfl) rfl
theorem q1516 : (Jvm.Cond.fieldLink "KnockerFacesModel" (13 : Nat) "KnockerFacesModel" "tape" "[B") ∈ lw_all := lw_g (lw_at lw_m6 202 rfl) rfl
theorem q1517 : (Jvm.Cond.fieldLink "KnockerFacesModel" (166 : Nat) "KnockerFacesModel" "taped" "I") ∈ lw_all := lw_g (lw_at lw_m6 203 rfl) rfl
theorem q1518 : (Jvm.Cond.fieldLink "KnockerFacesModel" (17 : Nat) "KnockerFacesModel" "text" "[B") ∈ lw_all := lw_g (lw_at lw_m6 204 rfl) rfl
theorem q1519 : (Jvm.Cond.fieldLink "KnockerFacesModel" (172 : Nat) "KnockerFacesModel" "size" "I") ∈ lw_all := lw_g (lw_at lw_m6 205 rfl) rfl
theorem q1520 : (Jvm.Cond.fieldLink "KnockerFacesModel" (20 : Nat) "KnockerFacesModel" "tKind" "[I") ∈ lw_all := lw_g (lw_at lw_m6 206 rfl) rfl
theorem q1521 : (Jvm.Cond.fieldLink "KnockerFacesModel" (24 : Nat) "KnockerFacesModel" "tPlace" "[I") ∈ lw_all := lw_g (lw_at lw_m6 207 rfl) rfl
theorem q1522 : (Jvm.Cond.fieldLink "KnockerFacesModel" (27 : Nat) "KnockerFacesModel" "tValue" "[I") ∈ lw_all := lw_g (lw_at lw_m6 208 rfl) rfl
theorem q1523 : (Jvm.Cond.fieldLink "KnockerFacesModel" (30 : Nat) "KnockerFacesModel" "tName" "[J") ∈ lw_all := lw_g (lw_at lw_m6 209 rfl) rfl
theorem q1524 : (Jvm.Cond.fieldLink "KnockerFacesModel" (34 : Nat) "KnockerFacesModel" "keys" "[J") ∈ lw_all := lw_g (lw_at lw_m6 210 rfl) rfl
theorem q1525 : (Jvm.Cond.fieldLink "KnockerFacesModel" (181 : Nat) "KnockerFacesModel" "tokens" "I") ∈ lw_all := lw_g (lw_at lw_m6 211 rfl) rfl
theorem q1526 : (Jvm.Cond.fieldLink "KnockerFacesModel" (206 : Nat) "KnockerFacesModel" "t" "I") ∈ lw_all := lw_g (lw_at lw_m6 212 rfl) rfl
theorem q1527 : (Jvm.Cond.fieldLink "KnockerFacesModel" (230 : Nat) "KnockerFacesModel" "open" "I") ∈ lw_all := lw_g (lw_at lw_m6 213 rfl) rfl
theorem q1528 : (Jvm.Cond.fieldLink "KnockerFacesModel" (203 : Nat) "KnockerFacesModel" "fault" "I") ∈ lw_all := lw_g (lw_at lw_m6 214 rfl) rfl
theorem q1529 : (Jvm.Cond.fieldLink "KnockerFacesModel" (209 : Nat) "KnockerFacesModel" "faultPlace" "I") ∈ lw_all := lw_g (lw_at lw_m6 215 rfl) rfl
theorem q1530 : (Jvm.Cond.fieldLink "KnockerFacesModel" (212 : Nat) "KnockerFacesModel" "worst" "I") ∈ lw_all := lw_g (lw_at lw_m6 216 rfl) rfl
theorem q1531 : (Jvm.Cond.fieldLink "KnockerFacesModel" (215 : Nat) "KnockerFacesModel" "worstPlace" "I") ∈ lw_all := lw_g (lw_at lw_m6 217 rfl) rfl
theorem q1532 : (Jvm.Cond.fieldLink "KnockerFacesModel" (37 : Nat) "KnockerFacesModel" "place" "I") ∈ lw_all := lw_g (lw_at lw_m6 218 rfl) rfl
theorem q1533 : (Jvm.Cond.fieldLink "KnockerFacesModel" (233 : Nat) "KnockerFacesModel" "live" "I") ∈ lw_all := lw_g (lw_at lw_m6 219 rfl) rfl
theorem q1534 : (Jvm.Cond.fieldLink "KnockerFacesModel" (236 : Nat) "KnockerFacesModel" "side" "I") ∈ lw_all := lw_g (lw_at lw_m6 220 rfl) rfl
theorem q1535 : (Jvm.Cond.fieldLink "KnockerFacesModel" (239 : Nat) "KnockerFacesModel" "names" "I") ∈ lw_all := lw_g (lw_at lw_m6 221 rfl) rfl
theorem q1536 : (Jvm.Cond.fieldLink "KnockerFacesModel" (40 : Nat) "KnockerFacesModel" "nameOf" "[J") ∈ lw_all := lw_g (lw_at lw_m6 222 rfl) rfl
theorem q1537 : (Jvm.Cond.fieldLink "KnockerFacesModel" (43 : Nat) "KnockerFacesModel" "nameAt" "[I") ∈ lw_all := lw_g (lw_at lw_m6 223 rfl) rfl
theorem q1538 : (Jvm.Cond.fieldLink "KnockerFacesModel" (46 : Nat) "KnockerFacesModel" "doors" "[I") ∈ lw_all := lw_g (lw_at lw_m6 224 rfl) rfl
theorem q1539 : (Jvm.Cond.fieldLink "KnockerFacesModel" (49 : Nat) "KnockerFacesModel" "firstFace" "[I") ∈ lw_all := lw_g (lw_at lw_m6 225 rfl) rfl
theorem q1540 : (Jvm.Cond.fieldLink "KnockerFacesModel" (52 : Nat) "KnockerFacesModel" "callers" "[I") ∈ lw_all := lw_g (lw_at lw_m6 226 rfl) rfl
theorem q1541 : (Jvm.Cond.fieldLink "KnockerFacesModel" (55 : Nat) "KnockerFacesModel" "faceOf" "[I") ∈ lw_all := lw_g (lw_at lw_m6 227 rfl) rfl
theorem q1542 : (Jvm.Cond.fieldLink "KnockerFacesModel" (58 : Nat) "KnockerFacesModel" "rounds" "[I") ∈ lw_all := lw_g (lw_at lw_m6 228 rfl) rfl
theorem q1543 : (Jvm.Cond.fieldLink "KnockerFacesModel" (61 : Nat) "KnockerFacesModel" "whoOf" "[I") ∈ lw_all := lw_g (lw_at lw_m6 229 rfl) rfl
theorem q1544 : (Jvm.Cond.fieldLink "KnockerFacesModel" (64 : Nat) "KnockerFacesModel" "doorOf" "[I") ∈ lw_all := lw_g (lw_at lw_m6 230 rfl) rfl
theorem q1545 : (Jvm.Cond.fieldLink "KnockerFacesModel" (67 : Nat) "KnockerFacesModel" "everyOf" "[I") ∈ lw_all := lw_g (lw_at lw_m6 231 rfl) rfl
theorem q1546 : (Jvm.Cond.fieldLink "KnockerFacesModel" (70 : Nat) "KnockerFacesModel" "fromOf" "[I") ∈ lw_all := lw_g (lw_at lw_m6 232 rfl) rfl
theorem q1547 : (Jvm.Cond.fieldLink "KnockerFacesModel" (73 : Nat) "KnockerFacesModel" "wind" "[I") ∈ lw_all := lw_g (lw_at lw_m6 233 rfl) rfl
theorem q1548 : (Jvm.Cond.fieldLink "KnockerFacesModel" (76 : Nat) "KnockerFacesModel" "near" "[I") ∈ lw_all := lw_g (lw_at lw_m6 234 rfl) rfl
theorem q1549 : (Jvm.Cond.fieldLink "KnockerFacesModel" (79 : Nat) "KnockerFacesModel" "seed" "[I") ∈ lw_all := lw_g (lw_at lw_m6 235 rfl) rfl
theorem q1550 : (Jvm.Cond.fieldLink "KnockerFacesModel" (82 : Nat) "KnockerFacesModel" "lawFirst" "[I") ∈ lw_all := lw_g (lw_at lw_m6 236 rfl) rfl
theorem q1551 : (Jvm.Cond.fieldLink "KnockerFacesModel" (85 : Nat) "KnockerFacesModel" "lawLast" "[I") ∈ lw_all := lw_g (lw_at lw_m6 237 rfl) rfl
theorem q1552 : (Jvm.Cond.fieldLink "KnockerFacesModel" (242 : Nat) "KnockerFacesModel" "branches" "I") ∈ lw_all := lw_g (lw_at lw_m6 238 rfl) rfl
theorem q1553 : (Jvm.Cond.fieldLink "KnockerFacesModel" (88 : Nat) "KnockerFacesModel" "hasTest" "[Z") ∈ lw_all := lw_g (lw_at lw_m6 239 rfl) rfl
theorem q1554 : (Jvm.Cond.fieldLink "KnockerFacesModel" (92 : Nat) "KnockerFacesModel" "testFrom" "[I") ∈ lw_all := lw_g (lw_at lw_m7 0 rfl) rfl
theorem q1555 : (Jvm.Cond.fieldLink "KnockerFacesModel" (95 : Nat) "KnockerFacesModel" "testMid" "[I") ∈ lw_all := lw_g (lw_at lw_m7 1 rfl) rfl
theorem q1556 : (Jvm.Cond.fieldLink "KnockerFacesModel" (98 : Nat) "KnockerFacesModel" "testTo" "[I") ∈ lw_all := lw_g (lw_at lw_m7 2 rfl) rfl
theorem q1557 : (Jvm.Cond.fieldLink "KnockerFacesModel" (101 : Nat) "KnockerFacesModel" "termTo" "[I") ∈ lw_all := lw_g (lw_at lw_m7 3 rfl) rfl
theorem q1558 : (Jvm.Cond.fieldLink "KnockerFacesModel" (245 : Nat) "KnockerFacesModel" "codes" "I") ∈ lw_all := lw_g (lw_at lw_m7 4 rfl) rfl
theorem q1559 : (Jvm.Cond.fieldLink "KnockerFacesModel" (104 : Nat) "KnockerFacesModel" "code" "[I") ∈ lw_all := lw_g (lw_at lw_m7 5 rfl) rfl
theorem q1560 : (Jvm.Cond.fieldLink "KnockerFacesModel" (107 : Nat) "KnockerFacesModel" "codeInt" "[I") ∈ lw_all := lw_g (lw_at lw_m7 6 rfl) rfl
theorem q1561 : (Jvm.Cond.fieldLink "KnockerFacesModel" (110 : Nat) "KnockerFacesModel" "waits" "[I") ∈ lw_all := lw_g (lw_at lw_m7 7 rfl) rfl
theorem q1562 : (Jvm.Cond.fieldLink "KnockerFacesModel" (296 : Nat) "KnockerFacesModel" "waiting" "I") ∈ lw_all := lw_g (lw_at lw_m7 8 rfl) rfl
theorem q1563 : (Jvm.Cond.fieldLink "KnockerFacesModel" (113 : Nat) "KnockerFacesModel" "variables" "[I") ∈ lw_all := lw_g (lw_at lw_m7 9 rfl) rfl
theorem q1564 : (Jvm.Cond.fieldLink "KnockerFacesModel" (116 : Nat) "KnockerFacesModel" "pile" "[I") ∈ lw_all := lw_g (lw_at lw_m7 10 rfl) rfl
theorem q1565 : (Jvm.Cond.fieldLink "KnockerFacesModel" (309 : Nat) "KnockerFacesModel" "isBroken" "Z") ∈ lw_all := lw_g (lw_at lw_m7 11 rfl) rfl
theorem q1566 : (Jvm.Cond.fieldLink "KnockerFacesModel" (119 : Nat) "KnockerFacesModel" "now" "[I") ∈ lw_all := lw_g (lw_at lw_m7 12 rfl) rfl
theorem q1567 : (Jvm.Cond.fieldLink "KnockerFacesModel" (122 : Nat) "KnockerFacesModel" "row" "[I") ∈ lw_all := lw_g (lw_at lw_m7 13 rfl) rfl
theorem q1568 : (Jvm.Cond.fieldLink "KnockerFacesModel" (317 : Nat) "KnockerFacesModel" "lots" "I") ∈ lw_all := lw_g (lw_at lw_m7 14 rfl) rfl
theorem q1569 : (Jvm.Cond.fieldLink "KnockerFacesModel" (320 : Nat) "KnockerFacesModel" "isStill" "Z") ∈ lw_all := lw_g (lw_at lw_m7 15 rfl) rfl
theorem q1570 : (Jvm.Cond.fieldLink "KnockerFacesModel" (125 : Nat) "KnockerFacesModel" "goesBy" "[I") ∈ lw_all := lw_g (lw_at lw_m7 16 rfl) rfl
theorem q1571 : (Jvm.Cond.fieldLink "KnockerFacesModel" (251 : Nat) "KnockerFacesModel" "undos" "I") ∈ lw_all := lw_g (lw_at lw_m7 17 rfl) rfl
theorem q1572 : (Jvm.Cond.fieldLink "KnockerFacesModel" (128 : Nat) "KnockerFacesModel" "history" "[I") ∈ lw_all := lw_g (lw_at lw_m7 18 rfl) rfl
theorem q1573 : (Jvm.Cond.fieldLink "KnockerFacesModel" (131 : Nat) "KnockerFacesModel" "leastFrom" "[I") ∈ lw_all := lw_g (lw_at lw_m7 19 rfl) rfl
theorem q1574 : (Jvm.Cond.fieldLink "KnockerFacesModel" (134 : Nat) "KnockerFacesModel" "busyOf" "[I") ∈ lw_all := lw_g (lw_at lw_m7 20 rfl) rfl
theorem q1575 : (Jvm.Cond.fieldLink "KnockerFacesModel" (254 : Nat) "KnockerFacesModel" "tolds" "I") ∈ lw_all := lw_g (lw_at lw_m7 21 rfl) rfl
theorem q1576 : (Jvm.Cond.fieldLink "KnockerFacesModel" (137 : Nat) "KnockerFacesModel" "toldDoor" "[I") ∈ lw_all := lw_g (lw_at lw_m7 22 rfl) rfl
theorem q1577 : (Jvm.Cond.fieldLink "KnockerFacesModel" (140 : Nat) "KnockerFacesModel" "toldPart" "[I") ∈ lw_all := lw_g (lw_at lw_m7 23 rfl) rfl
theorem q1578 : (Jvm.Cond.fieldLink "KnockerFacesModel" (143 : Nat) "KnockerFacesModel" "toldWay" "[I") ∈ lw_all := lw_g (lw_at lw_m7 24 rfl) rfl
theorem q1579 : (Jvm.Cond.fieldLink "KnockerFacesModel" (146 : Nat) "KnockerFacesModel" "isHeld" "[Z") ∈ lw_all := lw_g (lw_at lw_m7 25 rfl) rfl
theorem q1580 : (Jvm.Cond.fieldLink "KnockerFacesModel" (149 : Nat) "KnockerFacesModel" "heldRows" "[I") ∈ lw_all := lw_g (lw_at lw_m7 26 rfl) rfl
theorem q1581 : (Jvm.Cond.lays "KnockerFacesModel" "KnockerFacesModel" "thrown" "I") ∈ lw_all := lw_g (lw_at lw_m7 27 rfl) rfl
theorem q1582 : (Jvm.Cond.soleField "KnockerFacesModel" "thrown") ∈ lw_all := lw_g (lw_at lw_m7 28 rfl) rfl
theorem q1583 : (Jvm.Cond.laysFinal "KnockerFacesModel" "KnockerFacesModel" "tape" "[B") ∈ lw_all := lw_g (lw_at lw_m7 29 rfl) rfl
theorem q1584 : (Jvm.Cond.soleField "KnockerFacesModel" "tape") ∈ lw_all := lw_g (lw_at lw_m7 30 rfl) rfl
theorem q1585 : (Jvm.Cond.lays "KnockerFacesModel" "KnockerFacesModel" "taped" "I") ∈ lw_all := lw_g (lw_at lw_m7 31 rfl) rfl
theorem q1586 : (Jvm.Cond.soleField "KnockerFacesModel" "taped") ∈ lw_all := lw_g (lw_at lw_m7 32 rfl) rfl
theorem q1587 : (Jvm.Cond.laysFinal "KnockerFacesModel" "KnockerFacesModel" "text" "[B") ∈ lw_all := lw_g (lw_at lw_m7 33 rfl) rfl
theorem q1588 : (Jvm.Cond.soleField "KnockerFacesModel" "text") ∈ lw_all := lw_g (lw_at lw_m7 34 rfl) rfl
theorem q1589 : (Jvm.Cond.lays "KnockerFacesModel" "KnockerFacesModel" "size" "I") ∈ lw_all := lw_g (lw_at lw_m7 35 rfl) rfl
theorem q1590 : (Jvm.Cond.soleField "KnockerFacesModel" "size") ∈ lw_all := lw_g (lw_at lw_m7 36 rfl) rfl
theorem q1591 : (Jvm.Cond.laysFinal "KnockerFacesModel" "KnockerFacesModel" "tKind" "[I") ∈ lw_all := lw_g (lw_at lw_m7 37 rfl) rfl
theorem q1592 : (Jvm.Cond.soleField "KnockerFacesModel" "tKind") ∈ lw_all := lw_g (lw_at lw_m7 38 rfl) rfl
theorem q1593 : (Jvm.Cond.laysFinal "KnockerFacesModel" "KnockerFacesModel" "tPlace" "[I") ∈ lw_all := lw_g (lw_at lw_m7 39 rfl) rfl
theorem q1594 : (Jvm.Cond.soleField "KnockerFacesModel" "tPlace") ∈ lw_all := lw_g (lw_at lw_m7 40 rfl) rfl
theorem q1595 : (Jvm.Cond.laysFinal "KnockerFacesModel" "KnockerFacesModel" "tValue" "[I") ∈ lw_all := lw_g (lw_at lw_m7 41 rfl) rfl
theorem q1596 : (Jvm.Cond.soleField "KnockerFacesModel" "tValue") ∈ lw_all := lw_g (lw_at lw_m7 42 rfl) rfl
theorem q1597 : (Jvm.Cond.laysFinal "KnockerFacesModel" "KnockerFacesModel" "tName" "[J") ∈ lw_all := lw_g (lw_at lw_m7 43 rfl) rfl
theorem q1598 : (Jvm.Cond.soleField "KnockerFacesModel" "tName") ∈ lw_all := lw_g (lw_at lw_m7 44 rfl) rfl
theorem q1599 : (Jvm.Cond.laysFinal "KnockerFacesModel" "KnockerFacesModel" "keys" "[J") ∈ lw_all := lw_g (lw_at lw_m7 45 rfl) rfl
theorem q1600 : (Jvm.Cond.soleField "KnockerFacesModel" "keys") ∈ lw_all := lw_g (lw_at lw_m7 46 rfl) rfl
theorem q1601 : (Jvm.Cond.lays "KnockerFacesModel" "KnockerFacesModel" "tokens" "I") ∈ lw_all := lw_g (lw_at lw_m7 47 rfl) rfl
theorem q1602 : (Jvm.Cond.soleField "KnockerFacesModel" "tokens") ∈ lw_all := lw_g (lw_at lw_m7 48 rfl) rfl
theorem q1603 : (Jvm.Cond.lays "KnockerFacesModel" "KnockerFacesModel" "t" "I") ∈ lw_all := lw_g (lw_at lw_m7 49 rfl) rfl
theorem q1604 : (Jvm.Cond.soleField "KnockerFacesModel" "t") ∈ lw_all := lw_g (lw_at lw_m7 50 rfl) rfl
theorem q1605 : (Jvm.Cond.lays "KnockerFacesModel" "KnockerFacesModel" "open" "I") ∈ lw_all := lw_g (lw_at lw_m7 51 rfl) rfl
theorem q1606 : (Jvm.Cond.soleField "KnockerFacesModel" "open") ∈ lw_all := lw_g (lw_at lw_m7 52 rfl) rfl
theorem q1607 : (Jvm.Cond.lays "KnockerFacesModel" "KnockerFacesModel" "fault" "I") ∈ lw_all := lw_g (lw_at lw_m7 53 rfl) rfl
theorem q1608 : (Jvm.Cond.soleField "KnockerFacesModel" "fault") ∈ lw_all := lw_g (lw_at lw_m7 54 rfl) rfl
theorem q1609 : (Jvm.Cond.lays "KnockerFacesModel" "KnockerFacesModel" "faultPlace" "I") ∈ lw_all := lw_g (lw_at lw_m7 55 rfl) rfl
theorem q1610 : (Jvm.Cond.soleField "KnockerFacesModel" "faultPlace") ∈ lw_all := lw_g (lw_at lw_m7 56 rfl) rfl
theorem q1611 : (Jvm.Cond.lays "KnockerFacesModel" "KnockerFacesModel" "worst" "I") ∈ lw_all := lw_g (lw_at lw_m7 57 rfl) rfl
theorem q1612 : (Jvm.Cond.soleField "KnockerFacesModel" "worst") ∈ lw_all := lw_g (lw_at lw_m7 58 rfl) rfl
theorem q1613 : (Jvm.Cond.lays "KnockerFacesModel" "KnockerFacesModel" "worstPlace" "I") ∈ lw_all := lw_g (lw_at lw_m7 59 rfl) rfl
theorem q1614 : (Jvm.Cond.soleField "KnockerFacesModel" "worstPlace") ∈ lw_all := lw_g (lw_at lw_m7 60 rfl) rfl
theorem q1615 : (Jvm.Cond.lays "KnockerFacesModel" "KnockerFacesModel" "place" "I") ∈ lw_all := lw_g (lw_at lw_m7 61 rfl) rfl
theorem q1616 : (Jvm.Cond.soleField "KnockerFacesModel" "place") ∈ lw_all := lw_g (lw_at lw_m7 62 rfl) rfl
theorem q1617 : (Jvm.Cond.lays "KnockerFacesModel" "KnockerFacesModel" "live" "I") ∈ lw_all := lw_g (lw_at lw_m7 63 rfl) rfl
theorem q1618 : (Jvm.Cond.soleField "KnockerFacesModel" "live") ∈ lw_all := lw_g (lw_at lw_m7 64 rfl) rfl
theorem q1619 : (Jvm.Cond.lays "KnockerFacesModel" "KnockerFacesModel" "side" "I") ∈ lw_all := lw_g (lw_at lw_m7 65 rfl) rfl
theorem q1620 : (Jvm.Cond.soleField "KnockerFacesModel" "side") ∈ lw_all := lw_g (lw_at lw_m7 66 rfl) rfl
theorem q1621 : (Jvm.Cond.lays "KnockerFacesModel" "KnockerFacesModel" "names" "I") ∈ lw_all := lw_g (lw_at lw_m7 67 rfl) rfl
theorem q1622 : (Jvm.Cond.soleField "KnockerFacesModel" "names") ∈ lw_all := lw_g (lw_at lw_m7 68 rfl) rfl
theorem q1623 : (Jvm.Cond.laysFinal "KnockerFacesModel" "KnockerFacesModel" "nameOf" "[J") ∈ lw_all := lw_g (lw_at lw_m7 69 rfl) rfl
theorem q1624 : (Jvm.Cond.soleField "KnockerFacesModel" "nameOf") ∈ lw_all := lw_g (lw_at lw_m7 70 rfl) rfl
theorem q1625 : (Jvm.Cond.laysFinal "KnockerFacesModel" "KnockerFacesModel" "nameAt" "[I") ∈ lw_all := lw_g (lw_at lw_m7 71 rfl) rfl
theorem q1626 : (Jvm.Cond.soleField "KnockerFacesModel" "nameAt") ∈ lw_all := lw_g (lw_at lw_m7 72 rfl) rfl
theorem q1627 : (Jvm.Cond.laysFinal "KnockerFacesModel" "KnockerFacesModel" "doors" "[I") ∈ lw_all := lw_g (lw_at lw_m7 73 rfl) rfl
theorem q1628 : (Jvm.Cond.soleField "KnockerFacesModel" "doors") ∈ lw_all := lw_g (lw_at lw_m7 74 rfl) rfl
theorem q1629 : (Jvm.Cond.laysFinal "KnockerFacesModel" "KnockerFacesModel" "firstFace" "[I") ∈ lw_all := lw_g (lw_at lw_m7 75 rfl) rfl
theorem q1630 : (Jvm.Cond.soleField "KnockerFacesModel" "firstFace") ∈ lw_all := lw_g (lw_at lw_m7 76 rfl) rfl
theorem q1631 : (Jvm.Cond.laysFinal "KnockerFacesModel" "KnockerFacesModel" "callers" "[I") ∈ lw_all := lw_g (lw_at lw_m7 77 rfl) rfl
theorem q1632 : (Jvm.Cond.soleField "KnockerFacesModel" "callers") ∈ lw_all := lw_g (lw_at lw_m7 78 rfl) rfl
theorem q1633 : (Jvm.Cond.laysFinal "KnockerFacesModel" "KnockerFacesModel" "faceOf" "[I") ∈ lw_all := lw_g (lw_at lw_m7 79 rfl) rfl
theorem q1634 : (Jvm.Cond.soleField "KnockerFacesModel" "faceOf") ∈ lw_all := lw_g (lw_at lw_m7 80 rfl) rfl
theorem q1635 : (Jvm.Cond.laysFinal "KnockerFacesModel" "KnockerFacesModel" "rounds" "[I") ∈ lw_all := lw_g (lw_at lw_m7 81 rfl) rfl
theorem q1636 : (Jvm.Cond.soleField "KnockerFacesModel" "rounds") ∈ lw_all := lw_g (lw_at lw_m7 82 rfl) rfl
theorem q1637 : (Jvm.Cond.laysFinal "KnockerFacesModel" "KnockerFacesModel" "whoOf" "[I") ∈ lw_all := lw_g (lw_at lw_m7 83 rfl) rfl
theorem q1638 : (Jvm.Cond.soleField "KnockerFacesModel" "whoOf") ∈ lw_all := lw_g (lw_at lw_m7 84 rfl) rfl
theorem q1639 : (Jvm.Cond.laysFinal "KnockerFacesModel" "KnockerFacesModel" "doorOf" "[I") ∈ lw_all := lw_g (lw_at lw_m7 85 rfl) rfl
theorem q1640 : (Jvm.Cond.soleField "KnockerFacesModel" "doorOf") ∈ lw_all := lw_g (lw_at lw_m7 86 rfl) rfl
theorem q1641 : (Jvm.Cond.laysFinal "KnockerFacesModel" "KnockerFacesModel" "everyOf" "[I") ∈ lw_all := lw_g (lw_at lw_m7 87 rfl) rfl
theorem q1642 : (Jvm.Cond.soleField "KnockerFacesModel" "everyOf") ∈ lw_all := lw_g (lw_at lw_m7 88 rfl) rfl
theorem q1643 : (Jvm.Cond.laysFinal "KnockerFacesModel" "KnockerFacesModel" "fromOf" "[I") ∈ lw_all := lw_g (lw_at lw_m7 89 rfl) rfl
theorem q1644 : (Jvm.Cond.soleField "KnockerFacesModel" "fromOf") ∈ lw_all := lw_g (lw_at lw_m7 90 rfl) rfl
theorem q1645 : (Jvm.Cond.laysFinal "KnockerFacesModel" "KnockerFacesModel" "wind" "[I") ∈ lw_all := lw_g (lw_at lw_m7 91 rfl) rfl
theorem q1646 : (Jvm.Cond.soleField "KnockerFacesModel" "wind") ∈ lw_all := lw_g (lw_at lw_m7 92 rfl) rfl
theorem q1647 : (Jvm.Cond.laysFinal "KnockerFacesModel" "KnockerFacesModel" "near" "[I") ∈ lw_all := lw_g (lw_at lw_m7 93 rfl) rfl
theorem q1648 : (Jvm.Cond.soleField "KnockerFacesModel" "near") ∈ lw_all := lw_g (lw_at lw_m7 94 rfl) rfl
theorem q1649 : (Jvm.Cond.laysFinal "KnockerFacesModel" "KnockerFacesModel" "seed" "[I") ∈ lw_all := lw_g (lw_at lw_m7 95 rfl) rfl
theorem q1650 : (Jvm.Cond.soleField "KnockerFacesModel" "seed") ∈ lw_all := lw_g (lw_at lw_m7 96 rfl) rfl
theorem q1651 : (Jvm.Cond.laysFinal "KnockerFacesModel" "KnockerFacesModel" "lawFirst" "[I") ∈ lw_all := lw_g (lw_at lw_m7 97 rfl) rfl
theorem q1652 : (Jvm.Cond.soleField "KnockerFacesModel" "lawFirst") ∈ lw_all := lw_g (lw_at lw_m7 98 rfl) rfl
theorem q1653 : (Jvm.Cond.laysFinal "KnockerFacesModel" "KnockerFacesModel" "lawLast" "[I") ∈ lw_all := lw_g (lw_at lw_m7 99 rfl) rfl
theorem q1654 : (Jvm.Cond.soleField "KnockerFacesModel" "lawLast") ∈ lw_all := lw_g (lw_at lw_m7 100 rfl) rfl
theorem q1655 : (Jvm.Cond.lays "KnockerFacesModel" "KnockerFacesModel" "branches" "I") ∈ lw_all := lw_g (lw_at lw_m7 101 rfl) rfl
theorem q1656 : (Jvm.Cond.soleField "KnockerFacesModel" "branches") ∈ lw_all := lw_g (lw_at lw_m7 102 rfl) rfl
theorem q1657 : (Jvm.Cond.laysFinal "KnockerFacesModel" "KnockerFacesModel" "hasTest" "[Z") ∈ lw_all := lw_g (lw_at lw_m7 103 rfl) rfl
theorem q1658 : (Jvm.Cond.soleField "KnockerFacesModel" "hasTest") ∈ lw_all := lw_g (lw_at lw_m7 104 rfl) rfl
theorem q1659 : (Jvm.Cond.laysFinal "KnockerFacesModel" "KnockerFacesModel" "testFrom" "[I") ∈ lw_all := lw_g (lw_at lw_m7 105 rfl) rfl
theorem q1660 : (Jvm.Cond.soleField "KnockerFacesModel" "testFrom") ∈ lw_all := lw_g (lw_at lw_m7 106 rfl) rfl
theorem q1661 : (Jvm.Cond.laysFinal "KnockerFacesModel" "KnockerFacesModel" "testMid" "[I") ∈ lw_all := lw_g (lw_at lw_m7 107 rfl) rfl
theorem q1662 : (Jvm.Cond.soleField "KnockerFacesModel" "testMid") ∈ lw_all := lw_g (lw_at lw_m7 108 rfl) rfl
theorem q1663 : (Jvm.Cond.laysFinal "KnockerFacesModel" "KnockerFacesModel" "testTo" "[I") ∈ lw_all := lw_g (lw_at lw_m7 109 rfl) rfl
theorem q1664 : (Jvm.Cond.soleField "KnockerFacesModel" "testTo") ∈ lw_all := lw_g (lw_at lw_m7 110 rfl) rfl
theorem q1665 : (Jvm.Cond.laysFinal "KnockerFacesModel" "KnockerFacesModel" "termTo" "[I") ∈ lw_all := lw_g (lw_at lw_m7 111 rfl) rfl
theorem q1666 : (Jvm.Cond.soleField "KnockerFacesModel" "termTo") ∈ lw_all := lw_g (lw_at lw_m7 112 rfl) rfl
theorem q1667 : (Jvm.Cond.lays "KnockerFacesModel" "KnockerFacesModel" "codes" "I") ∈ lw_all := lw_g (lw_at lw_m7 113 rfl) rfl
theorem q1668 : (Jvm.Cond.soleField "KnockerFacesModel" "codes") ∈ lw_all := lw_g (lw_at lw_m7 114 rfl) rfl
theorem q1669 : (Jvm.Cond.laysFinal "KnockerFacesModel" "KnockerFacesModel" "code" "[I") ∈ lw_all := lw_g (lw_at lw_m7 115 rfl) rfl
theorem q1670 : (Jvm.Cond.soleField "KnockerFacesModel" "code") ∈ lw_all := lw_g (lw_at lw_m7 116 rfl) rfl
theorem q1671 : (Jvm.Cond.laysFinal "KnockerFacesModel" "KnockerFacesModel" "codeInt" "[I") ∈ lw_all := lw_g (lw_at lw_m7 117 rfl) rfl
theorem q1672 : (Jvm.Cond.soleField "KnockerFacesModel" "codeInt") ∈ lw_all := lw_g (lw_at lw_m7 118 rfl) rfl
theorem q1673 : (Jvm.Cond.laysFinal "KnockerFacesModel" "KnockerFacesModel" "waits" "[I") ∈ lw_all := lw_g (lw_at lw_m7 119 rfl) rfl
theorem q1674 : (Jvm.Cond.soleField "KnockerFacesModel" "waits") ∈ lw_all := lw_g (lw_at lw_m7 120 rfl) rfl
theorem q1675 : (Jvm.Cond.lays "KnockerFacesModel" "KnockerFacesModel" "waiting" "I") ∈ lw_all := lw_g (lw_at lw_m7 121 rfl) rfl
theorem q1676 : (Jvm.Cond.soleField "KnockerFacesModel" "waiting") ∈ lw_all := lw_g (lw_at lw_m7 122 rfl) rfl
theorem q1677 : (Jvm.Cond.laysFinal "KnockerFacesModel" "KnockerFacesModel" "variables" "[I") ∈ lw_all := lw_g (lw_at lw_m7 123 rfl) rfl
theorem q1678 : (Jvm.Cond.soleField "KnockerFacesModel" "variables") ∈ lw_all := lw_g (lw_at lw_m7 124 rfl) rfl
theorem q1679 : (Jvm.Cond.laysFinal "KnockerFacesModel" "KnockerFacesModel" "pile" "[I") ∈ lw_all := lw_g (lw_at lw_m7 125 rfl) rfl
theorem q1680 : (Jvm.Cond.soleField "KnockerFacesModel" "pile") ∈ lw_all := lw_g (lw_at lw_m7 126 rfl) rfl
theorem q1681 : (Jvm.Cond.lays "KnockerFacesModel" "KnockerFacesModel" "isBroken" "Z") ∈ lw_all := lw_g (lw_at lw_m7 127 rfl) rfl
theorem q1682 : (Jvm.Cond.soleField "KnockerFacesModel" "isBroken") ∈ lw_all := lw_g (lw_at lw_m7 128 rfl) rfl
theorem q1683 : (Jvm.Cond.laysFinal "KnockerFacesModel" "KnockerFacesModel" "now" "[I") ∈ lw_all := lw_g (lw_at lw_m7 129 rfl) rfl
theorem q1684 : (Jvm.Cond.soleField "KnockerFacesModel" "now") ∈ lw_all := lw_g (lw_at lw_m7 130 rfl) rfl
theorem q1685 : (Jvm.Cond.laysFinal "KnockerFacesModel" "KnockerFacesModel" "row" "[I") ∈ lw_all := lw_g (lw_at lw_m7 131 rfl) rfl
theorem q1686 : (Jvm.Cond.soleField "KnockerFacesModel" "row") ∈ lw_all := lw_g (lw_at lw_m7 132 rfl) rfl
theorem q1687 : (Jvm.Cond.lays "KnockerFacesModel" "KnockerFacesModel" "lots" "I") ∈ lw_all := lw_g (lw_at lw_m7 133 rfl) rfl
theorem q1688 : (Jvm.Cond.soleField "KnockerFacesModel" "lots") ∈ lw_all := lw_g (lw_at lw_m7 134 rfl) rfl
theorem q1689 : (Jvm.Cond.lays "KnockerFacesModel" "KnockerFacesModel" "isStill" "Z") ∈ lw_all := lw_g (lw_at lw_m7 135 rfl) rfl
theorem q1690 : (Jvm.Cond.soleField "KnockerFacesModel" "isStill") ∈ lw_all := lw_g (lw_at lw_m7 136 rfl) rfl
theorem q1691 : (Jvm.Cond.laysFinal "KnockerFacesModel" "KnockerFacesModel" "goesBy" "[I") ∈ lw_all := lw_g (lw_at lw_m7 137 rfl) rfl
theorem q1692 : (Jvm.Cond.soleField "KnockerFacesModel" "goesBy") ∈ lw_all := lw_g (lw_at lw_m7 138 rfl) rfl
theorem q1693 : (Jvm.Cond.lays "KnockerFacesModel" "KnockerFacesModel" "undos" "I") ∈ lw_all := lw_g (lw_at lw_m7 139 rfl) rfl
theorem q1694 : (Jvm.Cond.soleField "KnockerFacesModel" "undos") ∈ lw_all := lw_g (lw_at lw_m7 140 rfl) rfl
theorem q1695 : (Jvm.Cond.laysFinal "KnockerFacesModel" "KnockerFacesModel" "history" "[I") ∈ lw_all := lw_g (lw_at lw_m7 141 rfl) rfl
theorem q1696 : (Jvm.Cond.soleField "KnockerFacesModel" "history") ∈ lw_all := lw_g (lw_at lw_m7 142 rfl) rfl
theorem q1697 : (Jvm.Cond.laysFinal "KnockerFacesModel" "KnockerFacesModel" "leastFrom" "[I") ∈ lw_all := lw_g (lw_at lw_m7 143 rfl) rfl
theorem q1698 : (Jvm.Cond.soleField "KnockerFacesModel" "leastFrom") ∈ lw_all := lw_g (lw_at lw_m7 144 rfl) rfl
theorem q1699 : (Jvm.Cond.laysFinal "KnockerFacesModel" "KnockerFacesModel" "busyOf" "[I") ∈ lw_all := lw_g (lw_at lw_m7 145 rfl) rfl
theorem q1700 : (Jvm.Cond.soleField "KnockerFacesModel" "busyOf") ∈ lw_all := lw_g (lw_at lw_m7 146 rfl) rfl
theorem q1701 : (Jvm.Cond.lays "KnockerFacesModel" "KnockerFacesModel" "tolds" "I") ∈ lw_all := lw_g (lw_at lw_m7 147 rfl) rfl
theorem q1702 : (Jvm.Cond.soleField "KnockerFacesModel" "tolds") ∈ lw_all := lw_g (lw_at lw_m7 148 rfl) rfl
theorem q1703 : (Jvm.Cond.laysFinal "KnockerFacesModel" "KnockerFacesModel" "toldDoor" "[I") ∈ lw_all := lw_g (lw_at lw_m7 149 rfl) rfl
theorem q1704 : (Jvm.Cond.soleField "KnockerFacesModel" "toldDoor") ∈ lw_all := lw_g (lw_at lw_m7 150 rfl) rfl
theorem q1705 : (Jvm.Cond.laysFinal "KnockerFacesModel" "KnockerFacesModel" "toldPart" "[I") ∈ lw_all := lw_g (lw_at lw_m7 151 rfl) rfl
theorem q1706 : (Jvm.Cond.soleField "KnockerFacesModel" "toldPart") ∈ lw_all := lw_g (lw_at lw_m7 152 rfl) rfl
theorem q1707 : (Jvm.Cond.laysFinal "KnockerFacesModel" "KnockerFacesModel" "toldWay" "[I") ∈ lw_all := lw_g (lw_at lw_m7 153 rfl) rfl
theorem q1708 : (Jvm.Cond.soleField "KnockerFacesModel" "toldWay") ∈ lw_all := lw_g (lw_at lw_m7 154 rfl) rfl
theorem q1709 : (Jvm.Cond.laysFinal "KnockerFacesModel" "KnockerFacesModel" "isHeld" "[Z") ∈ lw_all := lw_g (lw_at lw_m7 155 rfl) rfl
theorem q1710 : (Jvm.Cond.soleField "KnockerFacesModel" "isHeld") ∈ lw_all := lw_g (lw_at lw_m7 156 rfl) rfl
theorem q1711 : (Jvm.Cond.laysFinal "KnockerFacesModel" "KnockerFacesModel" "heldRows" "[I") ∈ lw_all := lw_g (lw_at lw_m7 157 rfl) rfl
theorem q1712 : (Jvm.Cond.soleField "KnockerFacesModel" "heldRows") ∈ lw_all := lw_g (lw_at lw_m7 158 rfl) rfl
theorem q1713 : (Jvm.Cond.superclass "KnockerFacesModel" "java/lang/Object") ∈ lw_all := lw_g (lw_at lw_m7 159 rfl) rfl
theorem q1716 : (Jvm.Cond.instanceMethod ({ cls := "KnockerFacesModel", name := "feed", desc := "(IIIII)I" } : Jvm.MethodName)) ∈ lw_all := lw_g (lw_at lw_m7 162 rfl) rfl
theorem q1717 : (Jvm.Cond.selects "KnockerFacesModel" ({ cls := "KnockerFacesModel", name := "feed", desc := "(IIIII)I" } : Jvm.MethodName) ({ cls := "KnockerFacesModel", name := "feed", desc := "(IIIII)I" } : Jvm.MethodName)) ∈ lw_all := lw_g (lw_at lw_m7 163 rfl) rfl
theorem q1718 : (Jvm.Cond.code ({ cls := "KnockerFacesModel", name := "feed", desc := "(IIIII)I" } : Jvm.MethodName) prog_21_method_3_code (6 : Nat) (Option.some Jvm.ClassFile.FieldType.int)) ∈ lw_all := lw_g (lw_at lw_m7 164 rfl) rfl
theorem q1719 : (Jvm.Cond.methodLink "KnockerFacesModel" (169 : Nat) ({ cls := "KnockerFacesModel", name := "put", desc := "(I)V" } : Jvm.MethodName)) ∈ lw_all := lw_g (lw_at lw_m7 165 rfl) rfl
theorem q1720 : (Jvm.Cond.privateMethod ({ cls := "KnockerFacesModel", name := "put", desc := "(I)V" } : Jvm.MethodName)) ∈ lw_tbl := lw_at lw_m7 166 rfl
theorem q1721 : (Jvm.Cond.instanceMethod ({ cls := "KnockerFacesModel", name := "put", desc := "(I)V" } : Jvm.MethodName)) ∈ lw_all := lw_g (lw_at lw_m7 167 rfl) rfl
theorem q1722 : (Jvm.Cond.code ({ cls := "KnockerFacesModel", name := "put", desc := "(I)V" } : Jvm.MethodName) prog_21_method_4_code (3 : Nat) (Option.none : Option Jvm.ClassFile.FieldType)) ∈ lw_all := lw_g (lw_at lw_m7 168 rfl) rfl
theorem q1724 : (Jvm.Cond.instanceMethod ({ cls := "KnockerFacesModel", name := "back", desc := "(I)I" } : Jvm.MethodName)) ∈ lw_all := lw_g (lw_at lw_m7 170 rfl) rfl
theorem q1725 : (Jvm.Cond.selects "KnockerFacesModel" ({ cls := "KnockerFacesModel", name := "back", desc := "(I)I" } : Jvm.MethodName) ({ cls := "KnockerFacesModel", name := "back", desc := "(I)I" } : Jvm.MethodName)) ∈ lw_all := lw_g (lw_at lw_m7 171 rfl) rfl
theorem q1726 : (Jvm.Cond.code ({ cls := "KnockerFacesModel", name := "back", desc := "(I)I" } : Jvm.MethodName) prog_21_method_5_code (2 : Nat) (Option.some Jvm.ClassFile.FieldType.int)) ∈ lw_all := lw_g (lw_at lw_m7 172 rfl) rfl
theorem q1728 : (Jvm.Cond.instanceMethod ({ cls := "KnockerFacesModel", name := "read", desc := "()I" } : Jvm.MethodName)) ∈ lw_all := lw_g (lw_at lw_m7 174 rfl) rfl
theorem q1729 : (Jvm.Cond.selects "KnockerFacesModel" ({ cls := "KnockerFacesModel", name := "read", desc := "()I" } : Jvm.MethodName) ({ cls := "KnockerFacesModel", name := "read", desc := "()I" } : Jvm.MethodName)) ∈ lw_all := lw_g (lw_at lw_m7 175 rfl) rfl
theorem q1730 : (Jvm.Cond.code ({ cls := "KnockerFacesModel", name := "read", desc := "()I" } : Jvm.MethodName) prog_21_method_20_code (2 : Nat) (Option.some Jvm.ClassFile.FieldType.int)) ∈ lw_all := lw_g (lw_at lw_m7 176 rfl) rfl
theorem q1731 : (Jvm.Cond.methodLink "KnockerFacesModel" (227 : Nat) ({ cls := "KnockerFacesModel", name := "cut", desc := "()V" } : Jvm.MethodName)) ∈ lw_all := lw_g (lw_at lw_m7 177 rfl) rfl
theorem q1732 : (Jvm.Cond.privateMethod ({ cls := "KnockerFacesModel", name := "cut", desc := "()V" } : Jvm.MethodName)) ∈ lw_tbl := lw_at lw_m7 178 rfl
theorem q1733 : (Jvm.Cond.instanceMethod ({ cls := "KnockerFacesModel", name := "cut", desc := "()V" } : Jvm.MethodName)) ∈ lw_all := lw_g (lw_at lw_m7 179 rfl) rfl
theorem q1734 : (Jvm.Cond.code ({ cls := "KnockerFacesModel", name := "cut", desc := "()V" } : Jvm.MethodName) prog_21_method_12_code (8 : Nat) (Option.none : Option Jvm.ClassFile.FieldType)) ∈ lw_all := lw_g (lw_at lw_m7 180 rfl) rfl
theorem q1735 : (Jvm.Cond.methodLink "KnockerFacesModel" (184 : Nat) ({ cls := "KnockerFacesModel", name := "byteAt", desc := "(I)I" } : Jvm.MethodName)) ∈ lw_all := lw_g (lw_at lw_m7 181 rfl) rfl
theorem q1736 : (Jvm.Cond.privateMethod ({ cls := "KnockerFacesModel", name := "byteAt", desc := "(I)I" } : Jvm.MethodName)) ∈ lw_tbl := lw_at lw_m7 182 rfl
theorem q1737 : (Jvm.Cond.instanceMethod ({ cls := "KnockerFacesModel", name := "byteAt", desc := "(I)I" } : Jvm.MethodName)) ∈ lw_all := lw_g (lw_at lw_m7 183 rfl) rfl
theorem q1738 : (Jvm.Cond.code ({ cls := "KnockerFacesModel", name := "byteAt", desc := "(I)I" } : Jvm.MethodName) prog_21_method_6_code (2 : Nat) (Option.some Jvm.ClassFile.FieldType.int)) ∈ lw_all := lw_g (lw_at lw_m7 184 rfl) rfl
theorem q1739 : (Jvm.Cond.methodLink "KnockerFacesModel" (188 : Nat) ({ cls := "KnockerFacesModel", name := "token", desc := "(IIIJ)V" } : Jvm.MethodName)) ∈ lw_all := lw_g (lw_at lw_m7 185 rfl) rfl
theorem q1740 : (Jvm.Cond.privateMethod ({ cls := "KnockerFacesModel", name := "token", desc := "(IIIJ)V" } : Jvm.MethodName)) ∈ lw_tbl := lw_at lw_m7 186 rfl
theorem q1741 : (Jvm.Cond.instanceMethod ({ cls := "KnockerFacesModel", name := "token", desc := "(IIIJ)V" } : Jvm.MethodName)) ∈ lw_all := lw_g (lw_at lw_m7 187 rfl) rfl
theorem q1742 : (Jvm.Cond.code ({ cls := "KnockerFacesModel", name := "token", desc := "(IIIJ)V" } : Jvm.MethodName) prog_21_method_11_code (6 : Nat) (Option.none : Option Jvm.ClassFile.FieldType)) ∈ lw_all := lw_g (lw_at lw_m7 188 rfl) rfl
theorem q1743 : (Jvm.Cond.methodLink "KnockerFacesModel" (192 : Nat) ({ cls := "KnockerFacesModel", name := "isLetter", desc := "(I)Z" } : Jvm.MethodName)) ∈ lw_all := lw_g (lw_at lw_m7 189 rfl) rfl
theorem q1744 : (Jvm.Cond.static ({ cls := "KnockerFacesModel", name := "isLetter", desc := "(I)Z" } : Jvm.MethodName)) ∈ lw_all := lw_g (lw_at lw_m7 190 rfl) rfl
theorem q1745 : (Jvm.Cond.code ({ cls := "KnockerFacesModel", name := "isLetter", desc := "(I)Z" } : Jvm.MethodName) prog_21_method_8_code (1 : Nat) (Option.some Jvm.ClassFile.FieldType.boolean)) ∈ lw_all := lw_g (lw_at lw_m7 191 rfl) rfl
theorem q1746 : (Jvm.Cond.methodLink "KnockerFacesModel" (196 : Nat) ({ cls := "KnockerFacesModel", name := "isDigit", desc := "(I)Z" } : Jvm.MethodName)) ∈ lw_all := lw_g (lw_at lw_m7 192 rfl) rfl
theorem q1747 : (Jvm.Cond.static ({ cls := "KnockerFacesModel", name := "isDigit", desc := "(I)Z" } : Jvm.MethodName)) ∈ lw_all := lw_g (lw_at lw_m7 193 rfl) rfl
theorem q1748 : (Jvm.Cond.code ({ cls := "KnockerFacesModel", name := "isDigit", desc := "(I)Z" } : Jvm.MethodName) prog_21_method_7_code (1 : Nat) (Option.some Jvm.ClassFile.FieldType.boolean)) ∈ lw_all := lw_g (lw_at lw_m7 194 rfl) rfl
theorem q1749 : (Jvm.Cond.methodLink "KnockerFacesModel" (199 : Nat) ({ cls := "KnockerFacesModel", name := "sign", desc := "(III)I" } : Jvm.MethodName)) ∈ lw_all := lw_g (lw_at lw_m7 195 rfl) rfl
theorem q1750 : (Jvm.Cond.privateMethod ({ cls := "KnockerFacesModel", name := "sign", desc := "(III)I" } : Jvm.MethodName)) ∈ lw_tbl := lw_at lw_m7 196 rfl
theorem q1751 : (Jvm.Cond.instanceMethod ({ cls := "KnockerFacesModel", name := "sign", desc := "(III)I" } : Jvm.MethodName)) ∈ lw_all := lw_g (lw_at lw_m7 197 rfl) rfl
theorem q1752 : (Jvm.Cond.code ({ cls := "KnockerFacesModel", name := "sign", desc := "(III)I" } : Jvm.MethodName) prog_21_method_13_code (5 : Nat) (Option.some Jvm.ClassFile.FieldType.int)) ∈ lw_all := lw_g (lw_at lw_m7 198 rfl) rfl
theorem q1753 : (Jvm.Cond.methodLink "KnockerFacesModel" (221 : Nat) ({ cls := "KnockerFacesModel", name := "is", desc := "(I)Z" } : Jvm.MethodName)) ∈ lw_all := lw_g (lw_at lw_m7 199 rfl) rfl
theorem q1754 : (Jvm.Cond.privateMethod ({ cls := "KnockerFacesModel", name := "is", desc := "(I)Z" } : Jvm.MethodName)) ∈ lw_tbl := lw_at lw_m7 200 rfl
theorem q1755 : (Jvm.Cond.instanceMethod ({ cls := "KnockerFacesModel", name := "is", desc := "(I)Z" } : Jvm.MethodName)) ∈ lw_all := lw_g (lw_at lw_m7 201 rfl) rfl
theorem q1756 : (Jvm.Cond.code ({ cls := "KnockerFacesModel", name := "is", desc := "(I)Z" } : Jvm.MethodName) prog_21_method_14_code (2 : Nat) (Option.some Jvm.ClassFile.FieldType.boolean)) ∈ lw_all := lw_g (lw_at lw_m7 202 rfl) rfl
theorem q1757 : (Jvm.Cond.methodLink "KnockerFacesModel" (248 : Nat) ({ cls := "KnockerFacesModel", name := "tellOne", desc := "()V" } : Jvm.MethodName)) ∈ lw_all := lw_g (lw_at lw_m7 203 rfl) rfl
theorem q1758 : (Jvm.Cond.privateMethod ({ cls := "KnockerFacesModel", name := "tellOne", desc := "()V" } : Jvm.MethodName)) ∈ lw_tbl := lw_at lw_m7 204 rfl
theorem q1759 : (Jvm.Cond.instanceMethod ({ cls := "KnockerFacesModel", name := "tellOne", desc := "()V" } : Jvm.MethodName)) ∈ lw_all := lw_g (lw_at lw_m7 205 rfl) rfl
theorem q1760 : (Jvm.Cond.code ({ cls := "KnockerFacesModel", name := "tellOne", desc := "()V" } : Jvm.MethodName) prog_21_method_24_code (3 : Nat) (Option.none : Option Jvm.ClassFile.FieldType)) ∈ lw_all := lw_g (lw_at lw_m7 206 rfl) rfl
theorem q1761 : (Jvm.Cond.methodLink "KnockerFacesModel" (264 : Nat) ({ cls := "KnockerFacesModel", name := "roomFor", desc := "(II)V" } : Jvm.MethodName)) ∈ lw_all := lw_g (lw_at lw_m7 207 rfl) rfl
theorem q1762 : (Jvm.Cond.privateMethod ({ cls := "KnockerFacesModel", name := "roomFor", desc := "(II)V" } : Jvm.MethodName)) ∈ lw_tbl := lw_at lw_m7 208 rfl
theorem q1763 : (Jvm.Cond.instanceMethod ({ cls := "KnockerFacesModel", name := "roomFor", desc := "(II)V" } : Jvm.MethodName)) ∈ lw_all := lw_g (lw_at lw_m7 209 rfl) rfl
theorem q1764 : (Jvm.Cond.code ({ cls := "KnockerFacesModel", name := "roomFor", desc := "(II)V" } : Jvm.MethodName) prog_21_method_22_code (3 : Nat) (Option.none : Option Jvm.ClassFile.FieldType)) ∈ lw_all := lw_g (lw_at lw_m7 210 rfl) rfl
theorem q1765 : (Jvm.Cond.methodLink "KnockerFacesModel" (218 : Nat) ({ cls := "KnockerFacesModel", name := "fail", desc := "(I)V" } : Jvm.MethodName)) ∈ lw_all := lw_g (lw_at lw_m7 211 rfl) rfl
theorem q1766 : (Jvm.Cond.privateMethod ({ cls := "KnockerFacesModel", name := "fail", desc := "(I)V" } : Jvm.MethodName)) ∈ lw_tbl := lw_at lw_m7 212 rfl
theorem q1767 : (Jvm.Cond.instanceMethod ({ cls := "KnockerFacesModel", name := "fail", desc := "(I)V" } : Jvm.MethodName)) ∈ lw_all := lw_g (lw_at lw_m7 213 rfl) rfl
theorem q1768 : (Jvm.Cond.code ({ cls := "KnockerFacesModel", name := "fail", desc := "(I)V" } : Jvm.MethodName) prog_21_method_15_code (2 : Nat) (Option.none : Option Jvm.ClassFile.FieldType)) ∈ lw_all := lw_g (lw_at lw_m7 214 rfl) rfl
theorem q1769 : (Jvm.Cond.methodLink "KnockerFacesModel" (224 : Nat) ({ cls := "KnockerFacesModel", name := "goesOn", desc := "()V" } : Jvm.MethodName)) ∈ lw_all := lw_g (lw_at lw_m7 215 rfl) rfl
theorem q1770 : (Jvm.Cond.privateMethod ({ cls := "KnockerFacesModel", name := "goesOn", desc := "()V" } : Jvm.MethodName)) ∈ lw_tbl := lw_at lw_m7 216 rfl
theorem q1771 : (Jvm.Cond.instanceMethod ({ cls := "KnockerFacesModel", name := "goesOn", desc := "()V" } : Jvm.MethodName)) ∈ lw_all := lw_g (lw_at lw_m7 217 rfl) rfl
theorem q1772 : (Jvm.Cond.code ({ cls := "KnockerFacesModel", name := "goesOn", desc := "()V" } : Jvm.MethodName) prog_21_method_17_code (1 : Nat) (Option.none : Option Jvm.ClassFile.FieldType)) ∈ lw_all := lw_g (lw_at lw_m7 218 rfl) rfl
theorem q1773 : (Jvm.Cond.methodLink "KnockerFacesModel" (268 : Nat) ({ cls := "KnockerFacesModel", name := "named", desc := "()I" } : Jvm.MethodName)) ∈ lw_all := lw_g (lw_at lw_m7 219 rfl) rfl
theorem q1774 : (Jvm.Cond.privateMethod ({ cls := "KnockerFacesModel", name := "named", desc := "()I" } : Jvm.MethodName)) ∈ lw_tbl := lw_at lw_m7 220 rfl
theorem q1775 : (Jvm.Cond.instanceMethod ({ cls := "KnockerFacesModel", name := "named", desc := "()I" } : Jvm.MethodName)) ∈ lw_all := lw_g (lw_at lw_m7 221 rfl) rfl
theorem q1776 : (Jvm.Cond.code ({ cls := "KnockerFacesModel", name := "named", desc := "()I" } : Jvm.MethodName) prog_21_method_25_code (3 : Nat) (Option.some Jvm.ClassFile.FieldType.int)) ∈ lw_all := lw_g (lw_at lw_m7 222 rfl) rfl
theorem q1777 : (Jvm.Cond.methodLink "KnockerFacesModel" (261 : Nat) ({ cls := "KnockerFacesModel", name := "must", desc := "(I)V" } : Jvm.MethodName)) ∈ lw_all := lw_g (lw_at lw_m7 223 rfl) rfl
theorem q1778 : (Jvm.Cond.privateMethod ({ cls := "KnockerFacesModel", name := "must", desc := "(I)V" } : Jvm.MethodName)) ∈ lw_tbl := lw_at lw_m7 224 rfl
theorem q1779 : (Jvm.Cond.instanceMethod ({ cls := "KnockerFacesModel", name := "must", desc := "(I)V" } : Jvm.MethodName)) ∈ lw_all := lw_g (lw_at lw_m7 225 rfl) rfl
theorem q1780 : (Jvm.Cond.code ({ cls := "KnockerFacesModel", name := "must", desc := "(I)V" } : Jvm.MethodName) prog_21_method_18_code (2 : Nat) (Option.none : Option Jvm.ClassFile.FieldType)) ∈ lw_all := lw_g (lw_at lw_m7 226 rfl) rfl
theorem q1781 : (Jvm.Cond.methodLink "KnockerFacesModel" (284 : Nat) ({ cls := "KnockerFacesModel", name := "wrong", desc := "(II)V" } : Jvm.MethodName)) ∈ lw_all := lw_g (lw_at lw_m7 227 rfl) rfl
theorem q1782 : (Jvm.Cond.privateMethod ({ cls := "KnockerFacesModel", name := "wrong", desc := "(II)V" } : Jvm.MethodName)) ∈ lw_tbl := lw_at lw_m7 228 rfl
theorem q1783 : (Jvm.Cond.instanceMethod ({ cls := "KnockerFacesModel", name := "wrong", desc := "(II)V" } : Jvm.MethodName)) ∈ lw_all := lw_g (lw_at lw_m7 229 rfl) rfl
theorem q1784 : (Jvm.Cond.code ({ cls := "KnockerFacesModel", name := "wrong", desc := "(II)V" } : Jvm.MethodName) prog_21_method_16_code (4 : Nat) (Option.none : Option Jvm.ClassFile.FieldType)) ∈ lw_all := lw_g (lw_at lw_m7 230 rfl) rfl
theorem q1785 : (Jvm.Cond.methodLink "KnockerFacesModel" (257 : Nat) ({ cls := "KnockerFacesModel", name := "bounded", desc := "(II)I" } : Jvm.MethodName)) ∈ lw_all := lw_g (lw_at lw_m7 231 rfl) rfl
theorem q1786 : (Jvm.Cond.privateMethod ({ cls := "KnockerFacesModel", name := "bounded", desc := "(II)I" } : Jvm.MethodName)) ∈ lw_tbl := lw_at lw_m7 232 rfl
theorem q1787 : (Jvm.Cond.instanceMethod ({ cls := "KnockerFacesModel", name := "bounded", desc := "(II)I" } : Jvm.MethodName)) ∈ lw_all := lw_g (lw_at lw_m7 233 rfl) rfl
theorem q1788 : (Jvm.Cond.code ({ cls := "KnockerFacesModel", name := "bounded", desc := "(II)I" } : Jvm.MethodName) prog_21_method_28_code (4 : Nat) (Option.some Jvm.ClassFile.FieldType.int)) ∈ lw_all := lw_g (lw_at lw_m7 234 rfl) rfl
theorem q1789 : (Jvm.Cond.methodLink "KnockerFacesModel" (272 : Nat) ({ cls := "KnockerFacesModel", name := "endsName", desc := "(II)V" } : Jvm.MethodName)) ∈ lw_all := lw_g (lw_at lw_m7 235 rfl) rfl
theorem q1790 : (Jvm.Cond.privateMethod ({ cls := "KnockerFacesModel", name := "endsName", desc := "(II)V" } : Jvm.MethodName)) ∈ lw_tbl := lw_at lw_m7 236 rfl
theorem q1791 : (Jvm.Cond.instanceMethod ({ cls := "KnockerFacesModel", name := "endsName", desc := "(II)V" } : Jvm.MethodName)) ∈ lw_all := lw_g (lw_at lw_m7 237 rfl) rfl
theorem q1792 : (Jvm.Cond.code ({ cls := "KnockerFacesModel", name := "endsName", desc := "(II)V" } : Jvm.MethodName) prog_21_method_26_code (3 : Nat) (Option.none : Option Jvm.ClassFile.FieldType)) ∈ lw_all := lw_g (lw_at lw_m7 238 rfl) rfl
theorem q1793 : (Jvm.Cond.methodLink "KnockerFacesModel" (275 : Nat) ({ cls := "KnockerFacesModel", name := "tellRound", desc := "()V" } : Jvm.MethodName)) ∈ lw_all := lw_g (lw_at lw_m7 239 rfl) rfl
theorem q1794 : (Jvm.Cond.privateMethod ({ cls := "KnockerFacesModel", name := "tellRound", desc := "()V" } : Jvm.MethodName)) ∈ lw_tbl := lw_at lw_m8 0 rfl
theorem q1795 : (Jvm.Cond.instanceMethod ({ cls := "KnockerFacesModel", name := "tellRound", desc := "()V" } : Jvm.MethodName)) ∈ lw_all := lw_g (lw_at lw_m8 1 rfl) rfl
theorem q1796 : (Jvm.Cond.code ({ cls := "KnockerFacesModel", name := "tellRound", desc := "()V" } : Jvm.MethodName) prog_21_method_29_code (2 : Nat) (Option.none : Option Jvm.ClassFile.FieldType)) ∈ lw_all := lw_g (lw_at lw_m8 2 rfl) rfl
theorem q1797 : (Jvm.Cond.methodLink "KnockerFacesModel" (287 : Nat) ({ cls := "KnockerFacesModel", name := "known", desc := "(I)I" } : Jvm.MethodName)) ∈ lw_all := lw_g (lw_at lw_m8 3 rfl) rfl
theorem q1798 : (Jvm.Cond.privateMethod ({ cls := "KnockerFacesModel", name := "known", desc := "(I)I" } : Jvm.MethodName)) ∈ lw_tbl := lw_at lw_m8 4 rfl
theorem q1799 : (Jvm.Cond.instanceMethod ({ cls := "KnockerFacesModel", name := "known", desc := "(I)I" } : Jvm.MethodName)) ∈ lw_all := lw_g (lw_at lw_m8 5 rfl) rfl
theorem q1800 : (Jvm.Cond.code ({ cls := "KnockerFacesModel", name := "known", desc := "(I)I" } : Jvm.MethodName) prog_21_method_27_code (4 : Nat) (Option.some Jvm.ClassFile.FieldType.int)) ∈ lw_all := lw_g (lw_at lw_m8 6 rfl) rfl
theorem q1801 : (Jvm.Cond.methodLink "KnockerFacesModel" (278 : Nat) ({ cls := "KnockerFacesModel", name := "toldInt", desc := "(II)I" } : Jvm.MethodName)) ∈ lw_all := lw_g (lw_at lw_m8 7 rfl) rfl
theorem q1802 : (Jvm.Cond.privateMethod ({ cls := "KnockerFacesModel", name := "toldInt", desc := "(II)I" } : Jvm.MethodName)) ∈ lw_tbl := lw_at lw_m8 8 rfl
theorem q1803 : (Jvm.Cond.instanceMethod ({ cls := "KnockerFacesModel", name := "toldInt", desc := "(II)I" } : Jvm.MethodName)) ∈ lw_all := lw_g (lw_at lw_m8 9 rfl) rfl
theorem q1804 : (Jvm.Cond.code ({ cls := "KnockerFacesModel", name := "toldInt", desc := "(II)I" } : Jvm.MethodName) prog_21_method_23_code (4 : Nat) (Option.some Jvm.ClassFile.FieldType.int)) ∈ lw_all := lw_g (lw_at lw_m8 10 rfl) rfl
theorem q1805 : (Jvm.Cond.methodLink "KnockerFacesModel" (281 : Nat) ({ cls := "KnockerFacesModel", name := "tellLaw", desc := "(I)V" } : Jvm.MethodName)) ∈ lw_all := lw_g (lw_at lw_m8 11 rfl) rfl
theorem q1806 : (Jvm.Cond.privateMethod ({ cls := "KnockerFacesModel", name := "tellLaw", desc := "(I)V" } : Jvm.MethodName)) ∈ lw_tbl := lw_at lw_m8 12 rfl
theorem q1807 : (Jvm.Cond.instanceMethod ({ cls := "KnockerFacesModel", name := "tellLaw", desc := "(I)V" } : Jvm.MethodName)) ∈ lw_all := lw_g (lw_at lw_m8 13 rfl) rfl
theorem q1808 : (Jvm.Cond.code ({ cls := "KnockerFacesModel", name := "tellLaw", desc := "(I)V" } : Jvm.MethodName) prog_21_method_30_code (4 : Nat) (Option.none : Option Jvm.ClassFile.FieldType)) ∈ lw_all := lw_g (lw_at lw_m8 14 rfl) rfl
theorem q1809 : (Jvm.Cond.methodLink "KnockerFacesModel" (290 : Nat) ({ cls := "KnockerFacesModel", name := "expression", desc := "()V" } : Jvm.MethodName)) ∈ lw_all := lw_g (lw_at lw_m8 15 rfl) rfl
theorem q1810 : (Jvm.Cond.privateMethod ({ cls := "KnockerFacesModel", name := "expression", desc := "()V" } : Jvm.MethodName)) ∈ lw_tbl := lw_at lw_m8 16 rfl
theorem q1811 : (Jvm.Cond.instanceMethod ({ cls := "KnockerFacesModel", name := "expression", desc := "()V" } : Jvm.MethodName)) ∈ lw_all := lw_g (lw_at lw_m8 17 rfl) rfl
theorem q1812 : (Jvm.Cond.code ({ cls := "KnockerFacesModel", name := "expression", desc := "()V" } : Jvm.MethodName) prog_21_method_34_code (3 : Nat) (Option.none : Option Jvm.ClassFile.FieldType)) ∈ lw_all := lw_g (lw_at lw_m8 18 rfl) rfl
theorem q1813 : (Jvm.Cond.methodLink "KnockerFacesModel" (302 : Nat) ({ cls := "KnockerFacesModel", name := "unit", desc := "()V" } : Jvm.MethodName)) ∈ lw_all := lw_g (lw_at lw_m8 19 rfl) rfl
theorem q1814 : (Jvm.Cond.privateMethod ({ cls := "KnockerFacesModel", name := "unit", desc := "()V" } : Jvm.MethodName)) ∈ lw_tbl := lw_at lw_m8 20 rfl
theorem q1815 : (Jvm.Cond.instanceMethod ({ cls := "KnockerFacesModel", name := "unit", desc := "()V" } : Jvm.MethodName)) ∈ lw_all := lw_g (lw_at lw_m8 21 rfl) rfl
theorem q1816 : (Jvm.Cond.code ({ cls := "KnockerFacesModel", name := "unit", desc := "()V" } : Jvm.MethodName) prog_21_method_35_code (1 : Nat) (Option.none : Option Jvm.ClassFile.FieldType)) ∈ lw_all := lw_g (lw_at lw_m8 22 rfl) rfl
theorem q1817 : (Jvm.Cond.methodLink "KnockerFacesModel" (299 : Nat) ({ cls := "KnockerFacesModel", name := "emit", desc := "(II)V" } : Jvm.MethodName)) ∈ lw_all := lw_g (lw_at lw_m8 23 rfl) rfl
theorem q1818 : (Jvm.Cond.privateMethod ({ cls := "KnockerFacesModel", name := "emit", desc := "(II)V" } : Jvm.MethodName)) ∈ lw_tbl := lw_at lw_m8 24 rfl
theorem q1819 : (Jvm.Cond.instanceMethod ({ cls := "KnockerFacesModel", name := "emit", desc := "(II)V" } : Jvm.MethodName)) ∈ lw_all := lw_g (lw_at lw_m8 25 rfl) rfl
theorem q1820 : (Jvm.Cond.code ({ cls := "KnockerFacesModel", name := "emit", desc := "(II)V" } : Jvm.MethodName) prog_21_method_32_code (3 : Nat) (Option.none : Option Jvm.ClassFile.FieldType)) ∈ lw_all := lw_g (lw_at lw_m8 26 rfl) rfl
theorem q1821 : (Jvm.Cond.methodLink "KnockerFacesModel" (305 : Nat) ({ cls := "KnockerFacesModel", name := "comesOut", desc := "(Z)V" } : Jvm.MethodName)) ∈ lw_all := lw_g (lw_at lw_m8 27 rfl) rfl
theorem q1822 : (Jvm.Cond.privateMethod ({ cls := "KnockerFacesModel", name := "comesOut", desc := "(Z)V" } : Jvm.MethodName)) ∈ lw_tbl := lw_at lw_m8 28 rfl
theorem q1823 : (Jvm.Cond.instanceMethod ({ cls := "KnockerFacesModel", name := "comesOut", desc := "(Z)V" } : Jvm.MethodName)) ∈ lw_all := lw_g (lw_at lw_m8 29 rfl) rfl
theorem q1824 : (Jvm.Cond.code ({ cls := "KnockerFacesModel", name := "comesOut", desc := "(Z)V" } : Jvm.MethodName) prog_21_method_33_code (3 : Nat) (Option.none : Option Jvm.ClassFile.FieldType)) ∈ lw_all := lw_g (lw_at lw_m8 30 rfl) rfl
theorem q1825 : (Jvm.Cond.methodLink "KnockerFacesModel" (293 : Nat) ({ cls := "KnockerFacesModel", name := "term", desc := "()V" } : Jvm.MethodName)) ∈ lw_all := lw_g (lw_at lw_m8 31 rfl) rfl
theorem q1826 : (Jvm.Cond.privateMethod ({ cls := "KnockerFacesModel", name := "term", desc := "()V" } : Jvm.MethodName)) ∈ lw_tbl := lw_at lw_m8 32 rfl
theorem q1827 : (Jvm.Cond.instanceMethod ({ cls := "KnockerFacesModel", name := "term", desc := "()V" } : Jvm.MethodName)) ∈ lw_all := lw_g (lw_at lw_m8 33 rfl) rfl
theorem q1828 : (Jvm.Cond.code ({ cls := "KnockerFacesModel", name := "term", desc := "()V" } : Jvm.MethodName) prog_21_method_31_code (1 : Nat) (Option.none : Option Jvm.ClassFile.FieldType)) ∈ lw_all := lw_g (lw_at lw_m8 34 rfl) rfl
theorem q1830 : (Jvm.Cond.instanceMethod ({ cls := "KnockerFacesModel", name := "place", desc := "()I" } : Jvm.MethodName)) ∈ lw_all := lw_g (lw_at lw_m8 36 rfl) rfl
theorem q1831 : (Jvm.Cond.selects "KnockerFacesModel" ({ cls := "KnockerFacesModel", name := "place", desc := "()I" } : Jvm.MethodName) ({ cls := "KnockerFacesModel", name := "place", desc := "()I" } : Jvm.MethodName)) ∈ lw_all := lw_g (lw_at lw_m8 37 rfl) rfl
theorem q1832 : (Jvm.Cond.code ({ cls := "KnockerFacesModel", name := "place", desc := "()I" } : Jvm.MethodName) prog_21_method_21_code (1 : Nat) (Option.some Jvm.ClassFile.FieldType.int)) ∈ lw_all := lw_g (lw_at lw_m8 38 rfl) rfl
theorem q1834 : (Jvm.Cond.instanceMethod ({ cls := "KnockerFacesModel", name := "door", desc := "(II)I" } : Jvm.MethodName)) ∈ lw_all := lw_g (lw_at lw_m8 40 rfl) rfl
theorem q1835 : (Jvm.Cond.selects "KnockerFacesModel" ({ cls := "KnockerFacesModel", name := "door", desc := "(II)I" } : Jvm.MethodName) ({ cls := "KnockerFacesModel", name := "door", desc := "(II)I" } : Jvm.MethodName)) ∈ lw_all := lw_g (lw_at lw_m8 41 rfl) rfl
theorem q1836 : (Jvm.Cond.code ({ cls := "KnockerFacesModel", name := "door", desc := "(II)I" } : Jvm.MethodName) prog_21_method_67_code (3 : Nat) (Option.some Jvm.ClassFile.FieldType.int)) ∈ lw_all := lw_g (lw_at lw_m8 42 rfl) rfl
theorem q1837 : (Jvm.Cond.methodLink "KnockerFacesModel" (387 : Nat) ({ cls := "KnockerFacesModel", name := "isDoor", desc := "(I)Z" } : Jvm.MethodName)) ∈ lw_all := lw_g (lw_at lw_m8 43 rfl) rfl
theorem q1838 : (Jvm.Cond.privateMethod ({ cls := "KnockerFacesModel", name := "isDoor", desc := "(I)Z" } : Jvm.MethodName)) ∈ lw_tbl := lw_at lw_m8 44 rfl
theorem q1839 : (Jvm.Cond.instanceMethod ({ cls := "KnockerFacesModel", name := "isDoor", desc := "(I)Z" } : Jvm.MethodName)) ∈ lw_all := lw_g (lw_at lw_m8 45 rfl) rfl
theorem q1840 : (Jvm.Cond.code ({ cls := "KnockerFacesModel", name := "isDoor", desc := "(I)Z" } : Jvm.MethodName) prog_21_method_41_code (2 : Nat) (Option.some Jvm.ClassFile.FieldType.boolean)) ∈ lw_all := lw_g (lw_at lw_m8 46 rfl) rfl
theorem q1841 : (Jvm.Cond.methodLink "KnockerFacesModel" (313 : Nat) ({ cls := "KnockerFacesModel", name := "in", desc := "(III)Z" } : Jvm.MethodName)) ∈ lw_all := lw_g (lw_at lw_m8 47 rfl) rfl
theorem q1842 : (Jvm.Cond.static ({ cls := "KnockerFacesModel", name := "in", desc := "(III)Z" } : Jvm.MethodName)) ∈ lw_all := lw_g (lw_at lw_m8 48 rfl) rfl
theorem q1843 : (Jvm.Cond.code ({ cls := "KnockerFacesModel", name := "in", desc := "(III)Z" } : Jvm.MethodName) prog_21_method_37_code (3 : Nat) (Option.some Jvm.ClassFile.FieldType.boolean)) ∈ lw_all := lw_g (lw_at lw_m8 49 rfl) rfl
theorem q1844 : (Jvm.Cond.methodLink "KnockerFacesModel" (323 : Nat) ({ cls := "KnockerFacesModel", name := "copies", desc := "()V" } : Jvm.MethodName)) ∈ lw_all := lw_g (lw_at lw_m8 50 rfl) rfl
theorem q1845 : (Jvm.Cond.privateMethod ({ cls := "KnockerFacesModel", name := "copies", desc := "()V" } : Jvm.MethodName)) ∈ lw_tbl := lw_at lw_m8 51 rfl
theorem q1846 : (Jvm.Cond.instanceMethod ({ cls := "KnockerFacesModel", name := "copies", desc := "()V" } : Jvm.MethodName)) ∈ lw_all := lw_g (lw_at lw_m8 52 rfl) rfl
theorem q1847 : (Jvm.Cond.code ({ cls := "KnockerFacesModel", name := "copies", desc := "()V" } : Jvm.MethodName) prog_21_method_46_code (2 : Nat) (Option.none : Option Jvm.ClassFile.FieldType)) ∈ lw_all := lw_g (lw_at lw_m8 53 rfl) rfl
theorem q1848 : (Jvm.Cond.methodLink "KnockerFacesModel" (390 : Nat) ({ cls := "KnockerFacesModel", name := "knownBy", desc := "(I)I" } : Jvm.MethodName)) ∈ lw_all := lw_g (lw_at lw_m8 54 rfl) rfl
theorem q1849 : (Jvm.Cond.privateMethod ({ cls := "KnockerFacesModel", name := "knownBy", desc := "(I)I" } : Jvm.MethodName)) ∈ lw_tbl := lw_at lw_m8 55 rfl
theorem q1850 : (Jvm.Cond.instanceMethod ({ cls := "KnockerFacesModel", name := "knownBy", desc := "(I)I" } : Jvm.MethodName)) ∈ lw_all := lw_g (lw_at lw_m8 56 rfl) rfl
theorem q1851 : (Jvm.Cond.code ({ cls := "KnockerFacesModel", name := "knownBy", desc := "(I)I" } : Jvm.MethodName) prog_21_method_55_code (6 : Nat) (Option.some Jvm.ClassFile.FieldType.int)) ∈ lw_all := lw_g (lw_at lw_m8 57 rfl) rfl
theorem q1852 : (Jvm.Cond.methodLink "KnockerFacesModel" (342 : Nat) ({ cls := "KnockerFacesModel", name := "unlikeTo", desc := "(II)I" } : Jvm.MethodName)) ∈ lw_all := lw_g (lw_at lw_m8 58 rfl) rfl
theorem q1853 : (Jvm.Cond.privateMethod ({ cls := "KnockerFacesModel", name := "unlikeTo", desc := "(II)I" } : Jvm.MethodName)) ∈ lw_tbl := lw_at lw_m8 59 rfl
theorem q1854 : (Jvm.Cond.instanceMethod ({ cls := "KnockerFacesModel", name := "unlikeTo", desc := "(II)I" } : Jvm.MethodName)) ∈ lw_all := lw_g (lw_at lw_m8 60 rfl) rfl
theorem q1855 : (Jvm.Cond.code ({ cls := "KnockerFacesModel", name := "unlikeTo", desc := "(II)I" } : Jvm.MethodName) prog_21_method_53_code (5 : Nat) (Option.some Jvm.ClassFile.FieldType.int)) ∈ lw_all := lw_g (lw_at lw_m8 61 rfl) rfl
theorem q1856 : (Jvm.Cond.methodLink "KnockerFacesModel" (333 : Nat) ({ cls := "KnockerFacesModel", name := "facePart", desc := "(II)I" } : Jvm.MethodName)) ∈ lw_all := lw_g (lw_at lw_m8 62 rfl) rfl
theorem q1857 : (Jvm.Cond.privateMethod ({ cls := "KnockerFacesModel", name := "facePart", desc := "(II)I" } : Jvm.MethodName)) ∈ lw_tbl := lw_at lw_m8 63 rfl
theorem q1858 : (Jvm.Cond.instanceMethod ({ cls := "KnockerFacesModel", name := "facePart", desc := "(II)I" } : Jvm.MethodName)) ∈ lw_all := lw_g (lw_at lw_m8 64 rfl) rfl
theorem q1859 : (Jvm.Cond.code ({ cls := "KnockerFacesModel", name := "facePart", desc := "(II)I" } : Jvm.MethodName) prog_21_method_51_code (3 : Nat) (Option.some Jvm.ClassFile.FieldType.int)) ∈ lw_all := lw_g (lw_at lw_m8 65 rfl) rfl
theorem q1860 : (Jvm.Cond.methodLink "KnockerFacesModel" (336 : Nat) ({ cls := "KnockerFacesModel", name := "off", desc := "(II)I" } : Jvm.MethodName)) ∈ lw_all := lw_g (lw_at lw_m8 66 rfl) rfl
theorem q1861 : (Jvm.Cond.static ({ cls := "KnockerFacesModel", name := "off", desc := "(II)I" } : Jvm.MethodName)) ∈ lw_all := lw_g (lw_at lw_m8 67 rfl) rfl
theorem q1862 : (Jvm.Cond.code ({ cls := "KnockerFacesModel", name := "off", desc := "(II)I" } : Jvm.MethodName) prog_21_method_40_code (2 : Nat) (Option.some Jvm.ClassFile.FieldType.int)) ∈ lw_all := lw_g (lw_at lw_m8 68 rfl) rfl
theorem q1863 : (Jvm.Cond.methodLink "KnockerFacesModel" (357 : Nat) ({ cls := "KnockerFacesModel", name := "unlikeFirst", desc := "(I)I" } : Jvm.MethodName)) ∈ lw_all := lw_g (lw_at lw_m8 69 rfl) rfl
theorem q1864 : (Jvm.Cond.privateMethod ({ cls := "KnockerFacesModel", name := "unlikeFirst", desc := "(I)I" } : Jvm.MethodName)) ∈ lw_tbl := lw_at lw_m8 70 rfl
theorem q1865 : (Jvm.Cond.instanceMethod ({ cls := "KnockerFacesModel", name := "unlikeFirst", desc := "(I)I" } : Jvm.MethodName)) ∈ lw_all := lw_g (lw_at lw_m8 71 rfl) rfl
theorem q1866 : (Jvm.Cond.code ({ cls := "KnockerFacesModel", name := "unlikeFirst", desc := "(I)I" } : Jvm.MethodName) prog_21_method_54_code (4 : Nat) (Option.some Jvm.ClassFile.FieldType.int)) ∈ lw_all := lw_g (lw_at lw_m8 72 rfl) rfl
theorem q1867 : (Jvm.Cond.methodLink "KnockerFacesModel" (339 : Nat) ({ cls := "KnockerFacesModel", name := "firstPart", desc := "(II)I" } : Jvm.MethodName)) ∈ lw_all := lw_g (lw_at lw_m8 73 rfl) rfl
theorem q1868 : (Jvm.Cond.privateMethod ({ cls := "KnockerFacesModel", name := "firstPart", desc := "(II)I" } : Jvm.MethodName)) ∈ lw_tbl := lw_at lw_m8 74 rfl
theorem q1869 : (Jvm.Cond.instanceMethod ({ cls := "KnockerFacesModel", name := "firstPart", desc := "(II)I" } : Jvm.MethodName)) ∈ lw_all := lw_g (lw_at lw_m8 75 rfl) rfl
theorem q1870 : (Jvm.Cond.code ({ cls := "KnockerFacesModel", name := "firstPart", desc := "(II)I" } : Jvm.MethodName) prog_21_method_52_code (3 : Nat) (Option.some Jvm.ClassFile.FieldType.int)) ∈ lw_all := lw_g (lw_at lw_m8 76 rfl) rfl
theorem q1872 : (Jvm.Cond.instanceMethod ({ cls := "KnockerFacesModel", name := "caller", desc := "(II)I" } : Jvm.MethodName)) ∈ lw_all := lw_g (lw_at lw_m8 78 rfl) rfl
theorem q1873 : (Jvm.Cond.selects "KnockerFacesModel" ({ cls := "KnockerFacesModel", name := "caller", desc := "(II)I" } : Jvm.MethodName) ({ cls := "KnockerFacesModel", name := "caller", desc := "(II)I" } : Jvm.MethodName)) ∈ lw_all := lw_g (lw_at lw_m8 79 rfl) rfl
theorem q1874 : (Jvm.Cond.code ({ cls := "KnockerFacesModel", name := "caller", desc := "(II)I" } : Jvm.MethodName) prog_21_method_68_code (5 : Nat) (Option.some Jvm.ClassFile.FieldType.int)) ∈ lw_all := lw_g (lw_at lw_m8 80 rfl) rfl
theorem q1875 : (Jvm.Cond.methodLink "KnockerFacesModel" (393 : Nat) ({ cls := "KnockerFacesModel", name := "isCaller", desc := "(I)Z" } : Jvm.MethodName)) ∈ lw_all := lw_g (lw_at lw_m8 81 rfl) rfl
theorem q1876 : (Jvm.Cond.privateMethod ({ cls := "KnockerFacesModel", name := "isCaller", desc := "(I)Z" } : Jvm.MethodName)) ∈ lw_tbl := lw_at lw_m8 82 rfl
theorem q1877 : (Jvm.Cond.instanceMethod ({ cls := "KnockerFacesModel", name := "isCaller", desc := "(I)Z" } : Jvm.MethodName)) ∈ lw_all := lw_g (lw_at lw_m8 83 rfl) rfl
theorem q1878 : (Jvm.Cond.code ({ cls := "KnockerFacesModel", name := "isCaller", desc := "(I)Z" } : Jvm.MethodName) prog_21_method_42_code (2 : Nat) (Option.some Jvm.ClassFile.FieldType.boolean)) ∈ lw_all := lw_g (lw_at lw_m8 84 rfl) rfl
theorem q1880 : (Jvm.Cond.instanceMethod ({ cls := "KnockerFacesModel", name := "round", desc := "(II)I" } : Jvm.MethodName)) ∈ lw_all := lw_g (lw_at lw_m8 86 rfl) rfl
theorem q1881 : (Jvm.Cond.selects "KnockerFacesModel" ({ cls := "KnockerFacesModel", name := "round", desc := "(II)I" } : Jvm.MethodName) ({ cls := "KnockerFacesModel", name := "round", desc := "(II)I" } : Jvm.MethodName)) ∈ lw_all := lw_g (lw_at lw_m8 87 rfl) rfl
theorem q1882 : (Jvm.Cond.code ({ cls := "KnockerFacesModel", name := "round", desc := "(II)I" } : Jvm.MethodName) prog_21_method_69_code (4 : Nat) (Option.some Jvm.ClassFile.FieldType.int)) ∈ lw_all := lw_g (lw_at lw_m8 88 rfl) rfl
theorem q1883 : (Jvm.Cond.methodLink "KnockerFacesModel" (396 : Nat) ({ cls := "KnockerFacesModel", name := "isRound", desc := "(I)Z" } : Jvm.MethodName)) ∈ lw_all := lw_g (lw_at lw_m8 89 rfl) rfl
theorem q1884 : (Jvm.Cond.privateMethod ({ cls := "KnockerFacesModel", name := "isRound", desc := "(I)Z" } : Jvm.MethodName)) ∈ lw_tbl := lw_at lw_m8 90 rfl
theorem q1885 : (Jvm.Cond.instanceMethod ({ cls := "KnockerFacesModel", name := "isRound", desc := "(I)Z" } : Jvm.MethodName)) ∈ lw_all := lw_g (lw_at lw_m8 91 rfl) rfl
theorem q1886 : (Jvm.Cond.code ({ cls := "KnockerFacesModel", name := "isRound", desc := "(I)Z" } : Jvm.MethodName) prog_21_method_43_code (2 : Nat) (Option.some Jvm.ClassFile.FieldType.boolean)) ∈ lw_all := lw_g (lw_at lw_m8 92 rfl) rfl
theorem q1887 : (Jvm.Cond.methodLink "KnockerFacesModel" (370 : Nat) ({ cls := "KnockerFacesModel", name := "isDue", desc := "(II)Z" } : Jvm.MethodName)) ∈ lw_all := lw_g (lw_at lw_m8 93 rfl) rfl
theorem q1888 : (Jvm.Cond.privateMethod ({ cls := "KnockerFacesModel", name := "isDue", desc := "(II)Z" } : Jvm.MethodName)) ∈ lw_tbl := lw_at lw_m8 94 rfl
theorem q1889 : (Jvm.Cond.instanceMethod ({ cls := "KnockerFacesModel", name := "isDue", desc := "(II)Z" } : Jvm.MethodName)) ∈ lw_all := lw_g (lw_at lw_m8 95 rfl) rfl
theorem q1890 : (Jvm.Cond.code ({ cls := "KnockerFacesModel", name := "isDue", desc := "(II)Z" } : Jvm.MethodName) prog_21_method_63_code (4 : Nat) (Option.some Jvm.ClassFile.FieldType.boolean)) ∈ lw_all := lw_g (lw_at lw_m8 96 rfl) rfl
theorem q1892 : (Jvm.Cond.instanceMethod ({ cls := "KnockerFacesModel", name := "unlike", desc := "(II)I" } : Jvm.MethodName)) ∈ lw_all := lw_g (lw_at lw_m8 98 rfl) rfl
theorem q1893 : (Jvm.Cond.selects "KnockerFacesModel" ({ cls := "KnockerFacesModel", name := "unlike", desc := "(II)I" } : Jvm.MethodName) ({ cls := "KnockerFacesModel", name := "unlike", desc := "(II)I" } : Jvm.MethodName)) ∈ lw_all := lw_g (lw_at lw_m8 99 rfl) rfl
theorem q1894 : (Jvm.Cond.code ({ cls := "KnockerFacesModel", name := "unlike", desc := "(II)I" } : Jvm.MethodName) prog_21_method_71_code (3 : Nat) (Option.some Jvm.ClassFile.FieldType.int)) ∈ lw_all := lw_g (lw_at lw_m8 100 rfl) rfl
theorem q1895 : (Jvm.Cond.methodLink "KnockerFacesModel" (399 : Nat) ({ cls := "KnockerFacesModel", name := "areBoth", desc := "(II)Z" } : Jvm.MethodName)) ∈ lw_all := lw_g (lw_at lw_m8 101 rfl) rfl
theorem q1896 : (Jvm.Cond.privateMethod ({ cls := "KnockerFacesModel", name := "areBoth", desc := "(II)Z" } : Jvm.MethodName)) ∈ lw_tbl := lw_at lw_m8 102 rfl
theorem q1897 : (Jvm.Cond.instanceMethod ({ cls := "KnockerFacesModel", name := "areBoth", desc := "(II)Z" } : Jvm.MethodName)) ∈ lw_all := lw_g (lw_at lw_m8 103 rfl) rfl
theorem q1898 : (Jvm.Cond.code ({ cls := "KnockerFacesModel", name := "areBoth", desc := "(II)Z" } : Jvm.MethodName) prog_21_method_70_code (3 : Nat) (Option.some Jvm.ClassFile.FieldType.boolean)) ∈ lw_all := lw_g (lw_at lw_m8 104 rfl) rfl
theorem q1900 : (Jvm.Cond.instanceMethod ({ cls := "KnockerFacesModel", name := "tells", desc := "(III)I" } : Jvm.MethodName)) ∈ lw_all := lw_g (lw_at lw_m8 106 rfl) rfl
theorem q1901 : (Jvm.Cond.selects "KnockerFacesModel" ({ cls := "KnockerFacesModel", name := "tells", desc := "(III)I" } : Jvm.MethodName) ({ cls := "KnockerFacesModel", name := "tells", desc := "(III)I" } : Jvm.MethodName)) ∈ lw_all := lw_g (lw_at lw_m8 107 rfl) rfl
theorem q1902 : (Jvm.Cond.code ({ cls := "KnockerFacesModel", name := "tells", desc := "(III)I" } : Jvm.MethodName) prog_21_method_72_code (4 : Nat) (Option.some Jvm.ClassFile.FieldType.int)) ∈ lw_all := lw_g (lw_at lw_m8 108 rfl) rfl
theorem q1903 : (Jvm.Cond.methodLink "KnockerFacesModel" (360 : Nat) ({ cls := "KnockerFacesModel", name := "paysOf", desc := "(II)I" } : Jvm.MethodName)) ∈ lw_all := lw_g (lw_at lw_m8 109 rfl) rfl
theorem q1904 : (Jvm.Cond.privateMethod ({ cls := "KnockerFacesModel", name := "paysOf", desc := "(II)I" } : Jvm.MethodName)) ∈ lw_tbl := lw_at lw_m8 110 rfl
theorem q1905 : (Jvm.Cond.instanceMethod ({ cls := "KnockerFacesModel", name := "paysOf", desc := "(II)I" } : Jvm.MethodName)) ∈ lw_all := lw_g (lw_at lw_m8 111 rfl) rfl
theorem q1906 : (Jvm.Cond.code ({ cls := "KnockerFacesModel", name := "paysOf", desc := "(II)I" } : Jvm.MethodName) prog_21_method_59_code (3 : Nat) (Option.some Jvm.ClassFile.FieldType.int)) ∈ lw_all := lw_g (lw_at lw_m8 112 rfl) rfl
theorem q1907 : (Jvm.Cond.methodLink "KnockerFacesModel" (348 : Nat) ({ cls := "KnockerFacesModel", name := "looks", desc := "(II)V" } : Jvm.MethodName)) ∈ lw_all := lw_g (lw_at lw_m8 113 rfl) rfl
theorem q1908 : (Jvm.Cond.privateMethod ({ cls := "KnockerFacesModel", name := "looks", desc := "(II)V" } : Jvm.MethodName)) ∈ lw_tbl := lw_at lw_m8 114 rfl
theorem q1909 : (Jvm.Cond.instanceMethod ({ cls := "KnockerFacesModel", name := "looks", desc := "(II)V" } : Jvm.MethodName)) ∈ lw_all := lw_g (lw_at lw_m8 115 rfl) rfl
theorem q1910 : (Jvm.Cond.code ({ cls := "KnockerFacesModel", name := "looks", desc := "(II)V" } : Jvm.MethodName) prog_21_method_56_code (3 : Nat) (Option.none : Option Jvm.ClassFile.FieldType)) ∈ lw_all := lw_g (lw_at lw_m8 116 rfl) rfl
theorem q1911 : (Jvm.Cond.methodLink "KnockerFacesModel" (351 : Nat) ({ cls := "KnockerFacesModel", name := "lawTells", desc := "(II)I" } : Jvm.MethodName)) ∈ lw_all := lw_g (lw_at lw_m8 117 rfl) rfl
theorem q1912 : (Jvm.Cond.privateMethod ({ cls := "KnockerFacesModel", name := "lawTells", desc := "(II)I" } : Jvm.MethodName)) ∈ lw_tbl := lw_at lw_m8 118 rfl
theorem q1913 : (Jvm.Cond.instanceMethod ({ cls := "KnockerFacesModel", name := "lawTells", desc := "(II)I" } : Jvm.MethodName)) ∈ lw_all := lw_g (lw_at lw_m8 119 rfl) rfl
theorem q1914 : (Jvm.Cond.code ({ cls := "KnockerFacesModel", name := "lawTells", desc := "(II)I" } : Jvm.MethodName) prog_21_method_57_code (7 : Nat) (Option.some Jvm.ClassFile.FieldType.int)) ∈ lw_all := lw_g (lw_at lw_m8 120 rfl) rfl
theorem q1915 : (Jvm.Cond.methodLink "KnockerFacesModel" (345 : Nat) ({ cls := "KnockerFacesModel", name := "termOf", desc := "(II)I" } : Jvm.MethodName)) ∈ lw_all := lw_g (lw_at lw_m8 121 rfl) rfl
theorem q1916 : (Jvm.Cond.privateMethod ({ cls := "KnockerFacesModel", name := "termOf", desc := "(II)I" } : Jvm.MethodName)) ∈ lw_tbl := lw_at lw_m8 122 rfl
theorem q1917 : (Jvm.Cond.instanceMethod ({ cls := "KnockerFacesModel", name := "termOf", desc := "(II)I" } : Jvm.MethodName)) ∈ lw_all := lw_g (lw_at lw_m8 123 rfl) rfl
theorem q1918 : (Jvm.Cond.code ({ cls := "KnockerFacesModel", name := "termOf", desc := "(II)I" } : Jvm.MethodName) prog_21_method_36_code (8 : Nat) (Option.some Jvm.ClassFile.FieldType.int)) ∈ lw_all := lw_g (lw_at lw_m8 124 rfl) rfl
theorem q1919 : (Jvm.Cond.methodLink "KnockerFacesModel" (354 : Nat) ({ cls := "KnockerFacesModel", name := "within", desc := "(III)I" } : Jvm.MethodName)) ∈ lw_all := lw_g (lw_at lw_m8 125 rfl) rfl
theorem q1920 : (Jvm.Cond.static ({ cls := "KnockerFacesModel", name := "within", desc := "(III)I" } : Jvm.MethodName)) ∈ lw_all := lw_g (lw_at lw_m8 126 rfl) rfl
theorem q1921 : (Jvm.Cond.code ({ cls := "KnockerFacesModel", name := "within", desc := "(III)I" } : Jvm.MethodName) prog_21_method_38_code (3 : Nat) (Option.some Jvm.ClassFile.FieldType.int)) ∈ lw_all := lw_g (lw_at lw_m8 127 rfl) rfl
theorem q1922 : (Jvm.Cond.methodLink "KnockerFacesModel" (363 : Nat) ({ cls := "KnockerFacesModel", name := "givesOf", desc := "(III)I" } : Jvm.MethodName)) ∈ lw_all := lw_g (lw_at lw_m8 128 rfl) rfl
theorem q1923 : (Jvm.Cond.privateMethod ({ cls := "KnockerFacesModel", name := "givesOf", desc := "(III)I" } : Jvm.MethodName)) ∈ lw_tbl := lw_at lw_m8 129 rfl
theorem q1924 : (Jvm.Cond.instanceMethod ({ cls := "KnockerFacesModel", name := "givesOf", desc := "(III)I" } : Jvm.MethodName)) ∈ lw_all := lw_g (lw_at lw_m8 130 rfl) rfl
theorem q1925 : (Jvm.Cond.code ({ cls := "KnockerFacesModel", name := "givesOf", desc := "(III)I" } : Jvm.MethodName) prog_21_method_58_code (5 : Nat) (Option.some Jvm.ClassFile.FieldType.int)) ∈ lw_all := lw_g (lw_at lw_m8 131 rfl) rfl
theorem q1927 : (Jvm.Cond.instanceMethod ({ cls := "KnockerFacesModel", name := "lift", desc := "(II)Z" } : Jvm.MethodName)) ∈ lw_all := lw_g (lw_at lw_m8 133 rfl) rfl
theorem q1928 : (Jvm.Cond.selects "KnockerFacesModel" ({ cls := "KnockerFacesModel", name := "lift", desc := "(II)Z" } : Jvm.MethodName) ({ cls := "KnockerFacesModel", name := "lift", desc := "(II)Z" } : Jvm.MethodName)) ∈ lw_all := lw_g (lw_at lw_m8 134 rfl) rfl
theorem q1929 : (Jvm.Cond.code ({ cls := "KnockerFacesModel", name := "lift", desc := "(II)Z" } : Jvm.MethodName) prog_21_method_74_code (3 : Nat) (Option.some Jvm.ClassFile.FieldType.boolean)) ∈ lw_all := lw_g (lw_at lw_m8 135 rfl) rfl
theorem q1930 : (Jvm.Cond.methodLink "KnockerFacesModel" (374 : Nat) ({ cls := "KnockerFacesModel", name := "lifted", desc := "(II)V" } : Jvm.MethodName)) ∈ lw_all := lw_g (lw_at lw_m8 136 rfl) rfl
theorem q1931 : (Jvm.Cond.privateMethod ({ cls := "KnockerFacesModel", name := "lifted", desc := "(II)V" } : Jvm.MethodName)) ∈ lw_tbl := lw_at lw_m8 137 rfl
theorem q1932 : (Jvm.Cond.instanceMethod ({ cls := "KnockerFacesModel", name := "lifted", desc := "(II)V" } : Jvm.MethodName)) ∈ lw_all := lw_g (lw_at lw_m8 138 rfl) rfl
theorem q1933 : (Jvm.Cond.code ({ cls := "KnockerFacesModel", name := "lifted", desc := "(II)V" } : Jvm.MethodName) prog_21_method_62_code (5 : Nat) (Option.none : Option Jvm.ClassFile.FieldType)) ∈ lw_all := lw_g (lw_at lw_m8 139 rfl) rfl
theorem q1934 : (Jvm.Cond.methodLink "KnockerFacesModel" (366 : Nat) ({ cls := "KnockerFacesModel", name := "towardsBy", desc := "(III)I" } : Jvm.MethodName)) ∈ lw_all := lw_g (lw_at lw_m8 140 rfl) rfl
theorem q1935 : (Jvm.Cond.static ({ cls := "KnockerFacesModel", name := "towardsBy", desc := "(III)I" } : Jvm.MethodName)) ∈ lw_all := lw_g (lw_at lw_m8 141 rfl) rfl
theorem q1936 : (Jvm.Cond.code ({ cls := "KnockerFacesModel", name := "towardsBy", desc := "(III)I" } : Jvm.MethodName) prog_21_method_61_code (3 : Nat) (Option.some Jvm.ClassFile.FieldType.int)) ∈ lw_all := lw_g (lw_at lw_m8 142 rfl) rfl
theorem q1937 : (Jvm.Cond.constant "KnockerFacesModel" (369 : Nat) (999999 : Int32)) ∈ lw_all := lw_g (lw_at lw_m8 143 rfl) rfl
theorem q1938 : (Jvm.Cond.methodLink "KnockerFacesModel" (402 : Nat) ({ cls := "KnockerFacesModel", name := "records", desc := "()V" } : Jvm.MethodName)) ∈ lw_all := lw_g (lw_at lw_m8 144 rfl) rfl
theorem q1939 : (Jvm.Cond.privateMethod ({ cls := "KnockerFacesModel", name := "records", desc := "()V" } : Jvm.MethodName)) ∈ lw_tbl := lw_at lw_m8 145 rfl
theorem q1940 : (Jvm.Cond.instanceMethod ({ cls := "KnockerFacesModel", name := "records", desc := "()V" } : Jvm.MethodName)) ∈ lw_all := lw_g (lw_at lw_m8 146 rfl) rfl
theorem q1941 : (Jvm.Cond.code ({ cls := "KnockerFacesModel", name := "records", desc := "()V" } : Jvm.MethodName) prog_21_method_73_code (2 : Nat) (Option.none : Option Jvm.ClassFile.FieldType)) ∈ lw_all := lw_g (lw_at lw_m8 147 rfl) rfl
theorem q1943 : (Jvm.Cond.instanceMethod ({ cls := "KnockerFacesModel", name := "polish", desc := "(I)Z" } : Jvm.MethodName)) ∈ lw_all := lw_g (lw_at lw_m8 149 rfl) rfl
theorem q1944 : (Jvm.Cond.selects "KnockerFacesModel" ({ cls := "KnockerFacesModel", name := "polish", desc := "(I)Z" } : Jvm.MethodName) ({ cls := "KnockerFacesModel", name := "polish", desc := "(I)Z" } : Jvm.MethodName)) ∈ lw_all := lw_g (lw_at lw_m8 150 rfl) rfl
theorem q1945 : (Jvm.Cond.code ({ cls := "KnockerFacesModel", name := "polish", desc := "(I)Z" } : Jvm.MethodName) prog_21_method_75_code (2 : Nat) (Option.some Jvm.ClassFile.FieldType.boolean)) ∈ lw_all := lw_g (lw_at lw_m8 151 rfl) rfl
theorem q1946 : (Jvm.Cond.methodLink "KnockerFacesModel" (405 : Nat) ({ cls := "KnockerFacesModel", name := "polished", desc := "(I)V" } : Jvm.MethodName)) ∈ lw_all := lw_g (lw_at lw_m8 152 rfl) rfl
theorem q1947 : (Jvm.Cond.privateMethod ({ cls := "KnockerFacesModel", name := "polished", desc := "(I)V" } : Jvm.MethodName)) ∈ lw_tbl := lw_at lw_m8 153 rfl
theorem q1948 : (Jvm.Cond.instanceMethod ({ cls := "KnockerFacesModel", name := "polished", desc := "(I)V" } : Jvm.MethodName)) ∈ lw_all := lw_g (lw_at lw_m8 154 rfl) rfl
theorem q1949 : (Jvm.Cond.code ({ cls := "KnockerFacesModel", name := "polished", desc := "(I)V" } : Jvm.MethodName) prog_21_method_66_code (3 : Nat) (Option.none : Option Jvm.ClassFile.FieldType)) ∈ lw_all := lw_g (lw_at lw_m8 155 rfl) rfl
theorem q1951 : (Jvm.Cond.instanceMethod ({ cls := "KnockerFacesModel", name := "file", desc := "(II)Z" } : Jvm.MethodName)) ∈ lw_all := lw_g (lw_at lw_m8 157 rfl) rfl
theorem q1952 : (Jvm.Cond.selects "KnockerFacesModel" ({ cls := "KnockerFacesModel", name := "file", desc := "(II)Z" } : Jvm.MethodName) ({ cls := "KnockerFacesModel", name := "file", desc := "(II)Z" } : Jvm.MethodName)) ∈ lw_all := lw_g (lw_at lw_m8 158 rfl) rfl
theorem q1953 : (Jvm.Cond.code ({ cls := "KnockerFacesModel", name := "file", desc := "(II)Z" } : Jvm.MethodName) prog_21_method_77_code (3 : Nat) (Option.some Jvm.ClassFile.FieldType.boolean)) ∈ lw_all := lw_g (lw_at lw_m8 159 rfl) rfl
theorem q1954 : (Jvm.Cond.methodLink "KnockerFacesModel" (408 : Nat) ({ cls := "KnockerFacesModel", name := "isPart", desc := "(I)Z" } : Jvm.MethodName)) ∈ lw_all := lw_g (lw_at lw_m8 160 rfl) rfl
theorem q1955 : (Jvm.Cond.static ({ cls := "KnockerFacesModel", name := "isPart", desc := "(I)Z" } : Jvm.MethodName)) ∈ lw_all := lw_g (lw_at lw_m8 161 rfl) rfl
theorem q1956 : (Jvm.Cond.code ({ cls := "KnockerFacesModel", name := "isPart", desc := "(I)Z" } : Jvm.MethodName) prog_21_method_76_code (1 : Nat) (Option.some Jvm.ClassFile.FieldType.boolean)) ∈ lw_all := lw_g (lw_at lw_m8 162 rfl) rfl
theorem q1958 : (Jvm.Cond.instanceMethod ({ cls := "KnockerFacesModel", name := "keep", desc := "(IZ)Z" } : Jvm.MethodName)) ∈ lw_all := lw_g (lw_at lw_m8 164 rfl) rfl
theorem q1959 : (Jvm.Cond.selects "KnockerFacesModel" ({ cls := "KnockerFacesModel", name := "keep", desc := "(IZ)Z" } : Jvm.MethodName) ({ cls := "KnockerFacesModel", name := "keep", desc := "(IZ)Z" } : Jvm.MethodName)) ∈ lw_all := lw_g (lw_at lw_m8 165 rfl) rfl
theorem q1960 : (Jvm.Cond.code ({ cls := "KnockerFacesModel", name := "keep", desc := "(IZ)Z" } : Jvm.MethodName) prog_21_method_78_code (3 : Nat) (Option.some Jvm.ClassFile.FieldType.boolean)) ∈ lw_all := lw_g (lw_at lw_m8 166 rfl) rfl
theorem q1962 : (Jvm.Cond.instanceMethod ({ cls := "KnockerFacesModel", name := "days", desc := "(I)I" } : Jvm.MethodName)) ∈ lw_all := lw_g (lw_at lw_m8 168 rfl) rfl
theorem q1963 : (Jvm.Cond.selects "KnockerFacesModel" ({ cls := "KnockerFacesModel", name := "days", desc := "(I)I" } : Jvm.MethodName) ({ cls := "KnockerFacesModel", name := "days", desc := "(I)I" } : Jvm.MethodName)) ∈ lw_all := lw_g (lw_at lw_m8 169 rfl) rfl
theorem q1964 : (Jvm.Cond.code ({ cls := "KnockerFacesModel", name := "days", desc := "(I)I" } : Jvm.MethodName) prog_21_method_81_code (2 : Nat) (Option.some Jvm.ClassFile.FieldType.int)) ∈ lw_all := lw_g (lw_at lw_m8 170 rfl) rfl
theorem q1965 : (Jvm.Cond.methodLink "KnockerFacesModel" (411 : Nat) ({ cls := "KnockerFacesModel", name := "isLong", desc := "(I)Z" } : Jvm.MethodName)) ∈ lw_all := lw_g (lw_at lw_m8 171 rfl) rfl
theorem q1966 : (Jvm.Cond.static ({ cls := "KnockerFacesModel", name := "isLong", desc := "(I)Z" } : Jvm.MethodName)) ∈ lw_all := lw_g (lw_at lw_m8 172 rfl) rfl
theorem q1967 : (Jvm.Cond.code ({ cls := "KnockerFacesModel", name := "isLong", desc := "(I)Z" } : Jvm.MethodName) prog_21_method_79_code (1 : Nat) (Option.some Jvm.ClassFile.FieldType.boolean)) ∈ lw_all := lw_g (lw_at lw_m8 173 rfl) rfl
theorem q1968 : (Jvm.Cond.methodLink "KnockerFacesModel" (414 : Nat) ({ cls := "KnockerFacesModel", name := "goes", desc := "(I)V" } : Jvm.MethodName)) ∈ lw_all := lw_g (lw_at lw_m8 174 rfl) rfl
theorem q1969 : (Jvm.Cond.privateMethod ({ cls := "KnockerFacesModel", name := "goes", desc := "(I)V" } : Jvm.MethodName)) ∈ lw_tbl := lw_at lw_m8 175 rfl
theorem q1970 : (Jvm.Cond.instanceMethod ({ cls := "KnockerFacesModel", name := "goes", desc := "(I)V" } : Jvm.MethodName)) ∈ lw_all := lw_g (lw_at lw_m8 176 rfl) rfl
theorem q1971 : (Jvm.Cond.code ({ cls := "KnockerFacesModel", name := "goes", desc := "(I)V" } : Jvm.MethodName) prog_21_method_65_code (3 : Nat) (Option.none : Option Jvm.ClassFile.FieldType)) ∈ lw_all := lw_g (lw_at lw_m8 177 rfl) rfl
theorem q1972 : (Jvm.Cond.methodLink "KnockerFacesModel" (384 : Nat) ({ cls := "KnockerFacesModel", name := "dayGoes", desc := "()V" } : Jvm.MethodName)) ∈ lw_all := lw_g (lw_at lw_m8 178 rfl) rfl
theorem q1973 : (Jvm.Cond.privateMethod ({ cls := "KnockerFacesModel", name := "dayGoes", desc := "()V" } : Jvm.MethodName)) ∈ lw_tbl := lw_at lw_m8 179 rfl
theorem q1974 : (Jvm.Cond.instanceMethod ({ cls := "KnockerFacesModel", name := "dayGoes", desc := "()V" } : Jvm.MethodName)) ∈ lw_all := lw_g (lw_at lw_m8 180 rfl) rfl
theorem q1975 : (Jvm.Cond.code ({ cls := "KnockerFacesModel", name := "dayGoes", desc := "()V" } : Jvm.MethodName) prog_21_method_64_code (4 : Nat) (Option.none : Option Jvm.ClassFile.FieldType)) ∈ lw_all := lw_g (lw_at lw_m8 181 rfl) rfl
theorem q1976 : (Jvm.Cond.methodLink "KnockerFacesModel" (377 : Nat) ({ cls := "KnockerFacesModel", name := "isWind", desc := "()Z" } : Jvm.MethodName)) ∈ lw_all := lw_g (lw_at lw_m8 182 rfl) rfl
theorem q1977 : (Jvm.Cond.privateMethod ({ cls := "KnockerFacesModel", name := "isWind", desc := "()Z" } : Jvm.MethodName)) ∈ lw_tbl := lw_at lw_m8 183 rfl
theorem q1978 : (Jvm.Cond.instanceMethod ({ cls := "KnockerFacesModel", name := "isWind", desc := "()Z" } : Jvm.MethodName)) ∈ lw_all := lw_g (lw_at lw_m8 184 rfl) rfl
theorem q1979 : (Jvm.Cond.code ({ cls := "KnockerFacesModel", name := "isWind", desc := "()Z" } : Jvm.MethodName) prog_21_method_50_code (1 : Nat) (Option.some Jvm.ClassFile.FieldType.boolean)) ∈ lw_all := lw_g (lw_at lw_m8 185 rfl) rfl
theorem q1980 : (Jvm.Cond.methodLink "KnockerFacesModel" (330 : Nat) ({ cls := "KnockerFacesModel", name := "lotOf", desc := "(II)I" } : Jvm.MethodName)) ∈ lw_all := lw_g (lw_at lw_m8 186 rfl) rfl
theorem q1981 : (Jvm.Cond.privateMethod ({ cls := "KnockerFacesModel", name := "lotOf", desc := "(II)I" } : Jvm.MethodName)) ∈ lw_tbl := lw_at lw_m8 187 rfl
theorem q1982 : (Jvm.Cond.instanceMethod ({ cls := "KnockerFacesModel", name := "lotOf", desc := "(II)I" } : Jvm.MethodName)) ∈ lw_all := lw_g (lw_at lw_m8 188 rfl) rfl
theorem q1983 : (Jvm.Cond.code ({ cls := "KnockerFacesModel", name := "lotOf", desc := "(II)I" } : Jvm.MethodName) prog_21_method_49_code (3 : Nat) (Option.some Jvm.ClassFile.FieldType.int)) ∈ lw_all := lw_g (lw_at lw_m8 189 rfl) rfl
theorem q1984 : (Jvm.Cond.methodLink "KnockerFacesModel" (327 : Nat) ({ cls := "KnockerFacesModel", name := "mixed", desc := "(II)I" } : Jvm.MethodName)) ∈ lw_all := lw_g (lw_at lw_m8 190 rfl) rfl
theorem q1985 : (Jvm.Cond.static ({ cls := "KnockerFacesModel", name := "mixed", desc := "(II)I" } : Jvm.MethodName)) ∈ lw_all := lw_g (lw_at lw_m8 191 rfl) rfl
theorem q1986 : (Jvm.Cond.code ({ cls := "KnockerFacesModel", name := "mixed", desc := "(II)I" } : Jvm.MethodName) prog_21_method_48_code (3 : Nat) (Option.some Jvm.ClassFile.FieldType.int)) ∈ lw_all := lw_g (lw_at lw_m8 192 rfl) rfl
theorem q1987 : (Jvm.Cond.constant "KnockerFacesModel" (326 : Nat) (1103515245 : Int32)) ∈ lw_all := lw_g (lw_at lw_m8 193 rfl) rfl
theorem q1988 : (Jvm.Cond.methodLink "KnockerFacesModel" (381 : Nat) ({ cls := "KnockerFacesModel", name := "wearsOf", desc := "(II)I" } : Jvm.MethodName)) ∈ lw_all := lw_g (lw_at lw_m8 194 rfl) rfl
theorem q1989 : (Jvm.Cond.privateMethod ({ cls := "KnockerFacesModel", name := "wearsOf", desc := "(II)I" } : Jvm.MethodName)) ∈ lw_tbl := lw_at lw_m8 195 rfl
theorem q1990 : (Jvm.Cond.instanceMethod ({ cls := "KnockerFacesModel", name := "wearsOf", desc := "(II)I" } : Jvm.MethodName)) ∈ lw_all := lw_g (lw_at lw_m8 196 rfl) rfl
theorem q1991 : (Jvm.Cond.code ({ cls := "KnockerFacesModel", name := "wearsOf", desc := "(II)I" } : Jvm.MethodName) prog_21_method_60_code (4 : Nat) (Option.some Jvm.ClassFile.FieldType.int)) ∈ lw_all := lw_g (lw_at lw_m8 197 rfl) rfl
theorem q1993 : (Jvm.Cond.instanceMethod ({ cls := "KnockerFacesModel", name := "undo", desc := "()Z" } : Jvm.MethodName)) ∈ lw_all := lw_g (lw_at lw_m8 199 rfl) rfl
theorem q1994 : (Jvm.Cond.selects "KnockerFacesModel" ({ cls := "KnockerFacesModel", name := "undo", desc := "()Z" } : Jvm.MethodName) ({ cls := "KnockerFacesModel", name := "undo", desc := "()Z" } : Jvm.MethodName)) ∈ lw_all := lw_g (lw_at lw_m8 200 rfl) rfl
theorem q1995 : (Jvm.Cond.code ({ cls := "KnockerFacesModel", name := "undo", desc := "()Z" } : Jvm.MethodName) prog_21_method_82_code (2 : Nat) (Option.some Jvm.ClassFile.FieldType.boolean)) ∈ lw_all := lw_g (lw_at lw_m8 201 rfl) rfl
theorem q1997 : (Jvm.Cond.instanceMethod ({ cls := "KnockerFacesModel", name := "lifts", desc := "(III)I" } : Jvm.MethodName)) ∈ lw_all := lw_g (lw_at lw_m8 203 rfl) rfl
theorem q1998 : (Jvm.Cond.selects "KnockerFacesModel" ({ cls := "KnockerFacesModel", name := "lifts", desc := "(III)I" } : Jvm.MethodName) ({ cls := "KnockerFacesModel", name := "lifts", desc := "(III)I" } : Jvm.MethodName)) ∈ lw_all := lw_g (lw_at lw_m8 204 rfl) rfl
theorem q1999 : (Jvm.Cond.code ({ cls := "KnockerFacesModel", name := "lifts", desc := "(III)I" } : Jvm.MethodName) prog_21_method_86_code (6 : Nat) (Option.some Jvm.ClassFile.FieldType.int)) ∈ lw_all := lw_g (lw_at lw_m8 205 rfl) rfl
theorem q2000 : (Jvm.Cond.methodLink "KnockerFacesModel" (417 : Nat) ({ cls := "KnockerFacesModel", name := "power", desc := "(II)I" } : Jvm.MethodName)) ∈ lw_all := lw_g (lw_at lw_m8 206 rfl) rfl
theorem q2001 : (Jvm.Cond.static ({ cls := "KnockerFacesModel", name := "power", desc := "(II)I" } : Jvm.MethodName)) ∈ lw_all := lw_g (lw_at lw_m8 207 rfl) rfl
theorem q2002 : (Jvm.Cond.code ({ cls := "KnockerFacesModel", name := "power", desc := "(II)I" } : Jvm.MethodName) prog_21_method_83_code (4 : Nat) (Option.some Jvm.ClassFile.FieldType.int)) ∈ lw_all := lw_g (lw_at lw_m8 208 rfl) rfl
theorem q2003 : (Jvm.Cond.methodLink "KnockerFacesModel" (423 : Nat) ({ cls := "KnockerFacesModel", name := "doesWay", desc := "(IIII)Z" } : Jvm.MethodName)) ∈ lw_all := lw_g (lw_at lw_m8 209 rfl) rfl
theorem q2004 : (Jvm.Cond.privateMethod ({ cls := "KnockerFacesModel", name := "doesWay", desc := "(IIII)Z" } : Jvm.MethodName)) ∈ lw_tbl := lw_at lw_m8 210 rfl
theorem q2005 : (Jvm.Cond.instanceMethod ({ cls := "KnockerFacesModel", name := "doesWay", desc := "(IIII)Z" } : Jvm.MethodName)) ∈ lw_all := lw_g (lw_at lw_m8 211 rfl) rfl
theorem q2006 : (Jvm.Cond.code ({ cls := "KnockerFacesModel", name := "doesWay", desc := "(IIII)Z" } : Jvm.MethodName) prog_21_method_85_code (6 : Nat) (Option.some Jvm.ClassFile.FieldType.boolean)) ∈ lw_all := lw_g (lw_at lw_m8 212 rfl) rfl
theorem q2007 : (Jvm.Cond.methodLink "KnockerFacesModel" (420 : Nat) ({ cls := "KnockerFacesModel", name := "digitOf", desc := "(III)I" } : Jvm.MethodName)) ∈ lw_all := lw_g (lw_at lw_m8 213 rfl) rfl
theorem q2008 : (Jvm.Cond.privateMethod ({ cls := "KnockerFacesModel", name := "digitOf", desc := "(III)I" } : Jvm.MethodName)) ∈ lw_tbl := lw_at lw_m8 214 rfl
theorem q2009 : (Jvm.Cond.instanceMethod ({ cls := "KnockerFacesModel", name := "digitOf", desc := "(III)I" } : Jvm.MethodName)) ∈ lw_all := lw_g (lw_at lw_m8 215 rfl) rfl
theorem q2010 : (Jvm.Cond.code ({ cls := "KnockerFacesModel", name := "digitOf", desc := "(III)I" } : Jvm.MethodName) prog_21_method_84_code (4 : Nat) (Option.some Jvm.ClassFile.FieldType.int)) ∈ lw_all := lw_g (lw_at lw_m8 216 rfl) rfl
theorem q2012 : (Jvm.Cond.instanceMethod ({ cls := "KnockerFacesModel", name := "towards", desc := "(III)I" } : Jvm.MethodName)) ∈ lw_all := lw_g (lw_at lw_m8 218 rfl) rfl
theorem q2013 : (Jvm.Cond.selects "KnockerFacesModel" ({ cls := "KnockerFacesModel", name := "towards", desc := "(III)I" } : Jvm.MethodName) ({ cls := "KnockerFacesModel", name := "towards", desc := "(III)I" } : Jvm.MethodName)) ∈ lw_all := lw_g (lw_at lw_m8 219 rfl) rfl
theorem q2014 : (Jvm.Cond.code ({ cls := "KnockerFacesModel", name := "towards", desc := "(III)I" } : Jvm.MethodName) prog_21_method_87_code (8 : Nat) (Option.some Jvm.ClassFile.FieldType.int)) ∈ lw_all := lw_g (lw_at lw_m8 220 rfl) rfl
theorem q2016 : (Jvm.Cond.instanceMethod ({ cls := "KnockerFacesModel", name := "without", desc := "(II)I" } : Jvm.MethodName)) ∈ lw_all := lw_g (lw_at lw_m8 222 rfl) rfl
theorem q2017 : (Jvm.Cond.selects "KnockerFacesModel" ({ cls := "KnockerFacesModel", name := "without", desc := "(II)I" } : Jvm.MethodName) ({ cls := "KnockerFacesModel", name := "without", desc := "(II)I" } : Jvm.MethodName)) ∈ lw_all := lw_g (lw_at lw_m8 223 rfl) rfl
theorem q2018 : (Jvm.Cond.code ({ cls := "KnockerFacesModel", name := "without", desc := "(II)I" } : Jvm.MethodName) prog_21_method_88_code (3 : Nat) (Option.some Jvm.ClassFile.FieldType.int)) ∈ lw_all := lw_g (lw_at lw_m8 224 rfl) rfl
theorem q2019 : (Jvm.Cond.methodLink "KnockerFacesModel" (427 : Nat) ({ cls := "KnockerFacesModel", name := "isSome", desc := "(I)Z" } : Jvm.MethodName)) ∈ lw_all := lw_g (lw_at lw_m8 225 rfl) rfl
theorem q2020 : (Jvm.Cond.static ({ cls := "KnockerFacesModel", name := "isSome", desc := "(I)Z" } : Jvm.MethodName)) ∈ lw_all := lw_g (lw_at lw_m8 226 rfl) rfl
theorem q2021 : (Jvm.Cond.code ({ cls := "KnockerFacesModel", name := "isSome", desc := "(I)Z" } : Jvm.MethodName) prog_21_method_80_code (1 : Nat) (Option.some Jvm.ClassFile.FieldType.boolean)) ∈ lw_all := lw_g (lw_at lw_m8 227 rfl) rfl
theorem q2022 : (Jvm.Cond.methodLink "KnockerFacesModel" (430 : Nat) ({ cls := "KnockerFacesModel", name := "copiesStill", desc := "()V" } : Jvm.MethodName)) ∈ lw_all := lw_g (lw_at lw_m8 228 rfl) rfl
theorem q2023 : (Jvm.Cond.privateMethod ({ cls := "KnockerFacesModel", name := "copiesStill", desc := "()V" } : Jvm.MethodName)) ∈ lw_tbl := lw_at lw_m8 229 rfl
theorem q2024 : (Jvm.Cond.instanceMethod ({ cls := "KnockerFacesModel", name := "copiesStill", desc := "()V" } : Jvm.MethodName)) ∈ lw_all := lw_g (lw_at lw_m8 230 rfl) rfl
theorem q2025 : (Jvm.Cond.code ({ cls := "KnockerFacesModel", name := "copiesStill", desc := "()V" } : Jvm.MethodName) prog_21_method_47_code (1 : Nat) (Option.none : Option Jvm.ClassFile.FieldType)) ∈ lw_all := lw_g (lw_at lw_m8 231 rfl) rfl
theorem q2027 : (Jvm.Cond.instanceMethod ({ cls := "KnockerFacesModel", name := "twins", desc := "(I)I" } : Jvm.MethodName)) ∈ lw_all := lw_g (lw_at lw_m8 233 rfl) rfl
theorem q2028 : (Jvm.Cond.selects "KnockerFacesModel" ({ cls := "KnockerFacesModel", name := "twins", desc := "(I)I" } : Jvm.MethodName) ({ cls := "KnockerFacesModel", name := "twins", desc := "(I)I" } : Jvm.MethodName)) ∈ lw_all := lw_g (lw_at lw_m8 234 rfl) rfl
theorem q2029 : (Jvm.Cond.code ({ cls := "KnockerFacesModel", name := "twins", desc := "(I)I" } : Jvm.MethodName) prog_21_method_90_code (6 : Nat) (Option.some Jvm.ClassFile.FieldType.int)) ∈ lw_all := lw_g (lw_at lw_m8 235 rfl) rfl
theorem q2030 : (Jvm.Cond.methodLink "KnockerFacesModel" (433 : Nat) ({ cls := "KnockerFacesModel", name := "doorsApart", desc := "(II)I" } : Jvm.MethodName)) ∈ lw_all := lw_g (lw_at lw_m8 236 rfl) rfl
theorem q2031 : (Jvm.Cond.privateMethod ({ cls := "KnockerFacesModel", name := "doorsApart", desc := "(II)I" } : Jvm.MethodName)) ∈ lw_tbl := lw_at lw_m8 237 rfl
theorem q2032 : (Jvm.Cond.instanceMethod ({ cls := "KnockerFacesModel", name := "doorsApart", desc := "(II)I" } : Jvm.MethodName)) ∈ lw_all := lw_g (lw_at lw_m8 238 rfl) rfl
theorem q2033 : (Jvm.Cond.code ({ cls := "KnockerFacesModel", name := "doorsApart", desc := "(II)I" } : Jvm.MethodName) prog_21_method_89_code (5 : Nat) (Option.some Jvm.ClassFile.FieldType.int)) ∈ lw_all := lw_g (lw_at lw_m8 239 rfl) rfl
theorem q2035 : (Jvm.Cond.instanceMethod ({ cls := "KnockerFacesModel", name := "confused", desc := "(I)I" } : Jvm.MethodName)) ∈ lw_all := lw_g (lw_at lw_m9 1 rfl) rfl
theorem q2036 : (Jvm.Cond.selects "KnockerFacesModel" ({ cls := "KnockerFacesModel", name := "confused", desc := "(I)I" } : Jvm.MethodName) ({ cls := "KnockerFacesModel", name := "confused", desc := "(I)I" } : Jvm.MethodName)) ∈ lw_all := lw_g (lw_at lw_m9 2 rfl) rfl
theorem q2037 : (Jvm.Cond.code ({ cls := "KnockerFacesModel", name := "confused", desc := "(I)I" } : Jvm.MethodName) prog_21_method_92_code (6 : Nat) (Option.some Jvm.ClassFile.FieldType.int)) ∈ lw_all := lw_g (lw_at lw_m9 3 rfl) rfl
theorem q2038 : (Jvm.Cond.methodLink "KnockerFacesModel" (436 : Nat) ({ cls := "KnockerFacesModel", name := "callersApart", desc := "(II)I" } : Jvm.MethodName)) ∈ lw_all := lw_g (lw_at lw_m9 4 rfl) rfl
theorem q2039 : (Jvm.Cond.privateMethod ({ cls := "KnockerFacesModel", name := "callersApart", desc := "(II)I" } : Jvm.MethodName)) ∈ lw_tbl := lw_at lw_m9 5 rfl
theorem q2040 : (Jvm.Cond.instanceMethod ({ cls := "KnockerFacesModel", name := "callersApart", desc := "(II)I" } : Jvm.MethodName)) ∈ lw_all := lw_g (lw_at lw_m9 6 rfl) rfl
theorem q2041 : (Jvm.Cond.code ({ cls := "KnockerFacesModel", name := "callersApart", desc := "(II)I" } : Jvm.MethodName) prog_21_method_91_code (5 : Nat) (Option.some Jvm.ClassFile.FieldType.int)) ∈ lw_all := lw_g (lw_at lw_m9 7 rfl) rfl
theorem q2043 : (Jvm.Cond.instanceMethod ({ cls := "KnockerFacesModel", name := "paired", desc := "(I)I" } : Jvm.MethodName)) ∈ lw_all := lw_g (lw_at lw_m9 9 rfl) rfl
theorem q2044 : (Jvm.Cond.selects "KnockerFacesModel" ({ cls := "KnockerFacesModel", name := "paired", desc := "(I)I" } : Jvm.MethodName) ({ cls := "KnockerFacesModel", name := "paired", desc := "(I)I" } : Jvm.MethodName)) ∈ lw_all := lw_g (lw_at lw_m9 10 rfl) rfl
theorem q2045 : (Jvm.Cond.code ({ cls := "KnockerFacesModel", name := "paired", desc := "(I)I" } : Jvm.MethodName) prog_21_method_96_code (6 : Nat) (Option.some Jvm.ClassFile.FieldType.int)) ∈ lw_all := lw_g (lw_at lw_m9 11 rfl) rfl
theorem q2046 : (Jvm.Cond.methodLink "KnockerFacesModel" (442 : Nat) ({ cls := "KnockerFacesModel", name := "fillsPaired", desc := "()V" } : Jvm.MethodName)) ∈ lw_all := lw_g (lw_at lw_m9 12 rfl) rfl
theorem q2047 : (Jvm.Cond.privateMethod ({ cls := "KnockerFacesModel", name := "fillsPaired", desc := "()V" } : Jvm.MethodName)) ∈ lw_tbl := lw_at lw_m9 13 rfl
theorem q2048 : (Jvm.Cond.instanceMethod ({ cls := "KnockerFacesModel", name := "fillsPaired", desc := "()V" } : Jvm.MethodName)) ∈ lw_all := lw_g (lw_at lw_m9 14 rfl) rfl
theorem q2049 : (Jvm.Cond.code ({ cls := "KnockerFacesModel", name := "fillsPaired", desc := "()V" } : Jvm.MethodName) prog_21_method_94_code (5 : Nat) (Option.none : Option Jvm.ClassFile.FieldType)) ∈ lw_all := lw_g (lw_at lw_m9 15 rfl) rfl
theorem q2050 : (Jvm.Cond.methodLink "KnockerFacesModel" (439 : Nat) ({ cls := "KnockerFacesModel", name := "with", desc := "(III)I" } : Jvm.MethodName)) ∈ lw_all := lw_g (lw_at lw_m9 16 rfl) rfl
theorem q2051 : (Jvm.Cond.privateMethod ({ cls := "KnockerFacesModel", name := "with", desc := "(III)I" } : Jvm.MethodName)) ∈ lw_tbl := lw_at lw_m9 17 rfl
theorem q2052 : (Jvm.Cond.instanceMethod ({ cls := "KnockerFacesModel", name := "with", desc := "(III)I" } : Jvm.MethodName)) ∈ lw_all := lw_g (lw_at lw_m9 18 rfl) rfl
theorem q2053 : (Jvm.Cond.code ({ cls := "KnockerFacesModel", name := "with", desc := "(III)I" } : Jvm.MethodName) prog_21_method_93_code (4 : Nat) (Option.some Jvm.ClassFile.FieldType.int)) ∈ lw_all := lw_g (lw_at lw_m9 19 rfl) rfl
theorem q2054 : (Jvm.Cond.methodLink "KnockerFacesModel" (445 : Nat) ({ cls := "KnockerFacesModel", name := "lowestFor", desc := "(II)I" } : Jvm.MethodName)) ∈ lw_all := lw_g (lw_at lw_m9 20 rfl) rfl
theorem q2055 : (Jvm.Cond.privateMethod ({ cls := "KnockerFacesModel", name := "lowestFor", desc := "(II)I" } : Jvm.MethodName)) ∈ lw_tbl := lw_at lw_m9 21 rfl
theorem q2056 : (Jvm.Cond.instanceMethod ({ cls := "KnockerFacesModel", name := "lowestFor", desc := "(II)I" } : Jvm.MethodName)) ∈ lw_all := lw_g (lw_at lw_m9 22 rfl) rfl
theorem q2057 : (Jvm.Cond.code ({ cls := "KnockerFacesModel", name := "lowestFor", desc := "(II)I" } : Jvm.MethodName) prog_21_method_95_code (4 : Nat) (Option.some Jvm.ClassFile.FieldType.int)) ∈ lw_all := lw_g (lw_at lw_m9 23 rfl) rfl
theorem q2059 : (Jvm.Cond.instanceMethod ({ cls := "KnockerFacesModel", name := "changes", desc := "(I)I" } : Jvm.MethodName)) ∈ lw_all := lw_g (lw_at lw_m9 25 rfl) rfl
theorem q2060 : (Jvm.Cond.selects "KnockerFacesModel" ({ cls := "KnockerFacesModel", name := "changes", desc := "(I)I" } : Jvm.MethodName) ({ cls := "KnockerFacesModel", name := "changes", desc := "(I)I" } : Jvm.MethodName)) ∈ lw_all := lw_g (lw_at lw_m9 26 rfl) rfl
theorem q2061 : (Jvm.Cond.code ({ cls := "KnockerFacesModel", name := "changes", desc := "(I)I" } : Jvm.MethodName) prog_21_method_97_code (4 : Nat) (Option.some Jvm.ClassFile.FieldType.int)) ∈ lw_all := lw_g (lw_at lw_m9 27 rfl) rfl
theorem q2063 : (Jvm.Cond.instanceMethod ({ cls := "KnockerFacesModel", name := "rubs", desc := "(I)I" } : Jvm.MethodName)) ∈ lw_all := lw_g (lw_at lw_m9 29 rfl) rfl
theorem q2064 : (Jvm.Cond.selects "KnockerFacesModel" ({ cls := "KnockerFacesModel", name := "rubs", desc := "(I)I" } : Jvm.MethodName) ({ cls := "KnockerFacesModel", name := "rubs", desc := "(I)I" } : Jvm.MethodName)) ∈ lw_all := lw_g (lw_at lw_m9 30 rfl) rfl
theorem q2065 : (Jvm.Cond.code ({ cls := "KnockerFacesModel", name := "rubs", desc := "(I)I" } : Jvm.MethodName) prog_21_method_98_code (4 : Nat) (Option.some Jvm.ClassFile.FieldType.int)) ∈ lw_all := lw_g (lw_at lw_m9 31 rfl) rfl
theorem q2067 : (Jvm.Cond.instanceMethod ({ cls := "KnockerFacesModel", name := "when", desc := "(II)I" } : Jvm.MethodName)) ∈ lw_all := lw_g (lw_at lw_m9 33 rfl) rfl
theorem q2068 : (Jvm.Cond.selects "KnockerFacesModel" ({ cls := "KnockerFacesModel", name := "when", desc := "(II)I" } : Jvm.MethodName) ({ cls := "KnockerFacesModel", name := "when", desc := "(II)I" } : Jvm.MethodName)) ∈ lw_all := lw_g (lw_at lw_m9 34 rfl) rfl
theorem q2069 : (Jvm.Cond.code ({ cls := "KnockerFacesModel", name := "when", desc := "(II)I" } : Jvm.MethodName) prog_21_method_99_code (4 : Nat) (Option.some Jvm.ClassFile.FieldType.int)) ∈ lw_all := lw_g (lw_at lw_m9 35 rfl) rfl
theorem q2071 : (Jvm.Cond.instanceMethod ({ cls := "KnockerFacesModel", name := "alone", desc := "(II)I" } : Jvm.MethodName)) ∈ lw_all := lw_g (lw_at lw_m9 37 rfl) rfl
theorem q2072 : (Jvm.Cond.selects "KnockerFacesModel" ({ cls := "KnockerFacesModel", name := "alone", desc := "(II)I" } : Jvm.MethodName) ({ cls := "KnockerFacesModel", name := "alone", desc := "(II)I" } : Jvm.MethodName)) ∈ lw_all := lw_g (lw_at lw_m9 38 rfl) rfl
theorem q2073 : (Jvm.Cond.code ({ cls := "KnockerFacesModel", name := "alone", desc := "(II)I" } : Jvm.MethodName) prog_21_method_100_code (4 : Nat) (Option.some Jvm.ClassFile.FieldType.int)) ∈ lw_all := lw_g (lw_at lw_m9 39 rfl) rfl
theorem q2075 : (Jvm.Cond.instanceMethod ({ cls := "KnockerFacesModel", name := "nearest", desc := "(II)I" } : Jvm.MethodName)) ∈ lw_all := lw_g (lw_at lw_m9 41 rfl) rfl
theorem q2076 : (Jvm.Cond.selects "KnockerFacesModel" ({ cls := "KnockerFacesModel", name := "nearest", desc := "(II)I" } : Jvm.MethodName) ({ cls := "KnockerFacesModel", name := "nearest", desc := "(II)I" } : Jvm.MethodName)) ∈ lw_all := lw_g (lw_at lw_m9 42 rfl) rfl
theorem q2077 : (Jvm.Cond.code ({ cls := "KnockerFacesModel", name := "nearest", desc := "(II)I" } : Jvm.MethodName) prog_21_method_101_code (5 : Nat) (Option.some Jvm.ClassFile.FieldType.int)) ∈ lw_all := lw_g (lw_at lw_m9 43 rfl) rfl
theorem q2079 : (Jvm.Cond.instanceMethod ({ cls := "KnockerFacesModel", name := "same", desc := "(II)I" } : Jvm.MethodName)) ∈ lw_all := lw_g (lw_at lw_m9 45 rfl) rfl
theorem q2080 : (Jvm.Cond.selects "KnockerFacesModel" ({ cls := "KnockerFacesModel", name := "same", desc := "(II)I" } : Jvm.MethodName) ({ cls := "KnockerFacesModel", name := "same", desc := "(II)I" } : Jvm.MethodName)) ∈ lw_all := lw_g (lw_at lw_m9 46 rfl) rfl
theorem q2081 : (Jvm.Cond.code ({ cls := "KnockerFacesModel", name := "same", desc := "(II)I" } : Jvm.MethodName) prog_21_method_102_code (5 : Nat) (Option.some Jvm.ClassFile.FieldType.int)) ∈ lw_all := lw_g (lw_at lw_m9 47 rfl) rfl
theorem q2083 : (Jvm.Cond.instanceMethod ({ cls := "KnockerFacesModel", name := "shift", desc := "(II)I" } : Jvm.MethodName)) ∈ lw_all := lw_g (lw_at lw_m9 49 rfl) rfl
theorem q2084 : (Jvm.Cond.selects "KnockerFacesModel" ({ cls := "KnockerFacesModel", name := "shift", desc := "(II)I" } : Jvm.MethodName) ({ cls := "KnockerFacesModel", name := "shift", desc := "(II)I" } : Jvm.MethodName)) ∈ lw_all := lw_g (lw_at lw_m9 50 rfl) rfl
theorem q2085 : (Jvm.Cond.code ({ cls := "KnockerFacesModel", name := "shift", desc := "(II)I" } : Jvm.MethodName) prog_21_method_103_code (5 : Nat) (Option.some Jvm.ClassFile.FieldType.int)) ∈ lw_all := lw_g (lw_at lw_m9 51 rfl) rfl
theorem q2087 : (Jvm.Cond.instanceMethod ({ cls := "KnockerFacesModel", name := "calls", desc := "(II)I" } : Jvm.MethodName)) ∈ lw_all := lw_g (lw_at lw_m9 53 rfl) rfl
theorem q2088 : (Jvm.Cond.selects "KnockerFacesModel" ({ cls := "KnockerFacesModel", name := "calls", desc := "(II)I" } : Jvm.MethodName) ({ cls := "KnockerFacesModel", name := "calls", desc := "(II)I" } : Jvm.MethodName)) ∈ lw_all := lw_g (lw_at lw_m9 54 rfl) rfl
theorem q2089 : (Jvm.Cond.code ({ cls := "KnockerFacesModel", name := "calls", desc := "(II)I" } : Jvm.MethodName) prog_21_method_105_code (5 : Nat) (Option.some Jvm.ClassFile.FieldType.int)) ∈ lw_all := lw_g (lw_at lw_m9 55 rfl) rfl
theorem q2090 : (Jvm.Cond.methodLink "KnockerFacesModel" (448 : Nat) ({ cls := "KnockerFacesModel", name := "timesDue", desc := "(II)I" } : Jvm.MethodName)) ∈ lw_all := lw_g (lw_at lw_m9 56 rfl) rfl
theorem q2091 : (Jvm.Cond.privateMethod ({ cls := "KnockerFacesModel", name := "timesDue", desc := "(II)I" } : Jvm.MethodName)) ∈ lw_tbl := lw_at lw_m9 57 rfl
theorem q2092 : (Jvm.Cond.instanceMethod ({ cls := "KnockerFacesModel", name := "timesDue", desc := "(II)I" } : Jvm.MethodName)) ∈ lw_all := lw_g (lw_at lw_m9 58 rfl) rfl
theorem q2093 : (Jvm.Cond.code ({ cls := "KnockerFacesModel", name := "timesDue", desc := "(II)I" } : Jvm.MethodName) prog_21_method_104_code (5 : Nat) (Option.some Jvm.ClassFile.FieldType.int)) ∈ lw_all := lw_g (lw_at lw_m9 59 rfl) rfl
theorem q2095 : (Jvm.Cond.instanceMethod ({ cls := "KnockerFacesModel", name := "busy", desc := "(II)I" } : Jvm.MethodName)) ∈ lw_all := lw_g (lw_at lw_m9 61 rfl) rfl
theorem q2096 : (Jvm.Cond.selects "KnockerFacesModel" ({ cls := "KnockerFacesModel", name := "busy", desc := "(II)I" } : Jvm.MethodName) ({ cls := "KnockerFacesModel", name := "busy", desc := "(II)I" } : Jvm.MethodName)) ∈ lw_all := lw_g (lw_at lw_m9 62 rfl) rfl
theorem q2097 : (Jvm.Cond.code ({ cls := "KnockerFacesModel", name := "busy", desc := "(II)I" } : Jvm.MethodName) prog_21_method_106_code (5 : Nat) (Option.some Jvm.ClassFile.FieldType.int)) ∈ lw_all := lw_g (lw_at lw_m9 63 rfl) rfl
theorem q2099 : (Jvm.Cond.instanceMethod ({ cls := "KnockerFacesModel", name := "richest", desc := "(II)I" } : Jvm.MethodName)) ∈ lw_all := lw_g (lw_at lw_m9 65 rfl) rfl
theorem q2100 : (Jvm.Cond.selects "KnockerFacesModel" ({ cls := "KnockerFacesModel", name := "richest", desc := "(II)I" } : Jvm.MethodName) ({ cls := "KnockerFacesModel", name := "richest", desc := "(II)I" } : Jvm.MethodName)) ∈ lw_all := lw_g (lw_at lw_m9 66 rfl) rfl
theorem q2101 : (Jvm.Cond.code ({ cls := "KnockerFacesModel", name := "richest", desc := "(II)I" } : Jvm.MethodName) prog_21_method_107_code (5 : Nat) (Option.some Jvm.ClassFile.FieldType.int)) ∈ lw_all := lw_g (lw_at lw_m9 67 rfl) rfl
theorem q2103 : (Jvm.Cond.instanceMethod ({ cls := "KnockerFacesModel", name := "flat", desc := "(I)I" } : Jvm.MethodName)) ∈ lw_all := lw_g (lw_at lw_m9 69 rfl) rfl
theorem q2104 : (Jvm.Cond.selects "KnockerFacesModel" ({ cls := "KnockerFacesModel", name := "flat", desc := "(I)I" } : Jvm.MethodName) ({ cls := "KnockerFacesModel", name := "flat", desc := "(I)I" } : Jvm.MethodName)) ∈ lw_all := lw_g (lw_at lw_m9 70 rfl) rfl
theorem q2105 : (Jvm.Cond.code ({ cls := "KnockerFacesModel", name := "flat", desc := "(I)I" } : Jvm.MethodName) prog_21_method_108_code (4 : Nat) (Option.some Jvm.ClassFile.FieldType.int)) ∈ lw_all := lw_g (lw_at lw_m9 71 rfl) rfl
theorem q2107 : (Jvm.Cond.instanceMethod ({ cls := "KnockerFacesModel", name := "then", desc := "(III)I" } : Jvm.MethodName)) ∈ lw_all := lw_g (lw_at lw_m9 73 rfl) rfl
theorem q2108 : (Jvm.Cond.selects "KnockerFacesModel" ({ cls := "KnockerFacesModel", name := "then", desc := "(III)I" } : Jvm.MethodName) ({ cls := "KnockerFacesModel", name := "then", desc := "(III)I" } : Jvm.MethodName)) ∈ lw_all := lw_g (lw_at lw_m9 74 rfl) rfl
theorem q2109 : (Jvm.Cond.code ({ cls := "KnockerFacesModel", name := "then", desc := "(III)I" } : Jvm.MethodName) prog_21_method_109_code (4 : Nat) (Option.some Jvm.ClassFile.FieldType.int)) ∈ lw_all := lw_g (lw_at lw_m9 75 rfl) rfl
theorem q2111 : (Jvm.Cond.instanceMethod ({ cls := "KnockerFacesModel", name := "year", desc := "(IIII)I" } : Jvm.MethodName)) ∈ lw_all := lw_g (lw_at lw_m9 77 rfl) rfl
theorem q2112 : (Jvm.Cond.selects "KnockerFacesModel" ({ cls := "KnockerFacesModel", name := "year", desc := "(IIII)I" } : Jvm.MethodName) ({ cls := "KnockerFacesModel", name := "year", desc := "(IIII)I" } : Jvm.MethodName)) ∈ lw_all := lw_g (lw_at lw_m9 78 rfl) rfl
theorem q2113 : (Jvm.Cond.code ({ cls := "KnockerFacesModel", name := "year", desc := "(IIII)I" } : Jvm.MethodName) prog_21_method_110_code (7 : Nat) (Option.some Jvm.ClassFile.FieldType.int)) ∈ lw_all := lw_g (lw_at lw_m9 79 rfl) rfl
theorem q2115 : (Jvm.Cond.instanceMethod ({ cls := "KnockerFacesModel", name := "tell", desc := "(III)I" } : Jvm.MethodName)) ∈ lw_all := lw_g (lw_at lw_m9 81 rfl) rfl
theorem q2116 : (Jvm.Cond.selects "KnockerFacesModel" ({ cls := "KnockerFacesModel", name := "tell", desc := "(III)I" } : Jvm.MethodName) ({ cls := "KnockerFacesModel", name := "tell", desc := "(III)I" } : Jvm.MethodName)) ∈ lw_all := lw_g (lw_at lw_m9 82 rfl) rfl
theorem q2117 : (Jvm.Cond.code ({ cls := "KnockerFacesModel", name := "tell", desc := "(III)I" } : Jvm.MethodName) prog_21_method_111_code (4 : Nat) (Option.some Jvm.ClassFile.FieldType.int)) ∈ lw_all := lw_g (lw_at lw_m9 83 rfl) rfl
theorem q2119 : (Jvm.Cond.instanceMethod ({ cls := "KnockerFacesModel", name := "forget", desc := "()I" } : Jvm.MethodName)) ∈ lw_all := lw_g (lw_at lw_m9 85 rfl) rfl
theorem q2120 : (Jvm.Cond.selects "KnockerFacesModel" ({ cls := "KnockerFacesModel", name := "forget", desc := "()I" } : Jvm.MethodName) ({ cls := "KnockerFacesModel", name := "forget", desc := "()I" } : Jvm.MethodName)) ∈ lw_all := lw_g (lw_at lw_m9 86 rfl) rfl
theorem q2121 : (Jvm.Cond.code ({ cls := "KnockerFacesModel", name := "forget", desc := "()I" } : Jvm.MethodName) prog_21_method_112_code (2 : Nat) (Option.some Jvm.ClassFile.FieldType.int)) ∈ lw_all := lw_g (lw_at lw_m9 87 rfl) rfl
theorem q2123 : (Jvm.Cond.instanceMethod ({ cls := "KnockerFacesModel", name := "who", desc := "(II)I" } : Jvm.MethodName)) ∈ lw_all := lw_g (lw_at lw_m9 89 rfl) rfl
theorem q2124 : (Jvm.Cond.selects "KnockerFacesModel" ({ cls := "KnockerFacesModel", name := "who", desc := "(II)I" } : Jvm.MethodName) ({ cls := "KnockerFacesModel", name := "who", desc := "(II)I" } : Jvm.MethodName)) ∈ lw_all := lw_g (lw_at lw_m9 90 rfl) rfl
theorem q2125 : (Jvm.Cond.code ({ cls := "KnockerFacesModel", name := "who", desc := "(II)I" } : Jvm.MethodName) prog_21_method_115_code (4 : Nat) (Option.some Jvm.ClassFile.FieldType.int)) ∈ lw_all := lw_g (lw_at lw_m9 91 rfl) rfl
theorem q2126 : (Jvm.Cond.methodLink "KnockerFacesModel" (454 : Nat) ({ cls := "KnockerFacesModel", name := "whoBits", desc := "(I)I" } : Jvm.MethodName)) ∈ lw_all := lw_g (lw_at lw_m9 92 rfl) rfl
theorem q2127 : (Jvm.Cond.privateMethod ({ cls := "KnockerFacesModel", name := "whoBits", desc := "(I)I" } : Jvm.MethodName)) ∈ lw_tbl := lw_at lw_m9 93 rfl
theorem q2128 : (Jvm.Cond.instanceMethod ({ cls := "KnockerFacesModel", name := "whoBits", desc := "(I)I" } : Jvm.MethodName)) ∈ lw_all := lw_g (lw_at lw_m9 94 rfl) rfl
theorem q2129 : (Jvm.Cond.code ({ cls := "KnockerFacesModel", name := "whoBits", desc := "(I)I" } : Jvm.MethodName) prog_21_method_114_code (6 : Nat) (Option.some Jvm.ClassFile.FieldType.int)) ∈ lw_all := lw_g (lw_at lw_m9 95 rfl) rfl
theorem q2130 : (Jvm.Cond.methodLink "KnockerFacesModel" (451 : Nat) ({ cls := "KnockerFacesModel", name := "wayOf", desc := "(III)I" } : Jvm.MethodName)) ∈ lw_all := lw_g (lw_at lw_m9 96 rfl) rfl
theorem q2131 : (Jvm.Cond.privateMethod ({ cls := "KnockerFacesModel", name := "wayOf", desc := "(III)I" } : Jvm.MethodName)) ∈ lw_tbl := lw_at lw_m9 97 rfl
theorem q2132 : (Jvm.Cond.instanceMethod ({ cls := "KnockerFacesModel", name := "wayOf", desc := "(III)I" } : Jvm.MethodName)) ∈ lw_all := lw_g (lw_at lw_m9 98 rfl) rfl
theorem q2133 : (Jvm.Cond.code ({ cls := "KnockerFacesModel", name := "wayOf", desc := "(III)I" } : Jvm.MethodName) prog_21_method_113_code (4 : Nat) (Option.some Jvm.ClassFile.FieldType.int)) ∈ lw_all := lw_g (lw_at lw_m9 99 rfl) rfl
theorem q2134 : (Jvm.Cond.methodLink "KnockerFacesModel" (457 : Nat) ({ cls := "KnockerFacesModel", name := "bits", desc := "(I)I" } : Jvm.MethodName)) ∈ lw_all := lw_g (lw_at lw_m9 100 rfl) rfl
theorem q2135 : (Jvm.Cond.static ({ cls := "KnockerFacesModel", name := "bits", desc := "(I)I" } : Jvm.MethodName)) ∈ lw_all := lw_g (lw_at lw_m9 101 rfl) rfl
theorem q2136 : (Jvm.Cond.code ({ cls := "KnockerFacesModel", name := "bits", desc := "(I)I" } : Jvm.MethodName) prog_21_method_39_code (3 : Nat) (Option.some Jvm.ClassFile.FieldType.int)) ∈ lw_all := lw_g (lw_at lw_m9 102 rfl) rfl
theorem q2138 : (Jvm.Cond.instanceMethod ({ cls := "KnockerFacesModel", name := "ask", desc := "(I)I" } : Jvm.MethodName)) ∈ lw_all := lw_g (lw_at lw_m9 104 rfl) rfl
theorem q2139 : (Jvm.Cond.selects "KnockerFacesModel" ({ cls := "KnockerFacesModel", name := "ask", desc := "(I)I" } : Jvm.MethodName) ({ cls := "KnockerFacesModel", name := "ask", desc := "(I)I" } : Jvm.MethodName)) ∈ lw_all := lw_g (lw_at lw_m9 105 rfl) rfl
theorem q2140 : (Jvm.Cond.code ({ cls := "KnockerFacesModel", name := "ask", desc := "(I)I" } : Jvm.MethodName) prog_21_method_117_code (7 : Nat) (Option.some Jvm.ClassFile.FieldType.int)) ∈ lw_all := lw_g (lw_at lw_m9 106 rfl) rfl
theorem q2141 : (Jvm.Cond.methodLink "KnockerFacesModel" (460 : Nat) ({ cls := "KnockerFacesModel", name := "worstOf", desc := "(III)I" } : Jvm.MethodName)) ∈ lw_all := lw_g (lw_at lw_m9 107 rfl) rfl
theorem q2142 : (Jvm.Cond.privateMethod ({ cls := "KnockerFacesModel", name := "worstOf", desc := "(III)I" } : Jvm.MethodName)) ∈ lw_tbl := lw_at lw_m9 108 rfl
theorem q2143 : (Jvm.Cond.instanceMethod ({ cls := "KnockerFacesModel", name := "worstOf", desc := "(III)I" } : Jvm.MethodName)) ∈ lw_all := lw_g (lw_at lw_m9 109 rfl) rfl
theorem q2144 : (Jvm.Cond.code ({ cls := "KnockerFacesModel", name := "worstOf", desc := "(III)I" } : Jvm.MethodName) prog_21_method_116_code (8 : Nat) (Option.some Jvm.ClassFile.FieldType.int)) ∈ lw_all := lw_g (lw_at lw_m9 110 rfl) rfl
theorem q2146 : (Jvm.Cond.instanceMethod ({ cls := "KnockerFacesModel", name := "hold", desc := "(I)Z" } : Jvm.MethodName)) ∈ lw_all := lw_g (lw_at lw_m9 112 rfl) rfl
theorem q2147 : (Jvm.Cond.selects "KnockerFacesModel" ({ cls := "KnockerFacesModel", name := "hold", desc := "(I)Z" } : Jvm.MethodName) ({ cls := "KnockerFacesModel", name := "hold", desc := "(I)Z" } : Jvm.MethodName)) ∈ lw_all := lw_g (lw_at lw_m9 113 rfl) rfl
theorem q2148 : (Jvm.Cond.code ({ cls := "KnockerFacesModel", name := "hold", desc := "(I)Z" } : Jvm.MethodName) prog_21_method_118_code (3 : Nat) (Option.some Jvm.ClassFile.FieldType.boolean)) ∈ lw_all := lw_g (lw_at lw_m9 114 rfl) rfl
theorem q2150 : (Jvm.Cond.instanceMethod ({ cls := "KnockerFacesModel", name := "restore", desc := "(I)Z" } : Jvm.MethodName)) ∈ lw_all := lw_g (lw_at lw_m9 116 rfl) rfl
theorem q2151 : (Jvm.Cond.selects "KnockerFacesModel" ({ cls := "KnockerFacesModel", name := "restore", desc := "(I)Z" } : Jvm.MethodName) ({ cls := "KnockerFacesModel", name := "restore", desc := "(I)Z" } : Jvm.MethodName)) ∈ lw_all := lw_g (lw_at lw_m9 117 rfl) rfl
theorem q2152 : (Jvm.Cond.code ({ cls := "KnockerFacesModel", name := "restore", desc := "(I)Z" } : Jvm.MethodName) prog_21_method_119_code (3 : Nat) (Option.some Jvm.ClassFile.FieldType.boolean)) ∈ lw_all := lw_g (lw_at lw_m9 118 rfl) rfl
theorem q2154 : (Jvm.Cond.instanceMethod ({ cls := "KnockerFacesModel", name := "count", desc := "(I)I" } : Jvm.MethodName)) ∈ lw_all := lw_g (lw_at lw_m9 120 rfl) rfl
theorem q2155 : (Jvm.Cond.selects "KnockerFacesModel" ({ cls := "KnockerFacesModel", name := "count", desc := "(I)I" } : Jvm.MethodName) ({ cls := "KnockerFacesModel", name := "count", desc := "(I)I" } : Jvm.MethodName)) ∈ lw_all := lw_g (lw_at lw_m9 121 rfl) rfl
theorem q2156 : (Jvm.Cond.code ({ cls := "KnockerFacesModel", name := "count", desc := "(I)I" } : Jvm.MethodName) prog_21_method_121_code (4 : Nat) (Option.some Jvm.ClassFile.FieldType.int)) ∈ lw_all := lw_g (lw_at lw_m9 122 rfl) rfl
theorem q2157 : (Jvm.Cond.methodLink "KnockerFacesModel" (463 : Nat) ({ cls := "KnockerFacesModel", name := "sumNow", desc := "(II)I" } : Jvm.MethodName)) ∈ lw_all := lw_g (lw_at lw_m9 123 rfl) rfl
theorem q2158 : (Jvm.Cond.privateMethod ({ cls := "KnockerFacesModel", name := "sumNow", desc := "(II)I" } : Jvm.MethodName)) ∈ lw_tbl := lw_at lw_m9 124 rfl
theorem q2159 : (Jvm.Cond.instanceMethod ({ cls := "KnockerFacesModel", name := "sumNow", desc := "(II)I" } : Jvm.MethodName)) ∈ lw_all := lw_g (lw_at lw_m9 125 rfl) rfl
theorem q2160 : (Jvm.Cond.code ({ cls := "KnockerFacesModel", name := "sumNow", desc := "(II)I" } : Jvm.MethodName) prog_21_method_120_code (5 : Nat) (Option.some Jvm.ClassFile.FieldType.int)) ∈ lw_all := lw_g (lw_at lw_m9 126 rfl) rfl
theorem q2181 : (Jvm.Cond.castable "KnockerFacesModel" "java/lang/Object") ∈ lw_tbl := lw_at lw_m9 147 rfl
theorem in_X10 : ∀ w ∈ wsX100, w ∈ lw_all := lw_in wsX100 [1581, 1583, 1585, 1587, 1589, 1591, 1593, 1595, 1597, 1599, 1601, 1603, 1605, 1607, 1609, 1611, 1613, 1615, 1617, 1619, 1621, 1623, 1625, 1627, 1629, 1631, 1633, 1635, 1637, 1639, 1641, 1643, 1645, 1647, 1649, 1651, 1653, 1655, 1657, 1659, 1661, 1663, 1665, 1667, 1669, 1671, 1673, 1675, 1677, 1679, 1681, 1683, 1685, 1687, 1689, 1691, 1693, 1695, 1697, 1699, 1701, 1703, 1705, 1707, 1709, 1711] (by decide +kernel) (by decide +kernel)
