/-! ===== cards: every method, link and field, by the words of the tables ===== -/
set_option maxRecDepth 100000
abbrev xJ0_init : sm_X := (RJ0, cJ0_init, 1, none, "<init>", [])
theorem kJ0_init : sm_C xJ0_init yJ0_init 0 := ⟨q185, rfl, rfl, rfl, by decide +kernel, ⟨by decide +kernel, by decide +kernel, by decide +kernel⟩, q116, by decide⟩
abbrev xJ0_init_2 : sm_X := (RJ0, cJ0_init_2, 5, none, "<init>", [])
theorem kJ0_init_2 : sm_C xJ0_init_2 yJ0_init_2 4 := ⟨q212, rfl, rfl, rfl, by decide +kernel, ⟨by decide +kernel, by decide +kernel, by decide +kernel⟩, q116, by decide⟩
abbrev xJ1_init : sm_X := (RJ1, cJ1_init, 5, none, "<init>", [])
theorem kJ1_init : sm_C xJ1_init yJ1_init 4 := ⟨q209, rfl, rfl, rfl, by decide +kernel, ⟨by decide +kernel, by decide +kernel, by decide +kernel⟩, q117, by decide⟩
abbrev xJ10_charAt : sm_X := (RJ10, cJ10_charAt, 2, (some .char), "charAt", [])
theorem kJ10_charAt : sm_C xJ10_charAt yJ10_charAt 2 := ⟨q645, rfl, rfl, rfl, by decide +kernel, ⟨by decide +kernel, by decide +kernel, by decide +kernel⟩, q136, by decide⟩
abbrev xJ10_checkIndex : sm_X := (RJ10, cJ10_checkIndex, 2, none, "checkIndex", [])
theorem kJ10_checkIndex : sm_C xJ10_checkIndex yJ10_checkIndex 2 := ⟨q648, rfl, rfl, rfl, by decide +kernel, ⟨by decide +kernel, by decide +kernel, by decide +kernel⟩, q136, by decide⟩
abbrev xJ10_length : sm_X := (RJ10, cJ10_length, 1, (some .int), "length", [])
theorem kJ10_length : sm_C xJ10_length yJ10_length 1 := ⟨q651, rfl, rfl, rfl, by decide +kernel, ⟨by decide +kernel, by decide +kernel, by decide +kernel⟩, q136, by decide⟩
abbrev xJ10_getChar : sm_X := (RJ10, cJ10_getChar, 2, (some .char), "getChar", [])
theorem kJ10_getChar : sm_C xJ10_getChar yJ10_getChar 2 := ⟨q655, rfl, rfl, rfl, by decide +kernel, ⟨by decide +kernel, by decide +kernel, by decide +kernel⟩, q136, by decide⟩
abbrev xJ10_newBytesFor : sm_X := (RJ10, cJ10_newBytesFor, 1, (some (.array .byte)), "newBytesFor", [])
theorem kJ10_newBytesFor : sm_C xJ10_newBytesFor yJ10_newBytesFor 1 := ⟨q831, rfl, rfl, rfl, by decide +kernel, ⟨by decide +kernel, by decide +kernel, by decide +kernel⟩, q136, by decide⟩
abbrev xJ10_newBytesLength : sm_X := (RJ10, cJ10_newBytesLength, 1, (some .int), "newBytesLength", [])
theorem kJ10_newBytesLength : sm_C xJ10_newBytesLength yJ10_newBytesLength 1 := ⟨q834, rfl, rfl, rfl, by decide +kernel, ⟨by decide +kernel, by decide +kernel, by decide +kernel⟩, q136, by decide⟩
abbrev xJ10_inflate : sm_X := (RJ10, cJ10_inflate, 6, none, "inflate", [])
theorem kJ10_inflate : sm_C xJ10_inflate yJ10_inflate 5 := ⟨q908, rfl, rfl, rfl, by decide +kernel, ⟨by decide +kernel, by decide +kernel, by decide +kernel⟩, q136, by decide⟩
abbrev xJ10_checkBoundsOffCount : sm_X := (RJ10, cJ10_checkBoundsOffCount, 3, none, "checkBoundsOffCount", [])
theorem kJ10_checkBoundsOffCount : sm_C xJ10_checkBoundsOffCount yJ10_checkBoundsOffCount 3 := ⟨q911, rfl, rfl, rfl, by decide +kernel, ⟨by decide +kernel, by decide +kernel, by decide +kernel⟩, q136, by decide⟩
abbrev xJ10_putChar : sm_X := (RJ10, cJ10_putChar, 3, none, "putChar", [])
theorem kJ10_putChar : sm_C xJ10_putChar yJ10_putChar 3 := ⟨q920, rfl, rfl, rfl, by decide +kernel, ⟨by decide +kernel, by decide +kernel, by decide +kernel⟩, q136, by decide⟩
abbrev xJ10_putCharSB : sm_X := (RJ10, cJ10_putCharSB, 3, none, "putCharSB", [])
theorem kJ10_putCharSB : sm_C xJ10_putCharSB yJ10_putCharSB 3 := ⟨q923, rfl, rfl, rfl, by decide +kernel, ⟨by decide +kernel, by decide +kernel, by decide +kernel⟩, q136, by decide⟩
abbrev xJ10_compress : sm_X := (RJ10, cJ10_compress, 6, (some (.array .byte)), "compress", [])
theorem kJ10_compress : sm_C xJ10_compress yJ10_compress 3 := ⟨q962, rfl, rfl, rfl, by decide +kernel, ⟨by decide +kernel, by decide +kernel, by decide +kernel⟩, q136, by decide⟩
abbrev xJ10_compress_2 : sm_X := (RJ10, cJ10_compress_2, 7, (some .int), "compress", [])
theorem kJ10_compress_2 : sm_C xJ10_compress_2 yJ10_compress_2 5 := ⟨q965, rfl, rfl, rfl, by decide +kernel, ⟨by decide +kernel, by decide +kernel, by decide +kernel⟩, q136, by decide⟩
abbrev xJ10_coderFromArrayLen : sm_X := (RJ10, cJ10_coderFromArrayLen, 2, (some .byte), "coderFromArrayLen", [])
theorem kJ10_coderFromArrayLen : sm_C xJ10_coderFromArrayLen yJ10_coderFromArrayLen 2 := ⟨q969, rfl, rfl, rfl, by decide +kernel, ⟨by decide +kernel, by decide +kernel, by decide +kernel⟩, q136, by decide⟩
abbrev xJ11_init : sm_X := (RJ11, cJ11_init, 2, none, "<init>", [])
theorem kJ11_init : sm_C xJ11_init yJ11_init 1 := ⟨q826, rfl, rfl, rfl, by decide +kernel, ⟨by decide +kernel, by decide +kernel, by decide +kernel⟩, q144, by decide⟩
abbrev xJ11_append : sm_X := (RJ11, cJ11_append, 2, (some (.object "java/lang/AbstractStringBuilder")), "append", [])
theorem kJ11_append : sm_C xJ11_append yJ11_append 1 := ⟨q855, rfl, rfl, rfl, by decide +kernel, ⟨by decide +kernel, by decide +kernel, by decide +kernel⟩, q144, by decide⟩
abbrev xJ11_ensureCapacityInternal : sm_X := (RJ11, cJ11_ensureCapacityInternal, 3, none, "ensureCapacityInternal", [])
theorem kJ11_ensureCapacityInternal : sm_C xJ11_ensureCapacityInternal yJ11_ensureCapacityInternal 1 := ⟨q859, rfl, rfl, rfl, by decide +kernel, ⟨by decide +kernel, by decide +kernel, by decide +kernel⟩, q144, by decide⟩
abbrev xJ11_newCapacity : sm_X := (RJ11, cJ11_newCapacity, 6, (some .int), "newCapacity", [])
theorem kJ11_newCapacity : sm_C xJ11_newCapacity yJ11_newCapacity 1 := ⟨q863, rfl, rfl, rfl, by decide +kernel, ⟨by decide +kernel, by decide +kernel, by decide +kernel⟩, q144, by decide⟩
abbrev xJ11_isLatin1 : sm_X := (RJ11, cJ11_isLatin1, 1, (some .boolean), "isLatin1", [])
theorem kJ11_isLatin1 : sm_C xJ11_isLatin1 yJ11_isLatin1 0 := ⟨q895, rfl, rfl, rfl, by decide +kernel, ⟨by decide +kernel, by decide +kernel, by decide +kernel⟩, q144, by decide⟩
abbrev xJ11_inflate : sm_X := (RJ11, cJ11_inflate, 2, none, "inflate", [])
theorem kJ11_inflate : sm_C xJ11_inflate yJ11_inflate 0 := ⟨q902, rfl, rfl, rfl, by decide +kernel, ⟨by decide +kernel, by decide +kernel, by decide +kernel⟩, q144, by decide⟩
abbrev xJ11_getValue : sm_X := (RJ11, cJ11_getValue, 1, (some (.array .byte)), "getValue", [])
theorem kJ11_getValue : sm_C xJ11_getValue yJ11_getValue 0 := ⟨q941, rfl, rfl, rfl, by decide +kernel, ⟨by decide +kernel, by decide +kernel, by decide +kernel⟩, q144, by decide⟩
abbrev xJ11_length : sm_X := (RJ11, cJ11_length, 1, (some .int), "length", [])
theorem kJ11_length : sm_C xJ11_length yJ11_length 0 := ⟨q949, rfl, rfl, rfl, by decide +kernel, ⟨by decide +kernel, by decide +kernel, by decide +kernel⟩, q144, by decide⟩
abbrev xJ12_init : sm_X := (RJ12, cJ12_init, 1, none, "<init>", [])
theorem kJ12_init : sm_C xJ12_init yJ12_init 0 := ⟨q823, rfl, rfl, rfl, by decide +kernel, ⟨by decide +kernel, by decide +kernel, by decide +kernel⟩, q145, by decide⟩
abbrev xJ12_append : sm_X := (RJ12, cJ12_append, 2, (some (.object "java/lang/StringBuilder")), "append", [])
theorem kJ12_append : sm_C xJ12_append yJ12_append 1 := ⟨q852, rfl, rfl, rfl, by decide +kernel, ⟨by decide +kernel, by decide +kernel, by decide +kernel⟩, q145, by decide⟩
abbrev xJ12_toString : sm_X := (RJ12, cJ12_toString, 1, (some (.object "java/lang/String")), "toString", [])
theorem kJ12_toString : sm_C xJ12_toString yJ12_toString 0 := ⟨q927, rfl, rfl, rfl, by decide +kernel, ⟨by decide +kernel, by decide +kernel, by decide +kernel⟩, q145, by decide⟩
abbrev xJ12_length : sm_X := (RJ12, cJ12_length, 1, (some .int), "length", [])
theorem kJ12_length : sm_C xJ12_length yJ12_length 0 := ⟨q947, rfl, rfl, rfl, by decide +kernel, ⟨by decide +kernel, by decide +kernel, by decide +kernel⟩, q145, by decide⟩
abbrev xJ13_newLength : sm_X := (RJ13, cJ13_newLength, 4, (some .int), "newLength", [])
theorem kJ13_newLength : sm_C xJ13_newLength yJ13_newLength 3 := ⟨q866, rfl, rfl, rfl, by decide +kernel, ⟨by decide +kernel, by decide +kernel, by decide +kernel⟩, q146, by decide⟩
abbrev xJ13_hugeLength : sm_X := (RJ13, cJ13_hugeLength, 3, (some .int), "hugeLength", [])
theorem kJ13_hugeLength : sm_C xJ13_hugeLength yJ13_hugeLength 2 := ⟨q873, rfl, rfl, rfl, by decide +kernel, ⟨by decide +kernel, by decide +kernel, by decide +kernel⟩, q146, by decide⟩
abbrev xJ14_max : sm_X := (RJ14, cJ14_max, 2, (some .int), "max", [])
abbrev xJ14_min : sm_X := (RJ14, cJ14_min, 2, (some .int), "min", [])
abbrev xJ14_abs : sm_X := (RJ14, cJ14_abs, 1, (some .int), "abs", [])
abbrev xJ15_copyOf : sm_X := (RJ15, cJ15_copyOf, 3, (some (.array .byte)), "copyOf", [])
theorem kJ15_copyOf : sm_C xJ15_copyOf yJ15_copyOf 2 := ⟨q877, rfl, rfl, rfl, by decide +kernel, ⟨by decide +kernel, by decide +kernel, by decide +kernel⟩, q148, by decide⟩
abbrev xJ15_copyOfRange : sm_X := (RJ15, cJ15_copyOfRange, 3, (some (.array .byte)), "copyOfRange", [])
theorem kJ15_copyOfRange : sm_C xJ15_copyOfRange yJ15_copyOfRange 3 := ⟨q953, rfl, rfl, rfl, by decide +kernel, ⟨by decide +kernel, by decide +kernel, by decide +kernel⟩, q148, by decide⟩
abbrev xJ15_copyOfRangeByte : sm_X := (RJ15, cJ15_copyOfRangeByte, 5, (some (.array .byte)), "copyOfRangeByte", [])
theorem kJ15_copyOfRangeByte : sm_C xJ15_copyOfRangeByte yJ15_copyOfRangeByte 3 := ⟨q956, rfl, rfl, rfl, by decide +kernel, ⟨by decide +kernel, by decide +kernel, by decide +kernel⟩, q148, by decide⟩
abbrev xJ15_checkLength : sm_X := (RJ15, cJ15_checkLength, 2, none, "checkLength", [])
theorem kJ15_checkLength : sm_C xJ15_checkLength yJ15_checkLength 2 := ⟨q959, rfl, rfl, rfl, by decide +kernel, ⟨by decide +kernel, by decide +kernel, by decide +kernel⟩, q148, by decide⟩
abbrev xJ15_copyOf_2 : sm_X := (RJ15, cJ15_copyOf_2, 2, (some (.array (.object "java/lang/Object"))), "copyOf", [])
theorem kJ15_copyOf_2 : sm_C xJ15_copyOf_2 yJ15_copyOf_2 2 := ⟨q1052, rfl, rfl, rfl, by decide +kernel, ⟨by decide +kernel, by decide +kernel, by decide +kernel⟩, q148, by decide⟩
abbrev xJ15_copyOf_3 : sm_X := (RJ15, cJ15_copyOf_3, 4, (some (.array (.object "java/lang/Object"))), "copyOf", [])
theorem kJ15_copyOf_3 : sm_C xJ15_copyOf_3 yJ15_copyOf_3 3 := ⟨q1079, rfl, rfl, rfl, by decide +kernel, ⟨by decide +kernel, by decide +kernel, by decide +kernel⟩, q148, by decide⟩
abbrev xJ16_signum : sm_X := (RJ16, cJ16_signum, 1, (some .int), "signum", [])
theorem kJ16_signum : sm_C xJ16_signum yJ16_signum 1 := ⟨q1280, rfl, rfl, rfl, by decide +kernel, ⟨by decide +kernel, by decide +kernel, by decide +kernel⟩, q152, by decide⟩
abbrev xJ16_bitCount : sm_X := (RJ16, cJ16_bitCount, 1, (some .int), "bitCount", [])
theorem kJ16_bitCount : sm_C xJ16_bitCount yJ16_bitCount 1 := ⟨q1462, rfl, rfl, rfl, by decide +kernel, ⟨by decide +kernel, by decide +kernel, by decide +kernel⟩, q152, by decide⟩
abbrev xJ17_init : sm_X := (RJ17, cJ17_init, 1, none, "<init>", [])
abbrev xJ2_init : sm_X := (RJ2, cJ2_init, 5, none, "<init>", [])
theorem kJ2_init : sm_C xJ2_init yJ2_init 4 := ⟨q206, rfl, rfl, rfl, by decide +kernel, ⟨by decide +kernel, by decide +kernel, by decide +kernel⟩, q118, by decide⟩
abbrev xJ3_init : sm_X := (RJ3, cJ3_init, 1, none, "<init>", [])
theorem kJ3_init : sm_C xJ3_init yJ3_init 0 := ⟨q339, rfl, rfl, rfl, by decide +kernel, ⟨by decide +kernel, by decide +kernel, by decide +kernel⟩, q123, by decide⟩
abbrev xJ4_init : sm_X := (RJ4, cJ4_init, 1, none, "<init>", [])
theorem kJ4_init : sm_C xJ4_init yJ4_init 0 := ⟨q336, rfl, rfl, rfl, by decide +kernel, ⟨by decide +kernel, by decide +kernel, by decide +kernel⟩, q124, by decide⟩
abbrev xJ5_init : sm_X := (RJ5, cJ5_init, 1, none, "<init>", [])
theorem kJ5_init : sm_C xJ5_init yJ5_init 0 := ⟨q333, rfl, rfl, rfl, by decide +kernel, ⟨by decide +kernel, by decide +kernel, by decide +kernel⟩, q125, by decide⟩
abbrev xJ5_size : sm_X := (RJ5, cJ5_size, 1, (some .int), "size", [])
theorem kJ5_size : sm_C xJ5_size yJ5_size 0 := ⟨q496, rfl, rfl, rfl, by decide +kernel, ⟨by decide +kernel, by decide +kernel, by decide +kernel⟩, q125, by decide⟩
abbrev xJ5_get : sm_X := (RJ5, cJ5_get, 2, (some (.object "java/lang/Object")), "get", [])
theorem kJ5_get : sm_C xJ5_get yJ5_get 1 := ⟨q500, rfl, rfl, rfl, by decide +kernel, ⟨by decide +kernel, by decide +kernel, by decide +kernel⟩, q125, by decide⟩
abbrev xJ5_elementData : sm_X := (RJ5, cJ5_elementData, 2, (some (.object "java/lang/Object")), "elementData", [])
theorem kJ5_elementData : sm_C xJ5_elementData yJ5_elementData 1 := ⟨q510, rfl, rfl, rfl, by decide +kernel, ⟨by decide +kernel, by decide +kernel, by decide +kernel⟩, q125, by decide⟩
abbrev xJ5_add : sm_X := (RJ5, cJ5_add, 2, (some .boolean), "add", [])
theorem kJ5_add : sm_C xJ5_add yJ5_add 1 := ⟨q1036, rfl, rfl, rfl, by decide +kernel, ⟨by decide +kernel, by decide +kernel, by decide +kernel⟩, q125, by decide⟩
abbrev xJ5_add_2 : sm_X := (RJ5, cJ5_add_2, 4, none, "add", [])
theorem kJ5_add_2 : sm_C xJ5_add_2 yJ5_add_2 3 := ⟨q1040, rfl, rfl, rfl, by decide +kernel, ⟨by decide +kernel, by decide +kernel, by decide +kernel⟩, q125, by decide⟩
abbrev xJ5_grow : sm_X := (RJ5, cJ5_grow, 1, (some (.array (.object "java/lang/Object"))), "grow", [])
theorem kJ5_grow : sm_C xJ5_grow yJ5_grow 0 := ⟨q1044, rfl, rfl, rfl, by decide +kernel, ⟨by decide +kernel, by decide +kernel, by decide +kernel⟩, q125, by decide⟩
abbrev xJ5_grow_2 : sm_X := (RJ5, cJ5_grow_2, 4, (some (.array (.object "java/lang/Object"))), "grow", [])
theorem kJ5_grow_2 : sm_C xJ5_grow_2 yJ5_grow_2 1 := ⟨q1048, rfl, rfl, rfl, by decide +kernel, ⟨by decide +kernel, by decide +kernel, by decide +kernel⟩, q125, by decide⟩
abbrev xJ6_checkIndex : sm_X := (RJ6, cJ6_checkIndex, 2, (some .int), "checkIndex", [])
theorem kJ6_checkIndex : sm_C xJ6_checkIndex yJ6_checkIndex 2 := ⟨q503, rfl, rfl, rfl, by decide +kernel, ⟨by decide +kernel, by decide +kernel, by decide +kernel⟩, q131, by decide⟩
abbrev xJ7_checkIndex : sm_X := (RJ7, cJ7_checkIndex, 3, (some .int), "checkIndex", [])
theorem kJ7_checkIndex : sm_C xJ7_checkIndex yJ7_checkIndex 3 := ⟨q506, rfl, rfl, rfl, by decide +kernel, ⟨by decide +kernel, by decide +kernel, by decide +kernel⟩, q132, by decide⟩
abbrev xJ7_checkFromIndexSize : sm_X := (RJ7, cJ7_checkFromIndexSize, 4, (some .int), "checkFromIndexSize", [])
theorem kJ7_checkFromIndexSize : sm_C xJ7_checkFromIndexSize yJ7_checkFromIndexSize 4 := ⟨q917, rfl, rfl, rfl, by decide +kernel, ⟨by decide +kernel, by decide +kernel, by decide +kernel⟩, q132, by decide⟩
abbrev xJ8_length : sm_X := (RJ8, cJ8_length, 1, (some .int), "length", [])
theorem kJ8_length : sm_C xJ8_length yJ8_length 0 := ⟨q619, rfl, rfl, rfl, by decide +kernel, ⟨by decide +kernel, by decide +kernel, by decide +kernel⟩, q134, by decide⟩
abbrev xJ8_coder : sm_X := (RJ8, cJ8_coder, 1, (some .byte), "coder", [])
theorem kJ8_coder : sm_C xJ8_coder yJ8_coder 0 := ⟨q623, rfl, rfl, rfl, by decide +kernel, ⟨by decide +kernel, by decide +kernel, by decide +kernel⟩, q134, by decide⟩
abbrev xJ8_charAt : sm_X := (RJ8, cJ8_charAt, 2, (some .char), "charAt", [])
theorem kJ8_charAt : sm_C xJ8_charAt yJ8_charAt 1 := ⟨q629, rfl, rfl, rfl, by decide +kernel, ⟨by decide +kernel, by decide +kernel, by decide +kernel⟩, q134, by decide⟩
abbrev xJ8_isLatin1 : sm_X := (RJ8, cJ8_isLatin1, 1, (some .boolean), "isLatin1", [])
theorem kJ8_isLatin1 : sm_C xJ8_isLatin1 yJ8_isLatin1 0 := ⟨q633, rfl, rfl, rfl, by decide +kernel, ⟨by decide +kernel, by decide +kernel, by decide +kernel⟩, q134, by decide⟩
abbrev xJ8_checkIndex : sm_X := (RJ8, cJ8_checkIndex, 2, none, "checkIndex", [])
theorem kJ8_checkIndex : sm_C xJ8_checkIndex yJ8_checkIndex 2 := ⟨q639, rfl, rfl, rfl, by decide +kernel, ⟨by decide +kernel, by decide +kernel, by decide +kernel⟩, q134, by decide⟩
abbrev xJ8_checkBoundsOffCount : sm_X := (RJ8, cJ8_checkBoundsOffCount, 3, (some .int), "checkBoundsOffCount", [])
theorem kJ8_checkBoundsOffCount : sm_C xJ8_checkBoundsOffCount yJ8_checkBoundsOffCount 3 := ⟨q914, rfl, rfl, rfl, by decide +kernel, ⟨by decide +kernel, by decide +kernel, by decide +kernel⟩, q134, by decide⟩
abbrev xJ8_init : sm_X := (RJ8, cJ8_init, 2, none, "<init>", [])
theorem kJ8_init : sm_C xJ8_init yJ8_init 1 := ⟨q932, rfl, rfl, rfl, by decide +kernel, ⟨by decide +kernel, by decide +kernel, by decide +kernel⟩, q134, by decide⟩
abbrev xJ8_init_2 : sm_X := (RJ8, cJ8_init_2, 5, none, "<init>", [])
theorem kJ8_init_2 : sm_C xJ8_init_2 yJ8_init_2 2 := ⟨q935, rfl, rfl, rfl, by decide +kernel, ⟨by decide +kernel, by decide +kernel, by decide +kernel⟩, q134, by decide⟩
abbrev xJ8_equals : sm_X := (RJ8, cJ8_equals, 3, (some .boolean), "equals", [])
theorem kJ8_equals : sm_C xJ8_equals yJ8_equals 1 := ⟨q994, rfl, rfl, rfl, by decide +kernel, ⟨by decide +kernel, by decide +kernel, by decide +kernel⟩, q134, by decide⟩
abbrev xJ9_charAt : sm_X := (RJ9, cJ9_charAt, 2, (some .char), "charAt", [])
theorem kJ9_charAt : sm_C xJ9_charAt yJ9_charAt 2 := ⟨q636, rfl, rfl, rfl, by decide +kernel, ⟨by decide +kernel, by decide +kernel, by decide +kernel⟩, q135, by decide⟩
abbrev xJ9_canEncode : sm_X := (RJ9, cJ9_canEncode, 1, (some .boolean), "canEncode", [])
theorem kJ9_canEncode : sm_C xJ9_canEncode yJ9_canEncode 1 := ⟨q898, rfl, rfl, rfl, by decide +kernel, ⟨by decide +kernel, by decide +kernel, by decide +kernel⟩, q135, by decide⟩
abbrev xJ9_inflate : sm_X := (RJ9, cJ9_inflate, 5, none, "inflate", [])
theorem kJ9_inflate : sm_C xJ9_inflate yJ9_inflate 5 := ⟨q905, rfl, rfl, rfl, by decide +kernel, ⟨by decide +kernel, by decide +kernel, by decide +kernel⟩, q135, by decide⟩
abbrev xJ9_equals : sm_X := (RJ9, cJ9_equals, 3, (some .boolean), "equals", [])
theorem kJ9_equals : sm_C xJ9_equals yJ9_equals 2 := ⟨q998, rfl, rfl, rfl, by decide +kernel, ⟨by decide +kernel, by decide +kernel, by decide +kernel⟩, q135, by decide⟩
abbrev xX0_init : sm_X := (RX0, cX0_init, 2, none, "<init>", [])
theorem kX0_init : sm_C xX0_init yX0_init 0 := ⟨q157, rfl, rfl, rfl, by decide +kernel, ⟨by decide +kernel, by decide +kernel, by decide +kernel⟩, q115, by decide⟩
abbrev xX0_feed : sm_X := (RX0, cX0_feed, 6, (some .int), "feed", [])
theorem kX0_feed : sm_C xX0_feed yX0_feed 5 := ⟨q583, rfl, rfl, rfl, by decide +kernel, ⟨by decide +kernel, by decide +kernel, by decide +kernel⟩, q115, by decide⟩
abbrev xX0_typed : sm_X := (RX0, cX0_typed, 3, none, "typed", [])
theorem kX0_typed : sm_C xX0_typed yX0_typed 1 := ⟨q587, rfl, rfl, rfl, by decide +kernel, ⟨by decide +kernel, by decide +kernel, by decide +kernel⟩, q115, by decide⟩
abbrev xX0_back : sm_X := (RX0, cX0_back, 2, (some .int), "back", [])
theorem kX0_back : sm_C xX0_back yX0_back 1 := ⟨q591, rfl, rfl, rfl, by decide +kernel, ⟨by decide +kernel, by decide +kernel, by decide +kernel⟩, q115, by decide⟩
abbrev xX0_read : sm_X := (RX0, cX0_read, 3, (some .int), "read", [(7, 59, 62, 25)])
abbrev xX0_place : sm_X := (RX0, cX0_place, 1, (some .int), "place", [])
theorem kX0_place : sm_C xX0_place yX0_place 0 := ⟨q1129, rfl, rfl, rfl, by decide +kernel, ⟨by decide +kernel, by decide +kernel, by decide +kernel⟩, q115, by decide⟩
abbrev xX0_door : sm_X := (RX0, cX0_door, 3, (some .int), "door", [])
theorem kX0_door : sm_C xX0_door yX0_door 2 := ⟨q1133, rfl, rfl, rfl, by decide +kernel, ⟨by decide +kernel, by decide +kernel, by decide +kernel⟩, q115, by decide⟩
abbrev xX0_isDoor : sm_X := (RX0, cX0_isDoor, 2, (some .boolean), "isDoor", [])
theorem kX0_isDoor : sm_C xX0_isDoor yX0_isDoor 1 := ⟨q1137, rfl, rfl, rfl, by decide +kernel, ⟨by decide +kernel, by decide +kernel, by decide +kernel⟩, q115, by decide⟩
abbrev xX0_doors : sm_X := (RX0, cX0_doors, 1, (some .int), "doors", [])
theorem kX0_doors : sm_C xX0_doors yX0_doors 0 := ⟨q1141, rfl, rfl, rfl, by decide +kernel, ⟨by decide +kernel, by decide +kernel, by decide +kernel⟩, q115, by decide⟩
abbrev xX0_isIn : sm_X := (RX0, cX0_isIn, 3, (some .boolean), "isIn", [])
theorem kX0_isIn : sm_C xX0_isIn yX0_isIn 3 := ⟨q1145, rfl, rfl, rfl, by decide +kernel, ⟨by decide +kernel, by decide +kernel, by decide +kernel⟩, q115, by decide⟩
abbrev xX0_isPart : sm_X := (RX0, cX0_isPart, 1, (some .boolean), "isPart", [])
theorem kX0_isPart : sm_C xX0_isPart yX0_isPart 1 := ⟨q1148, rfl, rfl, rfl, by decide +kernel, ⟨by decide +kernel, by decide +kernel, by decide +kernel⟩, q115, by decide⟩
abbrev xX0_unlikeOf : sm_X := (RX0, cX0_unlikeOf, 4, (some .int), "unlikeOf", [])
theorem kX0_unlikeOf : sm_C xX0_unlikeOf yX0_unlikeOf 2 := ⟨q1161, rfl, rfl, rfl, by decide +kernel, ⟨by decide +kernel, by decide +kernel, by decide +kernel⟩, q115, by decide⟩
abbrev xX0_worn : sm_X := (RX0, cX0_worn, 3, (some .int), "worn", [])
theorem kX0_worn : sm_C xX0_worn yX0_worn 2 := ⟨q1168, rfl, rfl, rfl, by decide +kernel, ⟨by decide +kernel, by decide +kernel, by decide +kernel⟩, q115, by decide⟩
abbrev xX0_caller : sm_X := (RX0, cX0_caller, 5, (some .int), "caller", [])
theorem kX0_caller : sm_C xX0_caller yX0_caller 2 := ⟨q1175, rfl, rfl, rfl, by decide +kernel, ⟨by decide +kernel, by decide +kernel, by decide +kernel⟩, q115, by decide⟩
abbrev xX0_isCaller : sm_X := (RX0, cX0_isCaller, 2, (some .boolean), "isCaller", [])
theorem kX0_isCaller : sm_C xX0_isCaller yX0_isCaller 1 := ⟨q1179, rfl, rfl, rfl, by decide +kernel, ⟨by decide +kernel, by decide +kernel, by decide +kernel⟩, q115, by decide⟩
abbrev xX0_callers : sm_X := (RX0, cX0_callers, 1, (some .int), "callers", [])
theorem kX0_callers : sm_C xX0_callers yX0_callers 0 := ⟨q1183, rfl, rfl, rfl, by decide +kernel, ⟨by decide +kernel, by decide +kernel, by decide +kernel⟩, q115, by decide⟩
abbrev xX0_round : sm_X := (RX0, cX0_round, 4, (some .int), "round", [])
theorem kX0_round : sm_C xX0_round yX0_round 2 := ⟨q1188, rfl, rfl, rfl, by decide +kernel, ⟨by decide +kernel, by decide +kernel, by decide +kernel⟩, q115, by decide⟩
abbrev xX0_isRound : sm_X := (RX0, cX0_isRound, 2, (some .boolean), "isRound", [])
theorem kX0_isRound : sm_C xX0_isRound yX0_isRound 1 := ⟨q1192, rfl, rfl, rfl, by decide +kernel, ⟨by decide +kernel, by decide +kernel, by decide +kernel⟩, q115, by decide⟩
abbrev xX0_unlike : sm_X := (RX0, cX0_unlike, 3, (some .int), "unlike", [])
theorem kX0_unlike : sm_C xX0_unlike yX0_unlike 2 := ⟨q1205, rfl, rfl, rfl, by decide +kernel, ⟨by decide +kernel, by decide +kernel, by decide +kernel⟩, q115, by decide⟩
abbrev xX0_tells : sm_X := (RX0, cX0_tells, 4, (some .int), "tells", [])
theorem kX0_tells : sm_C xX0_tells yX0_tells 3 := ⟨q1210, rfl, rfl, rfl, by decide +kernel, ⟨by decide +kernel, by decide +kernel, by decide +kernel⟩, q115, by decide⟩
abbrev xX0_lift : sm_X := (RX0, cX0_lift, 3, (some .boolean), "lift", [])
theorem kX0_lift : sm_C xX0_lift yX0_lift 2 := ⟨q1250, rfl, rfl, rfl, by decide +kernel, ⟨by decide +kernel, by decide +kernel, by decide +kernel⟩, q115, by decide⟩
abbrev xX0_keeps : sm_X := (RX0, cX0_keeps, 1, none, "keeps", [])
theorem kX0_keeps : sm_C xX0_keeps yX0_keeps 0 := ⟨q1254, rfl, rfl, rfl, by decide +kernel, ⟨by decide +kernel, by decide +kernel, by decide +kernel⟩, q115, by decide⟩
abbrev xX0_towardsBy : sm_X := (RX0, cX0_towardsBy, 3, (some .int), "towardsBy", [])
theorem kX0_towardsBy : sm_C xX0_towardsBy yX0_towardsBy 3 := ⟨q1277, rfl, rfl, rfl, by decide +kernel, ⟨by decide +kernel, by decide +kernel, by decide +kernel⟩, q115, by decide⟩
abbrev xX0_polish : sm_X := (RX0, cX0_polish, 2, (some .boolean), "polish", [])
theorem kX0_polish : sm_C xX0_polish yX0_polish 1 := ⟨q1284, rfl, rfl, rfl, by decide +kernel, ⟨by decide +kernel, by decide +kernel, by decide +kernel⟩, q115, by decide⟩
abbrev xX0_file : sm_X := (RX0, cX0_file, 3, (some .boolean), "file", [])
theorem kX0_file : sm_C xX0_file yX0_file 2 := ⟨q1292, rfl, rfl, rfl, by decide +kernel, ⟨by decide +kernel, by decide +kernel, by decide +kernel⟩, q115, by decide⟩
abbrev xX0_keep : sm_X := (RX0, cX0_keep, 3, (some .boolean), "keep", [])
theorem kX0_keep : sm_C xX0_keep yX0_keep 2 := ⟨q1296, rfl, rfl, rfl, by decide +kernel, ⟨by decide +kernel, by decide +kernel, by decide +kernel⟩, q115, by decide⟩
abbrev xX0_days : sm_X := (RX0, cX0_days, 2, (some .int), "days", [])
theorem kX0_days : sm_C xX0_days yX0_days 1 := ⟨q1300, rfl, rfl, rfl, by decide +kernel, ⟨by decide +kernel, by decide +kernel, by decide +kernel⟩, q115, by decide⟩
abbrev xX0_isAhead : sm_X := (RX0, cX0_isAhead, 1, (some .boolean), "isAhead", [])
theorem kX0_isAhead : sm_C xX0_isAhead yX0_isAhead 1 := ⟨q1303, rfl, rfl, rfl, by decide +kernel, ⟨by decide +kernel, by decide +kernel, by decide +kernel⟩, q115, by decide⟩
abbrev xX0_runs : sm_X := (RX0, cX0_runs, 5, none, "runs", [])
theorem kX0_runs : sm_C xX0_runs yX0_runs 3 := ⟨q1307, rfl, rfl, rfl, by decide +kernel, ⟨by decide +kernel, by decide +kernel, by decide +kernel⟩, q115, by decide⟩
abbrev xX0_lot : sm_X := (RX0, cX0_lot, 3, (some .int), "lot", [])
theorem kX0_lot : sm_C xX0_lot yX0_lot 3 := ⟨q1328, rfl, rfl, rfl, by decide +kernel, ⟨by decide +kernel, by decide +kernel, by decide +kernel⟩, q115, by decide⟩
abbrev xX0_mixed : sm_X := (RX0, cX0_mixed, 3, (some .int), "mixed", [])
theorem kX0_mixed : sm_C xX0_mixed yX0_mixed 2 := ⟨q1331, rfl, rfl, rfl, by decide +kernel, ⟨by decide +kernel, by decide +kernel, by decide +kernel⟩, q115, by decide⟩
abbrev xX0_undo : sm_X := (RX0, cX0_undo, 1, (some .boolean), "undo", [])
theorem kX0_undo : sm_C xX0_undo yX0_undo 0 := ⟨q1346, rfl, rfl, rfl, by decide +kernel, ⟨by decide +kernel, by decide +kernel, by decide +kernel⟩, q115, by decide⟩
abbrev xX0_lifts : sm_X := (RX0, cX0_lifts, 5, (some .int), "lifts", [])
theorem kX0_lifts : sm_C xX0_lifts yX0_lifts 3 := ⟨q1350, rfl, rfl, rfl, by decide +kernel, ⟨by decide +kernel, by decide +kernel, by decide +kernel⟩, q115, by decide⟩
abbrev xX0_laysLifts : sm_X := (RX0, cX0_laysLifts, 6, (some .boolean), "laysLifts", [])
theorem kX0_laysLifts : sm_C xX0_laysLifts yX0_laysLifts 4 := ⟨q1354, rfl, rfl, rfl, by decide +kernel, ⟨by decide +kernel, by decide +kernel, by decide +kernel⟩, q115, by decide⟩
abbrev xX0_towards : sm_X := (RX0, cX0_towards, 8, (some .int), "towards", [])
theorem kX0_towards : sm_C xX0_towards yX0_towards 3 := ⟨q1358, rfl, rfl, rfl, by decide +kernel, ⟨by decide +kernel, by decide +kernel, by decide +kernel⟩, q115, by decide⟩
abbrev xX0_without : sm_X := (RX0, cX0_without, 3, (some .int), "without", [])
theorem kX0_without : sm_C xX0_without yX0_without 2 := ⟨q1363, rfl, rfl, rfl, by decide +kernel, ⟨by decide +kernel, by decide +kernel, by decide +kernel⟩, q115, by decide⟩
abbrev xX0_twins : sm_X := (RX0, cX0_twins, 7, (some .int), "twins", [])
theorem kX0_twins : sm_C xX0_twins yX0_twins 1 := ⟨q1367, rfl, rfl, rfl, by decide +kernel, ⟨by decide +kernel, by decide +kernel, by decide +kernel⟩, q115, by decide⟩
abbrev xX0_paired : sm_X := (RX0, cX0_paired, 4, (some .int), "paired", [])
theorem kX0_paired : sm_C xX0_paired yX0_paired 1 := ⟨q1371, rfl, rfl, rfl, by decide +kernel, ⟨by decide +kernel, by decide +kernel, by decide +kernel⟩, q115, by decide⟩
abbrev xX0_laysPaired : sm_X := (RX0, cX0_laysPaired, 4, none, "laysPaired", [])
theorem kX0_laysPaired : sm_C xX0_laysPaired yX0_laysPaired 0 := ⟨q1375, rfl, rfl, rfl, by decide +kernel, ⟨by decide +kernel, by decide +kernel, by decide +kernel⟩, q115, by decide⟩
abbrev xX0_pairedBy : sm_X := (RX0, cX0_pairedBy, 4, (some .int), "pairedBy", [])
theorem kX0_pairedBy : sm_C xX0_pairedBy yX0_pairedBy 3 := ⟨q1379, rfl, rfl, rfl, by decide +kernel, ⟨by decide +kernel, by decide +kernel, by decide +kernel⟩, q115, by decide⟩
abbrev xX0_pairedTo : sm_X := (RX0, cX0_pairedTo, 4, (some .int), "pairedTo", [])
theorem kX0_pairedTo : sm_C xX0_pairedTo yX0_pairedTo 2 := ⟨q1383, rfl, rfl, rfl, by decide +kernel, ⟨by decide +kernel, by decide +kernel, by decide +kernel⟩, q115, by decide⟩
abbrev xX0_flat : sm_X := (RX0, cX0_flat, 5, (some .int), "flat", [])
theorem kX0_flat : sm_C xX0_flat yX0_flat 1 := ⟨q1387, rfl, rfl, rfl, by decide +kernel, ⟨by decide +kernel, by decide +kernel, by decide +kernel⟩, q115, by decide⟩
abbrev xX0_confused : sm_X := (RX0, cX0_confused, 7, (some .int), "confused", [])
theorem kX0_confused : sm_C xX0_confused yX0_confused 1 := ⟨q1391, rfl, rfl, rfl, by decide +kernel, ⟨by decide +kernel, by decide +kernel, by decide +kernel⟩, q115, by decide⟩
abbrev xX0_nearest : sm_X := (RX0, cX0_nearest, 7, (some .int), "nearest", [])
theorem kX0_nearest : sm_C xX0_nearest yX0_nearest 2 := ⟨q1395, rfl, rfl, rfl, by decide +kernel, ⟨by decide +kernel, by decide +kernel, by decide +kernel⟩, q115, by decide⟩
abbrev xX0_same : sm_X := (RX0, cX0_same, 5, (some .int), "same", [])
theorem kX0_same : sm_C xX0_same yX0_same 2 := ⟨q1399, rfl, rfl, rfl, by decide +kernel, ⟨by decide +kernel, by decide +kernel, by decide +kernel⟩, q115, by decide⟩
abbrev xX0_when : sm_X := (RX0, cX0_when, 4, (some .int), "when", [])
theorem kX0_when : sm_C xX0_when yX0_when 2 := ⟨q1403, rfl, rfl, rfl, by decide +kernel, ⟨by decide +kernel, by decide +kernel, by decide +kernel⟩, q115, by decide⟩
abbrev xX0_alone : sm_X := (RX0, cX0_alone, 4, (some .int), "alone", [])
theorem kX0_alone : sm_C xX0_alone yX0_alone 2 := ⟨q1407, rfl, rfl, rfl, by decide +kernel, ⟨by decide +kernel, by decide +kernel, by decide +kernel⟩, q115, by decide⟩
abbrev xX0_shift : sm_X := (RX0, cX0_shift, 3, (some .int), "shift", [])
theorem kX0_shift : sm_C xX0_shift yX0_shift 2 := ⟨q1411, rfl, rfl, rfl, by decide +kernel, ⟨by decide +kernel, by decide +kernel, by decide +kernel⟩, q115, by decide⟩
abbrev xX0_calls : sm_X := (RX0, cX0_calls, 3, (some .int), "calls", [])
theorem kX0_calls : sm_C xX0_calls yX0_calls 2 := ⟨q1415, rfl, rfl, rfl, by decide +kernel, ⟨by decide +kernel, by decide +kernel, by decide +kernel⟩, q115, by decide⟩
abbrev xX0_richest : sm_X := (RX0, cX0_richest, 5, (some .int), "richest", [])
theorem kX0_richest : sm_C xX0_richest yX0_richest 2 := ⟨q1419, rfl, rfl, rfl, by decide +kernel, ⟨by decide +kernel, by decide +kernel, by decide +kernel⟩, q115, by decide⟩
abbrev xX0_changes : sm_X := (RX0, cX0_changes, 4, (some .int), "changes", [])
theorem kX0_changes : sm_C xX0_changes yX0_changes 1 := ⟨q1423, rfl, rfl, rfl, by decide +kernel, ⟨by decide +kernel, by decide +kernel, by decide +kernel⟩, q115, by decide⟩
abbrev xX0_rubs : sm_X := (RX0, cX0_rubs, 4, (some .int), "rubs", [])
theorem kX0_rubs : sm_C xX0_rubs yX0_rubs 1 := ⟨q1427, rfl, rfl, rfl, by decide +kernel, ⟨by decide +kernel, by decide +kernel, by decide +kernel⟩, q115, by decide⟩
abbrev xX0_then : sm_X := (RX0, cX0_then, 4, (some .int), "then", [])
theorem kX0_then : sm_C xX0_then yX0_then 3 := ⟨q1431, rfl, rfl, rfl, by decide +kernel, ⟨by decide +kernel, by decide +kernel, by decide +kernel⟩, q115, by decide⟩
abbrev xX0_busy : sm_X := (RX0, cX0_busy, 6, (some .int), "busy", [])
theorem kX0_busy : sm_C xX0_busy yX0_busy 2 := ⟨q1435, rfl, rfl, rfl, by decide +kernel, ⟨by decide +kernel, by decide +kernel, by decide +kernel⟩, q115, by decide⟩
abbrev xX0_year : sm_X := (RX0, cX0_year, 7, (some .int), "year", [])
theorem kX0_year : sm_C xX0_year yX0_year 4 := ⟨q1439, rfl, rfl, rfl, by decide +kernel, ⟨by decide +kernel, by decide +kernel, by decide +kernel⟩, q115, by decide⟩
abbrev xX0_tell : sm_X := (RX0, cX0_tell, 4, (some .int), "tell", [])
theorem kX0_tell : sm_C xX0_tell yX0_tell 3 := ⟨q1443, rfl, rfl, rfl, by decide +kernel, ⟨by decide +kernel, by decide +kernel, by decide +kernel⟩, q115, by decide⟩
abbrev xX0_forget : sm_X := (RX0, cX0_forget, 2, (some .int), "forget", [])
theorem kX0_forget : sm_C xX0_forget yX0_forget 0 := ⟨q1447, rfl, rfl, rfl, by decide +kernel, ⟨by decide +kernel, by decide +kernel, by decide +kernel⟩, q115, by decide⟩
abbrev xX0_who : sm_X := (RX0, cX0_who, 4, (some .int), "who", [])
theorem kX0_who : sm_C xX0_who yX0_who 2 := ⟨q1451, rfl, rfl, rfl, by decide +kernel, ⟨by decide +kernel, by decide +kernel, by decide +kernel⟩, q115, by decide⟩
abbrev xX0_whoBy : sm_X := (RX0, cX0_whoBy, 6, (some .int), "whoBy", [])
theorem kX0_whoBy : sm_C xX0_whoBy yX0_whoBy 1 := ⟨q1455, rfl, rfl, rfl, by decide +kernel, ⟨by decide +kernel, by decide +kernel, by decide +kernel⟩, q115, by decide⟩
abbrev xX0_wayOf : sm_X := (RX0, cX0_wayOf, 4, (some .int), "wayOf", [])
theorem kX0_wayOf : sm_C xX0_wayOf yX0_wayOf 3 := ⟨q1459, rfl, rfl, rfl, by decide +kernel, ⟨by decide +kernel, by decide +kernel, by decide +kernel⟩, q115, by decide⟩
abbrev xX0_ask : sm_X := (RX0, cX0_ask, 8, (some .int), "ask", [])
theorem kX0_ask : sm_C xX0_ask yX0_ask 1 := ⟨q1469, rfl, rfl, rfl, by decide +kernel, ⟨by decide +kernel, by decide +kernel, by decide +kernel⟩, q115, by decide⟩
abbrev xX0_worstOf : sm_X := (RX0, cX0_worstOf, 5, (some .int), "worstOf", [])
theorem kX0_worstOf : sm_C xX0_worstOf yX0_worstOf 3 := ⟨q1473, rfl, rfl, rfl, by decide +kernel, ⟨by decide +kernel, by decide +kernel, by decide +kernel⟩, q115, by decide⟩
abbrev xX0_hold : sm_X := (RX0, cX0_hold, 2, (some .boolean), "hold", [])
theorem kX0_hold : sm_C xX0_hold yX0_hold 1 := ⟨q1478, rfl, rfl, rfl, by decide +kernel, ⟨by decide +kernel, by decide +kernel, by decide +kernel⟩, q115, by decide⟩
abbrev xX0_restore : sm_X := (RX0, cX0_restore, 2, (some .boolean), "restore", [])
theorem kX0_restore : sm_C xX0_restore yX0_restore 1 := ⟨q1482, rfl, rfl, rfl, by decide +kernel, ⟨by decide +kernel, by decide +kernel, by decide +kernel⟩, q115, by decide⟩
abbrev xX0_count : sm_X := (RX0, cX0_count, 7, (some .int), "count", [])
theorem kX0_count : sm_C xX0_count yX0_count 1 := ⟨q1486, rfl, rfl, rfl, by decide +kernel, ⟨by decide +kernel, by decide +kernel, by decide +kernel⟩, q115, by decide⟩
abbrev xX0_sum : sm_X := (RX0, cX0_sum, 3, (some .int), "sum", [])
theorem kX0_sum : sm_C xX0_sum yX0_sum 1 := ⟨q1489, rfl, rfl, rfl, by decide +kernel, ⟨by decide +kernel, by decide +kernel, by decide +kernel⟩, q115, by decide⟩
abbrev xX1_init : sm_X := (RX1, cX1_init, 1, none, "<init>", [])
theorem kX1_init : sm_C xX1_init yX1_init 0 := ⟨q202, rfl, rfl, rfl, by decide +kernel, ⟨by decide +kernel, by decide +kernel, by decide +kernel⟩, q119, by decide⟩
abbrev xX1_of : sm_X := (RX1, cX1_of, 3, (some (.object "KnockerFaces$Fault")), "of", [])
theorem kX1_of : sm_C xX1_of yX1_of 2 := ⟨q691, rfl, rfl, rfl, by decide +kernel, ⟨by decide +kernel, by decide +kernel, by decide +kernel⟩, q119, by decide⟩
abbrev xX10_init : sm_X := (RX10, cX10_init, 1, none, "<init>", [])
theorem kX10_init : sm_C xX10_init yX10_init 0 := ⟨q1495, rfl, rfl, rfl, by decide +kernel, ⟨by decide +kernel, by decide +kernel, by decide +kernel⟩, q133, by decide⟩
abbrev xX10_plain : sm_X := (RX10, cX10_plain, 3, none, "plain", [])
theorem kX10_plain : sm_C xX10_plain yX10_plain 1 := ⟨q1500, rfl, rfl, rfl, by decide +kernel, ⟨by decide +kernel, by decide +kernel, by decide +kernel⟩, q133, by decide⟩
abbrev xX10_word : sm_X := (RX10, cX10_word, 7, (some .long), "word", [])
theorem kX10_word : sm_C xX10_word yX10_word 7 := ⟨q1503, rfl, rfl, rfl, by decide +kernel, ⟨by decide +kernel, by decide +kernel, by decide +kernel⟩, q133, by decide⟩
abbrev xX10_appends : sm_X := (RX10, cX10_appends, 3, (some .long), "appends", [])
theorem kX10_appends : sm_C xX10_appends yX10_appends 2 := ⟨q1506, rfl, rfl, rfl, by decide +kernel, ⟨by decide +kernel, by decide +kernel, by decide +kernel⟩, q133, by decide⟩
abbrev xX10_begins : sm_X := (RX10, cX10_begins, 2, none, "begins", [])
theorem kX10_begins : sm_C xX10_begins yX10_begins 0 := ⟨q1511, rfl, rfl, rfl, by decide +kernel, ⟨by decide +kernel, by decide +kernel, by decide +kernel⟩, q133, by decide⟩
abbrev xX10_keepsRow : sm_X := (RX10, cX10_keepsRow, 2, none, "keepsRow", [])
theorem kX10_keepsRow : sm_C xX10_keepsRow yX10_keepsRow 0 := ⟨q1515, rfl, rfl, rfl, by decide +kernel, ⟨by decide +kernel, by decide +kernel, by decide +kernel⟩, q133, by decide⟩
abbrev xX10_feed : sm_X := (RX10, cX10_feed, 6, (some .int), "feed", [])
theorem kX10_feed : sm_C xX10_feed yX10_feed 5 := ⟨q1718, rfl, rfl, rfl, by decide +kernel, ⟨by decide +kernel, by decide +kernel, by decide +kernel⟩, q133, by decide⟩
abbrev xX10_put : sm_X := (RX10, cX10_put, 3, none, "put", [])
theorem kX10_put : sm_C xX10_put yX10_put 1 := ⟨q1722, rfl, rfl, rfl, by decide +kernel, ⟨by decide +kernel, by decide +kernel, by decide +kernel⟩, q133, by decide⟩
abbrev xX10_back : sm_X := (RX10, cX10_back, 2, (some .int), "back", [])
theorem kX10_back : sm_C xX10_back yX10_back 1 := ⟨q1726, rfl, rfl, rfl, by decide +kernel, ⟨by decide +kernel, by decide +kernel, by decide +kernel⟩, q133, by decide⟩
abbrev xX10_read : sm_X := (RX10, cX10_read, 2, (some .int), "read", [])
theorem kX10_read : sm_C xX10_read yX10_read 0 := ⟨q1730, rfl, rfl, rfl, by decide +kernel, ⟨by decide +kernel, by decide +kernel, by decide +kernel⟩, q133, by decide⟩
abbrev xX10_cut : sm_X := (RX10, cX10_cut, 8, none, "cut", [])
theorem kX10_cut : sm_C xX10_cut yX10_cut 0 := ⟨q1734, rfl, rfl, rfl, by decide +kernel, ⟨by decide +kernel, by decide +kernel, by decide +kernel⟩, q133, by decide⟩
abbrev xX10_byteAt : sm_X := (RX10, cX10_byteAt, 2, (some .int), "byteAt", [])
theorem kX10_byteAt : sm_C xX10_byteAt yX10_byteAt 1 := ⟨q1738, rfl, rfl, rfl, by decide +kernel, ⟨by decide +kernel, by decide +kernel, by decide +kernel⟩, q133, by decide⟩
abbrev xX10_token : sm_X := (RX10, cX10_token, 6, none, "token", [])
theorem kX10_token : sm_C xX10_token yX10_token 4 := ⟨q1742, rfl, rfl, rfl, by decide +kernel, ⟨by decide +kernel, by decide +kernel, by decide +kernel⟩, q133, by decide⟩
abbrev xX10_isLetter : sm_X := (RX10, cX10_isLetter, 1, (some .boolean), "isLetter", [])
theorem kX10_isLetter : sm_C xX10_isLetter yX10_isLetter 1 := ⟨q1745, rfl, rfl, rfl, by decide +kernel, ⟨by decide +kernel, by decide +kernel, by decide +kernel⟩, q133, by decide⟩
abbrev xX10_isDigit : sm_X := (RX10, cX10_isDigit, 1, (some .boolean), "isDigit", [])
theorem kX10_isDigit : sm_C xX10_isDigit yX10_isDigit 1 := ⟨q1748, rfl, rfl, rfl, by decide +kernel, ⟨by decide +kernel, by decide +kernel, by decide +kernel⟩, q133, by decide⟩
abbrev xX10_sign : sm_X := (RX10, cX10_sign, 5, (some .int), "sign", [])
theorem kX10_sign : sm_C xX10_sign yX10_sign 3 := ⟨q1752, rfl, rfl, rfl, by decide +kernel, ⟨by decide +kernel, by decide +kernel, by decide +kernel⟩, q133, by decide⟩
abbrev xX10_is : sm_X := (RX10, cX10_is, 2, (some .boolean), "is", [])
theorem kX10_is : sm_C xX10_is yX10_is 1 := ⟨q1756, rfl, rfl, rfl, by decide +kernel, ⟨by decide +kernel, by decide +kernel, by decide +kernel⟩, q133, by decide⟩
abbrev xX10_tellOne : sm_X := (RX10, cX10_tellOne, 3, none, "tellOne", [])
theorem kX10_tellOne : sm_C xX10_tellOne yX10_tellOne 0 := ⟨q1760, rfl, rfl, rfl, by decide +kernel, ⟨by decide +kernel, by decide +kernel, by decide +kernel⟩, q133, by decide⟩
abbrev xX10_roomFor : sm_X := (RX10, cX10_roomFor, 3, none, "roomFor", [])
theorem kX10_roomFor : sm_C xX10_roomFor yX10_roomFor 2 := ⟨q1764, rfl, rfl, rfl, by decide +kernel, ⟨by decide +kernel, by decide +kernel, by decide +kernel⟩, q133, by decide⟩
abbrev xX10_fail : sm_X := (RX10, cX10_fail, 2, none, "fail", [])
theorem kX10_fail : sm_C xX10_fail yX10_fail 1 := ⟨q1768, rfl, rfl, rfl, by decide +kernel, ⟨by decide +kernel, by decide +kernel, by decide +kernel⟩, q133, by decide⟩
abbrev xX10_goesOn : sm_X := (RX10, cX10_goesOn, 1, none, "goesOn", [])
theorem kX10_goesOn : sm_C xX10_goesOn yX10_goesOn 0 := ⟨q1772, rfl, rfl, rfl, by decide +kernel, ⟨by decide +kernel, by decide +kernel, by decide +kernel⟩, q133, by decide⟩
abbrev xX10_named : sm_X := (RX10, cX10_named, 3, (some .int), "named", [])
theorem kX10_named : sm_C xX10_named yX10_named 0 := ⟨q1776, rfl, rfl, rfl, by decide +kernel, ⟨by decide +kernel, by decide +kernel, by decide +kernel⟩, q133, by decide⟩
abbrev xX10_must : sm_X := (RX10, cX10_must, 2, none, "must", [])
theorem kX10_must : sm_C xX10_must yX10_must 1 := ⟨q1780, rfl, rfl, rfl, by decide +kernel, ⟨by decide +kernel, by decide +kernel, by decide +kernel⟩, q133, by decide⟩
abbrev xX10_wrong : sm_X := (RX10, cX10_wrong, 4, none, "wrong", [])
theorem kX10_wrong : sm_C xX10_wrong yX10_wrong 2 := ⟨q1784, rfl, rfl, rfl, by decide +kernel, ⟨by decide +kernel, by decide +kernel, by decide +kernel⟩, q133, by decide⟩
abbrev xX10_bounded : sm_X := (RX10, cX10_bounded, 4, (some .int), "bounded", [])
theorem kX10_bounded : sm_C xX10_bounded yX10_bounded 2 := ⟨q1788, rfl, rfl, rfl, by decide +kernel, ⟨by decide +kernel, by decide +kernel, by decide +kernel⟩, q133, by decide⟩
abbrev xX10_endsName : sm_X := (RX10, cX10_endsName, 3, none, "endsName", [])
theorem kX10_endsName : sm_C xX10_endsName yX10_endsName 2 := ⟨q1792, rfl, rfl, rfl, by decide +kernel, ⟨by decide +kernel, by decide +kernel, by decide +kernel⟩, q133, by decide⟩
abbrev xX10_tellRound : sm_X := (RX10, cX10_tellRound, 2, none, "tellRound", [])
theorem kX10_tellRound : sm_C xX10_tellRound yX10_tellRound 0 := ⟨q1796, rfl, rfl, rfl, by decide +kernel, ⟨by decide +kernel, by decide +kernel, by decide +kernel⟩, q133, by decide⟩
abbrev xX10_known : sm_X := (RX10, cX10_known, 4, (some .int), "known", [])
theorem kX10_known : sm_C xX10_known yX10_known 1 := ⟨q1800, rfl, rfl, rfl, by decide +kernel, ⟨by decide +kernel, by decide +kernel, by decide +kernel⟩, q133, by decide⟩
abbrev xX10_toldInt : sm_X := (RX10, cX10_toldInt, 4, (some .int), "toldInt", [])
theorem kX10_toldInt : sm_C xX10_toldInt yX10_toldInt 2 := ⟨q1804, rfl, rfl, rfl, by decide +kernel, ⟨by decide +kernel, by decide +kernel, by decide +kernel⟩, q133, by decide⟩
abbrev xX10_tellLaw : sm_X := (RX10, cX10_tellLaw, 4, none, "tellLaw", [])
theorem kX10_tellLaw : sm_C xX10_tellLaw yX10_tellLaw 1 := ⟨q1808, rfl, rfl, rfl, by decide +kernel, ⟨by decide +kernel, by decide +kernel, by decide +kernel⟩, q133, by decide⟩
abbrev xX10_expression : sm_X := (RX10, cX10_expression, 3, none, "expression", [])
theorem kX10_expression : sm_C xX10_expression yX10_expression 0 := ⟨q1812, rfl, rfl, rfl, by decide +kernel, ⟨by decide +kernel, by decide +kernel, by decide +kernel⟩, q133, by decide⟩
abbrev xX10_unit : sm_X := (RX10, cX10_unit, 1, none, "unit", [])
theorem kX10_unit : sm_C xX10_unit yX10_unit 0 := ⟨q1816, rfl, rfl, rfl, by decide +kernel, ⟨by decide +kernel, by decide +kernel, by decide +kernel⟩, q133, by decide⟩
abbrev xX10_emit : sm_X := (RX10, cX10_emit, 3, none, "emit", [])
theorem kX10_emit : sm_C xX10_emit yX10_emit 2 := ⟨q1820, rfl, rfl, rfl, by decide +kernel, ⟨by decide +kernel, by decide +kernel, by decide +kernel⟩, q133, by decide⟩
abbrev xX10_comesOut : sm_X := (RX10, cX10_comesOut, 3, none, "comesOut", [])
theorem kX10_comesOut : sm_C xX10_comesOut yX10_comesOut 1 := ⟨q1824, rfl, rfl, rfl, by decide +kernel, ⟨by decide +kernel, by decide +kernel, by decide +kernel⟩, q133, by decide⟩
abbrev xX10_term : sm_X := (RX10, cX10_term, 1, none, "term", [])
theorem kX10_term : sm_C xX10_term yX10_term 0 := ⟨q1828, rfl, rfl, rfl, by decide +kernel, ⟨by decide +kernel, by decide +kernel, by decide +kernel⟩, q133, by decide⟩
abbrev xX10_place : sm_X := (RX10, cX10_place, 1, (some .int), "place", [])
theorem kX10_place : sm_C xX10_place yX10_place 0 := ⟨q1832, rfl, rfl, rfl, by decide +kernel, ⟨by decide +kernel, by decide +kernel, by decide +kernel⟩, q133, by decide⟩
abbrev xX10_door : sm_X := (RX10, cX10_door, 3, (some .int), "door", [])
theorem kX10_door : sm_C xX10_door yX10_door 2 := ⟨q1836, rfl, rfl, rfl, by decide +kernel, ⟨by decide +kernel, by decide +kernel, by decide +kernel⟩, q133, by decide⟩
abbrev xX10_isDoor : sm_X := (RX10, cX10_isDoor, 2, (some .boolean), "isDoor", [])
theorem kX10_isDoor : sm_C xX10_isDoor yX10_isDoor 1 := ⟨q1840, rfl, rfl, rfl, by decide +kernel, ⟨by decide +kernel, by decide +kernel, by decide +kernel⟩, q133, by decide⟩
abbrev xX10_in : sm_X := (RX10, cX10_in, 3, (some .boolean), "in", [])
theorem kX10_in : sm_C xX10_in yX10_in 3 := ⟨q1843, rfl, rfl, rfl, by decide +kernel, ⟨by decide +kernel, by decide +kernel, by decide +kernel⟩, q133, by decide⟩
abbrev xX10_copies : sm_X := (RX10, cX10_copies, 2, none, "copies", [])
theorem kX10_copies : sm_C xX10_copies yX10_copies 0 := ⟨q1847, rfl, rfl, rfl, by decide +kernel, ⟨by decide +kernel, by decide +kernel, by decide +kernel⟩, q133, by decide⟩
abbrev xX10_knownBy : sm_X := (RX10, cX10_knownBy, 6, (some .int), "knownBy", [])
theorem kX10_knownBy : sm_C xX10_knownBy yX10_knownBy 1 := ⟨q1851, rfl, rfl, rfl, by decide +kernel, ⟨by decide +kernel, by decide +kernel, by decide +kernel⟩, q133, by decide⟩
abbrev xX10_unlikeTo : sm_X := (RX10, cX10_unlikeTo, 5, (some .int), "unlikeTo", [])
theorem kX10_unlikeTo : sm_C xX10_unlikeTo yX10_unlikeTo 2 := ⟨q1855, rfl, rfl, rfl, by decide +kernel, ⟨by decide +kernel, by decide +kernel, by decide +kernel⟩, q133, by decide⟩
abbrev xX10_facePart : sm_X := (RX10, cX10_facePart, 3, (some .int), "facePart", [])
theorem kX10_facePart : sm_C xX10_facePart yX10_facePart 2 := ⟨q1859, rfl, rfl, rfl, by decide +kernel, ⟨by decide +kernel, by decide +kernel, by decide +kernel⟩, q133, by decide⟩
abbrev xX10_off : sm_X := (RX10, cX10_off, 2, (some .int), "off", [])
theorem kX10_off : sm_C xX10_off yX10_off 2 := ⟨q1862, rfl, rfl, rfl, by decide +kernel, ⟨by decide +kernel, by decide +kernel, by decide +kernel⟩, q133, by decide⟩
abbrev xX10_unlikeFirst : sm_X := (RX10, cX10_unlikeFirst, 4, (some .int), "unlikeFirst", [])
theorem kX10_unlikeFirst : sm_C xX10_unlikeFirst yX10_unlikeFirst 1 := ⟨q1866, rfl, rfl, rfl, by decide +kernel, ⟨by decide +kernel, by decide +kernel, by decide +kernel⟩, q133, by decide⟩
abbrev xX10_firstPart : sm_X := (RX10, cX10_firstPart, 3, (some .int), "firstPart", [])
theorem kX10_firstPart : sm_C xX10_firstPart yX10_firstPart 2 := ⟨q1870, rfl, rfl, rfl, by decide +kernel, ⟨by decide +kernel, by decide +kernel, by decide +kernel⟩, q133, by decide⟩
abbrev xX10_caller : sm_X := (RX10, cX10_caller, 5, (some .int), "caller", [])
theorem kX10_caller : sm_C xX10_caller yX10_caller 2 := ⟨q1874, rfl, rfl, rfl, by decide +kernel, ⟨by decide +kernel, by decide +kernel, by decide +kernel⟩, q133, by decide⟩
abbrev xX10_isCaller : sm_X := (RX10, cX10_isCaller, 2, (some .boolean), "isCaller", [])
theorem kX10_isCaller : sm_C xX10_isCaller yX10_isCaller 1 := ⟨q1878, rfl, rfl, rfl, by decide +kernel, ⟨by decide +kernel, by decide +kernel, by decide +kernel⟩, q133, by decide⟩
abbrev xX10_round : sm_X := (RX10, cX10_round, 4, (some .int), "round", [])
theorem kX10_round : sm_C xX10_round yX10_round 2 := ⟨q1882, rfl, rfl, rfl, by decide +kernel, ⟨by decide +kernel, by decide +kernel, by decide +kernel⟩, q133, by decide⟩
abbrev xX10_isRound : sm_X := (RX10, cX10_isRound, 2, (some .boolean), "isRound", [])
theorem kX10_isRound : sm_C xX10_isRound yX10_isRound 1 := ⟨q1886, rfl, rfl, rfl, by decide +kernel, ⟨by decide +kernel, by decide +kernel, by decide +kernel⟩, q133, by decide⟩
abbrev xX10_isDue : sm_X := (RX10, cX10_isDue, 4, (some .boolean), "isDue", [])
theorem kX10_isDue : sm_C xX10_isDue yX10_isDue 2 := ⟨q1890, rfl, rfl, rfl, by decide +kernel, ⟨by decide +kernel, by decide +kernel, by decide +kernel⟩, q133, by decide⟩
abbrev xX10_unlike : sm_X := (RX10, cX10_unlike, 3, (some .int), "unlike", [])
theorem kX10_unlike : sm_C xX10_unlike yX10_unlike 2 := ⟨q1894, rfl, rfl, rfl, by decide +kernel, ⟨by decide +kernel, by decide +kernel, by decide +kernel⟩, q133, by decide⟩
abbrev xX10_areBoth : sm_X := (RX10, cX10_areBoth, 3, (some .boolean), "areBoth", [])
theorem kX10_areBoth : sm_C xX10_areBoth yX10_areBoth 2 := ⟨q1898, rfl, rfl, rfl, by decide +kernel, ⟨by decide +kernel, by decide +kernel, by decide +kernel⟩, q133, by decide⟩
abbrev xX10_tells : sm_X := (RX10, cX10_tells, 4, (some .int), "tells", [])
theorem kX10_tells : sm_C xX10_tells yX10_tells 3 := ⟨q1902, rfl, rfl, rfl, by decide +kernel, ⟨by decide +kernel, by decide +kernel, by decide +kernel⟩, q133, by decide⟩
abbrev xX10_paysOf : sm_X := (RX10, cX10_paysOf, 3, (some .int), "paysOf", [])
theorem kX10_paysOf : sm_C xX10_paysOf yX10_paysOf 2 := ⟨q1906, rfl, rfl, rfl, by decide +kernel, ⟨by decide +kernel, by decide +kernel, by decide +kernel⟩, q133, by decide⟩
abbrev xX10_looks : sm_X := (RX10, cX10_looks, 3, none, "looks", [])
theorem kX10_looks : sm_C xX10_looks yX10_looks 2 := ⟨q1910, rfl, rfl, rfl, by decide +kernel, ⟨by decide +kernel, by decide +kernel, by decide +kernel⟩, q133, by decide⟩
abbrev xX10_lawTells : sm_X := (RX10, cX10_lawTells, 7, (some .int), "lawTells", [])
theorem kX10_lawTells : sm_C xX10_lawTells yX10_lawTells 2 := ⟨q1914, rfl, rfl, rfl, by decide +kernel, ⟨by decide +kernel, by decide +kernel, by decide +kernel⟩, q133, by decide⟩
abbrev xX10_termOf : sm_X := (RX10, cX10_termOf, 8, (some .int), "termOf", [])
theorem kX10_termOf : sm_C xX10_termOf yX10_termOf 2 := ⟨q1918, rfl, rfl, rfl, by decide +kernel, ⟨by decide +kernel, by decide +kernel, by decide +kernel⟩, q133, by decide⟩
abbrev xX10_within : sm_X := (RX10, cX10_within, 3, (some .int), "within", [])
theorem kX10_within : sm_C xX10_within yX10_within 3 := ⟨q1921, rfl, rfl, rfl, by decide +kernel, ⟨by decide +kernel, by decide +kernel, by decide +kernel⟩, q133, by decide⟩
abbrev xX10_givesOf : sm_X := (RX10, cX10_givesOf, 5, (some .int), "givesOf", [])
theorem kX10_givesOf : sm_C xX10_givesOf yX10_givesOf 3 := ⟨q1925, rfl, rfl, rfl, by decide +kernel, ⟨by decide +kernel, by decide +kernel, by decide +kernel⟩, q133, by decide⟩
abbrev xX10_lift : sm_X := (RX10, cX10_lift, 3, (some .boolean), "lift", [])
theorem kX10_lift : sm_C xX10_lift yX10_lift 2 := ⟨q1929, rfl, rfl, rfl, by decide +kernel, ⟨by decide +kernel, by decide +kernel, by decide +kernel⟩, q133, by decide⟩
abbrev xX10_lifted : sm_X := (RX10, cX10_lifted, 5, none, "lifted", [])
theorem kX10_lifted : sm_C xX10_lifted yX10_lifted 2 := ⟨q1933, rfl, rfl, rfl, by decide +kernel, ⟨by decide +kernel, by decide +kernel, by decide +kernel⟩, q133, by decide⟩
abbrev xX10_towardsBy : sm_X := (RX10, cX10_towardsBy, 3, (some .int), "towardsBy", [])
theorem kX10_towardsBy : sm_C xX10_towardsBy yX10_towardsBy 3 := ⟨q1936, rfl, rfl, rfl, by decide +kernel, ⟨by decide +kernel, by decide +kernel, by decide +kernel⟩, q133, by decide⟩
abbrev xX10_records : sm_X := (RX10, cX10_records, 2, none, "records", [])
theorem kX10_records : sm_C xX10_records yX10_records 0 := ⟨q1941, rfl, rfl, rfl, by decide +kernel, ⟨by decide +kernel, by decide +kernel, by decide +kernel⟩, q133, by decide⟩
abbrev xX10_polish : sm_X := (RX10, cX10_polish, 2, (some .boolean), "polish", [])
theorem kX10_polish : sm_C xX10_polish yX10_polish 1 := ⟨q1945, rfl, rfl, rfl, by decide +kernel, ⟨by decide +kernel, by decide +kernel, by decide +kernel⟩, q133, by decide⟩
abbrev xX10_polished : sm_X := (RX10, cX10_polished, 3, none, "polished", [])
theorem kX10_polished : sm_C xX10_polished yX10_polished 1 := ⟨q1949, rfl, rfl, rfl, by decide +kernel, ⟨by decide +kernel, by decide +kernel, by decide +kernel⟩, q133, by decide⟩
abbrev xX10_file : sm_X := (RX10, cX10_file, 3, (some .boolean), "file", [])
theorem kX10_file : sm_C xX10_file yX10_file 2 := ⟨q1953, rfl, rfl, rfl, by decide +kernel, ⟨by decide +kernel, by decide +kernel, by decide +kernel⟩, q133, by decide⟩
abbrev xX10_isPart : sm_X := (RX10, cX10_isPart, 1, (some .boolean), "isPart", [])
theorem kX10_isPart : sm_C xX10_isPart yX10_isPart 1 := ⟨q1956, rfl, rfl, rfl, by decide +kernel, ⟨by decide +kernel, by decide +kernel, by decide +kernel⟩, q133, by decide⟩
abbrev xX10_keep : sm_X := (RX10, cX10_keep, 3, (some .boolean), "keep", [])
theorem kX10_keep : sm_C xX10_keep yX10_keep 2 := ⟨q1960, rfl, rfl, rfl, by decide +kernel, ⟨by decide +kernel, by decide +kernel, by decide +kernel⟩, q133, by decide⟩
abbrev xX10_days : sm_X := (RX10, cX10_days, 2, (some .int), "days", [])
theorem kX10_days : sm_C xX10_days yX10_days 1 := ⟨q1964, rfl, rfl, rfl, by decide +kernel, ⟨by decide +kernel, by decide +kernel, by decide +kernel⟩, q133, by decide⟩
abbrev xX10_isLong : sm_X := (RX10, cX10_isLong, 1, (some .boolean), "isLong", [])
theorem kX10_isLong : sm_C xX10_isLong yX10_isLong 1 := ⟨q1967, rfl, rfl, rfl, by decide +kernel, ⟨by decide +kernel, by decide +kernel, by decide +kernel⟩, q133, by decide⟩
abbrev xX10_goes : sm_X := (RX10, cX10_goes, 3, none, "goes", [])
theorem kX10_goes : sm_C xX10_goes yX10_goes 1 := ⟨q1971, rfl, rfl, rfl, by decide +kernel, ⟨by decide +kernel, by decide +kernel, by decide +kernel⟩, q133, by decide⟩
abbrev xX10_dayGoes : sm_X := (RX10, cX10_dayGoes, 4, none, "dayGoes", [])
theorem kX10_dayGoes : sm_C xX10_dayGoes yX10_dayGoes 0 := ⟨q1975, rfl, rfl, rfl, by decide +kernel, ⟨by decide +kernel, by decide +kernel, by decide +kernel⟩, q133, by decide⟩
abbrev xX10_isWind : sm_X := (RX10, cX10_isWind, 1, (some .boolean), "isWind", [])
theorem kX10_isWind : sm_C xX10_isWind yX10_isWind 0 := ⟨q1979, rfl, rfl, rfl, by decide +kernel, ⟨by decide +kernel, by decide +kernel, by decide +kernel⟩, q133, by decide⟩
abbrev xX10_lotOf : sm_X := (RX10, cX10_lotOf, 3, (some .int), "lotOf", [])
theorem kX10_lotOf : sm_C xX10_lotOf yX10_lotOf 2 := ⟨q1983, rfl, rfl, rfl, by decide +kernel, ⟨by decide +kernel, by decide +kernel, by decide +kernel⟩, q133, by decide⟩
abbrev xX10_mixed : sm_X := (RX10, cX10_mixed, 3, (some .int), "mixed", [])
theorem kX10_mixed : sm_C xX10_mixed yX10_mixed 2 := ⟨q1986, rfl, rfl, rfl, by decide +kernel, ⟨by decide +kernel, by decide +kernel, by decide +kernel⟩, q133, by decide⟩
abbrev xX10_wearsOf : sm_X := (RX10, cX10_wearsOf, 4, (some .int), "wearsOf", [])
theorem kX10_wearsOf : sm_C xX10_wearsOf yX10_wearsOf 2 := ⟨q1991, rfl, rfl, rfl, by decide +kernel, ⟨by decide +kernel, by decide +kernel, by decide +kernel⟩, q133, by decide⟩
abbrev xX10_undo : sm_X := (RX10, cX10_undo, 2, (some .boolean), "undo", [])
theorem kX10_undo : sm_C xX10_undo yX10_undo 0 := ⟨q1995, rfl, rfl, rfl, by decide +kernel, ⟨by decide +kernel, by decide +kernel, by decide +kernel⟩, q133, by decide⟩
abbrev xX10_lifts : sm_X := (RX10, cX10_lifts, 6, (some .int), "lifts", [])
theorem kX10_lifts : sm_C xX10_lifts yX10_lifts 3 := ⟨q1999, rfl, rfl, rfl, by decide +kernel, ⟨by decide +kernel, by decide +kernel, by decide +kernel⟩, q133, by decide⟩
abbrev xX10_power : sm_X := (RX10, cX10_power, 4, (some .int), "power", [])
theorem kX10_power : sm_C xX10_power yX10_power 2 := ⟨q2002, rfl, rfl, rfl, by decide +kernel, ⟨by decide +kernel, by decide +kernel, by decide +kernel⟩, q133, by decide⟩
abbrev xX10_doesWay : sm_X := (RX10, cX10_doesWay, 6, (some .boolean), "doesWay", [])
theorem kX10_doesWay : sm_C xX10_doesWay yX10_doesWay 4 := ⟨q2006, rfl, rfl, rfl, by decide +kernel, ⟨by decide +kernel, by decide +kernel, by decide +kernel⟩, q133, by decide⟩
abbrev xX10_digitOf : sm_X := (RX10, cX10_digitOf, 4, (some .int), "digitOf", [])
theorem kX10_digitOf : sm_C xX10_digitOf yX10_digitOf 3 := ⟨q2010, rfl, rfl, rfl, by decide +kernel, ⟨by decide +kernel, by decide +kernel, by decide +kernel⟩, q133, by decide⟩
abbrev xX10_towards : sm_X := (RX10, cX10_towards, 8, (some .int), "towards", [])
theorem kX10_towards : sm_C xX10_towards yX10_towards 3 := ⟨q2014, rfl, rfl, rfl, by decide +kernel, ⟨by decide +kernel, by decide +kernel, by decide +kernel⟩, q133, by decide⟩
abbrev xX10_without : sm_X := (RX10, cX10_without, 3, (some .int), "without", [])
theorem kX10_without : sm_C xX10_without yX10_without 2 := ⟨q2018, rfl, rfl, rfl, by decide +kernel, ⟨by decide +kernel, by decide +kernel, by decide +kernel⟩, q133, by decide⟩
abbrev xX10_isSome : sm_X := (RX10, cX10_isSome, 1, (some .boolean), "isSome", [])
theorem kX10_isSome : sm_C xX10_isSome yX10_isSome 1 := ⟨q2021, rfl, rfl, rfl, by decide +kernel, ⟨by decide +kernel, by decide +kernel, by decide +kernel⟩, q133, by decide⟩
abbrev xX10_copiesStill : sm_X := (RX10, cX10_copiesStill, 1, none, "copiesStill", [])
theorem kX10_copiesStill : sm_C xX10_copiesStill yX10_copiesStill 0 := ⟨q2025, rfl, rfl, rfl, by decide +kernel, ⟨by decide +kernel, by decide +kernel, by decide +kernel⟩, q133, by decide⟩
abbrev xX10_twins : sm_X := (RX10, cX10_twins, 6, (some .int), "twins", [])
theorem kX10_twins : sm_C xX10_twins yX10_twins 1 := ⟨q2029, rfl, rfl, rfl, by decide +kernel, ⟨by decide +kernel, by decide +kernel, by decide +kernel⟩, q133, by decide⟩
abbrev xX10_doorsApart : sm_X := (RX10, cX10_doorsApart, 5, (some .int), "doorsApart", [])
theorem kX10_doorsApart : sm_C xX10_doorsApart yX10_doorsApart 2 := ⟨q2033, rfl, rfl, rfl, by decide +kernel, ⟨by decide +kernel, by decide +kernel, by decide +kernel⟩, q133, by decide⟩
abbrev xX10_confused : sm_X := (RX10, cX10_confused, 6, (some .int), "confused", [])
theorem kX10_confused : sm_C xX10_confused yX10_confused 1 := ⟨q2037, rfl, rfl, rfl, by decide +kernel, ⟨by decide +kernel, by decide +kernel, by decide +kernel⟩, q133, by decide⟩
abbrev xX10_callersApart : sm_X := (RX10, cX10_callersApart, 5, (some .int), "callersApart", [])
theorem kX10_callersApart : sm_C xX10_callersApart yX10_callersApart 2 := ⟨q2041, rfl, rfl, rfl, by decide +kernel, ⟨by decide +kernel, by decide +kernel, by decide +kernel⟩, q133, by decide⟩
abbrev xX10_paired : sm_X := (RX10, cX10_paired, 6, (some .int), "paired", [])
theorem kX10_paired : sm_C xX10_paired yX10_paired 1 := ⟨q2045, rfl, rfl, rfl, by decide +kernel, ⟨by decide +kernel, by decide +kernel, by decide +kernel⟩, q133, by decide⟩
abbrev xX10_fillsPaired : sm_X := (RX10, cX10_fillsPaired, 5, none, "fillsPaired", [])
theorem kX10_fillsPaired : sm_C xX10_fillsPaired yX10_fillsPaired 0 := ⟨q2049, rfl, rfl, rfl, by decide +kernel, ⟨by decide +kernel, by decide +kernel, by decide +kernel⟩, q133, by decide⟩
abbrev xX10_with : sm_X := (RX10, cX10_with, 4, (some .int), "with", [])
theorem kX10_with : sm_C xX10_with yX10_with 3 := ⟨q2053, rfl, rfl, rfl, by decide +kernel, ⟨by decide +kernel, by decide +kernel, by decide +kernel⟩, q133, by decide⟩
abbrev xX10_lowestFor : sm_X := (RX10, cX10_lowestFor, 4, (some .int), "lowestFor", [])
theorem kX10_lowestFor : sm_C xX10_lowestFor yX10_lowestFor 2 := ⟨q2057, rfl, rfl, rfl, by decide +kernel, ⟨by decide +kernel, by decide +kernel, by decide +kernel⟩, q133, by decide⟩
abbrev xX10_changes : sm_X := (RX10, cX10_changes, 4, (some .int), "changes", [])
theorem kX10_changes : sm_C xX10_changes yX10_changes 1 := ⟨q2061, rfl, rfl, rfl, by decide +kernel, ⟨by decide +kernel, by decide +kernel, by decide +kernel⟩, q133, by decide⟩
abbrev xX10_rubs : sm_X := (RX10, cX10_rubs, 4, (some .int), "rubs", [])
theorem kX10_rubs : sm_C xX10_rubs yX10_rubs 1 := ⟨q2065, rfl, rfl, rfl, by decide +kernel, ⟨by decide +kernel, by decide +kernel, by decide +kernel⟩, q133, by decide⟩
abbrev xX10_when : sm_X := (RX10, cX10_when, 4, (some .int), "when", [])
theorem kX10_when : sm_C xX10_when yX10_when 2 := ⟨q2069, rfl, rfl, rfl, by decide +kernel, ⟨by decide +kernel, by decide +kernel, by decide +kernel⟩, q133, by decide⟩
abbrev xX10_alone : sm_X := (RX10, cX10_alone, 4, (some .int), "alone", [])
theorem kX10_alone : sm_C xX10_alone yX10_alone 2 := ⟨q2073, rfl, rfl, rfl, by decide +kernel, ⟨by decide +kernel, by decide +kernel, by decide +kernel⟩, q133, by decide⟩
abbrev xX10_nearest : sm_X := (RX10, cX10_nearest, 5, (some .int), "nearest", [])
theorem kX10_nearest : sm_C xX10_nearest yX10_nearest 2 := ⟨q2077, rfl, rfl, rfl, by decide +kernel, ⟨by decide +kernel, by decide +kernel, by decide +kernel⟩, q133, by decide⟩
abbrev xX10_same : sm_X := (RX10, cX10_same, 5, (some .int), "same", [])
theorem kX10_same : sm_C xX10_same yX10_same 2 := ⟨q2081, rfl, rfl, rfl, by decide +kernel, ⟨by decide +kernel, by decide +kernel, by decide +kernel⟩, q133, by decide⟩
abbrev xX10_shift : sm_X := (RX10, cX10_shift, 5, (some .int), "shift", [])
theorem kX10_shift : sm_C xX10_shift yX10_shift 2 := ⟨q2085, rfl, rfl, rfl, by decide +kernel, ⟨by decide +kernel, by decide +kernel, by decide +kernel⟩, q133, by decide⟩
abbrev xX10_calls : sm_X := (RX10, cX10_calls, 5, (some .int), "calls", [])
theorem kX10_calls : sm_C xX10_calls yX10_calls 2 := ⟨q2089, rfl, rfl, rfl, by decide +kernel, ⟨by decide +kernel, by decide +kernel, by decide +kernel⟩, q133, by decide⟩
abbrev xX10_timesDue : sm_X := (RX10, cX10_timesDue, 5, (some .int), "timesDue", [])
theorem kX10_timesDue : sm_C xX10_timesDue yX10_timesDue 2 := ⟨q2093, rfl, rfl, rfl, by decide +kernel, ⟨by decide +kernel, by decide +kernel, by decide +kernel⟩, q133, by decide⟩
abbrev xX10_busy : sm_X := (RX10, cX10_busy, 5, (some .int), "busy", [])
theorem kX10_busy : sm_C xX10_busy yX10_busy 2 := ⟨q2097, rfl, rfl, rfl, by decide +kernel, ⟨by decide +kernel, by decide +kernel, by decide +kernel⟩, q133, by decide⟩
abbrev xX10_richest : sm_X := (RX10, cX10_richest, 5, (some .int), "richest", [])
theorem kX10_richest : sm_C xX10_richest yX10_richest 2 := ⟨q2101, rfl, rfl, rfl, by decide +kernel, ⟨by decide +kernel, by decide +kernel, by decide +kernel⟩, q133, by decide⟩
abbrev xX10_flat : sm_X := (RX10, cX10_flat, 4, (some .int), "flat", [])
theorem kX10_flat : sm_C xX10_flat yX10_flat 1 := ⟨q2105, rfl, rfl, rfl, by decide +kernel, ⟨by decide +kernel, by decide +kernel, by decide +kernel⟩, q133, by decide⟩
abbrev xX10_then : sm_X := (RX10, cX10_then, 4, (some .int), "then", [])
theorem kX10_then : sm_C xX10_then yX10_then 3 := ⟨q2109, rfl, rfl, rfl, by decide +kernel, ⟨by decide +kernel, by decide +kernel, by decide +kernel⟩, q133, by decide⟩
abbrev xX10_year : sm_X := (RX10, cX10_year, 7, (some .int), "year", [])
theorem kX10_year : sm_C xX10_year yX10_year 4 := ⟨q2113, rfl, rfl, rfl, by decide +kernel, ⟨by decide +kernel, by decide +kernel, by decide +kernel⟩, q133, by decide⟩
abbrev xX10_tell : sm_X := (RX10, cX10_tell, 4, (some .int), "tell", [])
theorem kX10_tell : sm_C xX10_tell yX10_tell 3 := ⟨q2117, rfl, rfl, rfl, by decide +kernel, ⟨by decide +kernel, by decide +kernel, by decide +kernel⟩, q133, by decide⟩
abbrev xX10_forget : sm_X := (RX10, cX10_forget, 2, (some .int), "forget", [])
theorem kX10_forget : sm_C xX10_forget yX10_forget 0 := ⟨q2121, rfl, rfl, rfl, by decide +kernel, ⟨by decide +kernel, by decide +kernel, by decide +kernel⟩, q133, by decide⟩
abbrev xX10_who : sm_X := (RX10, cX10_who, 4, (some .int), "who", [])
theorem kX10_who : sm_C xX10_who yX10_who 2 := ⟨q2125, rfl, rfl, rfl, by decide +kernel, ⟨by decide +kernel, by decide +kernel, by decide +kernel⟩, q133, by decide⟩
abbrev xX10_whoBits : sm_X := (RX10, cX10_whoBits, 6, (some .int), "whoBits", [])
theorem kX10_whoBits : sm_C xX10_whoBits yX10_whoBits 1 := ⟨q2129, rfl, rfl, rfl, by decide +kernel, ⟨by decide +kernel, by decide +kernel, by decide +kernel⟩, q133, by decide⟩
abbrev xX10_wayOf : sm_X := (RX10, cX10_wayOf, 4, (some .int), "wayOf", [])
theorem kX10_wayOf : sm_C xX10_wayOf yX10_wayOf 3 := ⟨q2133, rfl, rfl, rfl, by decide +kernel, ⟨by decide +kernel, by decide +kernel, by decide +kernel⟩, q133, by decide⟩
abbrev xX10_bits : sm_X := (RX10, cX10_bits, 3, (some .int), "bits", [])
theorem kX10_bits : sm_C xX10_bits yX10_bits 1 := ⟨q2136, rfl, rfl, rfl, by decide +kernel, ⟨by decide +kernel, by decide +kernel, by decide +kernel⟩, q133, by decide⟩
abbrev xX10_ask : sm_X := (RX10, cX10_ask, 7, (some .int), "ask", [])
theorem kX10_ask : sm_C xX10_ask yX10_ask 1 := ⟨q2140, rfl, rfl, rfl, by decide +kernel, ⟨by decide +kernel, by decide +kernel, by decide +kernel⟩, q133, by decide⟩
abbrev xX10_worstOf : sm_X := (RX10, cX10_worstOf, 8, (some .int), "worstOf", [])
theorem kX10_worstOf : sm_C xX10_worstOf yX10_worstOf 3 := ⟨q2144, rfl, rfl, rfl, by decide +kernel, ⟨by decide +kernel, by decide +kernel, by decide +kernel⟩, q133, by decide⟩
abbrev xX10_hold : sm_X := (RX10, cX10_hold, 3, (some .boolean), "hold", [])
theorem kX10_hold : sm_C xX10_hold yX10_hold 1 := ⟨q2148, rfl, rfl, rfl, by decide +kernel, ⟨by decide +kernel, by decide +kernel, by decide +kernel⟩, q133, by decide⟩
abbrev xX10_restore : sm_X := (RX10, cX10_restore, 3, (some .boolean), "restore", [])
theorem kX10_restore : sm_C xX10_restore yX10_restore 1 := ⟨q2152, rfl, rfl, rfl, by decide +kernel, ⟨by decide +kernel, by decide +kernel, by decide +kernel⟩, q133, by decide⟩
abbrev xX10_count : sm_X := (RX10, cX10_count, 4, (some .int), "count", [])
theorem kX10_count : sm_C xX10_count yX10_count 1 := ⟨q2156, rfl, rfl, rfl, by decide +kernel, ⟨by decide +kernel, by decide +kernel, by decide +kernel⟩, q133, by decide⟩
abbrev xX10_sumNow : sm_X := (RX10, cX10_sumNow, 5, (some .int), "sumNow", [])
theorem kX10_sumNow : sm_C xX10_sumNow yX10_sumNow 2 := ⟨q2160, rfl, rfl, rfl, by decide +kernel, ⟨by decide +kernel, by decide +kernel, by decide +kernel⟩, q133, by decide⟩
abbrev xX11_init : sm_X := (RX11, cX11_init, 1, none, "<init>", [])
theorem kX11_init : sm_C xX11_init yX11_init 0 := ⟨q708, rfl, rfl, rfl, by decide +kernel, ⟨by decide +kernel, by decide +kernel, by decide +kernel⟩, q137, by decide⟩
abbrev xX11_of : sm_X := (RX11, cX11_of, 4, (some .int), "of", [])
theorem kX11_of : sm_C xX11_of yX11_of 1 := ⟨q1222, rfl, rfl, rfl, by decide +kernel, ⟨by decide +kernel, by decide +kernel, by decide +kernel⟩, q137, by decide⟩
abbrev xX12_init : sm_X := (RX12, cX12_init, 1, none, "<init>", [])
theorem kX12_init : sm_C xX12_init yX12_init 0 := ⟨q768, rfl, rfl, rfl, by decide +kernel, ⟨by decide +kernel, by decide +kernel, by decide +kernel⟩, q138, by decide⟩
abbrev xX13_init : sm_X := (RX13, cX13_init, 2, none, "<init>", [])
theorem kX13_init : sm_C xX13_init yX13_init 1 := ⟨q765, rfl, rfl, rfl, by decide +kernel, ⟨by decide +kernel, by decide +kernel, by decide +kernel⟩, q139, by decide⟩
abbrev xX13_of : sm_X := (RX13, cX13_of, 2, (some .int), "of", [])
theorem kX13_of : sm_C xX13_of yX13_of 1 := ⟨q1231, rfl, rfl, rfl, by decide +kernel, ⟨by decide +kernel, by decide +kernel, by decide +kernel⟩, q139, by decide⟩
abbrev xX14_init : sm_X := (RX14, cX14_init, 2, none, "<init>", [])
theorem kX14_init : sm_C xX14_init yX14_init 1 := ⟨q778, rfl, rfl, rfl, by decide +kernel, ⟨by decide +kernel, by decide +kernel, by decide +kernel⟩, q140, by decide⟩
abbrev xX14_of : sm_X := (RX14, cX14_of, 2, (some .int), "of", [])
theorem kX14_of : sm_C xX14_of yX14_of 1 := ⟨q1233, rfl, rfl, rfl, by decide +kernel, ⟨by decide +kernel, by decide +kernel, by decide +kernel⟩, q140, by decide⟩
abbrev xX15_init : sm_X := (RX15, cX15_init, 4, none, "<init>", [])
theorem kX15_init : sm_C xX15_init yX15_init 3 := ⟨q788, rfl, rfl, rfl, by decide +kernel, ⟨by decide +kernel, by decide +kernel, by decide +kernel⟩, q141, by decide⟩
abbrev xX15_of : sm_X := (RX15, cX15_of, 4, (some .int), "of", [])
theorem kX15_of : sm_C xX15_of yX15_of 1 := ⟨q1228, rfl, rfl, rfl, by decide +kernel, ⟨by decide +kernel, by decide +kernel, by decide +kernel⟩, q141, by decide⟩
abbrev xX16_init : sm_X := (RX16, cX16_init, 2, none, "<init>", [])
theorem kX16_init : sm_C xX16_init yX16_init 1 := ⟨q1008, rfl, rfl, rfl, by decide +kernel, ⟨by decide +kernel, by decide +kernel, by decide +kernel⟩, q142, by decide⟩
abbrev xX17_init : sm_X := (RX17, cX17_init, 2, none, "<init>", [])
theorem kX17_init : sm_C xX17_init yX17_init 1 := ⟨q1005, rfl, rfl, rfl, by decide +kernel, ⟨by decide +kernel, by decide +kernel, by decide +kernel⟩, q143, by decide⟩
abbrev xX18_init : sm_X := (RX18, cX18_init, 2, none, "<init>", [])
theorem kX18_init : sm_C xX18_init yX18_init 1 := ⟨q1089, rfl, rfl, rfl, by decide +kernel, ⟨by decide +kernel, by decide +kernel, by decide +kernel⟩, q150, by decide⟩
abbrev xX19_init : sm_X := (RX19, cX19_init, 1, none, "<init>", [])
theorem kX19_init : sm_C xX19_init yX19_init 0 := ⟨q1098, rfl, rfl, rfl, by decide +kernel, ⟨by decide +kernel, by decide +kernel, by decide +kernel⟩, q151, by decide⟩
abbrev xX19_isDue : sm_X := (RX19, cX19_isDue, 2, (some .boolean), "isDue", [])
theorem kX19_isDue : sm_C xX19_isDue yX19_isDue 1 := ⟨q1201, rfl, rfl, rfl, by decide +kernel, ⟨by decide +kernel, by decide +kernel, by decide +kernel⟩, q151, by decide⟩
abbrev xX2_init : sm_X := (RX2, cX2_init, 1, none, "<init>", [])
theorem kX2_init : sm_C xX2_init yX2_init 0 := ⟨q239, rfl, rfl, rfl, by decide +kernel, ⟨by decide +kernel, by decide +kernel, by decide +kernel⟩, q120, by decide⟩
abbrev xX2_read : sm_X := (RX2, cX2_read, 7, none, "read", [])
theorem kX2_read : sm_C xX2_read yX2_read 0 := ⟨q603, rfl, rfl, rfl, by decide +kernel, ⟨by decide +kernel, by decide +kernel, by decide +kernel⟩, q120, by decide⟩
abbrev xX2_isLetter : sm_X := (RX2, cX2_isLetter, 2, (some .boolean), "isLetter", [])
theorem kX2_isLetter : sm_C xX2_isLetter yX2_isLetter 1 := ⟨q607, rfl, rfl, rfl, by decide +kernel, ⟨by decide +kernel, by decide +kernel, by decide +kernel⟩, q120, by decide⟩
abbrev xX2_at : sm_X := (RX2, cX2_at, 2, (some .int), "at", [])
theorem kX2_at : sm_C xX2_at yX2_at 1 := ⟨q611, rfl, rfl, rfl, by decide +kernel, ⟨by decide +kernel, by decide +kernel, by decide +kernel⟩, q120, by decide⟩
abbrev xX2_word : sm_X := (RX2, cX2_word, 6, (some .int), "word", [])
theorem kX2_word : sm_C xX2_word yX2_word 2 := ⟨q615, rfl, rfl, rfl, by decide +kernel, ⟨by decide +kernel, by decide +kernel, by decide +kernel⟩, q120, by decide⟩
abbrev xX2_isDigit : sm_X := (RX2, cX2_isDigit, 2, (some .boolean), "isDigit", [])
theorem kX2_isDigit : sm_C xX2_isDigit yX2_isDigit 1 := ⟨q665, rfl, rfl, rfl, by decide +kernel, ⟨by decide +kernel, by decide +kernel, by decide +kernel⟩, q120, by decide⟩
abbrev xX2_sign : sm_X := (RX2, cX2_sign, 3, (some .int), "sign", [])
theorem kX2_sign : sm_C xX2_sign yX2_sign 1 := ⟨q669, rfl, rfl, rfl, by decide +kernel, ⟨by decide +kernel, by decide +kernel, by decide +kernel⟩, q120, by decide⟩
abbrev xX2_add : sm_X := (RX2, cX2_add, 5, none, "add", [])
theorem kX2_add : sm_C xX2_add yX2_add 4 := ⟨q673, rfl, rfl, rfl, by decide +kernel, ⟨by decide +kernel, by decide +kernel, by decide +kernel⟩, q120, by decide⟩
abbrev xX2_number : sm_X := (RX2, cX2_number, 4, (some .int), "number", [])
theorem kX2_number : sm_C xX2_number yX2_number 1 := ⟨q762, rfl, rfl, rfl, by decide +kernel, ⟨by decide +kernel, by decide +kernel, by decide +kernel⟩, q120, by decide⟩
abbrev xX2_text : sm_X := (RX2, cX2_text, 4, (some (.object "java/lang/String")), "text", [])
theorem kX2_text : sm_C xX2_text yX2_text 1 := ⟨q818, rfl, rfl, rfl, by decide +kernel, ⟨by decide +kernel, by decide +kernel, by decide +kernel⟩, q120, by decide⟩
abbrev xX3_init : sm_X := (RX3, cX3_init, 3, none, "<init>", [])
theorem kX3_init : sm_C xX3_init yX3_init 2 := ⟨q299, rfl, rfl, rfl, by decide +kernel, ⟨by decide +kernel, by decide +kernel, by decide +kernel⟩, q121, by decide⟩
abbrev xX3_read : sm_X := (RX3, cX3_read, 1, (some (.object "KnockerFaces$Text")), "read", [])
theorem kX3_read : sm_C xX3_read yX3_read 0 := ⟨q599, rfl, rfl, rfl, by decide +kernel, ⟨by decide +kernel, by decide +kernel, by decide +kernel⟩, q121, by decide⟩
abbrev xX3_sort : sm_X := (RX3, cX3_sort, 1, (some .int), "sort", [])
theorem kX3_sort : sm_C xX3_sort yX3_sort 0 := ⟨q679, rfl, rfl, rfl, by decide +kernel, ⟨by decide +kernel, by decide +kernel, by decide +kernel⟩, q121, by decide⟩
abbrev xX3_wrong : sm_X := (RX3, cX3_wrong, 2, (some (.object "KnockerFaces$Fault")), "wrong", [])
theorem kX3_wrong : sm_C xX3_wrong yX3_wrong 1 := ⟨q683, rfl, rfl, rfl, by decide +kernel, ⟨by decide +kernel, by decide +kernel, by decide +kernel⟩, q121, by decide⟩
abbrev xX3_wrongAt : sm_X := (RX3, cX3_wrongAt, 3, (some (.object "KnockerFaces$Fault")), "wrongAt", [])
theorem kX3_wrongAt : sm_C xX3_wrongAt yX3_wrongAt 2 := ⟨q687, rfl, rfl, rfl, by decide +kernel, ⟨by decide +kernel, by decide +kernel, by decide +kernel⟩, q121, by decide⟩
abbrev xX3_told : sm_X := (RX3, cX3_told, 3, none, "told", [])
theorem kX3_told : sm_C xX3_told yX3_told 0 := ⟨q695, rfl, rfl, rfl, by decide +kernel, ⟨by decide +kernel, by decide +kernel, by decide +kernel⟩, q121, by decide⟩
abbrev xX3_pass : sm_X := (RX3, cX3_pass, 1, none, "pass", [])
theorem kX3_pass : sm_C xX3_pass yX3_pass 0 := ⟨q699, rfl, rfl, rfl, by decide +kernel, ⟨by decide +kernel, by decide +kernel, by decide +kernel⟩, q121, by decide⟩
abbrev xX3_law : sm_X := (RX3, cX3_law, 2, (some (.object "KnockerFaces$Law")), "law", [])
theorem kX3_law : sm_C xX3_law yX3_law 0 := ⟨q703, rfl, rfl, rfl, by decide +kernel, ⟨by decide +kernel, by decide +kernel, by decide +kernel⟩, q121, by decide⟩
abbrev xX3_sign : sm_X := (RX3, cX3_sign, 2, none, "sign", [])
theorem kX3_sign : sm_C xX3_sign yX3_sign 1 := ⟨q732, rfl, rfl, rfl, by decide +kernel, ⟨by decide +kernel, by decide +kernel, by decide +kernel⟩, q121, by decide⟩
abbrev xX3_isSign : sm_X := (RX3, cX3_isSign, 2, (some .boolean), "isSign", [])
theorem kX3_isSign : sm_C xX3_isSign yX3_isSign 1 := ⟨q736, rfl, rfl, rfl, by decide +kernel, ⟨by decide +kernel, by decide +kernel, by decide +kernel⟩, q121, by decide⟩
abbrev xX3_isWord : sm_X := (RX3, cX3_isWord, 2, (some .boolean), "isWord", [])
theorem kX3_isWord : sm_C xX3_isWord yX3_isWord 1 := ⟨q740, rfl, rfl, rfl, by decide +kernel, ⟨by decide +kernel, by decide +kernel, by decide +kernel⟩, q121, by decide⟩
abbrev xX3_begins : sm_X := (RX3, cX3_begins, 3, none, "begins", [])
theorem kX3_begins : sm_C xX3_begins yX3_begins 2 := ⟨q744, rfl, rfl, rfl, by decide +kernel, ⟨by decide +kernel, by decide +kernel, by decide +kernel⟩, q121, by decide⟩
abbrev xX3_sum : sm_X := (RX3, cX3_sum, 3, (some (.object "KnockerFaces$Sum")), "sum", [])
theorem kX3_sum : sm_C xX3_sum yX3_sum 0 := ⟨q748, rfl, rfl, rfl, by decide +kernel, ⟨by decide +kernel, by decide +kernel, by decide +kernel⟩, q121, by decide⟩
abbrev xX3_part : sm_X := (RX3, cX3_part, 3, (some (.object "KnockerFaces$Sum")), "part", [])
theorem kX3_part : sm_C xX3_part yX3_part 0 := ⟨q752, rfl, rfl, rfl, by decide +kernel, ⟨by decide +kernel, by decide +kernel, by decide +kernel⟩, q121, by decide⟩
abbrev xX3_unit : sm_X := (RX3, cX3_unit, 2, (some (.object "KnockerFaces$Sum")), "unit", [])
theorem kX3_unit : sm_C xX3_unit yX3_unit 0 := ⟨q756, rfl, rfl, rfl, by decide +kernel, ⟨by decide +kernel, by decide +kernel, by decide +kernel⟩, q121, by decide⟩
abbrev xX3_word : sm_X := (RX3, cX3_word, 2, none, "word", [])
theorem kX3_word : sm_C xX3_word yX3_word 1 := ⟨q803, rfl, rfl, rfl, by decide +kernel, ⟨by decide +kernel, by decide +kernel, by decide +kernel⟩, q121, by decide⟩
abbrev xX3_name : sm_X := (RX3, cX3_name, 3, (some (.object "java/lang/String")), "name", [])
theorem kX3_name : sm_C xX3_name yX3_name 0 := ⟨q810, rfl, rfl, rfl, by decide +kernel, ⟨by decide +kernel, by decide +kernel, by decide +kernel⟩, q121, by decide⟩
abbrev xX3_take : sm_X := (RX3, cX3_take, 2, (some .int), "take", [])
theorem kX3_take : sm_C xX3_take yX3_take 1 := ⟨q814, rfl, rfl, rfl, by decide +kernel, ⟨by decide +kernel, by decide +kernel, by decide +kernel⟩, q121, by decide⟩
abbrev xX3_tell : sm_X := (RX3, cX3_tell, 3, none, "tell", [])
theorem kX3_tell : sm_C xX3_tell yX3_tell 2 := ⟨q1002, rfl, rfl, rfl, by decide +kernel, ⟨by decide +kernel, by decide +kernel, by decide +kernel⟩, q121, by decide⟩
abbrev xX3_face : sm_X := (RX3, cX3_face, 3, none, "face", [])
theorem kX3_face : sm_C xX3_face yX3_face 1 := ⟨q1028, rfl, rfl, rfl, by decide +kernel, ⟨by decide +kernel, by decide +kernel, by decide +kernel⟩, q121, by decide⟩
abbrev xX3_number : sm_X := (RX3, cX3_number, 5, (some .int), "number", [])
theorem kX3_number : sm_C xX3_number yX3_number 2 := ⟨q1032, rfl, rfl, rfl, by decide +kernel, ⟨by decide +kernel, by decide +kernel, by decide +kernel⟩, q121, by decide⟩
abbrev xX3_known : sm_X := (RX3, cX3_known, 4, (some .int), "known", [])
theorem kX3_known : sm_C xX3_known yX3_known 1 := ⟨q1124, rfl, rfl, rfl, by decide +kernel, ⟨by decide +kernel, by decide +kernel, by decide +kernel⟩, q121, by decide⟩
abbrev xX4_init : sm_X := (RX4, cX4_init, 1, none, "<init>", [])
theorem kX4_init : sm_C xX4_init yX4_init 0 := ⟨q327, rfl, rfl, rfl, by decide +kernel, ⟨by decide +kernel, by decide +kernel, by decide +kernel⟩, q122, by decide⟩
abbrev xX4_has : sm_X := (RX4, cX4_has, 2, (some .boolean), "has", [])
theorem kX4_has : sm_C xX4_has yX4_has 1 := ⟨q984, rfl, rfl, rfl, by decide +kernel, ⟨by decide +kernel, by decide +kernel, by decide +kernel⟩, q122, by decide⟩
abbrev xX4_at : sm_X := (RX4, cX4_at, 3, (some .int), "at", [])
theorem kX4_at : sm_C xX4_at yX4_at 2 := ⟨q987, rfl, rfl, rfl, by decide +kernel, ⟨by decide +kernel, by decide +kernel, by decide +kernel⟩, q122, by decide⟩
abbrev xX5_init : sm_X := (RX5, cX5_init, 1, none, "<init>", [])
theorem kX5_init : sm_C xX5_init yX5_init 0 := ⟨q400, rfl, rfl, rfl, by decide +kernel, ⟨by decide +kernel, by decide +kernel, by decide +kernel⟩, q126, by decide⟩
abbrev xX5_begins : sm_X := (RX5, cX5_begins, 4, none, "begins", [])
theorem kX5_begins : sm_C xX5_begins yX5_begins 1 := ⟨q492, rfl, rfl, rfl, by decide +kernel, ⟨by decide +kernel, by decide +kernel, by decide +kernel⟩, q126, by decide⟩
abbrev xX5_known : sm_X := (RX5, cX5_known, 7, (some .int), "known", [])
theorem kX5_known : sm_C xX5_known yX5_known 2 := ⟨q1152, rfl, rfl, rfl, by decide +kernel, ⟨by decide +kernel, by decide +kernel, by decide +kernel⟩, q126, by decide⟩
abbrev xX5_unlike : sm_X := (RX5, cX5_unlike, 4, (some .int), "unlike", [])
theorem kX5_unlike : sm_C xX5_unlike yX5_unlike 3 := ⟨q1157, rfl, rfl, rfl, by decide +kernel, ⟨by decide +kernel, by decide +kernel, by decide +kernel⟩, q126, by decide⟩
abbrev xX5_isKept : sm_X := (RX5, cX5_isKept, 2, (some .boolean), "isKept", [])
theorem kX5_isKept : sm_C xX5_isKept yX5_isKept 1 := ⟨q1197, rfl, rfl, rfl, by decide +kernel, ⟨by decide +kernel, by decide +kernel, by decide +kernel⟩, q126, by decide⟩
abbrev xX5_pays : sm_X := (RX5, cX5_pays, 4, (some .int), "pays", [])
theorem kX5_pays : sm_C xX5_pays yX5_pays 3 := ⟨q1214, rfl, rfl, rfl, by decide +kernel, ⟨by decide +kernel, by decide +kernel, by decide +kernel⟩, q126, by decide⟩
abbrev xX5_asks : sm_X := (RX5, cX5_asks, 4, (some (.object "KnockerFaces$Asked")), "asks", [])
theorem kX5_asks : sm_C xX5_asks yX5_asks 3 := ⟨q1218, rfl, rfl, rfl, by decide +kernel, ⟨by decide +kernel, by decide +kernel, by decide +kernel⟩, q126, by decide⟩
abbrev xX5_gives : sm_X := (RX5, cX5_gives, 5, (some .int), "gives", [])
theorem kX5_gives : sm_C xX5_gives yX5_gives 4 := ⟨q1241, rfl, rfl, rfl, by decide +kernel, ⟨by decide +kernel, by decide +kernel, by decide +kernel⟩, q126, by decide⟩
abbrev xX5_muchBy : sm_X := (RX5, cX5_muchBy, 9, (some .int), "muchBy", [])
theorem kX5_muchBy : sm_C xX5_muchBy yX5_muchBy 7 := ⟨q1245, rfl, rfl, rfl, by decide +kernel, ⟨by decide +kernel, by decide +kernel, by decide +kernel⟩, q126, by decide⟩
abbrev xX5_takes : sm_X := (RX5, cX5_takes, 3, none, "takes", [])
theorem kX5_takes : sm_C xX5_takes yX5_takes 1 := ⟨q1258, rfl, rfl, rfl, by decide +kernel, ⟨by decide +kernel, by decide +kernel, by decide +kernel⟩, q126, by decide⟩
abbrev xX5_copies : sm_X := (RX5, cX5_copies, 2, none, "copies", [])
theorem kX5_copies : sm_C xX5_copies yX5_copies 2 := ⟨q1261, rfl, rfl, rfl, by decide +kernel, ⟨by decide +kernel, by decide +kernel, by decide +kernel⟩, q126, by decide⟩
abbrev xX5_lift : sm_X := (RX5, cX5_lift, 6, none, "lift", [])
theorem kX5_lift : sm_C xX5_lift yX5_lift 3 := ⟨q1267, rfl, rfl, rfl, by decide +kernel, ⟨by decide +kernel, by decide +kernel, by decide +kernel⟩, q126, by decide⟩
abbrev xX5_goAll : sm_X := (RX5, cX5_goAll, 4, none, "goAll", [])
theorem kX5_goAll : sm_C xX5_goAll yX5_goAll 2 := ⟨q1274, rfl, rfl, rfl, by decide +kernel, ⟨by decide +kernel, by decide +kernel, by decide +kernel⟩, q126, by decide⟩
abbrev xX5_polish : sm_X := (RX5, cX5_polish, 5, none, "polish", [])
theorem kX5_polish : sm_C xX5_polish yX5_polish 2 := ⟨q1288, rfl, rfl, rfl, by decide +kernel, ⟨by decide +kernel, by decide +kernel, by decide +kernel⟩, q126, by decide⟩
abbrev xX5_goesBy : sm_X := (RX5, cX5_goesBy, 4, none, "goesBy", [])
theorem kX5_goesBy : sm_C xX5_goesBy yX5_goesBy 2 := ⟨q1311, rfl, rfl, rfl, by decide +kernel, ⟨by decide +kernel, by decide +kernel, by decide +kernel⟩, q126, by decide⟩
abbrev xX5_isWind : sm_X := (RX5, cX5_isWind, 2, (some .boolean), "isWind", [])
theorem kX5_isWind : sm_C xX5_isWind yX5_isWind 1 := ⟨q1325, rfl, rfl, rfl, by decide +kernel, ⟨by decide +kernel, by decide +kernel, by decide +kernel⟩, q126, by decide⟩
abbrev xX5_wears : sm_X := (RX5, cX5_wears, 5, none, "wears", [])
theorem kX5_wears : sm_C xX5_wears yX5_wears 2 := ⟨q1342, rfl, rfl, rfl, by decide +kernel, ⟨by decide +kernel, by decide +kernel, by decide +kernel⟩, q126, by decide⟩
abbrev xX6_init : sm_X := (RX6, cX6_init, 1, none, "<init>", [])
theorem kX6_init : sm_C xX6_init yX6_init 0 := ⟨q408, rfl, rfl, rfl, by decide +kernel, ⟨by decide +kernel, by decide +kernel, by decide +kernel⟩, q127, by decide⟩
abbrev xX7_init : sm_X := (RX7, cX7_init, 1, none, "<init>", [])
theorem kX7_init : sm_C xX7_init yX7_init 0 := ⟨q478, rfl, rfl, rfl, by decide +kernel, ⟨by decide +kernel, by decide +kernel, by decide +kernel⟩, q128, by decide⟩
abbrev xX8_init : sm_X := (RX8, cX8_init, 1, none, "<init>", [])
theorem kX8_init : sm_C xX8_init yX8_init 0 := ⟨q475, rfl, rfl, rfl, by decide +kernel, ⟨by decide +kernel, by decide +kernel, by decide +kernel⟩, q129, by decide⟩
abbrev xX8_blows : sm_X := (RX8, cX8_blows, 5, none, "blows", [])
theorem kX8_blows : sm_C xX8_blows yX8_blows 2 := ⟨q1321, rfl, rfl, rfl, by decide +kernel, ⟨by decide +kernel, by decide +kernel, by decide +kernel⟩, q129, by decide⟩
abbrev xX9_init : sm_X := (RX9, cX9_init, 1, none, "<init>", [])
theorem kX9_init : sm_C xX9_init yX9_init 0 := ⟨q485, rfl, rfl, rfl, by decide +kernel, ⟨by decide +kernel, by decide +kernel, by decide +kernel⟩, q130, by decide⟩
abbrev xX9_blows : sm_X := (RX9, cX9_blows, 3, none, "blows", [])
theorem kX9_blows : sm_C xX9_blows yX9_blows 2 := ⟨q1338, rfl, rfl, rfl, by decide +kernel, ⟨by decide +kernel, by decide +kernel, by decide +kernel⟩, q130, by decide⟩
theorem lL_9 : sm_LI "KnockerFacesLaw" 9 yX0_init := ⟨q155, q156, rfl⟩
theorem lX0_19 : sm_LI RX0 19 yJ17_init := ⟨q158, q159, rfl⟩
theorem lJ0_1 : sm_LI RJ0 1 yJ17_init := ⟨q186, q159, rfl⟩
theorem lX0_27 : sm_LI RX0 27 yX1_init := ⟨q200, q201, rfl⟩
theorem lX1_3 : sm_LI RX1 3 yJ2_init := ⟨q204, q205, rfl⟩
theorem lJ2_16 : sm_LI RJ2 16 yJ1_init := ⟨q207, q208, rfl⟩
theorem lJ1_16 : sm_LI RJ1 16 yJ0_init_2 := ⟨q210, q211, rfl⟩
theorem lX0_34 : sm_LIN RX0 34 yX2_init := ⟨⟨_, q237⟩, q238, rfl⟩
theorem lX2_3 : sm_LI RX2 3 yJ17_init := ⟨q240, q159, rfl⟩
theorem lX0_41 : sm_LI RX0 41 yX3_init := ⟨q297, q298, rfl⟩
theorem lX3_3 : sm_LI RX3 3 yJ17_init := ⟨q300, q159, rfl⟩
theorem lX0_50 : sm_LIN RX0 50 yX4_init := ⟨⟨_, q325⟩, q326, rfl⟩
theorem lX4_3 : sm_LI RX4 3 yJ17_init := ⟨q328, q159, rfl⟩
theorem lX4_11 : sm_LI RX4 11 yJ5_init := ⟨q331, q332, rfl⟩
theorem lJ5_1 : sm_LI RJ5 1 yJ4_init := ⟨q334, q335, rfl⟩
theorem lJ4_1 : sm_LI RJ4 1 yJ3_init := ⟨q337, q338, rfl⟩
theorem lJ3_1 : sm_LI RJ3 1 yJ17_init := ⟨q340, q159, rfl⟩
theorem lX0_61 : sm_LIN RX0 61 yX5_init := ⟨⟨_, q398⟩, q399, rfl⟩
theorem lX5_3 : sm_LI RX5 3 yJ17_init := ⟨q401, q159, rfl⟩
theorem lX5_37 : sm_LIN RX5 37 yX6_init := ⟨⟨_, q406⟩, q407, rfl⟩
theorem lX6_1 : sm_LI RX6 1 yJ17_init := ⟨q409, q159, rfl⟩
theorem lX0_81 : sm_LIN RX0 81 yX8_init := ⟨⟨_, q473⟩, q474, rfl⟩
theorem lX8_3 : sm_LIN RX8 3 yX7_init := ⟨⟨_, q476⟩, q477, rfl⟩
theorem lX7_1 : sm_LI RX7 1 yJ17_init := ⟨q479, q159, rfl⟩
theorem lX0_88 : sm_LIN RX0 88 yX9_init := ⟨⟨_, q483⟩, q484, rfl⟩
theorem lX9_1 : sm_LIN RX9 1 yX7_init := ⟨⟨_, q486⟩, q477, rfl⟩
theorem lX0_117 : sm_LV RX0 117 6 yX5_begins := ⟨⟨_, _, rfl⟩, by decide, by decide, q489, q490, q491⟩
theorem lX5_48 : sm_LV RX5 48 18 yJ5_size := ⟨⟨_, _, rfl⟩, by decide, by decide, q493, q494, q495⟩
theorem lX5_54 : sm_LV RX5 54 18 yJ5_get := ⟨⟨_, _, rfl⟩, by decide, by decide, q497, q498, q499⟩
theorem lJ5_118 : sm_LS RJ5 118 yJ6_checkIndex := ⟨q501, q502⟩
theorem lJ6_105 : sm_LS RJ6 105 yJ7_checkIndex := ⟨q504, q505⟩
theorem lJ5_123 : sm_LV RJ5 123 18 yJ5_elementData := ⟨⟨_, _, rfl⟩, by decide, by decide, q507, q508, q509⟩
theorem lL_13 : sm_LV "KnockerFacesLaw" 13 1 yX0_feed := ⟨⟨_, _, rfl⟩, by decide, by decide, q580, q581, q582⟩
theorem lX0_124 : sm_LV RX0 124 1 yX0_typed := ⟨⟨_, _, rfl⟩, by decide, by decide, q584, q586, qs1⟩
theorem lL_18 : sm_LV "KnockerFacesLaw" 18 1 yX0_back := ⟨⟨_, _, rfl⟩, by decide, by decide, q588, q589, q590⟩
theorem lL_23 : sm_LV "KnockerFacesLaw" 23 1 yX0_read := ⟨⟨_, _, rfl⟩, by decide, by decide, q592, q593, q594⟩
theorem lX0_132 : sm_LV RX0 132 4 yX3_read := ⟨⟨_, _, rfl⟩, by decide, by decide, q596, q597, q598⟩
theorem lX3_95 : sm_LV RX3 95 3 yX2_read := ⟨⟨_, _, rfl⟩, by decide, by decide, q600, q601, q602⟩
theorem lX2_95 : sm_LV RX2 95 3 yX2_isLetter := ⟨⟨_, _, rfl⟩, by decide, by decide, q604, q606, qs2⟩
theorem lX2_80 : sm_LV RX2 80 3 yX2_at := ⟨⟨_, _, rfl⟩, by decide, by decide, q608, q610, qs3⟩
theorem lX2_99 : sm_LV RX2 99 3 yX2_word := ⟨⟨_, _, rfl⟩, by decide, by decide, q612, q614, qs4⟩
theorem lX2_87 : sm_LV RX2 87 19 yJ8_length := ⟨⟨_, _, rfl⟩, by decide, by decide, q616, q617, q618⟩
theorem lJ8_335 : sm_LV RJ8 335 19 yJ8_coder := ⟨⟨_, _, rfl⟩, by decide, by decide, q620, q621, q622⟩
theorem lX2_91 : sm_LV RX2 91 19 yJ8_charAt := ⟨⟨_, _, rfl⟩, by decide, by decide, q626, q627, q628⟩
theorem lJ8_492 : sm_LV RJ8 492 19 yJ8_isLatin1 := ⟨⟨_, _, rfl⟩, by decide, by decide, q630, q631, q632⟩
theorem lJ8_495 : sm_LS RJ8 495 yJ9_charAt := ⟨q634, q635⟩
theorem lJ9_9 : sm_LS RJ9 9 yJ8_checkIndex := ⟨q637, q638⟩
theorem lJ8_1059 : sm_LS RJ8 1059 yJ7_checkIndex := ⟨q642, q505⟩
theorem lJ8_498 : sm_LS RJ8 498 yJ10_charAt := ⟨q643, q644⟩
theorem lJ10_67 : sm_LS RJ10 67 yJ10_checkIndex := ⟨q646, q647⟩
theorem lJ10_48 : sm_LS RJ10 48 yJ10_length := ⟨q649, q650⟩
theorem lJ10_414 : sm_LS RJ10 414 yJ8_checkIndex := ⟨q652, q638⟩
theorem lJ10_71 : sm_LS RJ10 71 yJ10_getChar := ⟨q653, q654⟩
theorem lX2_103 : sm_LV RX2 103 3 yX2_isDigit := ⟨⟨_, _, rfl⟩, by decide, by decide, q662, q664, qs5⟩
theorem lX2_106 : sm_LV RX2 106 3 yX2_sign := ⟨⟨_, _, rfl⟩, by decide, by decide, q666, q668, qs6⟩
theorem lX2_109 : sm_LV RX2 109 3 yX2_add := ⟨⟨_, _, rfl⟩, by decide, by decide, q670, q672, qs7⟩
theorem lX3_98 : sm_LIN RX3 98 yX4_init := ⟨⟨_, q675⟩, q326, rfl⟩
theorem lX3_65 : sm_LV RX3 65 4 yX3_sort := ⟨⟨_, _, rfl⟩, by decide, by decide, q676, q678, qs8⟩
theorem lX3_48 : sm_LV RX3 48 4 yX3_wrong := ⟨⟨_, _, rfl⟩, by decide, by decide, q680, q682, qs9⟩
theorem lX3_35 : sm_LV RX3 35 4 yX3_wrongAt := ⟨⟨_, _, rfl⟩, by decide, by decide, q684, q686, qs10⟩
theorem lX3_25 : sm_LV RX3 25 2 yX1_of := ⟨⟨_, _, rfl⟩, by decide, by decide, q688, q689, q690⟩
theorem lX3_102 : sm_LV RX3 102 4 yX3_told := ⟨⟨_, _, rfl⟩, by decide, by decide, q692, q694, qs11⟩
theorem lX3_59 : sm_LV RX3 59 4 yX3_pass := ⟨⟨_, _, rfl⟩, by decide, by decide, q696, q698, qs12⟩
theorem lX3_113 : sm_LV RX3 113 4 yX3_law := ⟨⟨_, _, rfl⟩, by decide, by decide, q700, q702, qs13⟩
theorem lX3_192 : sm_LIN RX3 192 yX11_init := ⟨⟨_, q706⟩, q707, rfl⟩
theorem lX11_3 : sm_LI RX11 3 yJ17_init := ⟨q709, q159, rfl⟩
theorem lX3_105 : sm_LV RX3 105 4 yX3_sign := ⟨⟨_, _, rfl⟩, by decide, by decide, q729, q731, qs14⟩
theorem lX3_55 : sm_LV RX3 55 4 yX3_isSign := ⟨⟨_, _, rfl⟩, by decide, by decide, q733, q735, qs15⟩
theorem lX3_62 : sm_LV RX3 62 4 yX3_isWord := ⟨⟨_, _, rfl⟩, by decide, by decide, q737, q739, qs16⟩
theorem lX3_126 : sm_LV RX3 126 4 yX3_begins := ⟨⟨_, _, rfl⟩, by decide, by decide, q741, q743, qs17⟩
theorem lX3_200 : sm_LV RX3 200 4 yX3_sum := ⟨⟨_, _, rfl⟩, by decide, by decide, q745, q747, qs18⟩
theorem lX3_213 : sm_LV RX3 213 4 yX3_part := ⟨⟨_, _, rfl⟩, by decide, by decide, q749, q751, qs19⟩
theorem lX3_221 : sm_LV RX3 221 4 yX3_unit := ⟨⟨_, _, rfl⟩, by decide, by decide, q753, q755, qs20⟩
theorem lX3_72 : sm_LV RX3 72 3 yX2_number := ⟨⟨_, _, rfl⟩, by decide, by decide, q759, q760, q761⟩
theorem lX3_226 : sm_LI RX3 226 yX13_init := ⟨q763, q764, rfl⟩
theorem lX13_1 : sm_LIN RX13 1 yX12_init := ⟨⟨_, q766⟩, q767, rfl⟩
theorem lX12_1 : sm_LI RX12 1 yJ17_init := ⟨q769, q159, rfl⟩
theorem lX3_230 : sm_LI RX3 230 yX14_init := ⟨q776, q777, rfl⟩
theorem lX14_1 : sm_LIN RX14 1 yX12_init := ⟨⟨_, q779⟩, q767, rfl⟩
theorem lX3_218 : sm_LI RX3 218 yX15_init := ⟨q786, q787, rfl⟩
theorem lX15_1 : sm_LIN RX15 1 yX12_init := ⟨⟨_, q789⟩, q767, rfl⟩
theorem lX3_207 : sm_LV RX3 207 4 yX3_word := ⟨⟨_, _, rfl⟩, by decide, by decide, q800, q802, qs21⟩
theorem lX3_121 : sm_LV RX3 121 18 yJ5_size := ⟨⟨_, _, rfl⟩, by decide, by decide, q804, q494, q495⟩
theorem lX3_131 : sm_LV RX3 131 4 yX3_name := ⟨⟨_, _, rfl⟩, by decide, by decide, q807, q809, qs22⟩
theorem lX3_68 : sm_LV RX3 68 4 yX3_take := ⟨⟨_, _, rfl⟩, by decide, by decide, q811, q813, qs23⟩
theorem lX3_79 : sm_LV RX3 79 3 yX2_text := ⟨⟨_, _, rfl⟩, by decide, by decide, q815, q816, q817⟩
theorem lX2_115 : sm_LI RX2 115 yJ12_init := ⟨q821, q822, rfl⟩
theorem lJ12_1 : sm_LI RJ12 1 yJ11_init := ⟨q824, q825, rfl⟩
theorem lJ11_3 : sm_LI RJ11 3 yJ17_init := ⟨q827, q159, rfl⟩
theorem lJ11_26 : sm_LS RJ11 26 yJ10_newBytesFor := ⟨q829, q830⟩
theorem lJ10_11 : sm_LS RJ10 11 yJ10_newBytesLength := ⟨q832, q833⟩
theorem lX2_116 : sm_LV RX2 116 20 yJ12_append := ⟨⟨_, _, rfl⟩, by decide, by decide, q849, q850, q851⟩
theorem lJ11_114 : sm_LS RJ11 114 yJ13_newLength := ⟨q864, q865⟩
theorem lJ13_194 : sm_LS RJ13 194 yJ14_max := ⟨q867, q868⟩
theorem lJ13_201 : sm_LS RJ13 201 yJ13_hugeLength := ⟨q871, q872⟩
theorem lJ11_108 : sm_LS RJ11 108 yJ15_copyOf := ⟨q875, q876⟩
theorem lJ15_304 : sm_LS RJ15 304 yJ14_min := ⟨q885, q886⟩
theorem lJ11_83_20 : sm_LA RJ11 83 20 yJ11_isLatin1 yJ11_isLatin1 0 := ⟨RJ12, RJ11, _, _, rfl, by decide, by decide, q891, q893, q894, q892, q144, Or.inr (Or.inl rfl), by decide +kernel, by decide +kernel, by decide +kernel⟩
theorem lJ11_191 : sm_LS RJ11 191 yJ9_canEncode := ⟨q896, q897⟩
theorem lJ11_125 : sm_LS RJ11 125 yJ9_inflate := ⟨q903, q904⟩
theorem lJ9_240 : sm_LS RJ9 240 yJ10_inflate := ⟨q906, q907⟩
theorem lJ10_173 : sm_LS RJ10 173 yJ10_checkBoundsOffCount := ⟨q909, q910⟩
theorem lJ10_419 : sm_LS RJ10 419 yJ8_checkBoundsOffCount := ⟨q912, q913⟩
theorem lJ8_1065 : sm_LS RJ8 1065 yJ7_checkFromIndexSize := ⟨q915, q916⟩
theorem lJ10_111 : sm_LS RJ10 111 yJ10_putChar := ⟨q918, q919⟩
theorem lJ11_197 : sm_LS RJ11 197 yJ10_putCharSB := ⟨q921, q922⟩
theorem lX2_120 : sm_LV RX2 120 20 yJ12_toString := ⟨⟨_, _, rfl⟩, by decide, by decide, q924, q925, q926⟩
theorem lJ12_137 : sm_LI RJ12 137 yJ8_init := ⟨q930, q931, rfl⟩
theorem lJ8_489 : sm_LI RJ8 489 yJ8_init_2 := ⟨q933, q934, rfl⟩
theorem lJ8_1 : sm_LI RJ8 1 yJ17_init := ⟨q936, q159, rfl⟩
theorem lJ8_552_20 : sm_LA RJ8 552 20 yJ11_getValue yJ11_getValue 0 := ⟨RJ12, RJ11, _, _, rfl, by decide, by decide, q937, q939, q940, q938, q144, Or.inr (Or.inl rfl), by decide +kernel, by decide +kernel, by decide +kernel⟩
theorem lJ8_1047_20 : sm_LA RJ8 1047 20 yJ11_isLatin1 yJ11_isLatin1 0 := ⟨RJ12, RJ11, _, _, rfl, by decide, by decide, q950, q893, q894, q892, q144, Or.inr (Or.inl rfl), by decide +kernel, by decide +kernel, by decide +kernel⟩
theorem lJ8_54 : sm_LS RJ8 54 yJ15_copyOfRange := ⟨q951, q952⟩
theorem lJ15_339 : sm_LS RJ15 339 yJ15_copyOfRangeByte := ⟨q954, q955⟩
theorem lJ15_343 : sm_LS RJ15 343 yJ15_checkLength := ⟨q957, q958⟩
theorem lJ8_1051 : sm_LS RJ8 1051 yJ10_compress := ⟨q960, q961⟩
theorem lJ10_123 : sm_LS RJ10 123 yJ10_compress_2 := ⟨q963, q964⟩
theorem lJ10_126 : sm_LS RJ10 126 yJ15_copyOfRange := ⟨q966, q952⟩
theorem lJ8_47 : sm_LS RJ8 47 yJ10_coderFromArrayLen := ⟨q967, q968⟩
theorem lX3_86 : sm_LV RX3 86 5 yX4_has := ⟨⟨_, _, rfl⟩, by decide, by decide, q981, q982, q983⟩
theorem lX4_54 : sm_LS RX4 54 yX4_at := ⟨q985, q986⟩
theorem lX4_34 : sm_LV RX4 34 18 yJ5_size := ⟨⟨_, _, rfl⟩, by decide, by decide, q988, q494, q495⟩
theorem lX4_38 : sm_LV RX4 38 18 yJ5_get := ⟨⟨_, _, rfl⟩, by decide, by decide, q989, q498, q499⟩
theorem lX4_48 : sm_LV RX4 48 19 yJ8_equals := ⟨⟨_, _, rfl⟩, by decide, by decide, q991, q992, q993⟩
theorem lJ8_541 : sm_LS RJ8 541 yJ9_equals := ⟨q996, q997⟩
theorem lX3_75 : sm_LV RX3 75 4 yX3_tell := ⟨⟨_, _, rfl⟩, by decide, by decide, q999, q1001, qs24⟩
theorem lX3_135 : sm_LI RX3 135 yX17_init := ⟨q1003, q1004, rfl⟩
theorem lX17_1 : sm_LI RX17 1 yX16_init := ⟨q1006, q1007, rfl⟩
theorem lX16_3 : sm_LI RX16 3 yJ17_init := ⟨q1009, q159, rfl⟩
theorem lX3_138 : sm_LV RX3 138 4 yX3_face := ⟨⟨_, _, rfl⟩, by decide, by decide, q1025, q1027, qs25⟩
theorem lX3_168 : sm_LV RX3 168 4 yX3_number := ⟨⟨_, _, rfl⟩, by decide, by decide, q1029, q1031, qs26⟩
theorem lX3_142 : sm_LV RX3 142 18 yJ5_add := ⟨⟨_, _, rfl⟩, by decide, by decide, q1033, q1034, q1035⟩
theorem lJ5_131 : sm_LV RJ5 131 18 yJ5_add_2 := ⟨⟨_, _, rfl⟩, by decide, by decide, q1037, q1039, qs27⟩
theorem lJ5_129 : sm_LV RJ5 129 18 yJ5_grow := ⟨⟨_, _, rfl⟩, by decide, by decide, q1041, q1043, qs28⟩
theorem lJ5_69 : sm_LV RJ5 69 18 yJ5_grow_2 := ⟨⟨_, _, rfl⟩, by decide, by decide, q1045, q1047, qs29⟩
theorem lJ5_73 : sm_LS RJ5 73 yJ13_newLength := ⟨q1049, q865⟩
theorem lJ5_66 : sm_LS RJ5 66 yJ15_copyOf_2 := ⟨q1050, q1051⟩
theorem lJ15_300 : sm_LS RJ15 300 yJ15_copyOf_3 := ⟨q1077, q1078⟩
theorem lJ5_79 : sm_LS RJ5 79 yJ14_max := ⟨q1083, q868⟩
theorem lX3_151 : sm_LI RX3 151 yX18_init := ⟨q1087, q1088, rfl⟩
theorem lX18_1 : sm_LI RX18 1 yX16_init := ⟨q1090, q1007, rfl⟩
theorem lX3_157 : sm_LIN RX3 157 yX19_init := ⟨⟨_, q1096⟩, q1097, rfl⟩
theorem lX19_1 : sm_LI RX19 1 yJ17_init := ⟨q1099, q159, rfl⟩
theorem lX3_158 : sm_LV RX3 158 4 yX3_known := ⟨⟨_, _, rfl⟩, by decide, by decide, q1121, q1123, qs30⟩
theorem lX3_92 : sm_LS RX3 92 yX4_at := ⟨q1125, q986⟩
theorem lL_28 : sm_LV "KnockerFacesLaw" 28 1 yX0_place := ⟨⟨_, _, rfl⟩, by decide, by decide, q1126, q1127, q1128⟩
theorem lL_32 : sm_LV "KnockerFacesLaw" 32 1 yX0_door := ⟨⟨_, _, rfl⟩, by decide, by decide, q1130, q1131, q1132⟩
theorem lX0_185 : sm_LV RX0 185 1 yX0_isDoor := ⟨⟨_, _, rfl⟩, by decide, by decide, q1134, q1136, qs31⟩
theorem lX0_159 : sm_LV RX0 159 1 yX0_doors := ⟨⟨_, _, rfl⟩, by decide, by decide, q1138, q1140, qs32⟩
theorem lX0_150 : sm_LV RX0 150 18 yJ5_size := ⟨⟨_, _, rfl⟩, by decide, by decide, q1142, q494, q495⟩
theorem lX0_161 : sm_LS RX0 161 yX0_isIn := ⟨q1143, q1144⟩
theorem lX0_189 : sm_LS RX0 189 yX0_isPart := ⟨q1146, q1147⟩
theorem lX0_204 : sm_LV RX0 204 6 yX5_known := ⟨⟨_, _, rfl⟩, by decide, by decide, q1149, q1150, q1151⟩
theorem lX5_183 : sm_LV RX5 183 6 yX5_unlike := ⟨⟨_, _, rfl⟩, by decide, by decide, q1154, q1155, q1156⟩
theorem lX5_92 : sm_LSN RX5 92 yX0_unlikeOf := ⟨⟨_, q1159⟩, q1160⟩
theorem lX0_8 : sm_LS RX0 8 yJ14_abs := ⟨q1162, q1163⟩
theorem lX0_208 : sm_LV RX0 208 1 yX0_worn := ⟨⟨_, _, rfl⟩, by decide, by decide, q1165, q1167, qs33⟩
theorem lX0_173 : sm_LV RX0 173 18 yJ5_get := ⟨⟨_, _, rfl⟩, by decide, by decide, q1169, q498, q499⟩
theorem lX0_181 : sm_LS RX0 181 yX0_unlikeOf := ⟨q1171, q1160⟩
theorem lL_37 : sm_LV "KnockerFacesLaw" 37 1 yX0_caller := ⟨⟨_, _, rfl⟩, by decide, by decide, q1172, q1173, q1174⟩
theorem lX0_212 : sm_LV RX0 212 1 yX0_isCaller := ⟨⟨_, _, rfl⟩, by decide, by decide, q1176, q1178, qs34⟩
theorem lX0_165 : sm_LV RX0 165 1 yX0_callers := ⟨⟨_, _, rfl⟩, by decide, by decide, q1180, q1182, qs35⟩
theorem lL_41 : sm_LV "KnockerFacesLaw" 41 1 yX0_round := ⟨⟨_, _, rfl⟩, by decide, by decide, q1185, q1186, q1187⟩
theorem lX0_221 : sm_LV RX0 221 1 yX0_isRound := ⟨⟨_, _, rfl⟩, by decide, by decide, q1189, q1191, qs36⟩
theorem lX0_238 : sm_LV RX0 238 6 yX5_isKept := ⟨⟨_, _, rfl⟩, by decide, by decide, q1194, q1195, q1196⟩
theorem lX0_244 : sm_LV RX0 244 17 yX19_isDue := ⟨⟨_, _, rfl⟩, by decide, by decide, q1198, q1199, q1200⟩
theorem lL_45 : sm_LV "KnockerFacesLaw" 45 1 yX0_unlike := ⟨⟨_, _, rfl⟩, by decide, by decide, q1202, q1203, q1204⟩
theorem lX0_247 : sm_LV RX0 247 6 yX5_unlike := ⟨⟨_, _, rfl⟩, by decide, by decide, q1206, q1155, q1156⟩
theorem lL_49 : sm_LV "KnockerFacesLaw" 49 1 yX0_tells := ⟨⟨_, _, rfl⟩, by decide, by decide, q1207, q1208, q1209⟩
theorem lX0_251 : sm_LV RX0 251 6 yX5_pays := ⟨⟨_, _, rfl⟩, by decide, by decide, q1211, q1212, q1213⟩
theorem lX5_110 : sm_LV RX5 110 6 yX5_asks := ⟨⟨_, _, rfl⟩, by decide, by decide, q1215, q1217, qs37⟩
theorem lX5_114 : sm_LV RX5 114 11 yX11_of := ⟨⟨_, _, rfl⟩, by decide, by decide, q1219, q1220, q1221⟩
theorem lX11_33_12 : sm_LA RX11 33 12 ⟨"KnockerFaces$Sum", "of", "(LKnockerFaces$Asked;)I"⟩ yX13_of 1 := ⟨RX13, "KnockerFaces$Sum", _, _, rfl, by decide, by decide, q1223, q1225, q1234, q1230, q139, Or.inl q1224, by decide +kernel, by decide +kernel, by decide +kernel⟩
theorem lX11_33_13 : sm_LA RX11 33 13 ⟨"KnockerFaces$Sum", "of", "(LKnockerFaces$Asked;)I"⟩ yX14_of 1 := ⟨RX14, "KnockerFaces$Sum", _, _, rfl, by decide, by decide, q1223, q1225, q1235, q1232, q140, Or.inl q1224, by decide +kernel, by decide +kernel, by decide +kernel⟩
theorem lX11_33_14 : sm_LA RX11 33 14 ⟨"KnockerFaces$Sum", "of", "(LKnockerFaces$Asked;)I"⟩ yX15_of 1 := ⟨RX15, "KnockerFaces$Sum", _, _, rfl, by decide, by decide, q1223, q1225, q1226, q1227, q141, Or.inl q1224, by decide +kernel, by decide +kernel, by decide +kernel⟩
theorem lX15_20_12 : sm_LA RX15 20 12 ⟨"KnockerFaces$Sum", "of", "(LKnockerFaces$Asked;)I"⟩ yX13_of 1 := ⟨RX13, "KnockerFaces$Sum", _, _, rfl, by decide, by decide, q1229, q1225, q1234, q1230, q139, Or.inl q1224, by decide +kernel, by decide +kernel, by decide +kernel⟩
theorem lX15_20_13 : sm_LA RX15 20 13 ⟨"KnockerFaces$Sum", "of", "(LKnockerFaces$Asked;)I"⟩ yX14_of 1 := ⟨RX14, "KnockerFaces$Sum", _, _, rfl, by decide, by decide, q1229, q1225, q1235, q1232, q140, Or.inl q1224, by decide +kernel, by decide +kernel, by decide +kernel⟩
theorem lX15_20_14 : sm_LA RX15 20 14 ⟨"KnockerFaces$Sum", "of", "(LKnockerFaces$Asked;)I"⟩ yX15_of 1 := ⟨RX15, "KnockerFaces$Sum", _, _, rfl, by decide, by decide, q1229, q1225, q1226, q1227, q141, Or.inl q1224, by decide +kernel, by decide +kernel, by decide +kernel⟩
theorem lX11_37 : sm_LS RX11 37 yJ14_max := ⟨q1236, q868⟩
theorem lX5_106 : sm_LS RX5 106 yJ14_min := ⟨q1237, q886⟩
theorem lX0_254 : sm_LV RX0 254 6 yX5_gives := ⟨⟨_, _, rfl⟩, by decide, by decide, q1238, q1239, q1240⟩
theorem lX5_126 : sm_LV RX5 126 6 yX5_muchBy := ⟨⟨_, _, rfl⟩, by decide, by decide, q1242, q1244, qs38⟩
theorem lX5_96 : sm_LS RX5 96 yJ14_abs := ⟨q1246, q1163⟩
theorem lL_54 : sm_LV "KnockerFacesLaw" 54 1 yX0_lift := ⟨⟨_, _, rfl⟩, by decide, by decide, q1247, q1248, q1249⟩
theorem lX0_268 : sm_LV RX0 268 1 yX0_keeps := ⟨⟨_, _, rfl⟩, by decide, by decide, q1251, q1253, qs39⟩
theorem lX0_261 : sm_LV RX0 261 6 yX5_takes := ⟨⟨_, _, rfl⟩, by decide, by decide, q1255, q1256, q1257⟩
theorem lX5_85 : sm_LS RX5 85 yX5_copies := ⟨q1259, q1260⟩
theorem lX0_265 : sm_LS RX0 265 yJ14_min := ⟨q1263, q886⟩
theorem lX0_271 : sm_LV RX0 271 6 yX5_lift := ⟨⟨_, _, rfl⟩, by decide, by decide, q1264, q1265, q1266⟩
theorem lX5_134 : sm_LV RX5 134 6 yX5_pays := ⟨⟨_, _, rfl⟩, by decide, by decide, q1268, q1212, q1213⟩
theorem lX5_138 : sm_LV RX5 138 6 yX5_gives := ⟨⟨_, _, rfl⟩, by decide, by decide, q1269, q1239, q1240⟩
theorem lX5_143 : sm_LV RX5 143 6 yX5_goAll := ⟨⟨_, _, rfl⟩, by decide, by decide, q1271, q1273, qs40⟩
theorem lX5_130 : sm_LSN RX5 130 yX0_towardsBy := ⟨⟨_, q1275⟩, q1276⟩
theorem lX0_14 : sm_LS RX0 14 yJ16_signum := ⟨q1278, q1279⟩
theorem lL_59 : sm_LV "KnockerFacesLaw" 59 1 yX0_polish := ⟨⟨_, _, rfl⟩, by decide, by decide, q1281, q1282, q1283⟩
theorem lX0_275 : sm_LV RX0 275 6 yX5_polish := ⟨⟨_, _, rfl⟩, by decide, by decide, q1285, q1286, q1287⟩
theorem lL_64 : sm_LV "KnockerFacesLaw" 64 1 yX0_file := ⟨⟨_, _, rfl⟩, by decide, by decide, q1289, q1290, q1291⟩
theorem lL_68 : sm_LV "KnockerFacesLaw" 68 1 yX0_keep := ⟨⟨_, _, rfl⟩, by decide, by decide, q1293, q1294, q1295⟩
theorem lL_73 : sm_LV "KnockerFacesLaw" 73 1 yX0_days := ⟨⟨_, _, rfl⟩, by decide, by decide, q1297, q1298, q1299⟩
theorem lX0_286 : sm_LS RX0 286 yX0_isAhead := ⟨q1301, q1302⟩
theorem lX0_289 : sm_LV RX0 289 1 yX0_runs := ⟨⟨_, _, rfl⟩, by decide, by decide, q1304, q1306, qs41⟩
theorem lX0_282 : sm_LV RX0 282 6 yX5_goesBy := ⟨⟨_, _, rfl⟩, by decide, by decide, q1308, q1309, q1310⟩
theorem lX5_153 : sm_LV RX5 153 6 yX5_isKept := ⟨⟨_, _, rfl⟩, by decide, by decide, q1312, q1195, q1196⟩
theorem lX5_159 : sm_LV RX5 159 17 yX19_isDue := ⟨⟨_, _, rfl⟩, by decide, by decide, q1314, q1199, q1200⟩
theorem lX5_168 : sm_LV RX5 168 6 yX5_lift := ⟨⟨_, _, rfl⟩, by decide, by decide, q1315, q1265, q1266⟩
theorem lX5_172_8 : sm_LA RX5 172 8 ⟨"KnockerFaces$Sky", "blows", "(LKnockerFaces$Town;LKnockerFaces$Text;)V"⟩ yX8_blows 2 := ⟨RX8, "KnockerFaces$Sky", _, _, rfl, by decide, by decide, q1316, q1318, q1319, q1320, q129, Or.inl q1317, by decide +kernel, by decide +kernel, by decide +kernel⟩
theorem lX5_172_9 : sm_LA RX5 172 9 ⟨"KnockerFaces$Sky", "blows", "(LKnockerFaces$Town;LKnockerFaces$Text;)V"⟩ yX9_blows 2 := ⟨RX9, "KnockerFaces$Sky", _, _, rfl, by decide, by decide, q1316, q1318, q1336, q1337, q130, Or.inl q1317, by decide +kernel, by decide +kernel, by decide +kernel⟩
theorem lX8_9 : sm_LV RX8 9 6 yX5_isWind := ⟨⟨_, _, rfl⟩, by decide, by decide, q1322, q1323, q1324⟩
theorem lX5_147 : sm_LSN RX5 147 yX0_lot := ⟨⟨_, q1326⟩, q1327⟩
theorem lX0_2 : sm_LS RX0 2 yX0_mixed := ⟨q1329, q1330⟩
theorem lX8_21 : sm_LV RX8 21 18 yJ5_size := ⟨⟨_, _, rfl⟩, by decide, by decide, q1333, q494, q495⟩
theorem lX8_34 : sm_LSN RX8 34 yX0_lot := ⟨⟨_, q1334⟩, q1327⟩
theorem lX8_42 : sm_LS RX8 42 yJ14_max := ⟨q1335, q868⟩
theorem lX5_178 : sm_LV RX5 178 6 yX5_wears := ⟨⟨_, _, rfl⟩, by decide, by decide, q1339, q1341, qs42⟩
theorem lL_77 : sm_LV "KnockerFacesLaw" 77 1 yX0_undo := ⟨⟨_, _, rfl⟩, by decide, by decide, q1343, q1344, q1345⟩
theorem lL_82 : sm_LV "KnockerFacesLaw" 82 1 yX0_lifts := ⟨⟨_, _, rfl⟩, by decide, by decide, q1347, q1348, q1349⟩
theorem lX0_293 : sm_LV RX0 293 1 yX0_laysLifts := ⟨⟨_, _, rfl⟩, by decide, by decide, q1351, q1353, qs43⟩
theorem lL_86 : sm_LV "KnockerFacesLaw" 86 1 yX0_towards := ⟨⟨_, _, rfl⟩, by decide, by decide, q1355, q1356, q1357⟩
theorem lL_90 : sm_LV "KnockerFacesLaw" 90 1 yX0_without := ⟨⟨_, _, rfl⟩, by decide, by decide, q1360, q1361, q1362⟩
theorem lL_94 : sm_LV "KnockerFacesLaw" 94 1 yX0_twins := ⟨⟨_, _, rfl⟩, by decide, by decide, q1364, q1365, q1366⟩
theorem lL_98 : sm_LV "KnockerFacesLaw" 98 1 yX0_paired := ⟨⟨_, _, rfl⟩, by decide, by decide, q1368, q1369, q1370⟩
theorem lX0_302 : sm_LV RX0 302 1 yX0_laysPaired := ⟨⟨_, _, rfl⟩, by decide, by decide, q1372, q1374, qs44⟩
theorem lX0_298 : sm_LV RX0 298 1 yX0_pairedBy := ⟨⟨_, _, rfl⟩, by decide, by decide, q1376, q1378, qs45⟩
theorem lX0_305 : sm_LV RX0 305 1 yX0_pairedTo := ⟨⟨_, _, rfl⟩, by decide, by decide, q1380, q1382, qs46⟩
theorem lL_142 : sm_LV "KnockerFacesLaw" 142 1 yX0_flat := ⟨⟨_, _, rfl⟩, by decide, by decide, q1384, q1385, q1386⟩
theorem lL_118 : sm_LV "KnockerFacesLaw" 118 1 yX0_confused := ⟨⟨_, _, rfl⟩, by decide, by decide, q1388, q1389, q1390⟩
theorem lL_122 : sm_LV "KnockerFacesLaw" 122 1 yX0_nearest := ⟨⟨_, _, rfl⟩, by decide, by decide, q1392, q1393, q1394⟩
theorem lL_126 : sm_LV "KnockerFacesLaw" 126 1 yX0_same := ⟨⟨_, _, rfl⟩, by decide, by decide, q1396, q1397, q1398⟩
theorem lL_110 : sm_LV "KnockerFacesLaw" 110 1 yX0_when := ⟨⟨_, _, rfl⟩, by decide, by decide, q1400, q1401, q1402⟩
theorem lL_114 : sm_LV "KnockerFacesLaw" 114 1 yX0_alone := ⟨⟨_, _, rfl⟩, by decide, by decide, q1404, q1405, q1406⟩
theorem lL_130 : sm_LV "KnockerFacesLaw" 130 1 yX0_shift := ⟨⟨_, _, rfl⟩, by decide, by decide, q1408, q1409, q1410⟩
theorem lL_134 : sm_LV "KnockerFacesLaw" 134 1 yX0_calls := ⟨⟨_, _, rfl⟩, by decide, by decide, q1412, q1413, q1414⟩
theorem lL_138 : sm_LV "KnockerFacesLaw" 138 1 yX0_richest := ⟨⟨_, _, rfl⟩, by decide, by decide, q1416, q1417, q1418⟩
theorem lL_102 : sm_LV "KnockerFacesLaw" 102 1 yX0_changes := ⟨⟨_, _, rfl⟩, by decide, by decide, q1420, q1421, q1422⟩
theorem lL_106 : sm_LV "KnockerFacesLaw" 106 1 yX0_rubs := ⟨⟨_, _, rfl⟩, by decide, by decide, q1424, q1425, q1426⟩
theorem lL_146 : sm_LV "KnockerFacesLaw" 146 1 yX0_then := ⟨⟨_, _, rfl⟩, by decide, by decide, q1428, q1429, q1430⟩
theorem lL_150 : sm_LV "KnockerFacesLaw" 150 1 yX0_busy := ⟨⟨_, _, rfl⟩, by decide, by decide, q1432, q1433, q1434⟩
theorem lL_154 : sm_LV "KnockerFacesLaw" 154 1 yX0_year := ⟨⟨_, _, rfl⟩, by decide, by decide, q1436, q1437, q1438⟩
theorem lL_159 : sm_LV "KnockerFacesLaw" 159 1 yX0_tell := ⟨⟨_, _, rfl⟩, by decide, by decide, q1440, q1441, q1442⟩
theorem lL_163 : sm_LV "KnockerFacesLaw" 163 1 yX0_forget := ⟨⟨_, _, rfl⟩, by decide, by decide, q1444, q1445, q1446⟩
theorem lL_167 : sm_LV "KnockerFacesLaw" 167 1 yX0_who := ⟨⟨_, _, rfl⟩, by decide, by decide, q1448, q1449, q1450⟩
theorem lX0_315 : sm_LV RX0 315 1 yX0_whoBy := ⟨⟨_, _, rfl⟩, by decide, by decide, q1452, q1454, qs47⟩
theorem lX0_312 : sm_LV RX0 312 1 yX0_wayOf := ⟨⟨_, _, rfl⟩, by decide, by decide, q1456, q1458, qs48⟩
theorem lX0_318 : sm_LS RX0 318 yJ16_bitCount := ⟨q1460, q1461⟩
theorem lL_171 : sm_LV "KnockerFacesLaw" 171 1 yX0_ask := ⟨⟨_, _, rfl⟩, by decide, by decide, q1466, q1467, q1468⟩
theorem lX0_324 : sm_LV RX0 324 1 yX0_worstOf := ⟨⟨_, _, rfl⟩, by decide, by decide, q1470, q1472, qs49⟩
theorem lX0_321 : sm_LS RX0 321 yJ14_max := ⟨q1474, q868⟩
theorem lL_175 : sm_LV "KnockerFacesLaw" 175 1 yX0_hold := ⟨⟨_, _, rfl⟩, by decide, by decide, q1475, q1476, q1477⟩
theorem lL_179 : sm_LV "KnockerFacesLaw" 179 1 yX0_restore := ⟨⟨_, _, rfl⟩, by decide, by decide, q1479, q1480, q1481⟩
theorem lL_183 : sm_LV "KnockerFacesLaw" 183 1 yX0_count := ⟨⟨_, _, rfl⟩, by decide, by decide, q1483, q1484, q1485⟩
theorem lX0_327 : sm_LS RX0 327 yX0_sum := ⟨q1487, q1488⟩
theorem lX0_331 : sm_LV RX0 331 6 yX5_isWind := ⟨⟨_, _, rfl⟩, by decide, by decide, q1490, q1323, q1324⟩
theorem lL_12 : sm_LI "KnockerFacesLaw" 12 yX10_init := ⟨q1493, q1494, rfl⟩
theorem lX10_7 : sm_LI RX10 7 yJ17_init := ⟨q1496, q159, rfl⟩
theorem lX10_152 : sm_LV RX10 152 10 yX10_plain := ⟨⟨_, _, rfl⟩, by decide, by decide, q1497, q1499, qs50⟩
theorem lX10_156 : sm_LS RX10 156 yX10_word := ⟨q1501, q1502⟩
theorem lX10_177 : sm_LS RX10 177 yX10_appends := ⟨q1504, q1505⟩
theorem lX10_160 : sm_LV RX10 160 10 yX10_begins := ⟨⟨_, _, rfl⟩, by decide, by decide, q1508, q1510, qs51⟩
theorem lX10_163 : sm_LV RX10 163 10 yX10_keepsRow := ⟨⟨_, _, rfl⟩, by decide, by decide, q1512, q1514, qs52⟩
theorem lL_17 : sm_LV "KnockerFacesLaw" 17 10 yX10_feed := ⟨⟨_, _, rfl⟩, by decide, by decide, q1715, q1716, q1717⟩
theorem lX10_169 : sm_LV RX10 169 10 yX10_put := ⟨⟨_, _, rfl⟩, by decide, by decide, q1719, q1721, qs53⟩
theorem lL_22 : sm_LV "KnockerFacesLaw" 22 10 yX10_back := ⟨⟨_, _, rfl⟩, by decide, by decide, q1723, q1724, q1725⟩
theorem lL_27 : sm_LV "KnockerFacesLaw" 27 10 yX10_read := ⟨⟨_, _, rfl⟩, by decide, by decide, q1727, q1728, q1729⟩
theorem lX10_227 : sm_LV RX10 227 10 yX10_cut := ⟨⟨_, _, rfl⟩, by decide, by decide, q1731, q1733, qs54⟩
theorem lX10_184 : sm_LV RX10 184 10 yX10_byteAt := ⟨⟨_, _, rfl⟩, by decide, by decide, q1735, q1737, qs55⟩
theorem lX10_188 : sm_LV RX10 188 10 yX10_token := ⟨⟨_, _, rfl⟩, by decide, by decide, q1739, q1741, qs56⟩
theorem lX10_192 : sm_LS RX10 192 yX10_isLetter := ⟨q1743, q1744⟩
theorem lX10_196 : sm_LS RX10 196 yX10_isDigit := ⟨q1746, q1747⟩
theorem lX10_199 : sm_LV RX10 199 10 yX10_sign := ⟨⟨_, _, rfl⟩, by decide, by decide, q1749, q1751, qs57⟩
theorem lX10_221 : sm_LV RX10 221 10 yX10_is := ⟨⟨_, _, rfl⟩, by decide, by decide, q1753, q1755, qs58⟩
theorem lX10_248 : sm_LV RX10 248 10 yX10_tellOne := ⟨⟨_, _, rfl⟩, by decide, by decide, q1757, q1759, qs59⟩
theorem lX10_264 : sm_LV RX10 264 10 yX10_roomFor := ⟨⟨_, _, rfl⟩, by decide, by decide, q1761, q1763, qs60⟩
theorem lX10_218 : sm_LV RX10 218 10 yX10_fail := ⟨⟨_, _, rfl⟩, by decide, by decide, q1765, q1767, qs61⟩
theorem lX10_224 : sm_LV RX10 224 10 yX10_goesOn := ⟨⟨_, _, rfl⟩, by decide, by decide, q1769, q1771, qs62⟩
theorem lX10_268 : sm_LV RX10 268 10 yX10_named := ⟨⟨_, _, rfl⟩, by decide, by decide, q1773, q1775, qs63⟩
theorem lX10_261 : sm_LV RX10 261 10 yX10_must := ⟨⟨_, _, rfl⟩, by decide, by decide, q1777, q1779, qs64⟩
theorem lX10_284 : sm_LV RX10 284 10 yX10_wrong := ⟨⟨_, _, rfl⟩, by decide, by decide, q1781, q1783, qs65⟩
theorem lX10_257 : sm_LV RX10 257 10 yX10_bounded := ⟨⟨_, _, rfl⟩, by decide, by decide, q1785, q1787, qs66⟩
theorem lX10_272 : sm_LV RX10 272 10 yX10_endsName := ⟨⟨_, _, rfl⟩, by decide, by decide, q1789, q1791, qs67⟩
theorem lX10_275 : sm_LV RX10 275 10 yX10_tellRound := ⟨⟨_, _, rfl⟩, by decide, by decide, q1793, q1795, qs68⟩
theorem lX10_287 : sm_LV RX10 287 10 yX10_known := ⟨⟨_, _, rfl⟩, by decide, by decide, q1797, q1799, qs69⟩
theorem lX10_278 : sm_LV RX10 278 10 yX10_toldInt := ⟨⟨_, _, rfl⟩, by decide, by decide, q1801, q1803, qs70⟩
theorem lX10_281 : sm_LV RX10 281 10 yX10_tellLaw := ⟨⟨_, _, rfl⟩, by decide, by decide, q1805, q1807, qs71⟩
theorem lX10_290 : sm_LV RX10 290 10 yX10_expression := ⟨⟨_, _, rfl⟩, by decide, by decide, q1809, q1811, qs72⟩
theorem lX10_302 : sm_LV RX10 302 10 yX10_unit := ⟨⟨_, _, rfl⟩, by decide, by decide, q1813, q1815, qs73⟩
theorem lX10_299 : sm_LV RX10 299 10 yX10_emit := ⟨⟨_, _, rfl⟩, by decide, by decide, q1817, q1819, qs74⟩
theorem lX10_305 : sm_LV RX10 305 10 yX10_comesOut := ⟨⟨_, _, rfl⟩, by decide, by decide, q1821, q1823, qs75⟩
theorem lX10_293 : sm_LV RX10 293 10 yX10_term := ⟨⟨_, _, rfl⟩, by decide, by decide, q1825, q1827, qs76⟩
theorem lL_31 : sm_LV "KnockerFacesLaw" 31 10 yX10_place := ⟨⟨_, _, rfl⟩, by decide, by decide, q1829, q1830, q1831⟩
theorem lL_36 : sm_LV "KnockerFacesLaw" 36 10 yX10_door := ⟨⟨_, _, rfl⟩, by decide, by decide, q1833, q1834, q1835⟩
theorem lX10_387 : sm_LV RX10 387 10 yX10_isDoor := ⟨⟨_, _, rfl⟩, by decide, by decide, q1837, q1839, qs77⟩
theorem lX10_313 : sm_LS RX10 313 yX10_in := ⟨q1841, q1842⟩
theorem lX10_323 : sm_LV RX10 323 10 yX10_copies := ⟨⟨_, _, rfl⟩, by decide, by decide, q1844, q1846, qs78⟩
theorem lX10_390 : sm_LV RX10 390 10 yX10_knownBy := ⟨⟨_, _, rfl⟩, by decide, by decide, q1848, q1850, qs79⟩
theorem lX10_342 : sm_LV RX10 342 10 yX10_unlikeTo := ⟨⟨_, _, rfl⟩, by decide, by decide, q1852, q1854, qs80⟩
theorem lX10_333 : sm_LV RX10 333 10 yX10_facePart := ⟨⟨_, _, rfl⟩, by decide, by decide, q1856, q1858, qs81⟩
theorem lX10_336 : sm_LS RX10 336 yX10_off := ⟨q1860, q1861⟩
theorem lX10_357 : sm_LV RX10 357 10 yX10_unlikeFirst := ⟨⟨_, _, rfl⟩, by decide, by decide, q1863, q1865, qs82⟩
theorem lX10_339 : sm_LV RX10 339 10 yX10_firstPart := ⟨⟨_, _, rfl⟩, by decide, by decide, q1867, q1869, qs83⟩
theorem lL_40 : sm_LV "KnockerFacesLaw" 40 10 yX10_caller := ⟨⟨_, _, rfl⟩, by decide, by decide, q1871, q1872, q1873⟩
theorem lX10_393 : sm_LV RX10 393 10 yX10_isCaller := ⟨⟨_, _, rfl⟩, by decide, by decide, q1875, q1877, qs84⟩
theorem lL_44 : sm_LV "KnockerFacesLaw" 44 10 yX10_round := ⟨⟨_, _, rfl⟩, by decide, by decide, q1879, q1880, q1881⟩
theorem lX10_396 : sm_LV RX10 396 10 yX10_isRound := ⟨⟨_, _, rfl⟩, by decide, by decide, q1883, q1885, qs85⟩
theorem lX10_370 : sm_LV RX10 370 10 yX10_isDue := ⟨⟨_, _, rfl⟩, by decide, by decide, q1887, q1889, qs86⟩
theorem lL_48 : sm_LV "KnockerFacesLaw" 48 10 yX10_unlike := ⟨⟨_, _, rfl⟩, by decide, by decide, q1891, q1892, q1893⟩
theorem lX10_399 : sm_LV RX10 399 10 yX10_areBoth := ⟨⟨_, _, rfl⟩, by decide, by decide, q1895, q1897, qs87⟩
theorem lL_53 : sm_LV "KnockerFacesLaw" 53 10 yX10_tells := ⟨⟨_, _, rfl⟩, by decide, by decide, q1899, q1900, q1901⟩
theorem lX10_360 : sm_LV RX10 360 10 yX10_paysOf := ⟨⟨_, _, rfl⟩, by decide, by decide, q1903, q1905, qs88⟩
theorem lX10_348 : sm_LV RX10 348 10 yX10_looks := ⟨⟨_, _, rfl⟩, by decide, by decide, q1907, q1909, qs89⟩
theorem lX10_351 : sm_LV RX10 351 10 yX10_lawTells := ⟨⟨_, _, rfl⟩, by decide, by decide, q1911, q1913, qs90⟩
theorem lX10_345 : sm_LV RX10 345 10 yX10_termOf := ⟨⟨_, _, rfl⟩, by decide, by decide, q1915, q1917, qs91⟩
theorem lX10_354 : sm_LS RX10 354 yX10_within := ⟨q1919, q1920⟩
theorem lX10_363 : sm_LV RX10 363 10 yX10_givesOf := ⟨⟨_, _, rfl⟩, by decide, by decide, q1922, q1924, qs92⟩
theorem lL_58 : sm_LV "KnockerFacesLaw" 58 10 yX10_lift := ⟨⟨_, _, rfl⟩, by decide, by decide, q1926, q1927, q1928⟩
theorem lX10_374 : sm_LV RX10 374 10 yX10_lifted := ⟨⟨_, _, rfl⟩, by decide, by decide, q1930, q1932, qs93⟩
theorem lX10_366 : sm_LS RX10 366 yX10_towardsBy := ⟨q1934, q1935⟩
theorem lX10_402 : sm_LV RX10 402 10 yX10_records := ⟨⟨_, _, rfl⟩, by decide, by decide, q1938, q1940, qs94⟩
theorem lL_63 : sm_LV "KnockerFacesLaw" 63 10 yX10_polish := ⟨⟨_, _, rfl⟩, by decide, by decide, q1942, q1943, q1944⟩
theorem lX10_405 : sm_LV RX10 405 10 yX10_polished := ⟨⟨_, _, rfl⟩, by decide, by decide, q1946, q1948, qs95⟩
theorem lL_67 : sm_LV "KnockerFacesLaw" 67 10 yX10_file := ⟨⟨_, _, rfl⟩, by decide, by decide, q1950, q1951, q1952⟩
theorem lX10_408 : sm_LS RX10 408 yX10_isPart := ⟨q1954, q1955⟩
theorem lL_72 : sm_LV "KnockerFacesLaw" 72 10 yX10_keep := ⟨⟨_, _, rfl⟩, by decide, by decide, q1957, q1958, q1959⟩
theorem lL_76 : sm_LV "KnockerFacesLaw" 76 10 yX10_days := ⟨⟨_, _, rfl⟩, by decide, by decide, q1961, q1962, q1963⟩
theorem lX10_411 : sm_LS RX10 411 yX10_isLong := ⟨q1965, q1966⟩
theorem lX10_414 : sm_LV RX10 414 10 yX10_goes := ⟨⟨_, _, rfl⟩, by decide, by decide, q1968, q1970, qs96⟩
theorem lX10_384 : sm_LV RX10 384 10 yX10_dayGoes := ⟨⟨_, _, rfl⟩, by decide, by decide, q1972, q1974, qs97⟩
theorem lX10_377 : sm_LV RX10 377 10 yX10_isWind := ⟨⟨_, _, rfl⟩, by decide, by decide, q1976, q1978, qs98⟩
theorem lX10_330 : sm_LV RX10 330 10 yX10_lotOf := ⟨⟨_, _, rfl⟩, by decide, by decide, q1980, q1982, qs99⟩
theorem lX10_327 : sm_LS RX10 327 yX10_mixed := ⟨q1984, q1985⟩
theorem lX10_381 : sm_LV RX10 381 10 yX10_wearsOf := ⟨⟨_, _, rfl⟩, by decide, by decide, q1988, q1990, qs100⟩
theorem lL_81 : sm_LV "KnockerFacesLaw" 81 10 yX10_undo := ⟨⟨_, _, rfl⟩, by decide, by decide, q1992, q1993, q1994⟩
theorem lL_85 : sm_LV "KnockerFacesLaw" 85 10 yX10_lifts := ⟨⟨_, _, rfl⟩, by decide, by decide, q1996, q1997, q1998⟩
theorem lX10_417 : sm_LS RX10 417 yX10_power := ⟨q2000, q2001⟩
theorem lX10_423 : sm_LV RX10 423 10 yX10_doesWay := ⟨⟨_, _, rfl⟩, by decide, by decide, q2003, q2005, qs101⟩
theorem lX10_420 : sm_LV RX10 420 10 yX10_digitOf := ⟨⟨_, _, rfl⟩, by decide, by decide, q2007, q2009, qs102⟩
theorem lL_89 : sm_LV "KnockerFacesLaw" 89 10 yX10_towards := ⟨⟨_, _, rfl⟩, by decide, by decide, q2011, q2012, q2013⟩
theorem lL_93 : sm_LV "KnockerFacesLaw" 93 10 yX10_without := ⟨⟨_, _, rfl⟩, by decide, by decide, q2015, q2016, q2017⟩
theorem lX10_427 : sm_LS RX10 427 yX10_isSome := ⟨q2019, q2020⟩
theorem lX10_430 : sm_LV RX10 430 10 yX10_copiesStill := ⟨⟨_, _, rfl⟩, by decide, by decide, q2022, q2024, qs103⟩
theorem lL_97 : sm_LV "KnockerFacesLaw" 97 10 yX10_twins := ⟨⟨_, _, rfl⟩, by decide, by decide, q2026, q2027, q2028⟩
theorem lX10_433 : sm_LV RX10 433 10 yX10_doorsApart := ⟨⟨_, _, rfl⟩, by decide, by decide, q2030, q2032, qs104⟩
theorem lL_121 : sm_LV "KnockerFacesLaw" 121 10 yX10_confused := ⟨⟨_, _, rfl⟩, by decide, by decide, q2034, q2035, q2036⟩
theorem lX10_436 : sm_LV RX10 436 10 yX10_callersApart := ⟨⟨_, _, rfl⟩, by decide, by decide, q2038, q2040, qs105⟩
theorem lL_101 : sm_LV "KnockerFacesLaw" 101 10 yX10_paired := ⟨⟨_, _, rfl⟩, by decide, by decide, q2042, q2043, q2044⟩
theorem lX10_442 : sm_LV RX10 442 10 yX10_fillsPaired := ⟨⟨_, _, rfl⟩, by decide, by decide, q2046, q2048, qs106⟩
theorem lX10_439 : sm_LV RX10 439 10 yX10_with := ⟨⟨_, _, rfl⟩, by decide, by decide, q2050, q2052, qs107⟩
theorem lX10_445 : sm_LV RX10 445 10 yX10_lowestFor := ⟨⟨_, _, rfl⟩, by decide, by decide, q2054, q2056, qs108⟩
theorem lL_105 : sm_LV "KnockerFacesLaw" 105 10 yX10_changes := ⟨⟨_, _, rfl⟩, by decide, by decide, q2058, q2059, q2060⟩
theorem lL_109 : sm_LV "KnockerFacesLaw" 109 10 yX10_rubs := ⟨⟨_, _, rfl⟩, by decide, by decide, q2062, q2063, q2064⟩
theorem lL_113 : sm_LV "KnockerFacesLaw" 113 10 yX10_when := ⟨⟨_, _, rfl⟩, by decide, by decide, q2066, q2067, q2068⟩
theorem lL_117 : sm_LV "KnockerFacesLaw" 117 10 yX10_alone := ⟨⟨_, _, rfl⟩, by decide, by decide, q2070, q2071, q2072⟩
theorem lL_125 : sm_LV "KnockerFacesLaw" 125 10 yX10_nearest := ⟨⟨_, _, rfl⟩, by decide, by decide, q2074, q2075, q2076⟩
theorem lL_129 : sm_LV "KnockerFacesLaw" 129 10 yX10_same := ⟨⟨_, _, rfl⟩, by decide, by decide, q2078, q2079, q2080⟩
theorem lL_133 : sm_LV "KnockerFacesLaw" 133 10 yX10_shift := ⟨⟨_, _, rfl⟩, by decide, by decide, q2082, q2083, q2084⟩
theorem lL_137 : sm_LV "KnockerFacesLaw" 137 10 yX10_calls := ⟨⟨_, _, rfl⟩, by decide, by decide, q2086, q2087, q2088⟩
theorem lX10_448 : sm_LV RX10 448 10 yX10_timesDue := ⟨⟨_, _, rfl⟩, by decide, by decide, q2090, q2092, qs109⟩
theorem lL_153 : sm_LV "KnockerFacesLaw" 153 10 yX10_busy := ⟨⟨_, _, rfl⟩, by decide, by decide, q2094, q2095, q2096⟩
theorem lL_141 : sm_LV "KnockerFacesLaw" 141 10 yX10_richest := ⟨⟨_, _, rfl⟩, by decide, by decide, q2098, q2099, q2100⟩
theorem lL_145 : sm_LV "KnockerFacesLaw" 145 10 yX10_flat := ⟨⟨_, _, rfl⟩, by decide, by decide, q2102, q2103, q2104⟩
theorem lL_149 : sm_LV "KnockerFacesLaw" 149 10 yX10_then := ⟨⟨_, _, rfl⟩, by decide, by decide, q2106, q2107, q2108⟩
theorem lL_158 : sm_LV "KnockerFacesLaw" 158 10 yX10_year := ⟨⟨_, _, rfl⟩, by decide, by decide, q2110, q2111, q2112⟩
theorem lL_162 : sm_LV "KnockerFacesLaw" 162 10 yX10_tell := ⟨⟨_, _, rfl⟩, by decide, by decide, q2114, q2115, q2116⟩
theorem lL_166 : sm_LV "KnockerFacesLaw" 166 10 yX10_forget := ⟨⟨_, _, rfl⟩, by decide, by decide, q2118, q2119, q2120⟩
theorem lL_170 : sm_LV "KnockerFacesLaw" 170 10 yX10_who := ⟨⟨_, _, rfl⟩, by decide, by decide, q2122, q2123, q2124⟩
theorem lX10_454 : sm_LV RX10 454 10 yX10_whoBits := ⟨⟨_, _, rfl⟩, by decide, by decide, q2126, q2128, qs110⟩
theorem lX10_451 : sm_LV RX10 451 10 yX10_wayOf := ⟨⟨_, _, rfl⟩, by decide, by decide, q2130, q2132, qs111⟩
theorem lX10_457 : sm_LS RX10 457 yX10_bits := ⟨q2134, q2135⟩
theorem lL_174 : sm_LV "KnockerFacesLaw" 174 10 yX10_ask := ⟨⟨_, _, rfl⟩, by decide, by decide, q2137, q2138, q2139⟩
theorem lX10_460 : sm_LV RX10 460 10 yX10_worstOf := ⟨⟨_, _, rfl⟩, by decide, by decide, q2141, q2143, qs112⟩
theorem lL_178 : sm_LV "KnockerFacesLaw" 178 10 yX10_hold := ⟨⟨_, _, rfl⟩, by decide, by decide, q2145, q2146, q2147⟩
theorem lL_182 : sm_LV "KnockerFacesLaw" 182 10 yX10_restore := ⟨⟨_, _, rfl⟩, by decide, by decide, q2149, q2150, q2151⟩
theorem lL_186 : sm_LV "KnockerFacesLaw" 186 10 yX10_count := ⟨⟨_, _, rfl⟩, by decide, by decide, q2153, q2154, q2155⟩
theorem lX10_463 : sm_LV RX10 463 10 yX10_sumNow := ⟨⟨_, _, rfl⟩, by decide, by decide, q2157, q2159, qs113⟩
theorem lJ8_549_20 : sm_LA RJ8 549 20 yJ11_length yJ12_length 0 := ⟨RJ12, RJ11, _, _, rfl, by decide, by decide, q942, q944, q945, q946, q145, Or.inr (Or.inr ⟨q943, _, _, _, q949⟩), by decide +kernel, by decide +kernel, by decide +kernel⟩
theorem lJ11_100_20 : sm_LP RJ11 100 20 yJ11_ensureCapacityInternal := ⟨RJ12, yJ11_isLatin1, _, _, rfl, by decide, by decide, q856, q2163, ⟨rfl, q894⟩, q857, q858⟩
theorem lJ12_50_20 : sm_LU RJ12 50 20 yJ11_append := ⟨RJ12, _, _, rfl, by decide, by decide, q853, q2162, q848, q854, by decide⟩
theorem lJ12_343_20 : sm_LU RJ12 343 20 yJ11_length := ⟨RJ12, _, _, rfl, by decide, by decide, q948, q944, q848, q943, by decide⟩
theorem fJ0_198_2 : sm_FL RJ0 198 2 4 2 := ⟨_, _, _, "java/lang/Throwable", rfl, in_X1, by decide, by decide +kernel, q182, Or.inl rfl, by decide, by decide⟩
theorem pJ0_198_2 : sm_FP RJ0 198 2 4 2 (tyX1 4) false := ⟨_, _, _, "java/lang/Throwable", tyX1, rfl, in_X1, by decide, by decide +kernel, q182, Or.inl rfl, by decide, by decide, tyX1_ok, nmX1, rfl, rfl, fun h => nomatch h⟩
theorem fX1_9_2 : sm_FL RX1 9 2 6 0 := ⟨_, _, _, "KnockerFaces$Fault", rfl, in_X1, by decide, by decide +kernel, q213, Or.inl rfl, by decide, by decide⟩
theorem pX1_9_2 : sm_FP RX1 9 2 6 0 (tyX1 6) false := ⟨_, _, _, "KnockerFaces$Fault", tyX1, rfl, in_X1, by decide, by decide +kernel, q213, Or.inl rfl, by decide, by decide, tyX1_ok, nmX1, rfl, rfl, fun h => nomatch h⟩
theorem fX0_142_2 : sm_FL RX0 142 2 6 0 := ⟨_, _, _, "KnockerFaces$Fault", rfl, in_X1, by decide, by decide +kernel, q214, Or.inl rfl, by decide, by decide⟩
theorem pX0_142_2 : sm_FP RX0 142 2 6 0 (tyX1 6) false := ⟨_, _, _, "KnockerFaces$Fault", tyX1, rfl, in_X1, by decide, by decide +kernel, q214, Or.inl rfl, by decide, by decide, tyX1_ok, nmX1, rfl, rfl, fun h => nomatch h⟩
theorem fX1_15_2 : sm_FL RX1 15 2 7 0 := ⟨_, _, _, "KnockerFaces$Fault", rfl, in_X1, by decide, by decide +kernel, q215, Or.inl rfl, by decide, by decide⟩
theorem pX1_15_2 : sm_FP RX1 15 2 7 0 (tyX1 7) false := ⟨_, _, _, "KnockerFaces$Fault", tyX1, rfl, in_X1, by decide, by decide +kernel, q215, Or.inl rfl, by decide, by decide, tyX1_ok, nmX1, rfl, rfl, fun h => nomatch h⟩
theorem fX0_145_2 : sm_FL RX0 145 2 7 0 := ⟨_, _, _, "KnockerFaces$Fault", rfl, in_X1, by decide, by decide +kernel, q216, Or.inl rfl, by decide, by decide⟩
theorem pX0_145_2 : sm_FP RX0 145 2 7 0 (tyX1 7) false := ⟨_, _, _, "KnockerFaces$Fault", tyX1, rfl, in_X1, by decide, by decide +kernel, q216, Or.inl rfl, by decide, by decide, tyX1_ok, nmX1, rfl, rfl, fun h => nomatch h⟩
theorem fJ0_31_2 : sm_FL RJ0 31 2 3 2 := ⟨_, _, _, "java/lang/Throwable", rfl, in_X1, by decide, by decide +kernel, q218, Or.inl rfl, by decide, by decide⟩
theorem pJ0_31_2 : sm_FP RJ0 31 2 3 2 (tyX1 3) false := ⟨_, _, _, "java/lang/Throwable", tyX1, rfl, in_X1, by decide, by decide +kernel, q218, Or.inl rfl, by decide, by decide, tyX1_ok, nmX1, rfl, rfl, fun h => nomatch h⟩
theorem fJ0_7_2 : sm_FL RJ0 7 2 0 2 := ⟨_, _, _, "java/lang/Throwable", rfl, in_X1, by decide, by decide +kernel, q219, Or.inl rfl, by decide, by decide⟩
theorem pJ0_7_2 : sm_FP RJ0 7 2 0 2 (tyX1 0) false := ⟨_, _, _, "java/lang/Throwable", tyX1, rfl, in_X1, by decide, by decide +kernel, q219, Or.inl rfl, by decide, by decide, tyX1_ok, nmX1, rfl, rfl, fun h => nomatch h⟩
theorem fJ0_17_2 : sm_FL RJ0 17 2 1 2 := ⟨_, _, _, "java/lang/Throwable", rfl, in_X1, by decide, by decide +kernel, q220, Or.inl rfl, by decide, by decide⟩
theorem pJ0_17_2 : sm_FP RJ0 17 2 1 2 (tyX1 1) false := ⟨_, _, _, "java/lang/Throwable", tyX1, rfl, in_X1, by decide, by decide +kernel, q220, Or.inl rfl, by decide, by decide, tyX1_ok, nmX1, rfl, rfl, fun h => nomatch h⟩
theorem fJ0_24_2 : sm_FL RJ0 24 2 2 2 := ⟨_, _, _, "java/lang/Throwable", rfl, in_X1, by decide, by decide +kernel, q221, Or.inl rfl, by decide, by decide⟩
theorem pJ0_24_2 : sm_FP RJ0 24 2 2 2 (tyX1 2) false := ⟨_, _, _, "java/lang/Throwable", tyX1, rfl, in_X1, by decide, by decide +kernel, q221, Or.inl rfl, by decide, by decide, tyX1_ok, nmX1, rfl, rfl, fun h => nomatch h⟩
theorem fX2_53_3 : sm_FL RX2 53 3 0 2 := ⟨_, _, _, "KnockerFaces$Tokens", rfl, in_X2, by decide, by decide +kernel, q264, Or.inl rfl, by decide, by decide⟩
theorem pX2_53_3 : sm_FP RX2 53 3 0 2 (tyX2 0) true := ⟨_, _, _, "KnockerFaces$Tokens", tyX2, rfl, in_X2, by decide, by decide +kernel, q264, Or.inl rfl, by decide, by decide, tyX2_ok, nmX2, rfl, rfl, fun _ => rfl⟩
theorem fX2_59_3 : sm_FL RX2 59 3 1 2 := ⟨_, _, _, "KnockerFaces$Tokens", rfl, in_X2, by decide, by decide +kernel, q265, Or.inl rfl, by decide, by decide⟩
theorem pX2_59_3 : sm_FP RX2 59 3 1 2 (tyX2 1) true := ⟨_, _, _, "KnockerFaces$Tokens", tyX2, rfl, in_X2, by decide, by decide +kernel, q265, Or.inl rfl, by decide, by decide, tyX2_ok, nmX2, rfl, rfl, fun _ => rfl⟩
theorem fX0_128_3 : sm_FL RX0 128 3 1 2 := ⟨_, _, _, "KnockerFaces$Tokens", rfl, in_X2, by decide, by decide +kernel, q266, Or.inl rfl, by decide, by decide⟩
-- tape final of another
theorem fX2_76_3 : sm_FL RX2 76 3 2 0 := ⟨_, _, _, "KnockerFaces$Tokens", rfl, in_X2, by decide, by decide +kernel, q267, Or.inl rfl, by decide, by decide⟩
theorem pX2_76_3 : sm_FP RX2 76 3 2 0 (tyX2 2) false := ⟨_, _, _, "KnockerFaces$Tokens", tyX2, rfl, in_X2, by decide, by decide +kernel, q267, Or.inl rfl, by decide, by decide, tyX2_ok, nmX2, rfl, rfl, fun h => nomatch h⟩
theorem fX0_121_3 : sm_FL RX0 121 3 2 0 := ⟨_, _, _, "KnockerFaces$Tokens", rfl, in_X2, by decide, by decide +kernel, q268, Or.inl rfl, by decide, by decide⟩
theorem pX0_121_3 : sm_FP RX0 121 3 2 0 (tyX2 2) false := ⟨_, _, _, "KnockerFaces$Tokens", tyX2, rfl, in_X2, by decide, by decide +kernel, q268, Or.inl rfl, by decide, by decide, tyX2_ok, nmX2, rfl, rfl, fun h => nomatch h⟩
theorem fX2_63_3 : sm_FL RX2 63 3 3 2 := ⟨_, _, _, "KnockerFaces$Tokens", rfl, in_X2, by decide, by decide +kernel, q269, Or.inl rfl, by decide, by decide⟩
theorem pX2_63_3 : sm_FP RX2 63 3 3 2 (tyX2 3) true := ⟨_, _, _, "KnockerFaces$Tokens", tyX2, rfl, in_X2, by decide, by decide +kernel, q269, Or.inl rfl, by decide, by decide, tyX2_ok, nmX2, rfl, rfl, fun _ => rfl⟩
theorem fX3_44_3 : sm_FL RX3 44 3 3 2 := ⟨_, _, _, "KnockerFaces$Tokens", rfl, in_X2, by decide, by decide +kernel, q270, Or.inl rfl, by decide, by decide⟩
-- sort final of another
theorem fX2_66_3 : sm_FL RX2 66 3 4 2 := ⟨_, _, _, "KnockerFaces$Tokens", rfl, in_X2, by decide, by decide +kernel, q271, Or.inl rfl, by decide, by decide⟩
theorem pX2_66_3 : sm_FP RX2 66 3 4 2 (tyX2 4) true := ⟨_, _, _, "KnockerFaces$Tokens", tyX2, rfl, in_X2, by decide, by decide +kernel, q271, Or.inl rfl, by decide, by decide, tyX2_ok, nmX2, rfl, rfl, fun _ => rfl⟩
theorem fX3_19_3 : sm_FL RX3 19 3 4 2 := ⟨_, _, _, "KnockerFaces$Tokens", rfl, in_X2, by decide, by decide +kernel, q272, Or.inl rfl, by decide, by decide⟩
-- from final of another
theorem fX2_70_3 : sm_FL RX2 70 3 5 2 := ⟨_, _, _, "KnockerFaces$Tokens", rfl, in_X2, by decide, by decide +kernel, q273, Or.inl rfl, by decide, by decide⟩
theorem pX2_70_3 : sm_FP RX2 70 3 5 2 (tyX2 5) true := ⟨_, _, _, "KnockerFaces$Tokens", tyX2, rfl, in_X2, by decide, by decide +kernel, q273, Or.inl rfl, by decide, by decide, tyX2_ok, nmX2, rfl, rfl, fun _ => rfl⟩
theorem fX2_73_3 : sm_FL RX2 73 3 6 2 := ⟨_, _, _, "KnockerFaces$Tokens", rfl, in_X2, by decide, by decide +kernel, q274, Or.inl rfl, by decide, by decide⟩
theorem pX2_73_3 : sm_FP RX2 73 3 6 2 (tyX2 6) true := ⟨_, _, _, "KnockerFaces$Tokens", tyX2, rfl, in_X2, by decide, by decide +kernel, q274, Or.inl rfl, by decide, by decide, tyX2_ok, nmX2, rfl, rfl, fun _ => rfl⟩
theorem fX3_52_3 : sm_FL RX3 52 3 6 2 := ⟨_, _, _, "KnockerFaces$Tokens", rfl, in_X2, by decide, by decide +kernel, q275, Or.inl rfl, by decide, by decide⟩
-- what final of another
theorem fX2_84_3 : sm_FL RX2 84 3 7 0 := ⟨_, _, _, "KnockerFaces$Tokens", rfl, in_X2, by decide, by decide +kernel, q276, Or.inl rfl, by decide, by decide⟩
theorem pX2_84_3 : sm_FP RX2 84 3 7 0 (tyX2 7) false := ⟨_, _, _, "KnockerFaces$Tokens", tyX2, rfl, in_X2, by decide, by decide +kernel, q276, Or.inl rfl, by decide, by decide, tyX2_ok, nmX2, rfl, rfl, fun h => nomatch h⟩
theorem fX3_9_4 : sm_FL RX3 9 4 0 2 := ⟨_, _, _, "KnockerFaces$Parser", rfl, in_X3, by decide, by decide +kernel, q301, Or.inl rfl, by decide, by decide⟩
theorem pX3_9_4 : sm_FP RX3 9 4 0 2 (tyX3 0) true := ⟨_, _, _, "KnockerFaces$Parser", tyX3, rfl, in_X3, by decide, by decide +kernel, q301, Or.inl rfl, by decide, by decide, tyX3_ok, nmX3, rfl, rfl, fun _ => rfl⟩
theorem fX3_15_4 : sm_FL RX3 15 4 1 2 := ⟨_, _, _, "KnockerFaces$Parser", rfl, in_X3, by decide, by decide +kernel, q302, Or.inl rfl, by decide, by decide⟩
theorem pX3_15_4 : sm_FP RX3 15 4 1 2 (tyX3 1) true := ⟨_, _, _, "KnockerFaces$Parser", tyX3, rfl, in_X3, by decide, by decide +kernel, q302, Or.inl rfl, by decide, by decide, tyX3_ok, nmX3, rfl, rfl, fun _ => rfl⟩
theorem fX3_83_4 : sm_FL RX3 83 4 2 2 := ⟨_, _, _, "KnockerFaces$Parser", rfl, in_X3, by decide, by decide +kernel, q303, Or.inl rfl, by decide, by decide⟩
theorem pX3_83_4 : sm_FP RX3 83 4 2 2 (tyX3 2) false := ⟨_, _, _, "KnockerFaces$Parser", tyX3, rfl, in_X3, by decide, by decide +kernel, q303, Or.inl rfl, by decide, by decide, tyX3_ok, nmX3, rfl, rfl, fun h => nomatch h⟩
theorem fX3_31_4 : sm_FL RX3 31 4 3 0 := ⟨_, _, _, "KnockerFaces$Parser", rfl, in_X3, by decide, by decide +kernel, q304, Or.inl rfl, by decide, by decide⟩
theorem pX3_31_4 : sm_FP RX3 31 4 3 0 (tyX3 3) false := ⟨_, _, _, "KnockerFaces$Parser", tyX3, rfl, in_X3, by decide, by decide +kernel, q304, Or.inl rfl, by decide, by decide, tyX3_ok, nmX3, rfl, rfl, fun h => nomatch h⟩
theorem fX3_99_4 : sm_FL RX3 99 4 4 0 := ⟨_, _, _, "KnockerFaces$Parser", rfl, in_X3, by decide, by decide +kernel, q305, Or.inl rfl, by decide, by decide⟩
theorem pX3_99_4 : sm_FP RX3 99 4 4 0 (tyX3 4) false := ⟨_, _, _, "KnockerFaces$Parser", tyX3, rfl, in_X3, by decide, by decide +kernel, q305, Or.inl rfl, by decide, by decide, tyX3_ok, nmX3, rfl, rfl, fun h => nomatch h⟩
theorem fX3_38_4 : sm_FL RX3 38 4 5 0 := ⟨_, _, _, "KnockerFaces$Parser", rfl, in_X3, by decide, by decide +kernel, q306, Or.inl rfl, by decide, by decide⟩
theorem pX3_38_4 : sm_FP RX3 38 4 5 0 (tyX3 5) false := ⟨_, _, _, "KnockerFaces$Parser", tyX3, rfl, in_X3, by decide, by decide +kernel, q306, Or.inl rfl, by decide, by decide, tyX3_ok, nmX3, rfl, rfl, fun h => nomatch h⟩
theorem fX3_41_4 : sm_FL RX3 41 4 6 0 := ⟨_, _, _, "KnockerFaces$Parser", rfl, in_X3, by decide, by decide +kernel, q307, Or.inl rfl, by decide, by decide⟩
theorem pX3_41_4 : sm_FP RX3 41 4 6 0 (tyX3 6) false := ⟨_, _, _, "KnockerFaces$Parser", tyX3, rfl, in_X3, by decide, by decide +kernel, q307, Or.inl rfl, by decide, by decide, tyX3_ok, nmX3, rfl, rfl, fun h => nomatch h⟩
theorem fJ5_9_18 : sm_FL RJ5 9 18 1 2 := ⟨_, _, _, "java/util/ArrayList", rfl, in_J5, by decide, by decide +kernel, q343, Or.inl rfl, by decide, by decide⟩
theorem pJ5_9_18 : sm_FP RJ5 9 18 1 2 (tyJ5 1) false := ⟨_, _, _, "java/util/ArrayList", tyJ5, rfl, in_J5, by decide, by decide +kernel, q343, Or.inl rfl, by decide, by decide, tyJ5_ok, nmJ5, rfl, rfl, fun h => nomatch h⟩
theorem fJ5_48_18 : sm_FL RJ5 48 18 2 0 := ⟨_, _, _, "java/util/ArrayList", rfl, in_J5, by decide, by decide +kernel, q344, Or.inl rfl, by decide, by decide⟩
theorem pJ5_48_18 : sm_FP RJ5 48 18 2 0 (tyJ5 2) false := ⟨_, _, _, "java/util/ArrayList", tyJ5, rfl, in_J5, by decide, by decide +kernel, q344, Or.inl rfl, by decide, by decide, tyJ5_ok, nmJ5, rfl, rfl, fun h => nomatch h⟩
theorem fJ4_7_18 : sm_FL RJ4 7 18 0 0 := ⟨_, _, _, "java/util/AbstractList", rfl, in_J5, by decide, by decide +kernel, q345, Or.inl rfl, by decide, by decide⟩
theorem pJ4_7_18 : sm_FP RJ4 7 18 0 0 (tyJ5 0) false := ⟨_, _, _, "java/util/AbstractList", tyJ5, rfl, in_J5, by decide, by decide +kernel, q345, Or.inl rfl, by decide, by decide, tyJ5_ok, nmJ5, rfl, rfl, fun h => nomatch h⟩
theorem fJ5_63_18 : sm_FL RJ5 63 18 0 0 := ⟨_, _, _, "java/util/ArrayList", rfl, in_J5, by decide, by decide +kernel, q346, Or.inr q347, by decide, by decide⟩
theorem pJ5_63_18 : sm_FP RJ5 63 18 0 0 (tyJ5 0) false := ⟨_, _, _, "java/util/ArrayList", tyJ5, rfl, in_J5, by decide, by decide +kernel, q346, Or.inr q347, by decide, by decide, tyJ5_ok, nmJ5, rfl, rfl, fun h => nomatch h⟩
theorem fX4_12_5 : sm_FL RX4 12 5 0 2 := ⟨_, _, _, "KnockerFaces$Text", rfl, in_X4, by decide, by decide +kernel, q357, Or.inl rfl, by decide, by decide⟩
theorem pX4_12_5 : sm_FP RX4 12 5 0 2 (tyX4 0) true := ⟨_, _, _, "KnockerFaces$Text", tyX4, rfl, in_X4, by decide, by decide +kernel, q357, Or.inl rfl, by decide, by decide, tyX4_ok, nmX4, rfl, rfl, fun _ => rfl⟩
theorem fX8_15_5 : sm_FL RX8 15 5 0 2 := ⟨_, _, _, "KnockerFaces$Text", rfl, in_X4, by decide, by decide +kernel, q358, Or.inl rfl, by decide, by decide⟩
-- doors final of another
theorem fX5_42_5 : sm_FL RX5 42 5 0 2 := ⟨_, _, _, "KnockerFaces$Text", rfl, in_X4, by decide, by decide +kernel, q359, Or.inl rfl, by decide, by decide⟩
-- doors final of another
theorem fX0_146_5 : sm_FL RX0 146 5 0 2 := ⟨_, _, _, "KnockerFaces$Text", rfl, in_X4, by decide, by decide +kernel, q360, Or.inl rfl, by decide, by decide⟩
-- doors final of another
theorem fX3_117_5 : sm_FL RX3 117 5 0 2 := ⟨_, _, _, "KnockerFaces$Text", rfl, in_X4, by decide, by decide +kernel, q361, Or.inl rfl, by decide, by decide⟩
-- doors final of another
theorem fX4_18_5 : sm_FL RX4 18 5 1 2 := ⟨_, _, _, "KnockerFaces$Text", rfl, in_X4, by decide, by decide +kernel, q362, Or.inl rfl, by decide, by decide⟩
theorem pX4_18_5 : sm_FP RX4 18 5 1 2 (tyX4 1) true := ⟨_, _, _, "KnockerFaces$Text", tyX4, rfl, in_X4, by decide, by decide +kernel, q362, Or.inl rfl, by decide, by decide, tyX4_ok, nmX4, rfl, rfl, fun _ => rfl⟩
theorem fX5_120_5 : sm_FL RX5 120 5 1 2 := ⟨_, _, _, "KnockerFaces$Text", rfl, in_X4, by decide, by decide +kernel, q363, Or.inl rfl, by decide, by decide⟩
-- callers final of another
theorem fX0_156_5 : sm_FL RX0 156 5 1 2 := ⟨_, _, _, "KnockerFaces$Text", rfl, in_X4, by decide, by decide +kernel, q364, Or.inl rfl, by decide, by decide⟩
-- callers final of another
theorem fX3_146_5 : sm_FL RX3 146 5 1 2 := ⟨_, _, _, "KnockerFaces$Text", rfl, in_X4, by decide, by decide +kernel, q365, Or.inl rfl, by decide, by decide⟩
-- callers final of another
theorem fX4_21_5 : sm_FL RX4 21 5 2 2 := ⟨_, _, _, "KnockerFaces$Text", rfl, in_X4, by decide, by decide +kernel, q366, Or.inl rfl, by decide, by decide⟩
theorem pX4_21_5 : sm_FP RX4 21 5 2 2 (tyX4 2) true := ⟨_, _, _, "KnockerFaces$Text", tyX4, rfl, in_X4, by decide, by decide +kernel, q366, Or.inl rfl, by decide, by decide, tyX4_ok, nmX4, rfl, rfl, fun _ => rfl⟩
theorem fX5_62_5 : sm_FL RX5 62 5 2 2 := ⟨_, _, _, "KnockerFaces$Text", rfl, in_X4, by decide, by decide +kernel, q367, Or.inl rfl, by decide, by decide⟩
-- rounds final of another
theorem fX0_167_5 : sm_FL RX0 167 5 2 2 := ⟨_, _, _, "KnockerFaces$Text", rfl, in_X4, by decide, by decide +kernel, q368, Or.inl rfl, by decide, by decide⟩
-- rounds final of another
theorem fX3_152_5 : sm_FL RX3 152 5 2 2 := ⟨_, _, _, "KnockerFaces$Text", rfl, in_X4, by decide, by decide +kernel, q369, Or.inl rfl, by decide, by decide⟩
-- rounds final of another
theorem fX4_26_5 : sm_FL RX4 26 5 3 2 := ⟨_, _, _, "KnockerFaces$Text", rfl, in_X4, by decide, by decide +kernel, q370, Or.inl rfl, by decide, by decide⟩
theorem pX4_26_5 : sm_FP RX4 26 5 3 2 (tyX4 3) true := ⟨_, _, _, "KnockerFaces$Text", tyX4, rfl, in_X4, by decide, by decide +kernel, q370, Or.inl rfl, by decide, by decide, tyX4_ok, nmX4, rfl, rfl, fun _ => rfl⟩
theorem fX5_102_5 : sm_FL RX5 102 5 3 2 := ⟨_, _, _, "KnockerFaces$Text", rfl, in_X4, by decide, by decide +kernel, q371, Or.inl rfl, by decide, by decide⟩
-- laws final of another
theorem fX3_109_5 : sm_FL RX3 109 5 3 2 := ⟨_, _, _, "KnockerFaces$Text", rfl, in_X4, by decide, by decide +kernel, q372, Or.inl rfl, by decide, by decide⟩
-- laws final of another
theorem fX5_150_5 : sm_FL RX5 150 5 4 0 := ⟨_, _, _, "KnockerFaces$Text", rfl, in_X4, by decide, by decide +kernel, q373, Or.inl rfl, by decide, by decide⟩
theorem pX5_150_5 : sm_FP RX5 150 5 4 0 (tyX4 4) false := ⟨_, _, _, "KnockerFaces$Text", tyX4, rfl, in_X4, by decide, by decide +kernel, q373, Or.inl rfl, by decide, by decide, tyX4_ok, nmX4, rfl, rfl, fun h => nomatch h⟩
theorem fX3_176_5 : sm_FL RX3 176 5 4 0 := ⟨_, _, _, "KnockerFaces$Text", rfl, in_X4, by decide, by decide +kernel, q374, Or.inl rfl, by decide, by decide⟩
theorem pX3_176_5 : sm_FP RX3 176 5 4 0 (tyX4 4) false := ⟨_, _, _, "KnockerFaces$Text", tyX4, rfl, in_X4, by decide, by decide +kernel, q374, Or.inl rfl, by decide, by decide, tyX4_ok, nmX4, rfl, rfl, fun h => nomatch h⟩
theorem fX4_30_5 : sm_FL RX4 30 5 5 0 := ⟨_, _, _, "KnockerFaces$Text", rfl, in_X4, by decide, by decide +kernel, q375, Or.inl rfl, by decide, by decide⟩
theorem pX4_30_5 : sm_FP RX4 30 5 5 0 (tyX4 5) false := ⟨_, _, _, "KnockerFaces$Text", tyX4, rfl, in_X4, by decide, by decide +kernel, q375, Or.inl rfl, by decide, by decide, tyX4_ok, nmX4, rfl, rfl, fun h => nomatch h⟩
theorem fX5_186_5 : sm_FL RX5 186 5 5 0 := ⟨_, _, _, "KnockerFaces$Text", rfl, in_X4, by decide, by decide +kernel, q376, Or.inl rfl, by decide, by decide⟩
theorem pX5_186_5 : sm_FP RX5 186 5 5 0 (tyX4 5) false := ⟨_, _, _, "KnockerFaces$Text", tyX4, rfl, in_X4, by decide, by decide +kernel, q376, Or.inl rfl, by decide, by decide, tyX4_ok, nmX4, rfl, rfl, fun h => nomatch h⟩
theorem fX3_179_5 : sm_FL RX3 179 5 5 0 := ⟨_, _, _, "KnockerFaces$Text", rfl, in_X4, by decide, by decide +kernel, q377, Or.inl rfl, by decide, by decide⟩
theorem pX3_179_5 : sm_FP RX3 179 5 5 0 (tyX4 5) false := ⟨_, _, _, "KnockerFaces$Text", tyX4, rfl, in_X4, by decide, by decide +kernel, q377, Or.inl rfl, by decide, by decide, tyX4_ok, nmX4, rfl, rfl, fun h => nomatch h⟩
theorem fX5_75_5 : sm_FL RX5 75 5 6 0 := ⟨_, _, _, "KnockerFaces$Text", rfl, in_X4, by decide, by decide +kernel, q378, Or.inl rfl, by decide, by decide⟩
theorem pX5_75_5 : sm_FP RX5 75 5 6 0 (tyX4 6) false := ⟨_, _, _, "KnockerFaces$Text", tyX4, rfl, in_X4, by decide, by decide +kernel, q378, Or.inl rfl, by decide, by decide, tyX4_ok, nmX4, rfl, rfl, fun h => nomatch h⟩
theorem fX3_182_5 : sm_FL RX3 182 5 6 0 := ⟨_, _, _, "KnockerFaces$Text", rfl, in_X4, by decide, by decide +kernel, q379, Or.inl rfl, by decide, by decide⟩
theorem pX3_182_5 : sm_FP RX3 182 5 6 0 (tyX4 6) false := ⟨_, _, _, "KnockerFaces$Text", tyX4, rfl, in_X4, by decide, by decide +kernel, q379, Or.inl rfl, by decide, by decide, tyX4_ok, nmX4, rfl, rfl, fun h => nomatch h⟩
theorem fX0_308_5 : sm_FL RX0 308 5 6 0 := ⟨_, _, _, "KnockerFaces$Text", rfl, in_X4, by decide, by decide +kernel, q380, Or.inl rfl, by decide, by decide⟩
theorem pX0_308_5 : sm_FP RX0 308 5 6 0 (tyX4 6) false := ⟨_, _, _, "KnockerFaces$Text", tyX4, rfl, in_X4, by decide, by decide +kernel, q380, Or.inl rfl, by decide, by decide, tyX4_ok, nmX4, rfl, rfl, fun h => nomatch h⟩
theorem fX6_7_7 : sm_FL RX6 7 7 0 2 := ⟨_, _, _, "KnockerFaces$Asked", rfl, in_X6, by decide, by decide +kernel, q410, Or.inl rfl, by decide, by decide⟩
theorem pX6_7_7 : sm_FP RX6 7 7 0 2 (tyX6 0) true := ⟨_, _, _, "KnockerFaces$Asked", tyX6, rfl, in_X6, by decide, by decide +kernel, q410, Or.inl rfl, by decide, by decide, tyX6_ok, nmX6, rfl, rfl, fun _ => rfl⟩
theorem fX14_13_7 : sm_FL RX14 13 7 0 2 := ⟨_, _, _, "KnockerFaces$Asked", rfl, in_X6, by decide, by decide +kernel, q411, Or.inl rfl, by decide, by decide⟩
-- v final of another
theorem fX5_89_7 : sm_FL RX5 89 7 0 2 := ⟨_, _, _, "KnockerFaces$Asked", rfl, in_X6, by decide, by decide +kernel, q412, Or.inl rfl, by decide, by decide⟩
-- v final of another
theorem fX11_23_7 : sm_FL RX11 23 7 1 0 := ⟨_, _, _, "KnockerFaces$Asked", rfl, in_X6, by decide, by decide +kernel, q413, Or.inl rfl, by decide, by decide⟩
theorem pX11_23_7 : sm_FP RX11 23 7 1 0 (tyX6 1) false := ⟨_, _, _, "KnockerFaces$Asked", tyX6, rfl, in_X6, by decide, by decide +kernel, q413, Or.inl rfl, by decide, by decide, tyX6_ok, nmX6, rfl, rfl, fun h => nomatch h⟩
theorem fX15_24_7 : sm_FL RX15 24 7 1 0 := ⟨_, _, _, "KnockerFaces$Asked", rfl, in_X6, by decide, by decide +kernel, q414, Or.inl rfl, by decide, by decide⟩
theorem pX15_24_7 : sm_FP RX15 24 7 1 0 (tyX6 1) false := ⟨_, _, _, "KnockerFaces$Asked", tyX6, rfl, in_X6, by decide, by decide +kernel, q414, Or.inl rfl, by decide, by decide, tyX6_ok, nmX6, rfl, rfl, fun h => nomatch h⟩
theorem fX5_11_6 : sm_FL RX5 11 6 0 2 := ⟨_, _, _, "KnockerFaces$Town", rfl, in_X5, by decide, by decide +kernel, q421, Or.inl rfl, by decide, by decide⟩
theorem pX5_11_6 : sm_FP RX5 11 6 0 2 (tyX5 0) true := ⟨_, _, _, "KnockerFaces$Town", tyX5, rfl, in_X5, by decide, by decide +kernel, q421, Or.inl rfl, by decide, by decide, tyX5_ok, nmX5, rfl, rfl, fun _ => rfl⟩
theorem fX8_38_6 : sm_FL RX8 38 6 0 2 := ⟨_, _, _, "KnockerFaces$Town", rfl, in_X5, by decide, by decide +kernel, q422, Or.inl rfl, by decide, by decide⟩
-- face final of another
theorem fX0_170_6 : sm_FL RX0 170 6 0 2 := ⟨_, _, _, "KnockerFaces$Town", rfl, in_X5, by decide, by decide +kernel, q423, Or.inl rfl, by decide, by decide⟩
-- face final of another
theorem fX5_16_6 : sm_FL RX5 16 6 1 2 := ⟨_, _, _, "KnockerFaces$Town", rfl, in_X5, by decide, by decide +kernel, q424, Or.inl rfl, by decide, by decide⟩
theorem pX5_16_6 : sm_FP RX5 16 6 1 2 (tyX5 1) true := ⟨_, _, _, "KnockerFaces$Town", tyX5, rfl, in_X5, by decide, by decide +kernel, q424, Or.inl rfl, by decide, by decide, tyX5_ok, nmX5, rfl, rfl, fun _ => rfl⟩
theorem fX0_192_6 : sm_FL RX0 192 6 1 2 := ⟨_, _, _, "KnockerFaces$Town", rfl, in_X5, by decide, by decide +kernel, q425, Or.inl rfl, by decide, by decide⟩
-- lifts final of another
theorem fX5_20_6 : sm_FL RX5 20 6 2 2 := ⟨_, _, _, "KnockerFaces$Town", rfl, in_X5, by decide, by decide +kernel, q426, Or.inl rfl, by decide, by decide⟩
theorem pX5_20_6 : sm_FP RX5 20 6 2 2 (tyX5 2) true := ⟨_, _, _, "KnockerFaces$Town", tyX5, rfl, in_X5, by decide, by decide +kernel, q426, Or.inl rfl, by decide, by decide, tyX5_ok, nmX5, rfl, rfl, fun _ => rfl⟩
theorem fX0_195_6 : sm_FL RX0 195 6 2 2 := ⟨_, _, _, "KnockerFaces$Town", rfl, in_X5, by decide, by decide +kernel, q427, Or.inl rfl, by decide, by decide⟩
-- idle final of another
theorem fX5_23_6 : sm_FL RX5 23 6 3 2 := ⟨_, _, _, "KnockerFaces$Town", rfl, in_X5, by decide, by decide +kernel, q428, Or.inl rfl, by decide, by decide⟩
theorem pX5_23_6 : sm_FP RX5 23 6 3 2 (tyX5 3) true := ⟨_, _, _, "KnockerFaces$Town", tyX5, rfl, in_X5, by decide, by decide +kernel, q428, Or.inl rfl, by decide, by decide, tyX5_ok, nmX5, rfl, rfl, fun _ => rfl⟩
theorem fX0_198_6 : sm_FL RX0 198 6 3 2 := ⟨_, _, _, "KnockerFaces$Town", rfl, in_X5, by decide, by decide +kernel, q429, Or.inl rfl, by decide, by decide⟩
-- rubbed final of another
theorem fX5_26_6 : sm_FL RX5 26 6 4 2 := ⟨_, _, _, "KnockerFaces$Town", rfl, in_X5, by decide, by decide +kernel, q430, Or.inl rfl, by decide, by decide⟩
theorem pX5_26_6 : sm_FP RX5 26 6 4 2 (tyX5 4) true := ⟨_, _, _, "KnockerFaces$Town", tyX5, rfl, in_X5, by decide, by decide +kernel, q430, Or.inl rfl, by decide, by decide, tyX5_ok, nmX5, rfl, rfl, fun _ => rfl⟩
theorem fX0_201_6 : sm_FL RX0 201 6 4 2 := ⟨_, _, _, "KnockerFaces$Town", rfl, in_X5, by decide, by decide +kernel, q431, Or.inl rfl, by decide, by decide⟩
-- money final of another
theorem fX5_29_6 : sm_FL RX5 29 6 5 2 := ⟨_, _, _, "KnockerFaces$Town", rfl, in_X5, by decide, by decide +kernel, q432, Or.inl rfl, by decide, by decide⟩
theorem pX5_29_6 : sm_FP RX5 29 6 5 2 (tyX5 5) true := ⟨_, _, _, "KnockerFaces$Town", tyX5, rfl, in_X5, by decide, by decide +kernel, q432, Or.inl rfl, by decide, by decide, tyX5_ok, nmX5, rfl, rfl, fun _ => rfl⟩
theorem fX0_218_6 : sm_FL RX0 218 6 5 2 := ⟨_, _, _, "KnockerFaces$Town", rfl, in_X5, by decide, by decide +kernel, q433, Or.inl rfl, by decide, by decide⟩
-- lifted final of another
theorem fX5_65_6 : sm_FL RX5 65 6 6 0 := ⟨_, _, _, "KnockerFaces$Town", rfl, in_X5, by decide, by decide +kernel, q434, Or.inl rfl, by decide, by decide⟩
theorem pX5_65_6 : sm_FP RX5 65 6 6 0 (tyX5 6) false := ⟨_, _, _, "KnockerFaces$Town", tyX5, rfl, in_X5, by decide, by decide +kernel, q434, Or.inl rfl, by decide, by decide, tyX5_ok, nmX5, rfl, rfl, fun h => nomatch h⟩
theorem fX0_279_6 : sm_FL RX0 279 6 6 0 := ⟨_, _, _, "KnockerFaces$Town", rfl, in_X5, by decide, by decide +kernel, q435, Or.inl rfl, by decide, by decide⟩
theorem pX0_279_6 : sm_FP RX0 279 6 6 0 (tyX5 6) false := ⟨_, _, _, "KnockerFaces$Town", tyX5, rfl, in_X5, by decide, by decide +kernel, q435, Or.inl rfl, by decide, by decide, tyX5_ok, nmX5, rfl, rfl, fun h => nomatch h⟩
theorem fX5_69_6 : sm_FL RX5 69 6 7 0 := ⟨_, _, _, "KnockerFaces$Town", rfl, in_X5, by decide, by decide +kernel, q436, Or.inl rfl, by decide, by decide⟩
theorem pX5_69_6 : sm_FP RX5 69 6 7 0 (tyX5 7) false := ⟨_, _, _, "KnockerFaces$Town", tyX5, rfl, in_X5, by decide, by decide +kernel, q436, Or.inl rfl, by decide, by decide, tyX5_ok, nmX5, rfl, rfl, fun h => nomatch h⟩
theorem fX8_31_6 : sm_FL RX8 31 6 8 0 := ⟨_, _, _, "KnockerFaces$Town", rfl, in_X5, by decide, by decide +kernel, q437, Or.inl rfl, by decide, by decide⟩
theorem pX8_31_6 : sm_FP RX8 31 6 8 0 (tyX5 8) false := ⟨_, _, _, "KnockerFaces$Town", tyX5, rfl, in_X5, by decide, by decide +kernel, q437, Or.inl rfl, by decide, by decide, tyX5_ok, nmX5, rfl, rfl, fun h => nomatch h⟩
theorem fX5_72_6 : sm_FL RX5 72 6 8 0 := ⟨_, _, _, "KnockerFaces$Town", rfl, in_X5, by decide, by decide +kernel, q438, Or.inl rfl, by decide, by decide⟩
theorem pX5_72_6 : sm_FP RX5 72 6 8 0 (tyX5 8) false := ⟨_, _, _, "KnockerFaces$Town", tyX5, rfl, in_X5, by decide, by decide +kernel, q438, Or.inl rfl, by decide, by decide, tyX5_ok, nmX5, rfl, rfl, fun h => nomatch h⟩
theorem fX0_241_6 : sm_FL RX0 241 6 8 0 := ⟨_, _, _, "KnockerFaces$Town", rfl, in_X5, by decide, by decide +kernel, q439, Or.inl rfl, by decide, by decide⟩
theorem pX0_241_6 : sm_FP RX0 241 6 8 0 (tyX5 8) false := ⟨_, _, _, "KnockerFaces$Town", tyX5, rfl, in_X5, by decide, by decide +kernel, q439, Or.inl rfl, by decide, by decide, tyX5_ok, nmX5, rfl, rfl, fun h => nomatch h⟩
theorem fX8_27_6 : sm_FL RX8 27 6 9 0 := ⟨_, _, _, "KnockerFaces$Town", rfl, in_X5, by decide, by decide +kernel, q440, Or.inl rfl, by decide, by decide⟩
theorem pX8_27_6 : sm_FP RX8 27 6 9 0 (tyX5 9) false := ⟨_, _, _, "KnockerFaces$Town", tyX5, rfl, in_X5, by decide, by decide +kernel, q440, Or.inl rfl, by decide, by decide, tyX5_ok, nmX5, rfl, rfl, fun h => nomatch h⟩
theorem fX5_78_6 : sm_FL RX5 78 6 9 0 := ⟨_, _, _, "KnockerFaces$Town", rfl, in_X5, by decide, by decide +kernel, q441, Or.inl rfl, by decide, by decide⟩
theorem pX5_78_6 : sm_FP RX5 78 6 9 0 (tyX5 9) false := ⟨_, _, _, "KnockerFaces$Town", tyX5, rfl, in_X5, by decide, by decide +kernel, q441, Or.inl rfl, by decide, by decide, tyX5_ok, nmX5, rfl, rfl, fun h => nomatch h⟩
theorem fX0_311_6 : sm_FL RX0 311 6 9 0 := ⟨_, _, _, "KnockerFaces$Town", rfl, in_X5, by decide, by decide +kernel, q442, Or.inl rfl, by decide, by decide⟩
theorem pX0_311_6 : sm_FP RX0 311 6 9 0 (tyX5 9) false := ⟨_, _, _, "KnockerFaces$Town", tyX5, rfl, in_X5, by decide, by decide +kernel, q442, Or.inl rfl, by decide, by decide, tyX5_ok, nmX5, rfl, rfl, fun h => nomatch h⟩
theorem fX5_32_6 : sm_FL RX5 32 6 10 2 := ⟨_, _, _, "KnockerFaces$Town", rfl, in_X5, by decide, by decide +kernel, q443, Or.inl rfl, by decide, by decide⟩
theorem pX5_32_6 : sm_FP RX5 32 6 10 2 (tyX5 10) true := ⟨_, _, _, "KnockerFaces$Town", tyX5, rfl, in_X5, by decide, by decide +kernel, q443, Or.inl rfl, by decide, by decide, tyX5_ok, nmX5, rfl, rfl, fun _ => rfl⟩
theorem fX5_38_6 : sm_FL RX5 38 6 11 2 := ⟨_, _, _, "KnockerFaces$Town", rfl, in_X5, by decide, by decide +kernel, q444, Or.inl rfl, by decide, by decide⟩
theorem pX5_38_6 : sm_FP RX5 38 6 11 2 (tyX5 11) true := ⟨_, _, _, "KnockerFaces$Town", tyX5, rfl, in_X5, by decide, by decide +kernel, q444, Or.inl rfl, by decide, by decide, tyX5_ok, nmX5, rfl, rfl, fun _ => rfl⟩
theorem fX0_28_1 : sm_FL RX0 28 1 0 2 := ⟨_, _, _, "KnockerFaces", rfl, in_X0, by decide, by decide +kernel, q512, Or.inl rfl, by decide, by decide⟩
theorem pX0_28_1 : sm_FP RX0 28 1 0 2 (tyX0 0) true := ⟨_, _, _, "KnockerFaces", tyX0, rfl, in_X0, by decide, by decide +kernel, q512, Or.inl rfl, by decide, by decide, tyX0_ok, nmX0, rfl, rfl, fun _ => rfl⟩
theorem fX0_35_1 : sm_FL RX0 35 1 1 2 := ⟨_, _, _, "KnockerFaces", rfl, in_X0, by decide, by decide +kernel, q513, Or.inl rfl, by decide, by decide⟩
theorem pX0_35_1 : sm_FP RX0 35 1 1 2 (tyX0 1) true := ⟨_, _, _, "KnockerFaces", tyX0, rfl, in_X0, by decide, by decide +kernel, q513, Or.inl rfl, by decide, by decide, tyX0_ok, nmX0, rfl, rfl, fun _ => rfl⟩
theorem fX0_44_1 : sm_FL RX0 44 1 2 2 := ⟨_, _, _, "KnockerFaces", rfl, in_X0, by decide, by decide +kernel, q514, Or.inl rfl, by decide, by decide⟩
theorem pX0_44_1 : sm_FP RX0 44 1 2 2 (tyX0 2) true := ⟨_, _, _, "KnockerFaces", tyX0, rfl, in_X0, by decide, by decide +kernel, q514, Or.inl rfl, by decide, by decide, tyX0_ok, nmX0, rfl, rfl, fun _ => rfl⟩
theorem fX0_51_1 : sm_FL RX0 51 1 3 2 := ⟨_, _, _, "KnockerFaces", rfl, in_X0, by decide, by decide +kernel, q515, Or.inl rfl, by decide, by decide⟩
theorem pX0_51_1 : sm_FP RX0 51 1 3 2 (tyX0 3) false := ⟨_, _, _, "KnockerFaces", tyX0, rfl, in_X0, by decide, by decide +kernel, q515, Or.inl rfl, by decide, by decide, tyX0_ok, nmX0, rfl, rfl, fun h => nomatch h⟩
theorem fX0_55_1 : sm_FL RX0 55 1 4 0 := ⟨_, _, _, "KnockerFaces", rfl, in_X0, by decide, by decide +kernel, q516, Or.inl rfl, by decide, by decide⟩
theorem pX0_55_1 : sm_FP RX0 55 1 4 0 (tyX0 4) false := ⟨_, _, _, "KnockerFaces", tyX0, rfl, in_X0, by decide, by decide +kernel, q516, Or.inl rfl, by decide, by decide, tyX0_ok, nmX0, rfl, rfl, fun h => nomatch h⟩
theorem fX0_136_1 : sm_FL RX0 136 1 5 0 := ⟨_, _, _, "KnockerFaces", rfl, in_X0, by decide, by decide +kernel, q517, Or.inl rfl, by decide, by decide⟩
theorem pX0_136_1 : sm_FP RX0 136 1 5 0 (tyX0 5) false := ⟨_, _, _, "KnockerFaces", tyX0, rfl, in_X0, by decide, by decide +kernel, q517, Or.inl rfl, by decide, by decide, tyX0_ok, nmX0, rfl, rfl, fun h => nomatch h⟩
theorem fX0_258_1 : sm_FL RX0 258 1 6 0 := ⟨_, _, _, "KnockerFaces", rfl, in_X0, by decide, by decide +kernel, q518, Or.inl rfl, by decide, by decide⟩
theorem pX0_258_1 : sm_FP RX0 258 1 6 0 (tyX0 6) false := ⟨_, _, _, "KnockerFaces", tyX0, rfl, in_X0, by decide, by decide +kernel, q518, Or.inl rfl, by decide, by decide, tyX0_ok, nmX0, rfl, rfl, fun h => nomatch h⟩
theorem fX0_62_1 : sm_FL RX0 62 1 7 2 := ⟨_, _, _, "KnockerFaces", rfl, in_X0, by decide, by decide +kernel, q519, Or.inl rfl, by decide, by decide⟩
theorem pX0_62_1 : sm_FP RX0 62 1 7 2 (tyX0 7) true := ⟨_, _, _, "KnockerFaces", tyX0, rfl, in_X0, by decide, by decide +kernel, q519, Or.inl rfl, by decide, by decide, tyX0_ok, nmX0, rfl, rfl, fun _ => rfl⟩
theorem fX0_66_1 : sm_FL RX0 66 1 8 2 := ⟨_, _, _, "KnockerFaces", rfl, in_X0, by decide, by decide +kernel, q520, Or.inl rfl, by decide, by decide⟩
theorem pX0_66_1 : sm_FP RX0 66 1 8 2 (tyX0 8) true := ⟨_, _, _, "KnockerFaces", tyX0, rfl, in_X0, by decide, by decide +kernel, q520, Or.inl rfl, by decide, by decide, tyX0_ok, nmX0, rfl, rfl, fun _ => rfl⟩
theorem fX0_69_1 : sm_FL RX0 69 1 9 2 := ⟨_, _, _, "KnockerFaces", rfl, in_X0, by decide, by decide +kernel, q521, Or.inl rfl, by decide, by decide⟩
theorem pX0_69_1 : sm_FP RX0 69 1 9 2 (tyX0 9) true := ⟨_, _, _, "KnockerFaces", tyX0, rfl, in_X0, by decide, by decide +kernel, q521, Or.inl rfl, by decide, by decide, tyX0_ok, nmX0, rfl, rfl, fun _ => rfl⟩
theorem fX0_73_1 : sm_FL RX0 73 1 10 2 := ⟨_, _, _, "KnockerFaces", rfl, in_X0, by decide, by decide +kernel, q522, Or.inl rfl, by decide, by decide⟩
theorem pX0_73_1 : sm_FP RX0 73 1 10 2 (tyX0 10) true := ⟨_, _, _, "KnockerFaces", tyX0, rfl, in_X0, by decide, by decide +kernel, q522, Or.inl rfl, by decide, by decide, tyX0_ok, nmX0, rfl, rfl, fun _ => rfl⟩
theorem fX0_76_1 : sm_FL RX0 76 1 11 2 := ⟨_, _, _, "KnockerFaces", rfl, in_X0, by decide, by decide +kernel, q523, Or.inl rfl, by decide, by decide⟩
theorem pX0_76_1 : sm_FP RX0 76 1 11 2 (tyX0 11) true := ⟨_, _, _, "KnockerFaces", tyX0, rfl, in_X0, by decide, by decide +kernel, q523, Or.inl rfl, by decide, by decide, tyX0_ok, nmX0, rfl, rfl, fun _ => rfl⟩
theorem fX0_82_1 : sm_FL RX0 82 1 12 2 := ⟨_, _, _, "KnockerFaces", rfl, in_X0, by decide, by decide +kernel, q524, Or.inl rfl, by decide, by decide⟩
theorem pX0_82_1 : sm_FP RX0 82 1 12 2 (tyX0 12) true := ⟨_, _, _, "KnockerFaces", tyX0, rfl, in_X0, by decide, by decide +kernel, q524, Or.inl rfl, by decide, by decide, tyX0_ok, nmX0, rfl, rfl, fun _ => rfl⟩
theorem fX0_89_1 : sm_FL RX0 89 1 13 2 := ⟨_, _, _, "KnockerFaces", rfl, in_X0, by decide, by decide +kernel, q525, Or.inl rfl, by decide, by decide⟩
theorem pX0_89_1 : sm_FP RX0 89 1 13 2 (tyX0 13) true := ⟨_, _, _, "KnockerFaces", tyX0, rfl, in_X0, by decide, by decide +kernel, q525, Or.inl rfl, by decide, by decide, tyX0_ok, nmX0, rfl, rfl, fun _ => rfl⟩
theorem fX0_92_1 : sm_FL RX0 92 1 14 2 := ⟨_, _, _, "KnockerFaces", rfl, in_X0, by decide, by decide +kernel, q526, Or.inl rfl, by decide, by decide⟩
theorem pX0_92_1 : sm_FP RX0 92 1 14 2 (tyX0 14) true := ⟨_, _, _, "KnockerFaces", tyX0, rfl, in_X0, by decide, by decide +kernel, q526, Or.inl rfl, by decide, by decide, tyX0_ok, nmX0, rfl, rfl, fun _ => rfl⟩
theorem fX0_96_1 : sm_FL RX0 96 1 15 2 := ⟨_, _, _, "KnockerFaces", rfl, in_X0, by decide, by decide +kernel, q527, Or.inl rfl, by decide, by decide⟩
theorem pX0_96_1 : sm_FP RX0 96 1 15 2 (tyX0 15) true := ⟨_, _, _, "KnockerFaces", tyX0, rfl, in_X0, by decide, by decide +kernel, q527, Or.inl rfl, by decide, by decide, tyX0_ok, nmX0, rfl, rfl, fun _ => rfl⟩
theorem fX0_102_1 : sm_FL RX0 102 1 16 2 := ⟨_, _, _, "KnockerFaces", rfl, in_X0, by decide, by decide +kernel, q528, Or.inl rfl, by decide, by decide⟩
theorem pX0_102_1 : sm_FP RX0 102 1 16 2 (tyX0 16) true := ⟨_, _, _, "KnockerFaces", tyX0, rfl, in_X0, by decide, by decide +kernel, q528, Or.inl rfl, by decide, by decide, tyX0_ok, nmX0, rfl, rfl, fun _ => rfl⟩
theorem fX0_139_1 : sm_FL RX0 139 1 17 0 := ⟨_, _, _, "KnockerFaces", rfl, in_X0, by decide, by decide +kernel, q529, Or.inl rfl, by decide, by decide⟩
theorem pX0_139_1 : sm_FP RX0 139 1 17 0 (tyX0 17) false := ⟨_, _, _, "KnockerFaces", tyX0, rfl, in_X0, by decide, by decide +kernel, q529, Or.inl rfl, by decide, by decide, tyX0_ok, nmX0, rfl, rfl, fun h => nomatch h⟩
theorem fX0_105_1 : sm_FL RX0 105 1 18 2 := ⟨_, _, _, "KnockerFaces", rfl, in_X0, by decide, by decide +kernel, q530, Or.inl rfl, by decide, by decide⟩
theorem pX0_105_1 : sm_FP RX0 105 1 18 2 (tyX0 18) true := ⟨_, _, _, "KnockerFaces", tyX0, rfl, in_X0, by decide, by decide +kernel, q530, Or.inl rfl, by decide, by decide, tyX0_ok, nmX0, rfl, rfl, fun _ => rfl⟩
theorem fX0_108_1 : sm_FL RX0 108 1 19 2 := ⟨_, _, _, "KnockerFaces", rfl, in_X0, by decide, by decide +kernel, q531, Or.inl rfl, by decide, by decide⟩
theorem pX0_108_1 : sm_FP RX0 108 1 19 2 (tyX0 19) true := ⟨_, _, _, "KnockerFaces", tyX0, rfl, in_X0, by decide, by decide +kernel, q531, Or.inl rfl, by decide, by decide, tyX0_ok, nmX0, rfl, rfl, fun _ => rfl⟩
theorem fX0_111_1 : sm_FL RX0 111 1 20 2 := ⟨_, _, _, "KnockerFaces", rfl, in_X0, by decide, by decide +kernel, q532, Or.inl rfl, by decide, by decide⟩
theorem pX0_111_1 : sm_FP RX0 111 1 20 2 (tyX0 20) true := ⟨_, _, _, "KnockerFaces", tyX0, rfl, in_X0, by decide, by decide +kernel, q532, Or.inl rfl, by decide, by decide, tyX0_ok, nmX0, rfl, rfl, fun _ => rfl⟩
theorem fX0_114_1 : sm_FL RX0 114 1 21 2 := ⟨_, _, _, "KnockerFaces", rfl, in_X0, by decide, by decide +kernel, q533, Or.inl rfl, by decide, by decide⟩
theorem pX0_114_1 : sm_FP RX0 114 1 21 2 (tyX0 21) true := ⟨_, _, _, "KnockerFaces", tyX0, rfl, in_X0, by decide, by decide +kernel, q533, Or.inl rfl, by decide, by decide, tyX0_ok, nmX0, rfl, rfl, fun _ => rfl⟩
theorem fX11_11_11 : sm_FL RX11 11 11 0 2 := ⟨_, _, _, "KnockerFaces$Law", rfl, in_X11, by decide, by decide +kernel, q712, Or.inl rfl, by decide, by decide⟩
theorem pX11_11_11 : sm_FP RX11 11 11 0 2 (tyX11 0) true := ⟨_, _, _, "KnockerFaces$Law", tyX11, rfl, in_X11, by decide, by decide +kernel, q712, Or.inl rfl, by decide, by decide, tyX11_ok, nmX11, rfl, rfl, fun _ => rfl⟩
theorem fX3_196_11 : sm_FL RX3 196 11 0 2 := ⟨_, _, _, "KnockerFaces$Law", rfl, in_X11, by decide, by decide +kernel, q713, Or.inl rfl, by decide, by decide⟩
-- less final of another
theorem fX11_17_11 : sm_FL RX11 17 11 1 2 := ⟨_, _, _, "KnockerFaces$Law", rfl, in_X11, by decide, by decide +kernel, q714, Or.inl rfl, by decide, by decide⟩
theorem pX11_17_11 : sm_FP RX11 17 11 1 2 (tyX11 1) true := ⟨_, _, _, "KnockerFaces$Law", tyX11, rfl, in_X11, by decide, by decide +kernel, q714, Or.inl rfl, by decide, by decide, tyX11_ok, nmX11, rfl, rfl, fun _ => rfl⟩
theorem fX3_204_11 : sm_FL RX3 204 11 1 2 := ⟨_, _, _, "KnockerFaces$Law", rfl, in_X11, by decide, by decide +kernel, q715, Or.inl rfl, by decide, by decide⟩
-- than final of another
theorem fX11_20_11 : sm_FL RX11 20 11 2 2 := ⟨_, _, _, "KnockerFaces$Law", rfl, in_X11, by decide, by decide +kernel, q716, Or.inl rfl, by decide, by decide⟩
theorem pX11_20_11 : sm_FP RX11 20 11 2 2 (tyX11 2) true := ⟨_, _, _, "KnockerFaces$Law", tyX11, rfl, in_X11, by decide, by decide +kernel, q716, Or.inl rfl, by decide, by decide, tyX11_ok, nmX11, rfl, rfl, fun _ => rfl⟩
theorem fX3_210_11 : sm_FL RX3 210 11 2 2 := ⟨_, _, _, "KnockerFaces$Law", rfl, in_X11, by decide, by decide +kernel, q717, Or.inl rfl, by decide, by decide⟩
-- then final of another
theorem fX11_29_11 : sm_FL RX11 29 11 3 0 := ⟨_, _, _, "KnockerFaces$Law", rfl, in_X11, by decide, by decide +kernel, q718, Or.inl rfl, by decide, by decide⟩
theorem pX11_29_11 : sm_FP RX11 29 11 3 0 (tyX11 3) false := ⟨_, _, _, "KnockerFaces$Law", tyX11, rfl, in_X11, by decide, by decide +kernel, q718, Or.inl rfl, by decide, by decide, tyX11_ok, nmX11, rfl, rfl, fun h => nomatch h⟩
theorem fX3_193_11 : sm_FL RX3 193 11 3 0 := ⟨_, _, _, "KnockerFaces$Law", rfl, in_X11, by decide, by decide +kernel, q719, Or.inl rfl, by decide, by decide⟩
theorem pX3_193_11 : sm_FP RX3 193 11 3 0 (tyX11 3) false := ⟨_, _, _, "KnockerFaces$Law", tyX11, rfl, in_X11, by decide, by decide +kernel, q719, Or.inl rfl, by decide, by decide, tyX11_ok, nmX11, rfl, rfl, fun h => nomatch h⟩
theorem fX13_7_12 : sm_FL RX13 7 12 0 0 := ⟨_, _, _, "KnockerFaces$Number", rfl, in_X13, by decide, by decide +kernel, q770, Or.inl rfl, by decide, by decide⟩
theorem pX13_7_12 : sm_FP RX13 7 12 0 0 (tyX13 0) true := ⟨_, _, _, "KnockerFaces$Number", tyX13, rfl, in_X13, by decide, by decide +kernel, q770, Or.inl rfl, by decide, by decide, tyX13_ok, nmX13, rfl, rfl, fun _ => rfl⟩
theorem fX14_7_13 : sm_FL RX14 7 13 0 0 := ⟨_, _, _, "KnockerFaces$Var", rfl, in_X14, by decide, by decide +kernel, q780, Or.inl rfl, by decide, by decide⟩
theorem pX14_7_13 : sm_FP RX14 7 13 0 0 (tyX14 0) true := ⟨_, _, _, "KnockerFaces$Var", tyX14, rfl, in_X14, by decide, by decide +kernel, q780, Or.inl rfl, by decide, by decide, tyX14_ok, nmX14, rfl, rfl, fun _ => rfl⟩
theorem fX15_7_14 : sm_FL RX15 7 14 0 0 := ⟨_, _, _, "KnockerFaces$Joined", rfl, in_X15, by decide, by decide +kernel, q790, Or.inl rfl, by decide, by decide⟩
theorem pX15_7_14 : sm_FP RX15 7 14 0 0 (tyX15 0) true := ⟨_, _, _, "KnockerFaces$Joined", tyX15, rfl, in_X15, by decide, by decide +kernel, q790, Or.inl rfl, by decide, by decide, tyX15_ok, nmX15, rfl, rfl, fun _ => rfl⟩
theorem fX15_13_14 : sm_FL RX15 13 14 1 2 := ⟨_, _, _, "KnockerFaces$Joined", rfl, in_X15, by decide, by decide +kernel, q791, Or.inl rfl, by decide, by decide⟩
theorem pX15_13_14 : sm_FP RX15 13 14 1 2 (tyX15 1) true := ⟨_, _, _, "KnockerFaces$Joined", tyX15, rfl, in_X15, by decide, by decide +kernel, q791, Or.inl rfl, by decide, by decide, tyX15_ok, nmX15, rfl, rfl, fun _ => rfl⟩
theorem fX15_17_14 : sm_FL RX15 17 14 2 2 := ⟨_, _, _, "KnockerFaces$Joined", rfl, in_X15, by decide, by decide +kernel, q792, Or.inl rfl, by decide, by decide⟩
theorem pX15_17_14 : sm_FP RX15 17 14 2 2 (tyX15 2) true := ⟨_, _, _, "KnockerFaces$Joined", tyX15, rfl, in_X15, by decide, by decide +kernel, q792, Or.inl rfl, by decide, by decide, tyX15_ok, nmX15, rfl, rfl, fun _ => rfl⟩
theorem fJ11_15_20 : sm_FL RJ11 15 20 0 2 := ⟨_, _, _, "java/lang/AbstractStringBuilder", rfl, in_J12, by decide, by decide +kernel, q836, Or.inl rfl, by decide, by decide⟩
theorem pJ11_15_20 : sm_FP RJ11 15 20 0 2 (tyJ12 0) false := ⟨_, _, _, "java/lang/AbstractStringBuilder", tyJ12, rfl, in_J12, by decide, by decide +kernel, q836, Or.inl rfl, by decide, by decide, tyJ12_ok, nmJ12, rfl, rfl, fun h => nomatch h⟩
theorem fJ11_22_20 : sm_FL RJ11 22 20 1 0 := ⟨_, _, _, "java/lang/AbstractStringBuilder", rfl, in_J12, by decide, by decide +kernel, q837, Or.inl rfl, by decide, by decide⟩
theorem pJ11_22_20 : sm_FP RJ11 22 20 1 0 (tyJ12 1) false := ⟨_, _, _, "java/lang/AbstractStringBuilder", tyJ12, rfl, in_J12, by decide, by decide +kernel, q837, Or.inl rfl, by decide, by decide, tyJ12_ok, nmJ12, rfl, rfl, fun h => nomatch h⟩
theorem fJ8_1048_20 : sm_FL RJ8 1048 20 2 0 := ⟨_, _, _, "java/lang/AbstractStringBuilder", rfl, in_J12, by decide, by decide +kernel, q838, Or.inl rfl, by decide, by decide⟩
theorem pJ8_1048_20 : sm_FP RJ8 1048 20 2 0 (tyJ12 2) false := ⟨_, _, _, "java/lang/AbstractStringBuilder", tyJ12, rfl, in_J12, by decide, by decide +kernel, q838, Or.inl rfl, by decide, by decide, tyJ12_ok, nmJ12, rfl, rfl, fun h => nomatch h⟩
theorem fJ11_79_20 : sm_FL RJ11 79 20 3 0 := ⟨_, _, _, "java/lang/AbstractStringBuilder", rfl, in_J12, by decide, by decide +kernel, q839, Or.inl rfl, by decide, by decide⟩
theorem pJ11_79_20 : sm_FP RJ11 79 20 3 0 (tyJ12 3) false := ⟨_, _, _, "java/lang/AbstractStringBuilder", tyJ12, rfl, in_J12, by decide, by decide +kernel, q839, Or.inl rfl, by decide, by decide, tyJ12_ok, nmJ12, rfl, rfl, fun h => nomatch h⟩
theorem fJ8_9_19 : sm_FL RJ8 9 19 0 2 := ⟨_, _, _, "java/lang/String", rfl, in_J8, by decide, by decide +kernel, q970, Or.inl rfl, by decide, by decide⟩
theorem pJ8_9_19 : sm_FP RJ8 9 19 0 2 (tyJ8 0) true := ⟨_, _, _, "java/lang/String", tyJ8, rfl, in_J8, by decide, by decide +kernel, q970, Or.inl rfl, by decide, by decide, tyJ8_ok, nmJ8, rfl, rfl, fun _ => rfl⟩
theorem fJ8_15_19 : sm_FL RJ8 15 19 1 0 := ⟨_, _, _, "java/lang/String", rfl, in_J8, by decide, by decide +kernel, q971, Or.inl rfl, by decide, by decide⟩
theorem pJ8_15_19 : sm_FP RJ8 15 19 1 0 (tyJ8 1) true := ⟨_, _, _, "java/lang/String", tyJ8, rfl, in_J8, by decide, by decide +kernel, q971, Or.inl rfl, by decide, by decide, tyJ8_ok, nmJ8, rfl, rfl, fun _ => rfl⟩
theorem fX16_15_15 : sm_FL RX16 15 15 0 2 := ⟨_, _, _, "KnockerFaces$Named", rfl, in_X17, by decide, by decide +kernel, q1010, Or.inl rfl, by decide, by decide⟩
theorem pX16_15_15 : sm_FP RX16 15 15 0 2 (tyX17 0) true := ⟨_, _, _, "KnockerFaces$Named", tyX17, rfl, in_X17, by decide, by decide +kernel, q1010, Or.inl rfl, by decide, by decide, tyX17_ok, nmX17, rfl, rfl, fun _ => rfl⟩
theorem fX16_15_16 : sm_FL RX16 15 16 0 2 := ⟨_, _, _, "KnockerFaces$Named", rfl, in_X18, by decide, by decide +kernel, q1010, Or.inl rfl, by decide, by decide⟩
theorem pX16_15_16 : sm_FP RX16 15 16 0 2 (tyX18 0) true := ⟨_, _, _, "KnockerFaces$Named", tyX18, rfl, in_X18, by decide, by decide +kernel, q1010, Or.inl rfl, by decide, by decide, tyX18_ok, nmX18, rfl, rfl, fun _ => rfl⟩
theorem fX4_44_15 : sm_FL RX4 44 15 0 2 := ⟨_, _, _, "KnockerFaces$Named", rfl, in_X17, by decide, by decide +kernel, q1011, Or.inl rfl, by decide, by decide⟩
-- name final of another
theorem fX4_44_16 : sm_FL RX4 44 16 0 2 := ⟨_, _, _, "KnockerFaces$Named", rfl, in_X18, by decide, by decide +kernel, q1011, Or.inl rfl, by decide, by decide⟩
-- name final of another
theorem fX16_9_15 : sm_FL RX16 9 15 1 2 := ⟨_, _, _, "KnockerFaces$Named", rfl, in_X17, by decide, by decide +kernel, q1012, Or.inl rfl, by decide, by decide⟩
theorem pX16_9_15 : sm_FP RX16 9 15 1 2 (tyX17 1) true := ⟨_, _, _, "KnockerFaces$Named", tyX17, rfl, in_X17, by decide, by decide +kernel, q1012, Or.inl rfl, by decide, by decide, tyX17_ok, nmX17, rfl, rfl, fun _ => rfl⟩
theorem fX16_9_16 : sm_FL RX16 9 16 1 2 := ⟨_, _, _, "KnockerFaces$Named", rfl, in_X18, by decide, by decide +kernel, q1012, Or.inl rfl, by decide, by decide⟩
theorem pX16_9_16 : sm_FP RX16 9 16 1 2 (tyX18 1) true := ⟨_, _, _, "KnockerFaces$Named", tyX18, rfl, in_X18, by decide, by decide +kernel, q1012, Or.inl rfl, by decide, by decide, tyX18_ok, nmX18, rfl, rfl, fun _ => rfl⟩
theorem fX5_60_15 : sm_FL RX5 60 15 1 2 := ⟨_, _, _, "KnockerFaces$Door", rfl, in_X17, by decide, by decide +kernel, q1013, Or.inr q1014, by decide, by decide⟩
-- face final of another
theorem fX5_60_16 : sm_FL RX5 60 16 1 2 := ⟨_, _, _, "KnockerFaces$Door", rfl, in_X18, by decide, by decide +kernel, q1013, Or.inr q1014, by decide, by decide⟩
-- face final of another
theorem fX5_125_15 : sm_FL RX5 125 15 1 2 := ⟨_, _, _, "KnockerFaces$Caller", rfl, in_X17, by decide, by decide +kernel, q1015, Or.inr q1016, by decide, by decide⟩
-- face final of another
theorem fX5_125_16 : sm_FL RX5 125 16 1 2 := ⟨_, _, _, "KnockerFaces$Caller", rfl, in_X18, by decide, by decide +kernel, q1015, Or.inr q1016, by decide, by decide⟩
-- face final of another
theorem fX3_185_15 : sm_FL RX3 185 15 1 2 := ⟨_, _, _, "KnockerFaces$Named", rfl, in_X17, by decide, by decide +kernel, q1017, Or.inl rfl, by decide, by decide⟩
-- face final of another
theorem fX3_185_16 : sm_FL RX3 185 16 1 2 := ⟨_, _, _, "KnockerFaces$Named", rfl, in_X18, by decide, by decide +kernel, q1017, Or.inl rfl, by decide, by decide⟩
-- face final of another
theorem fX0_179_15 : sm_FL RX0 179 15 1 2 := ⟨_, _, _, "KnockerFaces$Door", rfl, in_X17, by decide, by decide +kernel, q1018, Or.inr q1014, by decide, by decide⟩
-- face final of another
theorem fX0_179_16 : sm_FL RX0 179 16 1 2 := ⟨_, _, _, "KnockerFaces$Door", rfl, in_X18, by decide, by decide +kernel, q1018, Or.inr q1014, by decide, by decide⟩
-- face final of another
theorem fX0_217_15 : sm_FL RX0 217 15 1 2 := ⟨_, _, _, "KnockerFaces$Caller", rfl, in_X17, by decide, by decide +kernel, q1019, Or.inr q1016, by decide, by decide⟩
-- face final of another
theorem fX0_217_16 : sm_FL RX0 217 16 1 2 := ⟨_, _, _, "KnockerFaces$Caller", rfl, in_X18, by decide, by decide +kernel, q1019, Or.inr q1016, by decide, by decide⟩
-- face final of another
theorem fX5_165_17 : sm_FL RX5 165 17 0 0 := ⟨_, _, _, "KnockerFaces$Round", rfl, in_X19, by decide, by decide +kernel, q1100, Or.inl rfl, by decide, by decide⟩
theorem pX5_165_17 : sm_FP RX5 165 17 0 0 (tyX19 0) false := ⟨_, _, _, "KnockerFaces$Round", tyX19, rfl, in_X19, by decide, by decide +kernel, q1100, Or.inl rfl, by decide, by decide, tyX19_ok, nmX19, rfl, rfl, fun h => nomatch h⟩
theorem fX3_162_17 : sm_FL RX3 162 17 0 0 := ⟨_, _, _, "KnockerFaces$Round", rfl, in_X19, by decide, by decide +kernel, q1101, Or.inl rfl, by decide, by decide⟩
theorem pX3_162_17 : sm_FP RX3 162 17 0 0 (tyX19 0) false := ⟨_, _, _, "KnockerFaces$Round", tyX19, rfl, in_X19, by decide, by decide +kernel, q1101, Or.inl rfl, by decide, by decide, tyX19_ok, nmX19, rfl, rfl, fun h => nomatch h⟩
theorem fX0_226_17 : sm_FL RX0 226 17 0 0 := ⟨_, _, _, "KnockerFaces$Round", rfl, in_X19, by decide, by decide +kernel, q1102, Or.inl rfl, by decide, by decide⟩
theorem pX0_226_17 : sm_FP RX0 226 17 0 0 (tyX19 0) false := ⟨_, _, _, "KnockerFaces$Round", tyX19, rfl, in_X19, by decide, by decide +kernel, q1102, Or.inl rfl, by decide, by decide, tyX19_ok, nmX19, rfl, rfl, fun h => nomatch h⟩
theorem fX5_162_17 : sm_FL RX5 162 17 1 0 := ⟨_, _, _, "KnockerFaces$Round", rfl, in_X19, by decide, by decide +kernel, q1103, Or.inl rfl, by decide, by decide⟩
theorem pX5_162_17 : sm_FP RX5 162 17 1 0 (tyX19 1) false := ⟨_, _, _, "KnockerFaces$Round", tyX19, rfl, in_X19, by decide, by decide +kernel, q1103, Or.inl rfl, by decide, by decide, tyX19_ok, nmX19, rfl, rfl, fun h => nomatch h⟩
theorem fX3_165_17 : sm_FL RX3 165 17 1 0 := ⟨_, _, _, "KnockerFaces$Round", rfl, in_X19, by decide, by decide +kernel, q1104, Or.inl rfl, by decide, by decide⟩
theorem pX3_165_17 : sm_FP RX3 165 17 1 0 (tyX19 1) false := ⟨_, _, _, "KnockerFaces$Round", tyX19, rfl, in_X19, by decide, by decide +kernel, q1104, Or.inl rfl, by decide, by decide, tyX19_ok, nmX19, rfl, rfl, fun h => nomatch h⟩
theorem fX0_229_17 : sm_FL RX0 229 17 1 0 := ⟨_, _, _, "KnockerFaces$Round", rfl, in_X19, by decide, by decide +kernel, q1105, Or.inl rfl, by decide, by decide⟩
theorem pX0_229_17 : sm_FP RX0 229 17 1 0 (tyX19 1) false := ⟨_, _, _, "KnockerFaces$Round", tyX19, rfl, in_X19, by decide, by decide +kernel, q1105, Or.inl rfl, by decide, by decide, tyX19_ok, nmX19, rfl, rfl, fun h => nomatch h⟩
theorem fX19_13_17 : sm_FL RX19 13 17 2 0 := ⟨_, _, _, "KnockerFaces$Round", rfl, in_X19, by decide, by decide +kernel, q1106, Or.inl rfl, by decide, by decide⟩
theorem pX19_13_17 : sm_FP RX19 13 17 2 0 (tyX19 2) false := ⟨_, _, _, "KnockerFaces$Round", tyX19, rfl, in_X19, by decide, by decide +kernel, q1106, Or.inl rfl, by decide, by decide, tyX19_ok, nmX19, rfl, rfl, fun h => nomatch h⟩
theorem fX3_171_17 : sm_FL RX3 171 17 2 0 := ⟨_, _, _, "KnockerFaces$Round", rfl, in_X19, by decide, by decide +kernel, q1107, Or.inl rfl, by decide, by decide⟩
theorem pX3_171_17 : sm_FP RX3 171 17 2 0 (tyX19 2) false := ⟨_, _, _, "KnockerFaces$Round", tyX19, rfl, in_X19, by decide, by decide +kernel, q1107, Or.inl rfl, by decide, by decide, tyX19_ok, nmX19, rfl, rfl, fun h => nomatch h⟩
theorem fX0_232_17 : sm_FL RX0 232 17 2 0 := ⟨_, _, _, "KnockerFaces$Round", rfl, in_X19, by decide, by decide +kernel, q1108, Or.inl rfl, by decide, by decide⟩
theorem pX0_232_17 : sm_FP RX0 232 17 2 0 (tyX19 2) false := ⟨_, _, _, "KnockerFaces$Round", tyX19, rfl, in_X19, by decide, by decide +kernel, q1108, Or.inl rfl, by decide, by decide, tyX19_ok, nmX19, rfl, rfl, fun h => nomatch h⟩
theorem fX19_7_17 : sm_FL RX19 7 17 3 0 := ⟨_, _, _, "KnockerFaces$Round", rfl, in_X19, by decide, by decide +kernel, q1109, Or.inl rfl, by decide, by decide⟩
theorem pX19_7_17 : sm_FP RX19 7 17 3 0 (tyX19 3) false := ⟨_, _, _, "KnockerFaces$Round", tyX19, rfl, in_X19, by decide, by decide +kernel, q1109, Or.inl rfl, by decide, by decide, tyX19_ok, nmX19, rfl, rfl, fun h => nomatch h⟩
theorem fX3_174_17 : sm_FL RX3 174 17 3 0 := ⟨_, _, _, "KnockerFaces$Round", rfl, in_X19, by decide, by decide +kernel, q1110, Or.inl rfl, by decide, by decide⟩
theorem pX3_174_17 : sm_FP RX3 174 17 3 0 (tyX19 3) false := ⟨_, _, _, "KnockerFaces$Round", tyX19, rfl, in_X19, by decide, by decide +kernel, q1110, Or.inl rfl, by decide, by decide, tyX19_ok, nmX19, rfl, rfl, fun h => nomatch h⟩
theorem fX0_235_17 : sm_FL RX0 235 17 3 0 := ⟨_, _, _, "KnockerFaces$Round", rfl, in_X19, by decide, by decide +kernel, q1111, Or.inl rfl, by decide, by decide⟩
theorem pX0_235_17 : sm_FP RX0 235 17 3 0 (tyX19 3) false := ⟨_, _, _, "KnockerFaces$Round", tyX19, rfl, in_X19, by decide, by decide +kernel, q1111, Or.inl rfl, by decide, by decide, tyX19_ok, nmX19, rfl, rfl, fun h => nomatch h⟩
theorem fX10_13_10 : sm_FL RX10 13 10 1 2 := ⟨_, _, _, "KnockerFacesModel", rfl, in_X10, by decide, by decide +kernel, q1516, Or.inl rfl, by decide, by decide⟩
theorem pX10_13_10 : sm_FP RX10 13 10 1 2 (tyX10 1) true := ⟨_, _, _, "KnockerFacesModel", tyX10, rfl, in_X10, by decide, by decide +kernel, q1516, Or.inl rfl, by decide, by decide, tyX10_ok, nmX10, rfl, rfl, fun _ => rfl⟩
theorem fX10_166_10 : sm_FL RX10 166 10 2 0 := ⟨_, _, _, "KnockerFacesModel", rfl, in_X10, by decide, by decide +kernel, q1517, Or.inl rfl, by decide, by decide⟩
theorem pX10_166_10 : sm_FP RX10 166 10 2 0 (tyX10 2) false := ⟨_, _, _, "KnockerFacesModel", tyX10, rfl, in_X10, by decide, by decide +kernel, q1517, Or.inl rfl, by decide, by decide, tyX10_ok, nmX10, rfl, rfl, fun h => nomatch h⟩
theorem fX10_17_10 : sm_FL RX10 17 10 3 2 := ⟨_, _, _, "KnockerFacesModel", rfl, in_X10, by decide, by decide +kernel, q1518, Or.inl rfl, by decide, by decide⟩
theorem pX10_17_10 : sm_FP RX10 17 10 3 2 (tyX10 3) true := ⟨_, _, _, "KnockerFacesModel", tyX10, rfl, in_X10, by decide, by decide +kernel, q1518, Or.inl rfl, by decide, by decide, tyX10_ok, nmX10, rfl, rfl, fun _ => rfl⟩
theorem fX10_172_10 : sm_FL RX10 172 10 4 0 := ⟨_, _, _, "KnockerFacesModel", rfl, in_X10, by decide, by decide +kernel, q1519, Or.inl rfl, by decide, by decide⟩
theorem pX10_172_10 : sm_FP RX10 172 10 4 0 (tyX10 4) false := ⟨_, _, _, "KnockerFacesModel", tyX10, rfl, in_X10, by decide, by decide +kernel, q1519, Or.inl rfl, by decide, by decide, tyX10_ok, nmX10, rfl, rfl, fun h => nomatch h⟩
theorem fX10_20_10 : sm_FL RX10 20 10 5 2 := ⟨_, _, _, "KnockerFacesModel", rfl, in_X10, by decide, by decide +kernel, q1520, Or.inl rfl, by decide, by decide⟩
theorem pX10_20_10 : sm_FP RX10 20 10 5 2 (tyX10 5) true := ⟨_, _, _, "KnockerFacesModel", tyX10, rfl, in_X10, by decide, by decide +kernel, q1520, Or.inl rfl, by decide, by decide, tyX10_ok, nmX10, rfl, rfl, fun _ => rfl⟩
theorem fX10_24_10 : sm_FL RX10 24 10 6 2 := ⟨_, _, _, "KnockerFacesModel", rfl, in_X10, by decide, by decide +kernel, q1521, Or.inl rfl, by decide, by decide⟩
theorem pX10_24_10 : sm_FP RX10 24 10 6 2 (tyX10 6) true := ⟨_, _, _, "KnockerFacesModel", tyX10, rfl, in_X10, by decide, by decide +kernel, q1521, Or.inl rfl, by decide, by decide, tyX10_ok, nmX10, rfl, rfl, fun _ => rfl⟩
theorem fX10_27_10 : sm_FL RX10 27 10 7 2 := ⟨_, _, _, "KnockerFacesModel", rfl, in_X10, by decide, by decide +kernel, q1522, Or.inl rfl, by decide, by decide⟩
theorem pX10_27_10 : sm_FP RX10 27 10 7 2 (tyX10 7) true := ⟨_, _, _, "KnockerFacesModel", tyX10, rfl, in_X10, by decide, by decide +kernel, q1522, Or.inl rfl, by decide, by decide, tyX10_ok, nmX10, rfl, rfl, fun _ => rfl⟩
theorem fX10_30_10 : sm_FL RX10 30 10 8 2 := ⟨_, _, _, "KnockerFacesModel", rfl, in_X10, by decide, by decide +kernel, q1523, Or.inl rfl, by decide, by decide⟩
theorem pX10_30_10 : sm_FP RX10 30 10 8 2 (tyX10 8) true := ⟨_, _, _, "KnockerFacesModel", tyX10, rfl, in_X10, by decide, by decide +kernel, q1523, Or.inl rfl, by decide, by decide, tyX10_ok, nmX10, rfl, rfl, fun _ => rfl⟩
theorem fX10_34_10 : sm_FL RX10 34 10 9 2 := ⟨_, _, _, "KnockerFacesModel", rfl, in_X10, by decide, by decide +kernel, q1524, Or.inl rfl, by decide, by decide⟩
theorem pX10_34_10 : sm_FP RX10 34 10 9 2 (tyX10 9) true := ⟨_, _, _, "KnockerFacesModel", tyX10, rfl, in_X10, by decide, by decide +kernel, q1524, Or.inl rfl, by decide, by decide, tyX10_ok, nmX10, rfl, rfl, fun _ => rfl⟩
theorem fX10_181_10 : sm_FL RX10 181 10 10 0 := ⟨_, _, _, "KnockerFacesModel", rfl, in_X10, by decide, by decide +kernel, q1525, Or.inl rfl, by decide, by decide⟩
theorem pX10_181_10 : sm_FP RX10 181 10 10 0 (tyX10 10) false := ⟨_, _, _, "KnockerFacesModel", tyX10, rfl, in_X10, by decide, by decide +kernel, q1525, Or.inl rfl, by decide, by decide, tyX10_ok, nmX10, rfl, rfl, fun h => nomatch h⟩
theorem fX10_206_10 : sm_FL RX10 206 10 11 0 := ⟨_, _, _, "KnockerFacesModel", rfl, in_X10, by decide, by decide +kernel, q1526, Or.inl rfl, by decide, by decide⟩
theorem pX10_206_10 : sm_FP RX10 206 10 11 0 (tyX10 11) false := ⟨_, _, _, "KnockerFacesModel", tyX10, rfl, in_X10, by decide, by decide +kernel, q1526, Or.inl rfl, by decide, by decide, tyX10_ok, nmX10, rfl, rfl, fun h => nomatch h⟩
theorem fX10_230_10 : sm_FL RX10 230 10 12 0 := ⟨_, _, _, "KnockerFacesModel", rfl, in_X10, by decide, by decide +kernel, q1527, Or.inl rfl, by decide, by decide⟩
theorem pX10_230_10 : sm_FP RX10 230 10 12 0 (tyX10 12) false := ⟨_, _, _, "KnockerFacesModel", tyX10, rfl, in_X10, by decide, by decide +kernel, q1527, Or.inl rfl, by decide, by decide, tyX10_ok, nmX10, rfl, rfl, fun h => nomatch h⟩
theorem fX10_203_10 : sm_FL RX10 203 10 13 0 := ⟨_, _, _, "KnockerFacesModel", rfl, in_X10, by decide, by decide +kernel, q1528, Or.inl rfl, by decide, by decide⟩
theorem pX10_203_10 : sm_FP RX10 203 10 13 0 (tyX10 13) false := ⟨_, _, _, "KnockerFacesModel", tyX10, rfl, in_X10, by decide, by decide +kernel, q1528, Or.inl rfl, by decide, by decide, tyX10_ok, nmX10, rfl, rfl, fun h => nomatch h⟩
theorem fX10_209_10 : sm_FL RX10 209 10 14 0 := ⟨_, _, _, "KnockerFacesModel", rfl, in_X10, by decide, by decide +kernel, q1529, Or.inl rfl, by decide, by decide⟩
theorem pX10_209_10 : sm_FP RX10 209 10 14 0 (tyX10 14) false := ⟨_, _, _, "KnockerFacesModel", tyX10, rfl, in_X10, by decide, by decide +kernel, q1529, Or.inl rfl, by decide, by decide, tyX10_ok, nmX10, rfl, rfl, fun h => nomatch h⟩
theorem fX10_212_10 : sm_FL RX10 212 10 15 0 := ⟨_, _, _, "KnockerFacesModel", rfl, in_X10, by decide, by decide +kernel, q1530, Or.inl rfl, by decide, by decide⟩
theorem pX10_212_10 : sm_FP RX10 212 10 15 0 (tyX10 15) false := ⟨_, _, _, "KnockerFacesModel", tyX10, rfl, in_X10, by decide, by decide +kernel, q1530, Or.inl rfl, by decide, by decide, tyX10_ok, nmX10, rfl, rfl, fun h => nomatch h⟩
theorem fX10_215_10 : sm_FL RX10 215 10 16 0 := ⟨_, _, _, "KnockerFacesModel", rfl, in_X10, by decide, by decide +kernel, q1531, Or.inl rfl, by decide, by decide⟩
theorem pX10_215_10 : sm_FP RX10 215 10 16 0 (tyX10 16) false := ⟨_, _, _, "KnockerFacesModel", tyX10, rfl, in_X10, by decide, by decide +kernel, q1531, Or.inl rfl, by decide, by decide, tyX10_ok, nmX10, rfl, rfl, fun h => nomatch h⟩
theorem fX10_37_10 : sm_FL RX10 37 10 17 0 := ⟨_, _, _, "KnockerFacesModel", rfl, in_X10, by decide, by decide +kernel, q1532, Or.inl rfl, by decide, by decide⟩
theorem pX10_37_10 : sm_FP RX10 37 10 17 0 (tyX10 17) false := ⟨_, _, _, "KnockerFacesModel", tyX10, rfl, in_X10, by decide, by decide +kernel, q1532, Or.inl rfl, by decide, by decide, tyX10_ok, nmX10, rfl, rfl, fun h => nomatch h⟩
theorem fX10_233_10 : sm_FL RX10 233 10 18 0 := ⟨_, _, _, "KnockerFacesModel", rfl, in_X10, by decide, by decide +kernel, q1533, Or.inl rfl, by decide, by decide⟩
theorem pX10_233_10 : sm_FP RX10 233 10 18 0 (tyX10 18) false := ⟨_, _, _, "KnockerFacesModel", tyX10, rfl, in_X10, by decide, by decide +kernel, q1533, Or.inl rfl, by decide, by decide, tyX10_ok, nmX10, rfl, rfl, fun h => nomatch h⟩
theorem fX10_236_10 : sm_FL RX10 236 10 19 0 := ⟨_, _, _, "KnockerFacesModel", rfl, in_X10, by decide, by decide +kernel, q1534, Or.inl rfl, by decide, by decide⟩
theorem pX10_236_10 : sm_FP RX10 236 10 19 0 (tyX10 19) false := ⟨_, _, _, "KnockerFacesModel", tyX10, rfl, in_X10, by decide, by decide +kernel, q1534, Or.inl rfl, by decide, by decide, tyX10_ok, nmX10, rfl, rfl, fun h => nomatch h⟩
theorem fX10_239_10 : sm_FL RX10 239 10 20 0 := ⟨_, _, _, "KnockerFacesModel", rfl, in_X10, by decide, by decide +kernel, q1535, Or.inl rfl, by decide, by decide⟩
theorem pX10_239_10 : sm_FP RX10 239 10 20 0 (tyX10 20) false := ⟨_, _, _, "KnockerFacesModel", tyX10, rfl, in_X10, by decide, by decide +kernel, q1535, Or.inl rfl, by decide, by decide, tyX10_ok, nmX10, rfl, rfl, fun h => nomatch h⟩
theorem fX10_40_10 : sm_FL RX10 40 10 21 2 := ⟨_, _, _, "KnockerFacesModel", rfl, in_X10, by decide, by decide +kernel, q1536, Or.inl rfl, by decide, by decide⟩
theorem pX10_40_10 : sm_FP RX10 40 10 21 2 (tyX10 21) true := ⟨_, _, _, "KnockerFacesModel", tyX10, rfl, in_X10, by decide, by decide +kernel, q1536, Or.inl rfl, by decide, by decide, tyX10_ok, nmX10, rfl, rfl, fun _ => rfl⟩
theorem fX10_43_10 : sm_FL RX10 43 10 22 2 := ⟨_, _, _, "KnockerFacesModel", rfl, in_X10, by decide, by decide +kernel, q1537, Or.inl rfl, by decide, by decide⟩
theorem pX10_43_10 : sm_FP RX10 43 10 22 2 (tyX10 22) true := ⟨_, _, _, "KnockerFacesModel", tyX10, rfl, in_X10, by decide, by decide +kernel, q1537, Or.inl rfl, by decide, by decide, tyX10_ok, nmX10, rfl, rfl, fun _ => rfl⟩
theorem fX10_46_10 : sm_FL RX10 46 10 23 2 := ⟨_, _, _, "KnockerFacesModel", rfl, in_X10, by decide, by decide +kernel, q1538, Or.inl rfl, by decide, by decide⟩
theorem pX10_46_10 : sm_FP RX10 46 10 23 2 (tyX10 23) true := ⟨_, _, _, "KnockerFacesModel", tyX10, rfl, in_X10, by decide, by decide +kernel, q1538, Or.inl rfl, by decide, by decide, tyX10_ok, nmX10, rfl, rfl, fun _ => rfl⟩
theorem fX10_49_10 : sm_FL RX10 49 10 24 2 := ⟨_, _, _, "KnockerFacesModel", rfl, in_X10, by decide, by decide +kernel, q1539, Or.inl rfl, by decide, by decide⟩
theorem pX10_49_10 : sm_FP RX10 49 10 24 2 (tyX10 24) true := ⟨_, _, _, "KnockerFacesModel", tyX10, rfl, in_X10, by decide, by decide +kernel, q1539, Or.inl rfl, by decide, by decide, tyX10_ok, nmX10, rfl, rfl, fun _ => rfl⟩
theorem fX10_52_10 : sm_FL RX10 52 10 25 2 := ⟨_, _, _, "KnockerFacesModel", rfl, in_X10, by decide, by decide +kernel, q1540, Or.inl rfl, by decide, by decide⟩
theorem pX10_52_10 : sm_FP RX10 52 10 25 2 (tyX10 25) true := ⟨_, _, _, "KnockerFacesModel", tyX10, rfl, in_X10, by decide, by decide +kernel, q1540, Or.inl rfl, by decide, by decide, tyX10_ok, nmX10, rfl, rfl, fun _ => rfl⟩
theorem fX10_55_10 : sm_FL RX10 55 10 26 2 := ⟨_, _, _, "KnockerFacesModel", rfl, in_X10, by decide, by decide +kernel, q1541, Or.inl rfl, by decide, by decide⟩
theorem pX10_55_10 : sm_FP RX10 55 10 26 2 (tyX10 26) true := ⟨_, _, _, "KnockerFacesModel", tyX10, rfl, in_X10, by decide, by decide +kernel, q1541, Or.inl rfl, by decide, by decide, tyX10_ok, nmX10, rfl, rfl, fun _ => rfl⟩
theorem fX10_58_10 : sm_FL RX10 58 10 27 2 := ⟨_, _, _, "KnockerFacesModel", rfl, in_X10, by decide, by decide +kernel, q1542, Or.inl rfl, by decide, by decide⟩
theorem pX10_58_10 : sm_FP RX10 58 10 27 2 (tyX10 27) true := ⟨_, _, _, "KnockerFacesModel", tyX10, rfl, in_X10, by decide, by decide +kernel, q1542, Or.inl rfl, by decide, by decide, tyX10_ok, nmX10, rfl, rfl, fun _ => rfl⟩
theorem fX10_61_10 : sm_FL RX10 61 10 28 2 := ⟨_, _, _, "KnockerFacesModel", rfl, in_X10, by decide, by decide +kernel, q1543, Or.inl rfl, by decide, by decide⟩
theorem pX10_61_10 : sm_FP RX10 61 10 28 2 (tyX10 28) true := ⟨_, _, _, "KnockerFacesModel", tyX10, rfl, in_X10, by decide, by decide +kernel, q1543, Or.inl rfl, by decide, by decide, tyX10_ok, nmX10, rfl, rfl, fun _ => rfl⟩
theorem fX10_64_10 : sm_FL RX10 64 10 29 2 := ⟨_, _, _, "KnockerFacesModel", rfl, in_X10, by decide, by decide +kernel, q1544, Or.inl rfl, by decide, by decide⟩
theorem pX10_64_10 : sm_FP RX10 64 10 29 2 (tyX10 29) true := ⟨_, _, _, "KnockerFacesModel", tyX10, rfl, in_X10, by decide, by decide +kernel, q1544, Or.inl rfl, by decide, by decide, tyX10_ok, nmX10, rfl, rfl, fun _ => rfl⟩
theorem fX10_67_10 : sm_FL RX10 67 10 30 2 := ⟨_, _, _, "KnockerFacesModel", rfl, in_X10, by decide, by decide +kernel, q1545, Or.inl rfl, by decide, by decide⟩
theorem pX10_67_10 : sm_FP RX10 67 10 30 2 (tyX10 30) true := ⟨_, _, _, "KnockerFacesModel", tyX10, rfl, in_X10, by decide, by decide +kernel, q1545, Or.inl rfl, by decide, by decide, tyX10_ok, nmX10, rfl, rfl, fun _ => rfl⟩
theorem fX10_70_10 : sm_FL RX10 70 10 31 2 := ⟨_, _, _, "KnockerFacesModel", rfl, in_X10, by decide, by decide +kernel, q1546, Or.inl rfl, by decide, by decide⟩
theorem pX10_70_10 : sm_FP RX10 70 10 31 2 (tyX10 31) true := ⟨_, _, _, "KnockerFacesModel", tyX10, rfl, in_X10, by decide, by decide +kernel, q1546, Or.inl rfl, by decide, by decide, tyX10_ok, nmX10, rfl, rfl, fun _ => rfl⟩
theorem fX10_73_10 : sm_FL RX10 73 10 32 2 := ⟨_, _, _, "KnockerFacesModel", rfl, in_X10, by decide, by decide +kernel, q1547, Or.inl rfl, by decide, by decide⟩
theorem pX10_73_10 : sm_FP RX10 73 10 32 2 (tyX10 32) true := ⟨_, _, _, "KnockerFacesModel", tyX10, rfl, in_X10, by decide, by decide +kernel, q1547, Or.inl rfl, by decide, by decide, tyX10_ok, nmX10, rfl, rfl, fun _ => rfl⟩
theorem fX10_76_10 : sm_FL RX10 76 10 33 2 := ⟨_, _, _, "KnockerFacesModel", rfl, in_X10, by decide, by decide +kernel, q1548, Or.inl rfl, by decide, by decide⟩
theorem pX10_76_10 : sm_FP RX10 76 10 33 2 (tyX10 33) true := ⟨_, _, _, "KnockerFacesModel", tyX10, rfl, in_X10, by decide, by decide +kernel, q1548, Or.inl rfl, by decide, by decide, tyX10_ok, nmX10, rfl, rfl, fun _ => rfl⟩
theorem fX10_79_10 : sm_FL RX10 79 10 34 2 := ⟨_, _, _, "KnockerFacesModel", rfl, in_X10, by decide, by decide +kernel, q1549, Or.inl rfl, by decide, by decide⟩
theorem pX10_79_10 : sm_FP RX10 79 10 34 2 (tyX10 34) true := ⟨_, _, _, "KnockerFacesModel", tyX10, rfl, in_X10, by decide, by decide +kernel, q1549, Or.inl rfl, by decide, by decide, tyX10_ok, nmX10, rfl, rfl, fun _ => rfl⟩
theorem fX10_82_10 : sm_FL RX10 82 10 35 2 := ⟨_, _, _, "KnockerFacesModel", rfl, in_X10, by decide, by decide +kernel, q1550, Or.inl rfl, by decide, by decide⟩
theorem pX10_82_10 : sm_FP RX10 82 10 35 2 (tyX10 35) true := ⟨_, _, _, "KnockerFacesModel", tyX10, rfl, in_X10, by decide, by decide +kernel, q1550, Or.inl rfl, by decide, by decide, tyX10_ok, nmX10, rfl, rfl, fun _ => rfl⟩
theorem fX10_85_10 : sm_FL RX10 85 10 36 2 := ⟨_, _, _, "KnockerFacesModel", rfl, in_X10, by decide, by decide +kernel, q1551, Or.inl rfl, by decide, by decide⟩
theorem pX10_85_10 : sm_FP RX10 85 10 36 2 (tyX10 36) true := ⟨_, _, _, "KnockerFacesModel", tyX10, rfl, in_X10, by decide, by decide +kernel, q1551, Or.inl rfl, by decide, by decide, tyX10_ok, nmX10, rfl, rfl, fun _ => rfl⟩
theorem fX10_242_10 : sm_FL RX10 242 10 37 0 := ⟨_, _, _, "KnockerFacesModel", rfl, in_X10, by decide, by decide +kernel, q1552, Or.inl rfl, by decide, by decide⟩
theorem pX10_242_10 : sm_FP RX10 242 10 37 0 (tyX10 37) false := ⟨_, _, _, "KnockerFacesModel", tyX10, rfl, in_X10, by decide, by decide +kernel, q1552, Or.inl rfl, by decide, by decide, tyX10_ok, nmX10, rfl, rfl, fun h => nomatch h⟩
theorem fX10_88_10 : sm_FL RX10 88 10 38 2 := ⟨_, _, _, "KnockerFacesModel", rfl, in_X10, by decide, by decide +kernel, q1553, Or.inl rfl, by decide, by decide⟩
theorem pX10_88_10 : sm_FP RX10 88 10 38 2 (tyX10 38) true := ⟨_, _, _, "KnockerFacesModel", tyX10, rfl, in_X10, by decide, by decide +kernel, q1553, Or.inl rfl, by decide, by decide, tyX10_ok, nmX10, rfl, rfl, fun _ => rfl⟩
theorem fX10_92_10 : sm_FL RX10 92 10 39 2 := ⟨_, _, _, "KnockerFacesModel", rfl, in_X10, by decide, by decide +kernel, q1554, Or.inl rfl, by decide, by decide⟩
theorem pX10_92_10 : sm_FP RX10 92 10 39 2 (tyX10 39) true := ⟨_, _, _, "KnockerFacesModel", tyX10, rfl, in_X10, by decide, by decide +kernel, q1554, Or.inl rfl, by decide, by decide, tyX10_ok, nmX10, rfl, rfl, fun _ => rfl⟩
theorem fX10_95_10 : sm_FL RX10 95 10 40 2 := ⟨_, _, _, "KnockerFacesModel", rfl, in_X10, by decide, by decide +kernel, q1555, Or.inl rfl, by decide, by decide⟩
theorem pX10_95_10 : sm_FP RX10 95 10 40 2 (tyX10 40) true := ⟨_, _, _, "KnockerFacesModel", tyX10, rfl, in_X10, by decide, by decide +kernel, q1555, Or.inl rfl, by decide, by decide, tyX10_ok, nmX10, rfl, rfl, fun _ => rfl⟩
theorem fX10_98_10 : sm_FL RX10 98 10 41 2 := ⟨_, _, _, "KnockerFacesModel", rfl, in_X10, by decide, by decide +kernel, q1556, Or.inl rfl, by decide, by decide⟩
theorem pX10_98_10 : sm_FP RX10 98 10 41 2 (tyX10 41) true := ⟨_, _, _, "KnockerFacesModel", tyX10, rfl, in_X10, by decide, by decide +kernel, q1556, Or.inl rfl, by decide, by decide, tyX10_ok, nmX10, rfl, rfl, fun _ => rfl⟩
theorem fX10_101_10 : sm_FL RX10 101 10 42 2 := ⟨_, _, _, "KnockerFacesModel", rfl, in_X10, by decide, by decide +kernel, q1557, Or.inl rfl, by decide, by decide⟩
theorem pX10_101_10 : sm_FP RX10 101 10 42 2 (tyX10 42) true := ⟨_, _, _, "KnockerFacesModel", tyX10, rfl, in_X10, by decide, by decide +kernel, q1557, Or.inl rfl, by decide, by decide, tyX10_ok, nmX10, rfl, rfl, fun _ => rfl⟩
theorem fX10_245_10 : sm_FL RX10 245 10 43 0 := ⟨_, _, _, "KnockerFacesModel", rfl, in_X10, by decide, by decide +kernel, q1558, Or.inl rfl, by decide, by decide⟩
theorem pX10_245_10 : sm_FP RX10 245 10 43 0 (tyX10 43) false := ⟨_, _, _, "KnockerFacesModel", tyX10, rfl, in_X10, by decide, by decide +kernel, q1558, Or.inl rfl, by decide, by decide, tyX10_ok, nmX10, rfl, rfl, fun h => nomatch h⟩
theorem fX10_104_10 : sm_FL RX10 104 10 44 2 := ⟨_, _, _, "KnockerFacesModel", rfl, in_X10, by decide, by decide +kernel, q1559, Or.inl rfl, by decide, by decide⟩
theorem pX10_104_10 : sm_FP RX10 104 10 44 2 (tyX10 44) true := ⟨_, _, _, "KnockerFacesModel", tyX10, rfl, in_X10, by decide, by decide +kernel, q1559, Or.inl rfl, by decide, by decide, tyX10_ok, nmX10, rfl, rfl, fun _ => rfl⟩
theorem fX10_107_10 : sm_FL RX10 107 10 45 2 := ⟨_, _, _, "KnockerFacesModel", rfl, in_X10, by decide, by decide +kernel, q1560, Or.inl rfl, by decide, by decide⟩
theorem pX10_107_10 : sm_FP RX10 107 10 45 2 (tyX10 45) true := ⟨_, _, _, "KnockerFacesModel", tyX10, rfl, in_X10, by decide, by decide +kernel, q1560, Or.inl rfl, by decide, by decide, tyX10_ok, nmX10, rfl, rfl, fun _ => rfl⟩
theorem fX10_110_10 : sm_FL RX10 110 10 46 2 := ⟨_, _, _, "KnockerFacesModel", rfl, in_X10, by decide, by decide +kernel, q1561, Or.inl rfl, by decide, by decide⟩
theorem pX10_110_10 : sm_FP RX10 110 10 46 2 (tyX10 46) true := ⟨_, _, _, "KnockerFacesModel", tyX10, rfl, in_X10, by decide, by decide +kernel, q1561, Or.inl rfl, by decide, by decide, tyX10_ok, nmX10, rfl, rfl, fun _ => rfl⟩
theorem fX10_296_10 : sm_FL RX10 296 10 47 0 := ⟨_, _, _, "KnockerFacesModel", rfl, in_X10, by decide, by decide +kernel, q1562, Or.inl rfl, by decide, by decide⟩
theorem pX10_296_10 : sm_FP RX10 296 10 47 0 (tyX10 47) false := ⟨_, _, _, "KnockerFacesModel", tyX10, rfl, in_X10, by decide, by decide +kernel, q1562, Or.inl rfl, by decide, by decide, tyX10_ok, nmX10, rfl, rfl, fun h => nomatch h⟩
theorem fX10_113_10 : sm_FL RX10 113 10 48 2 := ⟨_, _, _, "KnockerFacesModel", rfl, in_X10, by decide, by decide +kernel, q1563, Or.inl rfl, by decide, by decide⟩
theorem pX10_113_10 : sm_FP RX10 113 10 48 2 (tyX10 48) true := ⟨_, _, _, "KnockerFacesModel", tyX10, rfl, in_X10, by decide, by decide +kernel, q1563, Or.inl rfl, by decide, by decide, tyX10_ok, nmX10, rfl, rfl, fun _ => rfl⟩
theorem fX10_116_10 : sm_FL RX10 116 10 49 2 := ⟨_, _, _, "KnockerFacesModel", rfl, in_X10, by decide, by decide +kernel, q1564, Or.inl rfl, by decide, by decide⟩
theorem pX10_116_10 : sm_FP RX10 116 10 49 2 (tyX10 49) true := ⟨_, _, _, "KnockerFacesModel", tyX10, rfl, in_X10, by decide, by decide +kernel, q1564, Or.inl rfl, by decide, by decide, tyX10_ok, nmX10, rfl, rfl, fun _ => rfl⟩
theorem fX10_309_10 : sm_FL RX10 309 10 50 0 := ⟨_, _, _, "KnockerFacesModel", rfl, in_X10, by decide, by decide +kernel, q1565, Or.inl rfl, by decide, by decide⟩
theorem pX10_309_10 : sm_FP RX10 309 10 50 0 (tyX10 50) false := ⟨_, _, _, "KnockerFacesModel", tyX10, rfl, in_X10, by decide, by decide +kernel, q1565, Or.inl rfl, by decide, by decide, tyX10_ok, nmX10, rfl, rfl, fun h => nomatch h⟩
theorem fX10_119_10 : sm_FL RX10 119 10 51 2 := ⟨_, _, _, "KnockerFacesModel", rfl, in_X10, by decide, by decide +kernel, q1566, Or.inl rfl, by decide, by decide⟩
theorem pX10_119_10 : sm_FP RX10 119 10 51 2 (tyX10 51) true := ⟨_, _, _, "KnockerFacesModel", tyX10, rfl, in_X10, by decide, by decide +kernel, q1566, Or.inl rfl, by decide, by decide, tyX10_ok, nmX10, rfl, rfl, fun _ => rfl⟩
theorem fX10_122_10 : sm_FL RX10 122 10 52 2 := ⟨_, _, _, "KnockerFacesModel", rfl, in_X10, by decide, by decide +kernel, q1567, Or.inl rfl, by decide, by decide⟩
theorem pX10_122_10 : sm_FP RX10 122 10 52 2 (tyX10 52) true := ⟨_, _, _, "KnockerFacesModel", tyX10, rfl, in_X10, by decide, by decide +kernel, q1567, Or.inl rfl, by decide, by decide, tyX10_ok, nmX10, rfl, rfl, fun _ => rfl⟩
theorem fX10_317_10 : sm_FL RX10 317 10 53 0 := ⟨_, _, _, "KnockerFacesModel", rfl, in_X10, by decide, by decide +kernel, q1568, Or.inl rfl, by decide, by decide⟩
theorem pX10_317_10 : sm_FP RX10 317 10 53 0 (tyX10 53) false := ⟨_, _, _, "KnockerFacesModel", tyX10, rfl, in_X10, by decide, by decide +kernel, q1568, Or.inl rfl, by decide, by decide, tyX10_ok, nmX10, rfl, rfl, fun h => nomatch h⟩
theorem fX10_320_10 : sm_FL RX10 320 10 54 0 := ⟨_, _, _, "KnockerFacesModel", rfl, in_X10, by decide, by decide +kernel, q1569, Or.inl rfl, by decide, by decide⟩
theorem pX10_320_10 : sm_FP RX10 320 10 54 0 (tyX10 54) false := ⟨_, _, _, "KnockerFacesModel", tyX10, rfl, in_X10, by decide, by decide +kernel, q1569, Or.inl rfl, by decide, by decide, tyX10_ok, nmX10, rfl, rfl, fun h => nomatch h⟩
theorem fX10_125_10 : sm_FL RX10 125 10 55 2 := ⟨_, _, _, "KnockerFacesModel", rfl, in_X10, by decide, by decide +kernel, q1570, Or.inl rfl, by decide, by decide⟩
theorem pX10_125_10 : sm_FP RX10 125 10 55 2 (tyX10 55) true := ⟨_, _, _, "KnockerFacesModel", tyX10, rfl, in_X10, by decide, by decide +kernel, q1570, Or.inl rfl, by decide, by decide, tyX10_ok, nmX10, rfl, rfl, fun _ => rfl⟩
theorem fX10_251_10 : sm_FL RX10 251 10 56 0 := ⟨_, _, _, "KnockerFacesModel", rfl, in_X10, by decide, by decide +kernel, q1571, Or.inl rfl, by decide, by decide⟩
theorem pX10_251_10 : sm_FP RX10 251 10 56 0 (tyX10 56) false := ⟨_, _, _, "KnockerFacesModel", tyX10, rfl, in_X10, by decide, by decide +kernel, q1571, Or.inl rfl, by decide, by decide, tyX10_ok, nmX10, rfl, rfl, fun h => nomatch h⟩
theorem fX10_128_10 : sm_FL RX10 128 10 57 2 := ⟨_, _, _, "KnockerFacesModel", rfl, in_X10, by decide, by decide +kernel, q1572, Or.inl rfl, by decide, by decide⟩
theorem pX10_128_10 : sm_FP RX10 128 10 57 2 (tyX10 57) true := ⟨_, _, _, "KnockerFacesModel", tyX10, rfl, in_X10, by decide, by decide +kernel, q1572, Or.inl rfl, by decide, by decide, tyX10_ok, nmX10, rfl, rfl, fun _ => rfl⟩
theorem fX10_131_10 : sm_FL RX10 131 10 58 2 := ⟨_, _, _, "KnockerFacesModel", rfl, in_X10, by decide, by decide +kernel, q1573, Or.inl rfl, by decide, by decide⟩
theorem pX10_131_10 : sm_FP RX10 131 10 58 2 (tyX10 58) true := ⟨_, _, _, "KnockerFacesModel", tyX10, rfl, in_X10, by decide, by decide +kernel, q1573, Or.inl rfl, by decide, by decide, tyX10_ok, nmX10, rfl, rfl, fun _ => rfl⟩
theorem fX10_134_10 : sm_FL RX10 134 10 59 2 := ⟨_, _, _, "KnockerFacesModel", rfl, in_X10, by decide, by decide +kernel, q1574, Or.inl rfl, by decide, by decide⟩
theorem pX10_134_10 : sm_FP RX10 134 10 59 2 (tyX10 59) true := ⟨_, _, _, "KnockerFacesModel", tyX10, rfl, in_X10, by decide, by decide +kernel, q1574, Or.inl rfl, by decide, by decide, tyX10_ok, nmX10, rfl, rfl, fun _ => rfl⟩
theorem fX10_254_10 : sm_FL RX10 254 10 60 0 := ⟨_, _, _, "KnockerFacesModel", rfl, in_X10, by decide, by decide +kernel, q1575, Or.inl rfl, by decide, by decide⟩
theorem pX10_254_10 : sm_FP RX10 254 10 60 0 (tyX10 60) false := ⟨_, _, _, "KnockerFacesModel", tyX10, rfl, in_X10, by decide, by decide +kernel, q1575, Or.inl rfl, by decide, by decide, tyX10_ok, nmX10, rfl, rfl, fun h => nomatch h⟩
theorem fX10_137_10 : sm_FL RX10 137 10 61 2 := ⟨_, _, _, "KnockerFacesModel", rfl, in_X10, by decide, by decide +kernel, q1576, Or.inl rfl, by decide, by decide⟩
theorem pX10_137_10 : sm_FP RX10 137 10 61 2 (tyX10 61) true := ⟨_, _, _, "KnockerFacesModel", tyX10, rfl, in_X10, by decide, by decide +kernel, q1576, Or.inl rfl, by decide, by decide, tyX10_ok, nmX10, rfl, rfl, fun _ => rfl⟩
theorem fX10_140_10 : sm_FL RX10 140 10 62 2 := ⟨_, _, _, "KnockerFacesModel", rfl, in_X10, by decide, by decide +kernel, q1577, Or.inl rfl, by decide, by decide⟩
theorem pX10_140_10 : sm_FP RX10 140 10 62 2 (tyX10 62) true := ⟨_, _, _, "KnockerFacesModel", tyX10, rfl, in_X10, by decide, by decide +kernel, q1577, Or.inl rfl, by decide, by decide, tyX10_ok, nmX10, rfl, rfl, fun _ => rfl⟩
theorem fX10_143_10 : sm_FL RX10 143 10 63 2 := ⟨_, _, _, "KnockerFacesModel", rfl, in_X10, by decide, by decide +kernel, q1578, Or.inl rfl, by decide, by decide⟩
theorem pX10_143_10 : sm_FP RX10 143 10 63 2 (tyX10 63) true := ⟨_, _, _, "KnockerFacesModel", tyX10, rfl, in_X10, by decide, by decide +kernel, q1578, Or.inl rfl, by decide, by decide, tyX10_ok, nmX10, rfl, rfl, fun _ => rfl⟩
theorem fX10_146_10 : sm_FL RX10 146 10 64 2 := ⟨_, _, _, "KnockerFacesModel", rfl, in_X10, by decide, by decide +kernel, q1579, Or.inl rfl, by decide, by decide⟩
theorem pX10_146_10 : sm_FP RX10 146 10 64 2 (tyX10 64) true := ⟨_, _, _, "KnockerFacesModel", tyX10, rfl, in_X10, by decide, by decide +kernel, q1579, Or.inl rfl, by decide, by decide, tyX10_ok, nmX10, rfl, rfl, fun _ => rfl⟩
theorem fX10_149_10 : sm_FL RX10 149 10 65 2 := ⟨_, _, _, "KnockerFacesModel", rfl, in_X10, by decide, by decide +kernel, q1580, Or.inl rfl, by decide, by decide⟩
theorem pX10_149_10 : sm_FP RX10 149 10 65 2 (tyX10 65) true := ⟨_, _, _, "KnockerFacesModel", tyX10, rfl, in_X10, by decide, by decide +kernel, q1580, Or.inl rfl, by decide, by decide, tyX10_ok, nmX10, rfl, rfl, fun _ => rfl⟩
