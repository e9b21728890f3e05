/-! methods, and the places at which they are called and fields are read (printed by src/gen_sites.py) -/
set_option maxRecDepth 100000
abbrev zJ0_init : mY := (yJ0_init, cJ0_init, 1, none, [])
theorem ms_J0_init : mSz zJ0_init 0 := ⟨q78, (by rw [mCd_code (z := zJ0_init) rfl]; exact q204), by decide +kernel, by decide +kernel, by decide⟩
abbrev zJ1_init : mY := (yJ1_init, cJ1_init, 1, none, [])
theorem ms_J1_init : mSz zJ1_init 0 := ⟨q79, (by rw [mCd_code (z := zJ1_init) rfl]; exact q201), by decide +kernel, by decide +kernel, by decide⟩
abbrev zJ1_addLast : mY := (yJ1_addLast, cJ1_addLast, 3, none, [])
theorem ms_J1_addLast : mSz zJ1_addLast 1 := ⟨q79, (by rw [mCd_code (z := zJ1_addLast) rfl]; exact q409), by decide +kernel, by decide +kernel, by decide⟩
abbrev zJ1_inc : mY := (yJ1_inc, cJ1_inc, 2, some .int, [])
theorem ms_J1_inc : mSz zJ1_inc 2 := ⟨q79, (by rw [mCd_code (z := zJ1_inc) rfl]; exact q412), by decide +kernel, by decide +kernel, by decide⟩
abbrev zJ1_grow : mY := (yJ1_grow, cJ1_grow, 9, none, [])
theorem ms_J1_grow : mSz zJ1_grow 1 := ⟨q79, (by rw [mCd_code (z := zJ1_grow) rfl]; exact q416), by decide +kernel, by decide +kernel, by decide⟩
abbrev zJ1_newCapacity : mY := (yJ1_newCapacity, cJ1_newCapacity, 5, some .int, [])
theorem ms_J1_newCapacity : mSz zJ1_newCapacity 2 := ⟨q79, (by rw [mCd_code (z := zJ1_newCapacity) rfl]; exact q421), by decide +kernel, by decide +kernel, by decide⟩
abbrev zJ1_isEmpty : mY := (yJ1_isEmpty, cJ1_isEmpty, 1, some .boolean, [])
theorem ms_J1_isEmpty : mSz zJ1_isEmpty 0 := ⟨q79, (by rw [mCd_code (z := zJ1_isEmpty) rfl]; exact q1201), by decide +kernel, by decide +kernel, by decide⟩
abbrev zJ1_pollFirst : mY := (yJ1_pollFirst, cJ1_pollFirst, 4, some (FieldType.object "java/lang/Object"), [])
theorem ms_J1_pollFirst : mSz zJ1_pollFirst 0 := ⟨q79, (by rw [mCd_code (z := zJ1_pollFirst) rfl]; exact q1205), by decide +kernel, by decide +kernel, by decide⟩
abbrev zJ1_elementAt : mY := (yJ1_elementAt, cJ1_elementAt, 2, some (FieldType.object "java/lang/Object"), [])
theorem ms_J1_elementAt : mSz zJ1_elementAt 2 := ⟨q79, (by rw [mCd_code (z := zJ1_elementAt) rfl]; exact q1208), by decide +kernel, by decide +kernel, by decide⟩
abbrev zJ1_size : mY := (yJ1_size, cJ1_size, 1, some .int, [])
theorem ms_J1_size : mSz zJ1_size 0 := ⟨q79, (by rw [mCd_code (z := zJ1_size) rfl]; exact q1665), by decide +kernel, by decide +kernel, by decide⟩
abbrev zJ1_sub : mY := (yJ1_sub, cJ1_sub, 3, some .int, [])
theorem ms_J1_sub : mSz zJ1_sub 3 := ⟨q79, (by rw [mCd_code (z := zJ1_sub) rfl]; exact q1668), by decide +kernel, by decide +kernel, by decide⟩
abbrev zJ1_pollLast : mY := (yJ1_pollLast, cJ1_pollLast, 4, some (FieldType.object "java/lang/Object"), [])
theorem ms_J1_pollLast : mSz zJ1_pollLast 0 := ⟨q79, (by rw [mCd_code (z := zJ1_pollLast) rfl]; exact q1708), by decide +kernel, by decide +kernel, by decide⟩
abbrev zJ1_dec : mY := (yJ1_dec, cJ1_dec, 2, some .int, [])
theorem ms_J1_dec : mSz zJ1_dec 2 := ⟨q79, (by rw [mCd_code (z := zJ1_dec) rfl]; exact q1711), by decide +kernel, by decide +kernel, by decide⟩
abbrev zJ10_copyOf : mY := (yJ10_copyOf, cJ10_copyOf, 2, some (FieldType.array (FieldType.object "java/lang/Object")), [])
theorem ms_J10_copyOf : mSz zJ10_copyOf 2 := ⟨q93, (by rw [mCd_code (z := zJ10_copyOf) rfl]; exact q500), by decide +kernel, by decide +kernel, by decide⟩
abbrev zJ10_copyOf_2 : mY := (yJ10_copyOf_2, cJ10_copyOf_2, 4, some (FieldType.array (FieldType.object "java/lang/Object")), [])
theorem ms_J10_copyOf_2 : mSz zJ10_copyOf_2 3 := ⟨q93, (by rw [mCd_code (z := zJ10_copyOf_2) rfl]; exact q532), by decide +kernel, by decide +kernel, by decide⟩
abbrev zJ10_copyOf_3 : mY := (yJ10_copyOf_3, cJ10_copyOf_3, 3, some (FieldType.array FieldType.byte), [])
theorem ms_J10_copyOf_3 : mSz zJ10_copyOf_3 2 := ⟨q93, (by rw [mCd_code (z := zJ10_copyOf_3) rfl]; exact q760), by decide +kernel, by decide +kernel, by decide⟩
abbrev zJ10_copyOfRange : mY := (yJ10_copyOfRange, cJ10_copyOfRange, 3, some (FieldType.array FieldType.byte), [])
theorem ms_J10_copyOfRange : mSz zJ10_copyOfRange 3 := ⟨q93, (by rw [mCd_code (z := zJ10_copyOfRange) rfl]; exact q894), by decide +kernel, by decide +kernel, by decide⟩
abbrev zJ10_copyOfRangeByte : mY := (yJ10_copyOfRangeByte, cJ10_copyOfRangeByte, 5, some (FieldType.array FieldType.byte), [])
theorem ms_J10_copyOfRangeByte : mSz zJ10_copyOfRangeByte 3 := ⟨q93, (by rw [mCd_code (z := zJ10_copyOfRangeByte) rfl]; exact q897), by decide +kernel, by decide +kernel, by decide⟩
abbrev zJ10_checkLength : mY := (yJ10_checkLength, cJ10_checkLength, 2, none, [])
theorem ms_J10_checkLength : mSz zJ10_checkLength 2 := ⟨q93, (by rw [mCd_code (z := zJ10_checkLength) rfl]; exact q900), by decide +kernel, by decide +kernel, by decide⟩
abbrev zJ10_fill : mY := (yJ10_fill, cJ10_fill, 5, none, [])
theorem ms_J10_fill : mSz zJ10_fill 4 := ⟨q93, (by rw [mCd_code (z := zJ10_fill) rfl]; exact q962), by decide +kernel, by decide +kernel, by decide⟩
abbrev zJ10_rangeCheck : mY := (yJ10_rangeCheck, cJ10_rangeCheck, 3, none, [])
theorem ms_J10_rangeCheck : mSz zJ10_rangeCheck 3 := ⟨q93, (by rw [mCd_code (z := zJ10_rangeCheck) rfl]; exact q965), by decide +kernel, by decide +kernel, by decide⟩
abbrev zJ11_min : mY := (yJ11_min, cJ11_min, 2, some .int, [])
theorem ms_J11_min : mSz zJ11_min 2 := ⟨q94, (by rw [mCd_code (z := zJ11_min) rfl]; exact q537), by decide +kernel, by decide +kernel, by decide⟩
abbrev zJ11_max : mY := (yJ11_max, cJ11_max, 2, some .int, [])
theorem ms_J11_max : mSz zJ11_max 2 := ⟨q94, (by rw [mCd_code (z := zJ11_max) rfl]; exact q606), by decide +kernel, by decide +kernel, by decide⟩
abbrev zJ11_max_2 : mY := (yJ11_max_2, cJ11_max_2, 2, some .float, [])
theorem ms_J11_max_2 : mSz zJ11_max_2 2 := ⟨q94, (by rw [mCd_code (z := zJ11_max_2) rfl]; exact q1509), by decide +kernel, by decide +kernel, by decide⟩
abbrev zJ12_init : mY := (yJ12_init, cJ12_init, 2, none, [])
theorem ms_J12_init : mSz zJ12_init 1 := ⟨q97, (by rw [mCd_code (z := zJ12_init) rfl]; exact q918), by decide +kernel, by decide +kernel, by decide⟩
abbrev zJ12_init_2 : mY := (yJ12_init_2, cJ12_init_2, 1, none, [])
theorem ms_J12_init_2 : mSz zJ12_init_2 0 := ⟨q97, (by rw [mCd_code (z := zJ12_init_2) rfl]; exact q1106), by decide +kernel, by decide +kernel, by decide⟩
abbrev zJ13_init : mY := (yJ13_init, cJ13_init, 1, none, [])
theorem ms_J13_init : mSz zJ13_init 0 := ⟨q103, (by rw [mCd_code (z := zJ13_init) rfl]; exact q1224), by decide +kernel, by decide +kernel, by decide⟩
abbrev zJ14_init : mY := (yJ14_init, cJ14_init, 2, none, [])
theorem ms_J14_init : mSz zJ14_init 1 := ⟨q104, (by rw [mCd_code (z := zJ14_init) rfl]; exact q948), by decide +kernel, by decide +kernel, by decide⟩
abbrev zJ14_init_2 : mY := (yJ14_init_2, cJ14_init_2, 1, none, [])
theorem ms_J14_init_2 : mSz zJ14_init_2 0 := ⟨q104, (by rw [mCd_code (z := zJ14_init_2) rfl]; exact q1260), by decide +kernel, by decide +kernel, by decide⟩
abbrev zJ15_init : mY := (yJ15_init, cJ15_init, 2, none, [])
theorem ms_J15_init : mSz zJ15_init 1 := ⟨q105, (by rw [mCd_code (z := zJ15_init) rfl]; exact q982), by decide +kernel, by decide +kernel, by decide⟩
abbrev zJ15_init_2 : mY := (yJ15_init_2, cJ15_init_2, 2, none, [])
theorem ms_J15_init_2 : mSz zJ15_init_2 1 := ⟨q105, (by rw [mCd_code (z := zJ15_init_2) rfl]; exact q1233), by decide +kernel, by decide +kernel, by decide⟩
abbrev zJ16_init : mY := (yJ16_init, cJ16_init, 2, none, [])
theorem ms_J16_init : mSz zJ16_init 1 := ⟨q106, (by rw [mCd_code (z := zJ16_init) rfl]; exact q1274), by decide +kernel, by decide +kernel, by decide⟩
abbrev zJ17_init : mY := (yJ17_init, cJ17_init, 1, none, [])
theorem ms_J17_init : mSz zJ17_init 0 := ⟨q107, (by rw [mCd_code (z := zJ17_init) rfl]; exact q1353), by decide +kernel, by decide +kernel, by decide⟩
abbrev zJ18_floatToIntBits : mY := (yJ18_floatToIntBits, cJ18_floatToIntBits, 1, some .int, [])
theorem ms_J18_floatToIntBits : mSz zJ18_floatToIntBits 1 := ⟨q109, (by rw [mCd_code (z := zJ18_floatToIntBits) rfl]; exact q1377), by decide +kernel, by decide +kernel, by decide⟩
abbrev zJ18_isNaN : mY := (yJ18_isNaN, cJ18_isNaN, 1, some .boolean, [])
theorem ms_J18_isNaN : mSz zJ18_isNaN 1 := ⟨q109, (by rw [mCd_code (z := zJ18_isNaN) rfl]; exact q1380), by decide +kernel, by decide +kernel, by decide⟩
abbrev zJ19_init : mY := (yJ19_init, cJ19_init, 2, none, [])
theorem ms_J19_init : mSz zJ19_init 1 := ⟨q110, (by rw [mCd_code (z := zJ19_init) rfl]; exact q726), by decide +kernel, by decide +kernel, by decide⟩
abbrev zJ2_init : mY := (yJ2_init, cJ2_init, 2, none, [])
theorem ms_J2_init : mSz zJ2_init 1 := ⟨q84, (by rw [mCd_code (z := zJ2_init) rfl]; exact q351), by decide +kernel, by decide +kernel, by decide⟩
abbrev zJ2_setLength : mY := (yJ2_setLength, cJ2_setLength, 2, none, [])
theorem ms_J2_setLength : mSz zJ2_setLength 1 := ⟨q84, (by rw [mCd_code (z := zJ2_setLength) rfl]; exact q721), by decide +kernel, by decide +kernel, by decide⟩
abbrev zJ2_append : mY := (yJ2_append, cJ2_append, 3, some (FieldType.object "java/lang/AbstractStringBuilder"), [])
theorem ms_J2_append : mSz zJ2_append 1 := ⟨q84, (by rw [mCd_code (z := zJ2_append) rfl]; exact q736), by decide +kernel, by decide +kernel, by decide⟩
abbrev zJ2_appendNull : mY := (yJ2_appendNull, cJ2_appendNull, 3, some (FieldType.object "java/lang/AbstractStringBuilder"), [])
theorem ms_J2_appendNull : mSz zJ2_appendNull 0 := ⟨q84, (by rw [mCd_code (z := zJ2_appendNull) rfl]; exact q740), by decide +kernel, by decide +kernel, by decide⟩
abbrev zJ2_ensureCapacityInternal : mY := (yJ2_ensureCapacityInternal, cJ2_ensureCapacityInternal, 3, none, [])
theorem ms_J2_ensureCapacityInternal : mSz zJ2_ensureCapacityInternal 1 := ⟨q84, (by rw [mCd_code (z := zJ2_ensureCapacityInternal) rfl]; exact q744), by decide +kernel, by decide +kernel, by decide⟩
abbrev zJ2_newCapacity : mY := (yJ2_newCapacity, cJ2_newCapacity, 6, some .int, [])
theorem ms_J2_newCapacity : mSz zJ2_newCapacity 1 := ⟨q84, (by rw [mCd_code (z := zJ2_newCapacity) rfl]; exact q748), by decide +kernel, by decide +kernel, by decide⟩
abbrev zJ2_isLatin1 : mY := (yJ2_isLatin1, cJ2_isLatin1, 1, some .boolean, [])
theorem ms_J2_isLatin1 : mSz zJ2_isLatin1 0 := ⟨q84, (by rw [mCd_code (z := zJ2_isLatin1) rfl]; exact q770), by decide +kernel, by decide +kernel, by decide⟩
abbrev zJ2_putStringAt : mY := (yJ2_putStringAt, cJ2_putStringAt, 3, none, [])
theorem ms_J2_putStringAt : mSz zJ2_putStringAt 2 := ⟨q84, (by rw [mCd_code (z := zJ2_putStringAt) rfl]; exact q809), by decide +kernel, by decide +kernel, by decide⟩
abbrev zJ2_inflateIfNeededFor : mY := (yJ2_inflateIfNeededFor, cJ2_inflateIfNeededFor, 2, none, [])
theorem ms_J2_inflateIfNeededFor : mSz zJ2_inflateIfNeededFor 1 := ⟨q84, (by rw [mCd_code (z := zJ2_inflateIfNeededFor) rfl]; exact q813), by decide +kernel, by decide +kernel, by decide⟩
abbrev zJ2_inflate : mY := (yJ2_inflate, cJ2_inflate, 2, none, [])
theorem ms_J2_inflate : mSz zJ2_inflate 0 := ⟨q84, (by rw [mCd_code (z := zJ2_inflate) rfl]; exact q818), by decide +kernel, by decide +kernel, by decide⟩
abbrev zJ2_append_2 : mY := (yJ2_append_2, cJ2_append_2, 4, some (FieldType.object "java/lang/AbstractStringBuilder"), [])
theorem ms_J2_append_2 : mSz zJ2_append_2 1 := ⟨q84, (by rw [mCd_code (z := zJ2_append_2) rfl]; exact q846), by decide +kernel, by decide +kernel, by decide⟩
abbrev zJ2_getValue : mY := (yJ2_getValue, cJ2_getValue, 1, some (FieldType.array FieldType.byte), [])
theorem ms_J2_getValue : mSz zJ2_getValue 0 := ⟨q84, (by rw [mCd_code (z := zJ2_getValue) rfl]; exact q882), by decide +kernel, by decide +kernel, by decide⟩
abbrev zJ2_length : mY := (yJ2_length, cJ2_length, 1, some .int, [])
theorem ms_J2_length : mSz zJ2_length 0 := ⟨q84, (by rw [mCd_code (z := zJ2_length) rfl]; exact q890), by decide +kernel, by decide +kernel, by decide⟩
abbrev zJ2_append_3 : mY := (yJ2_append_3, cJ2_append_3, 2, some (FieldType.object "java/lang/AbstractStringBuilder"), [])
theorem ms_J2_append_3 : mSz zJ2_append_3 1 := ⟨q84, (by rw [mCd_code (z := zJ2_append_3) rfl]; exact q1031), by decide +kernel, by decide +kernel, by decide⟩
abbrev zJ2_charAt : mY := (yJ2_charAt, cJ2_charAt, 5, some .char, [])
theorem ms_J2_charAt : mSz zJ2_charAt 1 := ⟨q84, (by rw [mCd_code (z := zJ2_charAt) rfl]; exact q1526), by decide +kernel, by decide +kernel, by decide⟩
abbrev zJ20_newLength : mY := (yJ20_newLength, cJ20_newLength, 4, some .int, [])
theorem ms_J20_newLength : mSz zJ20_newLength 3 := ⟨q111, (by rw [mCd_code (z := zJ20_newLength) rfl]; exact q751), by decide +kernel, by decide +kernel, by decide⟩
abbrev zJ20_hugeLength : mY := (yJ20_hugeLength, cJ20_hugeLength, 3, some .int, [])
theorem ms_J20_hugeLength : mSz zJ20_hugeLength 2 := ⟨q111, (by rw [mCd_code (z := zJ20_hugeLength) rfl]; exact q756), by decide +kernel, by decide +kernel, by decide⟩
abbrev zJ21_checkFromToIndex : mY := (yJ21_checkFromToIndex, cJ21_checkFromToIndex, 4, some .int, [])
theorem ms_J21_checkFromToIndex : mSz zJ21_checkFromToIndex 4 := ⟨q112, (by rw [mCd_code (z := zJ21_checkFromToIndex) rfl]; exact q787), by decide +kernel, by decide +kernel, by decide⟩
abbrev zJ21_checkFromIndexSize : mY := (yJ21_checkFromIndexSize, cJ21_checkFromIndexSize, 4, some .int, [])
theorem ms_J21_checkFromIndexSize : mSz zJ21_checkFromIndexSize 4 := ⟨q112, (by rw [mCd_code (z := zJ21_checkFromIndexSize) rfl]; exact q833), by decide +kernel, by decide +kernel, by decide⟩
abbrev zJ21_checkIndex : mY := (yJ21_checkIndex, cJ21_checkIndex, 3, some .int, [])
theorem ms_J21_checkIndex : mSz zJ21_checkIndex 3 := ⟨q112, (by rw [mCd_code (z := zJ21_checkIndex) rfl]; exact q1017), by decide +kernel, by decide +kernel, by decide⟩
abbrev zJ22_inflate : mY := (yJ22_inflate, cJ22_inflate, 5, none, [])
theorem ms_J22_inflate : mSz zJ22_inflate 5 := ⟨q113, (by rw [mCd_code (z := zJ22_inflate) rfl]; exact q821), by decide +kernel, by decide +kernel, by decide⟩
abbrev zJ22_fillNull : mY := (yJ22_fillNull, cJ22_fillNull, 3, none, [])
theorem ms_J22_fillNull : mSz zJ22_fillNull 3 := ⟨q113, (by rw [mCd_code (z := zJ22_fillNull) rfl]; exact q959), by decide +kernel, by decide +kernel, by decide⟩
abbrev zJ22_charAt : mY := (yJ22_charAt, cJ22_charAt, 2, some .char, [])
theorem ms_J22_charAt : mSz zJ22_charAt 2 := ⟨q113, (by rw [mCd_code (z := zJ22_charAt) rfl]; exact q1011), by decide +kernel, by decide +kernel, by decide⟩
abbrev zJ22_canEncode : mY := (yJ22_canEncode, cJ22_canEncode, 1, some .boolean, [])
theorem ms_J22_canEncode : mSz zJ22_canEncode 1 := ⟨q113, (by rw [mCd_code (z := zJ22_canEncode) rfl]; exact q1034), by decide +kernel, by decide +kernel, by decide⟩
abbrev zJ22_indexOf : mY := (yJ22_indexOf, cJ22_indexOf, 4, some .int, [])
theorem ms_J22_indexOf : mSz zJ22_indexOf 4 := ⟨q113, (by rw [mCd_code (z := zJ22_indexOf) rfl]; exact q1577), by decide +kernel, by decide +kernel, by decide⟩
abbrev zJ22_canEncode_2 : mY := (yJ22_canEncode_2, cJ22_canEncode_2, 1, some .boolean, [])
theorem ms_J22_canEncode_2 : mSz zJ22_canEncode_2 1 := ⟨q113, (by rw [mCd_code (z := zJ22_canEncode_2) rfl]; exact q1580), by decide +kernel, by decide +kernel, by decide⟩
abbrev zJ22_indexOfChar : mY := (yJ22_indexOfChar, cJ22_indexOfChar, 6, some .int, [])
theorem ms_J22_indexOfChar : mSz zJ22_indexOfChar 4 := ⟨q113, (by rw [mCd_code (z := zJ22_indexOfChar) rfl]; exact q1585), by decide +kernel, by decide +kernel, by decide⟩
abbrev zJ23_stringSize : mY := (yJ23_stringSize, cJ23_stringSize, 4, some .int, [])
theorem ms_J23_stringSize : mSz zJ23_stringSize 1 := ⟨q114, (by rw [mCd_code (z := zJ23_stringSize) rfl]; exact q849), by decide +kernel, by decide +kernel, by decide⟩
abbrev zJ23_getChars : mY := (yJ23_getChars, cJ23_getChars, 7, some .int, [])
theorem ms_J23_getChars : mSz zJ23_getChars 3 := ⟨q114, (by rw [mCd_code (z := zJ23_getChars) rfl]; exact q852), by decide +kernel, by decide +kernel, by decide⟩
abbrev zJ24_isValidCodePoint : mY := (yJ24_isValidCodePoint, cJ24_isValidCodePoint, 2, some .boolean, [])
theorem ms_J24_isValidCodePoint : mSz zJ24_isValidCodePoint 1 := ⟨q115, (by rw [mCd_code (z := zJ24_isValidCodePoint) rfl]; exact q1603), by decide +kernel, by decide +kernel, by decide⟩
abbrev zJ24_highSurrogate : mY := (yJ24_highSurrogate, cJ24_highSurrogate, 1, some .char, [])
theorem ms_J24_highSurrogate : mSz zJ24_highSurrogate 1 := ⟨q115, (by rw [mCd_code (z := zJ24_highSurrogate) rfl]; exact q1606), by decide +kernel, by decide +kernel, by decide⟩
abbrev zJ24_lowSurrogate : mY := (yJ24_lowSurrogate, cJ24_lowSurrogate, 1, some .char, [])
theorem ms_J24_lowSurrogate : mSz zJ24_lowSurrogate 1 := ⟨q115, (by rw [mCd_code (z := zJ24_lowSurrogate) rfl]; exact q1610), by decide +kernel, by decide +kernel, by decide⟩
abbrev zJ25_init : mY := (yJ25_init, cJ25_init, 2, none, [])
theorem ms_J25_init : mSz zJ25_init 1 := ⟨q117, (by rw [mCd_code (z := zJ25_init) rfl]; exact q1675), by decide +kernel, by decide +kernel, by decide⟩
abbrev zJ25_init_2 : mY := (yJ25_init_2, cJ25_init_2, 1, none, [])
theorem ms_J25_init_2 : mSz zJ25_init_2 0 := ⟨q117, (by rw [mCd_code (z := zJ25_init_2) rfl]; exact q1696), by decide +kernel, by decide +kernel, by decide⟩
abbrev zJ26_init : mY := (yJ26_init, cJ26_init, 1, none, [])
theorem ms_J26_init : mSz zJ26_init 0 := ⟨q2168, (by rw [mCd_code (z := zJ26_init) rfl]; exact q125), by decide +kernel, by decide +kernel, by decide⟩
abbrev zJ3_init : mY := (yJ3_init, cJ3_init, 1, none, [])
theorem ms_J3_init : mSz zJ3_init 0 := ⟨q85, (by rw [mCd_code (z := zJ3_init) rfl]; exact q348), by decide +kernel, by decide +kernel, by decide⟩
abbrev zJ3_setLength : mY := (yJ3_setLength, cJ3_setLength, 2, none, [])
theorem ms_J3_setLength : mSz zJ3_setLength 1 := ⟨q85, (by rw [mCd_code (z := zJ3_setLength) rfl]; exact q718), by decide +kernel, by decide +kernel, by decide⟩
abbrev zJ3_append : mY := (yJ3_append, cJ3_append, 2, some (FieldType.object "java/lang/StringBuilder"), [])
theorem ms_J3_append : mSz zJ3_append 1 := ⟨q85, (by rw [mCd_code (z := zJ3_append) rfl]; exact q733), by decide +kernel, by decide +kernel, by decide⟩
abbrev zJ3_append_2 : mY := (yJ3_append_2, cJ3_append_2, 2, some (FieldType.object "java/lang/StringBuilder"), [])
theorem ms_J3_append_2 : mSz zJ3_append_2 1 := ⟨q85, (by rw [mCd_code (z := zJ3_append_2) rfl]; exact q843), by decide +kernel, by decide +kernel, by decide⟩
abbrev zJ3_toString : mY := (yJ3_toString, cJ3_toString, 1, some (FieldType.object "java/lang/String"), [])
theorem ms_J3_toString : mSz zJ3_toString 0 := ⟨q85, (by rw [mCd_code (z := zJ3_toString) rfl]; exact q868), by decide +kernel, by decide +kernel, by decide⟩
abbrev zJ3_length : mY := (yJ3_length, cJ3_length, 1, some .int, [])
theorem ms_J3_length : mSz zJ3_length 0 := ⟨q85, (by rw [mCd_code (z := zJ3_length) rfl]; exact q888), by decide +kernel, by decide +kernel, by decide⟩
abbrev zJ3_append_3 : mY := (yJ3_append_3, cJ3_append_3, 2, some (FieldType.object "java/lang/StringBuilder"), [])
theorem ms_J3_append_3 : mSz zJ3_append_3 1 := ⟨q85, (by rw [mCd_code (z := zJ3_append_3) rfl]; exact q1028), by decide +kernel, by decide +kernel, by decide⟩
abbrev zJ3_charAt : mY := (yJ3_charAt, cJ3_charAt, 2, some .char, [])
theorem ms_J3_charAt : mSz zJ3_charAt 1 := ⟨q85, (by rw [mCd_code (z := zJ3_charAt) rfl]; exact q1523), by decide +kernel, by decide +kernel, by decide⟩
abbrev zJ4_checkBoundsBeginEnd : mY := (yJ4_checkBoundsBeginEnd, cJ4_checkBoundsBeginEnd, 3, none, [])
theorem ms_J4_checkBoundsBeginEnd : mSz zJ4_checkBoundsBeginEnd 3 := ⟨q86, (by rw [mCd_code (z := zJ4_checkBoundsBeginEnd) rfl]; exact q782), by decide +kernel, by decide +kernel, by decide⟩
abbrev zJ4_length : mY := (yJ4_length, cJ4_length, 1, some .int, [])
theorem ms_J4_length : mSz zJ4_length 0 := ⟨q86, (by rw [mCd_code (z := zJ4_length) rfl]; exact q800), by decide +kernel, by decide +kernel, by decide⟩
abbrev zJ4_coder : mY := (yJ4_coder, cJ4_coder, 1, some .byte, [])
theorem ms_J4_coder : mSz zJ4_coder 0 := ⟨q86, (by rw [mCd_code (z := zJ4_coder) rfl]; exact q804), by decide +kernel, by decide +kernel, by decide⟩
abbrev zJ4_checkBoundsOffCount : mY := (yJ4_checkBoundsOffCount, cJ4_checkBoundsOffCount, 3, some .int, [])
theorem ms_J4_checkBoundsOffCount : mSz zJ4_checkBoundsOffCount 3 := ⟨q86, (by rw [mCd_code (z := zJ4_checkBoundsOffCount) rfl]; exact q830), by decide +kernel, by decide +kernel, by decide⟩
abbrev zJ4_getBytes : mY := (yJ4_getBytes, cJ4_getBytes, 4, none, [])
theorem ms_J4_getBytes : mSz zJ4_getBytes 3 := ⟨q86, (by rw [mCd_code (z := zJ4_getBytes) rfl]; exact q837), by decide +kernel, by decide +kernel, by decide⟩
abbrev zJ4_init : mY := (yJ4_init, cJ4_init, 2, none, [])
theorem ms_J4_init : mSz zJ4_init 1 := ⟨q86, (by rw [mCd_code (z := zJ4_init) rfl]; exact q873), by decide +kernel, by decide +kernel, by decide⟩
abbrev zJ4_init_2 : mY := (yJ4_init_2, cJ4_init_2, 5, none, [])
theorem ms_J4_init_2 : mSz zJ4_init_2 2 := ⟨q86, (by rw [mCd_code (z := zJ4_init_2) rfl]; exact q876), by decide +kernel, by decide +kernel, by decide⟩
abbrev zJ4_charAt : mY := (yJ4_charAt, cJ4_charAt, 2, some .char, [])
theorem ms_J4_charAt : mSz zJ4_charAt 1 := ⟨q86, (by rw [mCd_code (z := zJ4_charAt) rfl]; exact q1004), by decide +kernel, by decide +kernel, by decide⟩
abbrev zJ4_isLatin1 : mY := (yJ4_isLatin1, cJ4_isLatin1, 1, some .boolean, [])
theorem ms_J4_isLatin1 : mSz zJ4_isLatin1 0 := ⟨q86, (by rw [mCd_code (z := zJ4_isLatin1) rfl]; exact q1008), by decide +kernel, by decide +kernel, by decide⟩
abbrev zJ4_checkIndex : mY := (yJ4_checkIndex, cJ4_checkIndex, 2, none, [])
theorem ms_J4_checkIndex : mSz zJ4_checkIndex 2 := ⟨q86, (by rw [mCd_code (z := zJ4_checkIndex) rfl]; exact q1014), by decide +kernel, by decide +kernel, by decide⟩
abbrev zJ4_indexOf : mY := (yJ4_indexOf, cJ4_indexOf, 2, some .int, [])
theorem ms_J4_indexOf : mSz zJ4_indexOf 1 := ⟨q86, (by rw [mCd_code (z := zJ4_indexOf) rfl]; exact q1569), by decide +kernel, by decide +kernel, by decide⟩
abbrev zJ4_indexOf_2 : mY := (yJ4_indexOf_2, cJ4_indexOf_2, 3, some .int, [])
theorem ms_J4_indexOf_2 : mSz zJ4_indexOf_2 2 := ⟨q86, (by rw [mCd_code (z := zJ4_indexOf_2) rfl]; exact q1573), by decide +kernel, by decide +kernel, by decide⟩
abbrev zJ5_newBytesFor : mY := (yJ5_newBytesFor, cJ5_newBytesFor, 1, some (FieldType.array FieldType.byte), [])
theorem ms_J5_newBytesFor : mSz zJ5_newBytesFor 1 := ⟨q87, (by rw [mCd_code (z := zJ5_newBytesFor) rfl]; exact q357), by decide +kernel, by decide +kernel, by decide⟩
abbrev zJ5_newBytesLength : mY := (yJ5_newBytesLength, cJ5_newBytesLength, 1, some .int, [])
theorem ms_J5_newBytesLength : mSz zJ5_newBytesLength 1 := ⟨q87, (by rw [mCd_code (z := zJ5_newBytesLength) rfl]; exact q360), by decide +kernel, by decide +kernel, by decide⟩
abbrev zJ5_putCharsAt : mY := (yJ5_putCharsAt, cJ5_putCharsAt, 7, some .int, [])
theorem ms_J5_putCharsAt : mSz zJ5_putCharsAt 6 := ⟨q87, (by rw [mCd_code (z := zJ5_putCharsAt) rfl]; exact q773), by decide +kernel, by decide +kernel, by decide⟩
abbrev zJ5_checkBoundsBeginEnd : mY := (yJ5_checkBoundsBeginEnd, cJ5_checkBoundsBeginEnd, 3, none, [])
theorem ms_J5_checkBoundsBeginEnd : mSz zJ5_checkBoundsBeginEnd 3 := ⟨q87, (by rw [mCd_code (z := zJ5_checkBoundsBeginEnd) rfl]; exact q776), by decide +kernel, by decide +kernel, by decide⟩
abbrev zJ5_length : mY := (yJ5_length, cJ5_length, 1, some .int, [])
theorem ms_J5_length : mSz zJ5_length 1 := ⟨q87, (by rw [mCd_code (z := zJ5_length) rfl]; exact q779), by decide +kernel, by decide +kernel, by decide⟩
abbrev zJ5_putChar : mY := (yJ5_putChar, cJ5_putChar, 3, none, [])
theorem ms_J5_putChar : mSz zJ5_putChar 3 := ⟨q87, (by rw [mCd_code (z := zJ5_putChar) rfl]; exact q790), by decide +kernel, by decide +kernel, by decide⟩
abbrev zJ5_inflate : mY := (yJ5_inflate, cJ5_inflate, 6, none, [])
theorem ms_J5_inflate : mSz zJ5_inflate 5 := ⟨q87, (by rw [mCd_code (z := zJ5_inflate) rfl]; exact q824), by decide +kernel, by decide +kernel, by decide⟩
abbrev zJ5_checkBoundsOffCount : mY := (yJ5_checkBoundsOffCount, cJ5_checkBoundsOffCount, 3, none, [])
theorem ms_J5_checkBoundsOffCount : mSz zJ5_checkBoundsOffCount 3 := ⟨q87, (by rw [mCd_code (z := zJ5_checkBoundsOffCount) rfl]; exact q827), by decide +kernel, by decide +kernel, by decide⟩
abbrev zJ5_getChars : mY := (yJ5_getChars, cJ5_getChars, 5, some .int, [])
theorem ms_J5_getChars : mSz zJ5_getChars 4 := ⟨q87, (by rw [mCd_code (z := zJ5_getChars) rfl]; exact q859), by decide +kernel, by decide +kernel, by decide⟩
abbrev zJ5_getChars_2 : mY := (yJ5_getChars_2, cJ5_getChars_2, 7, some .int, [])
theorem ms_J5_getChars_2 : mSz zJ5_getChars_2 3 := ⟨q87, (by rw [mCd_code (z := zJ5_getChars_2) rfl]; exact q862), by decide +kernel, by decide +kernel, by decide⟩
abbrev zJ5_compress : mY := (yJ5_compress, cJ5_compress, 6, some (FieldType.array FieldType.byte), [])
theorem ms_J5_compress : mSz zJ5_compress 3 := ⟨q87, (by rw [mCd_code (z := zJ5_compress) rfl]; exact q924), by decide +kernel, by decide +kernel, by decide⟩
abbrev zJ5_compress_2 : mY := (yJ5_compress_2, cJ5_compress_2, 7, some .int, [])
theorem ms_J5_compress_2 : mSz zJ5_compress_2 5 := ⟨q87, (by rw [mCd_code (z := zJ5_compress_2) rfl]; exact q927), by decide +kernel, by decide +kernel, by decide⟩
abbrev zJ5_getChar : mY := (yJ5_getChar, cJ5_getChar, 2, some .char, [])
theorem ms_J5_getChar : mSz zJ5_getChar 2 := ⟨q87, (by rw [mCd_code (z := zJ5_getChar) rfl]; exact q930), by decide +kernel, by decide +kernel, by decide⟩
abbrev zJ5_coderFromArrayLen : mY := (yJ5_coderFromArrayLen, cJ5_coderFromArrayLen, 2, some .byte, [])
theorem ms_J5_coderFromArrayLen : mSz zJ5_coderFromArrayLen 2 := ⟨q87, (by rw [mCd_code (z := zJ5_coderFromArrayLen) rfl]; exact q934), by decide +kernel, by decide +kernel, by decide⟩
abbrev zJ5_fillNull : mY := (yJ5_fillNull, cJ5_fillNull, 3, none, [])
theorem ms_J5_fillNull : mSz zJ5_fillNull 3 := ⟨q87, (by rw [mCd_code (z := zJ5_fillNull) rfl]; exact q994), by decide +kernel, by decide +kernel, by decide⟩
abbrev zJ5_charAt : mY := (yJ5_charAt, cJ5_charAt, 2, some .char, [])
theorem ms_J5_charAt : mSz zJ5_charAt 2 := ⟨q87, (by rw [mCd_code (z := zJ5_charAt) rfl]; exact q1020), by decide +kernel, by decide +kernel, by decide⟩
abbrev zJ5_checkIndex : mY := (yJ5_checkIndex, cJ5_checkIndex, 2, none, [])
theorem ms_J5_checkIndex : mSz zJ5_checkIndex 2 := ⟨q87, (by rw [mCd_code (z := zJ5_checkIndex) rfl]; exact q1023), by decide +kernel, by decide +kernel, by decide⟩
abbrev zJ5_putCharSB : mY := (yJ5_putCharSB, cJ5_putCharSB, 3, none, [])
theorem ms_J5_putCharSB : mSz zJ5_putCharSB 3 := ⟨q87, (by rw [mCd_code (z := zJ5_putCharSB) rfl]; exact q1037), by decide +kernel, by decide +kernel, by decide⟩
abbrev zJ5_indexOf : mY := (yJ5_indexOf, cJ5_indexOf, 4, some .int, [])
theorem ms_J5_indexOf : mSz zJ5_indexOf 4 := ⟨q87, (by rw [mCd_code (z := zJ5_indexOf) rfl]; exact q1588), by decide +kernel, by decide +kernel, by decide⟩
abbrev zJ5_indexOfChar : mY := (yJ5_indexOfChar, cJ5_indexOfChar, 4, some .int, [])
theorem ms_J5_indexOfChar : mSz zJ5_indexOfChar 4 := ⟨q87, (by rw [mCd_code (z := zJ5_indexOfChar) rfl]; exact q1594), by decide +kernel, by decide +kernel, by decide⟩
abbrev zJ5_indexOfCharUnsafe : mY := (yJ5_indexOfCharUnsafe, cJ5_indexOfCharUnsafe, 5, some .int, [])
theorem ms_J5_indexOfCharUnsafe : mSz zJ5_indexOfCharUnsafe 4 := ⟨q87, (by rw [mCd_code (z := zJ5_indexOfCharUnsafe) rfl]; exact q1597), by decide +kernel, by decide +kernel, by decide⟩
abbrev zJ5_indexOfSupplementary : mY := (yJ5_indexOfSupplementary, cJ5_indexOfSupplementary, 7, some .int, [])
theorem ms_J5_indexOfSupplementary : mSz zJ5_indexOfSupplementary 4 := ⟨q87, (by rw [mCd_code (z := zJ5_indexOfSupplementary) rfl]; exact q1600), by decide +kernel, by decide +kernel, by decide⟩
abbrev zJ6_init : mY := (yJ6_init, cJ6_init, 1, none, [])
theorem ms_J6_init : mSz zJ6_init 0 := ⟨q89, (by rw [mCd_code (z := zJ6_init) rfl]; exact q446), by decide +kernel, by decide +kernel, by decide⟩
abbrev zJ6_init_2 : mY := (yJ6_init_2, cJ6_init_2, 2, none, [])
theorem ms_J6_init_2 : mSz zJ6_init_2 1 := ⟨q89, (by rw [mCd_code (z := zJ6_init_2) rfl]; exact q483), by decide +kernel, by decide +kernel, by decide⟩
abbrev zJ7_init : mY := (yJ7_init, cJ7_init, 2, none, [])
theorem ms_J7_init : mSz zJ7_init 1 := ⟨q90, (by rw [mCd_code (z := zJ7_init) rfl]; exact q480), by decide +kernel, by decide +kernel, by decide⟩
abbrev zJ7_init_2 : mY := (yJ7_init_2, cJ7_init_2, 1, none, [])
theorem ms_J7_init_2 : mSz zJ7_init_2 0 := ⟨q90, (by rw [mCd_code (z := zJ7_init_2) rfl]; exact q1112), by decide +kernel, by decide +kernel, by decide⟩
abbrev zJ8_init : mY := (yJ8_init, cJ8_init, 2, none, [])
theorem ms_J8_init : mSz zJ8_init 1 := ⟨q91, (by rw [mCd_code (z := zJ8_init) rfl]; exact q477), by decide +kernel, by decide +kernel, by decide⟩
abbrev zJ8_init_2 : mY := (yJ8_init_2, cJ8_init_2, 1, none, [])
theorem ms_J8_init_2 : mSz zJ8_init_2 0 := ⟨q91, (by rw [mCd_code (z := zJ8_init_2) rfl]; exact q1109), by decide +kernel, by decide +kernel, by decide⟩
abbrev zJ9_init : mY := (yJ9_init, cJ9_init, 2, none, [])
theorem ms_J9_init : mSz zJ9_init 1 := ⟨q92, (by rw [mCd_code (z := zJ9_init) rfl]; exact q474), by decide +kernel, by decide +kernel, by decide⟩
abbrev zJ9_init_2 : mY := (yJ9_init_2, cJ9_init_2, 1, none, [])
theorem ms_J9_init_2 : mSz zJ9_init_2 0 := ⟨q92, (by rw [mCd_code (z := zJ9_init_2) rfl]; exact q1544), by decide +kernel, by decide +kernel, by decide⟩
abbrev zX0_good : mY := (yX0_good, cX0_good, 5, some .int, [((0), (10), (13), (13)), ((0), (10), (17), (15))])
theorem ms_X0_good : mSz zX0_good 4 := ⟨q75, (by rw [mCd_codeWith (z := zX0_good) (by decide)]; exact q1088), by decide +kernel, by decide +kernel, by decide⟩
abbrev zX0_put : mY := (yX0_put, cX0_put, 5, some .int, [((0), (10), (13), (20)), ((0), (10), (17), (13)), ((0), (10), (21), (15))])
theorem ms_X0_put : mSz zX0_put 4 := ⟨q75, (by rw [mCd_codeWith (z := zX0_put) (by decide)]; exact q1230), by decide +kernel, by decide +kernel, by decide⟩
abbrev zX0_takeOut : mY := (yX0_takeOut, cX0_takeOut, 4, some .int, [((0), (9), (12), (20)), ((0), (9), (15), (15))])
theorem ms_X0_takeOut : mSz zX0_takeOut 3 := ⟨q75, (by rw [mCd_codeWith (z := zX0_takeOut) (by decide)]; exact q1296), by decide +kernel, by decide +kernel, by decide⟩
abbrev zX0_rate : mY := (yX0_rate, cX0_rate, 5, some .int, [((0), (10), (13), (13)), ((0), (10), (17), (15))])
theorem ms_X0_rate : mSz zX0_rate 4 := ⟨q75, (by rw [mCd_codeWith (z := zX0_rate) (by decide)]; exact q1307), by decide +kernel, by decide +kernel, by decide⟩
abbrev zX0_goodOf : mY := (yX0_goodOf, cX0_goodOf, 5, some .int, [((0), (10), (13), (20)), ((0), (10), (17), (13))])
theorem ms_X0_goodOf : mSz zX0_goodOf 4 := ⟨q75, (by rw [mCd_codeWith (z := zX0_goodOf) (by decide)]; exact q1319), by decide +kernel, by decide +kernel, by decide⟩
abbrev zX0_chestAt : mY := (yX0_chestAt, cX0_chestAt, 5, some .int, [((0), (10), (13), (13)), ((0), (10), (17), (35))])
theorem ms_X0_chestAt : mSz zX0_chestAt 4 := ⟨q75, (by rw [mCd_codeWith (z := zX0_chestAt) (by decide)]; exact q1332), by decide +kernel, by decide +kernel, by decide⟩
abbrev zX0_tithe : mY := (yX0_tithe, cX0_tithe, 4, some .int, [((0), (9), (12), (20))])
theorem ms_X0_tithe : mSz zX0_tithe 3 := ⟨q75, (by rw [mCd_codeWith (z := zX0_tithe) (by decide)]; exact q1359), by decide +kernel, by decide +kernel, by decide⟩
abbrev zX0_rateBits : mY := (yX0_rateBits, cX0_rateBits, 4, some .int, [((0), (9), (12), (13))])
theorem ms_X0_rateBits : mSz zX0_rateBits 3 := ⟨q75, (by rw [mCd_codeWith (z := zX0_rateBits) (by decide)]; exact q1370), by decide +kernel, by decide +kernel, by decide⟩
abbrev zX0_add : mY := (yX0_add, cX0_add, 6, some .int, [((0), (12), (15), (13)), ((0), (12), (19), (15))])
theorem ms_X0_add : mSz zX0_add 5 := ⟨q75, (by rw [mCd_codeWith (z := zX0_add) (by decide)]; exact q1387), by decide +kernel, by decide +kernel, by decide⟩
abbrev zX0_insert : mY := (yX0_insert, cX0_insert, 7, some .int, [((0), (14), (17), (20)), ((0), (14), (21), (13)), ((0), (14), (25), (15))])
theorem ms_X0_insert : mSz zX0_insert 6 := ⟨q75, (by rw [mCd_codeWith (z := zX0_insert) (by decide)]; exact q1410), by decide +kernel, by decide +kernel, by decide⟩
abbrev zX0_remove : mY := (yX0_remove, cX0_remove, 4, some .int, [((0), (9), (12), (20))])
theorem ms_X0_remove : mSz zX0_remove 3 := ⟨q75, (by rw [mCd_codeWith (z := zX0_remove) (by decide)]; exact q1417), by decide +kernel, by decide +kernel, by decide⟩
abbrev zX0_clauseOf : mY := (yX0_clauseOf, cX0_clauseOf, 5, some .int, [((0), (10), (13), (20)), ((0), (10), (17), (13))])
theorem ms_X0_clauseOf : mSz zX0_clauseOf 4 := ⟨q75, (by rw [mCd_codeWith (z := zX0_clauseOf) (by decide)]; exact q1432), by decide +kernel, by decide +kernel, by decide⟩
abbrev zX0_wrong : mY := (yX0_wrong, cX0_wrong, 4, some .int, [((0), (9), (12), (13))])
theorem ms_X0_wrong : mSz zX0_wrong 3 := ⟨q75, (by rw [mCd_codeWith (z := zX0_wrong) (by decide)]; exact q1439), by decide +kernel, by decide +kernel, by decide⟩
abbrev zX0_goodAt : mY := (yX0_goodAt, cX0_goodAt, 5, some .int, [((0), (10), (13), (20)), ((0), (10), (17), (35))])
theorem ms_X0_goodAt : mSz zX0_goodAt 4 := ⟨q75, (by rw [mCd_codeWith (z := zX0_goodAt) (by decide)]; exact q1446), by decide +kernel, by decide +kernel, by decide⟩
abbrev zX0_ploughAt : mY := (yX0_ploughAt, cX0_ploughAt, 5, some .int, [((0), (10), (13), (20)), ((0), (10), (17), (35))])
theorem ms_X0_ploughAt : mSz zX0_ploughAt 4 := ⟨q75, (by rw [mCd_codeWith (z := zX0_ploughAt) (by decide)]; exact q1453), by decide +kernel, by decide +kernel, by decide⟩
abbrev zX0_pathOf : mY := (yX0_pathOf, cX0_pathOf, 5, some .int, [((0), (10), (13), (35)), ((0), (10), (17), (13))])
theorem ms_X0_pathOf : mSz zX0_pathOf 4 := ⟨q75, (by rw [mCd_codeWith (z := zX0_pathOf) (by decide)]; exact q1460), by decide +kernel, by decide +kernel, by decide⟩
abbrev zX0_goesBy : mY := (yX0_goesBy, cX0_goesBy, 5, some .int, [((0), (17), (20), (35)), ((0), (17), (24), (20))])
theorem ms_X0_goesBy : mSz zX0_goesBy 4 := ⟨q75, (by rw [mCd_codeWith (z := zX0_goesBy) (by decide)]; exact q1471), by decide +kernel, by decide +kernel, by decide⟩
abbrev zX0_worth : mY := (yX0_worth, cX0_worth, 5, some .int, [((0), (10), (13), (35))])
theorem ms_X0_worth : mSz zX0_worth 4 := ⟨q75, (by rw [mCd_codeWith (z := zX0_worth) (by decide)]; exact q1478), by decide +kernel, by decide +kernel, by decide⟩
abbrev zX0_tithes : mY := (yX0_tithes, cX0_tithes, 4, some .int, [((0), (9), (12), (35))])
theorem ms_X0_tithes : mSz zX0_tithes 3 := ⟨q75, (by rw [mCd_codeWith (z := zX0_tithes) (by decide)]; exact q1485), by decide +kernel, by decide +kernel, by decide⟩
abbrev zX0_richest : mY := (yX0_richest, cX0_richest, 3, some .int, [((0), (8), (11), (35))])
theorem ms_X0_richest : mSz zX0_richest 2 := ⟨q75, (by rw [mCd_codeWith (z := zX0_richest) (by decide)]; exact q1501), by decide +kernel, by decide +kernel, by decide⟩
abbrev zX0_character : mY := (yX0_character, cX0_character, 4, some .int, [((0), (9), (12), (20))])
theorem ms_X0_character : mSz zX0_character 3 := ⟨q75, (by rw [mCd_codeWith (z := zX0_character) (by decide)]; exact q1515), by decide +kernel, by decide +kernel, by decide⟩
abbrev zX0_append : mY := (yX0_append, cX0_append, 4, some .int, [((0), (9), (12), (93))])
theorem ms_X0_append : mSz zX0_append 3 := ⟨q75, (by rw [mCd_codeWith (z := zX0_append) (by decide)]; exact q1532), by decide +kernel, by decide +kernel, by decide⟩
abbrev zX0_read : mY := (yX0_read, cX0_read, 3, some .int, [((0), (8), (11), (13)), ((0), (8), (14), (15))])
theorem ms_X0_read : mSz zX0_read 2 := ⟨q75, (by rw [mCd_codeWith (z := zX0_read) (by decide)]; exact q1549), by decide +kernel, by decide +kernel, by decide⟩
abbrev zX0_refusal : mY := (yX0_refusal, cX0_refusal, 4, some .int, [((0), (9), (12), (35))])
theorem ms_X0_refusal : mSz zX0_refusal 3 := ⟨q75, (by rw [mCd_codeWith (z := zX0_refusal) (by decide)]; exact q1642), by decide +kernel, by decide +kernel, by decide⟩
abbrev zX0_account : mY := (yX0_account, cX0_account, 4, some .int, [((0), (9), (12), (13))])
theorem ms_X0_account : mSz zX0_account 3 := ⟨q75, (by rw [mCd_codeWith (z := zX0_account) (by decide)]; exact q1649), by decide +kernel, by decide +kernel, by decide⟩
abbrev zX0_meanWorth : mY := (yX0_meanWorth, cX0_meanWorth, 3, some .int, [((0), (7), (10), (109))])
theorem ms_X0_meanWorth : mSz zX0_meanWorth 2 := ⟨q75, (by rw [mCd_codeWith (z := zX0_meanWorth) (by decide)]; exact q1671), by decide +kernel, by decide +kernel, by decide⟩
abbrev zX0_undo : mY := (yX0_undo, cX0_undo, 3, some .int, [((0), (8), (11), (93))])
theorem ms_X0_undo : mSz zX0_undo 2 := ⟨q75, (by rw [mCd_codeWith (z := zX0_undo) (by decide)]; exact q1700), by decide +kernel, by decide +kernel, by decide⟩
abbrev zX0_restore : mY := (yX0_restore, cX0_restore, 3, some .int, [((0), (8), (11), (93))])
theorem ms_X0_restore : mSz zX0_restore 2 := ⟨q75, (by rw [mCd_codeWith (z := zX0_restore) (by decide)]; exact q1714), by decide +kernel, by decide +kernel, by decide⟩
abbrev zX1_init : mY := (yX1_init, cX1_init, 2, none, [])
theorem ms_X1_init : mSz zX1_init 0 := ⟨q76, (by rw [mCd_code (z := zX1_init) rfl]; exact q122), by decide +kernel, by decide +kernel, by decide⟩
abbrev zX1_chests : mY := (yX1_chests, cX1_chests, 1, some (FieldType.array (FieldType.array (FieldType.object "PloughWills$Good"))), [])
theorem ms_X1_chests : mSz zX1_chests 0 := ⟨q76, (by rw [mCd_code (z := zX1_chests) rfl]; exact q136), by decide +kernel, by decide +kernel, by decide⟩
abbrev zX1_isSound : mY := (yX1_isSound, cX1_isSound, 2, some .boolean, [])
theorem ms_X1_isSound : mSz zX1_isSound 1 := ⟨q76, (by rw [mCd_code (z := zX1_isSound) rfl]; exact q591), by decide +kernel, by decide +kernel, by decide⟩
abbrev zX1_areRight : mY := (yX1_areRight, cX1_areRight, 4, some .boolean, [])
theorem ms_X1_areRight : mSz zX1_areRight 0 := ⟨q76, (by rw [mCd_code (z := zX1_areRight) rfl]; exact q595), by decide +kernel, by decide +kernel, by decide⟩
abbrev zX1_isNested : mY := (yX1_isNested, cX1_isNested, 1, some .boolean, [])
theorem ms_X1_isNested : mSz zX1_isNested 0 := ⟨q76, (by rw [mCd_code (z := zX1_isNested) rfl]; exact q599), by decide +kernel, by decide +kernel, by decide⟩
abbrev zX1_paths : mY := (yX1_paths, cX1_paths, 1, some .int, [])
theorem ms_X1_paths : mSz zX1_paths 0 := ⟨q76, (by rw [mCd_code (z := zX1_paths) rfl]; exact q710), by decide +kernel, by decide +kernel, by decide⟩
abbrev zX1_line : mY := (yX1_line, cX1_line, 1, some .int, [])
theorem ms_X1_line : mSz zX1_line 0 := ⟨q76, (by rw [mCd_code (z := zX1_line) rfl]; exact q714), by decide +kernel, by decide +kernel, by decide⟩
abbrev zX1_in : mY := (yX1_in, cX1_in, 3, some .boolean, [])
theorem ms_X1_in : mSz zX1_in 3 := ⟨q76, (by rw [mCd_code (z := zX1_in) rfl]; exact q1040), by decide +kernel, by decide +kernel, by decide⟩
abbrev zX1_errorPosition : mY := (yX1_errorPosition, cX1_errorPosition, 1, some .int, [])
theorem ms_X1_errorPosition : mSz zX1_errorPosition 0 := ⟨q76, (by rw [mCd_code (z := zX1_errorPosition) rfl]; exact q1046), by decide +kernel, by decide +kernel, by decide⟩
abbrev zX1_isWell : mY := (yX1_isWell, cX1_isWell, 3, some .boolean, [])
theorem ms_X1_isWell : mSz zX1_isWell 0 := ⟨q76, (by rw [mCd_code (z := zX1_isWell) rfl]; exact q1050), by decide +kernel, by decide +kernel, by decide⟩
abbrev zX1_worthFrom : mY := (yX1_worthFrom, cX1_worthFrom, 10, some .int, [])
theorem ms_X1_worthFrom : mSz zX1_worthFrom 3 := ⟨q76, (by rw [mCd_code (z := zX1_worthFrom) rfl]; exact q1060), by decide +kernel, by decide +kernel, by decide⟩
abbrev zX1_worthAgain : mY := (yX1_worthAgain, cX1_worthAgain, 6, some .int, [])
theorem ms_X1_worthAgain : mSz zX1_worthAgain 2 := ⟨q76, (by rw [mCd_code (z := zX1_worthAgain) rfl]; exact q1071), by decide +kernel, by decide +kernel, by decide⟩
abbrev zX1_save : mY := (yX1_save, cX1_save, 1, some .int, [])
theorem ms_X1_save : mSz zX1_save 0 := ⟨q76, (by rw [mCd_code (z := zX1_save) rfl]; exact q1080), by decide +kernel, by decide +kernel, by decide⟩
abbrev zX1_good : mY := (yX1_good, cX1_good, 4, some .int, [((25), (38), (39), (1))])
theorem ms_X1_good : mSz zX1_good 2 := ⟨q76, (by rw [mCd_codeWith (z := zX1_good) (by decide)]; exact q1094), by decide +kernel, by decide +kernel, by decide⟩
abbrev zX1_isKind : mY := (yX1_isKind, cX1_isKind, 1, some .boolean, [])
theorem ms_X1_isKind : mSz zX1_isKind 1 := ⟨q76, (by rw [mCd_code (z := zX1_isKind) rfl]; exact q1098), by decide +kernel, by decide +kernel, by decide⟩
abbrev zX1_check : mY := (yX1_check, cX1_check, 1, none, [])
theorem ms_X1_check : mSz zX1_check 1 := ⟨q76, (by rw [mCd_code (z := zX1_check) rfl]; exact q1102), by decide +kernel, by decide +kernel, by decide⟩
abbrev zX1_tryOn : mY := (yX1_tryOn, cX1_tryOn, 1, some (FieldType.object "PloughWills$Will"), [])
theorem ms_X1_tryOn : mSz zX1_tryOn 0 := ⟨q76, (by rw [mCd_code (z := zX1_tryOn) rfl]; exact q1117), by decide +kernel, by decide +kernel, by decide⟩
abbrev zX1_refuse : mY := (yX1_refuse, cX1_refuse, 3, none, [])
theorem ms_X1_refuse : mSz zX1_refuse 3 := ⟨q76, (by rw [mCd_code (z := zX1_refuse) rfl]; exact q1124), by decide +kernel, by decide +kernel, by decide⟩
abbrev zX1_goodOf : mY := (yX1_goodOf, cX1_goodOf, 3, some (FieldType.object "PloughWills$Good"), [])
theorem ms_X1_goodOf : mSz zX1_goodOf 3 := ⟨q76, (by rw [mCd_code (z := zX1_goodOf) rfl]; exact q1149), by decide +kernel, by decide +kernel, by decide⟩
abbrev zX1_becomes : mY := (yX1_becomes, cX1_becomes, 2, some .int, [])
theorem ms_X1_becomes : mSz zX1_becomes 1 := ⟨q76, (by rw [mCd_code (z := zX1_becomes) rfl]; exact q1193), by decide +kernel, by decide +kernel, by decide⟩
abbrev zX1_keep : mY := (yX1_keep, cX1_keep, 2, none, [])
theorem ms_X1_keep : mSz zX1_keep 0 := ⟨q76, (by rw [mCd_code (z := zX1_keep) rfl]; exact q1197), by decide +kernel, by decide +kernel, by decide⟩
abbrev zX1_because : mY := (yX1_because, cX1_because, 2, some (FieldType.object "java/lang/UnsupportedOperationException"), [])
theorem ms_X1_because : mSz zX1_because 1 := ⟨q76, (by rw [mCd_code (z := zX1_because) rfl]; exact q1212), by decide +kernel, by decide +kernel, by decide⟩
abbrev zX1_put : mY := (yX1_put, cX1_put, 4, some .int, [((12), (25), (26), (1))])
theorem ms_X1_put : mSz zX1_put 2 := ⟨q76, (by rw [mCd_codeWith (z := zX1_put) (by decide)]; exact q1237), by decide +kernel, by decide +kernel, by decide⟩
abbrev zX1_checkGood : mY := (yX1_checkGood, cX1_checkGood, 2, none, [])
theorem ms_X1_checkGood : mSz zX1_checkGood 1 := ⟨q76, (by rw [mCd_code (z := zX1_checkGood) rfl]; exact q1241), by decide +kernel, by decide +kernel, by decide⟩
abbrev zX1_checkIndex : mY := (yX1_checkIndex, cX1_checkIndex, 1, none, [])
theorem ms_X1_checkIndex : mSz zX1_checkIndex 1 := ⟨q76, (by rw [mCd_code (z := zX1_checkIndex) rfl]; exact q1248), by decide +kernel, by decide +kernel, by decide⟩
abbrev zX1_takeOut : mY := (yX1_takeOut, cX1_takeOut, 3, some .int, [((5), (17), (18), (1))])
theorem ms_X1_takeOut : mSz zX1_takeOut 1 := ⟨q76, (by rw [mCd_codeWith (z := zX1_takeOut) (by decide)]; exact q1300), by decide +kernel, by decide +kernel, by decide⟩
abbrev zX1_rate : mY := (yX1_rate, cX1_rate, 4, some .int, [((25), (38), (39), (1))])
theorem ms_X1_rate : mSz zX1_rate 2 := ⟨q76, (by rw [mCd_codeWith (z := zX1_rate) (by decide)]; exact q1311), by decide +kernel, by decide +kernel, by decide⟩
abbrev zX1_goodOf_2 : mY := (yX1_goodOf_2, cX1_goodOf_2, 3, some .int, [])
theorem ms_X1_goodOf_2 : mSz zX1_goodOf_2 2 := ⟨q76, (by rw [mCd_code (z := zX1_goodOf_2) rfl]; exact q1323), by decide +kernel, by decide +kernel, by decide⟩
abbrev zX1_chestAt : mY := (yX1_chestAt, cX1_chestAt, 3, some .int, [])
theorem ms_X1_chestAt : mSz zX1_chestAt 2 := ⟨q76, (by rw [mCd_code (z := zX1_chestAt) rfl]; exact q1337), by decide +kernel, by decide +kernel, by decide⟩
abbrev zX1_checkElement : mY := (yX1_checkElement, cX1_checkElement, 1, none, [])
theorem ms_X1_checkElement : mSz zX1_checkElement 1 := ⟨q76, (by rw [mCd_code (z := zX1_checkElement) rfl]; exact q1341), by decide +kernel, by decide +kernel, by decide⟩
abbrev zX1_tithe : mY := (yX1_tithe, cX1_tithe, 2, some .float, [])
theorem ms_X1_tithe : mSz zX1_tithe 1 := ⟨q76, (by rw [mCd_code (z := zX1_tithe) rfl]; exact q1363), by decide +kernel, by decide +kernel, by decide⟩
abbrev zX1_rateBits : mY := (yX1_rateBits, cX1_rateBits, 2, some .int, [])
theorem ms_X1_rateBits : mSz zX1_rateBits 1 := ⟨q76, (by rw [mCd_code (z := zX1_rateBits) rfl]; exact q1374), by decide +kernel, by decide +kernel, by decide⟩
abbrev zX1_add : mY := (yX1_add, cX1_add, 5, some .int, [((7), (28), (29), (1))])
theorem ms_X1_add : mSz zX1_add 3 := ⟨q76, (by rw [mCd_codeWith (z := zX1_add) (by decide)]; exact q1391), by decide +kernel, by decide +kernel, by decide⟩
abbrev zX1_isSort : mY := (yX1_isSort, cX1_isSort, 1, some .boolean, [])
theorem ms_X1_isSort : mSz zX1_isSort 1 := ⟨q76, (by rw [mCd_code (z := zX1_isSort) rfl]; exact q1394), by decide +kernel, by decide +kernel, by decide⟩
abbrev zX1_insert : mY := (yX1_insert, cX1_insert, 6, some .int, [((22), (38), (39), (1))])
theorem ms_X1_insert : mSz zX1_insert 4 := ⟨q76, (by rw [mCd_codeWith (z := zX1_insert) (by decide)]; exact q1414), by decide +kernel, by decide +kernel, by decide⟩
abbrev zX1_remove : mY := (yX1_remove, cX1_remove, 2, some .int, [])
theorem ms_X1_remove : mSz zX1_remove 1 := ⟨q76, (by rw [mCd_code (z := zX1_remove) rfl]; exact q1421), by decide +kernel, by decide +kernel, by decide⟩
abbrev zX1_checkPlace : mY := (yX1_checkPlace, cX1_checkPlace, 2, none, [])
theorem ms_X1_checkPlace : mSz zX1_checkPlace 1 := ⟨q76, (by rw [mCd_code (z := zX1_checkPlace) rfl]; exact q1425), by decide +kernel, by decide +kernel, by decide⟩
abbrev zX1_clauseOf : mY := (yX1_clauseOf, cX1_clauseOf, 3, some .int, [])
theorem ms_X1_clauseOf : mSz zX1_clauseOf 2 := ⟨q76, (by rw [mCd_code (z := zX1_clauseOf) rfl]; exact q1436), by decide +kernel, by decide +kernel, by decide⟩
abbrev zX1_wrong : mY := (yX1_wrong, cX1_wrong, 2, some .int, [])
theorem ms_X1_wrong : mSz zX1_wrong 1 := ⟨q76, (by rw [mCd_code (z := zX1_wrong) rfl]; exact q1443), by decide +kernel, by decide +kernel, by decide⟩
abbrev zX1_goodAt : mY := (yX1_goodAt, cX1_goodAt, 3, some .int, [])
theorem ms_X1_goodAt : mSz zX1_goodAt 2 := ⟨q76, (by rw [mCd_code (z := zX1_goodAt) rfl]; exact q1450), by decide +kernel, by decide +kernel, by decide⟩
abbrev zX1_ploughAt : mY := (yX1_ploughAt, cX1_ploughAt, 3, some .int, [])
theorem ms_X1_ploughAt : mSz zX1_ploughAt 2 := ⟨q76, (by rw [mCd_code (z := zX1_ploughAt) rfl]; exact q1457), by decide +kernel, by decide +kernel, by decide⟩
abbrev zX1_pathOf : mY := (yX1_pathOf, cX1_pathOf, 3, some .int, [])
theorem ms_X1_pathOf : mSz zX1_pathOf 2 := ⟨q76, (by rw [mCd_code (z := zX1_pathOf) rfl]; exact q1464), by decide +kernel, by decide +kernel, by decide⟩
abbrev zX1_takes : mY := (yX1_takes, cX1_takes, 2, none, [])
theorem ms_X1_takes : mSz zX1_takes 1 := ⟨q76, (by rw [mCd_code (z := zX1_takes) rfl]; exact q1468), by decide +kernel, by decide +kernel, by decide⟩
abbrev zX1_goesBy : mY := (yX1_goesBy, cX1_goesBy, 3, some .boolean, [])
theorem ms_X1_goesBy : mSz zX1_goesBy 2 := ⟨q76, (by rw [mCd_code (z := zX1_goesBy) rfl]; exact q1475), by decide +kernel, by decide +kernel, by decide⟩
abbrev zX1_worth : mY := (yX1_worth, cX1_worth, 4, some .int, [])
theorem ms_X1_worth : mSz zX1_worth 2 := ⟨q76, (by rw [mCd_code (z := zX1_worth) rfl]; exact q1482), by decide +kernel, by decide +kernel, by decide⟩
abbrev zX1_tithes : mY := (yX1_tithes, cX1_tithes, 2, some .float, [])
theorem ms_X1_tithes : mSz zX1_tithes 1 := ⟨q76, (by rw [mCd_code (z := zX1_tithes) rfl]; exact q1489), by decide +kernel, by decide +kernel, by decide⟩
abbrev zX1_richest : mY := (yX1_richest, cX1_richest, 6, some .int, [])
theorem ms_X1_richest : mSz zX1_richest 0 := ⟨q76, (by rw [mCd_code (z := zX1_richest) rfl]; exact q1505), by decide +kernel, by decide +kernel, by decide⟩
abbrev zX1_character : mY := (yX1_character, cX1_character, 2, some .char, [])
theorem ms_X1_character : mSz zX1_character 1 := ⟨q76, (by rw [mCd_code (z := zX1_character) rfl]; exact q1519), by decide +kernel, by decide +kernel, by decide⟩
abbrev zX1_append : mY := (yX1_append, cX1_append, 2, some .int, [])
theorem ms_X1_append : mSz zX1_append 1 := ⟨q76, (by rw [mCd_code (z := zX1_append) rfl]; exact q1537), by decide +kernel, by decide +kernel, by decide⟩
abbrev zX1_checkState : mY := (yX1_checkState, cX1_checkState, 1, none, [])
theorem ms_X1_checkState : mSz zX1_checkState 1 := ⟨q76, (by rw [mCd_code (z := zX1_checkState) rfl]; exact q1540), by decide +kernel, by decide +kernel, by decide⟩
abbrev zX1_read : mY := (yX1_read, cX1_read, 3, some .int, [((5), (28), (38), (377)), ((5), (28), (55), (1)), ((5), (28), (62), (0)), ((38), (63), (62), (0))])
theorem ms_X1_read : mSz zX1_read 0 := ⟨q76, (by rw [mCd_codeWith (z := zX1_read) (by decide)]; exact q1553), by decide +kernel, by decide +kernel, by decide⟩
abbrev zX1_refusal : mY := (yX1_refusal, cX1_refusal, 2, some .int, [])
theorem ms_X1_refusal : mSz zX1_refusal 1 := ⟨q76, (by rw [mCd_code (z := zX1_refusal) rfl]; exact q1646), by decide +kernel, by decide +kernel, by decide⟩
abbrev zX1_account : mY := (yX1_account, cX1_account, 2, some .int, [])
theorem ms_X1_account : mSz zX1_account 1 := ⟨q76, (by rw [mCd_code (z := zX1_account) rfl]; exact q1653), by decide +kernel, by decide +kernel, by decide⟩
abbrev zX1_allWorth : mY := (yX1_allWorth, cX1_allWorth, 3, some .int, [])
theorem ms_X1_allWorth : mSz zX1_allWorth 0 := ⟨q76, (by rw [mCd_code (z := zX1_allWorth) rfl]; exact q1657), by decide +kernel, by decide +kernel, by decide⟩
abbrev zX1_meanWorth : mY := (yX1_meanWorth, cX1_meanWorth, 1, some .double, [])
theorem ms_X1_meanWorth : mSz zX1_meanWorth 0 := ⟨q76, (by rw [mCd_code (z := zX1_meanWorth) rfl]; exact q1689), by decide +kernel, by decide +kernel, by decide⟩
abbrev zX1_checkAny : mY := (yX1_checkAny, cX1_checkAny, 1, none, [])
theorem ms_X1_checkAny : mSz zX1_checkAny 1 := ⟨q76, (by rw [mCd_code (z := zX1_checkAny) rfl]; exact q1692), by decide +kernel, by decide +kernel, by decide⟩
abbrev zX1_undo : mY := (yX1_undo, cX1_undo, 2, some .int, [])
theorem ms_X1_undo : mSz zX1_undo 0 := ⟨q76, (by rw [mCd_code (z := zX1_undo) rfl]; exact q1704), by decide +kernel, by decide +kernel, by decide⟩
abbrev zX1_restore : mY := (yX1_restore, cX1_restore, 1, some .int, [])
theorem ms_X1_restore : mSz zX1_restore 0 := ⟨q76, (by rw [mCd_code (z := zX1_restore) rfl]; exact q1718), by decide +kernel, by decide +kernel, by decide⟩
abbrev zX10_init : mY := (yX10_init, cX10_init, 4, none, [])
theorem ms_X10_init : mSz zX10_init 3 := ⟨q99, (by rw [mCd_code (z := zX10_init) rfl]; exact q1156), by decide +kernel, by decide +kernel, by decide⟩
abbrev zX11_init : mY := (yX11_init, cX11_init, 3, none, [])
theorem ms_X11_init : mSz zX11_init 2 := ⟨q100, (by rw [mCd_code (z := zX11_init) rfl]; exact q1153), by decide +kernel, by decide +kernel, by decide⟩
abbrev zX12_init : mY := (yX12_init, cX12_init, 3, none, [])
theorem ms_X12_init : mSz zX12_init 2 := ⟨q101, (by rw [mCd_code (z := zX12_init) rfl]; exact q1175), by decide +kernel, by decide +kernel, by decide⟩
abbrev zX13_init : mY := (yX13_init, cX13_init, 3, none, [])
theorem ms_X13_init : mSz zX13_init 2 := ⟨q102, (by rw [mCd_code (z := zX13_init) rfl]; exact q1184), by decide +kernel, by decide +kernel, by decide⟩
abbrev zX14_init : mY := (yX14_init, cX14_init, 2, none, [])
theorem ms_X14_init : mSz zX14_init 1 := ⟨q116, (by rw [mCd_code (z := zX14_init) rfl]; exact q1623), by decide +kernel, by decide +kernel, by decide⟩
abbrev zX2_init : mY := (yX2_init, cX2_init, 1, none, [])
theorem ms_X2_init : mSz zX2_init 0 := ⟨q77, (by rw [mCd_code (z := zX2_init) rfl]; exact q130), by decide +kernel, by decide +kernel, by decide⟩
abbrev zX2_behind : mY := (yX2_behind, cX2_behind, 6, some .int, [])
theorem ms_X2_behind : mSz zX2_behind 3 := ⟨q77, (by rw [mCd_code (z := zX2_behind) rfl]; exact q613), by decide +kernel, by decide +kernel, by decide⟩
abbrev zX2_kind : mY := (yX2_kind, cX2_kind, 2, some .int, [])
theorem ms_X2_kind : mSz zX2_kind 1 := ⟨q77, (by rw [mCd_code (z := zX2_kind) rfl]; exact q666), by decide +kernel, by decide +kernel, by decide⟩
abbrev zX2_writes : mY := (yX2_writes, cX2_writes, 3, none, [])
theorem ms_X2_writes : mSz zX2_writes 1 := ⟨q77, (by rw [mCd_code (z := zX2_writes) rfl]; exact q999), by decide +kernel, by decide +kernel, by decide⟩
abbrev zX2_areInTheirChests : mY := (yX2_areInTheirChests, cX2_areInTheirChests, 7, some .boolean, [])
theorem ms_X2_areInTheirChests : mSz zX2_areInTheirChests 0 := ⟨q77, (by rw [mCd_code (z := zX2_areInTheirChests) rfl]; exact q1056), by decide +kernel, by decide +kernel, by decide⟩
abbrev zX2_worthOf : mY := (yX2_worthOf, cX2_worthOf, 2, some .int, [])
theorem ms_X2_worthOf : mSz zX2_worthOf 1 := ⟨q77, (by rw [mCd_code (z := zX2_worthOf) rfl]; exact q1067), by decide +kernel, by decide +kernel, by decide⟩
abbrev zX2_take : mY := (yX2_take, cX2_take, 3, none, [])
theorem ms_X2_take : mSz zX2_take 1 := ⟨q77, (by rw [mCd_code (z := zX2_take) rfl]; exact q1084), by decide +kernel, by decide +kernel, by decide⟩
abbrev zX2_good : mY := (yX2_good, cX2_good, 3, some .int, [])
theorem ms_X2_good : mSz zX2_good 2 := ⟨q77, (by rw [mCd_code (z := zX2_good) rfl]; exact q1121), by decide +kernel, by decide +kernel, by decide⟩
abbrev zX2_isGood : mY := (yX2_isGood, cX2_isGood, 2, some .boolean, [])
theorem ms_X2_isGood : mSz zX2_isGood 1 := ⟨q77, (by rw [mCd_code (z := zX2_isGood) rfl]; exact q1245), by decide +kernel, by decide +kernel, by decide⟩
abbrev zX2_put : mY := (yX2_put, cX2_put, 5, some .int, [])
theorem ms_X2_put : mSz zX2_put 2 := ⟨q77, (by rw [mCd_code (z := zX2_put) rfl]; exact q1267), by decide +kernel, by decide +kernel, by decide⟩
abbrev zX2_takes : mY := (yX2_takes, cX2_takes, 4, some .boolean, [((4), (13), (14), (76))])
theorem ms_X2_takes : mSz zX2_takes 2 := ⟨q77, (by rw [mCd_codeWith (z := zX2_takes) (by decide)]; exact q1270), by decide +kernel, by decide +kernel, by decide⟩
abbrev zX2_full : mY := (yX2_full, cX2_full, 3, some .int, [])
theorem ms_X2_full : mSz zX2_full 1 := ⟨q77, (by rw [mCd_code (z := zX2_full) rfl]; exact q1288), by decide +kernel, by decide +kernel, by decide⟩
abbrev zX2_placeOf : mY := (yX2_placeOf, cX2_placeOf, 4, some .int, [])
theorem ms_X2_placeOf : mSz zX2_placeOf 1 := ⟨q77, (by rw [mCd_code (z := zX2_placeOf) rfl]; exact q1292), by decide +kernel, by decide +kernel, by decide⟩
abbrev zX2_takeOut : mY := (yX2_takeOut, cX2_takeOut, 5, some .int, [])
theorem ms_X2_takeOut : mSz zX2_takeOut 1 := ⟨q77, (by rw [mCd_code (z := zX2_takeOut) rfl]; exact q1304), by decide +kernel, by decide +kernel, by decide⟩
abbrev zX2_rate : mY := (yX2_rate, cX2_rate, 4, some .int, [])
theorem ms_X2_rate : mSz zX2_rate 2 := ⟨q77, (by rw [mCd_code (z := zX2_rate) rfl]; exact q1315), by decide +kernel, by decide +kernel, by decide⟩
abbrev zX2_withSort : mY := (yX2_withSort, cX2_withSort, 7, some .int, [])
theorem ms_X2_withSort : mSz zX2_withSort 4 := ⟨q77, (by rw [mCd_code (z := zX2_withSort) rfl]; exact q1329), by decide +kernel, by decide +kernel, by decide⟩
abbrev zX2_tithe : mY := (yX2_tithe, cX2_tithe, 2, some .float, [])
theorem ms_X2_tithe : mSz zX2_tithe 1 := ⟨q77, (by rw [mCd_code (z := zX2_tithe) rfl]; exact q1367), by decide +kernel, by decide +kernel, by decide⟩
abbrev zX2_insert : mY := (yX2_insert, cX2_insert, 6, some .int, [])
theorem ms_X2_insert : mSz zX2_insert 4 := ⟨q77, (by rw [mCd_code (z := zX2_insert) rfl]; exact q1398), by decide +kernel, by decide +kernel, by decide⟩
abbrev zX2_checkClause : mY := (yX2_checkClause, cX2_checkClause, 4, none, [])
theorem ms_X2_checkClause : mSz zX2_checkClause 3 := ⟨q77, (by rw [mCd_code (z := zX2_checkClause) rfl]; exact q1402), by decide +kernel, by decide +kernel, by decide⟩
abbrev zX2_puts : mY := (yX2_puts, cX2_puts, 5, none, [])
theorem ms_X2_puts : mSz zX2_puts 4 := ⟨q77, (by rw [mCd_code (z := zX2_puts) rfl]; exact q1407), by decide +kernel, by decide +kernel, by decide⟩
abbrev zX2_remove : mY := (yX2_remove, cX2_remove, 4, some .int, [])
theorem ms_X2_remove : mSz zX2_remove 1 := ⟨q77, (by rw [mCd_code (z := zX2_remove) rfl]; exact q1429), by decide +kernel, by decide +kernel, by decide⟩
abbrev zX2_titheOf : mY := (yX2_titheOf, cX2_titheOf, 2, some .float, [])
theorem ms_X2_titheOf : mSz zX2_titheOf 1 := ⟨q77, (by rw [mCd_code (z := zX2_titheOf) rfl]; exact q1497), by decide +kernel, by decide +kernel, by decide⟩
abbrev zX2_reads : mY := (yX2_reads, cX2_reads, 3, some .int, [])
theorem ms_X2_reads : mSz zX2_reads 1 := ⟨q77, (by rw [mCd_code (z := zX2_reads) rfl]; exact q1639), by decide +kernel, by decide +kernel, by decide⟩
abbrev zX2_choices : mY := (yX2_choices, cX2_choices, 3, some .int, [])
theorem ms_X2_choices : mSz zX2_choices 0 := ⟨q77, (by rw [mCd_code (z := zX2_choices) rfl]; exact q1661), by decide +kernel, by decide +kernel, by decide⟩
abbrev zX3_init : mY := (yX3_init, cX3_init, 2, none, [])
theorem ms_X3_init : mSz zX3_init 0 := ⟨q80, (by rw [mCd_code (z := zX3_init) rfl]; exact q222), by decide +kernel, by decide +kernel, by decide⟩
abbrev zX3_along : mY := (yX3_along, cX3_along, 4, none, [])
theorem ms_X3_along : mSz zX3_along 2 := ⟨q80, (by rw [mCd_code (z := zX3_along) rfl]; exact q634), by decide +kernel, by decide +kernel, by decide⟩
abbrev zX3_begins : mY := (yX3_begins, cX3_begins, 3, none, [])
theorem ms_X3_begins : mSz zX3_begins 2 := ⟨q80, (by rw [mCd_code (z := zX3_begins) rfl]; exact q638), by decide +kernel, by decide +kernel, by decide⟩
abbrev zX3_goes : mY := (yX3_goes, cX3_goes, 5, none, [])
theorem ms_X3_goes : mSz zX3_goes 3 := ⟨q80, (by rw [mCd_code (z := zX3_goes) rfl]; exact q646), by decide +kernel, by decide +kernel, by decide⟩
abbrev zX3_enters : mY := (yX3_enters, cX3_enters, 2, none, [])
theorem ms_X3_enters : mSz zX3_enters 1 := ⟨q80, (by rw [mCd_code (z := zX3_enters) rfl]; exact q650), by decide +kernel, by decide +kernel, by decide⟩
abbrev zX3_isNot : mY := (yX3_isNot, cX3_isNot, 2, some .boolean, [])
theorem ms_X3_isNot : mSz zX3_isNot 1 := ⟨q80, (by rw [mCd_code (z := zX3_isNot) rfl]; exact q654), by decide +kernel, by decide +kernel, by decide⟩
abbrev zX3_wrongFor : mY := (yX3_wrongFor, cX3_wrongFor, 4, some .boolean, [])
theorem ms_X3_wrongFor : mSz zX3_wrongFor 3 := ⟨q80, (by rw [mCd_code (z := zX3_wrongFor) rfl]; exact q658), by decide +kernel, by decide +kernel, by decide⟩
abbrev zX3_leaves : mY := (yX3_leaves, cX3_leaves, 3, some .boolean, [])
theorem ms_X3_leaves : mSz zX3_leaves 0 := ⟨q80, (by rw [mCd_code (z := zX3_leaves) rfl]; exact q662), by decide +kernel, by decide +kernel, by decide⟩
abbrev zX3_brings : mY := (yX3_brings, cX3_brings, 2, none, [])
theorem ms_X3_brings : mSz zX3_brings 1 := ⟨q80, (by rw [mCd_code (z := zX3_brings) rfl]; exact q670), by decide +kernel, by decide +kernel, by decide⟩
abbrev zX3_gives : mY := (yX3_gives, cX3_gives, 2, none, [])
theorem ms_X3_gives : mSz zX3_gives 1 := ⟨q80, (by rw [mCd_code (z := zX3_gives) rfl]; exact q674), by decide +kernel, by decide +kernel, by decide⟩
abbrev zX3_puts : mY := (yX3_puts, cX3_puts, 4, none, [])
theorem ms_X3_puts : mSz zX3_puts 3 := ⟨q80, (by rw [mCd_code (z := zX3_puts) rfl]; exact q682), by decide +kernel, by decide +kernel, by decide⟩
abbrev zX3_joins : mY := (yX3_joins, cX3_joins, 4, none, [])
theorem ms_X3_joins : mSz zX3_joins 1 := ⟨q80, (by rw [mCd_code (z := zX3_joins) rfl]; exact q691), by decide +kernel, by decide +kernel, by decide⟩
abbrev zX3_through : mY := (yX3_through, cX3_through, 4, none, [])
theorem ms_X3_through : mSz zX3_through 2 := ⟨q80, (by rw [mCd_code (z := zX3_through) rfl]; exact q695), by decide +kernel, by decide +kernel, by decide⟩
abbrev zX3_ahead : mY := (yX3_ahead, cX3_ahead, 2, none, [])
theorem ms_X3_ahead : mSz zX3_ahead 1 := ⟨q80, (by rw [mCd_code (z := zX3_ahead) rfl]; exact q699), by decide +kernel, by decide +kernel, by decide⟩
abbrev zX4_init : mY := (yX4_init, cX4_init, 1, none, [])
theorem ms_X4_init : mSz zX4_init 0 := ⟨q81, (by rw [mCd_code (z := zX4_init) rfl]; exact q228), by decide +kernel, by decide +kernel, by decide⟩
abbrev zX4_begins : mY := (yX4_begins, cX4_begins, 2, none, [])
theorem ms_X4_begins : mSz zX4_begins 0 := ⟨q81, (by rw [mCd_code (z := zX4_begins) rfl]; exact q642), by decide +kernel, by decide +kernel, by decide⟩
abbrev zX4_isUnder : mY := (yX4_isUnder, cX4_isUnder, 5, some .boolean, [])
theorem ms_X4_isUnder : mSz zX4_isUnder 2 := ⟨q81, (by rw [mCd_code (z := zX4_isUnder) rfl]; exact q678), by decide +kernel, by decide +kernel, by decide⟩
abbrev zX4_take : mY := (yX4_take, cX4_take, 2, none, [])
theorem ms_X4_take : mSz zX4_take 1 := ⟨q81, (by rw [mCd_code (z := zX4_take) rfl]; exact q686), by decide +kernel, by decide +kernel, by decide⟩
abbrev zX5_init : mY := (yX5_init, cX5_init, 1, none, [])
theorem ms_X5_init : mSz zX5_init 0 := ⟨q82, (by rw [mCd_code (z := zX5_init) rfl]; exact q299), by decide +kernel, by decide +kernel, by decide⟩
abbrev zX5_many : mY := (yX5_many, cX5_many, 7, some .int, [])
theorem ms_X5_many : mSz zX5_many 3 := ⟨q82, (by rw [mCd_code (z := zX5_many) rfl]; exact q609), by decide +kernel, by decide +kernel, by decide⟩
abbrev zX5_take : mY := (yX5_take, cX5_take, 4, none, [])
theorem ms_X5_take : mSz zX5_take 2 := ⟨q82, (by rw [mCd_code (z := zX5_take) rfl]; exact q618), by decide +kernel, by decide +kernel, by decide⟩
abbrev zX5_goes : mY := (yX5_goes, cX5_goes, 10, none, [])
theorem ms_X5_goes : mSz zX5_goes 3 := ⟨q82, (by rw [mCd_code (z := zX5_goes) rfl]; exact q622), by decide +kernel, by decide +kernel, by decide⟩
abbrev zX5_by : mY := (yX5_by, cX5_by, 3, none, [])
theorem ms_X5_by : mSz zX5_by 2 := ⟨q82, (by rw [mCd_code (z := zX5_by) rfl]; exact q626), by decide +kernel, by decide +kernel, by decide⟩
abbrev zX5_goesWithin : mY := (yX5_goesWithin, cX5_goesWithin, 7, none, [])
theorem ms_X5_goesWithin : mSz zX5_goesWithin 4 := ⟨q82, (by rw [mCd_code (z := zX5_goesWithin) rfl]; exact q630), by decide +kernel, by decide +kernel, by decide⟩
abbrev zX5_worth : mY := (yX5_worth, cX5_worth, 4, some .int, [])
theorem ms_X5_worth : mSz zX5_worth 1 := ⟨q82, (by rw [mCd_code (z := zX5_worth) rfl]; exact q1075), by decide +kernel, by decide +kernel, by decide⟩
abbrev zX5_tithes : mY := (yX5_tithes, cX5_tithes, 4, some .float, [])
theorem ms_X5_tithes : mSz zX5_tithes 1 := ⟨q82, (by rw [mCd_code (z := zX5_tithes) rfl]; exact q1493), by decide +kernel, by decide +kernel, by decide⟩
abbrev zX6_init : mY := (yX6_init, cX6_init, 1, none, [])
theorem ms_X6_init : mSz zX6_init 0 := ⟨q83, (by rw [mCd_code (z := zX6_init) rfl]; exact q326), by decide +kernel, by decide +kernel, by decide⟩
abbrev zX6_take : mY := (yX6_take, cX6_take, 6, none, [])
theorem ms_X6_take : mSz zX6_take 1 := ⟨q83, (by rw [mCd_code (z := zX6_take) rfl]; exact q603), by decide +kernel, by decide +kernel, by decide⟩
abbrev zX7_init : mY := (yX7_init, cX7_init, 2, none, [])
theorem ms_X7_init : mSz zX7_init 1 := ⟨q88, (by rw [mCd_code (z := zX7_init) rfl]; exact q381), by decide +kernel, by decide +kernel, by decide⟩
abbrev zX7_read : mY := (yX7_read, cX7_read, 2, none, [])
theorem ms_X7_read : mSz zX7_read 0 := ⟨q88, (by rw [mCd_code (z := zX7_read) rfl]; exact q1558), by decide +kernel, by decide +kernel, by decide⟩
abbrev zX7_sort : mY := (yX7_sort, cX7_sort, 2, some .int, [])
theorem ms_X7_sort : mSz zX7_sort 0 := ⟨q88, (by rw [mCd_code (z := zX7_sort) rfl]; exact q1562), by decide +kernel, by decide +kernel, by decide⟩
abbrev zX7_digit : mY := (yX7_digit, cX7_digit, 1, some .int, [])
theorem ms_X7_digit : mSz zX7_digit 0 := ⟨q88, (by rw [mCd_code (z := zX7_digit) rfl]; exact q1635), by decide +kernel, by decide +kernel, by decide⟩
abbrev zX8_init : mY := (yX8_init, cX8_init, 2, none, [])
theorem ms_X8_init : mSz zX8_init 0 := ⟨q96, (by rw [mCd_code (z := zX8_init) rfl]; exact q1723), by decide +kernel, by decide +kernel, by decide⟩
abbrev zX8_thrown : mY := (yX8_thrown, cX8_thrown, 1, some .int, [])
theorem ms_X8_thrown : mSz zX8_thrown 0 := ⟨q96, (by rw [mCd_code (z := zX8_thrown) rfl]; exact q1823), by decide +kernel, by decide +kernel, by decide⟩
abbrev zX8_refusal : mY := (yX8_refusal, cX8_refusal, 2, some .int, [])
theorem ms_X8_refusal : mSz zX8_refusal 1 := ⟨q96, (by rw [mCd_code (z := zX8_refusal) rfl]; exact q1827), by decide +kernel, by decide +kernel, by decide⟩
abbrev zX8_good : mY := (yX8_good, cX8_good, 4, some .int, [])
theorem ms_X8_good : mSz zX8_good 2 := ⟨q96, (by rw [mCd_code (z := zX8_good) rfl]; exact q1831), by decide +kernel, by decide +kernel, by decide⟩
abbrev zX8_keep : mY := (yX8_keep, cX8_keep, 1, none, [])
theorem ms_X8_keep : mSz zX8_keep 0 := ⟨q96, (by rw [mCd_code (z := zX8_keep) rfl]; exact q1835), by decide +kernel, by decide +kernel, by decide⟩
abbrev zX8_in : mY := (yX8_in, cX8_in, 3, some .boolean, [])
theorem ms_X8_in : mSz zX8_in 3 := ⟨q96, (by rw [mCd_code (z := zX8_in) rfl]; exact q1839), by decide +kernel, by decide +kernel, by decide⟩
abbrev zX8_fails : mY := (yX8_fails, cX8_fails, 2, some .int, [])
theorem ms_X8_fails : mSz zX8_fails 1 := ⟨q96, (by rw [mCd_code (z := zX8_fails) rfl]; exact q1843), by decide +kernel, by decide +kernel, by decide⟩
abbrev zX8_ends : mY := (yX8_ends, cX8_ends, 2, some .int, [])
theorem ms_X8_ends : mSz zX8_ends 1 := ⟨q96, (by rw [mCd_code (z := zX8_ends) rfl]; exact q1847), by decide +kernel, by decide +kernel, by decide⟩
abbrev zX8_refuse : mY := (yX8_refuse, cX8_refuse, 4, some .int, [])
theorem ms_X8_refuse : mSz zX8_refuse 3 := ⟨q96, (by rw [mCd_code (z := zX8_refuse) rfl]; exact q1851), by decide +kernel, by decide +kernel, by decide⟩
abbrev zX8_put : mY := (yX8_put, cX8_put, 4, some .int, [])
theorem ms_X8_put : mSz zX8_put 2 := ⟨q96, (by rw [mCd_code (z := zX8_put) rfl]; exact q1855), by decide +kernel, by decide +kernel, by decide⟩
abbrev zX8_isGood : mY := (yX8_isGood, cX8_isGood, 2, some .boolean, [])
theorem ms_X8_isGood : mSz zX8_isGood 1 := ⟨q96, (by rw [mCd_code (z := zX8_isGood) rfl]; exact q1859), by decide +kernel, by decide +kernel, by decide⟩
abbrev zX8_isChest : mY := (yX8_isChest, cX8_isChest, 1, some .boolean, [])
theorem ms_X8_isChest : mSz zX8_isChest 1 := ⟨q96, (by rw [mCd_code (z := zX8_isChest) rfl]; exact q1862), by decide +kernel, by decide +kernel, by decide⟩
abbrev zX8_placeOf : mY := (yX8_placeOf, cX8_placeOf, 5, some .int, [])
theorem ms_X8_placeOf : mSz zX8_placeOf 1 := ⟨q96, (by rw [mCd_code (z := zX8_placeOf) rfl]; exact q1866), by decide +kernel, by decide +kernel, by decide⟩
abbrev zX8_takeOut : mY := (yX8_takeOut, cX8_takeOut, 5, some .int, [])
theorem ms_X8_takeOut : mSz zX8_takeOut 1 := ⟨q96, (by rw [mCd_code (z := zX8_takeOut) rfl]; exact q1870), by decide +kernel, by decide +kernel, by decide⟩
abbrev zX8_rate : mY := (yX8_rate, cX8_rate, 4, some .int, [])
theorem ms_X8_rate : mSz zX8_rate 2 := ⟨q96, (by rw [mCd_code (z := zX8_rate) rfl]; exact q1874), by decide +kernel, by decide +kernel, by decide⟩
abbrev zX8_goodOf : mY := (yX8_goodOf, cX8_goodOf, 3, some .int, [])
theorem ms_X8_goodOf : mSz zX8_goodOf 2 := ⟨q96, (by rw [mCd_code (z := zX8_goodOf) rfl]; exact q1878), by decide +kernel, by decide +kernel, by decide⟩
abbrev zX8_clausesWith : mY := (yX8_clausesWith, cX8_clausesWith, 7, some .int, [])
theorem ms_X8_clausesWith : mSz zX8_clausesWith 3 := ⟨q96, (by rw [mCd_code (z := zX8_clausesWith) rfl]; exact q1882), by decide +kernel, by decide +kernel, by decide⟩
abbrev zX8_sort : mY := (yX8_sort, cX8_sort, 2, some .int, [])
theorem ms_X8_sort : mSz zX8_sort 1 := ⟨q96, (by rw [mCd_code (z := zX8_sort) rfl]; exact q1886), by decide +kernel, by decide +kernel, by decide⟩
abbrev zX8_goodIn : mY := (yX8_goodIn, cX8_goodIn, 3, some .int, [])
theorem ms_X8_goodIn : mSz zX8_goodIn 1 := ⟨q96, (by rw [mCd_code (z := zX8_goodIn) rfl]; exact q1890), by decide +kernel, by decide +kernel, by decide⟩
abbrev zX8_one : mY := (yX8_one, cX8_one, 2, some .int, [])
theorem ms_X8_one : mSz zX8_one 1 := ⟨q96, (by rw [mCd_code (z := zX8_one) rfl]; exact q1894), by decide +kernel, by decide +kernel, by decide⟩
abbrev zX8_chestAt : mY := (yX8_chestAt, cX8_chestAt, 3, some .int, [])
theorem ms_X8_chestAt : mSz zX8_chestAt 2 := ⟨q96, (by rw [mCd_code (z := zX8_chestAt) rfl]; exact q1898), by decide +kernel, by decide +kernel, by decide⟩
abbrev zX8_tithe : mY := (yX8_tithe, cX8_tithe, 2, some .float, [])
theorem ms_X8_tithe : mSz zX8_tithe 1 := ⟨q96, (by rw [mCd_code (z := zX8_tithe) rfl]; exact q1902), by decide +kernel, by decide +kernel, by decide⟩
abbrev zX8_titheOf : mY := (yX8_titheOf, cX8_titheOf, 2, some .float, [])
theorem ms_X8_titheOf : mSz zX8_titheOf 1 := ⟨q96, (by rw [mCd_code (z := zX8_titheOf) rfl]; exact q1906), by decide +kernel, by decide +kernel, by decide⟩
abbrev zX8_rateOf : mY := (yX8_rateOf, cX8_rateOf, 2, some .float, [])
theorem ms_X8_rateOf : mSz zX8_rateOf 1 := ⟨q96, (by rw [mCd_code (z := zX8_rateOf) rfl]; exact q1910), by decide +kernel, by decide +kernel, by decide⟩
abbrev zX8_rateBits : mY := (yX8_rateBits, cX8_rateBits, 2, some .int, [])
theorem ms_X8_rateBits : mSz zX8_rateBits 1 := ⟨q96, (by rw [mCd_code (z := zX8_rateBits) rfl]; exact q1915), by decide +kernel, by decide +kernel, by decide⟩
abbrev zX8_add : mY := (yX8_add, cX8_add, 4, some .int, [])
theorem ms_X8_add : mSz zX8_add 3 := ⟨q96, (by rw [mCd_code (z := zX8_add) rfl]; exact q1920), by decide +kernel, by decide +kernel, by decide⟩
abbrev zX8_doInsert : mY := (yX8_doInsert, cX8_doInsert, 7, some .int, [])
theorem ms_X8_doInsert : mSz zX8_doInsert 5 := ⟨q96, (by rw [mCd_code (z := zX8_doInsert) rfl]; exact q1924), by decide +kernel, by decide +kernel, by decide⟩
abbrev zX8_isFit : mY := (yX8_isFit, cX8_isFit, 8, some .boolean, [])
theorem ms_X8_isFit : mSz zX8_isFit 4 := ⟨q96, (by rw [mCd_code (z := zX8_isFit) rfl]; exact q1928), by decide +kernel, by decide +kernel, by decide⟩
abbrev zX8_hasPlough : mY := (yX8_hasPlough, cX8_hasPlough, 1, some .boolean, [])
theorem ms_X8_hasPlough : mSz zX8_hasPlough 1 := ⟨q96, (by rw [mCd_code (z := zX8_hasPlough) rfl]; exact q1931), by decide +kernel, by decide +kernel, by decide⟩
abbrev zX8_hasGood : mY := (yX8_hasGood, cX8_hasGood, 1, some .boolean, [])
theorem ms_X8_hasGood : mSz zX8_hasGood 1 := ⟨q96, (by rw [mCd_code (z := zX8_hasGood) rfl]; exact q1934), by decide +kernel, by decide +kernel, by decide⟩
abbrev zX8_isPut : mY := (yX8_isPut, cX8_isPut, 1, some .boolean, [])
theorem ms_X8_isPut : mSz zX8_isPut 1 := ⟨q96, (by rw [mCd_code (z := zX8_isPut) rfl]; exact q1937), by decide +kernel, by decide +kernel, by decide⟩
abbrev zX8_sets : mY := (yX8_sets, cX8_sets, 5, none, [])
theorem ms_X8_sets : mSz zX8_sets 4 := ⟨q96, (by rw [mCd_code (z := zX8_sets) rfl]; exact q1941), by decide +kernel, by decide +kernel, by decide⟩
abbrev zX8_insert : mY := (yX8_insert, cX8_insert, 5, some .int, [])
theorem ms_X8_insert : mSz zX8_insert 4 := ⟨q96, (by rw [mCd_code (z := zX8_insert) rfl]; exact q1945), by decide +kernel, by decide +kernel, by decide⟩
abbrev zX8_remove : mY := (yX8_remove, cX8_remove, 4, some .int, [])
theorem ms_X8_remove : mSz zX8_remove 1 := ⟨q96, (by rw [mCd_code (z := zX8_remove) rfl]; exact q1949), by decide +kernel, by decide +kernel, by decide⟩
abbrev zX8_isClause : mY := (yX8_isClause, cX8_isClause, 2, some .boolean, [])
theorem ms_X8_isClause : mSz zX8_isClause 1 := ⟨q96, (by rw [mCd_code (z := zX8_isClause) rfl]; exact q1953), by decide +kernel, by decide +kernel, by decide⟩
abbrev zX8_clauseOf : mY := (yX8_clauseOf, cX8_clauseOf, 3, some .int, [])
theorem ms_X8_clauseOf : mSz zX8_clauseOf 2 := ⟨q96, (by rw [mCd_code (z := zX8_clauseOf) rfl]; exact q1957), by decide +kernel, by decide +kernel, by decide⟩
abbrev zX8_nests : mY := (yX8_nests, cX8_nests, 5, some .boolean, [])
theorem ms_X8_nests : mSz zX8_nests 0 := ⟨q96, (by rw [mCd_code (z := zX8_nests) rfl]; exact q1961), by decide +kernel, by decide +kernel, by decide⟩
abbrev zX8_wrong : mY := (yX8_wrong, cX8_wrong, 2, some .int, [])
theorem ms_X8_wrong : mSz zX8_wrong 1 := ⟨q96, (by rw [mCd_code (z := zX8_wrong) rfl]; exact q1966), by decide +kernel, by decide +kernel, by decide⟩
abbrev zX8_looks : mY := (yX8_looks, cX8_looks, 1, none, [])
theorem ms_X8_looks : mSz zX8_looks 0 := ⟨q96, (by rw [mCd_code (z := zX8_looks) rfl]; exact q1970), by decide +kernel, by decide +kernel, by decide⟩
abbrev zX8_goesTo : mY := (yX8_goesTo, cX8_goesTo, 4, some .boolean, [])
theorem ms_X8_goesTo : mSz zX8_goesTo 1 := ⟨q96, (by rw [mCd_code (z := zX8_goesTo) rfl]; exact q1974), by decide +kernel, by decide +kernel, by decide⟩
abbrev zX8_begins : mY := (yX8_begins, cX8_begins, 2, none, [])
theorem ms_X8_begins : mSz zX8_begins 0 := ⟨q96, (by rw [mCd_code (z := zX8_begins) rfl]; exact q1978), by decide +kernel, by decide +kernel, by decide⟩
abbrev zX8_goes : mY := (yX8_goes, cX8_goes, 5, some .boolean, [])
theorem ms_X8_goes : mSz zX8_goes 2 := ⟨q96, (by rw [mCd_code (z := zX8_goes) rfl]; exact q1982), by decide +kernel, by decide +kernel, by decide⟩
abbrev zX8_errs : mY := (yX8_errs, cX8_errs, 4, some .boolean, [])
theorem ms_X8_errs : mSz zX8_errs 3 := ⟨q96, (by rw [mCd_code (z := zX8_errs) rfl]; exact q1986), by decide +kernel, by decide +kernel, by decide⟩
abbrev zX8_opens : mY := (yX8_opens, cX8_opens, 3, none, [])
theorem ms_X8_opens : mSz zX8_opens 2 := ⟨q96, (by rw [mCd_code (z := zX8_opens) rfl]; exact q1990), by decide +kernel, by decide +kernel, by decide⟩
abbrev zX8_ended : mY := (yX8_ended, cX8_ended, 4, some .boolean, [])
theorem ms_X8_ended : mSz zX8_ended 1 := ⟨q96, (by rw [mCd_code (z := zX8_ended) rfl]; exact q1994), by decide +kernel, by decide +kernel, by decide⟩
abbrev zX8_leftOf : mY := (yX8_leftOf, cX8_leftOf, 4, some .int, [])
theorem ms_X8_leftOf : mSz zX8_leftOf 1 := ⟨q96, (by rw [mCd_code (z := zX8_leftOf) rfl]; exact q1998), by decide +kernel, by decide +kernel, by decide⟩
abbrev zX8_brings : mY := (yX8_brings, cX8_brings, 3, some .boolean, [])
theorem ms_X8_brings : mSz zX8_brings 2 := ⟨q96, (by rw [mCd_code (z := zX8_brings) rfl]; exact q2002), by decide +kernel, by decide +kernel, by decide⟩
abbrev zX8_gives : mY := (yX8_gives, cX8_gives, 3, some .boolean, [])
theorem ms_X8_gives : mSz zX8_gives 2 := ⟨q96, (by rw [mCd_code (z := zX8_gives) rfl]; exact q2006), by decide +kernel, by decide +kernel, by decide⟩
abbrev zX8_ploughsOn : mY := (yX8_ploughsOn, cX8_ploughsOn, 5, some .int, [])
theorem ms_X8_ploughsOn : mSz zX8_ploughsOn 2 := ⟨q96, (by rw [mCd_code (z := zX8_ploughsOn) rfl]; exact q2010), by decide +kernel, by decide +kernel, by decide⟩
abbrev zX8_puts : mY := (yX8_puts, cX8_puts, 5, some .boolean, [])
theorem ms_X8_puts : mSz zX8_puts 4 := ⟨q96, (by rw [mCd_code (z := zX8_puts) rfl]; exact q2014), by decide +kernel, by decide +kernel, by decide⟩
abbrev zX8_meets : mY := (yX8_meets, cX8_meets, 6, some .boolean, [])
theorem ms_X8_meets : mSz zX8_meets 1 := ⟨q96, (by rw [mCd_code (z := zX8_meets) rfl]; exact q2018), by decide +kernel, by decide +kernel, by decide⟩
abbrev zX8_finishes : mY := (yX8_finishes, cX8_finishes, 3, none, [])
theorem ms_X8_finishes : mSz zX8_finishes 0 := ⟨q96, (by rw [mCd_code (z := zX8_finishes) rfl]; exact q2022), by decide +kernel, by decide +kernel, by decide⟩
abbrev zX8_isSound : mY := (yX8_isSound, cX8_isSound, 2, some .boolean, [])
theorem ms_X8_isSound : mSz zX8_isSound 1 := ⟨q96, (by rw [mCd_code (z := zX8_isSound) rfl]; exact q2026), by decide +kernel, by decide +kernel, by decide⟩
abbrev zX8_goodAt : mY := (yX8_goodAt, cX8_goodAt, 3, some .int, [])
theorem ms_X8_goodAt : mSz zX8_goodAt 2 := ⟨q96, (by rw [mCd_code (z := zX8_goodAt) rfl]; exact q2030), by decide +kernel, by decide +kernel, by decide⟩
abbrev zX8_ploughAt : mY := (yX8_ploughAt, cX8_ploughAt, 3, some .int, [])
theorem ms_X8_ploughAt : mSz zX8_ploughAt 2 := ⟨q96, (by rw [mCd_code (z := zX8_ploughAt) rfl]; exact q2034), by decide +kernel, by decide +kernel, by decide⟩
abbrev zX8_paths : mY := (yX8_paths, cX8_paths, 1, some .int, [])
theorem ms_X8_paths : mSz zX8_paths 0 := ⟨q96, (by rw [mCd_code (z := zX8_paths) rfl]; exact q2038), by decide +kernel, by decide +kernel, by decide⟩
abbrev zX8_pathMany : mY := (yX8_pathMany, cX8_pathMany, 1, some .int, [])
theorem ms_X8_pathMany : mSz zX8_pathMany 0 := ⟨q96, (by rw [mCd_code (z := zX8_pathMany) rfl]; exact q2042), by decide +kernel, by decide +kernel, by decide⟩
abbrev zX8_count : mY := (yX8_count, cX8_count, 5, some .int, [])
theorem ms_X8_count : mSz zX8_count 2 := ⟨q96, (by rw [mCd_code (z := zX8_count) rfl]; exact q2046), by decide +kernel, by decide +kernel, by decide⟩
abbrev zX8_pathOf : mY := (yX8_pathOf, cX8_pathOf, 3, some .int, [])
theorem ms_X8_pathOf : mSz zX8_pathOf 2 := ⟨q96, (by rw [mCd_code (z := zX8_pathOf) rfl]; exact q2050), by decide +kernel, by decide +kernel, by decide⟩
abbrev zX8_marksPath : mY := (yX8_marksPath, cX8_marksPath, 3, none, [])
theorem ms_X8_marksPath : mSz zX8_marksPath 1 := ⟨q96, (by rw [mCd_code (z := zX8_marksPath) rfl]; exact q2054), by decide +kernel, by decide +kernel, by decide⟩
abbrev zX8_marks : mY := (yX8_marks, cX8_marks, 9, none, [])
theorem ms_X8_marks : mSz zX8_marks 3 := ⟨q96, (by rw [mCd_code (z := zX8_marks) rfl]; exact q2058), by decide +kernel, by decide +kernel, by decide⟩
abbrev zX8_sumOf : mY := (yX8_sumOf, cX8_sumOf, 5, some .int, [])
theorem ms_X8_sumOf : mSz zX8_sumOf 1 := ⟨q96, (by rw [mCd_code (z := zX8_sumOf) rfl]; exact q2062), by decide +kernel, by decide +kernel, by decide⟩
abbrev zX8_looksOn : mY := (yX8_looksOn, cX8_looksOn, 3, none, [])
theorem ms_X8_looksOn : mSz zX8_looksOn 0 := ⟨q96, (by rw [mCd_code (z := zX8_looksOn) rfl]; exact q2066), by decide +kernel, by decide +kernel, by decide⟩
abbrev zX8_goesBy : mY := (yX8_goesBy, cX8_goesBy, 3, some .boolean, [])
theorem ms_X8_goesBy : mSz zX8_goesBy 2 := ⟨q96, (by rw [mCd_code (z := zX8_goesBy) rfl]; exact q2070), by decide +kernel, by decide +kernel, by decide⟩
abbrev zX8_worth : mY := (yX8_worth, cX8_worth, 7, some .int, [])
theorem ms_X8_worth : mSz zX8_worth 2 := ⟨q96, (by rw [mCd_code (z := zX8_worth) rfl]; exact q2074), by decide +kernel, by decide +kernel, by decide⟩
abbrev zX8_tithes : mY := (yX8_tithes, cX8_tithes, 2, some .float, [])
theorem ms_X8_tithes : mSz zX8_tithes 1 := ⟨q96, (by rw [mCd_code (z := zX8_tithes) rfl]; exact q2079), by decide +kernel, by decide +kernel, by decide⟩
abbrev zX8_tithesOf : mY := (yX8_tithesOf, cX8_tithesOf, 4, some .float, [])
theorem ms_X8_tithesOf : mSz zX8_tithesOf 1 := ⟨q96, (by rw [mCd_code (z := zX8_tithesOf) rfl]; exact q2083), by decide +kernel, by decide +kernel, by decide⟩
abbrev zX8_richest : mY := (yX8_richest, cX8_richest, 4, some .int, [])
theorem ms_X8_richest : mSz zX8_richest 0 := ⟨q96, (by rw [mCd_code (z := zX8_richest) rfl]; exact q2087), by decide +kernel, by decide +kernel, by decide⟩
abbrev zX8_line : mY := (yX8_line, cX8_line, 3, some .int, [])
theorem ms_X8_line : mSz zX8_line 0 := ⟨q96, (by rw [mCd_code (z := zX8_line) rfl]; exact q2091), by decide +kernel, by decide +kernel, by decide⟩
abbrev zX8_says : mY := (yX8_says, cX8_says, 2, none, [])
theorem ms_X8_says : mSz zX8_says 1 := ⟨q96, (by rw [mCd_code (z := zX8_says) rfl]; exact q2097), by decide +kernel, by decide +kernel, by decide⟩
abbrev zX8_character : mY := (yX8_character, cX8_character, 2, some .char, [])
theorem ms_X8_character : mSz zX8_character 1 := ⟨q96, (by rw [mCd_code (z := zX8_character) rfl]; exact q2101), by decide +kernel, by decide +kernel, by decide⟩
abbrev zX8_append : mY := (yX8_append, cX8_append, 2, some .int, [])
theorem ms_X8_append : mSz zX8_append 1 := ⟨q96, (by rw [mCd_code (z := zX8_append) rfl]; exact q2105), by decide +kernel, by decide +kernel, by decide⟩
abbrev zX8_read : mY := (yX8_read, cX8_read, 3, some .int, [])
theorem ms_X8_read : mSz zX8_read 0 := ⟨q96, (by rw [mCd_code (z := zX8_read) rfl]; exact q2109), by decide +kernel, by decide +kernel, by decide⟩
abbrev zX8_reads : mY := (yX8_reads, cX8_reads, 7, some .int, [])
theorem ms_X8_reads : mSz zX8_reads 0 := ⟨q96, (by rw [mCd_code (z := zX8_reads) rfl]; exact q2113), by decide +kernel, by decide +kernel, by decide⟩
abbrev zX8_sortOf : mY := (yX8_sortOf, cX8_sortOf, 3, some .int, [])
theorem ms_X8_sortOf : mSz zX8_sortOf 1 := ⟨q96, (by rw [mCd_code (z := zX8_sortOf) rfl]; exact q2116), by decide +kernel, by decide +kernel, by decide⟩
abbrev zX8_errorPosition : mY := (yX8_errorPosition, cX8_errorPosition, 1, some .int, [])
theorem ms_X8_errorPosition : mSz zX8_errorPosition 0 := ⟨q96, (by rw [mCd_code (z := zX8_errorPosition) rfl]; exact q2120), by decide +kernel, by decide +kernel, by decide⟩
abbrev zX8_account : mY := (yX8_account, cX8_account, 2, some .int, [])
theorem ms_X8_account : mSz zX8_account 1 := ⟨q96, (by rw [mCd_code (z := zX8_account) rfl]; exact q2124), by decide +kernel, by decide +kernel, by decide⟩
abbrev zX8_allWorth : mY := (yX8_allWorth, cX8_allWorth, 3, some .int, [])
theorem ms_X8_allWorth : mSz zX8_allWorth 0 := ⟨q96, (by rw [mCd_code (z := zX8_allWorth) rfl]; exact q2128), by decide +kernel, by decide +kernel, by decide⟩
abbrev zX8_choices : mY := (yX8_choices, cX8_choices, 3, some .int, [])
theorem ms_X8_choices : mSz zX8_choices 0 := ⟨q96, (by rw [mCd_code (z := zX8_choices) rfl]; exact q2132), by decide +kernel, by decide +kernel, by decide⟩
abbrev zX8_isWell : mY := (yX8_isWell, cX8_isWell, 4, some .boolean, [])
theorem ms_X8_isWell : mSz zX8_isWell 0 := ⟨q96, (by rw [mCd_code (z := zX8_isWell) rfl]; exact q2136), by decide +kernel, by decide +kernel, by decide⟩
abbrev zX8_meanWorth : mY := (yX8_meanWorth, cX8_meanWorth, 1, some .double, [])
theorem ms_X8_meanWorth : mSz zX8_meanWorth 0 := ⟨q96, (by rw [mCd_code (z := zX8_meanWorth) rfl]; exact q2140), by decide +kernel, by decide +kernel, by decide⟩
abbrev zX8_undo : mY := (yX8_undo, cX8_undo, 1, some .int, [])
theorem ms_X8_undo : mSz zX8_undo 0 := ⟨q96, (by rw [mCd_code (z := zX8_undo) rfl]; exact q2144), by decide +kernel, by decide +kernel, by decide⟩
abbrev zX8_save : mY := (yX8_save, cX8_save, 1, some .int, [])
theorem ms_X8_save : mSz zX8_save 0 := ⟨q96, (by rw [mCd_code (z := zX8_save) rfl]; exact q2148), by decide +kernel, by decide +kernel, by decide⟩
abbrev zX8_restore : mY := (yX8_restore, cX8_restore, 1, some .int, [])
theorem ms_X8_restore : mSz zX8_restore 0 := ⟨q96, (by rw [mCd_code (z := zX8_restore) rfl]; exact q2152), by decide +kernel, by decide +kernel, by decide⟩
abbrev zX9_init : mY := (yX9_init, cX9_init, 3, none, [])
theorem ms_X9_init : mSz zX9_init 2 := ⟨q98, (by rw [mCd_code (z := zX9_init) rfl]; exact q1135), by decide +kernel, by decide +kernel, by decide⟩
abbrev zL_law : mY := (x, code, maxLocals, ret, [])
theorem s_J0_1_s : mSI (mYn zJ0_init).cls 1 zJ26_init 0 := ⟨ms_J26_init, (Or.inl q205), q124, rfl, rfl, rfl⟩
theorem s_J1_42_s : mSI (mYn zJ1_init).cls 42 zJ0_init 0 := ⟨ms_J0_init, (Or.inl q202), q203, rfl, rfl, rfl⟩
theorem f_J1_3_13 : mFS RJ1 3 13 0 := ⟨_, _, _, rfl, by decide, in_J1, (Or.inl q208)⟩
theorem f_J1_20_13 : mFS RJ1 20 13 2 := ⟨_, _, _, rfl, by decide, in_J1, (Or.inl q210)⟩
theorem f_J1_24_13 : mFS RJ1 24 13 1 := ⟨_, _, _, rfl, by decide, in_J1, (Or.inl q209)⟩
theorem s_J1_74_s : mSS (mYn zJ1_addLast).cls 74 zJ1_inc 2 := ⟨ms_J1_inc, (Or.inl q410), q411⟩
theorem s_J1_71_v : mSV (mYn zJ1_addLast).cls 71 zJ1_grow 13 1 := ⟨ms_J1_grow, (Or.inl q413), q415, qs0, _, _, rfl⟩
theorem s_J1_10_v : mSV (mYn zJ1_grow).cls 10 zJ1_newCapacity 13 2 := ⟨ms_J1_newCapacity, (Or.inl q418), q420, qs1, _, _, rfl⟩
theorem s_J1_14_s : mSS (mYn zJ1_grow).cls 14 zJ10_copyOf 2 := ⟨ms_J10_copyOf, (Or.inl q498), q499⟩
theorem s_J1_37_s : mSI (mYn zJ1_newCapacity).cls 37 zJ9_init 1 := ⟨ms_J9_init, (Or.inl q472), q473, rfl, rfl, rfl⟩
theorem s_J1_103_s : mSS (mYn zJ1_pollFirst).cls 103 zJ1_elementAt 2 := ⟨ms_J1_elementAt, (Or.inl q1206), q1207⟩
theorem s_J1_127_s : mSS (mYn zJ1_size).cls 127 zJ1_sub 3 := ⟨ms_J1_sub, (Or.inl q1666), q1667⟩
theorem s_J1_68_s : mSS (mYn zJ1_pollLast).cls 68 zJ1_dec 2 := ⟨ms_J1_dec, (Or.inl q1709), q1710⟩
theorem s_J10_300_s : mSS (mYn zJ10_copyOf).cls 300 zJ10_copyOf_2 3 := ⟨ms_J10_copyOf_2, (Or.inl q530), q531⟩
theorem s_J10_304_s : mSS (mYn zJ10_copyOf_2).cls 304 zJ11_min 2 := ⟨ms_J11_min, (Or.inl q535), q536⟩
theorem s_J10_339_s : mSS (mYn zJ10_copyOfRange).cls 339 zJ10_copyOfRangeByte 3 := ⟨ms_J10_copyOfRangeByte, (Or.inl q895), q896⟩
theorem s_J10_343_s : mSS (mYn zJ10_copyOfRangeByte).cls 343 zJ10_checkLength 2 := ⟨ms_J10_checkLength, (Or.inl q898), q899⟩
theorem n_J10_45 : mNS RJ10 45 14 [.null, .int 0, .int 0, .int 0] := ⟨_, _, _, tyJ3, rfl, in_J3, tyJ3_ok, q910, q345, q85, rfl⟩
theorem s_J10_47_s : mSI (mYn zJ10_checkLength).cls 47 zJ3_init 0 := ⟨ms_J3_init, (Or.inl q911), q347, rfl, rfl, rfl⟩
theorem s_J10_54_v : mSV (mYn zJ10_checkLength).cls 54 zJ3_append_2 14 1 := ⟨ms_J3_append_2, (Or.inl q912), q841, q842, _, _, rfl⟩
theorem s_J10_50_v : mSV (mYn zJ10_checkLength).cls 50 zJ3_append 14 1 := ⟨ms_J3_append, (Or.inl q914), q731, q732, _, _, rfl⟩
theorem s_J10_61_v : mSV (mYn zJ10_checkLength).cls 61 zJ3_toString 14 0 := ⟨ms_J3_toString, (Or.inl q915), q866, q867, _, _, rfl⟩
theorem s_J10_65_s : mSI (mYn zJ10_checkLength).cls 65 zJ12_init 1 := ⟨ms_J12_init, (Or.inl q916), q917, rfl, rfl, rfl⟩
theorem s_J10_13_s : mSS (mYn zJ10_fill).cls 13 zJ10_rangeCheck 3 := ⟨ms_J10_rangeCheck, (Or.inl q963), q964⟩
theorem s_J10_70_s : mSI (mYn zJ10_rangeCheck).cls 70 zJ15_init 1 := ⟨ms_J15_init, (Or.inl q980), q981, rfl, rfl, rfl⟩
theorem s_J12_7_s : mSI (mYn zJ12_init).cls 7 zJ8_init 1 := ⟨ms_J8_init, (Or.inl q919), q476, rfl, rfl, rfl⟩
theorem s_J12_1_s : mSI (mYn zJ12_init_2).cls 1 zJ8_init_2 0 := ⟨ms_J8_init_2, (Or.inl q1107), q1108, rfl, rfl, rfl⟩
theorem s_J13_1_s : mSI (mYn zJ13_init).cls 1 zJ8_init_2 0 := ⟨ms_J8_init_2, (Or.inl q1225), q1108, rfl, rfl, rfl⟩
theorem s_J14_7_s : mSI (mYn zJ14_init).cls 7 zJ8_init 1 := ⟨ms_J8_init, (Or.inl q949), q476, rfl, rfl, rfl⟩
theorem s_J14_1_s : mSI (mYn zJ14_init_2).cls 1 zJ8_init_2 0 := ⟨ms_J8_init_2, (Or.inl q1261), q1108, rfl, rfl, rfl⟩
theorem n_J15_10 : mNS RJ15 10 14 [.null, .int 0, .int 0, .int 0] := ⟨_, _, _, tyJ3, rfl, in_J3, tyJ3_ok, q983, q345, q85, rfl⟩
theorem s_J15_12_s : mSI (mYn zJ15_init).cls 12 zJ3_init 0 := ⟨ms_J3_init, (Or.inl q984), q347, rfl, rfl, rfl⟩
theorem s_J15_15_v : mSV (mYn zJ15_init).cls 15 zJ3_append 14 1 := ⟨ms_J3_append, (Or.inl q986), q731, q732, _, _, rfl⟩
theorem s_J15_19_v : mSV (mYn zJ15_init).cls 19 zJ3_append_2 14 1 := ⟨ms_J3_append_2, (Or.inl q987), q841, q842, _, _, rfl⟩
theorem s_J15_22_v : mSV (mYn zJ15_init).cls 22 zJ3_toString 14 0 := ⟨ms_J3_toString, (Or.inl q988), q866, q867, _, _, rfl⟩
theorem s_J15_7_s : mSI (mYn zJ15_init).cls 7 zJ14_init 1 := ⟨ms_J14_init, (Or.inl q989), q947, rfl, rfl, rfl⟩
theorem s_J16_7_s : mSI (mYn zJ16_init).cls 7 zJ8_init 1 := ⟨ms_J8_init, (Or.inl q1275), q476, rfl, rfl, rfl⟩
theorem s_J17_1_s : mSI (mYn zJ17_init).cls 1 zJ8_init_2 0 := ⟨ms_J8_init_2, (Or.inl q1354), q1108, rfl, rfl, rfl⟩
theorem s_J18_59_s : mSS (mYn zJ18_floatToIntBits).cls 59 zJ18_isNaN 1 := ⟨ms_J18_isNaN, (Or.inl q1378), q1379⟩
theorem n_J19_10 : mNS RJ19 10 14 [.null, .int 0, .int 0, .int 0] := ⟨_, _, _, tyJ3, rfl, in_J3, tyJ3_ok, q727, q345, q85, rfl⟩
theorem s_J19_12_s : mSI (mYn zJ19_init).cls 12 zJ3_init 0 := ⟨ms_J3_init, (Or.inl q728), q347, rfl, rfl, rfl⟩
theorem s_J19_15_v : mSV (mYn zJ19_init).cls 15 zJ3_append 14 1 := ⟨ms_J3_append, (Or.inl q730), q731, q732, _, _, rfl⟩
theorem s_J19_19_v : mSV (mYn zJ19_init).cls 19 zJ3_append_2 14 1 := ⟨ms_J3_append_2, (Or.inl q840), q841, q842, _, _, rfl⟩
theorem s_J19_22_v : mSV (mYn zJ19_init).cls 22 zJ3_toString 14 0 := ⟨ms_J3_toString, (Or.inl q865), q866, q867, _, _, rfl⟩
theorem s_J19_7_s : mSI (mYn zJ19_init).cls 7 zJ14_init 1 := ⟨ms_J14_init, (Or.inl q946), q947, rfl, rfl, rfl⟩
theorem s_J2_3_s : mSI (mYn zJ2_init).cls 3 zJ26_init 0 := ⟨ms_J26_init, (Or.inl q352), q124, rfl, rfl, rfl⟩
theorem f_J2_15_14 : mFS RJ2 15 14 0 := ⟨_, _, _, rfl, by decide, in_J3, (Or.inl q362)⟩
theorem f_J2_22_14 : mFS RJ2 22 14 1 := ⟨_, _, _, rfl, by decide, in_J3, (Or.inl q363)⟩
theorem s_J2_26_s : mSS (mYn zJ2_init).cls 26 zJ5_newBytesFor 1 := ⟨ms_J5_newBytesFor, (Or.inl q355), q356⟩
theorem s_J2_131_s : mSI (mYn zJ2_setLength).cls 131 zJ19_init 1 := ⟨ms_J19_init, (Or.inl q724), q725, rfl, rfl, rfl⟩
theorem f_J2_79_14 : mFS RJ2 79 14 3 := ⟨_, _, _, rfl, by decide, in_J3, (Or.inl q366)⟩
theorem s_J2_133_s : mSS (mYn zJ2_setLength).cls 133 zJ22_fillNull 3 := ⟨ms_J22_fillNull, (Or.inl q957), q958⟩
theorem s_J2_137_s : mSS (mYn zJ2_setLength).cls 137 zJ5_fillNull 3 := ⟨ms_J5_fillNull, (Or.inl q992), q993⟩
theorem f_J2_73_14 : mFS RJ2 73 14 2 := ⟨_, _, _, rfl, by decide, in_J3, (Or.inl q364)⟩
theorem s_J2_32_v : mSV (mYn zJ2_append).cls 32 zJ4_length 15 0 := ⟨ms_J4_length, (Or.inl q797), q798, q799, _, _, rfl⟩
theorem s_J2_226_s : mSS (mYn zJ2_appendNull).cls 226 zJ5_putCharsAt 6 := ⟨ms_J5_putCharsAt, (Or.inl q771), q772⟩
theorem s_J2_108_s : mSS (mYn zJ2_ensureCapacityInternal).cls 108 zJ10_copyOf_3 2 := ⟨ms_J10_copyOf_3, (Or.inl q758), q759⟩
theorem s_J2_114_s : mSS (mYn zJ2_newCapacity).cls 114 zJ20_newLength 3 := ⟨ms_J20_newLength, (Or.inl q749), q750⟩
theorem s_J2_399_v : mSV (mYn zJ2_putStringAt).cls 399 zJ4_getBytes 15 3 := ⟨ms_J4_getBytes, (Or.inl q834), q835, q836, _, _, rfl⟩
theorem s_J2_40_v : mSV (mYn zJ2_inflateIfNeededFor).cls 40 zJ4_coder 15 0 := ⟨ms_J4_coder, (Or.inl q814), q802, q803, _, _, rfl⟩
theorem s_J2_125_s : mSS (mYn zJ2_inflate).cls 125 zJ22_inflate 5 := ⟨ms_J22_inflate, (Or.inl q819), q820⟩
theorem s_J2_245_s : mSS (mYn zJ2_append_2).cls 245 zJ23_stringSize 1 := ⟨ms_J23_stringSize, (Or.inl q847), q848⟩
theorem s_J2_248_s : mSS (mYn zJ2_append_2).cls 248 zJ23_getChars 3 := ⟨ms_J23_getChars, (Or.inl q850), q851⟩
theorem s_J2_251_s : mSS (mYn zJ2_append_2).cls 251 zJ5_getChars 4 := ⟨ms_J5_getChars, (Or.inl q857), q858⟩
theorem s_J2_191_s : mSS (mYn zJ2_append_3).cls 191 zJ22_canEncode 1 := ⟨ms_J22_canEncode, (Or.inl q1032), q1033⟩
theorem s_J2_197_s : mSS (mYn zJ2_append_3).cls 197 zJ5_putCharSB 3 := ⟨ms_J5_putCharSB, (Or.inl q1035), q1036⟩
theorem s_J2_138_s : mSS (mYn zJ2_charAt).cls 138 zJ11_min 2 := ⟨ms_J11_min, (Or.inl q1527), q536⟩
theorem s_J2_144_s : mSS (mYn zJ2_charAt).cls 144 zJ4_checkIndex 2 := ⟨ms_J4_checkIndex, (Or.inl q1528), q1013⟩
theorem s_J2_148_s : mSS (mYn zJ2_charAt).cls 148 zJ5_getChar 2 := ⟨ms_J5_getChar, (Or.inl q1529), q929⟩
theorem s_J20_194_s : mSS (mYn zJ20_newLength).cls 194 zJ11_max 2 := ⟨ms_J11_max, (Or.inl q752), q605⟩
theorem s_J20_201_s : mSS (mYn zJ20_newLength).cls 201 zJ20_hugeLength 2 := ⟨ms_J20_hugeLength, (Or.inl q754), q755⟩
theorem s_J22_240_s : mSS (mYn zJ22_inflate).cls 240 zJ5_inflate 5 := ⟨ms_J5_inflate, (Or.inl q822), q823⟩
theorem s_J22_236_s : mSS (mYn zJ22_fillNull).cls 236 zJ10_fill 4 := ⟨ms_J10_fill, (Or.inl q960), q961⟩
theorem s_J22_9_s : mSS (mYn zJ22_charAt).cls 9 zJ4_checkIndex 2 := ⟨ms_J4_checkIndex, (Or.inl q1012), q1013⟩
theorem s_J22_88_s : mSS (mYn zJ22_indexOf).cls 88 zJ22_canEncode_2 1 := ⟨ms_J22_canEncode_2, (Or.inl q1578), q1579⟩
theorem s_J22_92_s : mSS (mYn zJ22_indexOf).cls 92 zJ11_max 2 := ⟨ms_J11_max, (Or.inl q1581), q605⟩
theorem s_J22_38_s : mSS (mYn zJ22_indexOf).cls 38 zJ11_min 2 := ⟨ms_J11_min, (Or.inl q1582), q536⟩
theorem s_J22_95_s : mSS (mYn zJ22_indexOf).cls 95 zJ22_indexOfChar 4 := ⟨ms_J22_indexOfChar, (Or.inl q1583), q1584⟩
theorem s_J25_7_s : mSI (mYn zJ25_init).cls 7 zJ8_init 1 := ⟨ms_J8_init, (Or.inl q1676), q476, rfl, rfl, rfl⟩
theorem s_J25_1_s : mSI (mYn zJ25_init_2).cls 1 zJ8_init_2 0 := ⟨ms_J8_init_2, (Or.inl q1697), q1108, rfl, rfl, rfl⟩
theorem s_J3_1_s : mSI (mYn zJ3_init).cls 1 zJ2_init 1 := ⟨ms_J2_init, (Or.inl q349), q350, rfl, rfl, rfl⟩
theorem n_J3_18 : mNS RJ3 18 15 [.null, .int 0, .int 0, .int 0] := ⟨_, _, _, tyJ4, rfl, in_J4, tyJ4_ok, q869, q870, q86, rfl⟩
theorem s_J3_137_s : mSI (mYn zJ3_toString).cls 137 zJ4_init 1 := ⟨ms_J4_init, (Or.inl q871), q872, rfl, rfl, rfl⟩
theorem s_J4_1062_s : mSS (mYn zJ4_checkBoundsBeginEnd).cls 1062 zJ21_checkFromToIndex 4 := ⟨ms_J21_checkFromToIndex, (Or.inl q785), q786⟩
theorem f_J4_9_15 : mFS RJ4 9 15 0 := ⟨_, _, _, rfl, by decide, in_J4, (Or.inl q935)⟩
theorem s_J4_335_v : mSV (mYn zJ4_length).cls 335 zJ4_coder 15 0 := ⟨ms_J4_coder, (Or.inl q801), q802, q803, _, _, rfl⟩
theorem f_J4_15_15 : mFS RJ4 15 15 1 := ⟨_, _, _, rfl, by decide, in_J4, (Or.inl q936)⟩
theorem s_J4_1065_s : mSS (mYn zJ4_checkBoundsOffCount).cls 1065 zJ21_checkFromIndexSize 4 := ⟨ms_J21_checkFromIndexSize, (Or.inl q831), q832⟩
theorem s_J4_106_s : mSS (mYn zJ4_getBytes).cls 106 zJ22_inflate 5 := ⟨ms_J22_inflate, (Or.inl q839), q820⟩
theorem s_J4_489_s : mSI (mYn zJ4_init).cls 489 zJ4_init_2 2 := ⟨ms_J4_init_2, (Or.inl q874), q875, rfl, rfl, rfl⟩
theorem s_J4_1_s : mSI (mYn zJ4_init_2).cls 1 zJ26_init 0 := ⟨ms_J26_init, (Or.inl q877), q124, rfl, rfl, rfl⟩
theorem s_J4_54_s : mSS (mYn zJ4_init_2).cls 54 zJ10_copyOfRange 3 := ⟨ms_J10_copyOfRange, (Or.inl q892), q893⟩
theorem f_J4_1048_14 : mFS RJ4 1048 14 2 := ⟨_, _, _, rfl, by decide, in_J3, (Or.inl q365)⟩
theorem s_J4_1051_s : mSS (mYn zJ4_init_2).cls 1051 zJ5_compress 3 := ⟨ms_J5_compress, (Or.inl q922), q923⟩
theorem s_J4_47_s : mSS (mYn zJ4_init_2).cls 47 zJ5_coderFromArrayLen 2 := ⟨ms_J5_coderFromArrayLen, (Or.inl q932), q933⟩
theorem s_J4_492_v : mSV (mYn zJ4_charAt).cls 492 zJ4_isLatin1 15 0 := ⟨ms_J4_isLatin1, (Or.inl q1005), q1006, q1007, _, _, rfl⟩
theorem s_J4_495_s : mSS (mYn zJ4_charAt).cls 495 zJ22_charAt 2 := ⟨ms_J22_charAt, (Or.inl q1009), q1010⟩
theorem s_J4_498_s : mSS (mYn zJ4_charAt).cls 498 zJ5_charAt 2 := ⟨ms_J5_charAt, (Or.inl q1018), q1019⟩
theorem s_J4_1059_s : mSS (mYn zJ4_checkIndex).cls 1059 zJ21_checkIndex 3 := ⟨ms_J21_checkIndex, (Or.inl q1015), q1016⟩
theorem s_J4_633_v : mSV (mYn zJ4_indexOf).cls 633 zJ4_indexOf_2 15 2 := ⟨ms_J4_indexOf_2, (Or.inl q1570), q1571, q1572, _, _, rfl⟩
theorem s_J4_505_v : mSV (mYn zJ4_indexOf_2).cls 505 zJ4_length 15 0 := ⟨ms_J4_length, (Or.inl q1574), q798, q799, _, _, rfl⟩
theorem s_J4_637_s : mSS (mYn zJ4_indexOf_2).cls 637 zJ22_indexOf 4 := ⟨ms_J22_indexOf, (Or.inl q1575), q1576⟩
theorem s_J4_640_s : mSS (mYn zJ4_indexOf_2).cls 640 zJ5_indexOf 4 := ⟨ms_J5_indexOf, (Or.inl q1586), q1587⟩
theorem s_J5_11_s : mSS (mYn zJ5_newBytesFor).cls 11 zJ5_newBytesLength 1 := ⟨ms_J5_newBytesLength, (Or.inl q358), q359⟩
theorem s_J5_96_s : mSS (mYn zJ5_putCharsAt).cls 96 zJ5_checkBoundsBeginEnd 3 := ⟨ms_J5_checkBoundsBeginEnd, (Or.inl q774), q775⟩
theorem s_J5_111_s : mSS (mYn zJ5_putCharsAt).cls 111 zJ5_putChar 3 := ⟨ms_J5_putChar, (Or.inl q788), q789⟩
theorem s_J5_48_s : mSS (mYn zJ5_checkBoundsBeginEnd).cls 48 zJ5_length 1 := ⟨ms_J5_length, (Or.inl q777), q778⟩
theorem s_J5_241_s : mSS (mYn zJ5_checkBoundsBeginEnd).cls 241 zJ4_checkBoundsBeginEnd 3 := ⟨ms_J4_checkBoundsBeginEnd, (Or.inl q780), q781⟩
theorem s_J5_173_s : mSS (mYn zJ5_inflate).cls 173 zJ5_checkBoundsOffCount 3 := ⟨ms_J5_checkBoundsOffCount, (Or.inl q825), q826⟩
theorem s_J5_419_s : mSS (mYn zJ5_checkBoundsOffCount).cls 419 zJ4_checkBoundsOffCount 3 := ⟨ms_J4_checkBoundsOffCount, (Or.inl q828), q829⟩
theorem s_J5_393_s : mSS (mYn zJ5_getChars).cls 393 zJ5_getChars_2 3 := ⟨ms_J5_getChars_2, (Or.inl q860), q861⟩
theorem s_J5_123_s : mSS (mYn zJ5_compress).cls 123 zJ5_compress_2 5 := ⟨ms_J5_compress_2, (Or.inl q925), q926⟩
theorem s_J5_126_s : mSS (mYn zJ5_compress).cls 126 zJ10_copyOfRange 3 := ⟨ms_J10_copyOfRange, (Or.inl q931), q893⟩
theorem s_J5_71_s : mSS (mYn zJ5_compress).cls 71 zJ5_getChar 2 := ⟨ms_J5_getChar, (Or.inl q928), q929⟩
theorem s_J5_380_s : mSS (mYn zJ5_fillNull).cls 380 zJ10_fill 4 := ⟨ms_J10_fill, (Or.inl q995), q961⟩
theorem s_J5_67_s : mSS (mYn zJ5_charAt).cls 67 zJ5_checkIndex 2 := ⟨ms_J5_checkIndex, (Or.inl q1021), q1022⟩
theorem s_J5_414_s : mSS (mYn zJ5_checkIndex).cls 414 zJ4_checkIndex 2 := ⟨ms_J4_checkIndex, (Or.inl q1024), q1013⟩
theorem s_J5_224_s : mSS (mYn zJ5_indexOf).cls 224 zJ11_max 2 := ⟨ms_J11_max, (Or.inl q1589), q605⟩
theorem s_J5_183_s : mSS (mYn zJ5_indexOf).cls 183 zJ11_min 2 := ⟨ms_J11_min, (Or.inl q1590), q536⟩
theorem s_J5_228_s : mSS (mYn zJ5_indexOf).cls 228 zJ5_indexOfChar 4 := ⟨ms_J5_indexOfChar, (Or.inl q1592), q1593⟩
theorem s_J5_232_s : mSS (mYn zJ5_indexOf).cls 232 zJ5_indexOfSupplementary 4 := ⟨ms_J5_indexOfSupplementary, (Or.inl q1598), q1599⟩
theorem s_J5_244_s : mSS (mYn zJ5_indexOfChar).cls 244 zJ5_indexOfCharUnsafe 4 := ⟨ms_J5_indexOfCharUnsafe, (Or.inl q1595), q1596⟩
theorem s_J5_164_s : mSS (mYn zJ5_indexOfSupplementary).cls 164 zJ24_isValidCodePoint 1 := ⟨ms_J24_isValidCodePoint, (Or.inl q1601), q1602⟩
theorem s_J5_157_s : mSS (mYn zJ5_indexOfSupplementary).cls 157 zJ24_highSurrogate 1 := ⟨ms_J24_highSurrogate, (Or.inl q1604), q1605⟩
theorem s_J5_161_s : mSS (mYn zJ5_indexOfSupplementary).cls 161 zJ24_lowSurrogate 1 := ⟨ms_J24_lowSurrogate, (Or.inl q1608), q1609⟩
theorem s_J6_1_s : mSI (mYn zJ6_init).cls 1 zJ26_init 0 := ⟨ms_J26_init, (Or.inl q447), q124, rfl, rfl, rfl⟩
theorem f_J6_7_11 : mFS RJ6 7 11 0 := ⟨_, _, _, rfl, by decide, in_X9, (Or.inl q486)⟩
theorem f_J6_7_12 : mFS RJ6 7 12 0 := ⟨_, _, _, rfl, by decide, in_X14, (Or.inl q486)⟩
theorem f_J6_17_11 : mFS RJ6 17 11 1 := ⟨_, _, _, rfl, by decide, in_X9, (Or.inl q487)⟩
theorem f_J6_17_12 : mFS RJ6 17 12 1 := ⟨_, _, _, rfl, by decide, in_X14, (Or.inl q487)⟩
theorem f_J6_24_11 : mFS RJ6 24 11 2 := ⟨_, _, _, rfl, by decide, in_X9, (Or.inl q488)⟩
theorem f_J6_24_12 : mFS RJ6 24 12 2 := ⟨_, _, _, rfl, by decide, in_X14, (Or.inl q488)⟩
theorem f_J6_31_11 : mFS RJ6 31 11 3 := ⟨_, _, _, rfl, by decide, in_X9, (Or.inl q485)⟩
theorem f_J6_31_12 : mFS RJ6 31 12 3 := ⟨_, _, _, rfl, by decide, in_X14, (Or.inl q485)⟩
theorem s_J7_7_s : mSI (mYn zJ7_init).cls 7 zJ6_init_2 1 := ⟨ms_J6_init_2, (Or.inl q481), q482, rfl, rfl, rfl⟩
theorem s_J7_1_s : mSI (mYn zJ7_init_2).cls 1 zJ6_init 0 := ⟨ms_J6_init, (Or.inl q1113), q445, rfl, rfl, rfl⟩
theorem s_J8_7_s : mSI (mYn zJ8_init).cls 7 zJ7_init 1 := ⟨ms_J7_init, (Or.inl q478), q479, rfl, rfl, rfl⟩
theorem s_J8_1_s : mSI (mYn zJ8_init_2).cls 1 zJ7_init_2 0 := ⟨ms_J7_init_2, (Or.inl q1110), q1111, rfl, rfl, rfl⟩
theorem s_J9_7_s : mSI (mYn zJ9_init).cls 7 zJ8_init 1 := ⟨ms_J8_init, (Or.inl q475), q476, rfl, rfl, rfl⟩
theorem s_J9_1_s : mSI (mYn zJ9_init_2).cls 1 zJ8_init_2 0 := ⟨ms_J8_init_2, (Or.inl q1545), q1108, rfl, rfl, rfl⟩
theorem s_X0_7_v : mSV (mYn zX0_good).cls 7 zX1_good 6 2 := ⟨ms_X1_good, (Or.inl q1091), q1092, q1093, _, _, rfl⟩
theorem s_X0_17_v : mSV (mYn zX0_put).cls 17 zX1_put 6 2 := ⟨ms_X1_put, (Or.inl q1234), q1235, q1236, _, _, rfl⟩
theorem s_X0_22_v : mSV (mYn zX0_takeOut).cls 22 zX1_takeOut 6 1 := ⟨ms_X1_takeOut, (Or.inl q1297), q1298, q1299, _, _, rfl⟩
theorem s_X0_26_v : mSV (mYn zX0_rate).cls 26 zX1_rate 6 2 := ⟨ms_X1_rate, (Or.inl q1308), q1309, q1310, _, _, rfl⟩
theorem s_X0_29_v : mSV (mYn zX0_goodOf).cls 29 zX1_goodOf_2 6 2 := ⟨ms_X1_goodOf_2, (Or.inl q1320), q1321, q1322, _, _, rfl⟩
theorem s_X0_32_v : mSV (mYn zX0_chestAt).cls 32 zX1_chestAt 6 2 := ⟨ms_X1_chestAt, (Or.inl q1334), q1335, q1336, _, _, rfl⟩
theorem s_X0_37_v : mSV (mYn zX0_tithe).cls 37 zX1_tithe 6 1 := ⟨ms_X1_tithe, (Or.inl q1360), q1361, q1362, _, _, rfl⟩
theorem s_X0_41_v : mSV (mYn zX0_rateBits).cls 41 zX1_rateBits 6 1 := ⟨ms_X1_rateBits, (Or.inl q1371), q1372, q1373, _, _, rfl⟩
theorem s_X0_44_v : mSV (mYn zX0_add).cls 44 zX1_add 6 3 := ⟨ms_X1_add, (Or.inl q1388), q1389, q1390, _, _, rfl⟩
theorem s_X0_48_v : mSV (mYn zX0_insert).cls 48 zX1_insert 6 4 := ⟨ms_X1_insert, (Or.inl q1411), q1412, q1413, _, _, rfl⟩
theorem s_X0_52_v : mSV (mYn zX0_remove).cls 52 zX1_remove 6 1 := ⟨ms_X1_remove, (Or.inl q1418), q1419, q1420, _, _, rfl⟩
theorem s_X0_55_v : mSV (mYn zX0_clauseOf).cls 55 zX1_clauseOf 6 2 := ⟨ms_X1_clauseOf, (Or.inl q1433), q1434, q1435, _, _, rfl⟩
theorem s_X0_58_v : mSV (mYn zX0_wrong).cls 58 zX1_wrong 6 1 := ⟨ms_X1_wrong, (Or.inl q1440), q1441, q1442, _, _, rfl⟩
theorem s_X0_61_v : mSV (mYn zX0_goodAt).cls 61 zX1_goodAt 6 2 := ⟨ms_X1_goodAt, (Or.inl q1447), q1448, q1449, _, _, rfl⟩
theorem s_X0_64_v : mSV (mYn zX0_ploughAt).cls 64 zX1_ploughAt 6 2 := ⟨ms_X1_ploughAt, (Or.inl q1454), q1455, q1456, _, _, rfl⟩
theorem s_X0_67_v : mSV (mYn zX0_pathOf).cls 67 zX1_pathOf 6 2 := ⟨ms_X1_pathOf, (Or.inl q1461), q1462, q1463, _, _, rfl⟩
theorem s_X0_70_v : mSV (mYn zX0_goesBy).cls 70 zX1_goesBy 6 2 := ⟨ms_X1_goesBy, (Or.inl q1472), q1473, q1474, _, _, rfl⟩
theorem s_X0_74_v : mSV (mYn zX0_worth).cls 74 zX1_worth 6 2 := ⟨ms_X1_worth, (Or.inl q1479), q1480, q1481, _, _, rfl⟩
theorem s_X0_78_v : mSV (mYn zX0_tithes).cls 78 zX1_tithes 6 1 := ⟨ms_X1_tithes, (Or.inl q1486), q1487, q1488, _, _, rfl⟩
theorem s_X0_81_v : mSV (mYn zX0_richest).cls 81 zX1_richest 6 0 := ⟨ms_X1_richest, (Or.inl q1502), q1503, q1504, _, _, rfl⟩
theorem s_X0_85_v : mSV (mYn zX0_character).cls 85 zX1_character 6 1 := ⟨ms_X1_character, (Or.inl q1516), q1517, q1518, _, _, rfl⟩
theorem s_X0_89_v : mSV (mYn zX0_append).cls 89 zX1_append 6 1 := ⟨ms_X1_append, (Or.inl q1534), q1535, q1536, _, _, rfl⟩
theorem s_X0_95_v : mSV (mYn zX0_read).cls 95 zX1_read 6 0 := ⟨ms_X1_read, (Or.inl q1550), q1551, q1552, _, _, rfl⟩
theorem s_X0_98_v : mSV (mYn zX0_refusal).cls 98 zX1_refusal 6 1 := ⟨ms_X1_refusal, (Or.inl q1643), q1644, q1645, _, _, rfl⟩
theorem s_X0_102_v : mSV (mYn zX0_account).cls 102 zX1_account 6 1 := ⟨ms_X1_account, (Or.inl q1650), q1651, q1652, _, _, rfl⟩
theorem s_X0_105_v : mSV (mYn zX0_meanWorth).cls 105 zX1_meanWorth 6 0 := ⟨ms_X1_meanWorth, (Or.inl q1686), q1687, q1688, _, _, rfl⟩
theorem s_X0_111_v : mSV (mYn zX0_undo).cls 111 zX1_undo 6 0 := ⟨ms_X1_undo, (Or.inl q1701), q1702, q1703, _, _, rfl⟩
theorem s_X0_114_v : mSV (mYn zX0_restore).cls 114 zX1_restore 6 0 := ⟨ms_X1_restore, (Or.inl q1715), q1716, q1717, _, _, rfl⟩
theorem s_X1_20_s : mSI (mYn zX1_init).cls 20 zJ26_init 0 := ⟨ms_J26_init, (Or.inl q123), q124, rfl, rfl, rfl⟩
theorem n_X1_25 : mNS RX1 25 0 [.null, .null, .null, .null, .null, .null, .null, .int 0, .int 0, .int 0] := ⟨_, _, _, tyX2, rfl, in_X2, tyX2_ok, q126, q127, q77, rfl⟩
theorem s_X1_27_s : mSI (mYn zX1_init).cls 27 zX2_init 0 := ⟨ms_X2_init, (Or.inr ⟨"PloughWills", q128⟩), q129, rfl, rfl, rfl⟩
theorem f_X1_28_6 : mFS RX1 28 6 0 := ⟨_, _, _, rfl, by decide, in_X1, (Or.inl q542)⟩
theorem f_X1_32_6 : mFS RX1 32 6 1 := ⟨_, _, _, rfl, by decide, in_X1, (Or.inl q543)⟩
theorem f_X1_35_6 : mFS RX1 35 6 2 := ⟨_, _, _, rfl, by decide, in_X1, (Or.inl q544)⟩
theorem n_X1_38 : mNS RX1 38 13 [.null, .int 0, .int 0] := ⟨_, _, _, tyJ1, rfl, in_J1, tyJ1_ok, q197, q198, q79, rfl⟩
theorem s_X1_40_s : mSI (mYn zX1_init).cls 40 zJ1_init 0 := ⟨ms_J1_init, (Or.inl q199), q200, rfl, rfl, rfl⟩
theorem f_X1_41_6 : mFS RX1 41 6 4 := ⟨_, _, _, rfl, by decide, in_X1, (Or.inl q546)⟩
theorem f_X1_45_6 : mFS RX1 45 6 5 := ⟨_, _, _, rfl, by decide, in_X1, (Or.inl q547)⟩
theorem n_X1_48 : mNS RX1 48 1 [.null, .null, .null, .null, .null, .int 0, .int 0, .int 0, .int 0, .null, .null, .int 0] := ⟨_, _, _, tyX3, rfl, in_X3, tyX3_ok, q218, q219, q80, rfl⟩
theorem s_X1_50_s : mSI (mYn zX1_init).cls 50 zX3_init 0 := ⟨ms_X3_init, (Or.inl q220), q221, rfl, rfl, rfl⟩
theorem f_X1_51_6 : mFS RX1 51 6 6 := ⟨_, _, _, rfl, by decide, in_X1, (Or.inl q548)⟩
theorem n_X1_55 : mNS RX1 55 3 [.null, .null, .int 0, .int 0, .int 0] := ⟨_, _, _, tyX5, rfl, in_X5, tyX5_ok, q295, q296, q82, rfl⟩
theorem s_X1_57_s : mSI (mYn zX1_init).cls 57 zX5_init 0 := ⟨ms_X5_init, (Or.inr ⟨"PloughWills", q297⟩), q298, rfl, rfl, rfl⟩
theorem f_X1_58_6 : mFS RX1 58 6 7 := ⟨_, _, _, rfl, by decide, in_X1, (Or.inl q549)⟩
theorem n_X1_62 : mNS RX1 62 4 [.null, .null, .int 0, .int 0] := ⟨_, _, _, tyX6, rfl, in_X6, tyX6_ok, q322, q323, q83, rfl⟩
theorem s_X1_64_s : mSI (mYn zX1_init).cls 64 zX6_init 0 := ⟨ms_X6_init, (Or.inr ⟨"PloughWills", q324⟩), q325, rfl, rfl, rfl⟩
theorem f_X1_65_6 : mFS RX1 65 6 8 := ⟨_, _, _, rfl, by decide, in_X1, (Or.inl q550)⟩
theorem n_X1_69 : mNS RX1 69 14 [.null, .int 0, .int 0, .int 0] := ⟨_, _, _, tyJ3, rfl, in_J3, tyJ3_ok, q344, q345, q85, rfl⟩
theorem s_X1_71_s : mSI (mYn zX1_init).cls 71 zJ3_init 0 := ⟨ms_J3_init, (Or.inl q346), q347, rfl, rfl, rfl⟩
theorem f_X1_72_6 : mFS RX1 72 6 9 := ⟨_, _, _, rfl, by decide, in_X1, (Or.inl q551)⟩
theorem f_X1_76_6 : mFS RX1 76 6 10 := ⟨_, _, _, rfl, by decide, in_X1, (Or.inl q552)⟩
theorem n_X1_79 : mNS RX1 79 5 [.null, .int 0, .int 0, .null, .null, .null] := ⟨_, _, _, tyX7, rfl, in_X7, tyX7_ok, q377, q378, q88, rfl⟩
theorem s_X1_81_s : mSI (mYn zX1_init).cls 81 zX7_init 1 := ⟨ms_X7_init, (Or.inl q379), q380, rfl, rfl, rfl⟩
theorem f_X1_84_6 : mFS RX1 84 6 11 := ⟨_, _, _, rfl, by decide, in_X1, (Or.inl q553)⟩
theorem f_X1_88_6 : mFS RX1 88 6 12 := ⟨_, _, _, rfl, by decide, in_X1, (Or.inl q554)⟩
theorem s_X1_92_v : mSV (mYn zX1_init).cls 92 zJ1_addLast 13 1 := ⟨ms_J1_addLast, (Or.inl q406), q407, q408, _, _, rfl⟩
theorem s_X1_290_v : mSV (mYn zX1_isSound).cls 290 zX1_areRight 6 0 := ⟨ms_X1_areRight, (Or.inl q592), q594, qs3, _, _, rfl⟩
theorem s_X1_268_v : mSV (mYn zX1_isSound).cls 268 zX3_through 1 2 := ⟨ms_X3_through, (Or.inl q692), q693, q694, _, _, rfl⟩
theorem f_X1_272_1 : mFS RX1 272 1 6 := ⟨_, _, _, rfl, by decide, in_X3, (Or.inr ⟨"PloughWills", q260⟩)⟩
theorem s_X1_277_v : mSV (mYn zX1_areRight).cls 277 zX1_isNested 6 0 := ⟨ms_X1_isNested, (Or.inl q596), q598, qs4, _, _, rfl⟩
theorem f_X1_237_0 : mFS RX1 237 0 8 := ⟨_, _, _, rfl, by decide, in_X2, (Or.inr ⟨"PloughWills", q171⟩)⟩
theorem s_X1_280_s : mSS (mYn zX1_areRight).cls 280 zX5_many 3 := ⟨ms_X5_many, (Or.inl q607), q608⟩
theorem s_X1_284_v : mSV (mYn zX1_areRight).cls 284 zX5_take 3 2 := ⟨ms_X5_take, (Or.inl q615), q616, q617, _, _, rfl⟩
theorem s_X1_286_v : mSV (mYn zX1_areRight).cls 286 zX3_along 1 2 := ⟨ms_X3_along, (Or.inl q631), q632, q633, _, _, rfl⟩
theorem s_X1_260_v : mSV (mYn zX1_isNested).cls 260 zX6_take 4 1 := ⟨ms_X6_take, (Or.inl q600), q601, q602, _, _, rfl⟩
theorem f_X1_261_4 : mFS RX1 261 4 2 := ⟨_, _, _, rfl, by decide, in_X6, (Or.inr ⟨"PloughWills", q332⟩)⟩
theorem s_X1_350_v : mSV (mYn zX1_line).cls 350 zJ3_setLength 14 1 := ⟨ms_J3_setLength, (Or.inl q715), q716, q717, _, _, rfl⟩
theorem s_X1_353_v : mSV (mYn zX1_line).cls 353 zX2_writes 0 1 := ⟨ms_X2_writes, (Or.inl q996), q997, q998, _, _, rfl⟩
theorem s_X1_356_v : mSV (mYn zX1_line).cls 356 zJ3_length 14 0 := ⟨ms_J3_length, (Or.inl q1042), q887, q2166, _, _, rfl⟩
theorem s_X1_299_v : mSV (mYn zX1_isWell).cls 299 zX1_paths 6 0 := ⟨ms_X1_paths, (Or.inl q1051), q708, q709, _, _, rfl⟩
theorem s_X1_394_v : mSV (mYn zX1_isWell).cls 394 zX1_isSound 6 1 := ⟨ms_X1_isSound, (Or.inl q1052), q589, q590, _, _, rfl⟩
theorem s_X1_398_v : mSV (mYn zX1_isWell).cls 398 zX2_areInTheirChests 0 0 := ⟨ms_X2_areInTheirChests, (Or.inl q1053), q1054, q1055, _, _, rfl⟩
theorem s_X1_323_v : mSV (mYn zX1_isWell).cls 323 zX1_worthFrom 6 3 := ⟨ms_X1_worthFrom, (Or.inl q1057), q1059, qs19, _, _, rfl⟩
theorem s_X1_338_v : mSV (mYn zX1_isWell).cls 338 zX1_worthAgain 6 2 := ⟨ms_X1_worthAgain, (Or.inl q1068), q1070, qs20, _, _, rfl⟩
theorem f_X1_250_0 : mFS RX1 250 0 4 := ⟨_, _, _, rfl, by decide, in_X2, (Or.inr ⟨"PloughWills", q157⟩)⟩
theorem s_X1_319_v : mSV (mYn zX1_worthFrom).cls 319 zX2_behind 0 3 := ⟨ms_X2_behind, (Or.inl q1061), q611, q612, _, _, rfl⟩
theorem s_X1_327_s : mSS (mYn zX1_worthFrom).cls 327 zJ11_max 2 := ⟨ms_J11_max, (Or.inl q1062), q605⟩
theorem s_X1_332_s : mSS (mYn zX1_worthFrom).cls 332 zJ11_min 2 := ⟨ms_J11_min, (Or.inl q1063), q536⟩
theorem s_X1_335_v : mSV (mYn zX1_worthFrom).cls 335 zX2_worthOf 0 1 := ⟨ms_X2_worthOf, (Or.inl q1064), q1065, q1066, _, _, rfl⟩
theorem s_X1_312_v : mSV (mYn zX1_worthAgain).cls 312 zX5_worth 3 1 := ⟨ms_X5_worth, (Or.inl q1072), q1073, q1074, _, _, rfl⟩
theorem s_X1_144_v : mSV (mYn zX1_save).cls 144 zX2_take 0 1 := ⟨ms_X2_take, (Or.inl q1081), q1082, q1083, _, _, rfl⟩
theorem f_X1_407_6 : mFS RX1 407 6 3 := ⟨_, _, _, rfl, by decide, in_X1, (Or.inl q545)⟩
theorem s_X1_154_s : mSS (mYn zX1_good).cls 154 zX1_isKind 1 := ⟨ms_X1_isKind, (Or.inl q1096), q1097⟩
theorem s_X1_124_s : mSS (mYn zX1_good).cls 124 zX1_in 3 := ⟨ms_X1_in, (Or.inl q1099), q1039⟩
theorem s_X1_157_s : mSS (mYn zX1_good).cls 157 zX1_check 1 := ⟨ms_X1_check, (Or.inl q1100), q1101⟩
theorem s_X1_160_v : mSV (mYn zX1_good).cls 160 zX1_tryOn 6 0 := ⟨ms_X1_tryOn, (Or.inl q1114), q1116, qs21, _, _, rfl⟩
theorem s_X1_164_v : mSV (mYn zX1_good).cls 164 zX2_good 0 2 := ⟨ms_X2_good, (Or.inl q1118), q1119, q1120, _, _, rfl⟩
theorem s_X1_168_v : mSV (mYn zX1_good).cls 168 zX1_becomes 6 1 := ⟨ms_X1_becomes, (Or.inl q1190), q1192, qs22, _, _, rfl⟩
theorem s_X1_172_v : mSV (mYn zX1_good).cls 172 zX1_because 6 1 := ⟨ms_X1_because, (Or.inl q1209), q1211, qs24, _, _, rfl⟩
theorem s_X1_98_s : mSI (mYn zX1_check).cls 98 zJ12_init_2 0 := ⟨ms_J12_init_2, (Or.inl q1104), q1105, rfl, rfl, rfl⟩
theorem n_X1_1 : mNS RX1 1 11 [.null, .null, .null, .null, .null, .int 0, .int 0, .int 0] := ⟨_, _, _, tyX9, rfl, in_X9, tyX9_ok, q1095, q1125, q98, rfl⟩
theorem s_X1_3_s : mSI (mYn zX1_refuse).cls 3 zX9_init 2 := ⟨ms_X9_init, (Or.inl q1133), q1134, rfl, rfl, rfl⟩
theorem n_X1_7 : mNS RX1 7 8 [.int 0, .int 0, .int 0] := ⟨_, _, _, tyX11, rfl, in_X11, tyX11_ok, q139, q1150, q100, rfl⟩
theorem s_X1_9_s : mSI (mYn zX1_goodOf).cls 9 zX11_init 2 := ⟨ms_X11_init, (Or.inl q1151), q1152, rfl, rfl, rfl⟩
theorem n_X1_10 : mNS RX1 10 9 [.int 0, .int 0, .int 0] := ⟨_, _, _, tyX12, rfl, in_X12, tyX12_ok, q141, q1172, q101, rfl⟩
theorem s_X1_12_s : mSI (mYn zX1_goodOf).cls 12 zX12_init 2 := ⟨ms_X12_init, (Or.inl q1173), q1174, rfl, rfl, rfl⟩
theorem n_X1_13 : mNS RX1 13 10 [.int 0, .int 0, .int 0] := ⟨_, _, _, tyX13, rfl, in_X13, tyX13_ok, q143, q1181, q102, rfl⟩
theorem s_X1_15_s : mSI (mYn zX1_goodOf).cls 15 zX13_init 2 := ⟨ms_X13_init, (Or.inl q1182), q1183, rfl, rfl, rfl⟩
theorem s_X1_148_v : mSV (mYn zX1_becomes).cls 148 zX1_keep 6 0 := ⟨ms_X1_keep, (Or.inl q1194), q1196, qs23, _, _, rfl⟩
theorem f_X1_151_0 : mFS RX1 151 0 9 := ⟨_, _, _, rfl, by decide, in_X2, (Or.inr ⟨"PloughWills", q173⟩)⟩
theorem s_X1_136_v : mSV (mYn zX1_keep).cls 136 zJ1_isEmpty 13 0 := ⟨ms_J1_isEmpty, (Or.inl q1198), q1199, q1200, _, _, rfl⟩
theorem s_X1_140_v : mSV (mYn zX1_keep).cls 140 zJ1_pollFirst 13 0 := ⟨ms_J1_pollFirst, (Or.inl q1202), q1203, q1204, _, _, rfl⟩
theorem f_X1_111_11 : mFS RX1 111 11 6 := ⟨_, _, _, rfl, by decide, in_X9, (Or.inr ⟨"PloughWills", q1138⟩)⟩
theorem f_X1_114_6 : mFS RX1 114 6 13 := ⟨_, _, _, rfl, by decide, in_X1, (Or.inl q555)⟩
theorem f_X1_117_11 : mFS RX1 117 11 7 := ⟨_, _, _, rfl, by decide, in_X9, (Or.inr ⟨"PloughWills", q1140⟩)⟩
theorem f_X1_120_6 : mFS RX1 120 6 14 := ⟨_, _, _, rfl, by decide, in_X1, (Or.inl q556)⟩
theorem s_X1_123_s : mSI (mYn zX1_because).cls 123 zJ13_init 0 := ⟨ms_J13_init, (Or.inl q1222), q1223, rfl, rfl, rfl⟩
theorem s_X1_176_v : mSV (mYn zX1_put).cls 176 zX1_checkGood 6 1 := ⟨ms_X1_checkGood, (Or.inl q1238), q1240, qs25, _, _, rfl⟩
theorem s_X1_180_v : mSV (mYn zX1_put).cls 180 zX2_put 0 2 := ⟨ms_X2_put, (Or.inl q1264), q1265, q1266, _, _, rfl⟩
theorem s_X1_128_v : mSV (mYn zX1_checkGood).cls 128 zX2_isGood 0 1 := ⟨ms_X2_isGood, (Or.inl q1242), q1243, q1244, _, _, rfl⟩
theorem s_X1_132_s : mSS (mYn zX1_checkGood).cls 132 zX1_checkIndex 1 := ⟨ms_X1_checkIndex, (Or.inl q1246), q1247⟩
theorem s_X1_107_s : mSI (mYn zX1_checkIndex).cls 107 zJ14_init_2 0 := ⟨ms_J14_init_2, (Or.inl q1258), q1259, rfl, rfl, rfl⟩
theorem s_X1_183_v : mSV (mYn zX1_takeOut).cls 183 zX2_takeOut 0 1 := ⟨ms_X2_takeOut, (Or.inl q1301), q1302, q1303, _, _, rfl⟩
theorem s_X1_186_v : mSV (mYn zX1_rate).cls 186 zX2_rate 0 2 := ⟨ms_X2_rate, (Or.inl q1312), q1313, q1314, _, _, rfl⟩
theorem s_X1_189_v : mSV (mYn zX1_goodOf_2).cls 189 zX2_kind 0 1 := ⟨ms_X2_kind, (Or.inl q1324), q664, q665, _, _, rfl⟩
theorem f_X1_192_0 : mFS RX1 192 0 0 := ⟨_, _, _, rfl, by decide, in_X2, (Or.inr ⟨"PloughWills", q147⟩)⟩
theorem f_X1_195_8 : mFS RX1 195 8 2 := ⟨_, _, _, rfl, by decide, in_X11, (Or.inr ⟨"PloughWills", q1164⟩)⟩
theorem f_X1_195_9 : mFS RX1 195 9 2 := ⟨_, _, _, rfl, by decide, in_X12, (Or.inr ⟨"PloughWills", q1164⟩)⟩
theorem f_X1_195_10 : mFS RX1 195 10 2 := ⟨_, _, _, rfl, by decide, in_X13, (Or.inr ⟨"PloughWills", q1164⟩)⟩
theorem s_X1_200_v : mSV (mYn zX1_goodOf_2).cls 200 zX2_placeOf 0 1 := ⟨ms_X2_placeOf, (Or.inl q1325), q1290, q1291, _, _, rfl⟩
theorem s_X1_203_v : mSV (mYn zX1_goodOf_2).cls 203 zX2_withSort 0 4 := ⟨ms_X2_withSort, (Or.inl q1326), q1327, q1328, _, _, rfl⟩
theorem s_X1_207_v : mSV (mYn zX1_chestAt).cls 207 zX2_full 0 1 := ⟨ms_X2_full, (Or.inl q1338), q1286, q1287, _, _, rfl⟩
theorem s_X1_210_s : mSS (mYn zX1_chestAt).cls 210 zX1_checkElement 1 := ⟨ms_X1_checkElement, (Or.inl q1339), q1340⟩
theorem f_X1_213_0 : mFS RX1 213 0 1 := ⟨_, _, _, rfl, by decide, in_X2, (Or.inr ⟨"PloughWills", q149⟩)⟩
theorem f_X1_217_8 : mFS RX1 217 8 0 := ⟨_, _, _, rfl, by decide, in_X11, (Or.inr ⟨"PloughWills", q1159⟩)⟩
theorem f_X1_217_9 : mFS RX1 217 9 0 := ⟨_, _, _, rfl, by decide, in_X12, (Or.inr ⟨"PloughWills", q1159⟩)⟩
theorem f_X1_217_10 : mFS RX1 217 10 0 := ⟨_, _, _, rfl, by decide, in_X13, (Or.inr ⟨"PloughWills", q1159⟩)⟩
theorem s_X1_101_s : mSI (mYn zX1_checkElement).cls 101 zJ17_init 0 := ⟨ms_J17_init, (Or.inl q1351), q1352, rfl, rfl, rfl⟩
theorem s_X1_220_v : mSV (mYn zX1_tithe).cls 220 zX2_tithe 0 1 := ⟨ms_X2_tithe, (Or.inl q1364), q1365, q1366, _, _, rfl⟩
theorem f_X1_224_0 : mFS RX1 224 0 2 := ⟨_, _, _, rfl, by decide, in_X2, (Or.inr ⟨"PloughWills", q151⟩)⟩
theorem s_X1_228_s : mSS (mYn zX1_rateBits).cls 228 zJ18_floatToIntBits 1 := ⟨ms_J18_floatToIntBits, (Or.inl q1375), q1376⟩
theorem s_X1_234_s : mSS (mYn zX1_add).cls 234 zX1_isSort 1 := ⟨ms_X1_isSort, (Or.inl q1392), q1393⟩
theorem s_X1_240_v : mSV (mYn zX1_add).cls 240 zX2_insert 0 4 := ⟨ms_X2_insert, (Or.inl q1395), q1396, q1397, _, _, rfl⟩
theorem s_X1_244_v : mSV (mYn zX1_remove).cls 244 zX1_checkPlace 6 1 := ⟨ms_X1_checkPlace, (Or.inl q1422), q1424, qs28, _, _, rfl⟩
theorem s_X1_247_v : mSV (mYn zX1_remove).cls 247 zX2_remove 0 1 := ⟨ms_X2_remove, (Or.inl q1426), q1427, q1428, _, _, rfl⟩
theorem f_X1_254_0 : mFS RX1 254 0 5 := ⟨_, _, _, rfl, by decide, in_X2, (Or.inr ⟨"PloughWills", q160⟩)⟩
theorem f_X1_257_0 : mFS RX1 257 0 6 := ⟨_, _, _, rfl, by decide, in_X2, (Or.inr ⟨"PloughWills", q163⟩)⟩
theorem f_X1_265_4 : mFS RX1 265 4 0 := ⟨_, _, _, rfl, by decide, in_X6, (Or.inr ⟨"PloughWills", q329⟩)⟩
theorem f_X1_273_1 : mFS RX1 273 1 7 := ⟨_, _, _, rfl, by decide, in_X3, (Or.inr ⟨"PloughWills", q262⟩)⟩
theorem f_X1_276_1 : mFS RX1 276 1 8 := ⟨_, _, _, rfl, by decide, in_X3, (Or.inr ⟨"PloughWills", q264⟩)⟩
theorem f_X1_293_1 : mFS RX1 293 1 9 := ⟨_, _, _, rfl, by decide, in_X3, (Or.inr ⟨"PloughWills", q266⟩)⟩
theorem f_X1_296_1 : mFS RX1 296 1 10 := ⟨_, _, _, rfl, by decide, in_X3, (Or.inr ⟨"PloughWills", q268⟩)⟩
theorem s_X1_303_v : mSV (mYn zX1_pathOf).cls 303 zX1_takes 6 1 := ⟨ms_X1_takes, (Or.inl q1465), q1467, qs29, _, _, rfl⟩
theorem f_X1_306_3 : mFS RX1 306 3 2 := ⟨_, _, _, rfl, by decide, in_X5, (Or.inr ⟨"PloughWills", q307⟩)⟩
theorem f_X1_309_3 : mFS RX1 309 3 3 := ⟨_, _, _, rfl, by decide, in_X5, (Or.inr ⟨"PloughWills", q309⟩)⟩
theorem f_X1_315_3 : mFS RX1 315 3 0 := ⟨_, _, _, rfl, by decide, in_X5, (Or.inr ⟨"PloughWills", q303⟩)⟩
theorem s_X1_342_v : mSV (mYn zX1_tithes).cls 342 zX5_tithes 3 1 := ⟨ms_X5_tithes, (Or.inl q1490), q1491, q1492, _, _, rfl⟩
theorem s_X1_347_s : mSS (mYn zX1_richest).cls 347 zJ11_max_2 2 := ⟨ms_J11_max_2, (Or.inl q1507), q1508⟩
theorem s_X1_359_v : mSV (mYn zX1_character).cls 359 zJ3_charAt 14 1 := ⟨ms_J3_charAt, (Or.inl q1520), q1521, q1522, _, _, rfl⟩
theorem s_X1_363_s : mSS (mYn zX1_append).cls 363 zX1_checkState 1 := ⟨ms_X1_checkState, (Or.inl q1538), q1539⟩
theorem s_X1_366_v : mSV (mYn zX1_append).cls 366 zJ3_append_3 14 1 := ⟨ms_J3_append_3, (Or.inl q1546), q1026, q1027, _, _, rfl⟩
theorem s_X1_104_s : mSI (mYn zX1_checkState).cls 104 zJ9_init_2 0 := ⟨ms_J9_init_2, (Or.inl q1542), q1543, rfl, rfl, rfl⟩
theorem s_X1_370_v : mSV (mYn zX1_read).cls 370 zX7_read 5 0 := ⟨ms_X7_read, (Or.inl q1555), q1556, q1557, _, _, rfl⟩
theorem s_X1_373_v : mSV (mYn zX1_read).cls 373 zX2_reads 0 1 := ⟨ms_X2_reads, (Or.inl q1636), q1637, q1638, _, _, rfl⟩
theorem f_X1_379_12 : mFS RX1 379 12 6 := ⟨_, _, _, rfl, by decide, in_X14, (Or.inr ⟨"PloughWills", q1626⟩)⟩
theorem f_X1_382_0 : mFS RX1 382 0 7 := ⟨_, _, _, rfl, by decide, in_X2, (Or.inr ⟨"PloughWills", q166⟩)⟩
theorem s_X1_384_v : mSV (mYn zX1_account).cls 384 zX1_allWorth 6 0 := ⟨ms_X1_allWorth, (Or.inl q1654), q1656, qs32, _, _, rfl⟩
theorem s_X1_387_v : mSV (mYn zX1_account).cls 387 zX2_choices 0 0 := ⟨ms_X2_choices, (Or.inl q1658), q1659, q1660, _, _, rfl⟩
theorem f_X1_389_4 : mFS RX1 389 4 3 := ⟨_, _, _, rfl, by decide, in_X6, (Or.inr ⟨"PloughWills", q334⟩)⟩
theorem s_X1_392_v : mSV (mYn zX1_account).cls 392 zJ1_size 13 0 := ⟨ms_J1_size, (Or.inl q1662), q1663, q1664, _, _, rfl⟩
theorem s_X1_401_s : mSS (mYn zX1_meanWorth).cls 401 zX1_checkAny 1 := ⟨ms_X1_checkAny, (Or.inl q1690), q1691⟩
theorem s_X1_110_s : mSI (mYn zX1_checkAny).cls 110 zJ25_init_2 0 := ⟨ms_J25_init_2, (Or.inl q1694), q1695, rfl, rfl, rfl⟩
theorem s_X1_404_v : mSV (mYn zX1_undo).cls 404 zJ1_pollLast 13 0 := ⟨ms_J1_pollLast, (Or.inl q1705), q1706, q1707, _, _, rfl⟩
theorem s_X10_1_s : mSI (mYn zX10_init).cls 1 zJ26_init 0 := ⟨ms_J26_init, (Or.inl q1157), q124, rfl, rfl, rfl⟩
theorem f_X10_7_8 : mFS RX10 7 8 0 := ⟨_, _, _, rfl, by decide, in_X11, (Or.inl q1158)⟩
theorem f_X10_7_9 : mFS RX10 7 9 0 := ⟨_, _, _, rfl, by decide, in_X12, (Or.inl q1158)⟩
theorem f_X10_7_10 : mFS RX10 7 10 0 := ⟨_, _, _, rfl, by decide, in_X13, (Or.inl q1158)⟩
theorem f_X10_13_8 : mFS RX10 13 8 1 := ⟨_, _, _, rfl, by decide, in_X11, (Or.inl q1160)⟩
theorem f_X10_13_9 : mFS RX10 13 9 1 := ⟨_, _, _, rfl, by decide, in_X12, (Or.inl q1160)⟩
theorem f_X10_13_10 : mFS RX10 13 10 1 := ⟨_, _, _, rfl, by decide, in_X13, (Or.inl q1160)⟩
theorem f_X10_16_8 : mFS RX10 16 8 2 := ⟨_, _, _, rfl, by decide, in_X11, (Or.inl q1162)⟩
theorem f_X10_16_9 : mFS RX10 16 9 2 := ⟨_, _, _, rfl, by decide, in_X12, (Or.inl q1162)⟩
theorem f_X10_16_10 : mFS RX10 16 10 2 := ⟨_, _, _, rfl, by decide, in_X13, (Or.inl q1162)⟩
theorem s_X11_3_s : mSI (mYn zX11_init).cls 3 zX10_init 3 := ⟨ms_X10_init, (Or.inl q1154), q1155, rfl, rfl, rfl⟩
theorem s_X12_3_s : mSI (mYn zX12_init).cls 3 zX10_init 3 := ⟨ms_X10_init, (Or.inl q1176), q1155, rfl, rfl, rfl⟩
theorem s_X13_3_s : mSI (mYn zX13_init).cls 3 zX10_init 3 := ⟨ms_X10_init, (Or.inl q1185), q1155, rfl, rfl, rfl⟩
theorem s_X14_1_s : mSI (mYn zX14_init).cls 1 zJ8_init_2 0 := ⟨ms_J8_init_2, (Or.inl q1624), q1108, rfl, rfl, rfl⟩
theorem f_X14_7_12 : mFS RX14 7 12 6 := ⟨_, _, _, rfl, by decide, in_X14, (Or.inl q1625)⟩
theorem s_X2_3_s : mSI (mYn zX2_init).cls 3 zJ26_init 0 := ⟨ms_J26_init, (Or.inl q131), q124, rfl, rfl, rfl⟩
theorem f_X2_11_0 : mFS RX2 11 0 0 := ⟨_, _, _, rfl, by decide, in_X2, (Or.inl q146)⟩
theorem s_X2_17_s : mSS (mYn zX2_init).cls 17 zX1_chests 0 := ⟨ms_X1_chests, (Or.inr ⟨rfl, "PloughWills", q134⟩), q135⟩
theorem f_X2_21_0 : mFS RX2 21 0 1 := ⟨_, _, _, rfl, by decide, in_X2, (Or.inl q148)⟩
theorem f_X2_25_0 : mFS RX2 25 0 2 := ⟨_, _, _, rfl, by decide, in_X2, (Or.inl q150)⟩
theorem f_X2_29_0 : mFS RX2 29 0 3 := ⟨_, _, _, rfl, by decide, in_X2, (Or.inl q152)⟩
theorem f_X2_33_0 : mFS RX2 33 0 4 := ⟨_, _, _, rfl, by decide, in_X2, (Or.inl q153)⟩
theorem f_X2_36_0 : mFS RX2 36 0 5 := ⟨_, _, _, rfl, by decide, in_X2, (Or.inl q158)⟩
theorem f_X2_39_0 : mFS RX2 39 0 6 := ⟨_, _, _, rfl, by decide, in_X2, (Or.inl q161)⟩
theorem f_X2_62_8 : mFS RX2 62 8 1 := ⟨_, _, _, rfl, by decide, in_X11, (Or.inr ⟨"PloughWills", q1161⟩)⟩
theorem f_X2_62_9 : mFS RX2 62 9 1 := ⟨_, _, _, rfl, by decide, in_X12, (Or.inr ⟨"PloughWills", q1161⟩)⟩
theorem f_X2_62_10 : mFS RX2 62 10 1 := ⟨_, _, _, rfl, by decide, in_X13, (Or.inr ⟨"PloughWills", q1161⟩)⟩
theorem f_X2_52_0 : mFS RX2 52 0 8 := ⟨_, _, _, rfl, by decide, in_X2, (Or.inl q168)⟩
theorem s_X2_116_v : mSV (mYn zX2_writes).cls 116 zJ4_charAt 15 1 := ⟨ms_J4_charAt, (Or.inl q1001), q1002, q1003, _, _, rfl⟩
theorem s_X2_122_v : mSV (mYn zX2_writes).cls 122 zJ3_append_3 14 1 := ⟨ms_J3_append_3, (Or.inl q1025), q1026, q1027, _, _, rfl⟩
theorem s_X2_58_s : mSS (mYn zX2_writes).cls 58 zX1_in 3 := ⟨ms_X1_in, (Or.inr ⟨rfl, "PloughWills", q1038⟩), q1039⟩
theorem s_X2_128_v : mSV (mYn zX2_writes).cls 128 zJ3_append_2 14 1 := ⟨ms_J3_append_2, (Or.inl q1041), q841, q842, _, _, rfl⟩
theorem f_X2_89_8 : mFS RX2 89 8 2 := ⟨_, _, _, rfl, by decide, in_X11, (Or.inr ⟨"PloughWills", q1163⟩)⟩
theorem f_X2_89_9 : mFS RX2 89 9 2 := ⟨_, _, _, rfl, by decide, in_X12, (Or.inr ⟨"PloughWills", q1163⟩)⟩
theorem f_X2_89_10 : mFS RX2 89 10 2 := ⟨_, _, _, rfl, by decide, in_X13, (Or.inr ⟨"PloughWills", q1163⟩)⟩
theorem f_X2_48_0 : mFS RX2 48 0 7 := ⟨_, _, _, rfl, by decide, in_X2, (Or.inl q164)⟩
theorem f_X2_55_0 : mFS RX2 55 0 9 := ⟨_, _, _, rfl, by decide, in_X2, (Or.inl q172)⟩
theorem s_X2_65_s : mSS (mYn zX2_good).cls 65 zX1_refuse 3 := ⟨ms_X1_refuse, (Or.inr ⟨rfl, "PloughWills", q1122⟩), q1123⟩
theorem s_X2_69_s : mSS (mYn zX2_good).cls 69 zX1_goodOf 3 := ⟨ms_X1_goodOf, (Or.inr ⟨rfl, "PloughWills", q1147⟩), q1148⟩
theorem s_X2_78_s : mSS (mYn zX2_put).cls 78 zX2_takes 2 := ⟨ms_X2_takes, (Or.inl q1268), q1269⟩
theorem s_X2_82_v : mSV (mYn zX2_put).cls 82 zX2_full 0 1 := ⟨ms_X2_full, (Or.inl q1285), q1286, q1287, _, _, rfl⟩
theorem s_X2_85_v : mSV (mYn zX2_put).cls 85 zX2_placeOf 0 1 := ⟨ms_X2_placeOf, (Or.inl q1289), q1290, q1291, _, _, rfl⟩
theorem s_X2_73_v : mSV (mYn zX2_placeOf).cls 73 zX2_kind 0 1 := ⟨ms_X2_kind, (Or.inl q1293), q664, q665, _, _, rfl⟩
theorem s_X2_96_v : mSV (mYn zX2_insert).cls 96 zX2_checkClause 0 3 := ⟨ms_X2_checkClause, (Or.inl q1399), q1401, qs26, _, _, rfl⟩
theorem s_X2_100_v : mSV (mYn zX2_insert).cls 100 zX2_puts 0 4 := ⟨ms_X2_puts, (Or.inl q1404), q1406, qs27, _, _, rfl⟩
theorem s_X2_92_v : mSV (mYn zX2_checkClause).cls 92 zX2_isGood 0 1 := ⟨ms_X2_isGood, (Or.inl q1403), q1243, q1244, _, _, rfl⟩
theorem s_X2_110_v : mSV (mYn zX2_titheOf).cls 110 zX2_tithe 0 1 := ⟨ms_X2_tithe, (Or.inl q1498), q1365, q1366, _, _, rfl⟩
theorem f_X2_104_5 : mFS RX2 104 5 2 := ⟨_, _, _, rfl, by decide, in_X7, (Or.inr ⟨"PloughWills", q386⟩)⟩
theorem f_X2_107_5 : mFS RX2 107 5 3 := ⟨_, _, _, rfl, by decide, in_X7, (Or.inr ⟨"PloughWills", q388⟩)⟩
theorem f_X2_108_5 : mFS RX2 108 5 4 := ⟨_, _, _, rfl, by decide, in_X7, (Or.inr ⟨"PloughWills", q390⟩)⟩
theorem f_X2_109_5 : mFS RX2 109 5 5 := ⟨_, _, _, rfl, by decide, in_X7, (Or.inr ⟨"PloughWills", q392⟩)⟩
theorem s_X3_3_s : mSI (mYn zX3_init).cls 3 zJ26_init 0 := ⟨ms_J26_init, (Or.inl q223), q124, rfl, rfl, rfl⟩
theorem n_X3_9 : mNS RX3 9 2 [.null, .null, .null, .null, .null] := ⟨_, _, _, tyX4, rfl, in_X4, tyX4_ok, q224, q225, q81, rfl⟩
theorem s_X3_11_s : mSI (mYn zX3_init).cls 11 zX4_init 0 := ⟨ms_X4_init, (Or.inr ⟨"PloughWills", q226⟩), q227, rfl, rfl, rfl⟩
theorem f_X3_12_1 : mFS RX3 12 1 1 := ⟨_, _, _, rfl, by decide, in_X3, (Or.inl q254)⟩
theorem f_X3_18_1 : mFS RX3 18 1 2 := ⟨_, _, _, rfl, by decide, in_X3, (Or.inl q255)⟩
theorem f_X3_22_1 : mFS RX3 22 1 3 := ⟨_, _, _, rfl, by decide, in_X3, (Or.inl q256)⟩
theorem f_X3_25_1 : mFS RX3 25 1 4 := ⟨_, _, _, rfl, by decide, in_X3, (Or.inl q257)⟩
theorem f_X3_29_1 : mFS RX3 29 1 9 := ⟨_, _, _, rfl, by decide, in_X3, (Or.inl q265)⟩
theorem f_X3_32_1 : mFS RX3 32 1 10 := ⟨_, _, _, rfl, by decide, in_X3, (Or.inl q267)⟩
theorem s_X3_134_v : mSV (mYn zX3_along).cls 134 zX3_begins 1 2 := ⟨ms_X3_begins, (Or.inl q635), q637, qs8, _, _, rfl⟩
theorem f_X3_137_0 : mFS RX3 137 0 8 := ⟨_, _, _, rfl, by decide, in_X2, (Or.inr ⟨"PloughWills", q170⟩)⟩
theorem f_X3_49_1 : mFS RX3 49 1 6 := ⟨_, _, _, rfl, by decide, in_X3, (Or.inl q259)⟩
theorem f_X3_147_3 : mFS RX3 147 3 0 := ⟨_, _, _, rfl, by decide, in_X5, (Or.inr ⟨"PloughWills", q302⟩)⟩
theorem f_X3_152_3 : mFS RX3 152 3 1 := ⟨_, _, _, rfl, by decide, in_X5, (Or.inr ⟨"PloughWills", q305⟩)⟩
theorem s_X3_143_v : mSV (mYn zX3_along).cls 143 zX3_goes 1 3 := ⟨ms_X3_goes, (Or.inl q643), q645, qs9, _, _, rfl⟩
theorem f_X3_52_1 : mFS RX3 52 1 7 := ⟨_, _, _, rfl, by decide, in_X3, (Or.inl q261)⟩
theorem s_X3_105_v : mSV (mYn zX3_along).cls 105 zX3_leaves 1 0 := ⟨ms_X3_leaves, (Or.inl q659), q661, qs13, _, _, rfl⟩
theorem f_X3_35_1 : mFS RX3 35 1 0 := ⟨_, _, _, rfl, by decide, in_X3, (Or.inl q253)⟩
theorem f_X3_39_1 : mFS RX3 39 1 11 := ⟨_, _, _, rfl, by decide, in_X3, (Or.inl q269)⟩
theorem s_X3_43_v : mSV (mYn zX3_begins).cls 43 zX4_begins 2 0 := ⟨ms_X4_begins, (Or.inl q639), q640, q641, _, _, rfl⟩
theorem f_X3_46_1 : mFS RX3 46 1 5 := ⟨_, _, _, rfl, by decide, in_X3, (Or.inl q258)⟩
theorem f_X3_55_1 : mFS RX3 55 1 8 := ⟨_, _, _, rfl, by decide, in_X3, (Or.inl q263)⟩
theorem f_X3_91_0 : mFS RX3 91 0 5 := ⟨_, _, _, rfl, by decide, in_X2, (Or.inr ⟨"PloughWills", q159⟩)⟩
theorem f_X3_94_0 : mFS RX3 94 0 4 := ⟨_, _, _, rfl, by decide, in_X2, (Or.inr ⟨"PloughWills", q156⟩)⟩
theorem s_X3_97_v : mSV (mYn zX3_goes).cls 97 zX3_enters 1 1 := ⟨ms_X3_enters, (Or.inl q647), q649, qs10, _, _, rfl⟩
theorem s_X3_101_v : mSV (mYn zX3_goes).cls 101 zX3_isNot 1 1 := ⟨ms_X3_isNot, (Or.inl q651), q653, qs11, _, _, rfl⟩
theorem s_X3_109_v : mSV (mYn zX3_goes).cls 109 zX3_brings 1 1 := ⟨ms_X3_brings, (Or.inl q667), q669, qs14, _, _, rfl⟩
theorem s_X3_112_v : mSV (mYn zX3_goes).cls 112 zX3_gives 1 1 := ⟨ms_X3_gives, (Or.inl q671), q673, qs15, _, _, rfl⟩
theorem f_X3_115_0 : mFS RX3 115 0 6 := ⟨_, _, _, rfl, by decide, in_X2, (Or.inr ⟨"PloughWills", q162⟩)⟩
theorem s_X3_118_v : mSV (mYn zX3_goes).cls 118 zX3_puts 1 3 := ⟨ms_X3_puts, (Or.inl q679), q681, qs16, _, _, rfl⟩
theorem f_X3_80_2 : mFS RX3 80 2 2 := ⟨_, _, _, rfl, by decide, in_X4, (Or.inr ⟨"PloughWills", q235⟩)⟩
theorem s_X3_73_v : mSV (mYn zX3_goes).cls 73 zX3_wrongFor 1 3 := ⟨ms_X3_wrongFor, (Or.inl q655), q657, qs12, _, _, rfl⟩
theorem s_X3_122_v : mSV (mYn zX3_goes).cls 122 zX4_take 2 1 := ⟨ms_X4_take, (Or.inl q683), q684, q685, _, _, rfl⟩
theorem s_X3_126_v : mSV (mYn zX3_goes).cls 126 zX3_joins 1 1 := ⟨ms_X3_joins, (Or.inl q688), q690, qs17, _, _, rfl⟩
theorem f_X3_58_0 : mFS RX3 58 0 7 := ⟨_, _, _, rfl, by decide, in_X2, (Or.inr ⟨"PloughWills", q165⟩)⟩
theorem f_X3_63_2 : mFS RX3 63 2 0 := ⟨_, _, _, rfl, by decide, in_X4, (Or.inr ⟨"PloughWills", q231⟩)⟩
theorem f_X3_66_2 : mFS RX3 66 2 1 := ⟨_, _, _, rfl, by decide, in_X4, (Or.inr ⟨"PloughWills", q233⟩)⟩
theorem s_X3_69_v : mSV (mYn zX3_leaves).cls 69 zX2_kind 0 1 := ⟨ms_X2_kind, (Or.inl q663), q664, q665, _, _, rfl⟩
theorem f_X3_77_2 : mFS RX3 77 2 3 := ⟨_, _, _, rfl, by decide, in_X4, (Or.inr ⟨"PloughWills", q237⟩)⟩
theorem s_X3_83_v : mSV (mYn zX3_gives).cls 83 zX4_isUnder 2 2 := ⟨ms_X4_isUnder, (Or.inl q675), q676, q677, _, _, rfl⟩
theorem f_X3_87_2 : mFS RX3 87 2 4 := ⟨_, _, _, rfl, by decide, in_X4, (Or.inr ⟨"PloughWills", q239⟩)⟩
theorem s_X3_140_v : mSV (mYn zX3_through).cls 140 zX3_ahead 1 1 := ⟨ms_X3_ahead, (Or.inl q696), q698, qs18, _, _, rfl⟩
theorem s_X4_3_s : mSI (mYn zX4_init).cls 3 zJ26_init 0 := ⟨ms_J26_init, (Or.inl q229), q124, rfl, rfl, rfl⟩
theorem f_X4_9_2 : mFS RX4 9 2 0 := ⟨_, _, _, rfl, by decide, in_X4, (Or.inl q230)⟩
theorem f_X4_15_2 : mFS RX4 15 2 1 := ⟨_, _, _, rfl, by decide, in_X4, (Or.inl q232)⟩
theorem f_X4_18_2 : mFS RX4 18 2 2 := ⟨_, _, _, rfl, by decide, in_X4, (Or.inl q234)⟩
theorem f_X4_21_2 : mFS RX4 21 2 3 := ⟨_, _, _, rfl, by decide, in_X4, (Or.inl q236)⟩
theorem f_X4_24_2 : mFS RX4 24 2 4 := ⟨_, _, _, rfl, by decide, in_X4, (Or.inl q238)⟩
theorem s_X5_3_s : mSI (mYn zX5_init).cls 3 zJ26_init 0 := ⟨ms_J26_init, (Or.inl q300), q124, rfl, rfl, rfl⟩
theorem f_X5_9_3 : mFS RX5 9 3 0 := ⟨_, _, _, rfl, by decide, in_X5, (Or.inl q301)⟩
theorem f_X5_15_3 : mFS RX5 15 3 1 := ⟨_, _, _, rfl, by decide, in_X5, (Or.inl q304)⟩
theorem f_X5_22_0 : mFS RX5 22 0 4 := ⟨_, _, _, rfl, by decide, in_X2, (Or.inr ⟨"PloughWills", q155⟩)⟩
theorem s_X5_28_v : mSV (mYn zX5_many).cls 28 zX2_behind 0 3 := ⟨ms_X2_behind, (Or.inl q610), q611, q612, _, _, rfl⟩
theorem s_X5_32_s : mSS (mYn zX5_many).cls 32 zX5_many 3 := ⟨ms_X5_many, (Or.inl q614), q608⟩
theorem f_X5_18_3 : mFS RX5 18 3 2 := ⟨_, _, _, rfl, by decide, in_X5, (Or.inl q306)⟩
theorem f_X5_43_3 : mFS RX5 43 3 3 := ⟨_, _, _, rfl, by decide, in_X5, (Or.inl q308)⟩
theorem f_X5_40_3 : mFS RX5 40 3 4 := ⟨_, _, _, rfl, by decide, in_X5, (Or.inl q310)⟩
theorem f_X5_54_0 : mFS RX5 54 0 8 := ⟨_, _, _, rfl, by decide, in_X2, (Or.inr ⟨"PloughWills", q169⟩)⟩
theorem s_X5_50_v : mSV (mYn zX5_take).cls 50 zX5_goes 3 3 := ⟨ms_X5_goes, (Or.inl q619), q621, qs5, _, _, rfl⟩
theorem s_X5_36_v : mSV (mYn zX5_goes).cls 36 zX5_by 3 2 := ⟨ms_X5_by, (Or.inl q623), q625, qs6, _, _, rfl⟩
theorem s_X5_46_v : mSV (mYn zX5_goes).cls 46 zX5_goesWithin 3 4 := ⟨ms_X5_goesWithin, (Or.inl q627), q629, qs7, _, _, rfl⟩
theorem s_X5_57_v : mSV (mYn zX5_worth).cls 57 zX2_worthOf 0 1 := ⟨ms_X2_worthOf, (Or.inl q1076), q1065, q1066, _, _, rfl⟩
theorem s_X5_61_v : mSV (mYn zX5_tithes).cls 61 zX2_titheOf 0 1 := ⟨ms_X2_titheOf, (Or.inl q1494), q1495, q1496, _, _, rfl⟩
theorem s_X6_3_s : mSI (mYn zX6_init).cls 3 zJ26_init 0 := ⟨ms_J26_init, (Or.inl q327), q124, rfl, rfl, rfl⟩
theorem f_X6_9_4 : mFS RX6 9 4 0 := ⟨_, _, _, rfl, by decide, in_X6, (Or.inl q328)⟩
theorem f_X6_15_4 : mFS RX6 15 4 1 := ⟨_, _, _, rfl, by decide, in_X6, (Or.inl q330)⟩
theorem f_X6_18_4 : mFS RX6 18 4 2 := ⟨_, _, _, rfl, by decide, in_X6, (Or.inl q331)⟩
theorem f_X6_22_4 : mFS RX6 22 4 3 := ⟨_, _, _, rfl, by decide, in_X6, (Or.inl q333)⟩
theorem f_X6_26_0 : mFS RX6 26 0 8 := ⟨_, _, _, rfl, by decide, in_X2, (Or.inr ⟨"PloughWills", q167⟩)⟩
theorem f_X6_31_0 : mFS RX6 31 0 4 := ⟨_, _, _, rfl, by decide, in_X2, (Or.inr ⟨"PloughWills", q154⟩)⟩
theorem s_X6_34_s : mSS (mYn zX6_take).cls 34 zJ11_max 2 := ⟨ms_J11_max, (Or.inl q604), q605⟩
theorem s_X7_3_s : mSI (mYn zX7_init).cls 3 zJ26_init 0 := ⟨ms_J26_init, (Or.inl q382), q124, rfl, rfl, rfl⟩
theorem f_X7_9_5 : mFS RX7 9 5 3 := ⟨_, _, _, rfl, by decide, in_X7, (Or.inl q387)⟩
theorem f_X7_15_5 : mFS RX7 15 5 4 := ⟨_, _, _, rfl, by decide, in_X7, (Or.inl q389)⟩
theorem f_X7_18_5 : mFS RX7 18 5 5 := ⟨_, _, _, rfl, by decide, in_X7, (Or.inl q391)⟩
theorem f_X7_21_5 : mFS RX7 21 5 0 := ⟨_, _, _, rfl, by decide, in_X7, (Or.inl q383)⟩
theorem f_X7_25_5 : mFS RX7 25 5 1 := ⟨_, _, _, rfl, by decide, in_X7, (Or.inl q384)⟩
theorem f_X7_56_5 : mFS RX7 56 5 2 := ⟨_, _, _, rfl, by decide, in_X7, (Or.inl q385)⟩
theorem s_X7_59_v : mSV (mYn zX7_read).cls 59 zX7_sort 5 0 := ⟨ms_X7_sort, (Or.inl q1559), q1561, qs30, _, _, rfl⟩
theorem s_X7_39_s : mSS (mYn zX7_read).cls 39 zX1_in 3 := ⟨ms_X1_in, (Or.inr ⟨rfl, "PloughWills", q1631⟩), q1039⟩
theorem s_X7_62_v : mSV (mYn zX7_read).cls 62 zX7_digit 5 0 := ⟨ms_X7_digit, (Or.inl q1632), q1634, qs31, _, _, rfl⟩
theorem s_X7_29_v : mSV (mYn zX7_read).cls 29 zJ3_length 14 0 := ⟨ms_J3_length, (Or.inl q1563), q887, q2166, _, _, rfl⟩
theorem s_X7_35_v : mSV (mYn zX7_sort).cls 35 zJ3_charAt 14 1 := ⟨ms_J3_charAt, (Or.inl q1565), q1521, q1522, _, _, rfl⟩
theorem s_X7_50_v : mSV (mYn zX7_sort).cls 50 zJ4_indexOf 15 1 := ⟨ms_J4_indexOf, (Or.inl q1566), q1567, q1568, _, _, rfl⟩
theorem n_X7_43 : mNS RX7 43 12 [.null, .null, .null, .null, .null, .int 0, .int 0] := ⟨_, _, _, tyX14, rfl, in_X14, tyX14_ok, q1612, q1613, q116, rfl⟩
theorem s_X7_45_s : mSI (mYn zX7_sort).cls 45 zX14_init 1 := ⟨ms_X14_init, (Or.inl q1621), q1622, rfl, rfl, rfl⟩
theorem s_X8_3_s : mSI (mYn zX8_init).cls 3 zJ26_init 0 := ⟨ms_J26_init, (Or.inl q1724), q124, rfl, rfl, rfl⟩
theorem f_X8_9_7 : mFS RX8 9 7 0 := ⟨_, _, _, rfl, by decide, in_X8, (Or.inl q1725)⟩
theorem f_X8_13_7 : mFS RX8 13 7 1 := ⟨_, _, _, rfl, by decide, in_X8, (Or.inl q1726)⟩
theorem f_X8_16_7 : mFS RX8 16 7 2 := ⟨_, _, _, rfl, by decide, in_X8, (Or.inl q1727)⟩
theorem f_X8_19_7 : mFS RX8 19 7 4 := ⟨_, _, _, rfl, by decide, in_X8, (Or.inl q1729)⟩
theorem f_X8_22_7 : mFS RX8 22 7 9 := ⟨_, _, _, rfl, by decide, in_X8, (Or.inl q1734)⟩
theorem f_X8_25_7 : mFS RX8 25 7 10 := ⟨_, _, _, rfl, by decide, in_X8, (Or.inl q1735)⟩
theorem f_X8_28_7 : mFS RX8 28 7 11 := ⟨_, _, _, rfl, by decide, in_X8, (Or.inl q1736)⟩
theorem f_X8_31_7 : mFS RX8 31 7 12 := ⟨_, _, _, rfl, by decide, in_X8, (Or.inl q1737)⟩
theorem f_X8_34_7 : mFS RX8 34 7 13 := ⟨_, _, _, rfl, by decide, in_X8, (Or.inl q1738)⟩
theorem f_X8_37_7 : mFS RX8 37 7 15 := ⟨_, _, _, rfl, by decide, in_X8, (Or.inl q1740)⟩
theorem f_X8_40_7 : mFS RX8 40 7 16 := ⟨_, _, _, rfl, by decide, in_X8, (Or.inl q1741)⟩
theorem f_X8_43_7 : mFS RX8 43 7 17 := ⟨_, _, _, rfl, by decide, in_X8, (Or.inl q1742)⟩
theorem f_X8_46_7 : mFS RX8 46 7 22 := ⟨_, _, _, rfl, by decide, in_X8, (Or.inl q1747)⟩
theorem f_X8_50_7 : mFS RX8 50 7 25 := ⟨_, _, _, rfl, by decide, in_X8, (Or.inl q1750)⟩
theorem f_X8_54_7 : mFS RX8 54 7 27 := ⟨_, _, _, rfl, by decide, in_X8, (Or.inl q1752)⟩
theorem f_X8_57_7 : mFS RX8 57 7 29 := ⟨_, _, _, rfl, by decide, in_X8, (Or.inl q1754)⟩
theorem f_X8_61_7 : mFS RX8 61 7 30 := ⟨_, _, _, rfl, by decide, in_X8, (Or.inl q1755)⟩
theorem f_X8_64_7 : mFS RX8 64 7 6 := ⟨_, _, _, rfl, by decide, in_X8, (Or.inl q1731)⟩
theorem f_X8_76_7 : mFS RX8 76 7 7 := ⟨_, _, _, rfl, by decide, in_X8, (Or.inl q1732)⟩
theorem f_X8_79_7 : mFS RX8 79 7 8 := ⟨_, _, _, rfl, by decide, in_X8, (Or.inl q1733)⟩
theorem s_X8_86_v : mSV (mYn zX8_good).cls 86 zX8_keep 7 0 := ⟨ms_X8_keep, (Or.inl q1832), q1834, qs33, _, _, rfl⟩
theorem s_X8_82_s : mSS (mYn zX8_good).cls 82 zX8_in 3 := ⟨ms_X8_in, (Or.inl q1837), q1838⟩
theorem s_X8_89_v : mSV (mYn zX8_good).cls 89 zX8_fails 7 1 := ⟨ms_X8_fails, (Or.inl q1840), q1842, qs34, _, _, rfl⟩
theorem s_X8_93_v : mSV (mYn zX8_good).cls 93 zX8_ends 7 1 := ⟨ms_X8_ends, (Or.inl q1844), q1846, qs35, _, _, rfl⟩
theorem s_X8_96_v : mSV (mYn zX8_good).cls 96 zX8_refuse 7 3 := ⟨ms_X8_refuse, (Or.inl q1848), q1850, qs36, _, _, rfl⟩
theorem f_X8_73_7 : mFS RX8 73 7 5 := ⟨_, _, _, rfl, by decide, in_X8, (Or.inl q1730)⟩
theorem s_X8_100_v : mSV (mYn zX8_put).cls 100 zX8_isGood 7 1 := ⟨ms_X8_isGood, (Or.inl q1856), q1858, qs37, _, _, rfl⟩
theorem s_X8_104_s : mSS (mYn zX8_put).cls 104 zX8_isChest 1 := ⟨ms_X8_isChest, (Or.inl q1860), q1861⟩
theorem s_X8_107_v : mSV (mYn zX8_put).cls 107 zX8_placeOf 7 1 := ⟨ms_X8_placeOf, (Or.inl q1863), q1865, qs38, _, _, rfl⟩
theorem s_X8_116_v : mSV (mYn zX8_goodOf).cls 116 zX8_clausesWith 7 3 := ⟨ms_X8_clausesWith, (Or.inl q1879), q1881, qs39, _, _, rfl⟩
theorem s_X8_110_v : mSV (mYn zX8_clausesWith).cls 110 zX8_sort 7 1 := ⟨ms_X8_sort, (Or.inl q1883), q1885, qs40, _, _, rfl⟩
theorem s_X8_113_v : mSV (mYn zX8_clausesWith).cls 113 zX8_goodIn 7 1 := ⟨ms_X8_goodIn, (Or.inl q1887), q1889, qs41, _, _, rfl⟩
theorem s_X8_133_v : mSV (mYn zX8_goodIn).cls 133 zX8_one 7 1 := ⟨ms_X8_one, (Or.inl q1891), q1893, qs42, _, _, rfl⟩
theorem s_X8_124_v : mSV (mYn zX8_tithe).cls 124 zX8_titheOf 7 1 := ⟨ms_X8_titheOf, (Or.inl q1903), q1905, qs43, _, _, rfl⟩
theorem s_X8_120_v : mSV (mYn zX8_titheOf).cls 120 zX8_rateOf 7 1 := ⟨ms_X8_rateOf, (Or.inl q1907), q1909, qs44, _, _, rfl⟩
theorem s_X8_127_s : mSS (mYn zX8_rateBits).cls 127 zJ18_floatToIntBits 1 := ⟨ms_J18_floatToIntBits, (Or.inl q1916), q1376⟩
theorem s_X8_153_v : mSV (mYn zX8_add).cls 153 zX8_doInsert 7 5 := ⟨ms_X8_doInsert, (Or.inl q1921), q1923, qs45, _, _, rfl⟩
theorem s_X8_145_v : mSV (mYn zX8_doInsert).cls 145 zX8_isFit 7 4 := ⟨ms_X8_isFit, (Or.inl q1925), q1927, qs46, _, _, rfl⟩
theorem s_X8_149_v : mSV (mYn zX8_doInsert).cls 149 zX8_sets 7 4 := ⟨ms_X8_sets, (Or.inl q1938), q1940, qs47, _, _, rfl⟩
theorem s_X8_136_s : mSS (mYn zX8_isFit).cls 136 zX8_hasPlough 1 := ⟨ms_X8_hasPlough, (Or.inl q1929), q1930⟩
theorem s_X8_139_s : mSS (mYn zX8_isFit).cls 139 zX8_hasGood 1 := ⟨ms_X8_hasGood, (Or.inl q1932), q1933⟩
theorem s_X8_142_s : mSS (mYn zX8_isFit).cls 142 zX8_isPut 1 := ⟨ms_X8_isPut, (Or.inl q1935), q1936⟩
theorem s_X8_157_v : mSV (mYn zX8_remove).cls 157 zX8_isClause 7 1 := ⟨ms_X8_isClause, (Or.inl q1950), q1952, qs48, _, _, rfl⟩
theorem s_X8_169_v : mSV (mYn zX8_clauseOf).cls 169 zX8_nests 7 0 := ⟨ms_X8_nests, (Or.inl q1958), q1960, qs49, _, _, rfl⟩
theorem f_X8_160_7 : mFS RX8 160 7 14 := ⟨_, _, _, rfl, by decide, in_X8, (Or.inl q1739)⟩
theorem s_X8_163_s : mSS (mYn zX8_nests).cls 163 zJ11_max 2 := ⟨ms_J11_max, (Or.inl q1962), q605⟩
theorem s_X8_229_v : mSV (mYn zX8_wrong).cls 229 zX8_looks 7 0 := ⟨ms_X8_looks, (Or.inl q1967), q1969, qs50, _, _, rfl⟩
theorem f_X8_176_7 : mFS RX8 176 7 19 := ⟨_, _, _, rfl, by decide, in_X8, (Or.inl q1744)⟩
theorem f_X8_179_7 : mFS RX8 179 7 20 := ⟨_, _, _, rfl, by decide, in_X8, (Or.inl q1745)⟩
theorem f_X8_182_7 : mFS RX8 182 7 21 := ⟨_, _, _, rfl, by decide, in_X8, (Or.inl q1746)⟩
theorem s_X8_223_v : mSV (mYn zX8_looks).cls 223 zX8_goesTo 7 1 := ⟨ms_X8_goesTo, (Or.inl q1971), q1973, qs51, _, _, rfl⟩
theorem s_X8_226_v : mSV (mYn zX8_looks).cls 226 zX8_finishes 7 0 := ⟨ms_X8_finishes, (Or.inl q2019), q2021, qs63, _, _, rfl⟩
theorem s_X8_216_v : mSV (mYn zX8_goesTo).cls 216 zX8_begins 7 0 := ⟨ms_X8_begins, (Or.inl q1975), q1977, qs52, _, _, rfl⟩
theorem s_X8_219_v : mSV (mYn zX8_goesTo).cls 219 zX8_goes 7 2 := ⟨ms_X8_goes, (Or.inl q1979), q1981, qs53, _, _, rfl⟩
theorem f_X8_173_7 : mFS RX8 173 7 18 := ⟨_, _, _, rfl, by decide, in_X8, (Or.inl q1743)⟩
theorem s_X8_188_v : mSV (mYn zX8_goes).cls 188 zX8_errs 7 3 := ⟨ms_X8_errs, (Or.inl q1983), q1985, qs54, _, _, rfl⟩
theorem s_X8_195_v : mSV (mYn zX8_goes).cls 195 zX8_opens 7 2 := ⟨ms_X8_opens, (Or.inl q1987), q1989, qs55, _, _, rfl⟩
theorem s_X8_199_v : mSV (mYn zX8_goes).cls 199 zX8_ended 7 1 := ⟨ms_X8_ended, (Or.inl q1991), q1993, qs56, _, _, rfl⟩
theorem s_X8_202_v : mSV (mYn zX8_goes).cls 202 zX8_brings 7 2 := ⟨ms_X8_brings, (Or.inl q1999), q2001, qs58, _, _, rfl⟩
theorem s_X8_206_v : mSV (mYn zX8_goes).cls 206 zX8_gives 7 2 := ⟨ms_X8_gives, (Or.inl q2003), q2005, qs59, _, _, rfl⟩
theorem s_X8_209_v : mSV (mYn zX8_goes).cls 209 zX8_puts 7 4 := ⟨ms_X8_puts, (Or.inl q2011), q2013, qs61, _, _, rfl⟩
theorem s_X8_213_v : mSV (mYn zX8_goes).cls 213 zX8_meets 7 1 := ⟨ms_X8_meets, (Or.inl q2015), q2017, qs62, _, _, rfl⟩
theorem s_X8_185_v : mSV (mYn zX8_ended).cls 185 zX8_leftOf 7 1 := ⟨ms_X8_leftOf, (Or.inl q1995), q1997, qs57, _, _, rfl⟩
theorem s_X8_191_v : mSV (mYn zX8_gives).cls 191 zX8_ploughsOn 7 2 := ⟨ms_X8_ploughsOn, (Or.inl q2007), q2009, qs60, _, _, rfl⟩
theorem s_X8_245_v : mSV (mYn zX8_paths).cls 245 zX8_pathMany 7 0 := ⟨ms_X8_pathMany, (Or.inl q2039), q2041, qs64, _, _, rfl⟩
theorem s_X8_232_v : mSV (mYn zX8_pathMany).cls 232 zX8_count 7 2 := ⟨ms_X8_count, (Or.inl q2043), q2045, qs65, _, _, rfl⟩
theorem s_X8_249_v : mSV (mYn zX8_pathOf).cls 249 zX8_marksPath 7 1 := ⟨ms_X8_marksPath, (Or.inl q2051), q2053, qs66, _, _, rfl⟩
theorem f_X8_235_7 : mFS RX8 235 7 23 := ⟨_, _, _, rfl, by decide, in_X8, (Or.inl q1748)⟩
theorem s_X8_253_v : mSV (mYn zX8_pathOf).cls 253 zX8_sumOf 7 1 := ⟨ms_X8_sumOf, (Or.inl q2059), q2061, qs68, _, _, rfl⟩
theorem s_X8_257_v : mSV (mYn zX8_pathOf).cls 257 zX8_looksOn 7 0 := ⟨ms_X8_looksOn, (Or.inl q2063), q2065, qs69, _, _, rfl⟩
theorem f_X8_238_7 : mFS RX8 238 7 24 := ⟨_, _, _, rfl, by decide, in_X8, (Or.inl q1749)⟩
theorem s_X8_241_v : mSV (mYn zX8_marksPath).cls 241 zX8_marks 7 3 := ⟨ms_X8_marks, (Or.inl q2055), q2057, qs67, _, _, rfl⟩
theorem s_X8_260_s : mSS (mYn zX8_worth).cls 260 zJ11_min 2 := ⟨ms_J11_min, (Or.inl q2075), q536⟩
theorem s_X8_263_v : mSV (mYn zX8_tithes).cls 263 zX8_tithesOf 7 1 := ⟨ms_X8_tithesOf, (Or.inl q2080), q2082, qs70, _, _, rfl⟩
theorem f_X8_266_7 : mFS RX8 266 7 26 := ⟨_, _, _, rfl, by decide, in_X8, (Or.inl q1751)⟩
theorem s_X8_271_v : mSV (mYn zX8_line).cls 271 zJ4_charAt 15 1 := ⟨ms_J4_charAt, (Or.inl q2093), q1002, q1003, _, _, rfl⟩
theorem s_X8_277_v : mSV (mYn zX8_line).cls 277 zX8_says 7 1 := ⟨ms_X8_says, (Or.inl q2094), q2096, qs71, _, _, rfl⟩
theorem f_X8_281_7 : mFS RX8 281 7 28 := ⟨_, _, _, rfl, by decide, in_X8, (Or.inl q1753)⟩
theorem s_X8_288_v : mSV (mYn zX8_read).cls 288 zX8_reads 7 0 := ⟨ms_X8_reads, (Or.inl q2110), q2112, qs72, _, _, rfl⟩
theorem s_X8_284_s : mSS (mYn zX8_reads).cls 284 zX8_sortOf 1 := ⟨ms_X8_sortOf, (Or.inl q2114), q2115⟩
theorem s_X8_291_v : mSV (mYn zX8_account).cls 291 zX8_allWorth 7 0 := ⟨ms_X8_allWorth, (Or.inl q2125), q2127, qs73, _, _, rfl⟩
theorem s_X8_294_v : mSV (mYn zX8_account).cls 294 zX8_choices 7 0 := ⟨ms_X8_choices, (Or.inl q2129), q2131, qs74, _, _, rfl⟩
theorem f_X8_297_7 : mFS RX8 297 7 3 := ⟨_, _, _, rfl, by decide, in_X8, (Or.inl q1728)⟩
theorem s_X9_1_s : mSI (mYn zX9_init).cls 1 zJ7_init_2 0 := ⟨ms_J7_init_2, (Or.inl q1136), q1111, rfl, rfl, rfl⟩
theorem f_X9_7_11 : mFS RX9 7 11 6 := ⟨_, _, _, rfl, by decide, in_X9, (Or.inl q1137)⟩
theorem f_X9_13_11 : mFS RX9 13 11 7 := ⟨_, _, _, rfl, by decide, in_X9, (Or.inl q1139)⟩
theorem n_X0_8 : mNS RX0 8 6 [.null, .null, .null, .int 0, .null, .null, .null, .null, .null, .null, .null, .null, .int 0, .int 0, .int 0] := ⟨_, _, _, tyX1, rfl, in_X1, tyX1_ok, q118, q119, q76, rfl⟩
theorem s_X0_117_s : mSI (mYn zL_law).cls 117 zX1_init 0 := ⟨ms_X1_init, (Or.inl q120), q121, rfl, rfl, rfl⟩
theorem n_X0_118 : mNS RX0 118 7 [.null, .null, .null, .int 0, .null, .int 0, .int 0, .int 0, .int 0, .null, .null, .null, .null, .null, .int 0, .null, .null, .null, .int 0, .int 0, .int 0, .int 0, .null, .int 0, .int 0, .null, .int 0, .null, .int 0, .int 0, .null] := ⟨_, _, _, tyX8, rfl, in_X8, tyX8_ok, q1719, q1720, q96, rfl⟩
theorem s_X0_120_s : mSI (mYn zL_law).cls 120 zX8_init 0 := ⟨ms_X8_init, (Or.inl q1721), q1722, rfl, rfl, rfl⟩
theorem s_X0_121_s : mSS (mYn zL_law).cls 121 zX0_good 4 := ⟨ms_X0_good, (Or.inl q1086), q1087⟩
theorem s_X0_126_v : mSV (mYn zL_law).cls 126 zX8_good 7 2 := ⟨ms_X8_good, (Or.inl q1828), q1829, q1830, _, _, rfl⟩
theorem s_X0_127_v : mSV (mYn zL_law).cls 127 zX8_thrown 7 0 := ⟨ms_X8_thrown, (Or.inl q1820), q1821, q1822, _, _, rfl⟩
theorem s_X0_130_s : mSS (mYn zL_law).cls 130 zX0_put 4 := ⟨ms_X0_put, (Or.inl q1228), q1229⟩
theorem s_X0_132_v : mSV (mYn zL_law).cls 132 zX8_put 7 2 := ⟨ms_X8_put, (Or.inl q1852), q1853, q1854, _, _, rfl⟩
theorem s_X0_133_s : mSS (mYn zL_law).cls 133 zX0_takeOut 3 := ⟨ms_X0_takeOut, (Or.inl q1294), q1295⟩
theorem s_X0_136_v : mSV (mYn zL_law).cls 136 zX8_takeOut 7 1 := ⟨ms_X8_takeOut, (Or.inl q1867), q1868, q1869, _, _, rfl⟩
theorem s_X0_137_s : mSS (mYn zL_law).cls 137 zX0_rate 4 := ⟨ms_X0_rate, (Or.inl q1305), q1306⟩
theorem s_X0_139_v : mSV (mYn zL_law).cls 139 zX8_rate 7 2 := ⟨ms_X8_rate, (Or.inl q1871), q1872, q1873, _, _, rfl⟩
theorem s_X0_140_s : mSS (mYn zL_law).cls 140 zX0_goodOf 4 := ⟨ms_X0_goodOf, (Or.inl q1317), q1318⟩
theorem s_X0_142_v : mSV (mYn zL_law).cls 142 zX8_goodOf 7 2 := ⟨ms_X8_goodOf, (Or.inl q1875), q1876, q1877, _, _, rfl⟩
theorem s_X0_143_s : mSS (mYn zL_law).cls 143 zX0_chestAt 4 := ⟨ms_X0_chestAt, (Or.inl q1330), q1331⟩
theorem s_X0_145_v : mSV (mYn zL_law).cls 145 zX8_chestAt 7 2 := ⟨ms_X8_chestAt, (Or.inl q1895), q1896, q1897, _, _, rfl⟩
theorem s_X0_146_s : mSS (mYn zL_law).cls 146 zX0_tithe 3 := ⟨ms_X0_tithe, (Or.inl q1357), q1358⟩
theorem s_X0_149_v : mSV (mYn zL_law).cls 149 zX8_tithe 7 1 := ⟨ms_X8_tithe, (Or.inl q1899), q1900, q1901, _, _, rfl⟩
theorem s_X0_150_s : mSS (mYn zL_law).cls 150 zX0_rateBits 3 := ⟨ms_X0_rateBits, (Or.inl q1368), q1369⟩
theorem s_X0_152_v : mSV (mYn zL_law).cls 152 zX8_rateBits 7 1 := ⟨ms_X8_rateBits, (Or.inl q1912), q1913, q1914, _, _, rfl⟩
theorem s_X0_153_s : mSS (mYn zL_law).cls 153 zX0_add 5 := ⟨ms_X0_add, (Or.inl q1385), q1386⟩
theorem s_X0_156_v : mSV (mYn zL_law).cls 156 zX8_add 7 3 := ⟨ms_X8_add, (Or.inl q1917), q1918, q1919, _, _, rfl⟩
theorem s_X0_157_s : mSS (mYn zL_law).cls 157 zX0_insert 6 := ⟨ms_X0_insert, (Or.inl q1408), q1409⟩
theorem s_X0_160_v : mSV (mYn zL_law).cls 160 zX8_insert 7 4 := ⟨ms_X8_insert, (Or.inl q1942), q1943, q1944, _, _, rfl⟩
theorem s_X0_161_s : mSS (mYn zL_law).cls 161 zX0_remove 3 := ⟨ms_X0_remove, (Or.inl q1415), q1416⟩
theorem s_X0_163_v : mSV (mYn zL_law).cls 163 zX8_remove 7 1 := ⟨ms_X8_remove, (Or.inl q1946), q1947, q1948, _, _, rfl⟩
theorem s_X0_164_s : mSS (mYn zL_law).cls 164 zX0_clauseOf 4 := ⟨ms_X0_clauseOf, (Or.inl q1430), q1431⟩
theorem s_X0_166_v : mSV (mYn zL_law).cls 166 zX8_clauseOf 7 2 := ⟨ms_X8_clauseOf, (Or.inl q1954), q1955, q1956, _, _, rfl⟩
theorem s_X0_167_s : mSS (mYn zL_law).cls 167 zX0_wrong 3 := ⟨ms_X0_wrong, (Or.inl q1437), q1438⟩
theorem s_X0_169_v : mSV (mYn zL_law).cls 169 zX8_wrong 7 1 := ⟨ms_X8_wrong, (Or.inl q1963), q1964, q1965, _, _, rfl⟩
theorem s_X0_170_v : mSV (mYn zL_law).cls 170 zX1_isSound 6 1 := ⟨ms_X1_isSound, (Or.inl q588), q589, q590, _, _, rfl⟩
theorem s_X0_174_v : mSV (mYn zL_law).cls 174 zX8_isSound 7 1 := ⟨ms_X8_isSound, (Or.inl q2023), q2024, q2025, _, _, rfl⟩
theorem s_X0_175_s : mSS (mYn zL_law).cls 175 zX0_goodAt 4 := ⟨ms_X0_goodAt, (Or.inl q1444), q1445⟩
theorem s_X0_177_v : mSV (mYn zL_law).cls 177 zX8_goodAt 7 2 := ⟨ms_X8_goodAt, (Or.inl q2027), q2028, q2029, _, _, rfl⟩
theorem s_X0_178_s : mSS (mYn zL_law).cls 178 zX0_ploughAt 4 := ⟨ms_X0_ploughAt, (Or.inl q1451), q1452⟩
theorem s_X0_180_v : mSV (mYn zL_law).cls 180 zX8_ploughAt 7 2 := ⟨ms_X8_ploughAt, (Or.inl q2031), q2032, q2033, _, _, rfl⟩
theorem s_X0_181_v : mSV (mYn zL_law).cls 181 zX1_paths 6 0 := ⟨ms_X1_paths, (Or.inl q707), q708, q709, _, _, rfl⟩
theorem s_X0_184_v : mSV (mYn zL_law).cls 184 zX8_paths 7 0 := ⟨ms_X8_paths, (Or.inl q2035), q2036, q2037, _, _, rfl⟩
theorem s_X0_185_s : mSS (mYn zL_law).cls 185 zX0_pathOf 4 := ⟨ms_X0_pathOf, (Or.inl q1458), q1459⟩
theorem s_X0_187_v : mSV (mYn zL_law).cls 187 zX8_pathOf 7 2 := ⟨ms_X8_pathOf, (Or.inl q2047), q2048, q2049, _, _, rfl⟩
theorem s_X0_188_s : mSS (mYn zL_law).cls 188 zX0_goesBy 4 := ⟨ms_X0_goesBy, (Or.inl q1469), q1470⟩
theorem s_X0_190_v : mSV (mYn zL_law).cls 190 zX8_goesBy 7 2 := ⟨ms_X8_goesBy, (Or.inl q2067), q2068, q2069, _, _, rfl⟩
theorem s_X0_191_s : mSS (mYn zL_law).cls 191 zX0_worth 4 := ⟨ms_X0_worth, (Or.inl q1476), q1477⟩
theorem s_X0_194_v : mSV (mYn zL_law).cls 194 zX8_worth 7 2 := ⟨ms_X8_worth, (Or.inl q2071), q2072, q2073, _, _, rfl⟩
theorem s_X0_195_s : mSS (mYn zL_law).cls 195 zX0_tithes 3 := ⟨ms_X0_tithes, (Or.inl q1483), q1484⟩
theorem s_X0_197_v : mSV (mYn zL_law).cls 197 zX8_tithes 7 1 := ⟨ms_X8_tithes, (Or.inl q2076), q2077, q2078, _, _, rfl⟩
theorem s_X0_198_s : mSS (mYn zL_law).cls 198 zX0_richest 2 := ⟨ms_X0_richest, (Or.inl q1499), q1500⟩
theorem s_X0_201_v : mSV (mYn zL_law).cls 201 zX8_richest 7 0 := ⟨ms_X8_richest, (Or.inl q2084), q2085, q2086, _, _, rfl⟩
theorem s_X0_202_v : mSV (mYn zL_law).cls 202 zX1_line 6 0 := ⟨ms_X1_line, (Or.inl q711), q712, q713, _, _, rfl⟩
theorem s_X0_205_v : mSV (mYn zL_law).cls 205 zX8_line 7 0 := ⟨ms_X8_line, (Or.inl q2088), q2089, q2090, _, _, rfl⟩
theorem s_X0_206_s : mSS (mYn zL_law).cls 206 zX0_character 3 := ⟨ms_X0_character, (Or.inl q1513), q1514⟩
theorem s_X0_208_v : mSV (mYn zL_law).cls 208 zX8_character 7 1 := ⟨ms_X8_character, (Or.inl q2098), q2099, q2100, _, _, rfl⟩
theorem s_X0_209_s : mSS (mYn zL_law).cls 209 zX0_append 3 := ⟨ms_X0_append, (Or.inl q1530), q1531⟩
theorem s_X0_212_v : mSV (mYn zL_law).cls 212 zX8_append 7 1 := ⟨ms_X8_append, (Or.inl q2102), q2103, q2104, _, _, rfl⟩
theorem s_X0_213_s : mSS (mYn zL_law).cls 213 zX0_read 2 := ⟨ms_X0_read, (Or.inl q1547), q1548⟩
theorem s_X0_215_v : mSV (mYn zL_law).cls 215 zX8_read 7 0 := ⟨ms_X8_read, (Or.inl q2106), q2107, q2108, _, _, rfl⟩
theorem s_X0_216_v : mSV (mYn zL_law).cls 216 zX1_errorPosition 6 0 := ⟨ms_X1_errorPosition, (Or.inl q1043), q1044, q1045, _, _, rfl⟩
theorem s_X0_219_v : mSV (mYn zL_law).cls 219 zX8_errorPosition 7 0 := ⟨ms_X8_errorPosition, (Or.inl q2117), q2118, q2119, _, _, rfl⟩
theorem s_X0_220_s : mSS (mYn zL_law).cls 220 zX0_refusal 3 := ⟨ms_X0_refusal, (Or.inl q1640), q1641⟩
theorem s_X0_223_v : mSV (mYn zL_law).cls 223 zX8_refusal 7 1 := ⟨ms_X8_refusal, (Or.inl q1824), q1825, q1826, _, _, rfl⟩
theorem s_X0_224_s : mSS (mYn zL_law).cls 224 zX0_account 3 := ⟨ms_X0_account, (Or.inl q1647), q1648⟩
theorem s_X0_226_v : mSV (mYn zL_law).cls 226 zX8_account 7 1 := ⟨ms_X8_account, (Or.inl q2121), q2122, q2123, _, _, rfl⟩
theorem s_X0_227_v : mSV (mYn zL_law).cls 227 zX1_isWell 6 0 := ⟨ms_X1_isWell, (Or.inl q1047), q1048, q1049, _, _, rfl⟩
theorem s_X0_231_v : mSV (mYn zL_law).cls 231 zX8_isWell 7 0 := ⟨ms_X8_isWell, (Or.inl q2133), q2134, q2135, _, _, rfl⟩
theorem s_X0_232_s : mSS (mYn zL_law).cls 232 zX0_meanWorth 2 := ⟨ms_X0_meanWorth, (Or.inl q1669), q1670⟩
theorem s_X0_235_v : mSV (mYn zL_law).cls 235 zX8_meanWorth 7 0 := ⟨ms_X8_meanWorth, (Or.inl q2137), q2138, q2139, _, _, rfl⟩
theorem s_X0_236_s : mSS (mYn zL_law).cls 236 zX0_undo 2 := ⟨ms_X0_undo, (Or.inl q1698), q1699⟩
theorem s_X0_238_v : mSV (mYn zL_law).cls 238 zX8_undo 7 0 := ⟨ms_X8_undo, (Or.inl q2141), q2142, q2143, _, _, rfl⟩
theorem s_X0_239_v : mSV (mYn zL_law).cls 239 zX1_save 6 0 := ⟨ms_X1_save, (Or.inl q1077), q1078, q1079, _, _, rfl⟩
theorem s_X0_242_v : mSV (mYn zL_law).cls 242 zX8_save 7 0 := ⟨ms_X8_save, (Or.inl q2145), q2146, q2147, _, _, rfl⟩
theorem s_X0_243_s : mSS (mYn zL_law).cls 243 zX0_restore 2 := ⟨ms_X0_restore, (Or.inl q1712), q1713⟩
theorem s_X0_245_v : mSV (mYn zL_law).cls 245 zX8_restore 7 0 := ⟨ms_X8_restore, (Or.inl q2149), q2150, q2151, _, _, rfl⟩
theorem ft_0_0 : mFT 0 0 (tyX2 0) true := ⟨_, _, _, tyX2, rfl, by decide, in_X2, tyX2_ok, nmX2, rfl, rfl⟩
theorem ft_0_1 : mFT 0 1 (tyX2 1) true := ⟨_, _, _, tyX2, rfl, by decide, in_X2, tyX2_ok, nmX2, rfl, rfl⟩
theorem ft_0_2 : mFT 0 2 (tyX2 2) true := ⟨_, _, _, tyX2, rfl, by decide, in_X2, tyX2_ok, nmX2, rfl, rfl⟩
theorem ft_0_3 : mFT 0 3 (tyX2 3) true := ⟨_, _, _, tyX2, rfl, by decide, in_X2, tyX2_ok, nmX2, rfl, rfl⟩
theorem ft_0_4 : mFT 0 4 (tyX2 4) true := ⟨_, _, _, tyX2, rfl, by decide, in_X2, tyX2_ok, nmX2, rfl, rfl⟩
theorem ft_0_5 : mFT 0 5 (tyX2 5) true := ⟨_, _, _, tyX2, rfl, by decide, in_X2, tyX2_ok, nmX2, rfl, rfl⟩
theorem ft_0_6 : mFT 0 6 (tyX2 6) true := ⟨_, _, _, tyX2, rfl, by decide, in_X2, tyX2_ok, nmX2, rfl, rfl⟩
theorem ft_0_7 : mFT 0 7 (tyX2 7) false := ⟨_, _, _, tyX2, rfl, by decide, in_X2, tyX2_ok, nmX2, rfl, rfl⟩
theorem ft_0_8 : mFT 0 8 (tyX2 8) false := ⟨_, _, _, tyX2, rfl, by decide, in_X2, tyX2_ok, nmX2, rfl, rfl⟩
theorem ft_0_9 : mFT 0 9 (tyX2 9) false := ⟨_, _, _, tyX2, rfl, by decide, in_X2, tyX2_ok, nmX2, rfl, rfl⟩
theorem ft_1_0 : mFT 1 0 (tyX3 0) false := ⟨_, _, _, tyX3, rfl, by decide, in_X3, tyX3_ok, nmX3, rfl, rfl⟩
theorem ft_1_1 : mFT 1 1 (tyX3 1) true := ⟨_, _, _, tyX3, rfl, by decide, in_X3, tyX3_ok, nmX3, rfl, rfl⟩
theorem ft_1_2 : mFT 1 2 (tyX3 2) true := ⟨_, _, _, tyX3, rfl, by decide, in_X3, tyX3_ok, nmX3, rfl, rfl⟩
theorem ft_1_3 : mFT 1 3 (tyX3 3) true := ⟨_, _, _, tyX3, rfl, by decide, in_X3, tyX3_ok, nmX3, rfl, rfl⟩
theorem ft_1_4 : mFT 1 4 (tyX3 4) true := ⟨_, _, _, tyX3, rfl, by decide, in_X3, tyX3_ok, nmX3, rfl, rfl⟩
theorem ft_1_5 : mFT 1 5 (tyX3 5) false := ⟨_, _, _, tyX3, rfl, by decide, in_X3, tyX3_ok, nmX3, rfl, rfl⟩
theorem ft_1_6 : mFT 1 6 (tyX3 6) false := ⟨_, _, _, tyX3, rfl, by decide, in_X3, tyX3_ok, nmX3, rfl, rfl⟩
theorem ft_1_7 : mFT 1 7 (tyX3 7) false := ⟨_, _, _, tyX3, rfl, by decide, in_X3, tyX3_ok, nmX3, rfl, rfl⟩
theorem ft_1_8 : mFT 1 8 (tyX3 8) false := ⟨_, _, _, tyX3, rfl, by decide, in_X3, tyX3_ok, nmX3, rfl, rfl⟩
theorem ft_1_9 : mFT 1 9 (tyX3 9) false := ⟨_, _, _, tyX3, rfl, by decide, in_X3, tyX3_ok, nmX3, rfl, rfl⟩
theorem ft_1_10 : mFT 1 10 (tyX3 10) false := ⟨_, _, _, tyX3, rfl, by decide, in_X3, tyX3_ok, nmX3, rfl, rfl⟩
theorem ft_1_11 : mFT 1 11 (tyX3 11) false := ⟨_, _, _, tyX3, rfl, by decide, in_X3, tyX3_ok, nmX3, rfl, rfl⟩
theorem ft_2_0 : mFT 2 0 (tyX4 0) true := ⟨_, _, _, tyX4, rfl, by decide, in_X4, tyX4_ok, nmX4, rfl, rfl⟩
theorem ft_2_1 : mFT 2 1 (tyX4 1) true := ⟨_, _, _, tyX4, rfl, by decide, in_X4, tyX4_ok, nmX4, rfl, rfl⟩
theorem ft_2_2 : mFT 2 2 (tyX4 2) true := ⟨_, _, _, tyX4, rfl, by decide, in_X4, tyX4_ok, nmX4, rfl, rfl⟩
theorem ft_2_3 : mFT 2 3 (tyX4 3) true := ⟨_, _, _, tyX4, rfl, by decide, in_X4, tyX4_ok, nmX4, rfl, rfl⟩
theorem ft_2_4 : mFT 2 4 (tyX4 4) true := ⟨_, _, _, tyX4, rfl, by decide, in_X4, tyX4_ok, nmX4, rfl, rfl⟩
theorem ft_3_0 : mFT 3 0 (tyX5 0) true := ⟨_, _, _, tyX5, rfl, by decide, in_X5, tyX5_ok, nmX5, rfl, rfl⟩
theorem ft_3_1 : mFT 3 1 (tyX5 1) true := ⟨_, _, _, tyX5, rfl, by decide, in_X5, tyX5_ok, nmX5, rfl, rfl⟩
theorem ft_3_2 : mFT 3 2 (tyX5 2) false := ⟨_, _, _, tyX5, rfl, by decide, in_X5, tyX5_ok, nmX5, rfl, rfl⟩
theorem ft_3_3 : mFT 3 3 (tyX5 3) false := ⟨_, _, _, tyX5, rfl, by decide, in_X5, tyX5_ok, nmX5, rfl, rfl⟩
theorem ft_3_4 : mFT 3 4 (tyX5 4) false := ⟨_, _, _, tyX5, rfl, by decide, in_X5, tyX5_ok, nmX5, rfl, rfl⟩
theorem ft_4_0 : mFT 4 0 (tyX6 0) true := ⟨_, _, _, tyX6, rfl, by decide, in_X6, tyX6_ok, nmX6, rfl, rfl⟩
theorem ft_4_1 : mFT 4 1 (tyX6 1) true := ⟨_, _, _, tyX6, rfl, by decide, in_X6, tyX6_ok, nmX6, rfl, rfl⟩
theorem ft_4_2 : mFT 4 2 (tyX6 2) false := ⟨_, _, _, tyX6, rfl, by decide, in_X6, tyX6_ok, nmX6, rfl, rfl⟩
theorem ft_4_3 : mFT 4 3 (tyX6 3) false := ⟨_, _, _, tyX6, rfl, by decide, in_X6, tyX6_ok, nmX6, rfl, rfl⟩
theorem ft_5_0 : mFT 5 0 (tyX7 0) true := ⟨_, _, _, tyX7, rfl, by decide, in_X7, tyX7_ok, nmX7, rfl, rfl⟩
theorem ft_5_1 : mFT 5 1 (tyX7 1) false := ⟨_, _, _, tyX7, rfl, by decide, in_X7, tyX7_ok, nmX7, rfl, rfl⟩
theorem ft_5_2 : mFT 5 2 (tyX7 2) false := ⟨_, _, _, tyX7, rfl, by decide, in_X7, tyX7_ok, nmX7, rfl, rfl⟩
theorem ft_5_3 : mFT 5 3 (tyX7 3) true := ⟨_, _, _, tyX7, rfl, by decide, in_X7, tyX7_ok, nmX7, rfl, rfl⟩
theorem ft_5_4 : mFT 5 4 (tyX7 4) true := ⟨_, _, _, tyX7, rfl, by decide, in_X7, tyX7_ok, nmX7, rfl, rfl⟩
theorem ft_5_5 : mFT 5 5 (tyX7 5) true := ⟨_, _, _, tyX7, rfl, by decide, in_X7, tyX7_ok, nmX7, rfl, rfl⟩
theorem ft_6_0 : mFT 6 0 (tyX1 0) true := ⟨_, _, _, tyX1, rfl, by decide, in_X1, tyX1_ok, nmX1, rfl, rfl⟩
theorem ft_6_1 : mFT 6 1 (tyX1 1) true := ⟨_, _, _, tyX1, rfl, by decide, in_X1, tyX1_ok, nmX1, rfl, rfl⟩
theorem ft_6_2 : mFT 6 2 (tyX1 2) true := ⟨_, _, _, tyX1, rfl, by decide, in_X1, tyX1_ok, nmX1, rfl, rfl⟩
theorem ft_6_3 : mFT 6 3 (tyX1 3) false := ⟨_, _, _, tyX1, rfl, by decide, in_X1, tyX1_ok, nmX1, rfl, rfl⟩
theorem ft_6_4 : mFT 6 4 (tyX1 4) true := ⟨_, _, _, tyX1, rfl, by decide, in_X1, tyX1_ok, nmX1, rfl, rfl⟩
theorem ft_6_5 : mFT 6 5 (tyX1 5) true := ⟨_, _, _, tyX1, rfl, by decide, in_X1, tyX1_ok, nmX1, rfl, rfl⟩
theorem ft_6_6 : mFT 6 6 (tyX1 6) true := ⟨_, _, _, tyX1, rfl, by decide, in_X1, tyX1_ok, nmX1, rfl, rfl⟩
theorem ft_6_7 : mFT 6 7 (tyX1 7) true := ⟨_, _, _, tyX1, rfl, by decide, in_X1, tyX1_ok, nmX1, rfl, rfl⟩
theorem ft_6_8 : mFT 6 8 (tyX1 8) true := ⟨_, _, _, tyX1, rfl, by decide, in_X1, tyX1_ok, nmX1, rfl, rfl⟩
theorem ft_6_9 : mFT 6 9 (tyX1 9) true := ⟨_, _, _, tyX1, rfl, by decide, in_X1, tyX1_ok, nmX1, rfl, rfl⟩
theorem ft_6_10 : mFT 6 10 (tyX1 10) true := ⟨_, _, _, tyX1, rfl, by decide, in_X1, tyX1_ok, nmX1, rfl, rfl⟩
theorem ft_6_11 : mFT 6 11 (tyX1 11) true := ⟨_, _, _, tyX1, rfl, by decide, in_X1, tyX1_ok, nmX1, rfl, rfl⟩
theorem ft_6_12 : mFT 6 12 (tyX1 12) false := ⟨_, _, _, tyX1, rfl, by decide, in_X1, tyX1_ok, nmX1, rfl, rfl⟩
theorem ft_6_13 : mFT 6 13 (tyX1 13) false := ⟨_, _, _, tyX1, rfl, by decide, in_X1, tyX1_ok, nmX1, rfl, rfl⟩
theorem ft_6_14 : mFT 6 14 (tyX1 14) false := ⟨_, _, _, tyX1, rfl, by decide, in_X1, tyX1_ok, nmX1, rfl, rfl⟩
theorem ft_7_0 : mFT 7 0 (tyX8 0) true := ⟨_, _, _, tyX8, rfl, by decide, in_X8, tyX8_ok, nmX8, rfl, rfl⟩
theorem ft_7_1 : mFT 7 1 (tyX8 1) true := ⟨_, _, _, tyX8, rfl, by decide, in_X8, tyX8_ok, nmX8, rfl, rfl⟩
theorem ft_7_2 : mFT 7 2 (tyX8 2) true := ⟨_, _, _, tyX8, rfl, by decide, in_X8, tyX8_ok, nmX8, rfl, rfl⟩
theorem ft_7_3 : mFT 7 3 (tyX8 3) false := ⟨_, _, _, tyX8, rfl, by decide, in_X8, tyX8_ok, nmX8, rfl, rfl⟩
theorem ft_7_4 : mFT 7 4 (tyX8 4) true := ⟨_, _, _, tyX8, rfl, by decide, in_X8, tyX8_ok, nmX8, rfl, rfl⟩
theorem ft_7_5 : mFT 7 5 (tyX8 5) false := ⟨_, _, _, tyX8, rfl, by decide, in_X8, tyX8_ok, nmX8, rfl, rfl⟩
theorem ft_7_6 : mFT 7 6 (tyX8 6) false := ⟨_, _, _, tyX8, rfl, by decide, in_X8, tyX8_ok, nmX8, rfl, rfl⟩
theorem ft_7_7 : mFT 7 7 (tyX8 7) false := ⟨_, _, _, tyX8, rfl, by decide, in_X8, tyX8_ok, nmX8, rfl, rfl⟩
theorem ft_7_8 : mFT 7 8 (tyX8 8) false := ⟨_, _, _, tyX8, rfl, by decide, in_X8, tyX8_ok, nmX8, rfl, rfl⟩
theorem ft_7_9 : mFT 7 9 (tyX8 9) true := ⟨_, _, _, tyX8, rfl, by decide, in_X8, tyX8_ok, nmX8, rfl, rfl⟩
theorem ft_7_10 : mFT 7 10 (tyX8 10) true := ⟨_, _, _, tyX8, rfl, by decide, in_X8, tyX8_ok, nmX8, rfl, rfl⟩
theorem ft_7_11 : mFT 7 11 (tyX8 11) true := ⟨_, _, _, tyX8, rfl, by decide, in_X8, tyX8_ok, nmX8, rfl, rfl⟩
theorem ft_7_12 : mFT 7 12 (tyX8 12) true := ⟨_, _, _, tyX8, rfl, by decide, in_X8, tyX8_ok, nmX8, rfl, rfl⟩
theorem ft_7_13 : mFT 7 13 (tyX8 13) true := ⟨_, _, _, tyX8, rfl, by decide, in_X8, tyX8_ok, nmX8, rfl, rfl⟩
theorem ft_7_14 : mFT 7 14 (tyX8 14) false := ⟨_, _, _, tyX8, rfl, by decide, in_X8, tyX8_ok, nmX8, rfl, rfl⟩
theorem ft_7_15 : mFT 7 15 (tyX8 15) true := ⟨_, _, _, tyX8, rfl, by decide, in_X8, tyX8_ok, nmX8, rfl, rfl⟩
theorem ft_7_16 : mFT 7 16 (tyX8 16) true := ⟨_, _, _, tyX8, rfl, by decide, in_X8, tyX8_ok, nmX8, rfl, rfl⟩
theorem ft_7_17 : mFT 7 17 (tyX8 17) true := ⟨_, _, _, tyX8, rfl, by decide, in_X8, tyX8_ok, nmX8, rfl, rfl⟩
theorem ft_7_18 : mFT 7 18 (tyX8 18) false := ⟨_, _, _, tyX8, rfl, by decide, in_X8, tyX8_ok, nmX8, rfl, rfl⟩
theorem ft_7_19 : mFT 7 19 (tyX8 19) false := ⟨_, _, _, tyX8, rfl, by decide, in_X8, tyX8_ok, nmX8, rfl, rfl⟩
theorem ft_7_20 : mFT 7 20 (tyX8 20) false := ⟨_, _, _, tyX8, rfl, by decide, in_X8, tyX8_ok, nmX8, rfl, rfl⟩
theorem ft_7_21 : mFT 7 21 (tyX8 21) false := ⟨_, _, _, tyX8, rfl, by decide, in_X8, tyX8_ok, nmX8, rfl, rfl⟩
theorem ft_7_22 : mFT 7 22 (tyX8 22) true := ⟨_, _, _, tyX8, rfl, by decide, in_X8, tyX8_ok, nmX8, rfl, rfl⟩
theorem ft_7_23 : mFT 7 23 (tyX8 23) false := ⟨_, _, _, tyX8, rfl, by decide, in_X8, tyX8_ok, nmX8, rfl, rfl⟩
theorem ft_7_24 : mFT 7 24 (tyX8 24) false := ⟨_, _, _, tyX8, rfl, by decide, in_X8, tyX8_ok, nmX8, rfl, rfl⟩
theorem ft_7_25 : mFT 7 25 (tyX8 25) true := ⟨_, _, _, tyX8, rfl, by decide, in_X8, tyX8_ok, nmX8, rfl, rfl⟩
theorem ft_7_26 : mFT 7 26 (tyX8 26) false := ⟨_, _, _, tyX8, rfl, by decide, in_X8, tyX8_ok, nmX8, rfl, rfl⟩
theorem ft_7_27 : mFT 7 27 (tyX8 27) true := ⟨_, _, _, tyX8, rfl, by decide, in_X8, tyX8_ok, nmX8, rfl, rfl⟩
theorem ft_7_28 : mFT 7 28 (tyX8 28) false := ⟨_, _, _, tyX8, rfl, by decide, in_X8, tyX8_ok, nmX8, rfl, rfl⟩
theorem ft_7_29 : mFT 7 29 (tyX8 29) false := ⟨_, _, _, tyX8, rfl, by decide, in_X8, tyX8_ok, nmX8, rfl, rfl⟩
theorem ft_7_30 : mFT 7 30 (tyX8 30) true := ⟨_, _, _, tyX8, rfl, by decide, in_X8, tyX8_ok, nmX8, rfl, rfl⟩
theorem ft_8_0 : mFT 8 0 (tyX11 0) true := ⟨_, _, _, tyX11, rfl, by decide, in_X11, tyX11_ok, nmX11, rfl, rfl⟩
theorem ft_8_1 : mFT 8 1 (tyX11 1) true := ⟨_, _, _, tyX11, rfl, by decide, in_X11, tyX11_ok, nmX11, rfl, rfl⟩
theorem ft_8_2 : mFT 8 2 (tyX11 2) true := ⟨_, _, _, tyX11, rfl, by decide, in_X11, tyX11_ok, nmX11, rfl, rfl⟩
theorem ft_9_0 : mFT 9 0 (tyX12 0) true := ⟨_, _, _, tyX12, rfl, by decide, in_X12, tyX12_ok, nmX12, rfl, rfl⟩
theorem ft_9_1 : mFT 9 1 (tyX12 1) true := ⟨_, _, _, tyX12, rfl, by decide, in_X12, tyX12_ok, nmX12, rfl, rfl⟩
theorem ft_9_2 : mFT 9 2 (tyX12 2) true := ⟨_, _, _, tyX12, rfl, by decide, in_X12, tyX12_ok, nmX12, rfl, rfl⟩
theorem ft_10_0 : mFT 10 0 (tyX13 0) true := ⟨_, _, _, tyX13, rfl, by decide, in_X13, tyX13_ok, nmX13, rfl, rfl⟩
theorem ft_10_1 : mFT 10 1 (tyX13 1) true := ⟨_, _, _, tyX13, rfl, by decide, in_X13, tyX13_ok, nmX13, rfl, rfl⟩
theorem ft_10_2 : mFT 10 2 (tyX13 2) true := ⟨_, _, _, tyX13, rfl, by decide, in_X13, tyX13_ok, nmX13, rfl, rfl⟩
theorem ft_11_0 : mFT 11 0 (tyX9 0) false := ⟨_, _, _, tyX9, rfl, by decide, in_X9, tyX9_ok, nmX9, rfl, rfl⟩
theorem ft_11_1 : mFT 11 1 (tyX9 1) false := ⟨_, _, _, tyX9, rfl, by decide, in_X9, tyX9_ok, nmX9, rfl, rfl⟩
theorem ft_11_2 : mFT 11 2 (tyX9 2) false := ⟨_, _, _, tyX9, rfl, by decide, in_X9, tyX9_ok, nmX9, rfl, rfl⟩
theorem ft_11_3 : mFT 11 3 (tyX9 3) false := ⟨_, _, _, tyX9, rfl, by decide, in_X9, tyX9_ok, nmX9, rfl, rfl⟩
theorem ft_11_4 : mFT 11 4 (tyX9 4) false := ⟨_, _, _, tyX9, rfl, by decide, in_X9, tyX9_ok, nmX9, rfl, rfl⟩
theorem ft_11_5 : mFT 11 5 (tyX9 5) false := ⟨_, _, _, tyX9, rfl, by decide, in_X9, tyX9_ok, nmX9, rfl, rfl⟩
theorem ft_11_6 : mFT 11 6 (tyX9 6) true := ⟨_, _, _, tyX9, rfl, by decide, in_X9, tyX9_ok, nmX9, rfl, rfl⟩
theorem ft_11_7 : mFT 11 7 (tyX9 7) true := ⟨_, _, _, tyX9, rfl, by decide, in_X9, tyX9_ok, nmX9, rfl, rfl⟩
theorem ft_12_0 : mFT 12 0 (tyX14 0) false := ⟨_, _, _, tyX14, rfl, by decide, in_X14, tyX14_ok, nmX14, rfl, rfl⟩
theorem ft_12_1 : mFT 12 1 (tyX14 1) false := ⟨_, _, _, tyX14, rfl, by decide, in_X14, tyX14_ok, nmX14, rfl, rfl⟩
theorem ft_12_2 : mFT 12 2 (tyX14 2) false := ⟨_, _, _, tyX14, rfl, by decide, in_X14, tyX14_ok, nmX14, rfl, rfl⟩
theorem ft_12_3 : mFT 12 3 (tyX14 3) false := ⟨_, _, _, tyX14, rfl, by decide, in_X14, tyX14_ok, nmX14, rfl, rfl⟩
theorem ft_12_4 : mFT 12 4 (tyX14 4) false := ⟨_, _, _, tyX14, rfl, by decide, in_X14, tyX14_ok, nmX14, rfl, rfl⟩
theorem ft_12_5 : mFT 12 5 (tyX14 5) false := ⟨_, _, _, tyX14, rfl, by decide, in_X14, tyX14_ok, nmX14, rfl, rfl⟩
theorem ft_12_6 : mFT 12 6 (tyX14 6) true := ⟨_, _, _, tyX14, rfl, by decide, in_X14, tyX14_ok, nmX14, rfl, rfl⟩
theorem ft_13_0 : mFT 13 0 (tyJ1 0) false := ⟨_, _, _, tyJ1, rfl, by decide, in_J1, tyJ1_ok, nmJ1, rfl, rfl⟩
theorem ft_13_1 : mFT 13 1 (tyJ1 1) false := ⟨_, _, _, tyJ1, rfl, by decide, in_J1, tyJ1_ok, nmJ1, rfl, rfl⟩
theorem ft_13_2 : mFT 13 2 (tyJ1 2) false := ⟨_, _, _, tyJ1, rfl, by decide, in_J1, tyJ1_ok, nmJ1, rfl, rfl⟩
theorem ft_14_0 : mFT 14 0 (tyJ3 0) false := ⟨_, _, _, tyJ3, rfl, by decide, in_J3, tyJ3_ok, nmJ3, rfl, rfl⟩
theorem ft_14_1 : mFT 14 1 (tyJ3 1) false := ⟨_, _, _, tyJ3, rfl, by decide, in_J3, tyJ3_ok, nmJ3, rfl, rfl⟩
theorem ft_14_2 : mFT 14 2 (tyJ3 2) false := ⟨_, _, _, tyJ3, rfl, by decide, in_J3, tyJ3_ok, nmJ3, rfl, rfl⟩
theorem ft_14_3 : mFT 14 3 (tyJ3 3) false := ⟨_, _, _, tyJ3, rfl, by decide, in_J3, tyJ3_ok, nmJ3, rfl, rfl⟩
theorem ft_15_0 : mFT 15 0 (tyJ4 0) true := ⟨_, _, _, tyJ4, rfl, by decide, in_J4, tyJ4_ok, nmJ4, rfl, rfl⟩
theorem ft_15_1 : mFT 15 1 (tyJ4 1) true := ⟨_, _, _, tyJ4, rfl, by decide, in_J4, tyJ4_ok, nmJ4, rfl, rfl⟩
theorem ft_15_2 : mFT 15 2 (tyJ4 2) false := ⟨_, _, _, tyJ4, rfl, by decide, in_J4, tyJ4_ok, nmJ4, rfl, rfl⟩
theorem ft_15_3 : mFT 15 3 (tyJ4 3) false := ⟨_, _, _, tyJ4, rfl, by decide, in_J4, tyJ4_ok, nmJ4, rfl, rfl⟩
