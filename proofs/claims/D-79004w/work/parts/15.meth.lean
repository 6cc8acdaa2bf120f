set_option maxRecDepth 100000
theorem M_J0_init : xM yJ0_init cJ0_init 1 none 0 := ⟨q176, q99, by decide +kernel, by decide +kernel, by decide +kernel⟩
theorem M_J0_isEmpty : xM yJ0_isEmpty cJ0_isEmpty 1 (some Jvm.ClassFile.FieldType.boolean) 0 := ⟨q608, q99, by decide +kernel, by decide +kernel, by decide +kernel⟩
theorem M_J10_checkFromIndexSize : xM yJ10_checkFromIndexSize cJ10_checkFromIndexSize 4 (some Jvm.ClassFile.FieldType.int) 4 := ⟨q1097, q118, by decide +kernel, by decide +kernel, by decide +kernel⟩
theorem M_J10_checkFromToIndex : xM yJ10_checkFromToIndex cJ10_checkFromToIndex 4 (some Jvm.ClassFile.FieldType.int) 4 := ⟨q1051, q118, by decide +kernel, by decide +kernel, by decide +kernel⟩
theorem M_J10_checkIndex : xM yJ10_checkIndex cJ10_checkIndex 3 (some Jvm.ClassFile.FieldType.int) 3 := ⟨q515, q118, by decide +kernel, by decide +kernel, by decide +kernel⟩
theorem M_J11_addLast : xM yJ11_addLast cJ11_addLast 3 none 1 := ⟨q1299, q121, by decide +kernel, by decide +kernel, by decide +kernel⟩
theorem M_J11_elementAt : xM yJ11_elementAt cJ11_elementAt 2 (some (Jvm.ClassFile.FieldType.object "java/lang/Object")) 2 := ⟨q1581, q121, by decide +kernel, by decide +kernel, by decide +kernel⟩
theorem M_J11_grow : xM yJ11_grow cJ11_grow 9 none 1 := ⟨q1304, q121, by decide +kernel, by decide +kernel, by decide +kernel⟩
theorem M_J11_inc : xM yJ11_inc cJ11_inc 2 (some Jvm.ClassFile.FieldType.int) 2 := ⟨q1188, q121, by decide +kernel, by decide +kernel, by decide +kernel⟩
theorem M_J11_init : xM yJ11_init cJ11_init 1 none 0 := ⟨q584, q121, by decide +kernel, by decide +kernel, by decide +kernel⟩
theorem M_J11_isEmpty : xM yJ11_isEmpty cJ11_isEmpty 1 (some Jvm.ClassFile.FieldType.boolean) 0 := ⟨q1840, q121, by decide +kernel, by decide +kernel, by decide +kernel⟩
theorem M_J11_iterator : xM yJ11_iterator cJ11_iterator 1 (some (Jvm.ClassFile.FieldType.object "java/util/Iterator")) 0 := ⟨q1667, q121, by decide +kernel, by decide +kernel, by decide +kernel⟩
theorem M_J11_newCapacity : xM yJ11_newCapacity cJ11_newCapacity 5 (some Jvm.ClassFile.FieldType.int) 2 := ⟨q1309, q121, by decide +kernel, by decide +kernel, by decide +kernel⟩
theorem M_J11_nonNullElementAt : xM yJ11_nonNullElementAt cJ11_nonNullElementAt 3 (some (Jvm.ClassFile.FieldType.object "java/lang/Object")) 2 := ⟨q1185, q121, by decide +kernel, by decide +kernel, by decide +kernel⟩
theorem M_J11_peekFirst : xM yJ11_peekFirst cJ11_peekFirst 1 (some (Jvm.ClassFile.FieldType.object "java/lang/Object")) 0 := ⟨q1578, q121, by decide +kernel, by decide +kernel, by decide +kernel⟩
theorem M_J11_pollFirst : xM yJ11_pollFirst cJ11_pollFirst 4 (some (Jvm.ClassFile.FieldType.object "java/lang/Object")) 0 := ⟨q1594, q121, by decide +kernel, by decide +kernel, by decide +kernel⟩
theorem M_J11_removeFirst : xM yJ11_removeFirst cJ11_removeFirst 2 (some (Jvm.ClassFile.FieldType.object "java/lang/Object")) 0 := ⟨q1590, q121, by decide +kernel, by decide +kernel, by decide +kernel⟩
theorem M_J11_size : xM yJ11_size cJ11_size 1 (some Jvm.ClassFile.FieldType.int) 0 := ⟨q614, q121, by decide +kernel, by decide +kernel, by decide +kernel⟩
theorem M_J11_sub : xM yJ11_sub cJ11_sub 3 (some Jvm.ClassFile.FieldType.int) 3 := ⟨q617, q121, by decide +kernel, by decide +kernel, by decide +kernel⟩
theorem M_J12_append : xM yJ12_append cJ12_append 3 (some (Jvm.ClassFile.FieldType.object "java/lang/AbstractStringBuilder")) 1 := ⟨q1005, q123, by decide +kernel, by decide +kernel, by decide +kernel⟩
theorem M_J12_appendNull : xM yJ12_appendNull cJ12_appendNull 3 (some (Jvm.ClassFile.FieldType.object "java/lang/AbstractStringBuilder")) 0 := ⟨q1009, q123, by decide +kernel, by decide +kernel, by decide +kernel⟩
theorem M_J12_append_2 : xM yJ12_append_2 cJ12_append_2 2 (some (Jvm.ClassFile.FieldType.object "java/lang/AbstractStringBuilder")) 1 := ⟨q2051, q123, by decide +kernel, by decide +kernel, by decide +kernel⟩
theorem M_J12_append_3 : xM yJ12_append_3 cJ12_append_3 4 (some (Jvm.ClassFile.FieldType.object "java/lang/AbstractStringBuilder")) 1 := ⟨q2366, q123, by decide +kernel, by decide +kernel, by decide +kernel⟩
theorem M_J12_charAt : xM yJ12_charAt cJ12_charAt 5 (some Jvm.ClassFile.FieldType.char) 1 := ⟨q2106, q123, by decide +kernel, by decide +kernel, by decide +kernel⟩
theorem M_J12_ensureCapacityInternal : xM yJ12_ensureCapacityInternal cJ12_ensureCapacityInternal 3 none 1 := ⟨q1013, q123, by decide +kernel, by decide +kernel, by decide +kernel⟩
theorem M_J12_getValue : xM yJ12_getValue cJ12_getValue 1 (some (Jvm.ClassFile.FieldType.array Jvm.ClassFile.FieldType.byte)) 0 := ⟨q1122, q123, by decide +kernel, by decide +kernel, by decide +kernel⟩
theorem M_J12_inflate : xM yJ12_inflate cJ12_inflate 2 none 0 := ⟨q1082, q123, by decide +kernel, by decide +kernel, by decide +kernel⟩
theorem M_J12_inflateIfNeededFor : xM yJ12_inflateIfNeededFor cJ12_inflateIfNeededFor 2 none 1 := ⟨q1077, q123, by decide +kernel, by decide +kernel, by decide +kernel⟩
theorem M_J12_init : xM yJ12_init cJ12_init 2 none 1 := ⟨q688, q123, by decide +kernel, by decide +kernel, by decide +kernel⟩
theorem M_J12_isLatin1 : xM yJ12_isLatin1 cJ12_isLatin1 1 (some Jvm.ClassFile.FieldType.boolean) 0 := ⟨q1034, q123, by decide +kernel, by decide +kernel, by decide +kernel⟩
theorem M_J12_length : xM yJ12_length cJ12_length 1 (some Jvm.ClassFile.FieldType.int) 0 := ⟨q1130, q123, by decide +kernel, by decide +kernel, by decide +kernel⟩
theorem M_J12_newCapacity : xM yJ12_newCapacity cJ12_newCapacity 6 (some Jvm.ClassFile.FieldType.int) 1 := ⟨q1017, q123, by decide +kernel, by decide +kernel, by decide +kernel⟩
theorem M_J12_putStringAt : xM yJ12_putStringAt cJ12_putStringAt 3 none 2 := ⟨q1073, q123, by decide +kernel, by decide +kernel, by decide +kernel⟩
theorem M_J12_setLength : xM yJ12_setLength cJ12_setLength 2 none 1 := ⟨q2329, q123, by decide +kernel, by decide +kernel, by decide +kernel⟩
theorem M_J13_append : xM yJ13_append cJ13_append 2 (some (Jvm.ClassFile.FieldType.object "java/lang/StringBuilder")) 1 := ⟨q1002, q124, by decide +kernel, by decide +kernel, by decide +kernel⟩
theorem M_J13_append_2 : xM yJ13_append_2 cJ13_append_2 2 (some (Jvm.ClassFile.FieldType.object "java/lang/StringBuilder")) 1 := ⟨q2048, q124, by decide +kernel, by decide +kernel, by decide +kernel⟩
theorem M_J13_append_3 : xM yJ13_append_3 cJ13_append_3 2 (some (Jvm.ClassFile.FieldType.object "java/lang/StringBuilder")) 1 := ⟨q2363, q124, by decide +kernel, by decide +kernel, by decide +kernel⟩
theorem M_J13_charAt : xM yJ13_charAt cJ13_charAt 2 (some Jvm.ClassFile.FieldType.char) 1 := ⟨q2103, q124, by decide +kernel, by decide +kernel, by decide +kernel⟩
theorem M_J13_init : xM yJ13_init cJ13_init 1 none 0 := ⟨q685, q124, by decide +kernel, by decide +kernel, by decide +kernel⟩
theorem M_J13_length : xM yJ13_length cJ13_length 1 (some Jvm.ClassFile.FieldType.int) 0 := ⟨q1128, q124, by decide +kernel, by decide +kernel, by decide +kernel⟩
theorem M_J13_setLength : xM yJ13_setLength cJ13_setLength 2 none 1 := ⟨q2326, q124, by decide +kernel, by decide +kernel, by decide +kernel⟩
theorem M_J13_toString : xM yJ13_toString cJ13_toString 1 (some (Jvm.ClassFile.FieldType.object "java/lang/String")) 0 := ⟨q1108, q124, by decide +kernel, by decide +kernel, by decide +kernel⟩
theorem M_J14_charAt : xM yJ14_charAt cJ14_charAt 2 (some Jvm.ClassFile.FieldType.char) 1 := ⟨q2392, q125, by decide +kernel, by decide +kernel, by decide +kernel⟩
theorem M_J14_checkBoundsBeginEnd : xM yJ14_checkBoundsBeginEnd cJ14_checkBoundsBeginEnd 3 none 3 := ⟨q1046, q125, by decide +kernel, by decide +kernel, by decide +kernel⟩
theorem M_J14_checkBoundsOffCount : xM yJ14_checkBoundsOffCount cJ14_checkBoundsOffCount 3 (some Jvm.ClassFile.FieldType.int) 3 := ⟨q1094, q125, by decide +kernel, by decide +kernel, by decide +kernel⟩
theorem M_J14_checkIndex : xM yJ14_checkIndex cJ14_checkIndex 2 none 2 := ⟨q2063, q125, by decide +kernel, by decide +kernel, by decide +kernel⟩
theorem M_J14_coder : xM yJ14_coder cJ14_coder 1 (some Jvm.ClassFile.FieldType.byte) 0 := ⟨q1068, q125, by decide +kernel, by decide +kernel, by decide +kernel⟩
theorem M_J14_getBytes : xM yJ14_getBytes cJ14_getBytes 4 none 3 := ⟨q1101, q125, by decide +kernel, by decide +kernel, by decide +kernel⟩
theorem M_J14_indexOf : xM yJ14_indexOf cJ14_indexOf 2 (some Jvm.ClassFile.FieldType.int) 1 := ⟨q2123, q125, by decide +kernel, by decide +kernel, by decide +kernel⟩
theorem M_J14_indexOf_2 : xM yJ14_indexOf_2 cJ14_indexOf_2 3 (some Jvm.ClassFile.FieldType.int) 2 := ⟨q2127, q125, by decide +kernel, by decide +kernel, by decide +kernel⟩
theorem M_J14_init : xM yJ14_init cJ14_init 2 none 1 := ⟨q1113, q125, by decide +kernel, by decide +kernel, by decide +kernel⟩
theorem M_J14_init_2 : xM yJ14_init_2 cJ14_init_2 5 none 2 := ⟨q1116, q125, by decide +kernel, by decide +kernel, by decide +kernel⟩
theorem M_J14_isLatin1 : xM yJ14_isLatin1 cJ14_isLatin1 1 (some Jvm.ClassFile.FieldType.boolean) 0 := ⟨q2131, q125, by decide +kernel, by decide +kernel, by decide +kernel⟩
theorem M_J14_length : xM yJ14_length cJ14_length 1 (some Jvm.ClassFile.FieldType.int) 0 := ⟨q1064, q125, by decide +kernel, by decide +kernel, by decide +kernel⟩
theorem M_J15_charAt : xM yJ15_charAt cJ15_charAt 2 (some Jvm.ClassFile.FieldType.char) 2 := ⟨q2399, q126, by decide +kernel, by decide +kernel, by decide +kernel⟩
theorem M_J15_checkBoundsBeginEnd : xM yJ15_checkBoundsBeginEnd cJ15_checkBoundsBeginEnd 3 none 3 := ⟨q1040, q126, by decide +kernel, by decide +kernel, by decide +kernel⟩
theorem M_J15_checkBoundsOffCount : xM yJ15_checkBoundsOffCount cJ15_checkBoundsOffCount 3 none 3 := ⟨q1091, q126, by decide +kernel, by decide +kernel, by decide +kernel⟩
theorem M_J15_checkIndex : xM yJ15_checkIndex cJ15_checkIndex 2 none 2 := ⟨q2060, q126, by decide +kernel, by decide +kernel, by decide +kernel⟩
theorem M_J15_coderFromArrayLen : xM yJ15_coderFromArrayLen cJ15_coderFromArrayLen 2 (some Jvm.ClassFile.FieldType.byte) 2 := ⟨q1153, q126, by decide +kernel, by decide +kernel, by decide +kernel⟩
theorem M_J15_compress : xM yJ15_compress cJ15_compress 6 (some (Jvm.ClassFile.FieldType.array Jvm.ClassFile.FieldType.byte)) 3 := ⟨q1143, q126, by decide +kernel, by decide +kernel, by decide +kernel⟩
theorem M_J15_compress_2 : xM yJ15_compress_2 cJ15_compress_2 7 (some Jvm.ClassFile.FieldType.int) 5 := ⟨q1146, q126, by decide +kernel, by decide +kernel, by decide +kernel⟩
theorem M_J15_fillNull : xM yJ15_fillNull cJ15_fillNull 3 none 3 := ⟨q2341, q126, by decide +kernel, by decide +kernel, by decide +kernel⟩
theorem M_J15_getChar : xM yJ15_getChar cJ15_getChar 2 (some Jvm.ClassFile.FieldType.char) 2 := ⟨q1149, q126, by decide +kernel, by decide +kernel, by decide +kernel⟩
theorem M_J15_getChars : xM yJ15_getChars cJ15_getChars 5 (some Jvm.ClassFile.FieldType.int) 4 := ⟨q2379, q126, by decide +kernel, by decide +kernel, by decide +kernel⟩
theorem M_J15_getChars_2 : xM yJ15_getChars_2 cJ15_getChars_2 7 (some Jvm.ClassFile.FieldType.int) 3 := ⟨q2382, q126, by decide +kernel, by decide +kernel, by decide +kernel⟩
theorem M_J15_indexOf : xM yJ15_indexOf cJ15_indexOf 4 (some Jvm.ClassFile.FieldType.int) 4 := ⟨q2146, q126, by decide +kernel, by decide +kernel, by decide +kernel⟩
theorem M_J15_indexOfChar : xM yJ15_indexOfChar cJ15_indexOfChar 4 (some Jvm.ClassFile.FieldType.int) 4 := ⟨q2152, q126, by decide +kernel, by decide +kernel, by decide +kernel⟩
theorem M_J15_indexOfCharUnsafe : xM yJ15_indexOfCharUnsafe cJ15_indexOfCharUnsafe 5 (some Jvm.ClassFile.FieldType.int) 4 := ⟨q2155, q126, by decide +kernel, by decide +kernel, by decide +kernel⟩
theorem M_J15_indexOfSupplementary : xM yJ15_indexOfSupplementary cJ15_indexOfSupplementary 7 (some Jvm.ClassFile.FieldType.int) 4 := ⟨q2158, q126, by decide +kernel, by decide +kernel, by decide +kernel⟩
theorem M_J15_inflate : xM yJ15_inflate cJ15_inflate 6 none 5 := ⟨q1088, q126, by decide +kernel, by decide +kernel, by decide +kernel⟩
theorem M_J15_length : xM yJ15_length cJ15_length 1 (some Jvm.ClassFile.FieldType.int) 1 := ⟨q1043, q126, by decide +kernel, by decide +kernel, by decide +kernel⟩
theorem M_J15_newBytesFor : xM yJ15_newBytesFor cJ15_newBytesFor 1 (some (Jvm.ClassFile.FieldType.array Jvm.ClassFile.FieldType.byte)) 1 := ⟨q694, q126, by decide +kernel, by decide +kernel, by decide +kernel⟩
theorem M_J15_newBytesLength : xM yJ15_newBytesLength cJ15_newBytesLength 1 (some Jvm.ClassFile.FieldType.int) 1 := ⟨q697, q126, by decide +kernel, by decide +kernel, by decide +kernel⟩
theorem M_J15_putChar : xM yJ15_putChar cJ15_putChar 3 none 3 := ⟨q1054, q126, by decide +kernel, by decide +kernel, by decide +kernel⟩
theorem M_J15_putCharSB : xM yJ15_putCharSB cJ15_putCharSB 3 none 3 := ⟨q2057, q126, by decide +kernel, by decide +kernel, by decide +kernel⟩
theorem M_J15_putCharsAt : xM yJ15_putCharsAt cJ15_putCharsAt 7 (some Jvm.ClassFile.FieldType.int) 6 := ⟨q1037, q126, by decide +kernel, by decide +kernel, by decide +kernel⟩
theorem M_J16_canEncode : xM yJ16_canEncode cJ16_canEncode 1 (some Jvm.ClassFile.FieldType.boolean) 1 := ⟨q2054, q128, by decide +kernel, by decide +kernel, by decide +kernel⟩
theorem M_J16_canEncode_2 : xM yJ16_canEncode_2 cJ16_canEncode_2 1 (some Jvm.ClassFile.FieldType.boolean) 1 := ⟨q2138, q128, by decide +kernel, by decide +kernel, by decide +kernel⟩
theorem M_J16_charAt : xM yJ16_charAt cJ16_charAt 2 (some Jvm.ClassFile.FieldType.char) 2 := ⟨q2395, q128, by decide +kernel, by decide +kernel, by decide +kernel⟩
theorem M_J16_fillNull : xM yJ16_fillNull cJ16_fillNull 3 none 3 := ⟨q2332, q128, by decide +kernel, by decide +kernel, by decide +kernel⟩
theorem M_J16_indexOf : xM yJ16_indexOf cJ16_indexOf 4 (some Jvm.ClassFile.FieldType.int) 4 := ⟨q2135, q128, by decide +kernel, by decide +kernel, by decide +kernel⟩
theorem M_J16_indexOfChar : xM yJ16_indexOfChar cJ16_indexOfChar 6 (some Jvm.ClassFile.FieldType.int) 4 := ⟨q2143, q128, by decide +kernel, by decide +kernel, by decide +kernel⟩
theorem M_J16_inflate : xM yJ16_inflate cJ16_inflate 5 none 5 := ⟨q1085, q128, by decide +kernel, by decide +kernel, by decide +kernel⟩
theorem M_J17_highSurrogate : xM yJ17_highSurrogate cJ17_highSurrogate 1 (some Jvm.ClassFile.FieldType.char) 1 := ⟨q2164, q130, by decide +kernel, by decide +kernel, by decide +kernel⟩
theorem M_J17_isValidCodePoint : xM yJ17_isValidCodePoint cJ17_isValidCodePoint 2 (some Jvm.ClassFile.FieldType.boolean) 1 := ⟨q2161, q130, by decide +kernel, by decide +kernel, by decide +kernel⟩
theorem M_J17_lowSurrogate : xM yJ17_lowSurrogate cJ17_lowSurrogate 1 (some Jvm.ClassFile.FieldType.char) 1 := ⟨q2168, q130, by decide +kernel, by decide +kernel, by decide +kernel⟩
theorem M_J18_getLocalizedMessage : xM yJ18_getLocalizedMessage cJ18_getLocalizedMessage 1 (some (Jvm.ClassFile.FieldType.object "java/lang/String")) 0 := ⟨q989, q131, by decide +kernel, by decide +kernel, by decide +kernel⟩
theorem M_J18_getMessage : xM yJ18_getMessage cJ18_getMessage 1 (some (Jvm.ClassFile.FieldType.object "java/lang/String")) 0 := ⟨q996, q131, by decide +kernel, by decide +kernel, by decide +kernel⟩
theorem M_J18_init : xM yJ18_init cJ18_init 1 none 0 := ⟨q946, q131, by decide +kernel, by decide +kernel, by decide +kernel⟩
theorem M_J18_init_2 : xM yJ18_init_2 cJ18_init_2 2 none 1 := ⟨q974, q131, by decide +kernel, by decide +kernel, by decide +kernel⟩
theorem M_J18_toString : xM yJ18_toString cJ18_toString 3 (some (Jvm.ClassFile.FieldType.object "java/lang/String")) 0 := ⟨q981, q131, by decide +kernel, by decide +kernel, by decide +kernel⟩
theorem M_J19_init : xM yJ19_init cJ19_init 2 none 1 := ⟨q971, q132, by decide +kernel, by decide +kernel, by decide +kernel⟩
theorem M_J19_init_2 : xM yJ19_init_2 cJ19_init_2 1 none 0 := ⟨q1993, q132, by decide +kernel, by decide +kernel, by decide +kernel⟩
theorem M_J1_init : xM yJ1_init cJ1_init 1 none 0 := ⟨q173, q100, by decide +kernel, by decide +kernel, by decide +kernel⟩
theorem M_J1_listIterator : xM yJ1_listIterator cJ1_listIterator 1 (some (Jvm.ClassFile.FieldType.object "java/util/ListIterator")) 0 := ⟨q1703, q100, by decide +kernel, by decide +kernel, by decide +kernel⟩
theorem M_J20_checkForComodification : xM yJ20_checkForComodification cJ20_checkForComodification 1 none 0 := ⟨q1199, q141, by decide +kernel, by decide +kernel, by decide +kernel⟩
theorem M_J20_hasNext : xM yJ20_hasNext cJ20_hasNext 1 (some Jvm.ClassFile.FieldType.boolean) 0 := ⟨q879, q141, by decide +kernel, by decide +kernel, by decide +kernel⟩
theorem M_J20_init : xM yJ20_init cJ20_init 2 none 1 := ⟨q837, q141, by decide +kernel, by decide +kernel, by decide +kernel⟩
theorem M_J20_next : xM yJ20_next cJ20_next 3 (some (Jvm.ClassFile.FieldType.object "java/lang/Object")) 0 := ⟨q1193, q141, by decide +kernel, by decide +kernel, by decide +kernel⟩
theorem M_J21_init : xM yJ21_init cJ21_init 2 none 1 := ⟨q968, q142, by decide +kernel, by decide +kernel, by decide +kernel⟩
theorem M_J22_init : xM yJ22_init cJ22_init 2 none 1 := ⟨q965, q143, by decide +kernel, by decide +kernel, by decide +kernel⟩
theorem M_J23_init : xM yJ23_init cJ23_init 4 none 3 := ⟨q1607, q144, by decide +kernel, by decide +kernel, by decide +kernel⟩
theorem M_J24_bitCount : xM yJ24_bitCount cJ24_bitCount 2 (some Jvm.ClassFile.FieldType.int) 1 := ⟨q1631, q146, by decide +kernel, by decide +kernel, by decide +kernel⟩
theorem M_J24_numberOfTrailingZeros : xM yJ24_numberOfTrailingZeros cJ24_numberOfTrailingZeros 3 (some Jvm.ClassFile.FieldType.int) 1 := ⟨q2015, q146, by decide +kernel, by decide +kernel, by decide +kernel⟩
theorem M_J25_hasNext : xM yJ25_hasNext cJ25_hasNext 1 (some Jvm.ClassFile.FieldType.boolean) 0 := ⟨q873, q147, by decide +kernel, by decide +kernel, by decide +kernel⟩
theorem M_J25_init : xM yJ25_init cJ25_init 2 none 1 := ⟨q1672, q147, by decide +kernel, by decide +kernel, by decide +kernel⟩
theorem M_J25_next : xM yJ25_next cJ25_next 3 (some (Jvm.ClassFile.FieldType.object "java/lang/Object")) 0 := ⟨q1182, q147, by decide +kernel, by decide +kernel, by decide +kernel⟩
theorem M_J26_checkForComodification : xM yJ26_checkForComodification cJ26_checkForComodification 1 none 0 := ⟨q902, q148, by decide +kernel, by decide +kernel, by decide +kernel⟩
theorem M_J26_hasNext : xM yJ26_hasNext cJ26_hasNext 1 (some Jvm.ClassFile.FieldType.boolean) 0 := ⟨q863, q148, by decide +kernel, by decide +kernel, by decide +kernel⟩
theorem M_J27_init : xM yJ27_init cJ27_init 3 none 2 := ⟨q1718, q150, by decide +kernel, by decide +kernel, by decide +kernel⟩
theorem M_J28_checkForComodification : xM yJ28_checkForComodification cJ28_checkForComodification 1 none 0 := ⟨q1210, q151, by decide +kernel, by decide +kernel, by decide +kernel⟩
theorem M_J28_hasNext : xM yJ28_hasNext cJ28_hasNext 1 (some Jvm.ClassFile.FieldType.boolean) 0 := ⟨q888, q151, by decide +kernel, by decide +kernel, by decide +kernel⟩
theorem M_J28_init : xM yJ28_init cJ28_init 3 none 2 := ⟨q1743, q151, by decide +kernel, by decide +kernel, by decide +kernel⟩
theorem M_J28_next : xM yJ28_next cJ28_next 1 (some (Jvm.ClassFile.FieldType.object "java/lang/Object")) 0 := ⟨q1206, q151, by decide +kernel, by decide +kernel, by decide +kernel⟩
theorem M_J29_getChars : xM yJ29_getChars cJ29_getChars 7 (some Jvm.ClassFile.FieldType.int) 3 := ⟨q2372, q154, by decide +kernel, by decide +kernel, by decide +kernel⟩
theorem M_J29_numberOfTrailingZeros : xM yJ29_numberOfTrailingZeros cJ29_numberOfTrailingZeros 2 (some Jvm.ClassFile.FieldType.int) 1 := ⟨q2018, q154, by decide +kernel, by decide +kernel, by decide +kernel⟩
theorem M_J29_stringSize : xM yJ29_stringSize cJ29_stringSize 4 (some Jvm.ClassFile.FieldType.int) 1 := ⟨q2369, q154, by decide +kernel, by decide +kernel, by decide +kernel⟩
theorem M_J2_init : xM yJ2_init cJ2_init 1 none 0 := ⟨q170, q101, by decide +kernel, by decide +kernel, by decide +kernel⟩
theorem M_J2_iterator : xM yJ2_iterator cJ2_iterator 1 (some (Jvm.ClassFile.FieldType.object "java/util/Iterator")) 0 := ⟨q1697, q101, by decide +kernel, by decide +kernel, by decide +kernel⟩
theorem M_J30_init : xM yJ30_init cJ30_init 1 none 0 := ⟨q162, q2934, by decide +kernel, by decide +kernel, by decide +kernel⟩
theorem M_J3_addLast : xM yJ3_addLast cJ3_addLast 2 none 1 := ⟨q1598, q102, by decide +kernel, by decide +kernel, by decide +kernel⟩
theorem M_J3_checkElementIndex : xM yJ3_checkElementIndex cJ3_checkElementIndex 2 none 1 := ⟨q913, q102, by decide +kernel, by decide +kernel, by decide +kernel⟩
theorem M_J3_checkPositionIndex : xM yJ3_checkPositionIndex cJ3_checkPositionIndex 2 none 1 := ⟨q1734, q102, by decide +kernel, by decide +kernel, by decide +kernel⟩
theorem M_J3_get : xM yJ3_get cJ3_get 2 (some (Jvm.ClassFile.FieldType.object "java/lang/Object")) 1 := ⟨q909, q102, by decide +kernel, by decide +kernel, by decide +kernel⟩
theorem M_J3_init : xM yJ3_init cJ3_init 1 none 0 := ⟨q167, q102, by decide +kernel, by decide +kernel, by decide +kernel⟩
theorem M_J3_isElementIndex : xM yJ3_isElementIndex cJ3_isElementIndex 2 (some Jvm.ClassFile.FieldType.boolean) 1 := ⟨q917, q102, by decide +kernel, by decide +kernel, by decide +kernel⟩
theorem M_J3_isPositionIndex : xM yJ3_isPositionIndex cJ3_isPositionIndex 2 (some Jvm.ClassFile.FieldType.boolean) 1 := ⟨q1738, q102, by decide +kernel, by decide +kernel, by decide +kernel⟩
theorem M_J3_linkLast : xM yJ3_linkLast cJ3_linkLast 4 none 1 := ⟨q1602, q102, by decide +kernel, by decide +kernel, by decide +kernel⟩
theorem M_J3_listIterator : xM yJ3_listIterator cJ3_listIterator 2 (some (Jvm.ClassFile.FieldType.object "java/util/ListIterator")) 1 := ⟨q1730, q102, by decide +kernel, by decide +kernel, by decide +kernel⟩
theorem M_J3_node : xM yJ3_node cJ3_node 4 (some (Jvm.ClassFile.FieldType.object "java/util/LinkedList$Node")) 1 := ⟨q921, q102, by decide +kernel, by decide +kernel, by decide +kernel⟩
theorem M_J3_removeLast : xM yJ3_removeLast cJ3_removeLast 2 (some (Jvm.ClassFile.FieldType.object "java/lang/Object")) 0 := ⟨q652, q102, by decide +kernel, by decide +kernel, by decide +kernel⟩
theorem M_J3_size : xM yJ3_size cJ3_size 1 (some Jvm.ClassFile.FieldType.int) 0 := ⟨q621, q102, by decide +kernel, by decide +kernel, by decide +kernel⟩
theorem M_J3_unlinkLast : xM yJ3_unlinkLast cJ3_unlinkLast 4 (some (Jvm.ClassFile.FieldType.object "java/lang/Object")) 1 := ⟨q656, q102, by decide +kernel, by decide +kernel, by decide +kernel⟩
theorem M_J4_add : xM yJ4_add cJ4_add 2 (some Jvm.ClassFile.FieldType.boolean) 1 := ⟨q396, q103, by decide +kernel, by decide +kernel, by decide +kernel⟩
theorem M_J4_add_2 : xM yJ4_add_2 cJ4_add_2 4 none 3 := ⟨q400, q103, by decide +kernel, by decide +kernel, by decide +kernel⟩
theorem M_J4_clear : xM yJ4_clear cJ4_clear 4 none 0 := ⟨q501, q103, by decide +kernel, by decide +kernel, by decide +kernel⟩
theorem M_J4_elementData : xM yJ4_elementData cJ4_elementData 2 (some (Jvm.ClassFile.FieldType.object "java/lang/Object")) 1 := ⟨q519, q103, by decide +kernel, by decide +kernel, by decide +kernel⟩
theorem M_J4_get : xM yJ4_get cJ4_get 2 (some (Jvm.ClassFile.FieldType.object "java/lang/Object")) 1 := ⟨q509, q103, by decide +kernel, by decide +kernel, by decide +kernel⟩
theorem M_J4_grow : xM yJ4_grow cJ4_grow 1 (some (Jvm.ClassFile.FieldType.array (Jvm.ClassFile.FieldType.object "java/lang/Object"))) 0 := ⟨q404, q103, by decide +kernel, by decide +kernel, by decide +kernel⟩
theorem M_J4_grow_2 : xM yJ4_grow_2 cJ4_grow_2 4 (some (Jvm.ClassFile.FieldType.array (Jvm.ClassFile.FieldType.object "java/lang/Object"))) 1 := ⟨q408, q103, by decide +kernel, by decide +kernel, by decide +kernel⟩
theorem M_J4_init : xM yJ4_init cJ4_init 1 none 0 := ⟨q203, q103, by decide +kernel, by decide +kernel, by decide +kernel⟩
theorem M_J4_iterator : xM yJ4_iterator cJ4_iterator 1 (some (Jvm.ClassFile.FieldType.object "java/util/Iterator")) 0 := ⟨q832, q103, by decide +kernel, by decide +kernel, by decide +kernel⟩
theorem M_J4_listIterator : xM yJ4_listIterator cJ4_listIterator 2 (some (Jvm.ClassFile.FieldType.object "java/util/ListIterator")) 1 := ⟨q1709, q103, by decide +kernel, by decide +kernel, by decide +kernel⟩
theorem M_J4_rangeCheckForAdd : xM yJ4_rangeCheckForAdd cJ4_rangeCheckForAdd 2 none 1 := ⟨q1713, q103, by decide +kernel, by decide +kernel, by decide +kernel⟩
theorem M_J4_size : xM yJ4_size cJ4_size 1 (some Jvm.ClassFile.FieldType.int) 0 := ⟨q505, q103, by decide +kernel, by decide +kernel, by decide +kernel⟩
theorem M_J5_cardinality : xM yJ5_cardinality cJ5_cardinality 3 (some Jvm.ClassFile.FieldType.int) 0 := ⟨q1628, q110, by decide +kernel, by decide +kernel, by decide +kernel⟩
theorem M_J5_checkInvariants : xM yJ5_checkInvariants cJ5_checkInvariants 1 none 0 := ⟨q1436, q110, by decide +kernel, by decide +kernel, by decide +kernel⟩
theorem M_J5_clear : xM yJ5_clear cJ5_clear 1 none 0 := ⟨q1235, q110, by decide +kernel, by decide +kernel, by decide +kernel⟩
theorem M_J5_clear_2 : xM yJ5_clear_2 cJ5_clear_2 3 none 1 := ⟨q1542, q110, by decide +kernel, by decide +kernel, by decide +kernel⟩
theorem M_J5_ensureCapacity : xM yJ5_ensureCapacity cJ5_ensureCapacity 3 none 1 := ⟨q1459, q110, by decide +kernel, by decide +kernel, by decide +kernel⟩
theorem M_J5_expandTo : xM yJ5_expandTo cJ5_expandTo 3 none 1 := ⟨q1455, q110, by decide +kernel, by decide +kernel, by decide +kernel⟩
theorem M_J5_get : xM yJ5_get cJ5_get 3 (some Jvm.ClassFile.FieldType.boolean) 1 := ⟨q1432, q110, by decide +kernel, by decide +kernel, by decide +kernel⟩
theorem M_J5_init : xM yJ5_init cJ5_init 2 none 1 := ⟨q302, q110, by decide +kernel, by decide +kernel, by decide +kernel⟩
theorem M_J5_initWords : xM yJ5_initWords cJ5_initWords 2 none 1 := ⟨q307, q110, by decide +kernel, by decide +kernel, by decide +kernel⟩
theorem M_J5_isEmpty : xM yJ5_isEmpty cJ5_isEmpty 1 (some Jvm.ClassFile.FieldType.boolean) 0 := ⟨q1979, q110, by decide +kernel, by decide +kernel, by decide +kernel⟩
theorem M_J5_nextClearBit : xM yJ5_nextClearBit cJ5_nextClearBit 5 (some Jvm.ClassFile.FieldType.int) 1 := ⟨q2012, q110, by decide +kernel, by decide +kernel, by decide +kernel⟩
theorem M_J5_recalculateWordsInUse : xM yJ5_recalculateWordsInUse cJ5_recalculateWordsInUse 2 none 0 := ⟨q1547, q110, by decide +kernel, by decide +kernel, by decide +kernel⟩
theorem M_J5_set : xM yJ5_set cJ5_set 3 none 1 := ⟨q1451, q110, by decide +kernel, by decide +kernel, by decide +kernel⟩
theorem M_J5_wordIndex : xM yJ5_wordIndex cJ5_wordIndex 1 (some Jvm.ClassFile.FieldType.int) 1 := ⟨q310, q110, by decide +kernel, by decide +kernel, by decide +kernel⟩
theorem M_J6_hugeLength : xM yJ6_hugeLength cJ6_hugeLength 3 (some Jvm.ClassFile.FieldType.int) 2 := ⟨q418, q111, by decide +kernel, by decide +kernel, by decide +kernel⟩
theorem M_J6_newLength : xM yJ6_newLength cJ6_newLength 4 (some Jvm.ClassFile.FieldType.int) 3 := ⟨q411, q111, by decide +kernel, by decide +kernel, by decide +kernel⟩
theorem M_J7_floorMod : xM yJ7_floorMod cJ7_floorMod 3 (some Jvm.ClassFile.FieldType.int) 2 := ⟨q1515, q112, by decide +kernel, by decide +kernel, by decide +kernel⟩
theorem M_J7_max : xM yJ7_max cJ7_max 2 (some Jvm.ClassFile.FieldType.int) 2 := ⟨q414, q112, by decide +kernel, by decide +kernel, by decide +kernel⟩
theorem M_J7_min : xM yJ7_min cJ7_min 2 (some Jvm.ClassFile.FieldType.int) 2 := ⟨q469, q112, by decide +kernel, by decide +kernel, by decide +kernel⟩
theorem M_J8_checkLength : xM yJ8_checkLength cJ8_checkLength 2 none 2 := ⟨q1140, q113, by decide +kernel, by decide +kernel, by decide +kernel⟩
theorem M_J8_copyOf : xM yJ8_copyOf cJ8_copyOf 2 (some (Jvm.ClassFile.FieldType.array (Jvm.ClassFile.FieldType.object "java/lang/Object"))) 2 := ⟨q421, q113, by decide +kernel, by decide +kernel, by decide +kernel⟩
theorem M_J8_copyOfRange : xM yJ8_copyOfRange cJ8_copyOfRange 3 (some (Jvm.ClassFile.FieldType.array Jvm.ClassFile.FieldType.byte)) 3 := ⟨q1134, q113, by decide +kernel, by decide +kernel, by decide +kernel⟩
theorem M_J8_copyOfRangeByte : xM yJ8_copyOfRangeByte cJ8_copyOfRangeByte 5 (some (Jvm.ClassFile.FieldType.array Jvm.ClassFile.FieldType.byte)) 3 := ⟨q1137, q113, by decide +kernel, by decide +kernel, by decide +kernel⟩
theorem M_J8_copyOf_2 : xM yJ8_copyOf_2 cJ8_copyOf_2 4 (some (Jvm.ClassFile.FieldType.array (Jvm.ClassFile.FieldType.object "java/lang/Object"))) 3 := ⟨q463, q113, by decide +kernel, by decide +kernel, by decide +kernel⟩
theorem M_J8_copyOf_3 : xM yJ8_copyOf_3 cJ8_copyOf_3 3 (some (Jvm.ClassFile.FieldType.array Jvm.ClassFile.FieldType.byte)) 2 := ⟨q1022, q113, by decide +kernel, by decide +kernel, by decide +kernel⟩
theorem M_J8_copyOf_4 : xM yJ8_copyOf_4 cJ8_copyOf_4 3 (some (Jvm.ClassFile.FieldType.array Jvm.ClassFile.FieldType.long)) 2 := ⟨q1463, q113, by decide +kernel, by decide +kernel, by decide +kernel⟩
theorem M_J8_fill : xM yJ8_fill cJ8_fill 5 none 4 := ⟨q2335, q113, by decide +kernel, by decide +kernel, by decide +kernel⟩
theorem M_J8_rangeCheck : xM yJ8_rangeCheck cJ8_rangeCheck 3 none 3 := ⟨q2338, q113, by decide +kernel, by decide +kernel, by decide +kernel⟩
theorem M_J9_checkIndex : xM yJ9_checkIndex cJ9_checkIndex 2 (some Jvm.ClassFile.FieldType.int) 2 := ⟨q512, q117, by decide +kernel, by decide +kernel, by decide +kernel⟩
theorem M_X0_append : xM yX0_append cX0_append 4 (some Jvm.ClassFile.FieldType.int) 2 := ⟨q2041, q98, by decide +kernel, by decide +kernel, by decide +kernel⟩
theorem M_X0_batch : xM yX0_batch cX0_batch 1 (some (Jvm.ClassFile.FieldType.object "PipelineSimulator$Batch")) 0 := ⟨q602, q98, by decide +kernel, by decide +kernel, by decide +kernel⟩
theorem M_X0_build : xM yX0_build cX0_build 4 none 0 := ⟨q497, q98, by decide +kernel, by decide +kernel, by decide +kernel⟩
theorem M_X0_channel : xM yX0_channel cX0_channel 4 (some (Jvm.ClassFile.FieldType.object "PipelineSimulator$Channel")) 3 := ⟨q1357, q98, by decide +kernel, by decide +kernel, by decide +kernel⟩
theorem M_X0_channel_2 : xM yX0_channel_2 cX0_channel_2 6 (some Jvm.ClassFile.FieldType.int) 4 := ⟨q1899, q98, by decide +kernel, by decide +kernel, by decide +kernel⟩
theorem M_X0_checkpoint : xM yX0_checkpoint cX0_checkpoint 1 (some Jvm.ClassFile.FieldType.int) 0 := ⟨q1822, q98, by decide +kernel, by decide +kernel, by decide +kernel⟩
theorem M_X0_clear : xM yX0_clear cX0_clear 2 (some Jvm.ClassFile.FieldType.int) 0 := ⟨q824, q98, by decide +kernel, by decide +kernel, by decide +kernel⟩
theorem M_X0_complete : xM yX0_complete cX0_complete 1 none 0 := ⟨q1654, q98, by decide +kernel, by decide +kernel, by decide +kernel⟩
theorem M_X0_configure : xM yX0_configure cX0_configure 6 (some Jvm.ClassFile.FieldType.int) 4 := ⟨q803, q98, by decide +kernel, by decide +kernel, by decide +kernel⟩
theorem M_X0_count : xM yX0_count cX0_count 2 (some Jvm.ClassFile.FieldType.int) 1 := ⟨q1865, q98, by decide +kernel, by decide +kernel, by decide +kernel⟩
theorem M_X0_counter : xM yX0_counter cX0_counter 0 (some (Jvm.ClassFile.FieldType.object "PipelineSimulator$Versions")) 0 := ⟨q220, q98, by decide +kernel, by decide +kernel, by decide +kernel⟩
theorem M_X0_effects : xM yX0_effects cX0_effects 3 (some Jvm.ClassFile.FieldType.int) 0 := ⟨q1869, q98, by decide +kernel, by decide +kernel, by decide +kernel⟩
theorem M_X0_explanation : xM yX0_explanation cX0_explanation 3 (some Jvm.ClassFile.FieldType.int) 2 := ⟨q2037, q98, by decide +kernel, by decide +kernel, by decide +kernel⟩
theorem M_X0_fail : xM yX0_fail cX0_fail 10 (some Jvm.ClassFile.FieldType.int) 0 := ⟨q1828, q98, by decide +kernel, by decide +kernel, by decide +kernel⟩
theorem M_X0_finishAll : xM yX0_finishAll cX0_finishAll 3 none 1 := ⟨q1657, q98, by decide +kernel, by decide +kernel, by decide +kernel⟩
theorem M_X0_home : xM yX0_home cX0_home 2 (some Jvm.ClassFile.FieldType.int) 2 := ⟨q1352, q98, by decide +kernel, by decide +kernel, by decide +kernel⟩
theorem M_X0_init : xM yX0_init cX0_init 1 none 0 := ⟨q159, q98, by decide +kernel, by decide +kernel, by decide +kernel⟩
theorem M_X0_instance : xM yX0_instance cX0_instance 5 (some Jvm.ClassFile.FieldType.int) 3 := ⟨q1882, q98, by decide +kernel, by decide +kernel, by decide +kernel⟩
theorem M_X0_isBetween : xM yX0_isBetween cX0_isBetween 6 (some Jvm.ClassFile.FieldType.boolean) 3 := ⟨q807, q98, by decide +kernel, by decide +kernel, by decide +kernel⟩
theorem M_X0_isDone : xM yX0_isDone cX0_isDone 1 (some Jvm.ClassFile.FieldType.boolean) 0 := ⟨q1262, q98, by decide +kernel, by decide +kernel, by decide +kernel⟩
theorem M_X0_isInstance : xM yX0_isInstance cX0_isInstance 3 (some Jvm.ClassFile.FieldType.boolean) 2 := ⟨q1886, q98, by decide +kernel, by decide +kernel, by decide +kernel⟩
theorem M_X0_isOperator : xM yX0_isOperator cX0_isOperator 2 (some Jvm.ClassFile.FieldType.boolean) 1 := ⟨q1878, q98, by decide +kernel, by decide +kernel, by decide +kernel⟩
theorem M_X0_isQuiet : xM yX0_isQuiet cX0_isQuiet 1 (some Jvm.ClassFile.FieldType.int) 0 := ⟨q1818, q98, by decide +kernel, by decide +kernel, by decide +kernel⟩
theorem M_X0_isStateOf : xM yX0_isStateOf cX0_isStateOf 3 (some Jvm.ClassFile.FieldType.boolean) 2 := ⟨q1910, q98, by decide +kernel, by decide +kernel, by decide +kernel⟩
theorem M_X0_keyStates : xM yX0_keyStates cX0_keyStates 0 (some (Jvm.ClassFile.FieldType.object "PipelineSimulator$Versions")) 0 := ⟨q291, q98, by decide +kernel, by decide +kernel, by decide +kernel⟩
theorem M_X0_number : xM yX0_number cX0_number 3 (some Jvm.ClassFile.FieldType.int) 3 := ⟨q1914, q98, by decide +kernel, by decide +kernel, by decide +kernel⟩
theorem M_X0_operator : xM yX0_operator cX0_operator 4 (some Jvm.ClassFile.FieldType.int) 2 := ⟨q1874, q98, by decide +kernel, by decide +kernel, by decide +kernel⟩
theorem M_X0_operator_2 : xM yX0_operator_2 cX0_operator_2 4 (some (Jvm.ClassFile.FieldType.object "PipelineSimulator$Operator")) 4 := ⟨q2207, q98, by decide +kernel, by decide +kernel, by decide +kernel⟩
theorem M_X0_plain : xM yX0_plain cX0_plain 5 (some Jvm.ClassFile.FieldType.int) 2 := ⟨q1927, q98, by decide +kernel, by decide +kernel, by decide +kernel⟩
theorem M_X0_push : xM yX0_push cX0_push 3 (some Jvm.ClassFile.FieldType.int) 2 := ⟨q816, q98, by decide +kernel, by decide +kernel, by decide +kernel⟩
theorem M_X0_rebuild : xM yX0_rebuild cX0_rebuild 5 none 1 := ⟨q1861, q98, by decide +kernel, by decide +kernel, by decide +kernel⟩
theorem M_X0_recordsInChannels : xM yX0_recordsInChannels cX0_recordsInChannels 11 (some Jvm.ClassFile.FieldType.int) 0 := ⟨q1266, q98, by decide +kernel, by decide +kernel, by decide +kernel⟩
theorem M_X0_recordsInLists : xM yX0_recordsInLists cX0_recordsInLists 7 (some Jvm.ClassFile.FieldType.int) 0 := ⟨q1270, q98, by decide +kernel, by decide +kernel, by decide +kernel⟩
theorem M_X0_rescale : xM yX0_rescale cX0_rescale 6 (some Jvm.ClassFile.FieldType.int) 2 := ⟨q1852, q98, by decide +kernel, by decide +kernel, by decide +kernel⟩
theorem M_X0_restart : xM yX0_restart cX0_restart 3 none 0 := ⟨q828, q98, by decide +kernel, by decide +kernel, by decide +kernel⟩
theorem M_X0_restoreAll : xM yX0_restoreAll cX0_restoreAll 3 none 1 := ⟨q1844, q98, by decide +kernel, by decide +kernel, by decide +kernel⟩
theorem M_X0_savedState : xM yX0_savedState cX0_savedState 4 (some Jvm.ClassFile.FieldType.int) 3 := ⟨q1923, q98, by decide +kernel, by decide +kernel, by decide +kernel⟩
theorem M_X0_state : xM yX0_state cX0_state 4 (some Jvm.ClassFile.FieldType.int) 3 := ⟨q1906, q98, by decide +kernel, by decide +kernel, by decide +kernel⟩
theorem M_X0_tick : xM yX0_tick cX0_tick 3 (some Jvm.ClassFile.FieldType.int) 1 := ⟨q1257, q98, by decide +kernel, by decide +kernel, by decide +kernel⟩
theorem M_X0_tick_2 : xM yX0_tick_2 cX0_tick_2 10 none 0 := ⟨q1278, q98, by decide +kernel, by decide +kernel, by decide +kernel⟩
theorem M_X0_write : xM yX0_write cX0_write 2 (some Jvm.ClassFile.FieldType.int) 0 := ⟨q2346, q98, by decide +kernel, by decide +kernel, by decide +kernel⟩
theorem M_X0_written : xM yX0_written cX0_written 2 (some Jvm.ClassFile.FieldType.int) 1 := ⟨q2405, q98, by decide +kernel, by decide +kernel, by decide +kernel⟩
theorem M_X10_canPut : xM yX10_canPut cX10_canPut 1 (some Jvm.ClassFile.FieldType.boolean) 0 := ⟨q1361, q120, by decide +kernel, by decide +kernel, by decide +kernel⟩
theorem M_X10_canPutBarrier : xM yX10_canPutBarrier cX10_canPutBarrier 1 (some Jvm.ClassFile.FieldType.boolean) 0 := ⟨q1381, q120, by decide +kernel, by decide +kernel, by decide +kernel⟩
theorem M_X10_clear : xM yX10_clear cX10_clear 1 none 0 := ⟨q1836, q120, by decide +kernel, by decide +kernel, by decide +kernel⟩
theorem M_X10_close : xM yX10_close cX10_close 1 none 0 := ⟨q1295, q120, by decide +kernel, by decide +kernel, by decide +kernel⟩
theorem M_X10_first : xM yX10_first cX10_first 1 (some (Jvm.ClassFile.FieldType.object "PipelineSimulator$Batch")) 0 := ⟨q1574, q120, by decide +kernel, by decide +kernel, by decide +kernel⟩
theorem M_X10_grow : xM yX10_grow cX10_grow 1 none 0 := ⟨q1282, q120, by decide +kernel, by decide +kernel, by decide +kernel⟩
theorem M_X10_hasRoom : xM yX10_hasRoom cX10_hasRoom 1 (some Jvm.ClassFile.FieldType.boolean) 0 := ⟨q1290, q120, by decide +kernel, by decide +kernel, by decide +kernel⟩
theorem M_X10_init : xM yX10_init cX10_init 2 none 1 := ⟨q578, q120, by decide +kernel, by decide +kernel, by decide +kernel⟩
theorem M_X10_put : xM yX10_put cX10_put 4 none 3 := ⟨q1369, q120, by decide +kernel, by decide +kernel, by decide +kernel⟩
theorem M_X10_putBarrier : xM yX10_putBarrier cX10_putBarrier 1 none 0 := ⟨q1390, q120, by decide +kernel, by decide +kernel, by decide +kernel⟩
theorem M_X10_removeFirst : xM yX10_removeFirst cX10_removeFirst 1 none 0 := ⟨q1586, q120, by decide +kernel, by decide +kernel, by decide +kernel⟩
theorem M_X10_takeRecord : xM yX10_takeRecord cX10_takeRecord 1 none 0 := ⟨q1804, q120, by decide +kernel, by decide +kernel, by decide +kernel⟩
theorem M_X11_add : xM yX11_add cX11_add 4 none 3 := ⟨q1373, q122, by decide +kernel, by decide +kernel, by decide +kernel⟩
theorem M_X11_birth : xM yX11_birth cX11_birth 1 (some Jvm.ClassFile.FieldType.int) 0 := ⟨q1800, q122, by decide +kernel, by decide +kernel, by decide +kernel⟩
theorem M_X11_clear : xM yX11_clear cX11_clear 1 (some (Jvm.ClassFile.FieldType.object "PipelineSimulator$Batch")) 0 := ⟨q660, q122, by decide +kernel, by decide +kernel, by decide +kernel⟩
theorem M_X11_init : xM yX11_init cX11_init 1 none 0 := ⟨q626, q122, by decide +kernel, by decide +kernel, by decide +kernel⟩
theorem M_X11_isUsed : xM yX11_isUsed cX11_isUsed 1 (some Jvm.ClassFile.FieldType.boolean) 0 := ⟨q1813, q122, by decide +kernel, by decide +kernel, by decide +kernel⟩
theorem M_X11_key : xM yX11_key cX11_key 1 (some Jvm.ClassFile.FieldType.int) 0 := ⟨q1792, q122, by decide +kernel, by decide +kernel, by decide +kernel⟩
theorem M_X11_size : xM yX11_size cX11_size 1 (some Jvm.ClassFile.FieldType.int) 0 := ⟨q1286, q122, by decide +kernel, by decide +kernel, by decide +kernel⟩
theorem M_X11_take : xM yX11_take cX11_take 1 none 0 := ⟨q1809, q122, by decide +kernel, by decide +kernel, by decide +kernel⟩
theorem M_X11_value : xM yX11_value cX11_value 1 (some Jvm.ClassFile.FieldType.int) 0 := ⟨q1796, q122, by decide +kernel, by decide +kernel, by decide +kernel⟩
theorem M_X12_append : xM yX12_append cX12_append 4 (some Jvm.ClassFile.FieldType.int) 2 := ⟨q2662, q127, by decide +kernel, by decide +kernel, by decide +kernel⟩
theorem M_X12_barrier : xM yX12_barrier cX12_barrier 5 none 3 := ⟨q2801, q127, by decide +kernel, by decide +kernel, by decide +kernel⟩
theorem M_X12_begins : xM yX12_begins cX12_begins 2 none 0 := ⟨q2698, q127, by decide +kernel, by decide +kernel, by decide +kernel⟩
theorem M_X12_breaks : xM yX12_breaks cX12_breaks 2 none 0 := ⟨q2702, q127, by decide +kernel, by decide +kernel, by decide +kernel⟩
theorem M_X12_channel : xM yX12_channel cX12_channel 6 (some Jvm.ClassFile.FieldType.int) 4 := ⟨q2870, q127, by decide +kernel, by decide +kernel, by decide +kernel⟩
theorem M_X12_checkpoint : xM yX12_checkpoint cX12_checkpoint 2 (some Jvm.ClassFile.FieldType.int) 0 := ⟨q2832, q127, by decide +kernel, by decide +kernel, by decide +kernel⟩
theorem M_X12_clear : xM yX12_clear cX12_clear 2 (some Jvm.ClassFile.FieldType.int) 0 := ⟨q2715, q127, by decide +kernel, by decide +kernel, by decide +kernel⟩
theorem M_X12_closes : xM yX12_closes cX12_closes 4 none 1 := ⟨q2731, q127, by decide +kernel, by decide +kernel, by decide +kernel⟩
theorem M_X12_completes : xM yX12_completes cX12_completes 2 none 0 := ⟨q2809, q127, by decide +kernel, by decide +kernel, by decide +kernel⟩
theorem M_X12_configure : xM yX12_configure cX12_configure 6 (some Jvm.ClassFile.FieldType.int) 4 := ⟨q2706, q127, by decide +kernel, by decide +kernel, by decide +kernel⟩
theorem M_X12_count : xM yX12_count cX12_count 4 (some Jvm.ClassFile.FieldType.int) 1 := ⟨q2850, q127, by decide +kernel, by decide +kernel, by decide +kernel⟩
theorem M_X12_emits : xM yX12_emits cX12_emits 7 none 5 := ⟨q2789, q127, by decide +kernel, by decide +kernel, by decide +kernel⟩
theorem M_X12_explain : xM yX12_explain cX12_explain 7 (some Jvm.ClassFile.FieldType.int) 2 := ⟨q2894, q127, by decide +kernel, by decide +kernel, by decide +kernel⟩
theorem M_X12_explanation : xM yX12_explanation cX12_explanation 3 (some Jvm.ClassFile.FieldType.int) 2 := ⟨q2902, q127, by decide +kernel, by decide +kernel, by decide +kernel⟩
theorem M_X12_fail : xM yX12_fail cX12_fail 1 (some Jvm.ClassFile.FieldType.int) 0 := ⟨q2837, q127, by decide +kernel, by decide +kernel, by decide +kernel⟩
theorem M_X12_gives : xM yX12_gives cX12_gives 3 none 2 := ⟨q2821, q127, by decide +kernel, by decide +kernel, by decide +kernel⟩
theorem M_X12_goal : xM yX12_goal cX12_goal 4 (some Jvm.ClassFile.FieldType.int) 3 := ⟨q2750, q127, by decide +kernel, by decide +kernel, by decide +kernel⟩
theorem M_X12_here : xM yX12_here cX12_here 1 (some Jvm.ClassFile.FieldType.int) 0 := ⟨q2675, q127, by decide +kernel, by decide +kernel, by decide +kernel⟩
theorem M_X12_home : xM yX12_home cX12_home 3 (some Jvm.ClassFile.FieldType.int) 2 := ⟨q2758, q127, by decide +kernel, by decide +kernel, by decide +kernel⟩
theorem M_X12_init : xM yX12_init cX12_init 1 none 0 := ⟨q2411, q127, by decide +kernel, by decide +kernel, by decide +kernel⟩
theorem M_X12_inside : xM yX12_inside cX12_inside 4 (some Jvm.ClassFile.FieldType.int) 1 := ⟨q2854, q127, by decide +kernel, by decide +kernel, by decide +kernel⟩
theorem M_X12_instance : xM yX12_instance cX12_instance 5 (some Jvm.ClassFile.FieldType.int) 3 := ⟨q2862, q127, by decide +kernel, by decide +kernel, by decide +kernel⟩
theorem M_X12_instances : xM yX12_instances cX12_instances 2 (some Jvm.ClassFile.FieldType.int) 0 := ⟨q2694, q127, by decide +kernel, by decide +kernel, by decide +kernel⟩
theorem M_X12_isIn : xM yX12_isIn cX12_isIn 3 (some Jvm.ClassFile.FieldType.boolean) 3 := ⟨q2665, q127, by decide +kernel, by decide +kernel, by decide +kernel⟩
theorem M_X12_isKeyed : xM yX12_isKeyed cX12_isKeyed 2 (some Jvm.ClassFile.FieldType.boolean) 1 := ⟨q2754, q127, by decide +kernel, by decide +kernel, by decide +kernel⟩
theorem M_X12_isOperator : xM yX12_isOperator cX12_isOperator 2 (some Jvm.ClassFile.FieldType.boolean) 1 := ⟨q2845, q127, by decide +kernel, by decide +kernel, by decide +kernel⟩
theorem M_X12_isQuiet : xM yX12_isQuiet cX12_isQuiet 1 (some Jvm.ClassFile.FieldType.int) 0 := ⟨q2828, q127, by decide +kernel, by decide +kernel, by decide +kernel⟩
theorem M_X12_keysOf : xM yX12_keysOf cX12_keysOf 5 (some Jvm.ClassFile.FieldType.int) 2 := ⟨q2866, q127, by decide +kernel, by decide +kernel, by decide +kernel⟩
theorem M_X12_letter : xM yX12_letter cX12_letter 1 (some Jvm.ClassFile.FieldType.int) 1 := ⟨q2682, q127, by decide +kernel, by decide +kernel, by decide +kernel⟩
theorem M_X12_line : xM yX12_line cX12_line 3 (some Jvm.ClassFile.FieldType.int) 3 := ⟨q2761, q127, by decide +kernel, by decide +kernel, by decide +kernel⟩
theorem M_X12_number : xM yX12_number cX12_number 5 (some Jvm.ClassFile.FieldType.int) 2 := ⟨q2690, q127, by decide +kernel, by decide +kernel, by decide +kernel⟩
theorem M_X12_operator : xM yX12_operator cX12_operator 3 (some Jvm.ClassFile.FieldType.int) 2 := ⟨q2858, q127, by decide +kernel, by decide +kernel, by decide +kernel⟩
theorem M_X12_plain : xM yX12_plain cX12_plain 3 (some Jvm.ClassFile.FieldType.int) 2 := ⟨q2886, q127, by decide +kernel, by decide +kernel, by decide +kernel⟩
theorem M_X12_plainly : xM yX12_plainly cX12_plainly 5 none 0 := ⟨q2890, q127, by decide +kernel, by decide +kernel, by decide +kernel⟩
theorem M_X12_pops : xM yX12_pops cX12_pops 4 none 1 := ⟨q2797, q127, by decide +kernel, by decide +kernel, by decide +kernel⟩
theorem M_X12_processes : xM yX12_processes cX12_processes 10 none 6 := ⟨q2817, q127, by decide +kernel, by decide +kernel, by decide +kernel⟩
theorem M_X12_push : xM yX12_push cX12_push 3 (some Jvm.ClassFile.FieldType.int) 2 := ⟨q2711, q127, by decide +kernel, by decide +kernel, by decide +kernel⟩
theorem M_X12_puts : xM yX12_puts cX12_puts 5 none 4 := ⟨q2769, q127, by decide +kernel, by decide +kernel, by decide +kernel⟩
theorem M_X12_putsBarrier : xM yX12_putsBarrier cX12_putsBarrier 2 none 1 := ⟨q2781, q127, by decide +kernel, by decide +kernel, by decide +kernel⟩
theorem M_X12_quiet : xM yX12_quiet cX12_quiet 2 (some Jvm.ClassFile.FieldType.boolean) 0 := ⟨q2723, q127, by decide +kernel, by decide +kernel, by decide +kernel⟩
theorem M_X12_readPipeline : xM yX12_readPipeline cX12_readPipeline 4 (some Jvm.ClassFile.FieldType.int) 0 := ⟨q2671, q127, by decide +kernel, by decide +kernel, by decide +kernel⟩
theorem M_X12_ready : xM yX12_ready cX12_ready 6 (some Jvm.ClassFile.FieldType.int) 2 := ⟨q2793, q127, by decide +kernel, by decide +kernel, by decide +kernel⟩
theorem M_X12_reasonOf : xM yX12_reasonOf cX12_reasonOf 4 (some Jvm.ClassFile.FieldType.int) 2 := ⟨q2898, q127, by decide +kernel, by decide +kernel, by decide +kernel⟩
theorem M_X12_refusing : xM yX12_refusing cX12_refusing 4 (some Jvm.ClassFile.FieldType.int) 2 := ⟨q2773, q127, by decide +kernel, by decide +kernel, by decide +kernel⟩
theorem M_X12_rescale : xM yX12_rescale cX12_rescale 6 (some Jvm.ClassFile.FieldType.int) 2 := ⟨q2841, q127, by decide +kernel, by decide +kernel, by decide +kernel⟩
theorem M_X12_rest : xM yX12_rest cX12_rest 2 (some Jvm.ClassFile.FieldType.int) 1 := ⟨q2824, q127, by decide +kernel, by decide +kernel, by decide +kernel⟩
theorem M_X12_savedState : xM yX12_savedState cX12_savedState 4 (some Jvm.ClassFile.FieldType.int) 3 := ⟨q2882, q127, by decide +kernel, by decide +kernel, by decide +kernel⟩
theorem M_X12_saves : xM yX12_saves cX12_saves 5 none 2 := ⟨q2805, q127, by decide +kernel, by decide +kernel, by decide +kernel⟩
theorem M_X12_sends : xM yX12_sends cX12_sends 7 (some Jvm.ClassFile.FieldType.boolean) 2 := ⟨q2743, q127, by decide +kernel, by decide +kernel, by decide +kernel⟩
theorem M_X12_sign : xM yX12_sign cX12_sign 2 none 1 := ⟨q2686, q127, by decide +kernel, by decide +kernel, by decide +kernel⟩
theorem M_X12_sink : xM yX12_sink cX12_sink 1 (some Jvm.ClassFile.FieldType.int) 0 := ⟨q2735, q127, by decide +kernel, by decide +kernel, by decide +kernel⟩
theorem M_X12_spot : xM yX12_spot cX12_spot 2 (some Jvm.ClassFile.FieldType.int) 2 := ⟨q2746, q127, by decide +kernel, by decide +kernel, by decide +kernel⟩
theorem M_X12_stage : xM yX12_stage cX12_stage 3 none 1 := ⟨q2679, q127, by decide +kernel, by decide +kernel, by decide +kernel⟩
theorem M_X12_state : xM yX12_state cX12_state 4 (some Jvm.ClassFile.FieldType.int) 3 := ⟨q2874, q127, by decide +kernel, by decide +kernel, by decide +kernel⟩
theorem M_X12_takes : xM yX12_takes cX12_takes 8 (some Jvm.ClassFile.FieldType.boolean) 2 := ⟨q2785, q127, by decide +kernel, by decide +kernel, by decide +kernel⟩
theorem M_X12_takesBarrier : xM yX12_takesBarrier cX12_takesBarrier 2 (some Jvm.ClassFile.FieldType.boolean) 1 := ⟨q2777, q127, by decide +kernel, by decide +kernel, by decide +kernel⟩
theorem M_X12_takesIn : xM yX12_takesIn cX12_takesIn 7 none 5 := ⟨q2813, q127, by decide +kernel, by decide +kernel, by decide +kernel⟩
theorem M_X12_takesRecord : xM yX12_takesRecord cX12_takesRecord 2 (some Jvm.ClassFile.FieldType.boolean) 1 := ⟨q2765, q127, by decide +kernel, by decide +kernel, by decide +kernel⟩
theorem M_X12_tick : xM yX12_tick cX12_tick 3 (some Jvm.ClassFile.FieldType.int) 1 := ⟨q2719, q127, by decide +kernel, by decide +kernel, by decide +kernel⟩
theorem M_X12_ticks : xM yX12_ticks cX12_ticks 3 none 0 := ⟨q2727, q127, by decide +kernel, by decide +kernel, by decide +kernel⟩
theorem M_X12_told : xM yX12_told cX12_told 7 (some Jvm.ClassFile.FieldType.int) 6 := ⟨q2878, q127, by decide +kernel, by decide +kernel, by decide +kernel⟩
theorem M_X12_works : xM yX12_works cX12_works 5 none 2 := ⟨q2739, q127, by decide +kernel, by decide +kernel, by decide +kernel⟩
theorem M_X12_write : xM yX12_write cX12_write 3 (some Jvm.ClassFile.FieldType.int) 0 := ⟨q2906, q127, by decide +kernel, by decide +kernel, by decide +kernel⟩
theorem M_X12_writes : xM yX12_writes cX12_writes 2 none 1 := ⟨q2910, q127, by decide +kernel, by decide +kernel, by decide +kernel⟩
theorem M_X12_writesNumber : xM yX12_writesNumber cX12_writesNumber 3 none 1 := ⟨q2914, q127, by decide +kernel, by decide +kernel, by decide +kernel⟩
theorem M_X12_written : xM yX12_written cX12_written 2 (some Jvm.ClassFile.FieldType.int) 1 := ⟨q2918, q127, by decide +kernel, by decide +kernel, by decide +kernel⟩
theorem M_X13_digit : xM yX13_digit cX13_digit 3 (some Jvm.ClassFile.FieldType.int) 2 := ⟨q2204, q129, by decide +kernel, by decide +kernel, by decide +kernel⟩
theorem M_X13_expect : xM yX13_expect cX13_expect 2 none 1 := ⟨q2192, q129, by decide +kernel, by decide +kernel, by decide +kernel⟩
theorem M_X13_init : xM yX13_init cX13_init 2 none 1 := ⟨q2074, q129, by decide +kernel, by decide +kernel, by decide +kernel⟩
theorem M_X13_isAt : xM yX13_isAt cX13_isAt 3 (some Jvm.ClassFile.FieldType.boolean) 2 := ⟨q2099, q129, by decide +kernel, by decide +kernel, by decide +kernel⟩
theorem M_X13_isNext : xM yX13_isNext cX13_isNext 2 (some Jvm.ClassFile.FieldType.boolean) 1 := ⟨q2196, q129, by decide +kernel, by decide +kernel, by decide +kernel⟩
theorem M_X13_kind : xM yX13_kind cX13_kind 2 (some Jvm.ClassFile.FieldType.int) 0 := ⟨q2118, q129, by decide +kernel, by decide +kernel, by decide +kernel⟩
theorem M_X13_number : xM yX13_number cX13_number 5 (some Jvm.ClassFile.FieldType.int) 2 := ⟨q2200, q129, by decide +kernel, by decide +kernel, by decide +kernel⟩
theorem M_X13_parse : xM yX13_parse cX13_parse 1 (some (Jvm.ClassFile.FieldType.object "java/util/ArrayList")) 0 := ⟨q2091, q129, by decide +kernel, by decide +kernel, by decide +kernel⟩
theorem M_X13_stage : xM yX13_stage cX13_stage 4 none 0 := ⟨q2114, q129, by decide +kernel, by decide +kernel, by decide +kernel⟩
theorem M_X14_init : xM yX14_init cX14_init 2 none 1 := ⟨q2181, q133, by decide +kernel, by decide +kernel, by decide +kernel⟩
theorem M_X15_init : xM yX15_init cX15_init 4 none 3 := ⟨q2212, q134, by decide +kernel, by decide +kernel, by decide +kernel⟩
theorem M_X15_process : xM yX15_process cX15_process 5 none 4 := ⟨q1508, q134, by decide +kernel, by decide +kernel, by decide +kernel⟩
theorem M_X16_init : xM yX16_init cX16_init 4 none 3 := ⟨q2228, q135, by decide +kernel, by decide +kernel, by decide +kernel⟩
theorem M_X16_process : xM yX16_process cX16_process 5 none 4 := ⟨q1497, q135, by decide +kernel, by decide +kernel, by decide +kernel⟩
theorem M_X17_init : xM yX17_init cX17_init 4 none 3 := ⟨q2244, q136, by decide +kernel, by decide +kernel, by decide +kernel⟩
theorem M_X17_process : xM yX17_process cX17_process 5 none 4 := ⟨q1512, q136, by decide +kernel, by decide +kernel, by decide +kernel⟩
theorem M_X18_init : xM yX18_init cX18_init 3 none 2 := ⟨q2260, q137, by decide +kernel, by decide +kernel, by decide +kernel⟩
theorem M_X18_process : xM yX18_process cX18_process 6 none 4 := ⟨q1493, q137, by decide +kernel, by decide +kernel, by decide +kernel⟩
theorem M_X19_init : xM yX19_init cX19_init 3 none 2 := ⟨q2276, q138, by decide +kernel, by decide +kernel, by decide +kernel⟩
theorem M_X19_process : xM yX19_process cX19_process 7 none 4 := ⟨q1531, q138, by decide +kernel, by decide +kernel, by decide +kernel⟩
theorem M_X1_finish : xM yX1_finish cX1_finish 1 none 0 := ⟨q1766, q104, by decide +kernel, by decide +kernel, by decide +kernel⟩
theorem M_X1_init : xM yX1_init cX1_init 4 none 3 := ⟨q237, q104, by decide +kernel, by decide +kernel, by decide +kernel⟩
theorem M_X1_reset : xM yX1_reset cX1_reset 1 none 0 := ⟨q1215, q104, by decide +kernel, by decide +kernel, by decide +kernel⟩
theorem M_X1_restore : xM yX1_restore cX1_restore 1 none 0 := ⟨q1848, q104, by decide +kernel, by decide +kernel, by decide +kernel⟩
theorem M_X20_init : xM yX20_init cX20_init 2 none 1 := ⟨q2292, q139, by decide +kernel, by decide +kernel, by decide +kernel⟩
theorem M_X20_process : xM yX20_process cX20_process 6 none 4 := ⟨q1424, q139, by decide +kernel, by decide +kernel, by decide +kernel⟩
theorem M_X21_init : xM yX21_init cX21_init 2 none 1 := ⟨q2308, q140, by decide +kernel, by decide +kernel, by decide +kernel⟩
theorem M_X21_process : xM yX21_process cX21_process 5 none 4 := ⟨q1501, q140, by decide +kernel, by decide +kernel, by decide +kernel⟩
theorem M_X22_emit : xM yX22_emit cX22_emit 3 none 2 := ⟨q1484, q152, by decide +kernel, by decide +kernel, by decide +kernel⟩
theorem M_X22_init : xM yX22_init cX22_init 3 none 2 := ⟨q1932, q152, by decide +kernel, by decide +kernel, by decide +kernel⟩
theorem M_X22_last : xM yX22_last cX22_last 1 (some (Jvm.ClassFile.FieldType.object "PipelineSimulator$KeyStates")) 0 := ⟨q1956, q152, by decide +kernel, by decide +kernel, by decide +kernel⟩
theorem M_X22_take : xM yX22_take cX22_take 3 none 2 := ⟨q1488, q152, by decide +kernel, by decide +kernel, by decide +kernel⟩
theorem M_X23_init : xM yX23_init cX23_init 3 none 2 := ⟨q1990, q153, by decide +kernel, by decide +kernel, by decide +kernel⟩
theorem M_X2_copyTo : xM yX2_copyTo cX2_copyTo 2 none 1 := ⟨q1650, q105, by decide +kernel, by decide +kernel, by decide +kernel⟩
theorem M_X2_copyTo_2 : xM yX2_copyTo_2 cX2_copyTo_2 2 none 1 := ⟨q1775, q105, by decide +kernel, by decide +kernel, by decide +kernel⟩
theorem M_X2_init : xM yX2_init cX2_init 1 none 0 := ⟨q227, q105, by decide +kernel, by decide +kernel, by decide +kernel⟩
theorem M_X2_reset : xM yX2_reset cX2_reset 1 none 0 := ⟨q1225, q105, by decide +kernel, by decide +kernel, by decide +kernel⟩
theorem M_X3_add : xM yX3_add cX3_add 3 none 1 := ⟨q1415, q106, by decide +kernel, by decide +kernel, by decide +kernel⟩
theorem M_X3_init : xM yX3_init cX3_init 1 none 0 := ⟨q265, q106, by decide +kernel, by decide +kernel, by decide +kernel⟩
theorem M_X3_reset : xM yX3_reset cX3_reset 1 none 0 := ⟨q1253, q106, by decide +kernel, by decide +kernel, by decide +kernel⟩
theorem M_X4_init : xM yX4_init cX4_init 5 none 4 := ⟨q287, q107, by decide +kernel, by decide +kernel, by decide +kernel⟩
theorem M_X4_isKeyed : xM yX4_isKeyed cX4_isKeyed 1 (some Jvm.ClassFile.FieldType.boolean) 0 := ⟨q1349, q107, by decide +kernel, by decide +kernel, by decide +kernel⟩
theorem M_X4_reset : xM yX4_reset cX4_reset 1 none 0 := ⟨q1248, q107, by decide +kernel, by decide +kernel, by decide +kernel⟩
theorem M_X4_write : xM yX4_write cX4_write 2 none 1 := ⟨q2387, q107, by decide +kernel, by decide +kernel, by decide +kernel⟩
theorem M_X5_init : xM yX5_init cX5_init 1 none 0 := ⟨q284, q108, by decide +kernel, by decide +kernel, by decide +kernel⟩
theorem M_X5_process : xM yX5_process cX5_process 5 none 4 := ⟨q1527, q108, by decide +kernel, by decide +kernel, by decide +kernel⟩
theorem M_X6_copyKeys : xM yX6_copyKeys cX6_copyKeys 5 none 3 := ⟨q1643, q109, by decide +kernel, by decide +kernel, by decide +kernel⟩
theorem M_X6_copyTo : xM yX6_copyTo cX6_copyTo 2 none 1 := ⟨q1782, q109, by decide +kernel, by decide +kernel, by decide +kernel⟩
theorem M_X6_copyTo_2 : xM yX6_copyTo_2 cX6_copyTo_2 2 none 1 := ⟨q1787, q109, by decide +kernel, by decide +kernel, by decide +kernel⟩
theorem M_X6_first : xM yX6_first cX6_first 2 (some Jvm.ClassFile.FieldType.int) 1 := ⟨q1442, q109, by decide +kernel, by decide +kernel, by decide +kernel⟩
theorem M_X6_has : xM yX6_has cX6_has 2 (some Jvm.ClassFile.FieldType.boolean) 1 := ⟨q1428, q109, by decide +kernel, by decide +kernel, by decide +kernel⟩
theorem M_X6_init : xM yX6_init cX6_init 1 none 0 := ⟨q296, q109, by decide +kernel, by decide +kernel, by decide +kernel⟩
theorem M_X6_number : xM yX6_number cX6_number 3 (some Jvm.ClassFile.FieldType.int) 2 := ⟨q1918, q109, by decide +kernel, by decide +kernel, by decide +kernel⟩
theorem M_X6_remove : xM yX6_remove cX6_remove 2 none 1 := ⟨q1538, q109, by decide +kernel, by decide +kernel, by decide +kernel⟩
theorem M_X6_reset : xM yX6_reset cX6_reset 1 none 0 := ⟨q1231, q109, by decide +kernel, by decide +kernel, by decide +kernel⟩
theorem M_X6_second : xM yX6_second cX6_second 2 (some Jvm.ClassFile.FieldType.int) 1 := ⟨q1524, q109, by decide +kernel, by decide +kernel, by decide +kernel⟩
theorem M_X6_set : xM yX6_set cX6_set 4 none 3 := ⟨q1447, q109, by decide +kernel, by decide +kernel, by decide +kernel⟩
theorem M_X7_init : xM yX7_init cX7_init 4 none 3 := ⟨q482, q115, by decide +kernel, by decide +kernel, by decide +kernel⟩
theorem M_X7_isKeyed : xM yX7_isKeyed cX7_isKeyed 1 (some Jvm.ClassFile.FieldType.boolean) 0 := ⟨q1340, q115, by decide +kernel, by decide +kernel, by decide +kernel⟩
theorem M_X8_init : xM yX8_init cX8_init 2 none 1 := ⟨q479, q116, by decide +kernel, by decide +kernel, by decide +kernel⟩
theorem M_X8_process : xM yX8_process cX8_process 5 none 4 := ⟨q1519, q116, by decide +kernel, by decide +kernel, by decide +kernel⟩
theorem M_X8_write : xM yX8_write cX8_write 2 none 1 := ⟨q2358, q116, by decide +kernel, by decide +kernel, by decide +kernel⟩
theorem M_X9_align : xM yX9_align cX9_align 1 none 0 := ⟨q1638, q119, by decide +kernel, by decide +kernel, by decide +kernel⟩
theorem M_X9_barred : xM yX9_barred cX9_barred 2 (some Jvm.ClassFile.FieldType.int) 0 := ⟨q1377, q119, by decide +kernel, by decide +kernel, by decide +kernel⟩
theorem M_X9_canSend : xM yX9_canSend cX9_canSend 1 (some Jvm.ClassFile.FieldType.boolean) 0 := ⟨q1324, q119, by decide +kernel, by decide +kernel, by decide +kernel⟩
theorem M_X9_drop : xM yX9_drop cX9_drop 1 none 0 := ⟨q1832, q119, by decide +kernel, by decide +kernel, by decide +kernel⟩
theorem M_X9_emit : xM yX9_emit cX9_emit 3 none 2 := ⟨q1478, q119, by decide +kernel, by decide +kernel, by decide +kernel⟩
theorem M_X9_flush : xM yX9_flush cX9_flush 1 (some Jvm.ClassFile.FieldType.boolean) 0 := ⟨q1320, q119, by decide +kernel, by decide +kernel, by decide +kernel⟩
theorem M_X9_hasItem : xM yX9_hasItem cX9_hasItem 1 (some Jvm.ClassFile.FieldType.boolean) 0 := ⟨q1975, q119, by decide +kernel, by decide +kernel, by decide +kernel⟩
theorem M_X9_init : xM yX9_init cX9_init 4 none 3 := ⟨q525, q119, by decide +kernel, by decide +kernel, by decide +kernel⟩
theorem M_X9_input : xM yX9_input cX9_input 3 (some Jvm.ClassFile.FieldType.int) 0 := ⟨q1565, q119, by decide +kernel, by decide +kernel, by decide +kernel⟩
theorem M_X9_inputs : xM yX9_inputs cX9_inputs 1 (some Jvm.ClassFile.FieldType.int) 0 := ⟨q1569, q119, by decide +kernel, by decide +kernel, by decide +kernel⟩
theorem M_X9_isLast : xM yX9_isLast cX9_isLast 1 (some Jvm.ClassFile.FieldType.boolean) 0 := ⟨q1410, q119, by decide +kernel, by decide +kernel, by decide +kernel⟩
theorem M_X9_keys : xM yX9_keys cX9_keys 3 (some Jvm.ClassFile.FieldType.int) 0 := ⟨q1894, q119, by decide +kernel, by decide +kernel, by decide +kernel⟩
theorem M_X9_next : xM yX9_next cX9_next 1 (some (Jvm.ClassFile.FieldType.object "PipelineSimulator$Operator")) 0 := ⟨q1332, q119, by decide +kernel, by decide +kernel, by decide +kernel⟩
theorem M_X9_process : xM yX9_process cX9_process 4 none 3 := ⟨q1406, q119, by decide +kernel, by decide +kernel, by decide +kernel⟩
theorem M_X9_reason : xM yX9_reason cX9_reason 1 (some Jvm.ClassFile.FieldType.int) 0 := ⟨q1971, q119, by decide +kernel, by decide +kernel, by decide +kernel⟩
theorem M_X9_self : xM yX9_self cX9_self 1 (some (Jvm.ClassFile.FieldType.object "PipelineSimulator$Operator")) 0 := ⟨q1394, q119, by decide +kernel, by decide +kernel, by decide +kernel⟩
theorem M_X9_send : xM yX9_send cX9_send 2 none 0 := ⟨q1365, q119, by decide +kernel, by decide +kernel, by decide +kernel⟩
theorem M_X9_sendBarrier : xM yX9_sendBarrier cX9_sendBarrier 2 none 0 := ⟨q1386, q119, by decide +kernel, by decide +kernel, by decide +kernel⟩
theorem M_X9_stopped : xM yX9_stopped cX9_stopped 3 (some Jvm.ClassFile.FieldType.int) 0 := ⟨q1890, q119, by decide +kernel, by decide +kernel, by decide +kernel⟩
theorem M_X9_take : xM yX9_take cX9_take 1 (some Jvm.ClassFile.FieldType.boolean) 0 := ⟨q1398, q119, by decide +kernel, by decide +kernel, by decide +kernel⟩
theorem M_X9_takeInput : xM yX9_takeInput cX9_takeInput 2 (some Jvm.ClassFile.FieldType.boolean) 0 := ⟨q1402, q119, by decide +kernel, by decide +kernel, by decide +kernel⟩
theorem M_X9_takeItem : xM yX9_takeItem cX9_takeItem 7 (some Jvm.ClassFile.FieldType.boolean) 0 := ⟨q1561, q119, by decide +kernel, by decide +kernel, by decide +kernel⟩
theorem M_X9_target : xM yX9_target cX9_target 1 (some Jvm.ClassFile.FieldType.int) 0 := ⟨q1328, q119, by decide +kernel, by decide +kernel, by decide +kernel⟩
theorem M_X9_waiting : xM yX9_waiting cX9_waiting 1 (some Jvm.ClassFile.FieldType.int) 0 := ⟨q1274, q119, by decide +kernel, by decide +kernel, by decide +kernel⟩
theorem M_X9_waitsFor : xM yX9_waitsFor cX9_waitsFor 2 (some (Jvm.ClassFile.FieldType.object "PipelineSimulator$Instance")) 1 := ⟨q2008, q119, by decide +kernel, by decide +kernel, by decide +kernel⟩
theorem M_X9_work : xM yX9_work cX9_work 2 none 0 := ⟨q1316, q119, by decide +kernel, by decide +kernel, by decide +kernel⟩
/-! fields, by the entries that name them -/
theorem F_X0_69_0 : xFld RX0 69 0 0 := xFld.mk (q := (RX0, TX0, 23)) rfl (by decide) q714
theorem F_X0_92_0 : xFld RX0 92 0 1 := xFld.mk (q := (RX0, TX0, 23)) rfl (by decide) q717
theorem F_X0_96_0 : xFld RX0 96 0 2 := xFld.mk (q := (RX0, TX0, 23)) rfl (by decide) q719
theorem F_X0_99_0 : xFld RX0 99 0 3 := xFld.mk (q := (RX0, TX0, 23)) rfl (by decide) q721
theorem F_X0_102_0 : xFld RX0 102 0 4 := xFld.mk (q := (RX0, TX0, 23)) rfl (by decide) q722
theorem F_X0_105_0 : xFld RX0 105 0 5 := xFld.mk (q := (RX0, TX0, 23)) rfl (by decide) q724
theorem F_X0_109_0 : xFld RX0 109 0 6 := xFld.mk (q := (RX0, TX0, 23)) rfl (by decide) q726
theorem F_X0_115_0 : xFld RX0 115 0 8 := xFld.mk (q := (RX0, TX0, 23)) rfl (by decide) q732
theorem F_X0_123_0 : xFld RX0 123 0 9 := xFld.mk (q := (RX0, TX0, 23)) rfl (by decide) q733
theorem F_X0_127_0 : xFld RX0 127 0 10 := xFld.mk (q := (RX0, TX0, 23)) rfl (by decide) q735
theorem F_X0_132_0 : xFld RX0 132 0 11 := xFld.mk (q := (RX0, TX0, 23)) rfl (by decide) q736
theorem F_X0_138_0 : xFld RX0 138 0 12 := xFld.mk (q := (RX0, TX0, 23)) rfl (by decide) q738
theorem F_X0_145_0 : xFld RX0 145 0 13 := xFld.mk (q := (RX0, TX0, 23)) rfl (by decide) q739
theorem F_X0_159_0 : xFld RX0 159 0 20 := xFld.mk (q := (RX0, TX0, 23)) rfl (by decide) q749
theorem F_X0_165_0 : xFld RX0 165 0 21 := xFld.mk (q := (RX0, TX0, 23)) rfl (by decide) q751
theorem F_X0_169_0 : xFld RX0 169 0 22 := xFld.mk (q := (RX0, TX0, 23)) rfl (by decide) q752
theorem F_X0_183_5 : xFld RX0 183 5 3 := xFld.mk (q := (RX5, TX5, 9)) rfl (by decide) q358
theorem F_X0_183_8 : xFld RX0 183 8 3 := xFld.mk (q := (RX8, TX8, 9)) rfl (by decide) q358
theorem F_X0_183_15 : xFld RX0 183 15 3 := xFld.mk (q := (RX15, TX15, 9)) rfl (by decide) q358
theorem F_X0_183_16 : xFld RX0 183 16 3 := xFld.mk (q := (RX16, TX16, 9)) rfl (by decide) q358
theorem F_X0_183_17 : xFld RX0 183 17 3 := xFld.mk (q := (RX17, TX17, 9)) rfl (by decide) q358
theorem F_X0_183_18 : xFld RX0 183 18 3 := xFld.mk (q := (RX18, TX18, 9)) rfl (by decide) q358
theorem F_X0_183_19 : xFld RX0 183 19 3 := xFld.mk (q := (RX19, TX19, 9)) rfl (by decide) q358
theorem F_X0_183_20 : xFld RX0 183 20 3 := xFld.mk (q := (RX20, TX20, 9)) rfl (by decide) q358
theorem F_X0_183_21 : xFld RX0 183 21 3 := xFld.mk (q := (RX21, TX21, 9)) rfl (by decide) q358
theorem F_X0_187_5 : xFld RX0 187 5 4 := xFld.mk (q := (RX5, TX5, 9)) rfl (by decide) q360
theorem F_X0_187_8 : xFld RX0 187 8 4 := xFld.mk (q := (RX8, TX8, 9)) rfl (by decide) q360
theorem F_X0_187_15 : xFld RX0 187 15 4 := xFld.mk (q := (RX15, TX15, 9)) rfl (by decide) q360
theorem F_X0_187_16 : xFld RX0 187 16 4 := xFld.mk (q := (RX16, TX16, 9)) rfl (by decide) q360
theorem F_X0_187_17 : xFld RX0 187 17 4 := xFld.mk (q := (RX17, TX17, 9)) rfl (by decide) q360
theorem F_X0_187_18 : xFld RX0 187 18 4 := xFld.mk (q := (RX18, TX18, 9)) rfl (by decide) q360
theorem F_X0_187_19 : xFld RX0 187 19 4 := xFld.mk (q := (RX19, TX19, 9)) rfl (by decide) q360
theorem F_X0_187_20 : xFld RX0 187 20 4 := xFld.mk (q := (RX20, TX20, 9)) rfl (by decide) q360
theorem F_X0_187_21 : xFld RX0 187 21 4 := xFld.mk (q := (RX21, TX21, 9)) rfl (by decide) q360
theorem F_X0_193_9 : xFld RX0 193 9 11 := xFld.mkN (q := (RX9, TX9, 13)) rfl (by decide) q544
theorem F_X0_207_0 : xFld RX0 207 0 14 := xFld.mk (q := (RX0, TX0, 23)) rfl (by decide) q741
theorem F_X0_210_0 : xFld RX0 210 0 15 := xFld.mk (q := (RX0, TX0, 23)) rfl (by decide) q743
theorem F_X0_213_0 : xFld RX0 213 0 16 := xFld.mk (q := (RX0, TX0, 23)) rfl (by decide) q744
theorem F_X0_216_0 : xFld RX0 216 0 17 := xFld.mk (q := (RX0, TX0, 23)) rfl (by decide) q745
theorem F_X0_219_0 : xFld RX0 219 0 18 := xFld.mk (q := (RX0, TX0, 23)) rfl (by decide) q747
theorem F_X0_222_0 : xFld RX0 222 0 19 := xFld.mk (q := (RX0, TX0, 23)) rfl (by decide) q748
theorem F_X0_247_0 : xFld RX0 247 0 7 := xFld.mk (q := (RX0, TX0, 23)) rfl (by decide) q728
theorem F_X0_254_10 : xFld RX0 254 10 3 := xFld.mkN (q := (RX10, TX10, 5)) rfl (by decide) q668
theorem F_X0_260_1 : xFld RX0 260 1 0 := xFld.mk (q := (RX1, TX1, 3)) rfl (by decide) q241
theorem F_X0_264_2 : xFld RX0 264 2 0 := xFld.mk (q := (RX2, TX2, 1)) rfl (by decide) q231
theorem F_X0_288_1 : xFld RX0 288 1 1 := xFld.mk (q := (RX1, TX1, 3)) rfl (by decide) q244
theorem F_X0_294_9 : xFld RX0 294 9 8 := xFld.mkN (q := (RX9, TX9, 13)) rfl (by decide) q539
theorem F_X0_325_1 : xFld RX0 325 1 2 := xFld.mk (q := (RX1, TX1, 3)) rfl (by decide) q246
theorem F_X0_338_5 : xFld RX0 338 5 0 := xFld.mk (q := (RX5, TX5, 9)) rfl (by decide) q333
theorem F_X0_338_8 : xFld RX0 338 8 0 := xFld.mk (q := (RX8, TX8, 9)) rfl (by decide) q333
theorem F_X0_338_15 : xFld RX0 338 15 0 := xFld.mk (q := (RX15, TX15, 9)) rfl (by decide) q333
theorem F_X0_338_16 : xFld RX0 338 16 0 := xFld.mk (q := (RX16, TX16, 9)) rfl (by decide) q333
theorem F_X0_338_17 : xFld RX0 338 17 0 := xFld.mk (q := (RX17, TX17, 9)) rfl (by decide) q333
theorem F_X0_338_18 : xFld RX0 338 18 0 := xFld.mk (q := (RX18, TX18, 9)) rfl (by decide) q333
theorem F_X0_338_19 : xFld RX0 338 19 0 := xFld.mk (q := (RX19, TX19, 9)) rfl (by decide) q333
theorem F_X0_338_20 : xFld RX0 338 20 0 := xFld.mk (q := (RX20, TX20, 9)) rfl (by decide) q333
theorem F_X0_338_21 : xFld RX0 338 21 0 := xFld.mk (q := (RX21, TX21, 9)) rfl (by decide) q333
theorem F_X0_341_5 : xFld RX0 341 5 1 := xFld.mk (q := (RX5, TX5, 9)) rfl (by decide) q345
theorem F_X0_341_8 : xFld RX0 341 8 1 := xFld.mk (q := (RX8, TX8, 9)) rfl (by decide) q345
theorem F_X0_341_15 : xFld RX0 341 15 1 := xFld.mk (q := (RX15, TX15, 9)) rfl (by decide) q345
theorem F_X0_341_16 : xFld RX0 341 16 1 := xFld.mk (q := (RX16, TX16, 9)) rfl (by decide) q345
theorem F_X0_341_17 : xFld RX0 341 17 1 := xFld.mk (q := (RX17, TX17, 9)) rfl (by decide) q345
theorem F_X0_341_18 : xFld RX0 341 18 1 := xFld.mk (q := (RX18, TX18, 9)) rfl (by decide) q345
theorem F_X0_341_19 : xFld RX0 341 19 1 := xFld.mk (q := (RX19, TX19, 9)) rfl (by decide) q345
theorem F_X0_341_20 : xFld RX0 341 20 1 := xFld.mk (q := (RX20, TX20, 9)) rfl (by decide) q345
theorem F_X0_341_21 : xFld RX0 341 21 1 := xFld.mk (q := (RX21, TX21, 9)) rfl (by decide) q345
theorem F_X0_344_5 : xFld RX0 344 5 2 := xFld.mk (q := (RX5, TX5, 9)) rfl (by decide) q353
theorem F_X0_344_8 : xFld RX0 344 8 2 := xFld.mk (q := (RX8, TX8, 9)) rfl (by decide) q353
theorem F_X0_344_15 : xFld RX0 344 15 2 := xFld.mk (q := (RX15, TX15, 9)) rfl (by decide) q353
theorem F_X0_344_16 : xFld RX0 344 16 2 := xFld.mk (q := (RX16, TX16, 9)) rfl (by decide) q353
theorem F_X0_344_17 : xFld RX0 344 17 2 := xFld.mk (q := (RX17, TX17, 9)) rfl (by decide) q353
theorem F_X0_344_18 : xFld RX0 344 18 2 := xFld.mk (q := (RX18, TX18, 9)) rfl (by decide) q353
theorem F_X0_344_19 : xFld RX0 344 19 2 := xFld.mk (q := (RX19, TX19, 9)) rfl (by decide) q353
theorem F_X0_344_20 : xFld RX0 344 20 2 := xFld.mk (q := (RX20, TX20, 9)) rfl (by decide) q353
theorem F_X0_344_21 : xFld RX0 344 21 2 := xFld.mk (q := (RX21, TX21, 9)) rfl (by decide) q353
theorem F_X0_347_5 : xFld RX0 347 5 5 := xFld.mk (q := (RX5, TX5, 9)) rfl (by decide) q364
theorem F_X0_347_8 : xFld RX0 347 8 5 := xFld.mk (q := (RX8, TX8, 9)) rfl (by decide) q364
theorem F_X0_347_15 : xFld RX0 347 15 5 := xFld.mk (q := (RX15, TX15, 9)) rfl (by decide) q364
theorem F_X0_347_16 : xFld RX0 347 16 5 := xFld.mk (q := (RX16, TX16, 9)) rfl (by decide) q364
theorem F_X0_347_17 : xFld RX0 347 17 5 := xFld.mk (q := (RX17, TX17, 9)) rfl (by decide) q364
theorem F_X0_347_18 : xFld RX0 347 18 5 := xFld.mk (q := (RX18, TX18, 9)) rfl (by decide) q364
theorem F_X0_347_19 : xFld RX0 347 19 5 := xFld.mk (q := (RX19, TX19, 9)) rfl (by decide) q364
theorem F_X0_347_20 : xFld RX0 347 20 5 := xFld.mk (q := (RX20, TX20, 9)) rfl (by decide) q364
theorem F_X0_347_21 : xFld RX0 347 21 5 := xFld.mk (q := (RX21, TX21, 9)) rfl (by decide) q364
theorem F_X0_350_5 : xFld RX0 350 5 6 := xFld.mk (q := (RX5, TX5, 9)) rfl (by decide) q367
theorem F_X0_350_8 : xFld RX0 350 8 6 := xFld.mk (q := (RX8, TX8, 9)) rfl (by decide) q367
theorem F_X0_350_15 : xFld RX0 350 15 6 := xFld.mk (q := (RX15, TX15, 9)) rfl (by decide) q367
theorem F_X0_350_16 : xFld RX0 350 16 6 := xFld.mk (q := (RX16, TX16, 9)) rfl (by decide) q367
theorem F_X0_350_17 : xFld RX0 350 17 6 := xFld.mk (q := (RX17, TX17, 9)) rfl (by decide) q367
theorem F_X0_350_18 : xFld RX0 350 18 6 := xFld.mk (q := (RX18, TX18, 9)) rfl (by decide) q367
theorem F_X0_350_19 : xFld RX0 350 19 6 := xFld.mk (q := (RX19, TX19, 9)) rfl (by decide) q367
theorem F_X0_350_20 : xFld RX0 350 20 6 := xFld.mk (q := (RX20, TX20, 9)) rfl (by decide) q367
theorem F_X0_350_21 : xFld RX0 350 21 6 := xFld.mk (q := (RX21, TX21, 9)) rfl (by decide) q367
theorem F_X0_353_5 : xFld RX0 353 5 7 := xFld.mk (q := (RX5, TX5, 9)) rfl (by decide) q370
theorem F_X0_353_8 : xFld RX0 353 8 7 := xFld.mk (q := (RX8, TX8, 9)) rfl (by decide) q370
theorem F_X0_353_15 : xFld RX0 353 15 7 := xFld.mk (q := (RX15, TX15, 9)) rfl (by decide) q370
theorem F_X0_353_16 : xFld RX0 353 16 7 := xFld.mk (q := (RX16, TX16, 9)) rfl (by decide) q370
theorem F_X0_353_17 : xFld RX0 353 17 7 := xFld.mk (q := (RX17, TX17, 9)) rfl (by decide) q370
theorem F_X0_353_18 : xFld RX0 353 18 7 := xFld.mk (q := (RX18, TX18, 9)) rfl (by decide) q370
theorem F_X0_353_19 : xFld RX0 353 19 7 := xFld.mk (q := (RX19, TX19, 9)) rfl (by decide) q370
theorem F_X0_353_20 : xFld RX0 353 20 7 := xFld.mk (q := (RX20, TX20, 9)) rfl (by decide) q370
theorem F_X0_353_21 : xFld RX0 353 21 7 := xFld.mk (q := (RX21, TX21, 9)) rfl (by decide) q370
theorem F_X0_356_5 : xFld RX0 356 5 8 := xFld.mk (q := (RX5, TX5, 9)) rfl (by decide) q373
theorem F_X0_356_8 : xFld RX0 356 8 8 := xFld.mk (q := (RX8, TX8, 9)) rfl (by decide) q373
theorem F_X0_356_15 : xFld RX0 356 15 8 := xFld.mk (q := (RX15, TX15, 9)) rfl (by decide) q373
theorem F_X0_356_16 : xFld RX0 356 16 8 := xFld.mk (q := (RX16, TX16, 9)) rfl (by decide) q373
theorem F_X0_356_17 : xFld RX0 356 17 8 := xFld.mk (q := (RX17, TX17, 9)) rfl (by decide) q373
theorem F_X0_356_18 : xFld RX0 356 18 8 := xFld.mk (q := (RX18, TX18, 9)) rfl (by decide) q373
theorem F_X0_356_19 : xFld RX0 356 19 8 := xFld.mk (q := (RX19, TX19, 9)) rfl (by decide) q373
theorem F_X0_356_20 : xFld RX0 356 20 8 := xFld.mk (q := (RX20, TX20, 9)) rfl (by decide) q373
theorem F_X0_356_21 : xFld RX0 356 21 8 := xFld.mk (q := (RX21, TX21, 9)) rfl (by decide) q373
theorem F_X0_366_9 : xFld RX0 366 9 10 := xFld.mkN (q := (RX9, TX9, 13)) rfl (by decide) q542
theorem F_X0_376_10 : xFld RX0 376 10 0 := xFld.mkN (q := (RX10, TX10, 5)) rfl (by decide) q662
theorem F_X0_383_10 : xFld RX0 383 10 1 := xFld.mkN (q := (RX10, TX10, 5)) rfl (by decide) q664
theorem F_X0_388_10 : xFld RX0 388 10 2 := xFld.mkN (q := (RX10, TX10, 5)) rfl (by decide) q666
theorem F_X0_438_23 : xFld RX0 438 23 6 := xFld.mk (q := (RX23, TX23, 8)) rfl (by decide) q1996
theorem F_X0_441_23 : xFld RX0 441 23 7 := xFld.mk (q := (RX23, TX23, 8)) rfl (by decide) q1998
theorem F_X0_467_14 : xFld RX0 467 14 6 := xFld.mk (q := (RX14, TX14, 7)) rfl (by decide) q2184
theorem F_X11_9_11 : xFld RX11 9 11 0 := xFld.mk (q := (RX11, TX11, 6)) rfl (by decide) q628
theorem F_X11_15_11 : xFld RX11 15 11 1 := xFld.mk (q := (RX11, TX11, 6)) rfl (by decide) q629
theorem F_X11_18_11 : xFld RX11 18 11 2 := xFld.mk (q := (RX11, TX11, 6)) rfl (by decide) q630
theorem F_X11_21_11 : xFld RX11 21 11 3 := xFld.mk (q := (RX11, TX11, 6)) rfl (by decide) q631
theorem F_X11_25_11 : xFld RX11 25 11 4 := xFld.mk (q := (RX11, TX11, 6)) rfl (by decide) q632
theorem F_X11_28_11 : xFld RX11 28 11 5 := xFld.mk (q := (RX11, TX11, 6)) rfl (by decide) q633
theorem F_X10_1_10 : xFld RX10 1 10 4 := xFld.mk (q := (RX10, TX10, 5)) rfl (by decide) q669
theorem F_X10_16_10 : xFld RX10 16 10 0 := xFld.mk (q := (RX10, TX10, 5)) rfl (by decide) q661
theorem F_X10_26_10 : xFld RX10 26 10 1 := xFld.mk (q := (RX10, TX10, 5)) rfl (by decide) q663
theorem F_X10_34_0 : xFld RX10 34 0 3 := xFld.mkN (q := (RX0, TX0, 23)) rfl (by decide) q720
theorem F_X10_42_10 : xFld RX10 42 10 2 := xFld.mk (q := (RX10, TX10, 5)) rfl (by decide) q665
theorem F_X10_48_0 : xFld RX10 48 0 1 := xFld.mkN (q := (RX0, TX0, 23)) rfl (by decide) q716
theorem F_X10_61_10 : xFld RX10 61 10 3 := xFld.mk (q := (RX10, TX10, 5)) rfl (by decide) q667
theorem F_X10_64_11 : xFld RX10 64 11 5 := xFld.mk (q := (RX11, TX11, 6)) rfl (by decide) q634
theorem F_X10_68_0 : xFld RX10 68 0 2 := xFld.mkN (q := (RX0, TX0, 23)) rfl (by decide) q718
theorem F_X10_75_0 : xFld RX10 75 0 0 := xFld.mkN (q := (RX0, TX0, 23)) rfl (by decide) q715
theorem F_X18_9_5 : xFld RX18 9 5 1 := xFld.mkS (q := (RX5, TX5, 9)) rfl (by decide) q342 q341
theorem F_X18_9_8 : xFld RX18 9 8 1 := xFld.mkS (q := (RX8, TX8, 9)) rfl (by decide) q342 q341
theorem F_X18_9_15 : xFld RX18 9 15 1 := xFld.mkS (q := (RX15, TX15, 9)) rfl (by decide) q342 q341
theorem F_X18_9_16 : xFld RX18 9 16 1 := xFld.mkS (q := (RX16, TX16, 9)) rfl (by decide) q342 q341
theorem F_X18_9_17 : xFld RX18 9 17 1 := xFld.mkS (q := (RX17, TX17, 9)) rfl (by decide) q342 q341
theorem F_X18_9_18 : xFld RX18 9 18 1 := xFld.mkS (q := (RX18, TX18, 9)) rfl (by decide) q342 q341
theorem F_X18_9_19 : xFld RX18 9 19 1 := xFld.mkS (q := (RX19, TX19, 9)) rfl (by decide) q342 q341
theorem F_X18_9_20 : xFld RX18 9 20 1 := xFld.mkS (q := (RX20, TX20, 9)) rfl (by decide) q342 q341
theorem F_X18_9_21 : xFld RX18 9 21 1 := xFld.mkS (q := (RX21, TX21, 9)) rfl (by decide) q342 q341
theorem F_X2_7_2 : xFld RX2 7 2 0 := xFld.mk (q := (RX2, TX2, 1)) rfl (by decide) q229
theorem F_X16_9_5 : xFld RX16 9 5 1 := xFld.mkS (q := (RX5, TX5, 9)) rfl (by decide) q336 q335
theorem F_X16_9_8 : xFld RX16 9 8 1 := xFld.mkS (q := (RX8, TX8, 9)) rfl (by decide) q336 q335
theorem F_X16_9_15 : xFld RX16 9 15 1 := xFld.mkS (q := (RX15, TX15, 9)) rfl (by decide) q336 q335
theorem F_X16_9_16 : xFld RX16 9 16 1 := xFld.mkS (q := (RX16, TX16, 9)) rfl (by decide) q336 q335
theorem F_X16_9_17 : xFld RX16 9 17 1 := xFld.mkS (q := (RX17, TX17, 9)) rfl (by decide) q336 q335
theorem F_X16_9_18 : xFld RX16 9 18 1 := xFld.mkS (q := (RX18, TX18, 9)) rfl (by decide) q336 q335
theorem F_X16_9_19 : xFld RX16 9 19 1 := xFld.mkS (q := (RX19, TX19, 9)) rfl (by decide) q336 q335
theorem F_X16_9_20 : xFld RX16 9 20 1 := xFld.mkS (q := (RX20, TX20, 9)) rfl (by decide) q336 q335
theorem F_X16_9_21 : xFld RX16 9 21 1 := xFld.mkS (q := (RX21, TX21, 9)) rfl (by decide) q336 q335
theorem F_X16_15_5 : xFld RX16 15 5 2 := xFld.mkS (q := (RX5, TX5, 9)) rfl (by decide) q348 q347
theorem F_X16_15_8 : xFld RX16 15 8 2 := xFld.mkS (q := (RX8, TX8, 9)) rfl (by decide) q348 q347
theorem F_X16_15_15 : xFld RX16 15 15 2 := xFld.mkS (q := (RX15, TX15, 9)) rfl (by decide) q348 q347
theorem F_X16_15_16 : xFld RX16 15 16 2 := xFld.mkS (q := (RX16, TX16, 9)) rfl (by decide) q348 q347
theorem F_X16_15_17 : xFld RX16 15 17 2 := xFld.mkS (q := (RX17, TX17, 9)) rfl (by decide) q348 q347
theorem F_X16_15_18 : xFld RX16 15 18 2 := xFld.mkS (q := (RX18, TX18, 9)) rfl (by decide) q348 q347
theorem F_X16_15_19 : xFld RX16 15 19 2 := xFld.mkS (q := (RX19, TX19, 9)) rfl (by decide) q348 q347
theorem F_X16_15_20 : xFld RX16 15 20 2 := xFld.mkS (q := (RX20, TX20, 9)) rfl (by decide) q348 q347
theorem F_X16_15_21 : xFld RX16 15 21 2 := xFld.mkS (q := (RX21, TX21, 9)) rfl (by decide) q348 q347
theorem F_X9_3_9 : xFld RX9 3 9 12 := xFld.mk (q := (RX9, TX9, 13)) rfl (by decide) q545
theorem F_X9_15_9 : xFld RX9 15 9 2 := xFld.mk (q := (RX9, TX9, 13)) rfl (by decide) q532
theorem F_X9_19_9 : xFld RX9 19 9 3 := xFld.mk (q := (RX9, TX9, 13)) rfl (by decide) q533
theorem F_X9_22_9 : xFld RX9 22 9 4 := xFld.mk (q := (RX9, TX9, 13)) rfl (by decide) q534
theorem F_X9_30_9 : xFld RX9 30 9 9 := xFld.mk (q := (RX9, TX9, 13)) rfl (by decide) q540
theorem F_X9_38_9 : xFld RX9 38 9 11 := xFld.mk (q := (RX9, TX9, 13)) rfl (by decide) q543
theorem F_X9_41_9 : xFld RX9 41 9 0 := xFld.mk (q := (RX9, TX9, 13)) rfl (by decide) q530
theorem F_X9_45_9 : xFld RX9 45 9 1 := xFld.mk (q := (RX9, TX9, 13)) rfl (by decide) q531
theorem F_X9_48_0 : xFld RX9 48 0 8 := xFld.mkN (q := (RX0, TX0, 23)) rfl (by decide) q731
theorem F_X9_64_9 : xFld RX9 64 9 6 := xFld.mk (q := (RX9, TX9, 13)) rfl (by decide) q536
theorem F_X9_67_9 : xFld RX9 67 9 5 := xFld.mk (q := (RX9, TX9, 13)) rfl (by decide) q535
theorem F_X9_70_9 : xFld RX9 70 9 7 := xFld.mk (q := (RX9, TX9, 13)) rfl (by decide) q537
theorem F_X9_77_5 : xFld RX9 77 5 6 := xFld.mk (q := (RX5, TX5, 9)) rfl (by decide) q366
theorem F_X9_77_8 : xFld RX9 77 8 6 := xFld.mk (q := (RX8, TX8, 9)) rfl (by decide) q366
theorem F_X9_77_15 : xFld RX9 77 15 6 := xFld.mk (q := (RX15, TX15, 9)) rfl (by decide) q366
theorem F_X9_77_16 : xFld RX9 77 16 6 := xFld.mk (q := (RX16, TX16, 9)) rfl (by decide) q366
theorem F_X9_77_17 : xFld RX9 77 17 6 := xFld.mk (q := (RX17, TX17, 9)) rfl (by decide) q366
theorem F_X9_77_18 : xFld RX9 77 18 6 := xFld.mk (q := (RX18, TX18, 9)) rfl (by decide) q366
theorem F_X9_77_19 : xFld RX9 77 19 6 := xFld.mk (q := (RX19, TX19, 9)) rfl (by decide) q366
theorem F_X9_77_20 : xFld RX9 77 20 6 := xFld.mk (q := (RX20, TX20, 9)) rfl (by decide) q366
theorem F_X9_77_21 : xFld RX9 77 21 6 := xFld.mk (q := (RX21, TX21, 9)) rfl (by decide) q366
theorem F_X9_87_5 : xFld RX9 87 5 3 := xFld.mk (q := (RX5, TX5, 9)) rfl (by decide) q357
theorem F_X9_87_8 : xFld RX9 87 8 3 := xFld.mk (q := (RX8, TX8, 9)) rfl (by decide) q357
theorem F_X9_87_15 : xFld RX9 87 15 3 := xFld.mk (q := (RX15, TX15, 9)) rfl (by decide) q357
theorem F_X9_87_16 : xFld RX9 87 16 3 := xFld.mk (q := (RX16, TX16, 9)) rfl (by decide) q357
theorem F_X9_87_17 : xFld RX9 87 17 3 := xFld.mk (q := (RX17, TX17, 9)) rfl (by decide) q357
theorem F_X9_87_18 : xFld RX9 87 18 3 := xFld.mk (q := (RX18, TX18, 9)) rfl (by decide) q357
theorem F_X9_87_19 : xFld RX9 87 19 3 := xFld.mk (q := (RX19, TX19, 9)) rfl (by decide) q357
theorem F_X9_87_20 : xFld RX9 87 20 3 := xFld.mk (q := (RX20, TX20, 9)) rfl (by decide) q357
theorem F_X9_87_21 : xFld RX9 87 21 3 := xFld.mk (q := (RX21, TX21, 9)) rfl (by decide) q357
theorem F_X9_94_1 : xFld RX9 94 1 0 := xFld.mk (q := (RX1, TX1, 3)) rfl (by decide) q240
theorem F_X9_102_2 : xFld RX9 102 2 0 := xFld.mk (q := (RX2, TX2, 1)) rfl (by decide) q230
theorem F_X9_128_9 : xFld RX9 128 9 8 := xFld.mk (q := (RX9, TX9, 13)) rfl (by decide) q538
theorem F_X9_135_9 : xFld RX9 135 9 10 := xFld.mk (q := (RX9, TX9, 13)) rfl (by decide) q541
theorem F_X9_151_0 : xFld RX9 151 0 9 := xFld.mkN (q := (RX0, TX0, 23)) rfl (by decide) q734
theorem F_X9_154_0 : xFld RX9 154 0 7 := xFld.mkN (q := (RX0, TX0, 23)) rfl (by decide) q729
theorem F_X9_157_0 : xFld RX9 157 0 5 := xFld.mkN (q := (RX0, TX0, 23)) rfl (by decide) q725
theorem F_X9_160_0 : xFld RX9 160 0 6 := xFld.mkN (q := (RX0, TX0, 23)) rfl (by decide) q727
theorem F_X9_163_0 : xFld RX9 163 0 14 := xFld.mkN (q := (RX0, TX0, 23)) rfl (by decide) q742
theorem F_X9_172_11 : xFld RX9 172 11 5 := xFld.mk (q := (RX11, TX11, 6)) rfl (by decide) q635
theorem F_X9_202_0 : xFld RX9 202 0 13 := xFld.mkN (q := (RX0, TX0, 23)) rfl (by decide) q740
theorem F_X9_211_5 : xFld RX9 211 5 5 := xFld.mk (q := (RX5, TX5, 9)) rfl (by decide) q363
theorem F_X9_211_8 : xFld RX9 211 8 5 := xFld.mk (q := (RX8, TX8, 9)) rfl (by decide) q363
theorem F_X9_211_15 : xFld RX9 211 15 5 := xFld.mk (q := (RX15, TX15, 9)) rfl (by decide) q363
theorem F_X9_211_16 : xFld RX9 211 16 5 := xFld.mk (q := (RX16, TX16, 9)) rfl (by decide) q363
theorem F_X9_211_17 : xFld RX9 211 17 5 := xFld.mk (q := (RX17, TX17, 9)) rfl (by decide) q363
theorem F_X9_211_18 : xFld RX9 211 18 5 := xFld.mk (q := (RX18, TX18, 9)) rfl (by decide) q363
theorem F_X9_211_19 : xFld RX9 211 19 5 := xFld.mk (q := (RX19, TX19, 9)) rfl (by decide) q363
theorem F_X9_211_20 : xFld RX9 211 20 5 := xFld.mk (q := (RX20, TX20, 9)) rfl (by decide) q363
theorem F_X9_211_21 : xFld RX9 211 21 5 := xFld.mk (q := (RX21, TX21, 9)) rfl (by decide) q363
theorem F_X9_214_5 : xFld RX9 214 5 4 := xFld.mk (q := (RX5, TX5, 9)) rfl (by decide) q361
theorem F_X9_214_8 : xFld RX9 214 8 4 := xFld.mk (q := (RX8, TX8, 9)) rfl (by decide) q361
theorem F_X9_214_15 : xFld RX9 214 15 4 := xFld.mk (q := (RX15, TX15, 9)) rfl (by decide) q361
theorem F_X9_214_16 : xFld RX9 214 16 4 := xFld.mk (q := (RX16, TX16, 9)) rfl (by decide) q361
theorem F_X9_214_17 : xFld RX9 214 17 4 := xFld.mk (q := (RX17, TX17, 9)) rfl (by decide) q361
theorem F_X9_214_18 : xFld RX9 214 18 4 := xFld.mk (q := (RX18, TX18, 9)) rfl (by decide) q361
theorem F_X9_214_19 : xFld RX9 214 19 4 := xFld.mk (q := (RX19, TX19, 9)) rfl (by decide) q361
theorem F_X9_214_20 : xFld RX9 214 20 4 := xFld.mk (q := (RX20, TX20, 9)) rfl (by decide) q361
theorem F_X9_214_21 : xFld RX9 214 21 4 := xFld.mk (q := (RX21, TX21, 9)) rfl (by decide) q361
theorem F_X9_225_1 : xFld RX9 225 1 1 := xFld.mk (q := (RX1, TX1, 3)) rfl (by decide) q243
theorem F_X9_236_0 : xFld RX9 236 0 17 := xFld.mkN (q := (RX0, TX0, 23)) rfl (by decide) q746
theorem F_X9_254_0 : xFld RX9 254 0 4 := xFld.mkN (q := (RX0, TX0, 23)) rfl (by decide) q723
theorem F_X9_260_5 : xFld RX9 260 5 7 := xFld.mk (q := (RX5, TX5, 9)) rfl (by decide) q369
theorem F_X9_260_8 : xFld RX9 260 8 7 := xFld.mk (q := (RX8, TX8, 9)) rfl (by decide) q369
theorem F_X9_260_15 : xFld RX9 260 15 7 := xFld.mk (q := (RX15, TX15, 9)) rfl (by decide) q369
theorem F_X9_260_16 : xFld RX9 260 16 7 := xFld.mk (q := (RX16, TX16, 9)) rfl (by decide) q369
theorem F_X9_260_17 : xFld RX9 260 17 7 := xFld.mk (q := (RX17, TX17, 9)) rfl (by decide) q369
theorem F_X9_260_18 : xFld RX9 260 18 7 := xFld.mk (q := (RX18, TX18, 9)) rfl (by decide) q369
theorem F_X9_260_19 : xFld RX9 260 19 7 := xFld.mk (q := (RX19, TX19, 9)) rfl (by decide) q369
theorem F_X9_260_20 : xFld RX9 260 20 7 := xFld.mk (q := (RX20, TX20, 9)) rfl (by decide) q369
theorem F_X9_260_21 : xFld RX9 260 21 7 := xFld.mk (q := (RX21, TX21, 9)) rfl (by decide) q369
theorem F_X9_266_5 : xFld RX9 266 5 8 := xFld.mk (q := (RX5, TX5, 9)) rfl (by decide) q372
theorem F_X9_266_8 : xFld RX9 266 8 8 := xFld.mk (q := (RX8, TX8, 9)) rfl (by decide) q372
theorem F_X9_266_15 : xFld RX9 266 15 8 := xFld.mk (q := (RX15, TX15, 9)) rfl (by decide) q372
theorem F_X9_266_16 : xFld RX9 266 16 8 := xFld.mk (q := (RX16, TX16, 9)) rfl (by decide) q372
theorem F_X9_266_17 : xFld RX9 266 17 8 := xFld.mk (q := (RX17, TX17, 9)) rfl (by decide) q372
theorem F_X9_266_18 : xFld RX9 266 18 8 := xFld.mk (q := (RX18, TX18, 9)) rfl (by decide) q372
theorem F_X9_266_19 : xFld RX9 266 19 8 := xFld.mk (q := (RX19, TX19, 9)) rfl (by decide) q372
theorem F_X9_266_20 : xFld RX9 266 20 8 := xFld.mk (q := (RX20, TX20, 9)) rfl (by decide) q372
theorem F_X9_266_21 : xFld RX9 266 21 8 := xFld.mk (q := (RX21, TX21, 9)) rfl (by decide) q372
theorem F_X9_278_0 : xFld RX9 278 0 11 := xFld.mkN (q := (RX0, TX0, 23)) rfl (by decide) q737
theorem F_X6_14_6 : xFld RX6 14 6 0 := xFld.mk (q := (RX6, TX6, 3)) rfl (by decide) q322
theorem F_X6_20_6 : xFld RX6 20 6 1 := xFld.mk (q := (RX6, TX6, 3)) rfl (by decide) q323
theorem F_X6_24_6 : xFld RX6 24 6 2 := xFld.mk (q := (RX6, TX6, 3)) rfl (by decide) q324
theorem F_X3_7_3 : xFld RX3 7 3 0 := xFld.mk (q := (RX3, TX3, 4)) rfl (by decide) q267
theorem F_X3_19_3 : xFld RX3 19 3 1 := xFld.mk (q := (RX3, TX3, 4)) rfl (by decide) q268
theorem F_X3_23_3 : xFld RX3 23 3 2 := xFld.mk (q := (RX3, TX3, 4)) rfl (by decide) q269
theorem F_X3_26_3 : xFld RX3 26 3 3 := xFld.mk (q := (RX3, TX3, 4)) rfl (by decide) q270
theorem F_X15_9_5 : xFld RX15 9 5 1 := xFld.mkS (q := (RX5, TX5, 9)) rfl (by decide) q340 q339
theorem F_X15_9_8 : xFld RX15 9 8 1 := xFld.mkS (q := (RX8, TX8, 9)) rfl (by decide) q340 q339
theorem F_X15_9_15 : xFld RX15 9 15 1 := xFld.mkS (q := (RX15, TX15, 9)) rfl (by decide) q340 q339
theorem F_X15_9_16 : xFld RX15 9 16 1 := xFld.mkS (q := (RX16, TX16, 9)) rfl (by decide) q340 q339
theorem F_X15_9_17 : xFld RX15 9 17 1 := xFld.mkS (q := (RX17, TX17, 9)) rfl (by decide) q340 q339
theorem F_X15_9_18 : xFld RX15 9 18 1 := xFld.mkS (q := (RX18, TX18, 9)) rfl (by decide) q340 q339
theorem F_X15_9_19 : xFld RX15 9 19 1 := xFld.mkS (q := (RX19, TX19, 9)) rfl (by decide) q340 q339
theorem F_X15_9_20 : xFld RX15 9 20 1 := xFld.mkS (q := (RX20, TX20, 9)) rfl (by decide) q340 q339
theorem F_X15_9_21 : xFld RX15 9 21 1 := xFld.mkS (q := (RX21, TX21, 9)) rfl (by decide) q340 q339
theorem F_X15_15_5 : xFld RX15 15 5 2 := xFld.mkS (q := (RX5, TX5, 9)) rfl (by decide) q352 q351
theorem F_X15_15_8 : xFld RX15 15 8 2 := xFld.mkS (q := (RX8, TX8, 9)) rfl (by decide) q352 q351
theorem F_X15_15_15 : xFld RX15 15 15 2 := xFld.mkS (q := (RX15, TX15, 9)) rfl (by decide) q352 q351
theorem F_X15_15_16 : xFld RX15 15 16 2 := xFld.mkS (q := (RX16, TX16, 9)) rfl (by decide) q352 q351
theorem F_X15_15_17 : xFld RX15 15 17 2 := xFld.mkS (q := (RX17, TX17, 9)) rfl (by decide) q352 q351
theorem F_X15_15_18 : xFld RX15 15 18 2 := xFld.mkS (q := (RX18, TX18, 9)) rfl (by decide) q352 q351
theorem F_X15_15_19 : xFld RX15 15 19 2 := xFld.mkS (q := (RX19, TX19, 9)) rfl (by decide) q352 q351
theorem F_X15_15_20 : xFld RX15 15 20 2 := xFld.mkS (q := (RX20, TX20, 9)) rfl (by decide) q352 q351
theorem F_X15_15_21 : xFld RX15 15 21 2 := xFld.mkS (q := (RX21, TX21, 9)) rfl (by decide) q352 q351
theorem F_X4_13_5 : xFld RX4 13 5 4 := xFld.mk (q := (RX5, TX5, 9)) rfl (by decide) q359
theorem F_X4_13_8 : xFld RX4 13 8 4 := xFld.mk (q := (RX8, TX8, 9)) rfl (by decide) q359
theorem F_X4_13_15 : xFld RX4 13 15 4 := xFld.mk (q := (RX15, TX15, 9)) rfl (by decide) q359
theorem F_X4_13_16 : xFld RX4 13 16 4 := xFld.mk (q := (RX16, TX16, 9)) rfl (by decide) q359
theorem F_X4_13_17 : xFld RX4 13 17 4 := xFld.mk (q := (RX17, TX17, 9)) rfl (by decide) q359
theorem F_X4_13_18 : xFld RX4 13 18 4 := xFld.mk (q := (RX18, TX18, 9)) rfl (by decide) q359
theorem F_X4_13_19 : xFld RX4 13 19 4 := xFld.mk (q := (RX19, TX19, 9)) rfl (by decide) q359
theorem F_X4_13_20 : xFld RX4 13 20 4 := xFld.mk (q := (RX20, TX20, 9)) rfl (by decide) q359
theorem F_X4_13_21 : xFld RX4 13 21 4 := xFld.mk (q := (RX21, TX21, 9)) rfl (by decide) q359
theorem F_X4_19_5 : xFld RX4 19 5 0 := xFld.mk (q := (RX5, TX5, 9)) rfl (by decide) q332
theorem F_X4_19_8 : xFld RX4 19 8 0 := xFld.mk (q := (RX8, TX8, 9)) rfl (by decide) q332
theorem F_X4_19_15 : xFld RX4 19 15 0 := xFld.mk (q := (RX15, TX15, 9)) rfl (by decide) q332
theorem F_X4_19_16 : xFld RX4 19 16 0 := xFld.mk (q := (RX16, TX16, 9)) rfl (by decide) q332
theorem F_X4_19_17 : xFld RX4 19 17 0 := xFld.mk (q := (RX17, TX17, 9)) rfl (by decide) q332
theorem F_X4_19_18 : xFld RX4 19 18 0 := xFld.mk (q := (RX18, TX18, 9)) rfl (by decide) q332
theorem F_X4_19_19 : xFld RX4 19 19 0 := xFld.mk (q := (RX19, TX19, 9)) rfl (by decide) q332
theorem F_X4_19_20 : xFld RX4 19 20 0 := xFld.mk (q := (RX20, TX20, 9)) rfl (by decide) q332
theorem F_X4_19_21 : xFld RX4 19 21 0 := xFld.mk (q := (RX21, TX21, 9)) rfl (by decide) q332
theorem F_X4_23_5 : xFld RX4 23 5 1 := xFld.mk (q := (RX5, TX5, 9)) rfl (by decide) q334
theorem F_X4_23_8 : xFld RX4 23 8 1 := xFld.mk (q := (RX8, TX8, 9)) rfl (by decide) q334
theorem F_X4_23_15 : xFld RX4 23 15 1 := xFld.mk (q := (RX15, TX15, 9)) rfl (by decide) q334
theorem F_X4_23_16 : xFld RX4 23 16 1 := xFld.mk (q := (RX16, TX16, 9)) rfl (by decide) q334
theorem F_X4_23_17 : xFld RX4 23 17 1 := xFld.mk (q := (RX17, TX17, 9)) rfl (by decide) q334
theorem F_X4_23_18 : xFld RX4 23 18 1 := xFld.mk (q := (RX18, TX18, 9)) rfl (by decide) q334
theorem F_X4_23_19 : xFld RX4 23 19 1 := xFld.mk (q := (RX19, TX19, 9)) rfl (by decide) q334
theorem F_X4_23_20 : xFld RX4 23 20 1 := xFld.mk (q := (RX20, TX20, 9)) rfl (by decide) q334
theorem F_X4_23_21 : xFld RX4 23 21 1 := xFld.mk (q := (RX21, TX21, 9)) rfl (by decide) q334
theorem F_X4_26_5 : xFld RX4 26 5 2 := xFld.mk (q := (RX5, TX5, 9)) rfl (by decide) q346
theorem F_X4_26_8 : xFld RX4 26 8 2 := xFld.mk (q := (RX8, TX8, 9)) rfl (by decide) q346
theorem F_X4_26_15 : xFld RX4 26 15 2 := xFld.mk (q := (RX15, TX15, 9)) rfl (by decide) q346
theorem F_X4_26_16 : xFld RX4 26 16 2 := xFld.mk (q := (RX16, TX16, 9)) rfl (by decide) q346
theorem F_X4_26_17 : xFld RX4 26 17 2 := xFld.mk (q := (RX17, TX17, 9)) rfl (by decide) q346
theorem F_X4_26_18 : xFld RX4 26 18 2 := xFld.mk (q := (RX18, TX18, 9)) rfl (by decide) q346
theorem F_X4_26_19 : xFld RX4 26 19 2 := xFld.mk (q := (RX19, TX19, 9)) rfl (by decide) q346
theorem F_X4_26_20 : xFld RX4 26 20 2 := xFld.mk (q := (RX20, TX20, 9)) rfl (by decide) q346
theorem F_X4_26_21 : xFld RX4 26 21 2 := xFld.mk (q := (RX21, TX21, 9)) rfl (by decide) q346
theorem F_X4_29_5 : xFld RX4 29 5 3 := xFld.mk (q := (RX5, TX5, 9)) rfl (by decide) q354
theorem F_X4_29_8 : xFld RX4 29 8 3 := xFld.mk (q := (RX8, TX8, 9)) rfl (by decide) q354
theorem F_X4_29_15 : xFld RX4 29 15 3 := xFld.mk (q := (RX15, TX15, 9)) rfl (by decide) q354
theorem F_X4_29_16 : xFld RX4 29 16 3 := xFld.mk (q := (RX16, TX16, 9)) rfl (by decide) q354
theorem F_X4_29_17 : xFld RX4 29 17 3 := xFld.mk (q := (RX17, TX17, 9)) rfl (by decide) q354
theorem F_X4_29_18 : xFld RX4 29 18 3 := xFld.mk (q := (RX18, TX18, 9)) rfl (by decide) q354
theorem F_X4_29_19 : xFld RX4 29 19 3 := xFld.mk (q := (RX19, TX19, 9)) rfl (by decide) q354
theorem F_X4_29_20 : xFld RX4 29 20 3 := xFld.mk (q := (RX20, TX20, 9)) rfl (by decide) q354
theorem F_X4_29_21 : xFld RX4 29 21 3 := xFld.mk (q := (RX21, TX21, 9)) rfl (by decide) q354
theorem F_X4_54_5 : xFld RX4 54 5 5 := xFld.mk (q := (RX5, TX5, 9)) rfl (by decide) q362
theorem F_X4_54_8 : xFld RX4 54 8 5 := xFld.mk (q := (RX8, TX8, 9)) rfl (by decide) q362
theorem F_X4_54_15 : xFld RX4 54 15 5 := xFld.mk (q := (RX15, TX15, 9)) rfl (by decide) q362
theorem F_X4_54_16 : xFld RX4 54 16 5 := xFld.mk (q := (RX16, TX16, 9)) rfl (by decide) q362
theorem F_X4_54_17 : xFld RX4 54 17 5 := xFld.mk (q := (RX17, TX17, 9)) rfl (by decide) q362
theorem F_X4_54_18 : xFld RX4 54 18 5 := xFld.mk (q := (RX18, TX18, 9)) rfl (by decide) q362
theorem F_X4_54_19 : xFld RX4 54 19 5 := xFld.mk (q := (RX19, TX19, 9)) rfl (by decide) q362
theorem F_X4_54_20 : xFld RX4 54 20 5 := xFld.mk (q := (RX20, TX20, 9)) rfl (by decide) q362
theorem F_X4_54_21 : xFld RX4 54 21 5 := xFld.mk (q := (RX21, TX21, 9)) rfl (by decide) q362
theorem F_X4_57_5 : xFld RX4 57 5 6 := xFld.mk (q := (RX5, TX5, 9)) rfl (by decide) q365
theorem F_X4_57_8 : xFld RX4 57 8 6 := xFld.mk (q := (RX8, TX8, 9)) rfl (by decide) q365
theorem F_X4_57_15 : xFld RX4 57 15 6 := xFld.mk (q := (RX15, TX15, 9)) rfl (by decide) q365
theorem F_X4_57_16 : xFld RX4 57 16 6 := xFld.mk (q := (RX16, TX16, 9)) rfl (by decide) q365
theorem F_X4_57_17 : xFld RX4 57 17 6 := xFld.mk (q := (RX17, TX17, 9)) rfl (by decide) q365
theorem F_X4_57_18 : xFld RX4 57 18 6 := xFld.mk (q := (RX18, TX18, 9)) rfl (by decide) q365
theorem F_X4_57_19 : xFld RX4 57 19 6 := xFld.mk (q := (RX19, TX19, 9)) rfl (by decide) q365
theorem F_X4_57_20 : xFld RX4 57 20 6 := xFld.mk (q := (RX20, TX20, 9)) rfl (by decide) q365
theorem F_X4_57_21 : xFld RX4 57 21 6 := xFld.mk (q := (RX21, TX21, 9)) rfl (by decide) q365
theorem F_X4_60_5 : xFld RX4 60 5 7 := xFld.mk (q := (RX5, TX5, 9)) rfl (by decide) q368
theorem F_X4_60_8 : xFld RX4 60 8 7 := xFld.mk (q := (RX8, TX8, 9)) rfl (by decide) q368
theorem F_X4_60_15 : xFld RX4 60 15 7 := xFld.mk (q := (RX15, TX15, 9)) rfl (by decide) q368
theorem F_X4_60_16 : xFld RX4 60 16 7 := xFld.mk (q := (RX16, TX16, 9)) rfl (by decide) q368
theorem F_X4_60_17 : xFld RX4 60 17 7 := xFld.mk (q := (RX17, TX17, 9)) rfl (by decide) q368
theorem F_X4_60_18 : xFld RX4 60 18 7 := xFld.mk (q := (RX18, TX18, 9)) rfl (by decide) q368
theorem F_X4_60_19 : xFld RX4 60 19 7 := xFld.mk (q := (RX19, TX19, 9)) rfl (by decide) q368
theorem F_X4_60_20 : xFld RX4 60 20 7 := xFld.mk (q := (RX20, TX20, 9)) rfl (by decide) q368
theorem F_X4_60_21 : xFld RX4 60 21 7 := xFld.mk (q := (RX21, TX21, 9)) rfl (by decide) q368
theorem F_X4_63_5 : xFld RX4 63 5 8 := xFld.mk (q := (RX5, TX5, 9)) rfl (by decide) q371
theorem F_X4_63_8 : xFld RX4 63 8 8 := xFld.mk (q := (RX8, TX8, 9)) rfl (by decide) q371
theorem F_X4_63_15 : xFld RX4 63 15 8 := xFld.mk (q := (RX15, TX15, 9)) rfl (by decide) q371
theorem F_X4_63_16 : xFld RX4 63 16 8 := xFld.mk (q := (RX16, TX16, 9)) rfl (by decide) q371
theorem F_X4_63_17 : xFld RX4 63 17 8 := xFld.mk (q := (RX17, TX17, 9)) rfl (by decide) q371
theorem F_X4_63_18 : xFld RX4 63 18 8 := xFld.mk (q := (RX18, TX18, 9)) rfl (by decide) q371
theorem F_X4_63_19 : xFld RX4 63 19 8 := xFld.mk (q := (RX19, TX19, 9)) rfl (by decide) q371
theorem F_X4_63_20 : xFld RX4 63 20 8 := xFld.mk (q := (RX20, TX20, 9)) rfl (by decide) q371
theorem F_X4_63_21 : xFld RX4 63 21 8 := xFld.mk (q := (RX21, TX21, 9)) rfl (by decide) q371
theorem F_X13_3_13 : xFld RX13 3 13 2 := xFld.mk (q := (RX13, TX13, 3)) rfl (by decide) q2080
theorem F_X13_18_13 : xFld RX13 18 13 0 := xFld.mk (q := (RX13, TX13, 3)) rfl (by decide) q2078
theorem F_X13_22_13 : xFld RX13 22 13 1 := xFld.mk (q := (RX13, TX13, 3)) rfl (by decide) q2079
theorem F_X13_26_0 : xFld RX13 26 0 21 := xFld.mkN (q := (RX0, TX0, 23)) rfl (by decide) q750
theorem F_X22_1_22 : xFld RX22 1 22 3 := xFld.mk (q := (RX22, TX22, 4)) rfl (by decide) q1942
theorem F_X22_16_22 : xFld RX22 16 22 1 := xFld.mk (q := (RX22, TX22, 4)) rfl (by decide) q1940
theorem F_X22_20_22 : xFld RX22 20 22 0 := xFld.mk (q := (RX22, TX22, 4)) rfl (by decide) q1939
theorem F_X22_24_0 : xFld RX22 24 0 8 := xFld.mkN (q := (RX0, TX0, 23)) rfl (by decide) q730
theorem F_X22_39_22 : xFld RX22 39 22 2 := xFld.mk (q := (RX22, TX22, 4)) rfl (by decide) q1941
theorem F_X17_9_5 : xFld RX17 9 5 1 := xFld.mkS (q := (RX5, TX5, 9)) rfl (by decide) q338 q337
theorem F_X17_9_8 : xFld RX17 9 8 1 := xFld.mkS (q := (RX8, TX8, 9)) rfl (by decide) q338 q337
theorem F_X17_9_15 : xFld RX17 9 15 1 := xFld.mkS (q := (RX15, TX15, 9)) rfl (by decide) q338 q337
theorem F_X17_9_16 : xFld RX17 9 16 1 := xFld.mkS (q := (RX16, TX16, 9)) rfl (by decide) q338 q337
theorem F_X17_9_17 : xFld RX17 9 17 1 := xFld.mkS (q := (RX17, TX17, 9)) rfl (by decide) q338 q337
theorem F_X17_9_18 : xFld RX17 9 18 1 := xFld.mkS (q := (RX18, TX18, 9)) rfl (by decide) q338 q337
theorem F_X17_9_19 : xFld RX17 9 19 1 := xFld.mkS (q := (RX19, TX19, 9)) rfl (by decide) q338 q337
theorem F_X17_9_20 : xFld RX17 9 20 1 := xFld.mkS (q := (RX20, TX20, 9)) rfl (by decide) q338 q337
theorem F_X17_9_21 : xFld RX17 9 21 1 := xFld.mkS (q := (RX21, TX21, 9)) rfl (by decide) q338 q337
theorem F_X17_15_5 : xFld RX17 15 5 2 := xFld.mkS (q := (RX5, TX5, 9)) rfl (by decide) q350 q349
theorem F_X17_15_8 : xFld RX17 15 8 2 := xFld.mkS (q := (RX8, TX8, 9)) rfl (by decide) q350 q349
theorem F_X17_15_15 : xFld RX17 15 15 2 := xFld.mkS (q := (RX15, TX15, 9)) rfl (by decide) q350 q349
theorem F_X17_15_16 : xFld RX17 15 16 2 := xFld.mkS (q := (RX16, TX16, 9)) rfl (by decide) q350 q349
theorem F_X17_15_17 : xFld RX17 15 17 2 := xFld.mkS (q := (RX17, TX17, 9)) rfl (by decide) q350 q349
theorem F_X17_15_18 : xFld RX17 15 18 2 := xFld.mkS (q := (RX18, TX18, 9)) rfl (by decide) q350 q349
theorem F_X17_15_19 : xFld RX17 15 19 2 := xFld.mkS (q := (RX19, TX19, 9)) rfl (by decide) q350 q349
theorem F_X17_15_20 : xFld RX17 15 20 2 := xFld.mkS (q := (RX20, TX20, 9)) rfl (by decide) q350 q349
theorem F_X17_15_21 : xFld RX17 15 21 2 := xFld.mkS (q := (RX21, TX21, 9)) rfl (by decide) q350 q349
theorem F_X8_21_5 : xFld RX8 21 5 3 := xFld.mkS (q := (RX5, TX5, 9)) rfl (by decide) q356 q355
theorem F_X8_21_8 : xFld RX8 21 8 3 := xFld.mkS (q := (RX8, TX8, 9)) rfl (by decide) q356 q355
theorem F_X8_21_15 : xFld RX8 21 15 3 := xFld.mkS (q := (RX15, TX15, 9)) rfl (by decide) q356 q355
theorem F_X8_21_16 : xFld RX8 21 16 3 := xFld.mkS (q := (RX16, TX16, 9)) rfl (by decide) q356 q355
theorem F_X8_21_17 : xFld RX8 21 17 3 := xFld.mkS (q := (RX17, TX17, 9)) rfl (by decide) q356 q355
theorem F_X8_21_18 : xFld RX8 21 18 3 := xFld.mkS (q := (RX18, TX18, 9)) rfl (by decide) q356 q355
theorem F_X8_21_19 : xFld RX8 21 19 3 := xFld.mkS (q := (RX19, TX19, 9)) rfl (by decide) q356 q355
theorem F_X8_21_20 : xFld RX8 21 20 3 := xFld.mkS (q := (RX20, TX20, 9)) rfl (by decide) q356 q355
theorem F_X8_21_21 : xFld RX8 21 21 3 := xFld.mkS (q := (RX21, TX21, 9)) rfl (by decide) q356 q355
theorem F_X19_18_5 : xFld RX19 18 5 1 := xFld.mkS (q := (RX5, TX5, 9)) rfl (by decide) q344 q343
theorem F_X19_18_8 : xFld RX19 18 8 1 := xFld.mkS (q := (RX8, TX8, 9)) rfl (by decide) q344 q343
theorem F_X19_18_15 : xFld RX19 18 15 1 := xFld.mkS (q := (RX15, TX15, 9)) rfl (by decide) q344 q343
theorem F_X19_18_16 : xFld RX19 18 16 1 := xFld.mkS (q := (RX16, TX16, 9)) rfl (by decide) q344 q343
theorem F_X19_18_17 : xFld RX19 18 17 1 := xFld.mkS (q := (RX17, TX17, 9)) rfl (by decide) q344 q343
theorem F_X19_18_18 : xFld RX19 18 18 1 := xFld.mkS (q := (RX18, TX18, 9)) rfl (by decide) q344 q343
theorem F_X19_18_19 : xFld RX19 18 19 1 := xFld.mkS (q := (RX19, TX19, 9)) rfl (by decide) q344 q343
theorem F_X19_18_20 : xFld RX19 18 20 1 := xFld.mkS (q := (RX20, TX20, 9)) rfl (by decide) q344 q343
theorem F_X19_18_21 : xFld RX19 18 21 1 := xFld.mkS (q := (RX21, TX21, 9)) rfl (by decide) q344 q343
theorem F_X14_7_14 : xFld RX14 7 14 6 := xFld.mk (q := (RX14, TX14, 7)) rfl (by decide) q2183
theorem F_X1_7_1 : xFld RX1 7 1 0 := xFld.mk (q := (RX1, TX1, 3)) rfl (by decide) q239
theorem F_X1_13_1 : xFld RX1 13 1 1 := xFld.mk (q := (RX1, TX1, 3)) rfl (by decide) q242
theorem F_X1_16_1 : xFld RX1 16 1 2 := xFld.mk (q := (RX1, TX1, 3)) rfl (by decide) q245
theorem F_X23_7_23 : xFld RX23 7 23 6 := xFld.mk (q := (RX23, TX23, 8)) rfl (by decide) q1995
theorem F_X23_13_23 : xFld RX23 13 23 7 := xFld.mk (q := (RX23, TX23, 8)) rfl (by decide) q1997
theorem F_X12_9_12 : xFld RX12 9 12 0 := xFld.mk (q := (RX12, TX12, 81)) rfl (by decide) q2414
theorem F_X12_13_12 : xFld RX12 13 12 3 := xFld.mk (q := (RX12, TX12, 81)) rfl (by decide) q2417
theorem F_X12_16_12 : xFld RX12 16 12 4 := xFld.mk (q := (RX12, TX12, 81)) rfl (by decide) q2418
theorem F_X12_19_12 : xFld RX12 19 12 5 := xFld.mk (q := (RX12, TX12, 81)) rfl (by decide) q2419
theorem F_X12_22_12 : xFld RX12 22 12 6 := xFld.mk (q := (RX12, TX12, 81)) rfl (by decide) q2420
theorem F_X12_25_12 : xFld RX12 25 12 7 := xFld.mk (q := (RX12, TX12, 81)) rfl (by decide) q2421
theorem F_X12_29_12 : xFld RX12 29 12 8 := xFld.mk (q := (RX12, TX12, 81)) rfl (by decide) q2422
theorem F_X12_32_12 : xFld RX12 32 12 9 := xFld.mk (q := (RX12, TX12, 81)) rfl (by decide) q2423
theorem F_X12_35_12 : xFld RX12 35 12 10 := xFld.mk (q := (RX12, TX12, 81)) rfl (by decide) q2424
theorem F_X12_38_12 : xFld RX12 38 12 11 := xFld.mk (q := (RX12, TX12, 81)) rfl (by decide) q2425
theorem F_X12_41_12 : xFld RX12 41 12 12 := xFld.mk (q := (RX12, TX12, 81)) rfl (by decide) q2426
theorem F_X12_44_12 : xFld RX12 44 12 20 := xFld.mk (q := (RX12, TX12, 81)) rfl (by decide) q2434
theorem F_X12_47_12 : xFld RX12 47 12 21 := xFld.mk (q := (RX12, TX12, 81)) rfl (by decide) q2435
theorem F_X12_50_12 : xFld RX12 50 12 22 := xFld.mk (q := (RX12, TX12, 81)) rfl (by decide) q2436
theorem F_X12_53_12 : xFld RX12 53 12 23 := xFld.mk (q := (RX12, TX12, 81)) rfl (by decide) q2437
theorem F_X12_56_12 : xFld RX12 56 12 24 := xFld.mk (q := (RX12, TX12, 81)) rfl (by decide) q2438
theorem F_X12_60_12 : xFld RX12 60 12 25 := xFld.mk (q := (RX12, TX12, 81)) rfl (by decide) q2439
theorem F_X12_63_12 : xFld RX12 63 12 26 := xFld.mk (q := (RX12, TX12, 81)) rfl (by decide) q2440
theorem F_X12_66_12 : xFld RX12 66 12 27 := xFld.mk (q := (RX12, TX12, 81)) rfl (by decide) q2441
theorem F_X12_69_12 : xFld RX12 69 12 28 := xFld.mk (q := (RX12, TX12, 81)) rfl (by decide) q2442
theorem F_X12_72_12 : xFld RX12 72 12 29 := xFld.mk (q := (RX12, TX12, 81)) rfl (by decide) q2443
theorem F_X12_75_12 : xFld RX12 75 12 30 := xFld.mk (q := (RX12, TX12, 81)) rfl (by decide) q2444
theorem F_X12_78_12 : xFld RX12 78 12 31 := xFld.mk (q := (RX12, TX12, 81)) rfl (by decide) q2445
theorem F_X12_81_12 : xFld RX12 81 12 32 := xFld.mk (q := (RX12, TX12, 81)) rfl (by decide) q2446
theorem F_X12_84_12 : xFld RX12 84 12 33 := xFld.mk (q := (RX12, TX12, 81)) rfl (by decide) q2447
theorem F_X12_87_12 : xFld RX12 87 12 34 := xFld.mk (q := (RX12, TX12, 81)) rfl (by decide) q2448
theorem F_X12_90_12 : xFld RX12 90 12 35 := xFld.mk (q := (RX12, TX12, 81)) rfl (by decide) q2449
theorem F_X12_93_12 : xFld RX12 93 12 39 := xFld.mk (q := (RX12, TX12, 81)) rfl (by decide) q2453
theorem F_X12_96_12 : xFld RX12 96 12 40 := xFld.mk (q := (RX12, TX12, 81)) rfl (by decide) q2454
theorem F_X12_99_12 : xFld RX12 99 12 41 := xFld.mk (q := (RX12, TX12, 81)) rfl (by decide) q2455
theorem F_X12_102_12 : xFld RX12 102 12 42 := xFld.mk (q := (RX12, TX12, 81)) rfl (by decide) q2456
theorem F_X12_105_12 : xFld RX12 105 12 43 := xFld.mk (q := (RX12, TX12, 81)) rfl (by decide) q2457
theorem F_X12_108_12 : xFld RX12 108 12 44 := xFld.mk (q := (RX12, TX12, 81)) rfl (by decide) q2458
theorem F_X12_111_12 : xFld RX12 111 12 45 := xFld.mk (q := (RX12, TX12, 81)) rfl (by decide) q2459
theorem F_X12_114_12 : xFld RX12 114 12 46 := xFld.mk (q := (RX12, TX12, 81)) rfl (by decide) q2460
theorem F_X12_117_12 : xFld RX12 117 12 47 := xFld.mk (q := (RX12, TX12, 81)) rfl (by decide) q2461
theorem F_X12_120_12 : xFld RX12 120 12 48 := xFld.mk (q := (RX12, TX12, 81)) rfl (by decide) q2462
theorem F_X12_123_12 : xFld RX12 123 12 49 := xFld.mk (q := (RX12, TX12, 81)) rfl (by decide) q2463
theorem F_X12_126_12 : xFld RX12 126 12 50 := xFld.mk (q := (RX12, TX12, 81)) rfl (by decide) q2464
theorem F_X12_129_12 : xFld RX12 129 12 51 := xFld.mk (q := (RX12, TX12, 81)) rfl (by decide) q2465
theorem F_X12_132_12 : xFld RX12 132 12 52 := xFld.mk (q := (RX12, TX12, 81)) rfl (by decide) q2466
theorem F_X12_135_12 : xFld RX12 135 12 53 := xFld.mk (q := (RX12, TX12, 81)) rfl (by decide) q2467
theorem F_X12_138_12 : xFld RX12 138 12 54 := xFld.mk (q := (RX12, TX12, 81)) rfl (by decide) q2468
theorem F_X12_141_12 : xFld RX12 141 12 55 := xFld.mk (q := (RX12, TX12, 81)) rfl (by decide) q2469
theorem F_X12_144_12 : xFld RX12 144 12 56 := xFld.mk (q := (RX12, TX12, 81)) rfl (by decide) q2470
theorem F_X12_148_12 : xFld RX12 148 12 57 := xFld.mk (q := (RX12, TX12, 81)) rfl (by decide) q2471
theorem F_X12_151_12 : xFld RX12 151 12 62 := xFld.mk (q := (RX12, TX12, 81)) rfl (by decide) q2476
theorem F_X12_154_12 : xFld RX12 154 12 63 := xFld.mk (q := (RX12, TX12, 81)) rfl (by decide) q2477
theorem F_X12_157_12 : xFld RX12 157 12 64 := xFld.mk (q := (RX12, TX12, 81)) rfl (by decide) q2478
theorem F_X12_160_12 : xFld RX12 160 12 65 := xFld.mk (q := (RX12, TX12, 81)) rfl (by decide) q2479
theorem F_X12_163_12 : xFld RX12 163 12 66 := xFld.mk (q := (RX12, TX12, 81)) rfl (by decide) q2480
theorem F_X12_166_12 : xFld RX12 166 12 67 := xFld.mk (q := (RX12, TX12, 81)) rfl (by decide) q2481
theorem F_X12_169_12 : xFld RX12 169 12 69 := xFld.mk (q := (RX12, TX12, 81)) rfl (by decide) q2483
theorem F_X12_172_12 : xFld RX12 172 12 70 := xFld.mk (q := (RX12, TX12, 81)) rfl (by decide) q2484
theorem F_X12_175_12 : xFld RX12 175 12 71 := xFld.mk (q := (RX12, TX12, 81)) rfl (by decide) q2485
theorem F_X12_178_12 : xFld RX12 178 12 72 := xFld.mk (q := (RX12, TX12, 81)) rfl (by decide) q2486
theorem F_X12_181_12 : xFld RX12 181 12 73 := xFld.mk (q := (RX12, TX12, 81)) rfl (by decide) q2487
theorem F_X12_184_12 : xFld RX12 184 12 74 := xFld.mk (q := (RX12, TX12, 81)) rfl (by decide) q2488
theorem F_X12_187_12 : xFld RX12 187 12 75 := xFld.mk (q := (RX12, TX12, 81)) rfl (by decide) q2489
theorem F_X12_190_12 : xFld RX12 190 12 76 := xFld.mk (q := (RX12, TX12, 81)) rfl (by decide) q2490
theorem F_X12_193_12 : xFld RX12 193 12 79 := xFld.mk (q := (RX12, TX12, 81)) rfl (by decide) q2493
theorem F_X12_196_12 : xFld RX12 196 12 2 := xFld.mk (q := (RX12, TX12, 81)) rfl (by decide) q2416
theorem F_X12_208_12 : xFld RX12 208 12 1 := xFld.mk (q := (RX12, TX12, 81)) rfl (by decide) q2415
theorem F_X12_212_12 : xFld RX12 212 12 60 := xFld.mk (q := (RX12, TX12, 81)) rfl (by decide) q2474
theorem F_X12_215_12 : xFld RX12 215 12 61 := xFld.mk (q := (RX12, TX12, 81)) rfl (by decide) q2475
theorem F_X12_243_12 : xFld RX12 243 12 15 := xFld.mk (q := (RX12, TX12, 81)) rfl (by decide) q2429
theorem F_X12_246_12 : xFld RX12 246 12 58 := xFld.mk (q := (RX12, TX12, 81)) rfl (by decide) q2472
theorem F_X12_249_12 : xFld RX12 249 12 59 := xFld.mk (q := (RX12, TX12, 81)) rfl (by decide) q2473
theorem F_X12_253_12 : xFld RX12 253 12 16 := xFld.mk (q := (RX12, TX12, 81)) rfl (by decide) q2430
theorem F_X12_256_12 : xFld RX12 256 12 18 := xFld.mk (q := (RX12, TX12, 81)) rfl (by decide) q2432
theorem F_X12_259_12 : xFld RX12 259 12 19 := xFld.mk (q := (RX12, TX12, 81)) rfl (by decide) q2433
theorem F_X12_262_12 : xFld RX12 262 12 37 := xFld.mk (q := (RX12, TX12, 81)) rfl (by decide) q2451
theorem F_X12_268_12 : xFld RX12 268 12 17 := xFld.mk (q := (RX12, TX12, 81)) rfl (by decide) q2431
theorem F_X12_271_12 : xFld RX12 271 12 14 := xFld.mk (q := (RX12, TX12, 81)) rfl (by decide) q2428
theorem F_X12_275_12 : xFld RX12 275 12 13 := xFld.mk (q := (RX12, TX12, 81)) rfl (by decide) q2427
theorem F_X12_291_12 : xFld RX12 291 12 68 := xFld.mk (q := (RX12, TX12, 81)) rfl (by decide) q2482
theorem F_X12_312_12 : xFld RX12 312 12 36 := xFld.mk (q := (RX12, TX12, 81)) rfl (by decide) q2450
theorem F_X12_318_12 : xFld RX12 318 12 38 := xFld.mk (q := (RX12, TX12, 81)) rfl (by decide) q2452
theorem F_X12_393_12 : xFld RX12 393 12 78 := xFld.mk (q := (RX12, TX12, 81)) rfl (by decide) q2492
theorem F_X12_396_12 : xFld RX12 396 12 77 := xFld.mk (q := (RX12, TX12, 81)) rfl (by decide) q2491
theorem F_X12_402_12 : xFld RX12 402 12 80 := xFld.mk (q := (RX12, TX12, 81)) rfl (by decide) q2494
theorem F_J12_15_43 : xFld RJ12 15 43 0 := xFld.mk (q := (RJ13, TJ13, 4)) rfl (by decide) q699
theorem F_J12_22_43 : xFld RJ12 22 43 1 := xFld.mk (q := (RJ13, TJ13, 4)) rfl (by decide) q700
theorem F_J12_73_43 : xFld RJ12 73 43 2 := xFld.mk (q := (RJ13, TJ13, 4)) rfl (by decide) q701
theorem F_J12_79_43 : xFld RJ12 79 43 3 := xFld.mk (q := (RJ13, TJ13, 4)) rfl (by decide) q703
theorem F_J14_1048_43 : xFld RJ14 1048 43 2 := xFld.mk (q := (RJ13, TJ13, 4)) rfl (by decide) q702
theorem F_J18_7_14 : xFld RJ18 7 14 0 := xFld.mk (q := (RX14, TX14, 7)) rfl (by decide) q1167
theorem F_J18_7_23 : xFld RJ18 7 23 0 := xFld.mk (q := (RX23, TX23, 8)) rfl (by decide) q1167
theorem F_J18_17_14 : xFld RJ18 17 14 1 := xFld.mk (q := (RX14, TX14, 7)) rfl (by decide) q1168
theorem F_J18_17_23 : xFld RJ18 17 23 1 := xFld.mk (q := (RX23, TX23, 8)) rfl (by decide) q1168
theorem F_J18_24_14 : xFld RJ18 24 14 2 := xFld.mk (q := (RX14, TX14, 7)) rfl (by decide) q1169
theorem F_J18_24_23 : xFld RJ18 24 23 2 := xFld.mk (q := (RX23, TX23, 8)) rfl (by decide) q1169
theorem F_J18_31_14 : xFld RJ18 31 14 3 := xFld.mk (q := (RX14, TX14, 7)) rfl (by decide) q1166
theorem F_J18_31_23 : xFld RJ18 31 23 3 := xFld.mk (q := (RX23, TX23, 8)) rfl (by decide) q1166
theorem F_J18_198_14 : xFld RJ18 198 14 4 := xFld.mk (q := (RX14, TX14, 7)) rfl (by decide) q1165
theorem F_J18_198_23 : xFld RJ18 198 23 4 := xFld.mk (q := (RX23, TX23, 8)) rfl (by decide) q1165
theorem F_J1_7_33 : xFld RJ1 7 33 0 := xFld.mk (q := (RJ3, TJ3, 4)) rfl (by decide) q182
theorem F_J1_7_34 : xFld RJ1 7 34 0 := xFld.mk (q := (RJ4, TJ4, 3)) rfl (by decide) q182
theorem F_J26_20_33 : xFld RJ26 20 33 0 := xFld.mk (q := (RJ3, TJ3, 4)) rfl (by decide) q187
theorem F_J26_20_34 : xFld RJ26 20 34 0 := xFld.mk (q := (RJ4, TJ4, 3)) rfl (by decide) q187
theorem F_J11_3_41 : xFld RJ11 3 41 0 := xFld.mk (q := (RJ11, TJ11, 3)) rfl (by decide) q587
theorem F_J11_20_41 : xFld RJ11 20 41 2 := xFld.mk (q := (RJ11, TJ11, 3)) rfl (by decide) q591
theorem F_J11_24_41 : xFld RJ11 24 41 1 := xFld.mk (q := (RJ11, TJ11, 3)) rfl (by decide) q590
theorem F_J25_26_41 : xFld RJ25 26 41 1 := xFld.mk (q := (RJ11, TJ11, 3)) rfl (by decide) q589
theorem F_J25_35_41 : xFld RJ25 35 41 0 := xFld.mk (q := (RJ11, TJ11, 3)) rfl (by decide) q588
theorem F_J4_9_34 : xFld RJ4 9 34 1 := xFld.mk (q := (RJ4, TJ4, 3)) rfl (by decide) q207
theorem F_J4_48_34 : xFld RJ4 48 34 2 := xFld.mk (q := (RJ4, TJ4, 3)) rfl (by decide) q210
theorem F_J4_63_33 : xFld RJ4 63 33 0 := xFld.mkS (q := (RJ3, TJ3, 4)) rfl (by decide) q186 q189
theorem F_J4_63_34 : xFld RJ4 63 34 0 := xFld.mkS (q := (RJ4, TJ4, 3)) rfl (by decide) q186 q189
theorem F_J20_1_50 : xFld RJ20 1 50 3 := xFld.mk (q := (RJ20, TJ20, 4)) rfl (by decide) q844
theorem F_J20_13_50 : xFld RJ20 13 50 1 := xFld.mk (q := (RJ20, TJ20, 4)) rfl (by decide) q842
theorem F_J20_17_33 : xFld RJ20 17 33 0 := xFld.mkS (q := (RJ3, TJ3, 4)) rfl (by decide) q186 q185
theorem F_J20_17_34 : xFld RJ20 17 34 0 := xFld.mkS (q := (RJ4, TJ4, 3)) rfl (by decide) q186 q185
theorem F_J20_22_50 : xFld RJ20 22 50 2 := xFld.mk (q := (RJ20, TJ20, 4)) rfl (by decide) q843
theorem F_J20_25_50 : xFld RJ20 25 50 0 := xFld.mk (q := (RJ20, TJ20, 4)) rfl (by decide) q841
theorem F_J20_28_34 : xFld RJ20 28 34 2 := xFld.mkN (q := (RJ4, TJ4, 3)) rfl (by decide) q209
theorem F_J20_37_34 : xFld RJ20 37 34 1 := xFld.mk (q := (RJ4, TJ4, 3)) rfl (by decide) q208
theorem F_J27_13_50 : xFld RJ27 13 50 0 := xFld.mkS (q := (RJ20, TJ20, 4)) rfl (by decide) q840 q839
theorem F_J5_7_35 : xFld RJ5 7 35 1 := xFld.mk (q := (RJ5, TJ5, 3)) rfl (by decide) q312
theorem F_J5_11_35 : xFld RJ5 11 35 0 := xFld.mk (q := (RJ5, TJ5, 3)) rfl (by decide) q311
theorem F_J5_24_35 : xFld RJ5 24 35 2 := xFld.mk (q := (RJ5, TJ5, 3)) rfl (by decide) q313
theorem F_J3_7_33 : xFld RJ3 7 33 1 := xFld.mk (q := (RJ3, TJ3, 4)) rfl (by decide) q178
theorem F_J3_18_33 : xFld RJ3 18 33 2 := xFld.mk (q := (RJ3, TJ3, 4)) rfl (by decide) q180
theorem F_J3_27_33 : xFld RJ3 27 33 3 := xFld.mk (q := (RJ3, TJ3, 4)) rfl (by decide) q181
theorem F_J3_30_53 : xFld RJ3 30 53 2 := xFld.mk (q := (RJ23, TJ23, 3)) rfl (by decide) q1616
theorem F_J3_33_33 : xFld RJ3 33 33 0 := xFld.mkS (q := (RJ3, TJ3, 4)) rfl (by decide) q184 q188
theorem F_J3_33_34 : xFld RJ3 33 34 0 := xFld.mkS (q := (RJ4, TJ4, 3)) rfl (by decide) q184 q188
theorem F_J3_36_53 : xFld RJ3 36 53 1 := xFld.mk (q := (RJ23, TJ23, 3)) rfl (by decide) q1614
theorem F_J3_39_53 : xFld RJ3 39 53 0 := xFld.mk (q := (RJ23, TJ23, 3)) rfl (by decide) q1611
theorem F_J28_13_33 : xFld RJ28 13 33 0 := xFld.mkS (q := (RJ3, TJ3, 4)) rfl (by decide) q184 q183
theorem F_J28_13_34 : xFld RJ28 13 34 0 := xFld.mkS (q := (RJ4, TJ4, 3)) rfl (by decide) q184 q183
theorem F_J28_22_33 : xFld RJ28 22 33 1 := xFld.mk (q := (RJ3, TJ3, 4)) rfl (by decide) q179
theorem F_J28_49_53 : xFld RJ28 49 53 1 := xFld.mk (q := (RJ23, TJ23, 3)) rfl (by decide) q1613
theorem F_J28_52_53 : xFld RJ28 52 53 0 := xFld.mk (q := (RJ23, TJ23, 3)) rfl (by decide) q1610
theorem F_J23_7_53 : xFld RJ23 7 53 0 := xFld.mk (q := (RJ23, TJ23, 3)) rfl (by decide) q1609
theorem F_J23_13_53 : xFld RJ23 13 53 1 := xFld.mk (q := (RJ23, TJ23, 3)) rfl (by decide) q1612
theorem F_J23_17_53 : xFld RJ23 17 53 2 := xFld.mk (q := (RJ23, TJ23, 3)) rfl (by decide) q1615
