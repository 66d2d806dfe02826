/-! words of gNw by their places; a method is no MethodHandle's, and has its parameters -/
theorem nq446 : (Jvm.Cond.fieldLinkNest "java/util/ArrayList$Itr" (28 : Nat) "java/util/ArrayList" "size" "I" "java/util/ArrayList") ∈ gNw := List.mem_of_getElem? (i := 0) rfl
theorem nq472 : (Jvm.Cond.fieldLinkNest "java/util/TreeMap$PrivateEntryIterator" (13 : Nat) "java/util/TreeMap" "modCount" "I" "java/util/TreeMap") ∈ gNw := List.mem_of_getElem? (i := 1) rfl
theorem nq1457 : (Jvm.Cond.fieldLinkNest "Homewatcher" (182 : Nat) "Homewatcher$Task" "number" "I" "Homewatcher") ∈ gNw := List.mem_of_getElem? (i := 2) rfl
theorem nq1459 : (Jvm.Cond.fieldLinkNest "Homewatcher" (96 : Nat) "Homewatcher$Task" "classroom" "I" "Homewatcher") ∈ gNw := List.mem_of_getElem? (i := 3) rfl
theorem nq1461 : (Jvm.Cond.fieldLinkNest "Homewatcher" (111 : Nat) "Homewatcher$Task" "due" "I" "Homewatcher") ∈ gNw := List.mem_of_getElem? (i := 4) rfl
theorem nq1463 : (Jvm.Cond.fieldLinkNest "Homewatcher" (185 : Nat) "Homewatcher$Task" "full" "I" "Homewatcher") ∈ gNw := List.mem_of_getElem? (i := 5) rfl
theorem nq1465 : (Jvm.Cond.fieldLinkNest "Homewatcher" (191 : Nat) "Homewatcher$Task" "rule" "LHomewatcher$Rule;" "Homewatcher") ∈ gNw := List.mem_of_getElem? (i := 6) rfl
theorem nq1634 : (Jvm.Cond.fieldLinkNest "Homewatcher" (289 : Nat) "Homewatcher$Version" "number" "I" "Homewatcher") ∈ gNw := List.mem_of_getElem? (i := 7) rfl
theorem nq1636 : (Jvm.Cond.fieldLinkNest "Homewatcher" (297 : Nat) "Homewatcher$Version" "pupil" "I" "Homewatcher") ∈ gNw := List.mem_of_getElem? (i := 8) rfl
theorem nq1638 : (Jvm.Cond.fieldLinkNest "Homewatcher" (92 : Nat) "Homewatcher$Version" "task" "LHomewatcher$Task;" "Homewatcher") ∈ gNw := List.mem_of_getElem? (i := 9) rfl
theorem nq1640 : (Jvm.Cond.fieldLinkNest "Homewatcher" (124 : Nat) "Homewatcher$Version" "parent" "LHomewatcher$Version;" "Homewatcher") ∈ gNw := List.mem_of_getElem? (i := 10) rfl
theorem nq1642 : (Jvm.Cond.fieldLinkNest "Homewatcher" (280 : Nat) "Homewatcher$Version" "saved" "I" "Homewatcher") ∈ gNw := List.mem_of_getElem? (i := 11) rfl
theorem nq1644 : (Jvm.Cond.fieldLinkNest "Homewatcher" (293 : Nat) "Homewatcher$Version" "chars" "[C" "Homewatcher") ∈ gNw := List.mem_of_getElem? (i := 12) rfl
theorem nq1646 : (Jvm.Cond.fieldLinkNest "Homewatcher" (135 : Nat) "Homewatcher$Version" "shingles" "Ljava/util/TreeSet;" "Homewatcher") ∈ gNw := List.mem_of_getElem? (i := 13) rfl
theorem nq1648 : (Jvm.Cond.fieldLinkNest "Homewatcher" (87 : Nat) "Homewatcher$Version" "handed" "I" "Homewatcher") ∈ gNw := List.mem_of_getElem? (i := 14) rfl
theorem nq1649 : (Jvm.Cond.fieldLinkNest "Homewatcher" (188 : Nat) "Homewatcher$Version" "points" "I" "Homewatcher") ∈ gNw := List.mem_of_getElem? (i := 15) rfl
theorem nq1650 : (Jvm.Cond.fieldLinkNest "Homewatcher" (128 : Nat) "Homewatcher$Version" "isIn" "Z" "Homewatcher") ∈ gNw := List.mem_of_getElem? (i := 16) rfl
theorem nq1717 : (Jvm.Cond.fieldLinkNest "Homewatcher" (363 : Nat) "Homewatcher$Hit" "number" "I" "Homewatcher") ∈ gNw := List.mem_of_getElem? (i := 17) rfl
theorem nq1719 : (Jvm.Cond.fieldLinkNest "Homewatcher" (336 : Nat) "Homewatcher$Hit" "fresh" "LHomewatcher$Version;" "Homewatcher") ∈ gNw := List.mem_of_getElem? (i := 18) rfl
theorem nq1721 : (Jvm.Cond.fieldLinkNest "Homewatcher" (339 : Nat) "Homewatcher$Hit" "other" "LHomewatcher$Version;" "Homewatcher") ∈ gNw := List.mem_of_getElem? (i := 19) rfl
theorem nq1723 : (Jvm.Cond.fieldLinkNest "Homewatcher" (342 : Nat) "Homewatcher$Hit" "common" "I" "Homewatcher") ∈ gNw := List.mem_of_getElem? (i := 20) rfl
theorem nq1725 : (Jvm.Cond.fieldLinkNest "Homewatcher" (345 : Nat) "Homewatcher$Hit" "heard" "I" "Homewatcher") ∈ gNw := List.mem_of_getElem? (i := 21) rfl
theorem nq1618 : (Jvm.Cond.methodLinkNest "Homewatcher$Version" (50 : Nat) ({ cls := "Homewatcher", name := "isHigh", desc := "(C)Z" } : Jvm.MethodName) "Homewatcher") ∈ gNw := List.mem_of_getElem? (i := 22) rfl
theorem nq732 : (Jvm.Cond.castable "java/lang/Integer" "java/lang/Comparable") ∈ gNw := List.mem_of_getElem? (i := 23) rfl
theorem nq1033 : (Jvm.Cond.castable "java/util/TreeMap" "java/util/NavigableMap") ∈ gNw := List.mem_of_getElem? (i := 24) rfl
theorem nq1097 : (Jvm.Cond.castable "java/util/TreeSet" "java/util/NavigableSet") ∈ gNw := List.mem_of_getElem? (i := 25) rfl
theorem nq1189 : (Jvm.Cond.castable "java/util/TreeSet" "java/util/Set") ∈ gNw := List.mem_of_getElem? (i := 26) rfl
theorem nq962 : (Jvm.Cond.castable "java/util/ArrayList$Itr" "java/util/Iterator") ∈ gNw := List.mem_of_getElem? (i := 27) rfl
theorem nq1056 : (Jvm.Cond.castable "java/util/TreeMap$KeySet" "java/util/NavigableSet") ∈ gNw := List.mem_of_getElem? (i := 28) rfl
theorem nq1187 : (Jvm.Cond.castable "java/util/TreeMap$KeySet" "java/util/Set") ∈ gNw := List.mem_of_getElem? (i := 29) rfl
theorem nq968 : (Jvm.Cond.castable "java/util/TreeMap$KeyIterator" "java/util/Iterator") ∈ gNw := List.mem_of_getElem? (i := 30) rfl
theorem nq721 : (Jvm.Cond.castable "Homewatcher$Hit" "java/lang/Comparable") ∈ gNw := List.mem_of_getElem? (i := 31) rfl
theorem nq2438 : (Jvm.Cond.castable "java/lang/Integer" "java/lang/Object") ∈ gNw := List.mem_of_getElem? (i := 32) rfl
theorem nq2445 : (Jvm.Cond.castable "Homewatcher$Version" "java/lang/Object") ∈ gNw := List.mem_of_getElem? (i := 33) rfl
theorem nq2441 : (Jvm.Cond.castable "Homewatcher$Task" "java/lang/Object") ∈ gNw := List.mem_of_getElem? (i := 34) rfl
theorem nq2452 : (Jvm.Cond.castable "Homewatcher$Hit" "java/lang/Object") ∈ gNw := List.mem_of_getElem? (i := 35) rfl
theorem nq2431 : (Jvm.Cond.castable "java/util/ArrayList" "java/lang/Object") ∈ gNw := List.mem_of_getElem? (i := 36) rfl
theorem nq2435 : (Jvm.Cond.castable "java/util/TreeMap" "java/lang/Object") ∈ gNw := List.mem_of_getElem? (i := 37) rfl
theorem nq2448 : (Jvm.Cond.castable "java/util/TreeMap$Entry" "java/lang/Object") ∈ gNw := List.mem_of_getElem? (i := 38) rfl
theorem nq1937 : (Jvm.Cond.declares ({ cls := "java/util/AbstractCollection", name := "size", desc := "()I" } : Jvm.MethodName)) ∈ gNw := List.mem_of_getElem? (i := 39) rfl
theorem nq128 : (Jvm.Cond.castable "java/lang/IllegalArgumentException" "java/lang/IllegalArgumentException") ∈ gNw := List.mem_of_getElem? (i := 40) rfl
theorem nq1334 : (Jvm.Cond.castable "java/lang/IllegalStateException" "java/lang/IllegalStateException") ∈ gNw := List.mem_of_getElem? (i := 41) rfl
theorem nq1419 : (Jvm.Cond.castable "java/lang/IndexOutOfBoundsException" "java/lang/IndexOutOfBoundsException") ∈ gNw := List.mem_of_getElem? (i := 42) rfl
theorem nq989 : (Jvm.Cond.castable "java/util/NoSuchElementException" "java/util/NoSuchElementException") ∈ gNw := List.mem_of_getElem? (i := 43) rfl
theorem nq1572 : (Jvm.Cond.castable "java/lang/UnsupportedOperationException" "java/lang/UnsupportedOperationException") ∈ gNw := List.mem_of_getElem? (i := 44) rfl
theorem nq2001 : (Jvm.Cond.castable "java/lang/ArithmeticException" "java/lang/ArithmeticException") ∈ gNw := List.mem_of_getElem? (i := 45) rfl
theorem mh_J0_init : gNoMH yJ0_init 0 := by decide +kernel
theorem mh_J0_isEmpty : gNoMH yJ0_isEmpty 0 := by decide +kernel
theorem mh_J1_init : gNoMH yJ1_init 0 := by decide +kernel
theorem mh_J10_newBytesFor : gNoMH yJ10_newBytesFor 1 := by decide +kernel
theorem mh_J10_newBytesLength : gNoMH yJ10_newBytesLength 1 := by decide +kernel
theorem mh_J10_putCharsAt : gNoMH yJ10_putCharsAt 6 := by decide +kernel
theorem mh_J10_checkBoundsBeginEnd : gNoMH yJ10_checkBoundsBeginEnd 3 := by decide +kernel
theorem mh_J10_length : gNoMH yJ10_length 1 := by decide +kernel
theorem mh_J10_putChar : gNoMH yJ10_putChar 3 := by decide +kernel
theorem mh_J10_inflate : gNoMH yJ10_inflate 5 := by decide +kernel
theorem mh_J10_checkBoundsOffCount : gNoMH yJ10_checkBoundsOffCount 3 := by decide +kernel
theorem mh_J10_getChars : gNoMH yJ10_getChars 4 := by decide +kernel
theorem mh_J10_getChars_2 : gNoMH yJ10_getChars_2 3 := by decide +kernel
theorem mh_J10_compress : gNoMH yJ10_compress 3 := by decide +kernel
theorem mh_J10_compress_2 : gNoMH yJ10_compress_2 5 := by decide +kernel
theorem mh_J10_getChar : gNoMH yJ10_getChar 2 := by decide +kernel
theorem mh_J10_coderFromArrayLen : gNoMH yJ10_coderFromArrayLen 2 := by decide +kernel
theorem mh_J10_reverse : gNoMH yJ10_reverse 2 := by decide +kernel
theorem mh_J10_checkOffset : gNoMH yJ10_checkOffset 2 := by decide +kernel
theorem mh_J10_reverseAllValidSurrogatePairs : gNoMH yJ10_reverseAllValidSurrogatePairs 2 := by decide +kernel
theorem mh_J10_fillNull : gNoMH yJ10_fillNull 3 := by decide +kernel
theorem mh_J10_compareTo : gNoMH yJ10_compareTo 2 := by decide +kernel
theorem mh_J10_compareValues : gNoMH yJ10_compareValues 4 := by decide +kernel
theorem mh_J10_compareToLatin1 : gNoMH yJ10_compareToLatin1 2 := by decide +kernel
theorem mh_J10_compareTo_2 : gNoMH yJ10_compareTo_2 4 := by decide +kernel
theorem mh_J10_compareToLatin1_2 : gNoMH yJ10_compareToLatin1_2 4 := by decide +kernel
theorem mh_J10_putCharSB : gNoMH yJ10_putCharSB 3 := by decide +kernel
theorem mh_J10_checkIndex : gNoMH yJ10_checkIndex 2 := by decide +kernel
theorem mh_J11_newLength : gNoMH yJ11_newLength 3 := by decide +kernel
theorem mh_J11_hugeLength : gNoMH yJ11_hugeLength 2 := by decide +kernel
theorem mh_J11_mismatch : gNoMH yJ11_mismatch 3 := by decide +kernel
theorem mh_J11_vectorizedMismatch : gNoMH yJ11_vectorizedMismatch 6 := by decide +kernel
theorem mh_J12_max : gNoMH yJ12_max 2 := by decide +kernel
theorem mh_J12_min : gNoMH yJ12_min 2 := by decide +kernel
theorem mh_J13_copyOf : gNoMH yJ13_copyOf 2 := by decide +kernel
theorem mh_J13_copyOfRange : gNoMH yJ13_copyOfRange 3 := by decide +kernel
theorem mh_J13_copyOfRangeByte : gNoMH yJ13_copyOfRangeByte 3 := by decide +kernel
theorem mh_J13_checkLength : gNoMH yJ13_checkLength 2 := by decide +kernel
theorem mh_J13_fill : gNoMH yJ13_fill 4 := by decide +kernel
theorem mh_J13_rangeCheck : gNoMH yJ13_rangeCheck 3 := by decide +kernel
theorem mh_J13_copyOf_2 : gNoMH yJ13_copyOf_2 2 := by decide +kernel
theorem mh_J13_copyOf_3 : gNoMH yJ13_copyOf_3 3 := by decide +kernel
theorem mh_J14_checkFromToIndex : gNoMH yJ14_checkFromToIndex 4 := by decide +kernel
theorem mh_J14_checkFromIndexSize : gNoMH yJ14_checkFromIndexSize 4 := by decide +kernel
theorem mh_J14_checkIndex : gNoMH yJ14_checkIndex 3 := by decide +kernel
theorem mh_J15_inflate : gNoMH yJ15_inflate 5 := by decide +kernel
theorem mh_J15_fillNull : gNoMH yJ15_fillNull 3 := by decide +kernel
theorem mh_J15_compareTo : gNoMH yJ15_compareTo 2 := by decide +kernel
theorem mh_J15_compareTo_2 : gNoMH yJ15_compareTo_2 4 := by decide +kernel
theorem mh_J15_getChar : gNoMH yJ15_getChar 2 := by decide +kernel
theorem mh_J15_compareToUTF16 : gNoMH yJ15_compareToUTF16 2 := by decide +kernel
theorem mh_J15_length : gNoMH yJ15_length 1 := by decide +kernel
theorem mh_J15_compareToUTF16Values : gNoMH yJ15_compareToUTF16Values 4 := by decide +kernel
theorem mh_J15_compareToUTF16_2 : gNoMH yJ15_compareToUTF16_2 4 := by decide +kernel
theorem mh_J15_equals : gNoMH yJ15_equals 2 := by decide +kernel
theorem mh_J15_canEncode : gNoMH yJ15_canEncode 1 := by decide +kernel
theorem mh_J16_init : gNoMH yJ16_init 0 := by decide +kernel
theorem mh_J17_stringSize : gNoMH yJ17_stringSize 1 := by decide +kernel
theorem mh_J17_getChars : gNoMH yJ17_getChars 3 := by decide +kernel
theorem mh_J17_valueOf : gNoMH yJ17_valueOf 1 := by decide +kernel
theorem mh_J17_init : gNoMH yJ17_init 1 := by decide +kernel
theorem mh_J17_compareTo : gNoMH yJ17_compareTo 1 := by decide +kernel
theorem mh_J17_compareTo_2 : gNoMH yJ17_compareTo_2 1 := by decide +kernel
theorem mh_J17_compare : gNoMH yJ17_compare 2 := by decide +kernel
theorem mh_J17_numberOfLeadingZeros : gNoMH yJ17_numberOfLeadingZeros 1 := by decide +kernel
theorem mh_J17_numberOfTrailingZeros : gNoMH yJ17_numberOfTrailingZeros 1 := by decide +kernel
theorem mh_J17_intValue : gNoMH yJ17_intValue 0 := by decide +kernel
theorem mh_J17_equals : gNoMH yJ17_equals 1 := by decide +kernel
theorem mh_J18_init : gNoMH yJ18_init 0 := by decide +kernel
theorem mh_J19_init : gNoMH yJ19_init 0 := by decide +kernel
theorem mh_J19_size : gNoMH yJ19_size 0 := by decide +kernel
theorem mh_J19_get : gNoMH yJ19_get 1 := by decide +kernel
theorem mh_J19_getEntry : gNoMH yJ19_getEntry 1 := by decide +kernel
theorem mh_J19_getEntryUsingComparator : gNoMH yJ19_getEntryUsingComparator 1 := by decide +kernel
theorem mh_J19_successor : gNoMH yJ19_successor 1 := by decide +kernel
theorem mh_J19_navigableKeySet : gNoMH yJ19_navigableKeySet 0 := by decide +kernel
theorem mh_J19_keyIterator : gNoMH yJ19_keyIterator 0 := by decide +kernel
theorem mh_J19_getFirstEntry : gNoMH yJ19_getFirstEntry 0 := by decide +kernel
theorem mh_J19_put : gNoMH yJ19_put 2 := by decide +kernel
theorem mh_J19_put_2 : gNoMH yJ19_put_2 3 := by decide +kernel
theorem mh_J19_addEntryToEmptyMap : gNoMH yJ19_addEntryToEmptyMap 2 := by decide +kernel
theorem mh_J19_compare : gNoMH yJ19_compare 2 := by decide +kernel
theorem mh_J19_addEntry : gNoMH yJ19_addEntry 4 := by decide +kernel
theorem mh_J19_fixAfterInsertion : gNoMH yJ19_fixAfterInsertion 1 := by decide +kernel
theorem mh_J19_parentOf : gNoMH yJ19_parentOf 1 := by decide +kernel
theorem mh_J19_leftOf : gNoMH yJ19_leftOf 1 := by decide +kernel
theorem mh_J19_rightOf : gNoMH yJ19_rightOf 1 := by decide +kernel
theorem mh_J19_colorOf : gNoMH yJ19_colorOf 1 := by decide +kernel
theorem mh_J19_setColor : gNoMH yJ19_setColor 2 := by decide +kernel
theorem mh_J19_rotateLeft : gNoMH yJ19_rotateLeft 1 := by decide +kernel
theorem mh_J19_rotateRight : gNoMH yJ19_rotateRight 1 := by decide +kernel
theorem mh_J19_keySet : gNoMH yJ19_keySet 0 := by decide +kernel
theorem mh_J19_containsKey : gNoMH yJ19_containsKey 1 := by decide +kernel
theorem mh_J19_remove : gNoMH yJ19_remove 1 := by decide +kernel
theorem mh_J19_deleteEntry : gNoMH yJ19_deleteEntry 1 := by decide +kernel
theorem mh_J19_fixAfterDeletion : gNoMH yJ19_fixAfterDeletion 1 := by decide +kernel
theorem mh_J2_init : gNoMH yJ2_init 1 := by decide +kernel
theorem mh_J2_size : gNoMH yJ2_size 0 := by decide +kernel
theorem mh_J2_iterator : gNoMH yJ2_iterator 0 := by decide +kernel
theorem mh_J2_indexOf : gNoMH yJ2_indexOf 1 := by decide +kernel
theorem mh_J2_indexOfRange : gNoMH yJ2_indexOfRange 3 := by decide +kernel
theorem mh_J2_get : gNoMH yJ2_get 1 := by decide +kernel
theorem mh_J2_elementData : gNoMH yJ2_elementData 1 := by decide +kernel
theorem mh_J2_add : gNoMH yJ2_add 1 := by decide +kernel
theorem mh_J2_add_2 : gNoMH yJ2_add_2 3 := by decide +kernel
theorem mh_J2_grow : gNoMH yJ2_grow 0 := by decide +kernel
theorem mh_J2_grow_2 : gNoMH yJ2_grow_2 1 := by decide +kernel
theorem mh_J2_isEmpty : gNoMH yJ2_isEmpty 0 := by decide +kernel
theorem mh_J20_init : gNoMH yJ20_init 0 := by decide +kernel
theorem mh_J21_init : gNoMH yJ21_init 1 := by decide +kernel
theorem mh_J21_init_2 : gNoMH yJ21_init_2 0 := by decide +kernel
theorem mh_J22_init : gNoMH yJ22_init 1 := by decide +kernel
theorem mh_J22_init_2 : gNoMH yJ22_init_2 1 := by decide +kernel
theorem mh_J23_requireNonNull : gNoMH yJ23_requireNonNull 1 := by decide +kernel
theorem mh_J23_checkIndex : gNoMH yJ23_checkIndex 2 := by decide +kernel
theorem mh_J24_isSurrogate : gNoMH yJ24_isSurrogate 1 := by decide +kernel
theorem mh_J24_isLowSurrogate : gNoMH yJ24_isLowSurrogate 1 := by decide +kernel
theorem mh_J24_isHighSurrogate : gNoMH yJ24_isHighSurrogate 1 := by decide +kernel
theorem mh_J25_init : gNoMH yJ25_init 1 := by decide +kernel
theorem mh_J26_init : gNoMH yJ26_init 0 := by decide +kernel
theorem mh_J27_init : gNoMH yJ27_init 0 := by decide +kernel
theorem mh_J28_init : gNoMH yJ28_init 0 := by decide +kernel
theorem mh_J29_iterator : gNoMH yJ29_iterator 0 := by decide +kernel
theorem mh_J29_contains : gNoMH yJ29_contains 1 := by decide +kernel
theorem mh_J29_size : gNoMH yJ29_size 0 := by decide +kernel
theorem mh_J29_init : gNoMH yJ29_init 0 := by decide +kernel
theorem mh_J29_init_2 : gNoMH yJ29_init_2 1 := by decide +kernel
theorem mh_J29_add : gNoMH yJ29_add 1 := by decide +kernel
theorem mh_J3_init : gNoMH yJ3_init 0 := by decide +kernel
theorem mh_J3_init_2 : gNoMH yJ3_init_2 1 := by decide +kernel
theorem mh_J30_getLongUnaligned : gNoMH yJ30_getLongUnaligned 2 := by decide +kernel
theorem mh_J30_makeLong : gNoMH yJ30_makeLong 2 := by decide +kernel
theorem mh_J30_toUnsignedLong : gNoMH yJ30_toUnsignedLong 1 := by decide +kernel
theorem mh_J30_pickPos : gNoMH yJ30_pickPos 2 := by decide +kernel
theorem mh_J30_makeLong_2 : gNoMH yJ30_makeLong_2 4 := by decide +kernel
theorem mh_J30_toUnsignedLong_2 : gNoMH yJ30_toUnsignedLong_2 1 := by decide +kernel
theorem mh_J30_makeLong_3 : gNoMH yJ30_makeLong_3 8 := by decide +kernel
theorem mh_J30_toUnsignedLong_3 : gNoMH yJ30_toUnsignedLong_3 1 := by decide +kernel
theorem mh_J30_getIntUnaligned : gNoMH yJ30_getIntUnaligned 2 := by decide +kernel
theorem mh_J30_makeInt : gNoMH yJ30_makeInt 2 := by decide +kernel
theorem mh_J30_toUnsignedInt : gNoMH yJ30_toUnsignedInt 1 := by decide +kernel
theorem mh_J30_makeInt_2 : gNoMH yJ30_makeInt_2 4 := by decide +kernel
theorem mh_J30_toUnsignedInt_2 : gNoMH yJ30_toUnsignedInt_2 1 := by decide +kernel
theorem mh_J31_numberOfLeadingZeros : gNoMH yJ31_numberOfLeadingZeros 1 := by decide +kernel
theorem mh_J31_numberOfTrailingZeros : gNoMH yJ31_numberOfTrailingZeros 1 := by decide +kernel
theorem mh_J32_init : gNoMH yJ32_init 3 := by decide +kernel
theorem mh_J33_init : gNoMH yJ33_init 1 := by decide +kernel
theorem mh_J33_hasNext : gNoMH yJ33_hasNext 0 := by decide +kernel
theorem mh_J33_next : gNoMH yJ33_next 0 := by decide +kernel
theorem mh_J33_checkForComodification : gNoMH yJ33_checkForComodification 0 := by decide +kernel
theorem mh_J34_init : gNoMH yJ34_init 1 := by decide +kernel
theorem mh_J34_iterator : gNoMH yJ34_iterator 0 := by decide +kernel
theorem mh_J34_size : gNoMH yJ34_size 0 := by decide +kernel
theorem mh_J35_hasNext : gNoMH yJ35_hasNext 0 := by decide +kernel
theorem mh_J35_nextEntry : gNoMH yJ35_nextEntry 0 := by decide +kernel
theorem mh_J35_init : gNoMH yJ35_init 2 := by decide +kernel
theorem mh_J36_next : gNoMH yJ36_next 0 := by decide +kernel
theorem mh_J36_init : gNoMH yJ36_init 2 := by decide +kernel
theorem mh_J37_init : gNoMH yJ37_init 0 := by decide +kernel
theorem mh_J38_init : gNoMH yJ38_init 0 := by decide +kernel
theorem mh_J38_init_2 : gNoMH yJ38_init_2 2 := by decide +kernel
theorem mh_J38_add : gNoMH yJ38_add 1 := by decide +kernel
theorem mh_J38_offer : gNoMH yJ38_offer 1 := by decide +kernel
theorem mh_J38_grow : gNoMH yJ38_grow 1 := by decide +kernel
theorem mh_J38_siftUp : gNoMH yJ38_siftUp 2 := by decide +kernel
theorem mh_J38_siftUpUsingComparator : gNoMH yJ38_siftUpUsingComparator 4 := by decide +kernel
theorem mh_J38_siftUpComparable : gNoMH yJ38_siftUpComparable 3 := by decide +kernel
theorem mh_J38_size : gNoMH yJ38_size 0 := by decide +kernel
theorem mh_J38_poll : gNoMH yJ38_poll 0 := by decide +kernel
theorem mh_J38_siftDownComparable : gNoMH yJ38_siftDownComparable 4 := by decide +kernel
theorem mh_J38_siftDownUsingComparator : gNoMH yJ38_siftDownUsingComparator 5 := by decide +kernel
theorem mh_J39_init : gNoMH yJ39_init 1 := by decide +kernel
theorem mh_J39_init_2 : gNoMH yJ39_init_2 0 := by decide +kernel
theorem mh_J4_init : gNoMH yJ4_init 1 := by decide +kernel
theorem mh_J4_init_2 : gNoMH yJ4_init_2 0 := by decide +kernel
theorem mh_J40_init : gNoMH yJ40_init 0 := by decide +kernel
theorem mh_J40_equals : gNoMH yJ40_equals 1 := by decide +kernel
theorem mh_J5_init : gNoMH yJ5_init 1 := by decide +kernel
theorem mh_J5_init_2 : gNoMH yJ5_init_2 0 := by decide +kernel
theorem mh_J6_init : gNoMH yJ6_init 1 := by decide +kernel
theorem mh_J6_init_2 : gNoMH yJ6_init_2 0 := by decide +kernel
theorem mh_J7_init : gNoMH yJ7_init 1 := by decide +kernel
theorem mh_J7_append : gNoMH yJ7_append 1 := by decide +kernel
theorem mh_J7_appendNull : gNoMH yJ7_appendNull 0 := by decide +kernel
theorem mh_J7_ensureCapacityInternal : gNoMH yJ7_ensureCapacityInternal 1 := by decide +kernel
theorem mh_J7_newCapacity : gNoMH yJ7_newCapacity 1 := by decide +kernel
theorem mh_J7_isLatin1 : gNoMH yJ7_isLatin1 0 := by decide +kernel
theorem mh_J7_putStringAt : gNoMH yJ7_putStringAt 2 := by decide +kernel
theorem mh_J7_inflateIfNeededFor : gNoMH yJ7_inflateIfNeededFor 1 := by decide +kernel
theorem mh_J7_inflate : gNoMH yJ7_inflate 0 := by decide +kernel
theorem mh_J7_append_2 : gNoMH yJ7_append_2 1 := by decide +kernel
theorem mh_J7_getValue : gNoMH yJ7_getValue 0 := by decide +kernel
theorem mh_J7_length : gNoMH yJ7_length 0 := by decide +kernel
theorem mh_J7_reverse : gNoMH yJ7_reverse 0 := by decide +kernel
theorem mh_J7_charAt : gNoMH yJ7_charAt 1 := by decide +kernel
theorem mh_J7_setLength : gNoMH yJ7_setLength 1 := by decide +kernel
theorem mh_J7_compareTo : gNoMH yJ7_compareTo 1 := by decide +kernel
theorem mh_J7_insert : gNoMH yJ7_insert 2 := by decide +kernel
theorem mh_J7_shift : gNoMH yJ7_shift 2 := by decide +kernel
theorem mh_J8_init : gNoMH yJ8_init 0 := by decide +kernel
theorem mh_J8_append : gNoMH yJ8_append 1 := by decide +kernel
theorem mh_J8_append_2 : gNoMH yJ8_append_2 1 := by decide +kernel
theorem mh_J8_toString : gNoMH yJ8_toString 0 := by decide +kernel
theorem mh_J8_length : gNoMH yJ8_length 0 := by decide +kernel
theorem mh_J8_reverse : gNoMH yJ8_reverse 0 := by decide +kernel
theorem mh_J8_charAt : gNoMH yJ8_charAt 1 := by decide +kernel
theorem mh_J8_setLength : gNoMH yJ8_setLength 1 := by decide +kernel
theorem mh_J8_compareTo : gNoMH yJ8_compareTo 1 := by decide +kernel
theorem mh_J8_compareTo_2 : gNoMH yJ8_compareTo_2 1 := by decide +kernel
theorem mh_J8_insert : gNoMH yJ8_insert 2 := by decide +kernel
theorem mh_J9_checkBoundsBeginEnd : gNoMH yJ9_checkBoundsBeginEnd 3 := by decide +kernel
theorem mh_J9_length : gNoMH yJ9_length 0 := by decide +kernel
theorem mh_J9_coder : gNoMH yJ9_coder 0 := by decide +kernel
theorem mh_J9_checkBoundsOffCount : gNoMH yJ9_checkBoundsOffCount 3 := by decide +kernel
theorem mh_J9_getBytes : gNoMH yJ9_getBytes 3 := by decide +kernel
theorem mh_J9_init : gNoMH yJ9_init 1 := by decide +kernel
theorem mh_J9_init_2 : gNoMH yJ9_init_2 2 := by decide +kernel
theorem mh_J9_checkOffset : gNoMH yJ9_checkOffset 2 := by decide +kernel
theorem mh_J9_checkIndex : gNoMH yJ9_checkIndex 2 := by decide +kernel
theorem mh_J9_compareTo : gNoMH yJ9_compareTo 1 := by decide +kernel
theorem mh_J9_compareTo_2 : gNoMH yJ9_compareTo_2 1 := by decide +kernel
theorem mh_J9_equals : gNoMH yJ9_equals 1 := by decide +kernel
theorem mh_X0_classroom : gNoMH yX0_classroom 3 := by decide +kernel
theorem mh_X0_pupil : gNoMH yX0_pupil 3 := by decide +kernel
theorem mh_X0_task : gNoMH yX0_task 7 := by decide +kernel
theorem mh_X0_pass : gNoMH yX0_pass 3 := by decide +kernel
theorem mh_X0_clock : gNoMH yX0_clock 3 := by decide +kernel
theorem mh_X0_type : gNoMH yX0_type 3 := by decide +kernel
theorem mh_X0_insert : gNoMH yX0_insert 4 := by decide +kernel
theorem mh_X0_charAt : gNoMH yX0_charAt 3 := by decide +kernel
theorem mh_X0_save : gNoMH yX0_save 6 := by decide +kernel
theorem mh_X0_of : gNoMH yX0_of 4 := by decide +kernel
theorem mh_X0_forks : gNoMH yX0_forks 3 := by decide +kernel
theorem mh_X0_heads : gNoMH yX0_heads 4 := by decide +kernel
theorem mh_X0_hand : gNoMH yX0_hand 3 := by decide +kernel
theorem mh_X0_withdraw : gNoMH yX0_withdraw 3 := by decide +kernel
theorem mh_X0_isIn : gNoMH yX0_isIn 3 := by decide +kernel
theorem mh_X0_late : gNoMH yX0_late 3 := by decide +kernel
theorem mh_X0_off : gNoMH yX0_off 4 := by decide +kernel
theorem mh_X0_points : gNoMH yX0_points 4 := by decide +kernel
theorem mh_X0_counting : gNoMH yX0_counting 4 := by decide +kernel
theorem mh_X0_mark : gNoMH yX0_mark 4 := by decide +kernel
theorem mh_X0_isFrozen : gNoMH yX0_isFrozen 4 := by decide +kernel
theorem mh_X0_shared : gNoMH yX0_shared 4 := by decide +kernel
theorem mh_X0_shingle : gNoMH yX0_shingle 4 := by decide +kernel
theorem mh_X0_threshold : gNoMH yX0_threshold 3 := by decide +kernel
theorem mh_X0_hit : gNoMH yX0_hit 4 := by decide +kernel
theorem mh_X0_hear : gNoMH yX0_hear 4 := by decide +kernel
theorem mh_X0_next : gNoMH yX0_next 2 := by decide +kernel
theorem mh_X0_byteSum : gNoMH yX0_byteSum 3 := by decide +kernel
theorem mh_X0_shortSum : gNoMH yX0_shortSum 3 := by decide +kernel
theorem mh_X0_packed : gNoMH yX0_packed 3 := by decide +kernel
theorem mh_X0_inShare : gNoMH yX0_inShare 2 := by decide +kernel
theorem mh_X0_meanMark : gNoMH yX0_meanMark 2 := by decide +kernel
theorem mh_X1_init : gNoMH yX1_init 0 := by decide +kernel
theorem mh_X1_reverse : gNoMH yX1_reverse 0 := by decide +kernel
theorem mh_X1_isHigh : gNoMH yX1_isHigh 1 := by decide +kernel
theorem mh_X1_wipe : gNoMH yX1_wipe 0 := by decide +kernel
theorem mh_X1_signCount : gNoMH yX1_signCount 0 := by decide +kernel
theorem mh_X1_indexed : gNoMH yX1_indexed 0 := by decide +kernel
theorem mh_X1_holders : gNoMH yX1_holders 1 := by decide +kernel
theorem mh_X1_hits : gNoMH yX1_hits 0 := by decide +kernel
theorem mh_X1_isTrue : gNoMH yX1_isTrue 0 := by decide +kernel
theorem mh_X1_countingOf : gNoMH yX1_countingOf 2 := by decide +kernel
theorem mh_X1_isLater : gNoMH yX1_isLater 2 := by decide +kernel
theorem mh_X1_markOf : gNoMH yX1_markOf 2 := by decide +kernel
theorem mh_X1_lateOf : gNoMH yX1_lateOf 1 := by decide +kernel
theorem mh_X1_ownLate : gNoMH yX1_ownLate 1 := by decide +kernel
theorem mh_X1_markAnew : gNoMH yX1_markAnew 2 := by decide +kernel
theorem mh_X1_classroom : gNoMH yX1_classroom 1 := by decide +kernel
theorem mh_X1_isBetween : gNoMH yX1_isBetween 3 := by decide +kernel
theorem mh_X1_checkArgument : gNoMH yX1_checkArgument 1 := by decide +kernel
theorem mh_X1_checkState : gNoMH yX1_checkState 1 := by decide +kernel
theorem mh_X1_pupil : gNoMH yX1_pupil 1 := by decide +kernel
theorem mh_X1_checkIndex : gNoMH yX1_checkIndex 2 := by decide +kernel
theorem mh_X1_task : gNoMH yX1_task 5 := by decide +kernel
theorem mh_X1_ruleOf : gNoMH yX1_ruleOf 2 := by decide +kernel
theorem mh_X1_lambda_ruleOf_0 : gNoMH yX1_lambda_ruleOf_0 2 := by decide +kernel
theorem mh_X1_lambda_ruleOf_1 : gNoMH yX1_lambda_ruleOf_1 2 := by decide +kernel
theorem mh_X1_lambda_ruleOf_2 : gNoMH yX1_lambda_ruleOf_2 2 := by decide +kernel
theorem mh_X1_lambda_ruleOf_3 : gNoMH yX1_lambda_ruleOf_3 2 := by decide +kernel
theorem mh_X1_pass : gNoMH yX1_pass 1 := by decide +kernel
theorem mh_X1_clock : gNoMH yX1_clock 1 := by decide +kernel
theorem mh_X1_type : gNoMH yX1_type 1 := by decide +kernel
theorem mh_X1_isSign : gNoMH yX1_isSign 1 := by decide +kernel
theorem mh_X1_put : gNoMH yX1_put 2 := by decide +kernel
theorem mh_X1_insert : gNoMH yX1_insert 2 := by decide +kernel
theorem mh_X1_charAt : gNoMH yX1_charAt 1 := by decide +kernel
theorem mh_X1_checkElement : gNoMH yX1_checkElement 1 := by decide +kernel
theorem mh_X1_save : gNoMH yX1_save 4 := by decide +kernel
theorem mh_X1_checkPair : gNoMH yX1_checkPair 2 := by decide +kernel
theorem mh_X1_versionAt : gNoMH yX1_versionAt 1 := by decide +kernel
theorem mh_X1_checkAllowed : gNoMH yX1_checkAllowed 1 := by decide +kernel
theorem mh_X1_of : gNoMH yX1_of 2 := by decide +kernel
theorem mh_X1_forks : gNoMH yX1_forks 1 := by decide +kernel
theorem mh_X1_heads : gNoMH yX1_heads 2 := by decide +kernel
theorem mh_X1_isParent : gNoMH yX1_isParent 1 := by decide +kernel
theorem mh_X1_hand : gNoMH yX1_hand 1 := by decide +kernel
theorem mh_X1_isHit : gNoMH yX1_isHit 2 := by decide +kernel
theorem mh_X1_count : gNoMH yX1_count 2 := by decide +kernel
theorem mh_X1_withdraw : gNoMH yX1_withdraw 1 := by decide +kernel
theorem mh_X1_isIn : gNoMH yX1_isIn 1 := by decide +kernel
theorem mh_X1_late : gNoMH yX1_late 1 := by decide +kernel
theorem mh_X1_off : gNoMH yX1_off 2 := by decide +kernel
theorem mh_X1_points : gNoMH yX1_points 2 := by decide +kernel
theorem mh_X1_counting : gNoMH yX1_counting 2 := by decide +kernel
theorem mh_X1_mark : gNoMH yX1_mark 2 := by decide +kernel
theorem mh_X1_isFrozenOf : gNoMH yX1_isFrozenOf 2 := by decide +kernel
theorem mh_X1_isFrozen : gNoMH yX1_isFrozen 2 := by decide +kernel
theorem mh_X1_shared : gNoMH yX1_shared 2 := by decide +kernel
theorem mh_X1_shingle : gNoMH yX1_shingle 2 := by decide +kernel
theorem mh_X1_threshold : gNoMH yX1_threshold 1 := by decide +kernel
theorem mh_X1_hit : gNoMH yX1_hit 2 := by decide +kernel
theorem mh_X1_hitAt : gNoMH yX1_hitAt 1 := by decide +kernel
theorem mh_X1_hear : gNoMH yX1_hear 2 := by decide +kernel
theorem mh_X1_open : gNoMH yX1_open 0 := by decide +kernel
theorem mh_X1_next : gNoMH yX1_next 0 := by decide +kernel
theorem mh_X1_byteSum : gNoMH yX1_byteSum 1 := by decide +kernel
theorem mh_X1_shortSum : gNoMH yX1_shortSum 1 := by decide +kernel
theorem mh_X1_packed : gNoMH yX1_packed 1 := by decide +kernel
theorem mh_X1_inShare : gNoMH yX1_inShare 0 := by decide +kernel
theorem mh_X1_checkNumber : gNoMH yX1_checkNumber 1 := by decide +kernel
theorem mh_X1_meanMark : gNoMH yX1_meanMark 0 := by decide +kernel
theorem mh_X2_init : gNoMH yX2_init 0 := by decide +kernel
theorem mh_X2_thrown : gNoMH yX2_thrown 0 := by decide +kernel
theorem mh_X2_classroom : gNoMH yX2_classroom 1 := by decide +kernel
theorem mh_X2_in : gNoMH yX2_in 3 := by decide +kernel
theorem mh_X2_fails : gNoMH yX2_fails 1 := by decide +kernel
theorem mh_X2_tells : gNoMH yX2_tells 1 := by decide +kernel
theorem mh_X2_pupil : gNoMH yX2_pupil 1 := by decide +kernel
theorem mh_X2_isClass : gNoMH yX2_isClass 1 := by decide +kernel
theorem mh_X2_task : gNoMH yX2_task 5 := by decide +kernel
theorem mh_X2_pass : gNoMH yX2_pass 1 := by decide +kernel
theorem mh_X2_clock : gNoMH yX2_clock 1 := by decide +kernel
theorem mh_X2_type : gNoMH yX2_type 1 := by decide +kernel
theorem mh_X2_isSign : gNoMH yX2_isSign 1 := by decide +kernel
theorem mh_X2_insert : gNoMH yX2_insert 2 := by decide +kernel
theorem mh_X2_chars : gNoMH yX2_chars 0 := by decide +kernel
theorem mh_X2_charsOf : gNoMH yX2_charsOf 1 := by decide +kernel
theorem mh_X2_reverse : gNoMH yX2_reverse 0 := by decide +kernel
theorem mh_X2_wipe : gNoMH yX2_wipe 0 := by decide +kernel
theorem mh_X2_charAt : gNoMH yX2_charAt 1 := by decide +kernel
theorem mh_X2_charOf : gNoMH yX2_charOf 2 := by decide +kernel
theorem mh_X2_save : gNoMH yX2_save 4 := by decide +kernel
theorem mh_X2_isPupil : gNoMH yX2_isPupil 1 := by decide +kernel
theorem mh_X2_isTask : gNoMH yX2_isTask 1 := by decide +kernel
theorem mh_X2_isVersion : gNoMH yX2_isVersion 1 := by decide +kernel
theorem mh_X2_finds : gNoMH yX2_finds 1 := by decide +kernel
theorem mh_X2_turned : gNoMH yX2_turned 1 := by decide +kernel
theorem mh_X2_of : gNoMH yX2_of 2 := by decide +kernel
theorem mh_X2_charsOfVersion : gNoMH yX2_charsOfVersion 1 := by decide +kernel
theorem mh_X2_forks : gNoMH yX2_forks 1 := by decide +kernel
theorem mh_X2_heads : gNoMH yX2_heads 2 := by decide +kernel
theorem mh_X2_hand : gNoMH yX2_hand 1 := by decide +kernel
theorem mh_X2_isHit : gNoMH yX2_isHit 2 := by decide +kernel
theorem mh_X2_common : gNoMH yX2_common 2 := by decide +kernel
theorem mh_X2_withdraw : gNoMH yX2_withdraw 1 := by decide +kernel
theorem mh_X2_clockOf : gNoMH yX2_clockOf 1 := by decide +kernel
theorem mh_X2_countingOf : gNoMH yX2_countingOf 2 := by decide +kernel
theorem mh_X2_isIn : gNoMH yX2_isIn 1 := by decide +kernel
theorem mh_X2_late : gNoMH yX2_late 1 := by decide +kernel
theorem mh_X2_lateOf : gNoMH yX2_lateOf 1 := by decide +kernel
theorem mh_X2_ownLate : gNoMH yX2_ownLate 1 := by decide +kernel
theorem mh_X2_greater : gNoMH yX2_greater 2 := by decide +kernel
theorem mh_X2_lesser : gNoMH yX2_lesser 2 := by decide +kernel
theorem mh_X2_off : gNoMH yX2_off 2 := by decide +kernel
theorem mh_X2_offOf : gNoMH yX2_offOf 2 := by decide +kernel
theorem mh_X2_points : gNoMH yX2_points 2 := by decide +kernel
theorem mh_X2_counting : gNoMH yX2_counting 2 := by decide +kernel
theorem mh_X2_mark : gNoMH yX2_mark 2 := by decide +kernel
theorem mh_X2_isFrozenOf : gNoMH yX2_isFrozenOf 2 := by decide +kernel
theorem mh_X2_markOf : gNoMH yX2_markOf 2 := by decide +kernel
theorem mh_X2_isFrozen : gNoMH yX2_isFrozen 2 := by decide +kernel
theorem mh_X2_shared : gNoMH yX2_shared 2 := by decide +kernel
theorem mh_X2_shingle : gNoMH yX2_shingle 2 := by decide +kernel
theorem mh_X2_indexed : gNoMH yX2_indexed 0 := by decide +kernel
theorem mh_X2_holdersOf : gNoMH yX2_holdersOf 2 := by decide +kernel
theorem mh_X2_holders : gNoMH yX2_holders 1 := by decide +kernel
theorem mh_X2_threshold : gNoMH yX2_threshold 1 := by decide +kernel
theorem mh_X2_hits : gNoMH yX2_hits 0 := by decide +kernel
theorem mh_X2_hit : gNoMH yX2_hit 2 := by decide +kernel
theorem mh_X2_hear : gNoMH yX2_hear 2 := by decide +kernel
theorem mh_X2_loses : gNoMH yX2_loses 1 := by decide +kernel
theorem mh_X2_next : gNoMH yX2_next 0 := by decide +kernel
theorem mh_X2_byteSum : gNoMH yX2_byteSum 1 := by decide +kernel
theorem mh_X2_byteSumOf : gNoMH yX2_byteSumOf 1 := by decide +kernel
theorem mh_X2_shortSum : gNoMH yX2_shortSum 1 := by decide +kernel
theorem mh_X2_packed : gNoMH yX2_packed 1 := by decide +kernel
theorem mh_X2_inShare : gNoMH yX2_inShare 0 := by decide +kernel
theorem mh_X2_meanMark : gNoMH yX2_meanMark 0 := by decide +kernel
theorem mh_X2_isTrue : gNoMH yX2_isTrue 0 := by decide +kernel
theorem mh_X3_init : gNoMH yX3_init 5 := by decide +kernel
theorem mh_X4_isOf : gNoMH yX4_isOf 2 := by decide +kernel
theorem mh_X4_shared : gNoMH yX4_shared 1 := by decide +kernel
theorem mh_X4_init : gNoMH yX4_init 6 := by decide +kernel
theorem mh_X4_layShingles : gNoMH yX4_layShingles 0 := by decide +kernel
theorem mh_X4_codes : gNoMH yX4_codes 0 := by decide +kernel
theorem mh_X4_signs : gNoMH yX4_signs 0 := by decide +kernel
theorem mh_X4_byteSum : gNoMH yX4_byteSum 0 := by decide +kernel
theorem mh_X4_shortSum : gNoMH yX4_shortSum 0 := by decide +kernel
theorem mh_X5_compareTo : gNoMH yX5_compareTo 1 := by decide +kernel
theorem mh_X5_compareTo_2 : gNoMH yX5_compareTo_2 1 := by decide +kernel
theorem mh_X5_init : gNoMH yX5_init 4 := by decide +kernel
theorem mh_X5_freezes : gNoMH yX5_freezes 2 := by decide +kernel
theorem nf_J33_Iterator_hasNext : ((RJ33, ⟨"java/util/Iterator", "hasNext", "()Z"⟩, ⟨"java/util/ArrayList$Itr", "hasNext", "()Z"⟩) : String × MethodName × MethodName) ∈ gFw := List.mem_of_getElem? (i := 0) rfl
theorem mhf_Iterator_hasNext : gNoMH ⟨"java/util/Iterator", "hasNext", "()Z"⟩ 0 := by decide +kernel
theorem nf_J33_Iterator_next : ((RJ33, ⟨"java/util/Iterator", "next", "()Ljava/lang/Object;"⟩, ⟨"java/util/ArrayList$Itr", "next", "()Ljava/lang/Object;"⟩) : String × MethodName × MethodName) ∈ gFw := List.mem_of_getElem? (i := 1) rfl
theorem mhf_Iterator_next : gNoMH ⟨"java/util/Iterator", "next", "()Ljava/lang/Object;"⟩ 0 := by decide +kernel
theorem nf_J36_Iterator_hasNext : ((RJ36, ⟨"java/util/Iterator", "hasNext", "()Z"⟩, ⟨"java/util/TreeMap$PrivateEntryIterator", "hasNext", "()Z"⟩) : String × MethodName × MethodName) ∈ gFw := List.mem_of_getElem? (i := 2) rfl
theorem nf_J36_Iterator_next : ((RJ36, ⟨"java/util/Iterator", "next", "()Ljava/lang/Object;"⟩, ⟨"java/util/TreeMap$KeyIterator", "next", "()Ljava/lang/Object;"⟩) : String × MethodName × MethodName) ∈ gFw := List.mem_of_getElem? (i := 3) rfl
theorem nf_J17_Comparable_compareTo : ((RJ17, ⟨"java/lang/Comparable", "compareTo", "(Ljava/lang/Object;)I"⟩, ⟨"java/lang/Integer", "compareTo", "(Ljava/lang/Object;)I"⟩) : String × MethodName × MethodName) ∈ gFw := List.mem_of_getElem? (i := 4) rfl
theorem mhf_Comparable_compareTo : gNoMH ⟨"java/lang/Comparable", "compareTo", "(Ljava/lang/Object;)I"⟩ 1 := by decide +kernel
theorem nf_X5_Comparable_compareTo : ((RX5, ⟨"java/lang/Comparable", "compareTo", "(Ljava/lang/Object;)I"⟩, ⟨"Homewatcher$Hit", "compareTo", "(Ljava/lang/Object;)I"⟩) : String × MethodName × MethodName) ∈ gFw := List.mem_of_getElem? (i := 5) rfl
theorem nf_J19_NavigableMap_navigableKeySet : ((RJ19, ⟨"java/util/NavigableMap", "navigableKeySet", "()Ljava/util/NavigableSet;"⟩, ⟨"java/util/TreeMap", "navigableKeySet", "()Ljava/util/NavigableSet;"⟩) : String × MethodName × MethodName) ∈ gFw := List.mem_of_getElem? (i := 6) rfl
theorem mhf_NavigableMap_navigableKeySet : gNoMH ⟨"java/util/NavigableMap", "navigableKeySet", "()Ljava/util/NavigableSet;"⟩ 0 := by decide +kernel
theorem nf_J34_NavigableSet_iterator : ((RJ34, ⟨"java/util/NavigableSet", "iterator", "()Ljava/util/Iterator;"⟩, ⟨"java/util/TreeMap$KeySet", "iterator", "()Ljava/util/Iterator;"⟩) : String × MethodName × MethodName) ∈ gFw := List.mem_of_getElem? (i := 7) rfl
theorem mhf_NavigableSet_iterator : gNoMH ⟨"java/util/NavigableSet", "iterator", "()Ljava/util/Iterator;"⟩ 0 := by decide +kernel
theorem nf_J34_Set_iterator : ((RJ34, ⟨"java/util/Set", "iterator", "()Ljava/util/Iterator;"⟩, ⟨"java/util/TreeMap$KeySet", "iterator", "()Ljava/util/Iterator;"⟩) : String × MethodName × MethodName) ∈ gFw := List.mem_of_getElem? (i := 8) rfl
theorem mhf_Set_iterator : gNoMH ⟨"java/util/Set", "iterator", "()Ljava/util/Iterator;"⟩ 0 := by decide +kernel
