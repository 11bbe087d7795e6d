/-! ===== classes, methods, constants ===== -/
set_option maxRecDepth 100000
theorem kX1 : xCls 0 RX1 TX1 12 tyX1 := ⟨rfl, Nat.le_of_ble_eq_true rfl, in_X1, tyX1_ok, nmX1⟩
theorem kX2 : xCls 1 RX2 TX2 8 tyX2 := ⟨rfl, Nat.le_of_ble_eq_true rfl, in_X2, tyX2_ok, nmX2⟩
theorem kX3 : xCls 2 RX3 TX3 11 tyX3 := ⟨rfl, Nat.le_of_ble_eq_true rfl, in_X3, tyX3_ok, nmX3⟩
theorem kX4 : xCls 3 RX4 TX4 6 tyX4 := ⟨rfl, Nat.le_of_ble_eq_true rfl, in_X4, tyX4_ok, nmX4⟩
theorem kX5 : xCls 4 RX5 TX5 2 tyX5 := ⟨rfl, Nat.le_of_ble_eq_true rfl, in_X5, tyX5_ok, nmX5⟩
theorem kX6 : xCls 5 RX6 TX6 39 tyX6 := ⟨rfl, Nat.le_of_ble_eq_true rfl, in_X6, tyX6_ok, nmX6⟩
theorem kX7 : xCls 6 RX7 TX7 3 tyX7 := ⟨rfl, Nat.le_of_ble_eq_true rfl, in_X7, tyX7_ok, nmX7⟩
theorem kX8 : xCls 7 RX8 TX8 8 tyX8 := ⟨rfl, Nat.le_of_ble_eq_true rfl, in_X8, tyX8_ok, nmX8⟩
theorem kX10 : xCls 8 RX10 TX10 7 tyX10 := ⟨rfl, Nat.le_of_ble_eq_true rfl, in_X10, tyX10_ok, nmX10⟩
theorem kX11 : xCls 9 RX11 TX11 7 tyX11 := ⟨rfl, Nat.le_of_ble_eq_true rfl, in_X11, tyX11_ok, nmX11⟩
theorem kX12 : xCls 10 RX12 TX12 7 tyX12 := ⟨rfl, Nat.le_of_ble_eq_true rfl, in_X12, tyX12_ok, nmX12⟩
theorem kX13 : xCls 11 RX13 TX13 6 tyX13 := ⟨rfl, Nat.le_of_ble_eq_true rfl, in_X13, tyX13_ok, nmX13⟩
theorem kX14 : xCls 12 RX14 TX14 3 tyX14 := ⟨rfl, Nat.le_of_ble_eq_true rfl, in_X14, tyX14_ok, nmX14⟩
theorem kX15 : xCls 13 RX15 TX15 3 tyX15 := ⟨rfl, Nat.le_of_ble_eq_true rfl, in_X15, tyX15_ok, nmX15⟩
theorem kX16 : xCls 14 RX16 TX16 2 tyX16 := ⟨rfl, Nat.le_of_ble_eq_true rfl, in_X16, tyX16_ok, nmX16⟩
theorem kX17 : xCls 15 RX17 TX17 1 tyX17 := ⟨rfl, Nat.le_of_ble_eq_true rfl, in_X17, tyX17_ok, nmX17⟩
theorem kX18 : xCls 16 RX18 TX18 3 tyX18 := ⟨rfl, Nat.le_of_ble_eq_true rfl, in_X18, tyX18_ok, nmX18⟩
theorem kX19 : xCls 17 RX19 TX19 3 tyX19 := ⟨rfl, Nat.le_of_ble_eq_true rfl, in_X19, tyX19_ok, nmX19⟩
theorem kX20 : xCls 18 RX20 TX20 7 tyX20 := ⟨rfl, Nat.le_of_ble_eq_true rfl, in_X20, tyX20_ok, nmX20⟩
theorem kJ1 : xCls 19 RJ1 TJ1 3 tyJ1 := ⟨rfl, Nat.le_of_ble_eq_true rfl, in_J1, tyJ1_ok, nmJ1⟩
theorem kJ6 : xCls 20 RJ6 TJ6 4 tyJ6 := ⟨rfl, Nat.le_of_ble_eq_true rfl, in_J6, tyJ6_ok, nmJ6⟩
theorem kJ7 : xCls 21 RJ7 TJ7 4 tyJ7 := ⟨rfl, Nat.le_of_ble_eq_true rfl, in_J7, tyJ7_ok, nmJ7⟩
theorem kJ10 : xCls 22 RJ10 TJ10 6 tyJ10 := ⟨rfl, Nat.le_of_ble_eq_true rfl, in_J10, tyJ10_ok, nmJ10⟩
theorem kJ17 : xCls 23 RJ17 TJ17 6 tyJ17 := ⟨rfl, Nat.le_of_ble_eq_true rfl, in_J17, tyJ17_ok, nmJ17⟩
theorem kJ18 : xCls 24 RJ18 TJ18 4 tyJ18 := ⟨rfl, Nat.le_of_ble_eq_true rfl, in_J18, tyJ18_ok, nmJ18⟩
theorem kJ21 : xCls 25 RJ21 TJ21 12 tyJ21 := ⟨rfl, Nat.le_of_ble_eq_true rfl, in_J21, tyJ21_ok, nmJ21⟩
theorem kJ25 : xCls 26 RJ25 TJ25 6 tyJ25 := ⟨rfl, Nat.le_of_ble_eq_true rfl, in_J25, tyJ25_ok, nmJ25⟩
theorem kJ26 : xCls 27 RJ26 TJ26 11 tyJ26 := ⟨rfl, Nat.le_of_ble_eq_true rfl, in_J26, tyJ26_ok, nmJ26⟩
theorem kJ28 : xCls 28 RJ28 TJ28 2 tyJ28 := ⟨rfl, Nat.le_of_ble_eq_true rfl, in_J28, tyJ28_ok, nmJ28⟩
theorem kJ30 : xCls 29 RJ30 TJ30 5 tyJ30 := ⟨rfl, Nat.le_of_ble_eq_true rfl, in_J30, tyJ30_ok, nmJ30⟩
theorem mIJ0_init : xMI yJ0_init cJ0_init 1 0 := ⟨q233, q102, q234, by decide +kernel, rfl⟩
theorem mIJ10_init : xMI yJ10_init cJ10_init 1 0 := ⟨q961, q115, q962, by decide +kernel, rfl⟩
theorem mIJ10_init_2 : xMI yJ10_init_2 cJ10_init_2 2 1 := ⟨q1168, q115, q1169, by decide +kernel, rfl⟩
theorem mSJ11_hashCode : xMS yJ11_hashCode cJ11_hashCode 6 (some .int) 4 := ⟨q1899, q118, q1900, by decide +kernel⟩
theorem mSJ11_hashCode_2 : xMS yJ11_hashCode_2 cJ11_hashCode_2 6 (some .int) 4 := ⟨q1902, q118, q1903, by decide +kernel⟩
theorem mSJ11_hashCode_3 : xMS yJ11_hashCode_3 cJ11_hashCode_3 6 (some .int) 4 := ⟨q1906, q118, q1907, by decide +kernel⟩
theorem mSJ11_hashCode_4 : xMS yJ11_hashCode_4 cJ11_hashCode_4 6 (some .int) 4 := ⟨q1910, q118, q1911, by decide +kernel⟩
theorem mSJ11_hugeLength : xMS yJ11_hugeLength cJ11_hugeLength 3 (some .int) 2 := ⟨q1011, q118, q1012, by decide +kernel⟩
theorem mSJ11_mismatch : xMS yJ11_mismatch cJ11_mismatch 4 (some .int) 3 := ⟨q2004, q118, q2005, by decide +kernel⟩
theorem mSJ11_newLength : xMS yJ11_newLength cJ11_newLength 4 (some .int) 3 := ⟨q1006, q118, q1007, by decide +kernel⟩
theorem mSJ11_signedHashCode : xMS yJ11_signedHashCode cJ11_signedHashCode 6 (some .int) 4 := ⟨q1879, q118, q1880, by decide +kernel⟩
theorem mSJ11_utf16hashCode : xMS yJ11_utf16hashCode cJ11_utf16hashCode 6 (some .int) 4 := ⟨q1882, q118, q1883, by decide +kernel⟩
theorem mSJ11_vectorizedHashCode : xMS yJ11_vectorizedHashCode cJ11_vectorizedHashCode 5 (some .int) 5 := ⟨q1875, q118, q1876, by decide +kernel⟩
theorem mSJ11_vectorizedMismatch : xMS yJ11_vectorizedMismatch cJ11_vectorizedMismatch 19 (some .int) 6 := ⟨q2011, q118, q2012, by decide +kernel⟩
theorem mSJ12_checkLength : xMS yJ12_checkLength cJ12_checkLength 2 none 2 := ⟨q1088, q119, q1089, by decide +kernel⟩
theorem mSJ12_copyOf : xMS yJ12_copyOf cJ12_copyOf 2 (some (.array (.object "java/lang/Object"))) 2 := ⟨q797, q119, q798, by decide +kernel⟩
theorem mSJ12_copyOfRange : xMS yJ12_copyOfRange cJ12_copyOfRange 3 (some (.array .byte)) 3 := ⟨q1082, q119, q1083, by decide +kernel⟩
theorem mSJ12_copyOfRangeByte : xMS yJ12_copyOfRangeByte cJ12_copyOfRangeByte 5 (some (.array .byte)) 3 := ⟨q1085, q119, q1086, by decide +kernel⟩
theorem mSJ12_copyOf_2 : xMS yJ12_copyOf_2 cJ12_copyOf_2 4 (some (.array (.object "java/lang/Object"))) 3 := ⟨q837, q119, q838, by decide +kernel⟩
theorem mSJ12_copyOf_3 : xMS yJ12_copyOf_3 cJ12_copyOf_3 3 (some (.array .byte)) 2 := ⟨q1015, q119, q1016, by decide +kernel⟩
theorem mSJ12_fill : xMS yJ12_fill cJ12_fill 5 none 4 := ⟨q2498, q119, q2499, by decide +kernel⟩
theorem mSJ12_rangeCheck : xMS yJ12_rangeCheck cJ12_rangeCheck 3 none 3 := ⟨q2501, q119, q2502, by decide +kernel⟩
theorem mSJ13_canEncode : xMS yJ13_canEncode cJ13_canEncode 1 (some .boolean) 1 := ⟨q1030, q121, q1031, by decide +kernel⟩
theorem mSJ13_canEncode_2 : xMS yJ13_canEncode_2 cJ13_canEncode_2 1 (some .boolean) 1 := ⟨q1230, q121, q1231, by decide +kernel⟩
theorem mSJ13_compareTo : xMS yJ13_compareTo cJ13_compareTo 4 (some .int) 2 := ⟨q1998, q121, q1999, by decide +kernel⟩
theorem mSJ13_compareToUTF16 : xMS yJ13_compareToUTF16 cJ13_compareToUTF16 4 (some .int) 2 := ⟨q2117, q121, q2118, by decide +kernel⟩
theorem mSJ13_compareToUTF16Values : xMS yJ13_compareToUTF16Values cJ13_compareToUTF16Values 8 (some .int) 4 := ⟨q2124, q121, q2125, by decide +kernel⟩
theorem mSJ13_compareToUTF16_2 : xMS yJ13_compareToUTF16_2 cJ13_compareToUTF16_2 4 (some .int) 4 := ⟨q2156, q121, q2157, by decide +kernel⟩
theorem mSJ13_compareTo_2 : xMS yJ13_compareTo_2 cJ13_compareTo_2 6 (some .int) 4 := ⟨q2001, q121, q2002, by decide +kernel⟩
theorem mSJ13_equals : xMS yJ13_equals cJ13_equals 3 (some .boolean) 2 := ⟨q1335, q121, q1336, by decide +kernel⟩
theorem mSJ13_fillNull : xMS yJ13_fillNull cJ13_fillNull 3 none 3 := ⟨q2495, q121, q2496, by decide +kernel⟩
theorem mSJ13_getChar : xMS yJ13_getChar cJ13_getChar 2 (some .char) 2 := ⟨q2108, q121, q2109, by decide +kernel⟩
theorem mSJ13_hashCode : xMS yJ13_hashCode cJ13_hashCode 1 (some .int) 1 := ⟨q1872, q121, q1873, by decide +kernel⟩
theorem mSJ13_indexOf : xMS yJ13_indexOf cJ13_indexOf 4 (some .int) 4 := ⟨q1227, q121, q1228, by decide +kernel⟩
theorem mSJ13_indexOfChar : xMS yJ13_indexOfChar cJ13_indexOfChar 6 (some .int) 4 := ⟨q1235, q121, q1236, by decide +kernel⟩
theorem mSJ13_inflate : xMS yJ13_inflate cJ13_inflate 5 none 5 := ⟨q1037, q121, q1038, by decide +kernel⟩
theorem mSJ13_length : xMS yJ13_length cJ13_length 1 (some .int) 1 := ⟨q2120, q121, q2121, by decide +kernel⟩
theorem mSJ14_checkFromIndexSize : xMS yJ14_checkFromIndexSize cJ14_checkFromIndexSize 4 (some .int) 4 := ⟨q1049, q122, q1050, by decide +kernel⟩
theorem mSJ14_checkFromToIndex : xMS yJ14_checkFromToIndex cJ14_checkFromToIndex 4 (some .int) 4 := ⟨q1120, q122, q1121, by decide +kernel⟩
theorem mSJ14_checkIndex : xMS yJ14_checkIndex cJ14_checkIndex 3 (some .int) 3 := ⟨q887, q122, q888, by decide +kernel⟩
theorem mSJ15_getChars : xMS yJ15_getChars cJ15_getChars 7 (some .int) 3 := ⟨q1104, q124, q1105, by decide +kernel⟩
theorem mSJ15_numberOfLeadingZeros : xMS yJ15_numberOfLeadingZeros cJ15_numberOfLeadingZeros 2 (some .int) 1 := ⟨q2075, q124, q2076, by decide +kernel⟩
theorem mSJ15_numberOfTrailingZeros : xMS yJ15_numberOfTrailingZeros cJ15_numberOfTrailingZeros 2 (some .int) 1 := ⟨q2084, q124, q2085, by decide +kernel⟩
theorem mSJ15_stringSize : xMS yJ15_stringSize cJ15_stringSize 4 (some .int) 1 := ⟨q1101, q124, q1102, by decide +kernel⟩
theorem mSJ16_highSurrogate : xMS yJ16_highSurrogate cJ16_highSurrogate 1 (some .char) 1 := ⟨q1256, q125, q1257, by decide +kernel⟩
theorem mSJ16_isValidCodePoint : xMS yJ16_isValidCodePoint cJ16_isValidCodePoint 2 (some .boolean) 1 := ⟨q1253, q125, q1254, by decide +kernel⟩
theorem mSJ16_lowSurrogate : xMS yJ16_lowSurrogate cJ16_lowSurrogate 1 (some .char) 1 := ⟨q1260, q125, q1261, by decide +kernel⟩
theorem mIJ17_init : xMI yJ17_init cJ17_init 1 0 := ⟨q649, q131, q650, by decide +kernel, rfl⟩
-- no selects: J18_hasNext
theorem mIJ18_init : xMI yJ18_init cJ18_init 2 1 := ⟨q680, q132, q681, by decide +kernel, rfl⟩
-- no selects: J18_next
theorem mIJ19_init : xMI yJ19_init cJ19_init 1 0 := ⟨q1760, q135, q1761, by decide +kernel, rfl⟩
theorem mVJ1_addLast : xMV RJ1 yJ1_addLast cJ1_addLast 3 none 1 := ⟨q783, q784, q103, q785, by decide +kernel⟩
theorem mSJ1_circularClear : xMS yJ1_circularClear cJ1_circularClear 4 none 3 := ⟨q937, q103, q938, by decide +kernel⟩
theorem mVJ1_clear : xMV RJ1 yJ1_clear cJ1_clear 1 none 0 := ⟨q933, q934, q103, q935, by decide +kernel⟩
theorem mSJ1_dec : xMS yJ1_dec cJ1_dec 2 (some .int) 2 := ⟨q922, q103, q923, by decide +kernel⟩
theorem mSJ1_elementAt : xMS yJ1_elementAt cJ1_elementAt 2 (some (.object "java/lang/Object")) 2 := ⟨q632, q103, q633, by decide +kernel⟩
theorem mVJ1_grow : xMV RJ1 yJ1_grow cJ1_grow 9 none 1 := ⟨q788, qs8, q103, q789, by decide +kernel⟩
theorem mSJ1_inc : xMS yJ1_inc cJ1_inc 2 (some .int) 2 := ⟨q635, q103, q636, by decide +kernel⟩
theorem mIJ1_init : xMI yJ1_init cJ1_init 1 0 := ⟨q230, q103, q231, by decide +kernel, rfl⟩
theorem mVJ1_isEmpty : xMV RJ1 yJ1_isEmpty cJ1_isEmpty 1 (some .boolean) 0 := ⟨q910, q911, q103, q912, by decide +kernel⟩
theorem mVJ1_iterator : xMV RJ1 yJ1_iterator cJ1_iterator 1 (some (.object "java/util/Iterator")) 0 := ⟨q674, q675, q103, q676, by decide +kernel⟩
theorem mVJ1_newCapacity : xMV RJ1 yJ1_newCapacity cJ1_newCapacity 5 (some .int) 2 := ⟨q793, qs9, q103, q794, by decide +kernel⟩
theorem mSJ1_nonNullElementAt : xMS yJ1_nonNullElementAt cJ1_nonNullElementAt 3 (some (.object "java/lang/Object")) 2 := ⟨q761, q103, q762, by decide +kernel⟩
theorem mVJ1_pollFirst : xMV RJ1 yJ1_pollFirst cJ1_pollFirst 4 (some (.object "java/lang/Object")) 0 := ⟨q628, q629, q103, q630, by decide +kernel⟩
theorem mVJ1_pollLast : xMV RJ1 yJ1_pollLast cJ1_pollLast 4 (some (.object "java/lang/Object")) 0 := ⟨q918, q919, q103, q920, by decide +kernel⟩
theorem mVJ1_removeFirst : xMV RJ1 yJ1_removeFirst cJ1_removeFirst 2 (some (.object "java/lang/Object")) 0 := ⟨q624, q625, q103, q626, by decide +kernel⟩
theorem mVJ1_removeLast : xMV RJ1 yJ1_removeLast cJ1_removeLast 2 (some (.object "java/lang/Object")) 0 := ⟨q914, q915, q103, q916, by decide +kernel⟩
theorem mVJ1_size : xMV RJ1 yJ1_size cJ1_size 1 (some .int) 0 := ⟨q609, q610, q103, q611, by decide +kernel⟩
theorem mSJ1_sub : xMS yJ1_sub cJ1_sub 3 (some .int) 3 := ⟨q613, q103, q614, by decide +kernel⟩
theorem mSJ20_comparableClassFor : xMS yJ20_comparableClassFor cJ20_comparableClassFor 9 (some (.object "java/lang/Class")) 1 := ⟨q1975, q136, q1976, by decide +kernel⟩
theorem mSJ20_compareComparables : xMS yJ20_compareComparables cJ20_compareComparables 3 (some .int) 3 := ⟨q1981, q136, q1982, by decide +kernel⟩
-- no selects: J20_getNode
theorem mSJ20_hash : xMS yJ20_hash cJ20_hash 2 (some .int) 1 := ⟨q1840, q136, q1841, by decide +kernel⟩
theorem mIJ20_init : xMI yJ20_init cJ20_init 1 0 := ⟨q1757, q136, q1758, by decide +kernel, rfl⟩
-- no selects: J20_put
-- no selects: J20_putVal
-- no selects: J20_resize
-- no selects: J20_size
-- no selects: J20_treeifyBin
theorem mVJ21_afterNodeAccess : xMV RJ21 yJ21_afterNodeAccess cJ21_afterNodeAccess 7 none 1 := ⟨q2164, q2165, q137, q2166, by decide +kernel⟩
-- no selects: J21_afterNodeInsertion
-- no selects: J21_entrySet
-- no selects: J21_get
theorem mIJ21_init : xMI yJ21_init cJ21_init 1 0 := ⟨q1754, q137, q1755, by decide +kernel, rfl⟩
theorem mVJ21_linkNodeAtEnd : xMV RJ21 yJ21_linkNodeAtEnd cJ21_linkNodeAtEnd 3 none 1 := ⟨q2296, qs26, q137, q2297, by decide +kernel⟩
-- no selects: J21_newNode
-- no selects: J21_newTreeNode
theorem mVJ21_removeEldestEntry : xMV RJ21 yJ21_removeEldestEntry cJ21_removeEldestEntry 2 (some .boolean) 1 := ⟨q2364, q2365, q137, q2366, by decide +kernel⟩
-- no selects: J21_replacementNode
-- no selects: J21_replacementTreeNode
theorem mVJ21_sequencedEntrySet : xMV RJ21 yJ21_sequencedEntrySet cJ21_sequencedEntrySet 3 (some (.object "java/util/SequencedSet")) 0 := ⟨q2395, q2396, q137, q2397, by decide +kernel⟩
theorem mVJ21_transferLinks : xMV RJ21 yJ21_transferLinks cJ21_transferLinks 5 none 2 := ⟨q2267, qs25, q137, q2268, by decide +kernel⟩
theorem mSJ23_getChars : xMS yJ23_getChars cJ23_getChars 11 (some .int) 3 := ⟨q2529, q141, q2530, by decide +kernel⟩
theorem mSJ23_numberOfLeadingZeros : xMS yJ23_numberOfLeadingZeros cJ23_numberOfLeadingZeros 3 (some .int) 1 := ⟨q2072, q141, q2073, by decide +kernel⟩
theorem mSJ23_numberOfTrailingZeros : xMS yJ23_numberOfTrailingZeros cJ23_numberOfTrailingZeros 3 (some .int) 1 := ⟨q2081, q141, q2082, by decide +kernel⟩
theorem mSJ23_stringSize : xMS yJ23_stringSize cJ23_stringSize 6 (some .int) 1 := ⟨q2524, q141, q2525, by decide +kernel⟩
-- no selects: J24_getKey
-- no selects: J24_getValue
theorem mIJ24_init : xMI yJ24_init cJ24_init 5 4 := ⟨q2222, q143, q2223, by decide +kernel, rfl⟩
theorem mIJ25_init : xMI yJ25_init cJ25_init 5 4 := ⟨q2219, q144, q2220, by decide +kernel, rfl⟩
theorem mSJ26_balanceInsertion : xMS yJ26_balanceInsertion cJ26_balanceInsertion 6 (some (.object "java/util/HashMap$TreeNode")) 2 := ⟨q2275, q145, q2276, by decide +kernel⟩
theorem mVJ26_find : xMV RJ26 yJ26_find cJ26_find 11 (some (.object "java/util/HashMap$TreeNode")) 3 := ⟨q1970, q1971, q145, q1972, by decide +kernel⟩
theorem mVJ26_getTreeNode : xMV RJ26 yJ26_getTreeNode cJ26_getTreeNode 3 (some (.object "java/util/HashMap$TreeNode")) 2 := ⟨q1962, q1963, q145, q1964, by decide +kernel⟩
theorem mIJ26_init : xMI yJ26_init cJ26_init 5 4 := ⟨q2312, q145, q2313, by decide +kernel, rfl⟩
theorem mSJ26_moveRootToFront : xMS yJ26_moveRootToFront cJ26_moveRootToFront 7 none 2 := ⟨q2284, q145, q2285, by decide +kernel⟩
theorem mVJ26_putTreeVal : xMV RJ26 yJ26_putTreeVal cJ26_putTreeVal 16 (some (.object "java/util/HashMap$TreeNode")) 5 := ⟨q2300, q2301, q145, q2302, by decide +kernel⟩
theorem mVJ26_root : xMV RJ26 yJ26_root cJ26_root 3 (some (.object "java/util/HashMap$TreeNode")) 0 := ⟨q1966, q1967, q145, q1968, by decide +kernel⟩
theorem mSJ26_rotateLeft : xMS yJ26_rotateLeft cJ26_rotateLeft 5 (some (.object "java/util/HashMap$TreeNode")) 2 := ⟨q2278, q145, q2279, by decide +kernel⟩
theorem mSJ26_rotateRight : xMS yJ26_rotateRight cJ26_rotateRight 5 (some (.object "java/util/HashMap$TreeNode")) 2 := ⟨q2281, q145, q2282, by decide +kernel⟩
theorem mVJ26_split : xMV RJ26 yJ26_split cJ26_split 14 none 4 := ⟨q2203, q2204, q145, q2205, by decide +kernel⟩
theorem mVJ26_treeify : xMV RJ26 yJ26_treeify cJ26_treeify 13 none 1 := ⟨q2271, q2272, q145, q2273, by decide +kernel⟩
theorem mVJ26_untreeify : xMV RJ26 yJ26_untreeify cJ26_untreeify 6 (some (.object "java/util/HashMap$Node")) 1 := ⟨q2208, q2209, q145, q2210, by decide +kernel⟩
theorem mIJ27_init : xMI yJ27_init cJ27_init 1 0 := ⟨q2404, q146, q2405, by decide +kernel, rfl⟩
theorem mIJ28_init : xMI yJ28_init cJ28_init 3 2 := ⟨q2401, q147, q2402, by decide +kernel, rfl⟩
-- no selects: J28_iterator
-- no selects: J29_hasNext
theorem mIJ29_init : xMI yJ29_init cJ29_init 3 2 := ⟨q2431, q148, q2432, by decide +kernel, rfl⟩
-- no selects: J29_nextNode
theorem mIJ2_init : xMI yJ2_init cJ2_init 1 0 := ⟨q363, q104, q364, by decide +kernel, rfl⟩
theorem mIJ2_init_2 : xMI yJ2_init_2 cJ2_init_2 5 4 := ⟨q393, q104, q394, by decide +kernel, rfl⟩
theorem mIJ2_init_3 : xMI yJ2_init_3 cJ2_init_3 2 1 := ⟨q1177, q104, q1178, by decide +kernel, rfl⟩
theorem mIJ30_init : xMI yJ30_init cJ30_init 3 2 := ⟨q2428, q149, q2429, by decide +kernel, rfl⟩
-- no selects: J30_next
theorem mVJ30_next_2 : xMV RJ30 yJ30_next_2 cJ30_next_2 1 (some (.object "java/util/Map$Entry")) 0 := ⟨q770, q771, q149, q772, by decide +kernel⟩
theorem mIJ3_init : xMI yJ3_init cJ3_init 5 4 := ⟨q390, q105, q391, by decide +kernel, rfl⟩
theorem mIJ3_init_2 : xMI yJ3_init_2 cJ3_init_2 1 0 := ⟨q655, q105, q656, by decide +kernel, rfl⟩
theorem mIJ3_init_3 : xMI yJ3_init_3 cJ3_init_3 2 1 := ⟨q1174, q105, q1175, by decide +kernel, rfl⟩
theorem mSJ4_abs : xMS yJ4_abs cJ4_abs 1 (some .int) 1 := ⟨q447, q107, q448, by decide +kernel⟩
theorem mSJ4_floorDiv : xMS yJ4_floorDiv cJ4_floorDiv 6 (some .long) 2 := ⟨q421, q107, q422, by decide +kernel⟩
theorem mSJ4_floorDiv_2 : xMS yJ4_floorDiv_2 cJ4_floorDiv_2 3 (some .int) 2 := ⟨q1808, q107, q1809, by decide +kernel⟩
theorem mSJ4_max : xMS yJ4_max cJ4_max 2 (some .int) 2 := ⟨q450, q107, q451, by decide +kernel⟩
theorem mSJ4_max_2 : xMS yJ4_max_2 cJ4_max_2 4 (some .long) 2 := ⟨q1596, q107, q1597, by decide +kernel⟩
theorem mSJ4_min : xMS yJ4_min cJ4_min 2 (some .int) 2 := ⟨q842, q107, q843, by decide +kernel⟩
theorem mSJ4_min_2 : xMS yJ4_min_2 cJ4_min_2 4 (some .long) 2 := ⟨q1211, q107, q1212, by decide +kernel⟩
-- no selects: J5_append
-- no selects: J5_appendNull
-- no selects: J5_append_2
-- no selects: J5_append_3
-- no selects: J5_append_4
-- no selects: J5_charAt
-- no selects: J5_compareTo
-- no selects: J5_ensureCapacityInternal
-- no selects: J5_getValue
-- no selects: J5_inflate
-- no selects: J5_inflateIfNeededFor
theorem mIJ5_init : xMI yJ5_init cJ5_init 2 1 := ⟨q473, q108, q474, by decide +kernel, rfl⟩
-- no selects: J5_isLatin1
-- no selects: J5_length
-- no selects: J5_newCapacity
-- no selects: J5_putStringAt
-- no selects: J5_setLength
theorem mVJ6_append : xMV RJ6 yJ6_append cJ6_append 2 (some (.object "java/lang/StringBuilder")) 1 := ⟨q991, q992, q109, q993, by decide +kernel⟩
theorem mVJ6_append_2 : xMV RJ6 yJ6_append_2 cJ6_append_2 2 (some (.object "java/lang/StringBuilder")) 1 := ⟨q1094, q1095, q109, q1096, by decide +kernel⟩
theorem mVJ6_append_3 : xMV RJ6 yJ6_append_3 cJ6_append_3 2 (some (.object "java/lang/StringBuilder")) 1 := ⟨q1129, q1130, q109, q1131, by decide +kernel⟩
theorem mVJ6_append_4 : xMV RJ6 yJ6_append_4 cJ6_append_4 3 (some (.object "java/lang/StringBuilder")) 1 := ⟨q2517, q2518, q109, q2519, by decide +kernel⟩
theorem mVJ6_charAt : xMV RJ6 yJ6_charAt cJ6_charAt 2 (some .char) 1 := ⟨q874, q875, q109, q876, by decide +kernel⟩
-- no selects: J6_compareTo
theorem mVJ6_compareTo_2 : xMV RJ6 yJ6_compareTo_2 cJ6_compareTo_2 2 (some .int) 1 := ⟨q2139, q2140, q109, q2141, by decide +kernel⟩
theorem mIJ6_init : xMI yJ6_init cJ6_init 1 0 := ⟨q470, q109, q471, by decide +kernel, rfl⟩
theorem mVJ6_length : xMV RJ6 yJ6_length cJ6_length 1 (some .int) 0 := ⟨q866, q867, q109, q868, by decide +kernel⟩
theorem mVJ6_setLength : xMV RJ6 yJ6_setLength cJ6_setLength 2 none 1 := ⟨q2488, q2489, q109, q2490, by decide +kernel⟩
theorem mVJ6_toString : xMV RJ6 yJ6_toString cJ6_toString 1 (some (.object "java/lang/String")) 0 := ⟨q1062, q1063, q109, q1064, by decide +kernel⟩
theorem mSJ7_checkBoundsBeginEnd : xMS yJ7_checkBoundsBeginEnd cJ7_checkBoundsBeginEnd 3 none 3 := ⟨q1117, q110, q1118, by decide +kernel⟩
theorem mSJ7_checkBoundsOffCount : xMS yJ7_checkBoundsOffCount cJ7_checkBoundsOffCount 3 (some .int) 3 := ⟨q1046, q110, q1047, by decide +kernel⟩
theorem mSJ7_checkIndex : xMS yJ7_checkIndex cJ7_checkIndex 2 none 2 := ⟨q882, q110, q883, by decide +kernel⟩
theorem mSJ7_checkOffset : xMS yJ7_checkOffset cJ7_checkOffset 2 none 2 := ⟨q2153, q110, q2154, by decide +kernel⟩
theorem mVJ7_coder : xMV RJ7 yJ7_coder cJ7_coder 1 (some .byte) 0 := ⟨q1147, q1148, q110, q1149, by decide +kernel⟩
-- no selects: J7_compareTo
theorem mVJ7_compareTo_2 : xMV RJ7 yJ7_compareTo_2 cJ7_compareTo_2 5 (some .int) 1 := ⟨q1994, q1995, q110, q1996, by decide +kernel⟩
theorem mVJ7_equals : xMV RJ7 yJ7_equals cJ7_equals 3 (some .boolean) 1 := ⟨q1330, q1331, q110, q1332, by decide +kernel⟩
theorem mVJ7_getBytes : xMV RJ7 yJ7_getBytes cJ7_getBytes 4 none 3 := ⟨q1161, q1162, q110, q1163, by decide +kernel⟩
theorem mVJ7_hashCode : xMV RJ7 yJ7_hashCode cJ7_hashCode 2 (some .int) 0 := ⟨q1869, q3378, q110, q1870, by decide +kernel⟩
theorem mVJ7_indexOf : xMV RJ7 yJ7_indexOf cJ7_indexOf 2 (some .int) 1 := ⟨q1214, q1215, q110, q1216, by decide +kernel⟩
theorem mVJ7_indexOf_2 : xMV RJ7 yJ7_indexOf_2 cJ7_indexOf_2 3 (some .int) 2 := ⟨q1218, q1219, q110, q1220, by decide +kernel⟩
theorem mIJ7_init : xMI yJ7_init cJ7_init 2 1 := ⟨q1068, q110, q1069, by decide +kernel, rfl⟩
theorem mIJ7_init_2 : xMI yJ7_init_2 cJ7_init_2 5 2 := ⟨q1071, q110, q1072, by decide +kernel, rfl⟩
theorem mVJ7_isLatin1 : xMV RJ7 yJ7_isLatin1 cJ7_isLatin1 1 (some .boolean) 0 := ⟨q1222, q1223, q110, q1224, by decide +kernel⟩
theorem mVJ7_length : xMV RJ7 yJ7_length cJ7_length 1 (some .int) 0 := ⟨q1143, q1144, q110, q1145, by decide +kernel⟩
theorem mIJ9_init : xMI yJ9_init cJ9_init 1 0 := ⟨q652, q114, q653, by decide +kernel, rfl⟩
theorem mIJ9_init_2 : xMI yJ9_init_2 cJ9_init_2 2 1 := ⟨q1171, q114, q1172, by decide +kernel, rfl⟩
-- no selects: X10_code
theorem mIX10_init : xMI yX10_init cX10_init 2 1 := ⟨q1360, q127, q1361, by decide +kernel, rfl⟩
-- no selects: X11_code
theorem mIX11_init : xMI yX11_init cX11_init 2 1 := ⟨q1382, q128, q1383, by decide +kernel, rfl⟩
-- no selects: X12_code
theorem mIX12_init : xMI yX12_init cX12_init 2 1 := ⟨q1435, q129, q1436, by decide +kernel, rfl⟩
theorem mIX13_init : xMI yX13_init cX13_init 2 1 := ⟨q1452, q130, q1453, by decide +kernel, rfl⟩
theorem mVX13_reason : xMV RX13 yX13_reason cX13_reason 3 (some (.object "ThreeBodies$TextException")) 0 := ⟨q1459, q1460, q130, q1461, by decide +kernel⟩
theorem mIX14_init : xMI yX14_init cX14_init 4 3 := ⟨q1578, q133, q1579, by decide +kernel, rfl⟩
theorem mVX15_hasNext : xMV RX15 yX15_hasNext cX15_hasNext 1 (some .boolean) 0 := ⟨q704, q3362, q134, q706, by decide +kernel⟩
theorem mIX15_init : xMI yX15_init cX15_init 4 3 := ⟨q1674, q134, q1675, by decide +kernel, rfl⟩
-- no selects: X15_next
theorem mVX15_next_2 : xMV RX15 yX15_next_2 cX15_next_2 1 (some (.object "ThreeBodies$Bodies")) 0 := ⟨q747, q748, q134, q749, by decide +kernel⟩
-- no selects: X16_equals
-- no selects: X16_hashCode
theorem mIX16_init : xMI yX16_init cX16_init 3 2 := ⟨q1811, q138, q1812, by decide +kernel, rfl⟩
theorem mIX17_init : xMI yX17_init cX17_init 1 0 := ⟨q2171, q142, q2172, by decide +kernel, rfl⟩
theorem mVX18_comparison : xMV RX18 yX18_comparison cX18_comparison 5 (some (.object "ThreeBodies$Test")) 0 := ⟨q2653, qs32, q150, q2654, by decide +kernel⟩
theorem mVX18_conjunction : xMV RX18 yX18_conjunction cX18_conjunction 2 (some (.object "ThreeBodies$Test")) 0 := ⟨q2609, qs29, q150, q2610, by decide +kernel⟩
theorem mVX18_enter : xMV RX18 yX18_enter cX18_enter 1 none 0 := ⟨q2618, qs31, q150, q2619, by decide +kernel⟩
theorem mVX18_factor : xMV RX18 yX18_factor cX18_factor 2 (some (.object "ThreeBodies$Test")) 0 := ⟨q2613, qs30, q150, q2614, by decide +kernel⟩
theorem mIX18_init : xMI yX18_init cX18_init 2 1 := ⟨q2555, q150, q2556, by decide +kernel, rfl⟩
theorem mSX18_lambda_comparison_1 : xMS yX18_lambda_comparison_1 cX18_lambda_comparison_1 7 (some .boolean) 6 := ⟨q2680, q150, q2681, by decide +kernel⟩
theorem mSX18_lambda_factor_0 : xMS yX18_lambda_factor_0 cX18_lambda_factor_0 3 (some .boolean) 3 := ⟨q2635, q150, q2636, by decide +kernel⟩
theorem mSX18_lambda_value_2 : xMS yX18_lambda_value_2 cX18_lambda_value_2 3 (some .int) 3 := ⟨q2661, q150, q2662, by decide +kernel⟩
theorem mVX18_test : xMV RX18 yX18_test cX18_test 2 (some (.object "ThreeBodies$Test")) 0 := ⟨q2587, qs28, q150, q2588, by decide +kernel⟩
theorem mVX18_value : xMV RX18 yX18_value cX18_value 2 (some (.object "ThreeBodies$Value")) 0 := ⟨q2657, qs33, q150, q2658, by decide +kernel⟩
theorem mVX18_whole : xMV RX18 yX18_whole cX18_whole 2 (some (.object "ThreeBodies$Test")) 0 := ⟨q2578, qs27, q150, q2579, by decide +kernel⟩
theorem mVX19_add : xMV RX19 yX19_add cX19_add 3 none 1 := ⟨q2687, q2688, q151, q2689, by decide +kernel⟩
-- no selects: X19_holds
theorem mIX19_init : xMI yX19_init cX19_init 2 1 := ⟨q2592, q151, q2593, by decide +kernel, rfl⟩
theorem mVX1_angular : xMV RX1 yX1_angular cX1_angular 4 (some .long) 0 := ⟨q574, q575, q99, q576, by decide +kernel⟩
theorem mVX1_append : xMV RX1 yX1_append cX1_append 7 none 1 := ⟨q563, qs4, q99, q564, by decide +kernel⟩
theorem mVX1_approach : xMV RX1 yX1_approach cX1_approach 4 (some .int) 2 := ⟨q1536, q1537, q99, q1538, by decide +kernel⟩
theorem mVX1_approachAt : xMV RX1 yX1_approachAt cX1_approachAt 5 (some (.object "ThreeBodies$Approach")) 1 := ⟨q1541, qs17, q99, q1542, by decide +kernel⟩
theorem mVX1_approachCount : xMV RX1 yX1_approachCount cX1_approachCount 1 (some .int) 0 := ⟨q605, q606, q99, q607, by decide +kernel⟩
theorem mVX1_back : xMV RX1 yX1_back cX1_back 4 (some .int) 1 := ⟨q1602, q1603, q99, q1604, by decide +kernel⟩
theorem mVX1_band : xMV RX1 yX1_band cX1_band 1 (some .long) 0 := ⟨q588, q589, q99, q590, by decide +kernel⟩
theorem mVX1_begin : xMV RX1 yX1_begin cX1_begin 2 (some (.object "ThreeBodies$State")) 1 := ⟨q621, qs5, q99, q622, by decide +kernel⟩
theorem mVX1_bestPeriod : xMV RX1 yX1_bestPeriod cX1_bestPeriod 8 (some .int) 2 := ⟨q1717, q1718, q99, q1719, by decide +kernel⟩
theorem mVX1_body : xMV RX1 yX1_body cX1_body 4 (some .int) 2 := ⟨q1491, q1492, q99, q1493, by decide +kernel⟩
theorem mVX1_cell : xMV RX1 yX1_cell cX1_cell 10 (some .int) 5 := ⟨q2381, q2382, q99, q2383, by decide +kernel⟩
theorem mVX1_cellCount : xMV RX1 yX1_cellCount cX1_cellCount 5 (some .int) 3 := ⟨q1743, q1744, q99, q1745, by decide +kernel⟩
theorem mSX1_centreError : xMS yX1_centreError cX1_centreError 6 (some .int) 2 := ⟨q455, q99, q456, by decide +kernel⟩
theorem mVX1_change : xMV RX1 yX1_change cX1_change 6 (some .boolean) 3 := ⟨q1696, qs22, q99, q1697, by decide +kernel⟩
theorem mSX1_chaseError : xMS yX1_chaseError cX1_chaseError 6 (some .int) 2 := ⟨q441, q99, q442, by decide +kernel⟩
theorem mVX1_clock : xMV RX1 yX1_clock cX1_clock 1 (some .int) 0 := ⟨q570, q571, q99, q572, by decide +kernel⟩
theorem mVX1_crossings : xMV RX1 yX1_crossings cX1_crossings 1 (some .int) 0 := ⟨q601, q602, q99, q603, by decide +kernel⟩
theorem mSX1_distance : xMS yX1_distance cX1_distance 12 (some .int) 2 := ⟨q284, q99, q285, by decide +kernel⟩
theorem mVX1_distance_2 : xMV RX1 yX1_distance_2 cX1_distance_2 2 (some .int) 1 := ⟨q1514, q1515, q99, q1516, by decide +kernel⟩
theorem mVX1_error : xMV RX1 yX1_error cX1_error 3 (some .int) 2 := ⟨q1710, q1711, q99, q1712, by decide +kernel⟩
theorem mVX1_errorOf : xMV RX1 yX1_errorOf cX1_errorOf 4 (some .int) 3 := ⟨q1661, qs20, q99, q1662, by decide +kernel⟩
theorem mVX1_errorPosition : xMV RX1 yX1_errorPosition cX1_errorPosition 1 (some .int) 0 := ⟨q566, q567, q99, q568, by decide +kernel⟩
theorem mVX1_exchange : xMV RX1 yX1_exchange cX1_exchange 4 none 2 := ⟨q1629, q1630, q99, q1631, by decide +kernel⟩
theorem mVX1_feed : xMV RX1 yX1_feed cX1_feed 6 (some .int) 5 := ⟨q558, q559, q99, q560, by decide +kernel⟩
theorem mVX1_format : xMV RX1 yX1_format cX1_format 3 (some .int) 1 := ⟨q2484, q2485, q99, q2486, by decide +kernel⟩
theorem mVX1_formattedByte : xMV RX1 yX1_formattedByte cX1_formattedByte 2 (some .int) 1 := ⟨q862, q863, q99, q864, by decide +kernel⟩
theorem mSX1_gap : xMS yX1_gap cX1_gap 2 (some .int) 2 := ⟨q444, q99, q445, by decide +kernel⟩
theorem mVX1_impulse : xMV RX1 yX1_impulse cX1_impulse 3 (some .long) 2 := ⟨q1521, q1522, q99, q1523, by decide +kernel⟩
theorem mSX1_inRange : xMS yX1_inRange cX1_inRange 6 (some .boolean) 3 := ⟨q340, q99, q341, by decide +kernel⟩
theorem mIX1_init : xMI yX1_init cX1_init 1 0 := ⟨q156, q99, q157, by decide +kernel, rfl⟩
theorem mSX1_isPeriod : xMS yX1_isPeriod cX1_isPeriod 2 (some .boolean) 2 := ⟨q1654, q99, q1655, by decide +kernel⟩
theorem mVX1_kinetic : xMV RX1 yX1_kinetic cX1_kinetic 1 (some .long) 0 := ⟨q578, q579, q99, q580, by decide +kernel⟩
theorem mSX1_lambda_measures_4 : xMS yX1_lambda_measures_4 cX1_lambda_measures_4 2 (some .int) 2 := ⟨q438, q99, q439, by decide +kernel⟩
theorem mSX1_lambda_measures_5 : xMS yX1_lambda_measures_5 cX1_lambda_measures_5 2 (some .int) 2 := ⟨q452, q99, q453, by decide +kernel⟩
theorem mSX1_lambda_measures_6 : xMS yX1_lambda_measures_6 cX1_lambda_measures_6 2 (some .int) 2 := ⟨q457, q99, q458, by decide +kernel⟩
theorem mSX1_lambda_measures_7 : xMS yX1_lambda_measures_7 cX1_lambda_measures_7 2 (some .int) 2 := ⟨q462, q99, q463, by decide +kernel⟩
theorem mSX1_lambda_property_10 : xMS yX1_lambda_property_10 cX1_lambda_property_10 2 (some .int) 2 := ⟨q2676, q99, q2677, by decide +kernel⟩
theorem mSX1_lambda_property_11 : xMS yX1_lambda_property_11 cX1_lambda_property_11 2 (some .int) 2 := ⟨q2678, q99, q2679, by decide +kernel⟩
theorem mSX1_lambda_property_8 : xMS yX1_lambda_property_8 cX1_lambda_property_8 2 (some .int) 2 := ⟨q2672, q99, q2673, by decide +kernel⟩
theorem mSX1_lambda_property_9 : xMS yX1_lambda_property_9 cX1_lambda_property_9 2 (some .int) 2 := ⟨q2674, q99, q2675, by decide +kernel⟩
theorem mSX1_lambda_schemes_0 : xMS yX1_lambda_schemes_0 cX1_lambda_schemes_0 2 none 2 := ⟨q325, q99, q326, by decide +kernel⟩
theorem mSX1_lambda_schemes_1 : xMS yX1_lambda_schemes_1 cX1_lambda_schemes_1 2 none 2 := ⟨q408, q99, q409, by decide +kernel⟩
theorem mSX1_lambda_schemes_2 : xMS yX1_lambda_schemes_2 cX1_lambda_schemes_2 2 none 2 := ⟨q410, q99, q411, by decide +kernel⟩
theorem mSX1_lambda_schemes_3 : xMS yX1_lambda_schemes_3 cX1_lambda_schemes_3 2 none 2 := ⟨q424, q99, q425, by decide +kernel⟩
theorem mVX1_layPath : xMV RX1 yX1_layPath cX1_layPath 5 (some .int) 2 := ⟨q1665, qs21, q99, q1666, by decide +kernel⟩
theorem mVX1_meanDistance : xMV RX1 yX1_meanDistance cX1_meanDistance 3 (some .float) 0 := ⟨q856, q857, q99, q858, by decide +kernel⟩
theorem mSX1_measures : xMS yX1_measures cX1_measures 1 (some (.array (.object "ThreeBodies$Measure"))) 0 := ⟨q434, q99, q435, by decide +kernel⟩
theorem mSX1_mirrorError : xMS yX1_mirrorError cX1_mirrorError 6 (some .int) 2 := ⟨q465, q99, q466, by decide +kernel⟩
theorem mVX1_momentum : xMV RX1 yX1_momentum cX1_momentum 3 (some .long) 1 := ⟨q1529, q1530, q99, q1531, by decide +kernel⟩
theorem mVX1_place : xMV RX1 yX1_place cX1_place 6 (some .int) 3 := ⟨q1619, q1620, q99, q1621, by decide +kernel⟩
theorem mVX1_possible : xMV RX1 yX1_possible cX1_possible 5 (some .int) 1 := ⟨q1703, q1704, q99, q1705, by decide +kernel⟩
theorem mVX1_potential : xMV RX1 yX1_potential cX1_potential 1 (some .long) 0 := ⟨q583, q584, q99, q585, by decide +kernel⟩
theorem mSX1_property : xMS yX1_property cX1_property 3 (some (.object "ThreeBodies$Value")) 1 := ⟨q2664, q99, q2665, by decide +kernel⟩
theorem mVX1_push : xMV RX1 yX1_push cX1_push 9 (some .int) 3 := ⟨q1610, q1611, q99, q1612, by decide +kernel⟩
theorem mVX1_recurs : xMV RX1 yX1_recurs cX1_recurs 5 (some .int) 2 := ⟨q1724, q1725, q99, q1726, by decide +kernel⟩
theorem mVX1_refine : xMV RX1 yX1_refine cX1_refine 12 (some .int) 4 := ⟨q1649, q1650, q99, q1651, by decide +kernel⟩
theorem mSX1_require : xMS yX1_require cX1_require 1 none 1 := ⟨q949, q99, q950, by decide +kernel⟩
theorem mSX1_requireBody : xMS yX1_requireBody cX1_requireBody 1 none 1 := ⟨q1495, q99, q1496, by decide +kernel⟩
theorem mSX1_requireExists : xMS yX1_requireExists cX1_requireExists 1 none 1 := ⟨q1498, q99, q1499, by decide +kernel⟩
theorem mVX1_restoreSnapshot : xMV RX1 yX1_restoreSnapshot cX1_restoreSnapshot 1 (some .boolean) 0 := ⟨q929, q930, q99, q931, by decide +kernel⟩
theorem mSX1_returnError : xMS yX1_returnError cX1_returnError 4 (some .int) 2 := ⟨q460, q99, q461, by decide +kernel⟩
theorem mVX1_reverse : xMV RX1 yX1_reverse cX1_reverse 3 none 0 := ⟨q616, q617, q99, q618, by decide +kernel⟩
theorem mSX1_row : xMS yX1_row cX1_row 1 (some (.array (.object "ThreeBodies$Part"))) 1 := ⟨q431, q99, q432, by decide +kernel⟩
theorem mVX1_run : xMV RX1 yX1_run cX1_run 2 (some .int) 1 := ⟨q1553, q1554, q99, q1555, by decide +kernel⟩
theorem mVX1_saveSnapshot : xMV RX1 yX1_saveSnapshot cX1_saveSnapshot 1 none 0 := ⟨q925, q926, q99, q927, by decide +kernel⟩
theorem mSX1_schemes : xMS yX1_schemes cX1_schemes 5 (some (.array (.array (.object "ThreeBodies$Part")))) 0 := ⟨q323, q99, q324, by decide +kernel⟩
theorem mVX1_seen : xMV RX1 yX1_seen cX1_seen 2 (some .long) 1 := ⟨q597, q598, q99, q599, by decide +kernel⟩
theorem mVX1_setScheme : xMV RX1 yX1_setScheme cX1_setScheme 4 (some .int) 1 := ⟨q1642, q1643, q99, q1644, by decide +kernel⟩
theorem mVX1_setting : xMV RX1 yX1_setting cX1_setting 2 (some .int) 1 := ⟨q1506, q1507, q99, q1508, by decide +kernel⟩
theorem mSX1_swap : xMS yX1_swap cX1_swap 4 none 3 := ⟨q1633, q99, q1634, by decide +kernel⟩
theorem mSX1_swapLong : xMS yX1_swapLong cX1_swapLong 5 none 3 := ⟨q1636, q99, q1637, by decide +kernel⟩
theorem mVX1_turn : xMV RX1 yX1_turn cX1_turn 6 none 0 := ⟨q848, q849, q99, q850, by decide +kernel⟩
theorem mVX1_undo : xMV RX1 yX1_undo cX1_undo 1 (some .int) 0 := ⟨q906, q907, q99, q908, by decide +kernel⟩
theorem mVX1_undoCount : xMV RX1 yX1_undoCount cX1_undoCount 1 (some .int) 0 := ⟨q902, q903, q99, q904, by decide +kernel⟩
theorem mVX1_virial : xMV RX1 yX1_virial cX1_virial 3 (some .double) 0 := ⟨q852, q853, q99, q854, by decide +kernel⟩
theorem mVX1_visits : xMV RX1 yX1_visits cX1_visits 9 (some (.object "java/util/Map")) 3 := ⟨q1749, qs24, q99, q1750, by decide +kernel⟩
-- no selects: X20_code
theorem mIX20_init : xMI yX20_init cX20_init 2 1 := ⟨q2629, q152, q2630, by decide +kernel, rfl⟩
theorem mVX2_copy : xMV RX2 yX2_copy cX2_copy 4 (some (.object "ThreeBodies$State")) 0 := ⟨q661, q662, q100, q663, by decide +kernel⟩
theorem mIX2_init : xMI yX2_init cX2_init 1 0 := ⟨q164, q100, q165, by decide +kernel, rfl⟩
theorem mVX2_notice : xMV RX2 yX2_notice cX2_notice 3 none 0 := ⟨q1572, qs19, q100, q1573, by decide +kernel⟩
theorem mVX2_remember : xMV RX2 yX2_remember cX2_remember 2 none 0 := ⟨q1563, qs18, q100, q1564, by decide +kernel⟩
theorem mVX2_run : xMV RX2 yX2_run cX2_run 8 (some .int) 2 := ⟨q1558, q1559, q100, q1560, by decide +kernel⟩
theorem mVX2_see : xMV RX2 yX2_see cX2_see 1 none 0 := ⟨q251, q252, q100, q253, by decide +kernel⟩
theorem mVX3_areAt : xMV RX3 yX3_areAt cX3_areAt 4 (some .boolean) 3 := ⟨q1733, qs23, q101, q1734, by decide +kernel⟩
theorem mVX3_band : xMV RX3 yX3_band cX3_band 1 (some .long) 0 := ⟨q592, q593, q101, q594, by decide +kernel⟩
theorem mVX3_become : xMV RX3 yX3_become cX3_become 2 none 1 := ⟨q667, q668, q101, q669, by decide +kernel⟩
theorem mSX3_check : xMS yX3_check cX3_check 4 none 2 := ⟨q337, q101, q338, by decide +kernel⟩
theorem mVX3_distanceOf : xMV RX3 yX3_distanceOf cX3_distanceOf 2 (some .int) 1 := ⟨q280, q281, q101, q282, by decide +kernel⟩
theorem mVX3_drift : xMV RX3 yX3_drift cX3_drift 4 none 2 := ⟨q413, q414, q101, q415, by decide +kernel⟩
theorem mVX3_energy : xMV RX3 yX3_energy cX3_energy 1 (some .long) 0 := ⟨q255, q256, q101, q257, by decide +kernel⟩
theorem mVX3_impulse : xMV RX3 yX3_impulse cX3_impulse 6 (some .long) 2 := ⟨q332, q333, q101, q334, by decide +kernel⟩
theorem mIX3_init : xMI yX3_init cX3_init 1 0 := ⟨q170, q101, q171, by decide +kernel, rfl⟩
theorem mVX3_isAt : xMV RX3 yX3_isAt cX3_isAt 4 (some .boolean) 3 := ⟨q1736, q1737, q101, q1738, by decide +kernel⟩
theorem mVX3_isLike : xMV RX3 yX3_isLike cX3_isLike 5 (some .boolean) 2 := ⟨q1728, q1729, q101, q1730, by decide +kernel⟩
theorem mVX3_keep : xMV RX3 yX3_keep cX3_keep 1 none 0 := ⟨q715, qs6, q101, q716, by decide +kernel⟩
theorem mVX3_kick : xMV RX3 yX3_kick cX3_kick 8 none 2 := ⟨q328, q329, q101, q330, by decide +kernel⟩
theorem mVX3_kinetic : xMV RX3 yX3_kinetic cX3_kinetic 4 (some .long) 0 := ⟨q259, q260, q101, q261, by decide +kernel⟩
theorem mVX3_layBack : xMV RX3 yX3_layBack cX3_layBack 1 none 0 := ⟨q723, qs7, q101, q724, by decide +kernel⟩
theorem mVX3_moved : xMV RX3 yX3_moved cX3_moved 8 (some .int) 4 := ⟨q418, qs3, q101, q419, by decide +kernel⟩
theorem mVX3_potential : xMV RX3 yX3_potential cX3_potential 4 (some .long) 0 := ⟨q264, q265, q101, q266, by decide +kernel⟩
theorem mVX3_reach : xMV RX3 yX3_reach cX3_reach 2 (some .long) 1 := ⟨q277, qs1, q101, q278, by decide +kernel⟩
theorem mVX3_strength : xMV RX3 yX3_strength cX3_strength 2 (some .long) 1 := ⟨q269, qs0, q101, q270, by decide +kernel⟩
theorem mIX4_init : xMI yX4_init cX4_init 1 0 := ⟨q387, q106, q388, by decide +kernel, rfl⟩
theorem mIX5_init : xMI yX5_init cX5_init 1 0 := ⟨q504, q112, q505, by decide +kernel, rfl⟩
theorem mVX5_lay : xMV RX5 yX5_lay cX5_lay 4 none 2 := ⟨q1668, q1669, q112, q1670, by decide +kernel⟩
theorem mVX6_adds : xMV RX6 yX6_adds cX6_adds 2 none 1 := ⟨q3326, qs92, q113, q3327, by decide +kernel⟩
theorem mVX6_angular : xMV RX6 yX6_angular cX6_angular 4 (some .long) 0 := ⟨q3023, q3024, q113, q3025, by decide +kernel⟩
theorem mVX6_approach : xMV RX6 yX6_approach cX6_approach 3 (some .int) 2 := ⟨q3058, q3059, q113, q3060, by decide +kernel⟩
theorem mVX6_approachCount : xMV RX6 yX6_approachCount cX6_approachCount 1 (some .int) 0 := ⟨q3054, q3055, q113, q3056, by decide +kernel⟩
theorem mSX6_at : xMS yX6_at cX6_at 2 (some .int) 2 := ⟨q2712, q113, q2713, by decide +kernel⟩
theorem mSX6_away : xMS yX6_away cX6_away 4 (some .long) 2 := ⟨q2747, q113, q2748, by decide +kernel⟩
theorem mVX6_back : xMV RX6 yX6_back cX6_back 3 (some .int) 1 := ⟨q3111, q3112, q113, q3113, by decide +kernel⟩
theorem mVX6_band : xMV RX6 yX6_band cX6_band 1 (some .long) 0 := ⟨q3035, q3036, q113, q3037, by decide +kernel⟩
theorem mVX6_bandOf : xMV RX6 yX6_bandOf cX6_bandOf 2 (some .long) 1 := ⟨q3040, qs60, q113, q3041, by decide +kernel⟩
theorem mVX6_becomes : xMV RX6 yX6_becomes cX6_becomes 2 none 0 := ⟨q2716, qs35, q113, q2717, by decide +kernel⟩
theorem mVX6_begins : xMV RX6 yX6_begins cX6_begins 1 none 0 := ⟨q3116, qs69, q113, q3117, by decide +kernel⟩
theorem mVX6_bestPeriod : xMV RX6 yX6_bestPeriod cX6_bestPeriod 10 (some .int) 2 := ⟨q3229, q3230, q113, q3231, by decide +kernel⟩
theorem mVX6_body : xMV RX6 yX6_body cX6_body 3 (some .int) 2 := ⟨q2993, q2994, q113, q2995, by decide +kernel⟩
theorem mVX6_bodyRead : xMV RX6 yX6_bodyRead cX6_bodyRead 4 none 1 := ⟨q2979, qs56, q113, q2980, by decide +kernel⟩
theorem mVX6_byteAt : xMV RX6 yX6_byteAt cX6_byteAt 2 (some .int) 1 := ⟨q2908, qs43, q113, q2909, by decide +kernel⟩
theorem mVX6_cell : xMV RX6 yX6_cell cX6_cell 6 (some .int) 5 := ⟨q3269, q3270, q113, q3271, by decide +kernel⟩
theorem mVX6_cellCount : xMV RX6 yX6_cellCount cX6_cellCount 4 (some .int) 3 := ⟨q3261, q3262, q113, q3263, by decide +kernel⟩
theorem mVX6_centreError : xMV RX6 yX6_centreError cX6_centreError 7 (some .long) 1 := ⟨q3217, qs79, q113, q3218, by decide +kernel⟩
theorem mVX6_changes : xMV RX6 yX6_changes cX6_changes 7 (some .boolean) 2 := ⟨q3243, qs83, q113, q3244, by decide +kernel⟩
theorem mVX6_chaseError : xMV RX6 yX6_chaseError cX6_chaseError 7 (some .long) 1 := ⟨q3196, qs76, q113, q3197, by decide +kernel⟩
theorem mVX6_clears : xMV RX6 yX6_clears cX6_clears 2 none 0 := ⟨q2706, qs34, q113, q2707, by decide +kernel⟩
theorem mVX6_clock : xMV RX6 yX6_clock cX6_clock 1 (some .int) 0 := ⟨q2989, q2990, q113, q2991, by decide +kernel⟩
theorem mVX6_closes : xMV RX6 yX6_closes cX6_closes 1 none 0 := ⟨q3338, qs94, q113, q3339, by decide +kernel⟩
theorem mVX6_comparisonRead : xMV RX6 yX6_comparisonRead cX6_comparisonRead 2 none 0 := ⟨q3312, qs89, q113, q3313, by decide +kernel⟩
theorem mSX6_copy : xMS yX6_copy cX6_copy 3 none 2 := ⟨q2719, q113, q2720, by decide +kernel⟩
theorem mVX6_crossings : xMV RX6 yX6_crossings cX6_crossings 1 (some .int) 0 := ⟨q3050, q3051, q113, q3052, by decide +kernel⟩
theorem mVX6_distance : xMV RX6 yX6_distance cX6_distance 2 (some .int) 1 := ⟨q3007, q3008, q113, q3009, by decide +kernel⟩
theorem mSX6_distanceOf : xMS yX6_distanceOf cX6_distanceOf 4 (some .long) 2 := ⟨q2744, q113, q2745, by decide +kernel⟩
theorem mVX6_drifts : xMV RX6 yX6_drifts cX6_drifts 8 none 3 := ⟨q3094, qs66, q113, q3095, by decide +kernel⟩
theorem mVX6_energy : xMV RX6 yX6_energy cX6_energy 2 (some .long) 1 := ⟨q2723, qs36, q113, q2724, by decide +kernel⟩
theorem mVX6_error : xMV RX6 yX6_error cX6_error 5 (some .int) 2 := ⟨q3166, q3167, q113, q3168, by decide +kernel⟩
theorem mVX6_errorFrom : xMV RX6 yX6_errorFrom cX6_errorFrom 4 (some .long) 3 := ⟨q3180, qs72, q113, q3181, by decide +kernel⟩
theorem mVX6_errorOf : xMV RX6 yX6_errorOf cX6_errorOf 3 (some .long) 2 := ⟨q3192, qs75, q113, q3193, by decide +kernel⟩
theorem mVX6_errorPosition : xMV RX6 yX6_errorPosition cX6_errorPosition 1 (some .int) 0 := ⟨q2884, q2885, q113, q2886, by decide +kernel⟩
theorem mVX6_exchange : xMV RX6 yX6_exchange cX6_exchange 6 none 2 := ⟨q3142, q3143, q113, q3144, by decide +kernel⟩
theorem mVX6_fails : xMV RX6 yX6_fails cX6_fails 3 (some .boolean) 2 := ⟨q2896, qs40, q113, q2897, by decide +kernel⟩
theorem mVX6_feed : xMV RX6 yX6_feed cX6_feed 6 (some .int) 5 := ⟨q2876, q2877, q113, q2878, by decide +kernel⟩
theorem mSX6_firstOf : xMS yX6_firstOf cX6_firstOf 1 (some .int) 1 := ⟨q2734, q113, q2735, by decide +kernel⟩
theorem mSX6_fits : xMS yX6_fits cX6_fits 2 (some .boolean) 2 := ⟨q3176, q113, q3177, by decide +kernel⟩
theorem mSX6_floored : xMS yX6_floored cX6_floored 6 (some .long) 2 := ⟨q3043, q113, q3044, by decide +kernel⟩
theorem mVX6_format : xMV RX6 yX6_format cX6_format 2 (some .int) 1 := ⟨q3283, q3284, q113, q3285, by decide +kernel⟩
theorem mVX6_formattedByte : xMV RX6 yX6_formattedByte cX6_formattedByte 2 (some .int) 1 := ⟨q3296, q3297, q113, q3298, by decide +kernel⟩
theorem mSX6_gap : xMS yX6_gap cX6_gap 4 (some .long) 2 := ⟨q3207, q113, q3208, by decide +kernel⟩
theorem mVX6_goesIn : xMV RX6 yX6_goesIn cX6_goesIn 2 (some .boolean) 1 := ⟨q3317, qs90, q113, q3318, by decide +kernel⟩
theorem mSX6_greater : xMS yX6_greater cX6_greater 4 (some .long) 2 := ⟨q3213, q113, q3214, by decide +kernel⟩
theorem mVX6_holds : xMV RX6 yX6_holds cX6_holds 5 (some .boolean) 1 := ⟨q3355, qs97, q113, q3356, by decide +kernel⟩
theorem mVX6_impulse : xMV RX6 yX6_impulse cX6_impulse 3 (some .long) 2 := ⟨q3011, q3012, q113, q3013, by decide +kernel⟩
theorem mVX6_impulseOf : xMV RX6 yX6_impulseOf cX6_impulseOf 10 (some .long) 3 := ⟨q3016, qs59, q113, q3017, by decide +kernel⟩
theorem mSX6_in : xMS yX6_in cX6_in 6 (some .boolean) 3 := ⟨q2892, q113, q2893, by decide +kernel⟩
theorem mIX6_init : xMI yX6_init cX6_init 2 0 := ⟨q2701, q113, q2702, by decide +kernel, rfl⟩
theorem mVX6_isAsked : xMV RX6 yX6_isAsked cX6_isAsked 3 (some .boolean) 2 := ⟨q3171, qs71, q113, q3172, by decide +kernel⟩
theorem mVX6_isBack : xMV RX6 yX6_isBack cX6_isBack 5 (some .boolean) 1 := ⟨q3255, qs84, q113, q3256, by decide +kernel⟩
theorem mVX6_isByte : xMV RX6 yX6_isByte cX6_isByte 2 (some .boolean) 1 := ⟨q2963, qs54, q113, q2964, by decide +kernel⟩
theorem mSX6_isFigure : xMS yX6_isFigure cX6_isFigure 1 (some .boolean) 1 := ⟨q2920, q113, q2921, by decide +kernel⟩
theorem mVX6_isGood : xMV RX6 yX6_isGood cX6_isGood 1 (some .boolean) 0 := ⟨q2947, qs50, q113, q2948, by decide +kernel⟩
theorem mSX6_isIn : xMS yX6_isIn cX6_isIn 3 (some .boolean) 1 := ⟨q3097, q113, q3098, by decide +kernel⟩
theorem mVX6_isInside : xMV RX6 yX6_isInside cX6_isInside 2 (some .boolean) 0 := ⟨q3349, qs96, q113, q3350, by decide +kernel⟩
theorem mSX6_isLetter : xMS yX6_isLetter cX6_isLetter 1 (some .boolean) 1 := ⟨q2911, q113, q2912, by decide +kernel⟩
theorem mSX6_isLike : xMS yX6_isLike cX6_isLike 5 (some .boolean) 4 := ⟨q3258, q113, q3259, by decide +kernel⟩
theorem mVX6_isTaken : xMV RX6 yX6_isTaken cX6_isTaken 8 (some .boolean) 4 := ⟨q3128, qs70, q113, q3129, by decide +kernel⟩
theorem mVX6_isWord : xMV RX6 yX6_isWord cX6_isWord 3 (some .boolean) 1 := ⟨q2943, qs49, q113, q2944, by decide +kernel⟩
theorem mSX6_joined : xMS yX6_joined cX6_joined 3 (some .boolean) 3 := ⟨q3359, q113, q3360, by decide +kernel⟩
theorem mVX6_keepsApproach : xMV RX6 yX6_keepsApproach cX6_keepsApproach 7 none 3 := ⟨q3107, qs68, q113, q3108, by decide +kernel⟩
theorem mVX6_kicks : xMV RX6 yX6_kicks cX6_kicks 8 none 3 := ⟨q3090, qs65, q113, q3091, by decide +kernel⟩
theorem mVX6_kinetic : xMV RX6 yX6_kinetic cX6_kinetic 1 (some .long) 0 := ⟨q3027, q3028, q113, q3029, by decide +kernel⟩
theorem mSX6_kineticOf : xMS yX6_kineticOf cX6_kineticOf 4 (some .long) 1 := ⟨q2726, q113, q2727, by decide +kernel⟩
theorem mVX6_lays : xMV RX6 yX6_lays cX6_lays 3 none 1 := ⟨q2881, qs39, q113, q2882, by decide +kernel⟩
theorem mVX6_laysCells : xMV RX6 yX6_laysCells cX6_laysCells 10 (some .boolean) 3 := ⟨q3266, qs85, q113, q3267, by decide +kernel⟩
theorem mVX6_laysPath : xMV RX6 yX6_laysPath cX6_laysPath 4 (some .int) 2 := ⟨q3184, qs73, q113, q3185, by decide +kernel⟩
theorem mVX6_laysPlaces : xMV RX6 yX6_laysPlaces cX6_laysPlaces 4 none 2 := ⟨q3188, qs74, q113, q3189, by decide +kernel⟩
theorem mVX6_load : xMV RX6 yX6_load cX6_load 3 (some .int) 1 := ⟨q2888, q2889, q113, q2890, by decide +kernel⟩
theorem mVX6_looks : xMV RX6 yX6_looks cX6_looks 4 none 0 := ⟨q3103, qs67, q113, q3104, by decide +kernel⟩
theorem mVX6_meanDistance : xMV RX6 yX6_meanDistance cX6_meanDistance 3 (some .float) 0 := ⟨q3278, q3279, q113, q3280, by decide +kernel⟩
theorem mVX6_mirrorError : xMV RX6 yX6_mirrorError cX6_mirrorError 7 (some .long) 1 := ⟨q3225, qs81, q113, q3226, by decide +kernel⟩
theorem mVX6_momentum : xMV RX6 yX6_momentum cX6_momentum 2 (some .long) 1 := ⟨q3019, q3020, q113, q3021, by decide +kernel⟩
theorem mVX6_must : xMV RX6 yX6_must cX6_must 2 none 1 := ⟨q2959, qs53, q113, q2960, by decide +kernel⟩
theorem mVX6_next : xMV RX6 yX6_next cX6_next 1 none 0 := ⟨q2904, qs42, q113, q2905, by decide +kernel⟩
theorem mVX6_noBody : xMV RX6 yX6_noBody cX6_noBody 2 (some .boolean) 1 := ⟨q2998, qs58, q113, q2999, by decide +kernel⟩
theorem mVX6_number : xMV RX6 yX6_number cX6_number 7 (some .long) 2 := ⟨q2951, qs51, q113, q2952, by decide +kernel⟩
theorem mSX6_partOf : xMS yX6_partOf cX6_partOf 3 (some .int) 2 := ⟨q3086, q113, q3087, by decide +kernel⟩
theorem mVX6_passes : xMV RX6 yX6_passes cX6_passes 3 (some .boolean) 1 := ⟨q2939, qs48, q113, q2940, by decide +kernel⟩
theorem mVX6_place : xMV RX6 yX6_place cX6_place 6 (some .int) 3 := ⟨q3123, q3124, q113, q3125, by decide +kernel⟩
theorem mVX6_possible : xMV RX6 yX6_possible cX6_possible 3 (some .int) 1 := ⟨q3246, q3247, q113, q3248, by decide +kernel⟩
theorem mVX6_potential : xMV RX6 yX6_potential cX6_potential 1 (some .long) 0 := ⟨q3031, q3032, q113, q3033, by decide +kernel⟩
theorem mVX6_potentialOf : xMV RX6 yX6_potentialOf cX6_potentialOf 5 (some .long) 1 := ⟨q2731, qs37, q113, q2732, by decide +kernel⟩
theorem mVX6_propertyHere : xMV RX6 yX6_propertyHere cX6_propertyHere 1 (some .int) 0 := ⟨q3330, qs93, q113, q3331, by decide +kernel⟩
theorem mVX6_push : xMV RX6 yX6_push cX6_push 8 (some .int) 3 := ⟨q3119, q3120, q113, q3121, by decide +kernel⟩
theorem mVX6_px : xMV RX6 yX6_px cX6_px 3 (some .long) 2 := ⟨q3200, qs77, q113, q3201, by decide +kernel⟩
theorem mVX6_py : xMV RX6 yX6_py cX6_py 3 (some .long) 2 := ⟨q3204, qs78, q113, q3205, by decide +kernel⟩
theorem mVX6_query : xMV RX6 yX6_query cX6_query 5 (some .int) 1 := ⟨q3300, q3301, q113, q3302, by decide +kernel⟩
theorem mVX6_reachOf : xMV RX6 yX6_reachOf cX6_reachOf 3 (some .long) 2 := ⟨q2741, qs38, q113, q2742, by decide +kernel⟩
theorem mVX6_reads : xMV RX6 yX6_reads cX6_reads 3 none 0 := ⟨q3308, qs88, q113, q3309, by decide +kernel⟩
theorem mVX6_readsNumber : xMV RX6 yX6_readsNumber cX6_readsNumber 1 none 0 := ⟨q2924, qs45, q113, q2925, by decide +kernel⟩
theorem mVX6_readsWord : xMV RX6 yX6_readsWord cX6_readsWord 1 none 0 := ⟨q2915, qs44, q113, q2916, by decide +kernel⟩
theorem mVX6_records : xMV RX6 yX6_records cX6_records 2 none 0 := ⟨q3068, qs61, q113, q3069, by decide +kernel⟩
theorem mVX6_recurs : xMV RX6 yX6_recurs cX6_recurs 4 (some .int) 2 := ⟨q3250, q3251, q113, q3252, by decide +kernel⟩
theorem mVX6_refine : xMV RX6 yX6_refine cX6_refine 8 (some .int) 4 := ⟨q3233, q3234, q113, q3235, by decide +kernel⟩
theorem mVX6_remembers : xMV RX6 yX6_remembers cX6_remembers 2 none 0 := ⟨q3072, qs62, q113, q3073, by decide +kernel⟩
theorem mVX6_restoreSnapshot : xMV RX6 yX6_restoreSnapshot cX6_restoreSnapshot 1 (some .boolean) 0 := ⟨q3162, q3163, q113, q3164, by decide +kernel⟩
theorem mVX6_returnError : xMV RX6 yX6_returnError cX6_returnError 5 (some .long) 1 := ⟨q3221, qs80, q113, q3222, by decide +kernel⟩
theorem mVX6_reverse : xMV RX6 yX6_reverse cX6_reverse 2 none 0 := ⟨q3131, q3132, q113, q3133, by decide +kernel⟩
theorem mSX6_root : xMS yX6_root cX6_root 8 (some .long) 1 := ⟨q2750, q113, q2751, by decide +kernel⟩
theorem mVX6_round : xMV RX6 yX6_round cX6_round 11 (some .long) 3 := ⟨q3239, qs82, q113, q3240, by decide +kernel⟩
theorem mVX6_run : xMV RX6 yX6_run cX6_run 3 (some .int) 1 := ⟨q3062, q3063, q113, q3064, by decide +kernel⟩
theorem mVX6_runsOne : xMV RX6 yX6_runsOne cX6_runsOne 5 (some .boolean) 0 := ⟨q3076, qs63, q113, q3077, by decide +kernel⟩
theorem mVX6_saveSnapshot : xMV RX6 yX6_saveSnapshot cX6_saveSnapshot 1 none 0 := ⟨q3158, q3159, q113, q3160, by decide +kernel⟩
theorem mVX6_says : xMV RX6 yX6_says cX6_says 2 none 1 := ⟨q3288, qs86, q113, q3289, by decide +kernel⟩
theorem mVX6_saysNumber : xMV RX6 yX6_saysNumber cX6_saysNumber 7 none 1 := ⟨q3292, qs87, q113, q3293, by decide +kernel⟩
theorem mVX6_schemeRead : xMV RX6 yX6_schemeRead cX6_schemeRead 1 (some .boolean) 0 := ⟨q2971, qs55, q113, q2972, by decide +kernel⟩
theorem mSX6_secondOf : xMS yX6_secondOf cX6_secondOf 1 (some .int) 1 := ⟨q2737, q113, q2738, by decide +kernel⟩
theorem mVX6_seen : xMV RX6 yX6_seen cX6_seen 2 (some .long) 1 := ⟨q3046, q3047, q113, q3048, by decide +kernel⟩
theorem mVX6_setScheme : xMV RX6 yX6_setScheme cX6_setScheme 3 (some .int) 1 := ⟨q3146, q3147, q113, q3148, by decide +kernel⟩
theorem mVX6_setting : xMV RX6 yX6_setting cX6_setting 2 (some .int) 1 := ⟨q3002, q3003, q113, q3004, by decide +kernel⟩
theorem mVX6_settingRead : xMV RX6 yX6_settingRead cX6_settingRead 8 (some .boolean) 4 := ⟨q2935, qs47, q113, q2936, by decide +kernel⟩
theorem mVX6_settingsRead : xMV RX6 yX6_settingsRead cX6_settingsRead 2 none 0 := ⟨q2930, qs46, q113, q2931, by decide +kernel⟩
theorem mVX6_settles : xMV RX6 yX6_settles cX6_settles 2 none 1 := ⟨q3342, qs95, q113, q3343, by decide +kernel⟩
theorem mVX6_signed : xMV RX6 yX6_signed cX6_signed 6 (some .long) 1 := ⟨q2986, qs57, q113, q2987, by decide +kernel⟩
theorem mSX6_size : xMS yX6_size cX6_size 2 (some .long) 1 := ⟨q3210, q113, q3211, by decide +kernel⟩
theorem mVX6_starts : xMV RX6 yX6_starts cX6_starts 2 none 1 := ⟨q2900, qs41, q113, q2901, by decide +kernel⟩
theorem mVX6_steps : xMV RX6 yX6_steps cX6_steps 8 (some .boolean) 2 := ⟨q3080, qs64, q113, q3081, by decide +kernel⟩
theorem mSX6_strength : xMS yX6_strength cX6_strength 1 (some .int) 1 := ⟨q3345, q113, q3346, by decide +kernel⟩
theorem mVX6_thrown : xMV RX6 yX6_thrown cX6_thrown 1 (some .int) 0 := ⟨q2872, q2873, q113, q2874, by decide +kernel⟩
theorem mVX6_turn : xMV RX6 yX6_turn cX6_turn 2 none 0 := ⟨q3135, q3136, q113, q3137, by decide +kernel⟩
theorem mSX6_turns : xMS yX6_turns cX6_turns 4 none 2 := ⟨q3139, q113, q3140, by decide +kernel⟩
theorem mVX6_undo : xMV RX6 yX6_undo cX6_undo 2 (some .int) 0 := ⟨q3154, q3155, q113, q3156, by decide +kernel⟩
theorem mVX6_undoCount : xMV RX6 yX6_undoCount cX6_undoCount 1 (some .int) 0 := ⟨q3150, q3151, q113, q3152, by decide +kernel⟩
theorem mVX6_valueRead : xMV RX6 yX6_valueRead cX6_valueRead 2 none 0 := ⟨q3321, qs91, q113, q3322, by decide +kernel⟩
theorem mVX6_virial : xMV RX6 yX6_virial cX6_virial 3 (some .double) 0 := ⟨q3274, q3275, q113, q3276, by decide +kernel⟩
theorem mVX6_wrongs : xMV RX6 yX6_wrongs cX6_wrongs 2 (some .boolean) 1 := ⟨q2955, qs52, q113, q2956, by decide +kernel⟩
theorem mVX7_body : xMV RX7 yX7_body cX7_body 3 none 1 := ⟨q1416, qs15, q116, q1417, by decide +kernel⟩
theorem mIX7_init : xMI yX7_init cX7_init 2 1 := ⟨q1294, q116, q1295, by decide +kernel, rfl⟩
theorem mVX7_scheme : xMV RX7 yX7_scheme cX7_scheme 1 (some .int) 0 := ⟨q1396, qs14, q116, q1397, by decide +kernel⟩
theorem mVX7_setting : xMV RX7 yX7_setting cX7_setting 1 (some .boolean) 0 := ⟨q1318, qs13, q116, q1319, by decide +kernel⟩
theorem mVX7_signed : xMV RX7 yX7_signed cX7_signed 4 (some .int) 1 := ⟨q1422, qs16, q116, q1423, by decide +kernel⟩
theorem mVX8_accept : xMV RX8 yX8_accept cX8_accept 3 (some .boolean) 1 := ⟨q1322, q1323, q117, q1324, by decide +kernel⟩
theorem mVX8_advance : xMV RX8 yX8_advance cX8_advance 1 none 0 := ⟨q977, q978, q117, q979, by decide +kernel⟩
theorem mVX8_digits : xMV RX8 yX8_digits cX8_digits 2 (some .int) 0 := ⟨q1205, qs12, q117, q1206, by decide +kernel⟩
theorem mVX8_expect : xMV RX8 yX8_expect cX8_expect 2 none 1 := ⟨q1407, q1408, q117, q1409, by decide +kernel⟩
theorem mVX8_expectWord : xMV RX8 yX8_expectWord cX8_expectWord 2 none 1 := ⟨q1402, q1403, q117, q1404, by decide +kernel⟩
theorem mIX8_init : xMI yX8_init cX8_init 4 3 := ⟨q972, q117, q973, by decide +kernel, rfl⟩
theorem mVX8_isAt : xMV RX8 yX8_isAt cX8_isAt 2 (some .boolean) 1 := ⟨q1411, q1412, q117, q1413, by decide +kernel⟩
theorem mVX8_isBetween : xMV RX8 yX8_isBetween cX8_isBetween 4 (some .boolean) 3 := ⟨q982, qs10, q117, q983, by decide +kernel⟩
theorem mVX8_isWord : xMV RX8 yX8_isWord cX8_isWord 2 (some .boolean) 1 := ⟨q1326, q1327, q117, q1328, by decide +kernel⟩
theorem mVX8_letters : xMV RX8 yX8_letters cX8_letters 2 (some (.object "java/lang/String")) 0 := ⟨q986, qs11, q117, q987, by decide +kernel⟩
theorem mVX8_look : xMV RX8 yX8_look cX8_look 3 (some .int) 2 := ⟨q1343, q1344, q117, q1345, by decide +kernel⟩
theorem mVX8_number : xMV RX8 yX8_number cX8_number 4 (some .int) 2 := ⟨q1339, q1340, q117, q1341, by decide +kernel⟩
theorem mVX8_wrong : xMV RX8 yX8_wrong cX8_wrong 1 (some (.object "ThreeBodies$SyntaxException")) 0 := ⟨q1347, q1348, q117, q1349, by decide +kernel⟩
theorem mIX9_init : xMI yX9_init cX9_init 2 1 := ⟨q1363, q126, q1364, by decide +kernel, rfl⟩
theorem ic_m1 : Int32.ofInt (-1) = (-1) := by decide
theorem ic_0 : Int32.ofInt 0 = 0 := by decide
theorem ic_1 : Int32.ofInt 1 = 1 := by decide
theorem ic_2 : Int32.ofInt 2 = 2 := by decide
theorem ic_3 : Int32.ofInt 3 = 3 := by decide
theorem ic_4 : Int32.ofInt 4 = 4 := by decide
theorem ic_5 : Int32.ofInt 5 = 5 := by decide
theorem lc_0 : Int64.ofNat ((0 : Fin 2) : Nat) = 0 := by decide
theorem lc_1 : Int64.ofNat ((1 : Fin 2) : Nat) = 1 := by decide
theorem bp_m100 : (Int8.ofInt (-100)).toInt32 = (-100) := by decide
theorem bp_m10 : (Int8.ofInt (-10)).toInt32 = (-10) := by decide
theorem bp_m9 : (Int8.ofInt (-9)).toInt32 = (-9) := by decide
theorem bp_m4 : (Int8.ofInt (-4)).toInt32 = (-4) := by decide
theorem bp_m3 : (Int8.ofInt (-3)).toInt32 = (-3) := by decide
theorem bp_m2 : (Int8.ofInt (-2)).toInt32 = (-2) := by decide
theorem bp_6 : (Int8.ofInt 6).toInt32 = 6 := by decide
theorem bp_7 : (Int8.ofInt 7).toInt32 = 7 := by decide
theorem bp_8 : (Int8.ofInt 8).toInt32 = 8 := by decide
theorem bp_10 : (Int8.ofInt 10).toInt32 = 10 := by decide
theorem bp_12 : (Int8.ofInt 12).toInt32 = 12 := by decide
theorem bp_16 : (Int8.ofInt 16).toInt32 = 16 := by decide
theorem bp_17 : (Int8.ofInt 17).toInt32 = 17 := by decide
theorem bp_19 : (Int8.ofInt 19).toInt32 = 19 := by decide
theorem bp_20 : (Int8.ofInt 20).toInt32 = 20 := by decide
theorem bp_21 : (Int8.ofInt 21).toInt32 = 21 := by decide
theorem bp_22 : (Int8.ofInt 22).toInt32 = 22 := by decide
theorem bp_23 : (Int8.ofInt 23).toInt32 = 23 := by decide
theorem bp_24 : (Int8.ofInt 24).toInt32 = 24 := by decide
theorem bp_25 : (Int8.ofInt 25).toInt32 = 25 := by decide
theorem bp_30 : (Int8.ofInt 30).toInt32 = 30 := by decide
theorem bp_31 : (Int8.ofInt 31).toInt32 = 31 := by decide
theorem bp_32 : (Int8.ofInt 32).toInt32 = 32 := by decide
theorem bp_40 : (Int8.ofInt 40).toInt32 = 40 := by decide
theorem bp_41 : (Int8.ofInt 41).toInt32 = 41 := by decide
theorem bp_45 : (Int8.ofInt 45).toInt32 = 45 := by decide
theorem bp_48 : (Int8.ofInt 48).toInt32 = 48 := by decide
theorem bp_57 : (Int8.ofInt 57).toInt32 = 57 := by decide
theorem bp_59 : (Int8.ofInt 59).toInt32 = 59 := by decide
theorem bp_60 : (Int8.ofInt 60).toInt32 = 60 := by decide
theorem bp_61 : (Int8.ofInt 61).toInt32 = 61 := by decide
theorem bp_62 : (Int8.ofInt 62).toInt32 = 62 := by decide
theorem bp_63 : (Int8.ofInt 63).toInt32 = 63 := by decide
theorem bp_64 : (Int8.ofInt 64).toInt32 = 64 := by decide
theorem bp_80 : (Int8.ofInt 80).toInt32 = 80 := by decide
theorem bp_91 : (Int8.ofInt 91).toInt32 = 91 := by decide
theorem bp_93 : (Int8.ofInt 93).toInt32 = 93 := by decide
theorem bp_97 : (Int8.ofInt 97).toInt32 = 97 := by decide
theorem bp_98 : (Int8.ofInt 98).toInt32 = 98 := by decide
theorem bp_99 : (Int8.ofInt 99).toInt32 = 99 := by decide
theorem bp_100 : (Int8.ofInt 100).toInt32 = 100 := by decide
theorem bp_108 : (Int8.ofInt 108).toInt32 = 108 := by decide
theorem bp_109 : (Int8.ofInt 109).toInt32 = 109 := by decide
theorem bp_110 : (Int8.ofInt 110).toInt32 = 110 := by decide
theorem bp_111 : (Int8.ofInt 111).toInt32 = 111 := by decide
theorem bp_117 : (Int8.ofInt 117).toInt32 = 117 := by decide
theorem bp_122 : (Int8.ofInt 122).toInt32 = 122 := by decide
theorem sp_200 : (Int16.ofInt 200).toInt32 = 200 := by decide
theorem sp_255 : (Int16.ofInt 255).toInt32 = 255 := by decide
theorem sp_256 : (Int16.ofInt 256).toInt32 = 256 := by decide
theorem sp_301 : (Int16.ofInt 301).toInt32 = 301 := by decide
theorem sp_600 : (Int16.ofInt 600).toInt32 = 600 := by decide
theorem sp_1000 : (Int16.ofInt 1000).toInt32 = 1000 := by decide
theorem sp_1023 : (Int16.ofInt 1023).toInt32 = 1023 := by decide
theorem sp_1110 : (Int16.ofInt 1110).toInt32 = 1110 := by decide
theorem sp_1806 : (Int16.ofInt 1806).toInt32 = 1806 := by decide
