/-! THE G LAYER, part 8: frames of the methods, default fields, what each call asks of the tables, calls by number of arguments (printed by tool/genlinks.py). -/
set_option maxRecDepth 100000
abbrev fJ0_init : gFi := (RJ0, cJ0_init, 1, (Option.none : Option FieldType), true)
abbrev fJ1_init : gFi := (RJ1, cJ1_init, 1, (Option.none : Option FieldType), true)
abbrev fJ10_canEncode : gFi := (RJ10, cJ10_canEncode, 1, (Option.some FieldType.boolean), false)
abbrev fJ10_charAt : gFi := (RJ10, cJ10_charAt, 2, (Option.some FieldType.char), false)
abbrev fJ10_compareTo : gFi := (RJ10, cJ10_compareTo, 4, (Option.some FieldType.int), false)
abbrev fJ10_compareToUTF16 : gFi := (RJ10, cJ10_compareToUTF16, 4, (Option.some FieldType.int), false)
abbrev fJ10_compareToUTF16Values : gFi := (RJ10, cJ10_compareToUTF16Values, 8, (Option.some FieldType.int), false)
abbrev fJ10_compareToUTF16_2 : gFi := (RJ10, cJ10_compareToUTF16_2, 4, (Option.some FieldType.int), false)
abbrev fJ10_compareTo_2 : gFi := (RJ10, cJ10_compareTo_2, 6, (Option.some FieldType.int), false)
abbrev fJ10_equals : gFi := (RJ10, cJ10_equals, 3, (Option.some FieldType.boolean), false)
abbrev fJ10_getChar : gFi := (RJ10, cJ10_getChar, 2, (Option.some FieldType.char), false)
abbrev fJ10_hashCode : gFi := (RJ10, cJ10_hashCode, 1, (Option.some FieldType.int), false)
abbrev fJ10_inflate : gFi := (RJ10, cJ10_inflate, 5, (Option.none : Option FieldType), false)
abbrev fJ10_length : gFi := (RJ10, cJ10_length, 1, (Option.some FieldType.int), false)
abbrev fJ10_newString : gFi := (RJ10, cJ10_newString, 3, (Option.some (FieldType.object "java/lang/String")), false)
abbrev fJ11_checkFromIndexSize : gFi := (RJ11, cJ11_checkFromIndexSize, 4, (Option.some FieldType.int), false)
abbrev fJ11_checkFromToIndex : gFi := (RJ11, cJ11_checkFromToIndex, 4, (Option.some FieldType.int), false)
abbrev fJ11_checkIndex : gFi := (RJ11, cJ11_checkIndex, 3, (Option.some FieldType.int), false)
abbrev fJ12_checkIndex : gFi := (RJ12, cJ12_checkIndex, 2, (Option.some FieldType.int), false)
abbrev fJ13_init : gFi := (RJ13, cJ13_init, 1, (Option.none : Option FieldType), true)
abbrev fJ14_afterNodeAccess : gFi := (RJ14, cJ14_afterNodeAccess, 2, (Option.none : Option FieldType), false)
abbrev fJ14_afterNodeInsertion : gFi := (RJ14, cJ14_afterNodeInsertion, 2, (Option.none : Option FieldType), false)
abbrev fJ14_comparableClassFor : gFi := (RJ14, cJ14_comparableClassFor, 9, (Option.some (FieldType.object "java/lang/Class")), false)
abbrev fJ14_compareComparables : gFi := (RJ14, cJ14_compareComparables, 3, (Option.some FieldType.int), false)
abbrev fJ14_containsKey : gFi := (RJ14, cJ14_containsKey, 2, (Option.some FieldType.boolean), false)
abbrev fJ14_get : gFi := (RJ14, cJ14_get, 3, (Option.some (FieldType.object "java/lang/Object")), false)
abbrev fJ14_getNode : gFi := (RJ14, cJ14_getNode, 8, (Option.some (FieldType.object "java/util/HashMap$Node")), false)
abbrev fJ14_hash : gFi := (RJ14, cJ14_hash, 2, (Option.some FieldType.int), false)
abbrev fJ14_init : gFi := (RJ14, cJ14_init, 1, (Option.none : Option FieldType), true)
abbrev fJ14_keySet : gFi := (RJ14, cJ14_keySet, 2, (Option.some (FieldType.object "java/util/Set")), false)
abbrev fJ14_newNode : gFi := (RJ14, cJ14_newNode, 5, (Option.some (FieldType.object "java/util/HashMap$Node")), false)
abbrev fJ14_newTreeNode : gFi := (RJ14, cJ14_newTreeNode, 5, (Option.some (FieldType.object "java/util/HashMap$TreeNode")), false)
abbrev fJ14_put : gFi := (RJ14, cJ14_put, 3, (Option.some (FieldType.object "java/lang/Object")), false)
abbrev fJ14_putVal : gFi := (RJ14, cJ14_putVal, 13, (Option.some (FieldType.object "java/lang/Object")), false)
abbrev fJ14_replacementNode : gFi := (RJ14, cJ14_replacementNode, 3, (Option.some (FieldType.object "java/util/HashMap$Node")), false)
abbrev fJ14_replacementTreeNode : gFi := (RJ14, cJ14_replacementTreeNode, 3, (Option.some (FieldType.object "java/util/HashMap$TreeNode")), false)
abbrev fJ14_resize : gFi := (RJ14, cJ14_resize, 14, (Option.some (FieldType.array (FieldType.object "java/util/HashMap$Node"))), false)
abbrev fJ14_size : gFi := (RJ14, cJ14_size, 1, (Option.some FieldType.int), false)
abbrev fJ14_treeifyBin : gFi := (RJ14, cJ14_treeifyBin, 9, (Option.none : Option FieldType), false)
abbrev fJ15_init : gFi := (RJ15, cJ15_init, 1, (Option.none : Option FieldType), true)
abbrev fJ16_add : gFi := (RJ16, cJ16_add, 2, (Option.some FieldType.boolean), false)
abbrev fJ16_contains : gFi := (RJ16, cJ16_contains, 2, (Option.some FieldType.boolean), false)
abbrev fJ16_init : gFi := (RJ16, cJ16_init, 1, (Option.none : Option FieldType), true)
abbrev fJ16_iterator : gFi := (RJ16, cJ16_iterator, 1, (Option.some (FieldType.object "java/util/Iterator")), false)
abbrev fJ17_init : gFi := (RJ17, cJ17_init, 1, (Option.none : Option FieldType), true)
abbrev fJ18_bitCount : gFi := (RJ18, cJ18_bitCount, 1, (Option.some FieldType.int), false)
abbrev fJ18_compare : gFi := (RJ18, cJ18_compare, 2, (Option.some FieldType.int), false)
abbrev fJ18_compareTo : gFi := (RJ18, cJ18_compareTo, 2, (Option.some FieldType.int), false)
abbrev fJ18_compareTo_2 : gFi := (RJ18, cJ18_compareTo_2, 2, (Option.some FieldType.int), false)
abbrev fJ18_equals : gFi := (RJ18, cJ18_equals, 2, (Option.some FieldType.boolean), false)
abbrev fJ18_hashCode : gFi := (RJ18, cJ18_hashCode, 1, (Option.some FieldType.int), false)
abbrev fJ18_hashCode_2 : gFi := (RJ18, cJ18_hashCode_2, 1, (Option.some FieldType.int), false)
abbrev fJ18_init : gFi := (RJ18, cJ18_init, 2, (Option.none : Option FieldType), true)
abbrev fJ18_intValue : gFi := (RJ18, cJ18_intValue, 1, (Option.some FieldType.int), false)
abbrev fJ18_numberOfLeadingZeros : gFi := (RJ18, cJ18_numberOfLeadingZeros, 2, (Option.some FieldType.int), false)
abbrev fJ18_numberOfTrailingZeros : gFi := (RJ18, cJ18_numberOfTrailingZeros, 2, (Option.some FieldType.int), false)
abbrev fJ18_valueOf : gFi := (RJ18, cJ18_valueOf, 1, (Option.some (FieldType.object "java/lang/Integer")), false)
abbrev fJ2_add : gFi := (RJ2, cJ2_add, 2, (Option.some FieldType.boolean), false)
abbrev fJ2_add_2 : gFi := (RJ2, cJ2_add_2, 4, (Option.none : Option FieldType), false)
abbrev fJ2_add_3 : gFi := (RJ2, cJ2_add_3, 5, (Option.none : Option FieldType), false)
abbrev fJ2_clear : gFi := (RJ2, cJ2_clear, 4, (Option.none : Option FieldType), false)
abbrev fJ2_elementData : gFi := (RJ2, cJ2_elementData, 2, (Option.some (FieldType.object "java/lang/Object")), false)
abbrev fJ2_fastRemove : gFi := (RJ2, cJ2_fastRemove, 4, (Option.none : Option FieldType), false)
abbrev fJ2_get : gFi := (RJ2, cJ2_get, 2, (Option.some (FieldType.object "java/lang/Object")), false)
abbrev fJ2_grow : gFi := (RJ2, cJ2_grow, 1, (Option.some (FieldType.array (FieldType.object "java/lang/Object"))), false)
abbrev fJ2_grow_2 : gFi := (RJ2, cJ2_grow_2, 4, (Option.some (FieldType.array (FieldType.object "java/lang/Object"))), false)
abbrev fJ2_init : gFi := (RJ2, cJ2_init, 1, (Option.none : Option FieldType), true)
abbrev fJ2_isEmpty : gFi := (RJ2, cJ2_isEmpty, 1, (Option.some FieldType.boolean), false)
abbrev fJ2_rangeCheckForAdd : gFi := (RJ2, cJ2_rangeCheckForAdd, 2, (Option.none : Option FieldType), false)
abbrev fJ2_remove : gFi := (RJ2, cJ2_remove, 4, (Option.some (FieldType.object "java/lang/Object")), false)
abbrev fJ2_size : gFi := (RJ2, cJ2_size, 1, (Option.some FieldType.int), false)
abbrev fJ21_getKey : gFi := (RJ21, cJ21_getKey, 1, (Option.some (FieldType.object "java/lang/Object")), false)
abbrev fJ21_init : gFi := (RJ21, cJ21_init, 5, (Option.none : Option FieldType), true)
abbrev fJ22_init : gFi := (RJ22, cJ22_init, 5, (Option.none : Option FieldType), true)
abbrev fJ24_init : gFi := (RJ24, cJ24_init, 1, (Option.none : Option FieldType), true)
abbrev fJ25_afterNodeAccess : gFi := (RJ25, cJ25_afterNodeAccess, 7, (Option.none : Option FieldType), false)
abbrev fJ25_afterNodeInsertion : gFi := (RJ25, cJ25_afterNodeInsertion, 4, (Option.none : Option FieldType), false)
abbrev fJ25_get : gFi := (RJ25, cJ25_get, 3, (Option.some (FieldType.object "java/lang/Object")), false)
abbrev fJ25_init : gFi := (RJ25, cJ25_init, 1, (Option.none : Option FieldType), true)
abbrev fJ25_keySet : gFi := (RJ25, cJ25_keySet, 1, (Option.some (FieldType.object "java/util/Set")), false)
abbrev fJ25_linkNodeAtEnd : gFi := (RJ25, cJ25_linkNodeAtEnd, 3, (Option.none : Option FieldType), false)
abbrev fJ25_newNode : gFi := (RJ25, cJ25_newNode, 6, (Option.some (FieldType.object "java/util/HashMap$Node")), false)
abbrev fJ25_newTreeNode : gFi := (RJ25, cJ25_newTreeNode, 6, (Option.some (FieldType.object "java/util/HashMap$TreeNode")), false)
abbrev fJ25_removeEldestEntry : gFi := (RJ25, cJ25_removeEldestEntry, 2, (Option.some FieldType.boolean), false)
abbrev fJ25_replacementNode : gFi := (RJ25, cJ25_replacementNode, 5, (Option.some (FieldType.object "java/util/HashMap$Node")), false)
abbrev fJ25_replacementTreeNode : gFi := (RJ25, cJ25_replacementTreeNode, 5, (Option.some (FieldType.object "java/util/HashMap$TreeNode")), false)
abbrev fJ25_sequencedKeySet : gFi := (RJ25, cJ25_sequencedKeySet, 3, (Option.some (FieldType.object "java/util/SequencedSet")), false)
abbrev fJ25_transferLinks : gFi := (RJ25, cJ25_transferLinks, 5, (Option.none : Option FieldType), false)
abbrev fJ26_init : gFi := (RJ26, cJ26_init, 3, (Option.none : Option FieldType), true)
abbrev fJ26_iterator : gFi := (RJ26, cJ26_iterator, 1, (Option.some (FieldType.object "java/util/Iterator")), false)
abbrev fJ27_hasNext : gFi := (RJ27, cJ27_hasNext, 1, (Option.some FieldType.boolean), false)
abbrev fJ27_init : gFi := (RJ27, cJ27_init, 3, (Option.none : Option FieldType), true)
abbrev fJ27_nextNode : gFi := (RJ27, cJ27_nextNode, 3, (Option.some (FieldType.object "java/util/HashMap$Node")), false)
abbrev fJ28_init : gFi := (RJ28, cJ28_init, 2, (Option.none : Option FieldType), true)
abbrev fJ28_next : gFi := (RJ28, cJ28_next, 1, (Option.some (FieldType.object "java/lang/Object")), false)
abbrev fJ29_init : gFi := (RJ29, cJ29_init, 2, (Option.none : Option FieldType), true)
abbrev fJ29_iterator : gFi := (RJ29, cJ29_iterator, 1, (Option.some (FieldType.object "java/util/Iterator")), false)
abbrev fJ3_append : gFi := (RJ3, cJ3_append, 2, (Option.some (FieldType.object "java/lang/AbstractStringBuilder")), false)
abbrev fJ3_appendNull : gFi := (RJ3, cJ3_appendNull, 3, (Option.some (FieldType.object "java/lang/AbstractStringBuilder")), false)
abbrev fJ3_append_2 : gFi := (RJ3, cJ3_append_2, 3, (Option.some (FieldType.object "java/lang/AbstractStringBuilder")), false)
abbrev fJ3_compareTo : gFi := (RJ3, cJ3_compareTo, 6, (Option.some FieldType.int), false)
abbrev fJ3_ensureCapacityInternal : gFi := (RJ3, cJ3_ensureCapacityInternal, 3, (Option.none : Option FieldType), false)
abbrev fJ3_getValue : gFi := (RJ3, cJ3_getValue, 1, (Option.some (FieldType.array FieldType.byte)), false)
abbrev fJ3_inflate : gFi := (RJ3, cJ3_inflate, 2, (Option.none : Option FieldType), false)
abbrev fJ3_inflateIfNeededFor : gFi := (RJ3, cJ3_inflateIfNeededFor, 2, (Option.none : Option FieldType), false)
abbrev fJ3_init : gFi := (RJ3, cJ3_init, 2, (Option.none : Option FieldType), true)
abbrev fJ3_isLatin1 : gFi := (RJ3, cJ3_isLatin1, 1, (Option.some FieldType.boolean), false)
abbrev fJ3_length : gFi := (RJ3, cJ3_length, 1, (Option.some FieldType.int), false)
abbrev fJ3_newCapacity : gFi := (RJ3, cJ3_newCapacity, 6, (Option.some FieldType.int), false)
abbrev fJ3_putStringAt : gFi := (RJ3, cJ3_putStringAt, 3, (Option.none : Option FieldType), false)
abbrev fJ30_hasNext : gFi := (RJ30, cJ30_hasNext, 1, (Option.some FieldType.boolean), false)
abbrev fJ30_init : gFi := (RJ30, cJ30_init, 3, (Option.none : Option FieldType), true)
abbrev fJ30_nextNode : gFi := (RJ30, cJ30_nextNode, 2, (Option.some (FieldType.object "java/util/LinkedHashMap$Entry")), false)
abbrev fJ31_init : gFi := (RJ31, cJ31_init, 3, (Option.none : Option FieldType), true)
abbrev fJ31_next : gFi := (RJ31, cJ31_next, 1, (Option.some (FieldType.object "java/lang/Object")), false)
abbrev fJ32_equals : gFi := (RJ32, cJ32_equals, 2, (Option.some FieldType.boolean), false)
abbrev fJ32_init : gFi := (RJ32, cJ32_init, 1, (Option.none : Option FieldType), true)
abbrev fJ4_append : gFi := (RJ4, cJ4_append, 2, (Option.some (FieldType.object "java/lang/StringBuilder")), false)
abbrev fJ4_append_2 : gFi := (RJ4, cJ4_append_2, 2, (Option.some (FieldType.object "java/lang/StringBuilder")), false)
abbrev fJ4_compareTo : gFi := (RJ4, cJ4_compareTo, 2, (Option.some FieldType.int), false)
abbrev fJ4_compareTo_2 : gFi := (RJ4, cJ4_compareTo_2, 2, (Option.some FieldType.int), false)
abbrev fJ4_init : gFi := (RJ4, cJ4_init, 1, (Option.none : Option FieldType), true)
abbrev fJ4_length : gFi := (RJ4, cJ4_length, 1, (Option.some FieldType.int), false)
abbrev fJ4_toString : gFi := (RJ4, cJ4_toString, 1, (Option.some (FieldType.object "java/lang/String")), false)
abbrev fJ5_charAt : gFi := (RJ5, cJ5_charAt, 2, (Option.some FieldType.char), false)
abbrev fJ5_checkBoundsBeginEnd : gFi := (RJ5, cJ5_checkBoundsBeginEnd, 3, (Option.none : Option FieldType), false)
abbrev fJ5_checkBoundsOffCount : gFi := (RJ5, cJ5_checkBoundsOffCount, 3, (Option.some FieldType.int), false)
abbrev fJ5_checkIndex : gFi := (RJ5, cJ5_checkIndex, 2, (Option.none : Option FieldType), false)
abbrev fJ5_checkOffset : gFi := (RJ5, cJ5_checkOffset, 2, (Option.none : Option FieldType), false)
abbrev fJ5_coder : gFi := (RJ5, cJ5_coder, 1, (Option.some FieldType.byte), false)
abbrev fJ5_compareTo : gFi := (RJ5, cJ5_compareTo, 2, (Option.some FieldType.int), false)
abbrev fJ5_compareTo_2 : gFi := (RJ5, cJ5_compareTo_2, 5, (Option.some FieldType.int), false)
abbrev fJ5_equals : gFi := (RJ5, cJ5_equals, 3, (Option.some FieldType.boolean), false)
abbrev fJ5_getBytes : gFi := (RJ5, cJ5_getBytes, 4, (Option.none : Option FieldType), false)
abbrev fJ5_hashCode : gFi := (RJ5, cJ5_hashCode, 2, (Option.some FieldType.int), false)
abbrev fJ5_init : gFi := (RJ5, cJ5_init, 2, (Option.none : Option FieldType), true)
abbrev fJ5_init_2 : gFi := (RJ5, cJ5_init_2, 5, (Option.none : Option FieldType), true)
abbrev fJ5_init_3 : gFi := (RJ5, cJ5_init_3, 3, (Option.none : Option FieldType), true)
abbrev fJ5_isEmpty : gFi := (RJ5, cJ5_isEmpty, 1, (Option.some FieldType.boolean), false)
abbrev fJ5_isLatin1 : gFi := (RJ5, cJ5_isLatin1, 1, (Option.some FieldType.boolean), false)
abbrev fJ5_length : gFi := (RJ5, cJ5_length, 1, (Option.some FieldType.int), false)
abbrev fJ5_substring : gFi := (RJ5, cJ5_substring, 5, (Option.some (FieldType.object "java/lang/String")), false)
abbrev fJ7_hashCode : gFi := (RJ7, cJ7_hashCode, 6, (Option.some FieldType.int), false)
abbrev fJ7_hashCode_2 : gFi := (RJ7, cJ7_hashCode_2, 6, (Option.some FieldType.int), false)
abbrev fJ7_hashCode_3 : gFi := (RJ7, cJ7_hashCode_3, 6, (Option.some FieldType.int), false)
abbrev fJ7_hashCode_4 : gFi := (RJ7, cJ7_hashCode_4, 6, (Option.some FieldType.int), false)
abbrev fJ7_hugeLength : gFi := (RJ7, cJ7_hugeLength, 3, (Option.some FieldType.int), false)
abbrev fJ7_mismatch : gFi := (RJ7, cJ7_mismatch, 4, (Option.some FieldType.int), false)
abbrev fJ7_newLength : gFi := (RJ7, cJ7_newLength, 4, (Option.some FieldType.int), false)
abbrev fJ7_signedHashCode : gFi := (RJ7, cJ7_signedHashCode, 6, (Option.some FieldType.int), false)
abbrev fJ7_utf16hashCode : gFi := (RJ7, cJ7_utf16hashCode, 6, (Option.some FieldType.int), false)
abbrev fJ7_vectorizedHashCode : gFi := (RJ7, cJ7_vectorizedHashCode, 5, (Option.some FieldType.int), false)
abbrev fJ7_vectorizedMismatch : gFi := (RJ7, cJ7_vectorizedMismatch, 19, (Option.some FieldType.int), false)
abbrev fJ8_max : gFi := (RJ8, cJ8_max, 2, (Option.some FieldType.int), false)
abbrev fJ8_min : gFi := (RJ8, cJ8_min, 2, (Option.some FieldType.int), false)
abbrev fJ9_checkLength : gFi := (RJ9, cJ9_checkLength, 2, (Option.none : Option FieldType), false)
abbrev fJ9_copyOf : gFi := (RJ9, cJ9_copyOf, 3, (Option.some (FieldType.array FieldType.byte)), false)
abbrev fJ9_copyOfRange : gFi := (RJ9, cJ9_copyOfRange, 3, (Option.some (FieldType.array FieldType.byte)), false)
abbrev fJ9_copyOfRangeByte : gFi := (RJ9, cJ9_copyOfRangeByte, 5, (Option.some (FieldType.array FieldType.byte)), false)
abbrev fJ9_copyOf_2 : gFi := (RJ9, cJ9_copyOf_2, 2, (Option.some (FieldType.array (FieldType.object "java/lang/Object"))), false)
abbrev fJ9_copyOf_3 : gFi := (RJ9, cJ9_copyOf_3, 4, (Option.some (FieldType.array (FieldType.object "java/lang/Object"))), false)
abbrev fL_law : gFi := ("AutoIndenterLaw", cL_law, 4, some .boolean, false)
abbrev fX0_back : gFi := (RX0, cX0_back, 2, (Option.some FieldType.int), false)
abbrev fX0_bare : gFi := (RX0, cX0_bare, 3, (Option.some (FieldType.object "java/lang/String")), false)
abbrev fX0_begins : gFi := (RX0, cX0_begins, 1, (Option.none : Option FieldType), false)
abbrev fX0_best : gFi := (RX0, cX0_best, 4, (Option.some (FieldType.object "AutoIndenter$Setting")), false)
abbrev fX0_bestBase : gFi := (RX0, cX0_bestBase, 1, (Option.some FieldType.int), false)
abbrev fX0_bestStep : gFi := (RX0, cX0_bestStep, 1, (Option.some FieldType.int), false)
abbrev fX0_blockOpening : gFi := (RX0, cX0_blockOpening, 4, (Option.some FieldType.int), false)
abbrev fX0_blockRule : gFi := (RX0, cX0_blockRule, 3, (Option.some FieldType.int), false)
abbrev fX0_byteAt : gFi := (RX0, cX0_byteAt, 3, (Option.some FieldType.int), false)
abbrev fX0_changesOf : gFi := (RX0, cX0_changesOf, 6, (Option.some FieldType.int), false)
abbrev fX0_changesWith : gFi := (RX0, cX0_changesWith, 3, (Option.some FieldType.int), false)
abbrev fX0_clear : gFi := (RX0, cX0_clear, 2, (Option.some FieldType.int), false)
abbrev fX0_closedBy : gFi := (RX0, cX0_closedBy, 4, (Option.some FieldType.int), false)
abbrev fX0_commonest : gFi := (RX0, cX0_commonest, 6, (Option.some FieldType.int), false)
abbrev fX0_commonestByte : gFi := (RX0, cX0_commonestByte, 4, (Option.some FieldType.int), false)
abbrev fX0_commonestCount : gFi := (RX0, cX0_commonestCount, 3, (Option.some FieldType.int), false)
abbrev fX0_contentColumn : gFi := (RX0, cX0_contentColumn, 3, (Option.some FieldType.int), false)
abbrev fX0_counted : gFi := (RX0, cX0_counted, 6, (Option.some (FieldType.object "java/util/LinkedHashMap")), false)
abbrev fX0_cut : gFi := (RX0, cX0_cut, 5, (Option.some (FieldType.object "java/lang/String")), false)
abbrev fX0_decided : gFi := (RX0, cX0_decided, 3, (Option.some (FieldType.object "AutoIndenter$Walk")), false)
abbrev fX0_decidingRule : gFi := (RX0, cX0_decidingRule, 3, (Option.some FieldType.int), false)
abbrev fX0_depth : gFi := (RX0, cX0_depth, 2, (Option.some FieldType.int), false)
abbrev fX0_digest : gFi := (RX0, cX0_digest, 5, (Option.some FieldType.long), false)
abbrev fX0_divided : gFi := (RX0, cX0_divided, 1, (Option.some (FieldType.object "AutoIndenter$Tokens")), false)
abbrev fX0_draw : gFi := (RX0, cX0_draw, 8, (Option.some FieldType.int), false)
abbrev fX0_draws : gFi := (RX0, cX0_draws, 1, (Option.some FieldType.int), false)
abbrev fX0_dropRule : gFi := (RX0, cX0_dropRule, 4, (Option.some FieldType.int), false)
abbrev fX0_fewestChanges : gFi := (RX0, cX0_fewestChanges, 2, (Option.some FieldType.int), false)
abbrev fX0_held : gFi := (RX0, cX0_held, 1, (Option.some FieldType.int), false)
abbrev fX0_indentation : gFi := (RX0, cX0_indentation, 2, (Option.some FieldType.int), false)
abbrev fX0_init : gFi := (RX0, cX0_init, 1, (Option.none : Option FieldType), true)
abbrev fX0_insertLine : gFi := (RX0, cX0_insertLine, 3, (Option.some FieldType.int), false)
abbrev fX0_isBlock : gFi := (RX0, cX0_isBlock, 3, (Option.some FieldType.boolean), false)
abbrev fX0_isIn : gFi := (RX0, cX0_isIn, 3, (Option.some FieldType.boolean), false)
abbrev fX0_isLine : gFi := (RX0, cX0_isLine, 2, (Option.some FieldType.boolean), false)
abbrev fX0_isOver : gFi := (RX0, cX0_isOver, 1, (Option.some FieldType.boolean), false)
abbrev fX0_isPinned : gFi := (RX0, cX0_isPinned, 2, (Option.some FieldType.int), false)
abbrev fX0_isProtected : gFi := (RX0, cX0_isProtected, 2, (Option.some FieldType.int), false)
abbrev fX0_isRange : gFi := (RX0, cX0_isRange, 3, (Option.some FieldType.boolean), false)
abbrev fX0_isRule : gFi := (RX0, cX0_isRule, 2, (Option.some FieldType.boolean), false)
abbrev fX0_isToken : gFi := (RX0, cX0_isToken, 3, (Option.some FieldType.boolean), false)
abbrev fX0_isWordByte : gFi := (RX0, cX0_isWordByte, 1, (Option.some FieldType.boolean), false)
abbrev fX0_joinLines : gFi := (RX0, cX0_joinLines, 6, (Option.some FieldType.int), false)
abbrev fX0_joiner : gFi := (RX0, cX0_joiner, 4, (Option.some FieldType.int), false)
abbrev fX0_keep : gFi := (RX0, cX0_keep, 3, (Option.some FieldType.int), false)
abbrev fX0_lay : gFi := (RX0, cX0_lay, 4, (Option.some FieldType.int), false)
abbrev fX0_length : gFi := (RX0, cX0_length, 2, (Option.some FieldType.int), false)
abbrev fX0_line : gFi := (RX0, cX0_line, 2, (Option.some (FieldType.object "AutoIndenter$Line")), false)
abbrev fX0_lines : gFi := (RX0, cX0_lines, 1, (Option.some FieldType.int), false)
abbrev fX0_lost : gFi := (RX0, cX0_lost, 1, (Option.some FieldType.int), false)
abbrev fX0_mixed : gFi := (RX0, cX0_mixed, 4, (Option.some FieldType.long), false)
abbrev fX0_mixedRule : gFi := (RX0, cX0_mixedRule, 5, (Option.some FieldType.long), false)
abbrev fX0_mixedText : gFi := (RX0, cX0_mixedText, 6, (Option.some FieldType.long), false)
abbrev fX0_openedBy : gFi := (RX0, cX0_openedBy, 4, (Option.some FieldType.int), false)
abbrev fX0_opening : gFi := (RX0, cX0_opening, 2, (Option.some (FieldType.object "AutoIndenter$Token")), false)
abbrev fX0_pair : gFi := (RX0, cX0_pair, 8, (Option.some FieldType.int), false)
abbrev fX0_piece : gFi := (RX0, cX0_piece, 1, (Option.some (FieldType.object "java/lang/String")), false)
abbrev fX0_pin : gFi := (RX0, cX0_pin, 2, (Option.some FieldType.int), false)
abbrev fX0_placeOf : gFi := (RX0, cX0_placeOf, 4, (Option.some FieldType.int), false)
abbrev fX0_readText : gFi := (RX0, cX0_readText, 3, (Option.some (FieldType.object "java/lang/String")), false)
abbrev fX0_reason : gFi := (RX0, cX0_reason, 3, (Option.some FieldType.int), false)
abbrev fX0_reindent : gFi := (RX0, cX0_reindent, 6, (Option.some FieldType.int), false)
abbrev fX0_removeLine : gFi := (RX0, cX0_removeLine, 2, (Option.some FieldType.int), false)
abbrev fX0_replaceLine : gFi := (RX0, cX0_replaceLine, 4, (Option.some FieldType.int), false)
abbrev fX0_setBase : gFi := (RX0, cX0_setBase, 3, (Option.some FieldType.int), false)
abbrev fX0_setComment : gFi := (RX0, cX0_setComment, 3, (Option.some FieldType.int), false)
abbrev fX0_setStep : gFi := (RX0, cX0_setStep, 3, (Option.some FieldType.int), false)
abbrev fX0_shift : gFi := (RX0, cX0_shift, 6, (Option.some FieldType.int), false)
abbrev fX0_single : gFi := (RX0, cX0_single, 6, (Option.some FieldType.int), false)
abbrev fX0_skips : gFi := (RX0, cX0_skips, 1, (Option.none : Option FieldType), false)
abbrev fX0_splitLine : gFi := (RX0, cX0_splitLine, 6, (Option.some FieldType.int), false)
abbrev fX0_starter : gFi := (RX0, cX0_starter, 4, (Option.some FieldType.int), false)
abbrev fX0_strays : gFi := (RX0, cX0_strays, 1, (Option.some FieldType.int), false)
abbrev fX0_tokenAt : gFi := (RX0, cX0_tokenAt, 3, (Option.some FieldType.int), false)
abbrev fX0_tokenKind : gFi := (RX0, cX0_tokenKind, 3, (Option.some FieldType.int), false)
abbrev fX0_tokenLength : gFi := (RX0, cX0_tokenLength, 3, (Option.some FieldType.int), false)
abbrev fX0_tokens : gFi := (RX0, cX0_tokens, 2, (Option.some FieldType.int), false)
abbrev fX0_type : gFi := (RX0, cX0_type, 2, (Option.some FieldType.int), false)
abbrev fX0_typed : gFi := (RX0, cX0_typed, 3, (Option.some (FieldType.object "AutoIndenter$Line")), false)
abbrev fX0_undo : gFi := (RX0, cX0_undo, 1, (Option.some FieldType.int), false)
abbrev fX0_vocabulary : gFi := (RX0, cX0_vocabulary, 1, (Option.some FieldType.int), false)
abbrev fX0_walked : gFi := (RX0, cX0_walked, 2, (Option.some (FieldType.object "AutoIndenter$Walk")), false)
abbrev fX0_walked_2 : gFi := (RX0, cX0_walked_2, 4, (Option.some (FieldType.object "AutoIndenter$Walk")), false)
abbrev fX0_wanted : gFi := (RX0, cX0_wanted, 3, (Option.some FieldType.int), false)
abbrev fX0_wouldChange : gFi := (RX0, cX0_wouldChange, 1, (Option.some FieldType.int), false)
abbrev fX1_copy : gFi := (RX1, cX1_copy, 3, (Option.some (FieldType.object "AutoIndenter$State")), false)
abbrev fX1_init : gFi := (RX1, cX1_init, 1, (Option.none : Option FieldType), true)
abbrev fX2_adds : gFi := (RX2, cX2_adds, 5, (Option.none : Option FieldType), false)
abbrev fX2_back : gFi := (RX2, cX2_back, 2, (Option.some FieldType.int), false)
abbrev fX2_begins : gFi := (RX2, cX2_begins, 2, (Option.none : Option FieldType), false)
abbrev fX2_bestBase : gFi := (RX2, cX2_bestBase, 1, (Option.some FieldType.int), false)
abbrev fX2_bestStep : gFi := (RX2, cX2_bestStep, 1, (Option.some FieldType.int), false)
abbrev fX2_bits : gFi := (RX2, cX2_bits, 3, (Option.some FieldType.int), false)
abbrev fX2_blockOf : gFi := (RX2, cX2_blockOf, 3, (Option.some FieldType.int), false)
abbrev fX2_blockOpening : gFi := (RX2, cX2_blockOpening, 4, (Option.some FieldType.int), false)
abbrev fX2_blockRule : gFi := (RX2, cX2_blockRule, 4, (Option.some FieldType.int), false)
abbrev fX2_byteAt : gFi := (RX2, cX2_byteAt, 3, (Option.some FieldType.int), false)
abbrev fX2_changesBy : gFi := (RX2, cX2_changesBy, 3, (Option.some FieldType.int), false)
abbrev fX2_changesWith : gFi := (RX2, cX2_changesWith, 3, (Option.some FieldType.int), false)
abbrev fX2_clear : gFi := (RX2, cX2_clear, 2, (Option.some FieldType.int), false)
abbrev fX2_closedBy : gFi := (RX2, cX2_closedBy, 4, (Option.some FieldType.int), false)
abbrev fX2_columnIn : gFi := (RX2, cX2_columnIn, 2, (Option.some FieldType.int), false)
abbrev fX2_columnOf : gFi := (RX2, cX2_columnOf, 2, (Option.some FieldType.int), false)
abbrev fX2_commonest : gFi := (RX2, cX2_commonest, 5, (Option.some FieldType.int), false)
abbrev fX2_commonestByte : gFi := (RX2, cX2_commonestByte, 3, (Option.some FieldType.int), false)
abbrev fX2_commonestCount : gFi := (RX2, cX2_commonestCount, 1, (Option.some FieldType.int), false)
abbrev fX2_contentAt : gFi := (RX2, cX2_contentAt, 3, (Option.some FieldType.int), false)
abbrev fX2_contentColumn : gFi := (RX2, cX2_contentColumn, 4, (Option.some FieldType.int), false)
abbrev fX2_copies : gFi := (RX2, cX2_copies, 4, (Option.none : Option FieldType), false)
abbrev fX2_copiesLine : gFi := (RX2, cX2_copiesLine, 4, (Option.none : Option FieldType), false)
abbrev fX2_decides : gFi := (RX2, cX2_decides, 11, (Option.none : Option FieldType), false)
abbrev fX2_decidingRule : gFi := (RX2, cX2_decidingRule, 2, (Option.some FieldType.int), false)
abbrev fX2_depth : gFi := (RX2, cX2_depth, 2, (Option.some FieldType.int), false)
abbrev fX2_digest : gFi := (RX2, cX2_digest, 3, (Option.some FieldType.long), false)
abbrev fX2_divides : gFi := (RX2, cX2_divides, 6, (Option.some FieldType.boolean), false)
abbrev fX2_draw : gFi := (RX2, cX2_draw, 4, (Option.some FieldType.int), false)
abbrev fX2_draws : gFi := (RX2, cX2_draws, 1, (Option.some FieldType.int), false)
abbrev fX2_drawsLine : gFi := (RX2, cX2_drawsLine, 7, (Option.none : Option FieldType), false)
abbrev fX2_dropRule : gFi := (RX2, cX2_dropRule, 4, (Option.some FieldType.int), false)
abbrev fX2_drops : gFi := (RX2, cX2_drops, 3, (Option.none : Option FieldType), false)
abbrev fX2_endOfLiteral : gFi := (RX2, cX2_endOfLiteral, 4, (Option.some FieldType.int), false)
abbrev fX2_endOfString : gFi := (RX2, cX2_endOfString, 4, (Option.some FieldType.int), false)
abbrev fX2_endOfWord : gFi := (RX2, cX2_endOfWord, 4, (Option.some FieldType.int), false)
abbrev fX2_fewestChanges : gFi := (RX2, cX2_fewestChanges, 1, (Option.some FieldType.int), false)
abbrev fX2_hasText : gFi := (RX2, cX2_hasText, 7, (Option.some FieldType.boolean), false)
abbrev fX2_in : gFi := (RX2, cX2_in, 3, (Option.some FieldType.boolean), false)
abbrev fX2_indentation : gFi := (RX2, cX2_indentation, 2, (Option.some FieldType.int), false)
abbrev fX2_init : gFi := (RX2, cX2_init, 1, (Option.none : Option FieldType), true)
abbrev fX2_insertLine : gFi := (RX2, cX2_insertLine, 2, (Option.some FieldType.int), false)
abbrev fX2_isAligned : gFi := (RX2, cX2_isAligned, 2, (Option.some FieldType.boolean), false)
abbrev fX2_isBlank : gFi := (RX2, cX2_isBlank, 2, (Option.some FieldType.boolean), false)
abbrev fX2_isClosingText : gFi := (RX2, cX2_isClosingText, 4, (Option.some FieldType.boolean), false)
abbrev fX2_isDecided : gFi := (RX2, cX2_isDecided, 3, (Option.some FieldType.boolean), false)
abbrev fX2_isFirst : gFi := (RX2, cX2_isFirst, 4, (Option.some FieldType.boolean), false)
abbrev fX2_isFree : gFi := (RX2, cX2_isFree, 2, (Option.some FieldType.boolean), false)
abbrev fX2_isLine : gFi := (RX2, cX2_isLine, 2, (Option.some FieldType.boolean), false)
abbrev fX2_isLineText : gFi := (RX2, cX2_isLineText, 1, (Option.some FieldType.boolean), false)
abbrev fX2_isPinned : gFi := (RX2, cX2_isPinned, 2, (Option.some FieldType.int), false)
abbrev fX2_isProtected : gFi := (RX2, cX2_isProtected, 2, (Option.some FieldType.int), false)
abbrev fX2_isRange : gFi := (RX2, cX2_isRange, 3, (Option.some FieldType.boolean), false)
abbrev fX2_isRule : gFi := (RX2, cX2_isRule, 2, (Option.some FieldType.boolean), false)
abbrev fX2_isSame : gFi := (RX2, cX2_isSame, 5, (Option.some FieldType.boolean), false)
abbrev fX2_isTriple : gFi := (RX2, cX2_isTriple, 3, (Option.some FieldType.boolean), false)
abbrev fX2_isWord : gFi := (RX2, cX2_isWord, 1, (Option.some FieldType.boolean), false)
abbrev fX2_joinLines : gFi := (RX2, cX2_joinLines, 6, (Option.some FieldType.int), false)
abbrev fX2_joiner : gFi := (RX2, cX2_joiner, 4, (Option.some FieldType.int), false)
abbrev fX2_keep : gFi := (RX2, cX2_keep, 3, (Option.some FieldType.int), false)
abbrev fX2_least : gFi := (RX2, cX2_least, 2, (Option.some FieldType.int), false)
abbrev fX2_length : gFi := (RX2, cX2_length, 2, (Option.some FieldType.int), false)
abbrev fX2_lines : gFi := (RX2, cX2_lines, 1, (Option.some FieldType.int), false)
abbrev fX2_looks : gFi := (RX2, cX2_looks, 4, (Option.none : Option FieldType), false)
abbrev fX2_lost : gFi := (RX2, cX2_lost, 1, (Option.some FieldType.int), false)
abbrev fX2_makes : gFi := (RX2, cX2_makes, 10, (Option.some FieldType.int), false)
abbrev fX2_mixes : gFi := (RX2, cX2_mixes, 2, (Option.none : Option FieldType), false)
abbrev fX2_mixesRule : gFi := (RX2, cX2_mixesRule, 4, (Option.none : Option FieldType), false)
abbrev fX2_mixesText : gFi := (RX2, cX2_mixesText, 3, (Option.none : Option FieldType), false)
abbrev fX2_notes : gFi := (RX2, cX2_notes, 3, (Option.none : Option FieldType), false)
abbrev fX2_offers : gFi := (RX2, cX2_offers, 5, (Option.none : Option FieldType), false)
abbrev fX2_openedBy : gFi := (RX2, cX2_openedBy, 4, (Option.some FieldType.int), false)
abbrev fX2_pair : gFi := (RX2, cX2_pair, 7, (Option.some FieldType.int), false)
abbrev fX2_parts : gFi := (RX2, cX2_parts, 3, (Option.none : Option FieldType), false)
abbrev fX2_pin : gFi := (RX2, cX2_pin, 2, (Option.some FieldType.int), false)
abbrev fX2_placeOf : gFi := (RX2, cX2_placeOf, 2, (Option.some FieldType.int), false)
abbrev fX2_readsOne : gFi := (RX2, cX2_readsOne, 3, (Option.some FieldType.int), false)
abbrev fX2_readsTexts : gFi := (RX2, cX2_readsTexts, 4, (Option.some FieldType.int), false)
abbrev fX2_reason : gFi := (RX2, cX2_reason, 2, (Option.some FieldType.int), false)
abbrev fX2_reindent : gFi := (RX2, cX2_reindent, 5, (Option.some FieldType.int), false)
abbrev fX2_removeLine : gFi := (RX2, cX2_removeLine, 2, (Option.some FieldType.int), false)
abbrev fX2_replaceLine : gFi := (RX2, cX2_replaceLine, 3, (Option.some FieldType.int), false)
abbrev fX2_ruleAt : gFi := (RX2, cX2_ruleAt, 3, (Option.some FieldType.int), false)
abbrev fX2_ruleFor : gFi := (RX2, cX2_ruleFor, 6, (Option.some FieldType.int), false)
abbrev fX2_searches : gFi := (RX2, cX2_searches, 4, (Option.none : Option FieldType), false)
abbrev fX2_setBase : gFi := (RX2, cX2_setBase, 2, (Option.some FieldType.int), false)
abbrev fX2_setComment : gFi := (RX2, cX2_setComment, 2, (Option.some FieldType.int), false)
abbrev fX2_setStep : gFi := (RX2, cX2_setStep, 2, (Option.some FieldType.int), false)
abbrev fX2_sets : gFi := (RX2, cX2_sets, 4, (Option.some FieldType.int), false)
abbrev fX2_settles : gFi := (RX2, cX2_settles, 5, (Option.some FieldType.int), false)
abbrev fX2_shift : gFi := (RX2, cX2_shift, 6, (Option.some FieldType.int), false)
abbrev fX2_shuts : gFi := (RX2, cX2_shuts, 5, (Option.none : Option FieldType), false)
abbrev fX2_skips : gFi := (RX2, cX2_skips, 1, (Option.none : Option FieldType), false)
abbrev fX2_splitLine : gFi := (RX2, cX2_splitLine, 6, (Option.some FieldType.int), false)
abbrev fX2_starter : gFi := (RX2, cX2_starter, 4, (Option.some FieldType.int), false)
abbrev fX2_strays : gFi := (RX2, cX2_strays, 1, (Option.some FieldType.int), false)
abbrev fX2_tokenAt : gFi := (RX2, cX2_tokenAt, 4, (Option.some FieldType.int), false)
abbrev fX2_tokenKind : gFi := (RX2, cX2_tokenKind, 4, (Option.some FieldType.int), false)
abbrev fX2_tokenLength : gFi := (RX2, cX2_tokenLength, 4, (Option.some FieldType.int), false)
abbrev fX2_tokenOf : gFi := (RX2, cX2_tokenOf, 3, (Option.some FieldType.int), false)
abbrev fX2_tokenizes : gFi := (RX2, cX2_tokenizes, 4, (Option.none : Option FieldType), false)
abbrev fX2_tokens : gFi := (RX2, cX2_tokens, 2, (Option.some FieldType.int), false)
abbrev fX2_type : gFi := (RX2, cX2_type, 2, (Option.some FieldType.int), false)
abbrev fX2_undo : gFi := (RX2, cX2_undo, 1, (Option.some FieldType.int), false)
abbrev fX2_uses : gFi := (RX2, cX2_uses, 4, (Option.none : Option FieldType), false)
abbrev fX2_vocabulary : gFi := (RX2, cX2_vocabulary, 3, (Option.some FieldType.int), false)
abbrev fX2_wanted : gFi := (RX2, cX2_wanted, 2, (Option.some FieldType.int), false)
abbrev fX2_wouldChange : gFi := (RX2, cX2_wouldChange, 1, (Option.some FieldType.int), false)
abbrev fX2_writes : gFi := (RX2, cX2_writes, 3, (Option.none : Option FieldType), false)
abbrev fX2_writesText : gFi := (RX2, cX2_writesText, 4, (Option.none : Option FieldType), false)
abbrev fX3_copy : gFi := (RX3, cX3_copy, 2, (Option.some (FieldType.object "AutoIndenter$Line")), false)
abbrev fX3_init : gFi := (RX3, cX3_init, 3, (Option.none : Option FieldType), true)
abbrev fX3_isBlank : gFi := (RX3, cX3_isBlank, 1, (Option.some FieldType.boolean), false)
abbrev fX4_begin : gFi := (RX4, cX4_begin, 4, (Option.none : Option FieldType), false)
abbrev fX4_closes : gFi := (RX4, cX4_closes, 5, (Option.some FieldType.int), false)
abbrev fX4_closing : gFi := (RX4, cX4_closing, 4, (Option.some FieldType.int), false)
abbrev fX4_decide : gFi := (RX4, cX4_decide, 10, (Option.none : Option FieldType), false)
abbrev fX4_init : gFi := (RX4, cX4_init, 2, (Option.none : Option FieldType), true)
abbrev fX4_isAligned : gFi := (RX4, cX4_isAligned, 3, (Option.some FieldType.boolean), false)
abbrev fX4_isDecided : gFi := (RX4, cX4_isDecided, 2, (Option.some FieldType.boolean), false)
abbrev fX4_opens : gFi := (RX4, cX4_opens, 2, (Option.some FieldType.boolean), false)
abbrev fX4_pass : gFi := (RX4, cX4_pass, 5, (Option.none : Option FieldType), false)
abbrev fX4_passTo : gFi := (RX4, cX4_passTo, 3, (Option.none : Option FieldType), false)
abbrev fX4_push : gFi := (RX4, cX4_push, 6, (Option.none : Option FieldType), false)
abbrev fX4_reindent : gFi := (RX4, cX4_reindent, 5, (Option.some FieldType.int), false)
abbrev fX4_ruleOf : gFi := (RX4, cX4_ruleOf, 2, (Option.some (FieldType.object "AutoIndenter$Rule")), false)
abbrev fX4_take : gFi := (RX4, cX4_take, 4, (Option.none : Option FieldType), false)
abbrev fX5_count : gFi := (RX5, cX5_count, 2, (Option.some FieldType.int), false)
abbrev fX5_divide : gFi := (RX5, cX5_divide, 8, (Option.none : Option FieldType), false)
abbrev fX5_findRules : gFi := (RX5, cX5_findRules, 7, (Option.none : Option FieldType), false)
abbrev fX5_get : gFi := (RX5, cX5_get, 3, (Option.some (FieldType.object "AutoIndenter$Token")), false)
abbrev fX5_init : gFi := (RX5, cX5_init, 4, (Option.none : Option FieldType), true)
abbrev fX5_isLiteral : gFi := (RX5, cX5_isLiteral, 2, (Option.some FieldType.boolean), false)
abbrev fX5_literalEnd : gFi := (RX5, cX5_literalEnd, 4, (Option.some FieldType.int), false)
abbrev fX5_numberOf : gFi := (RX5, cX5_numberOf, 3, (Option.some FieldType.int), false)
abbrev fX5_stringEnd : gFi := (RX5, cX5_stringEnd, 3, (Option.some FieldType.int), false)
abbrev fX5_use : gFi := (RX5, cX5_use, 5, (Option.none : Option FieldType), false)
abbrev fX5_wordEnd : gFi := (RX5, cX5_wordEnd, 3, (Option.some FieldType.int), false)
abbrev fX5_wordOf : gFi := (RX5, cX5_wordOf, 3, (Option.some FieldType.int), false)
abbrev fX6_init : gFi := (RX6, cX6_init, 7, (Option.none : Option FieldType), true)
abbrev fX7_closesBy : gFi := (RX7, cX7_closesBy, 2, (Option.some FieldType.boolean), false)
abbrev fX7_init : gFi := (RX7, cX7_init, 8, (Option.none : Option FieldType), true)
abbrev fX8_equals : gFi := (RX8, cX8_equals, 3, (Option.some FieldType.boolean), false)
abbrev fX8_hashCode : gFi := (RX8, cX8_hashCode, 1, (Option.some FieldType.int), false)
abbrev fX8_init : gFi := (RX8, cX8_init, 3, (Option.none : Option FieldType), true)
def dfX0 : List AV := [vR none, vR none, vR none, vR none, vI 0, vR none, vR none, vI 0, vI 0, vI 0]
theorem dfoX0 : ∀ j, j < 10 → defaultValue (tyX0 j) = vp_V (dfX0.map cv) j := by decide +kernel
theorem clX0 : gCl[0]? = some (RX0, TX0, 10) := rfl
def dfX1 : List AV := [vR none, vR none, vI 0, vI 0, vI 0]
theorem dfoX1 : ∀ j, j < 5 → defaultValue (tyX1 j) = vp_V (dfX1.map cv) j := by decide +kernel
theorem clX1 : gCl[1]? = some (RX1, TX1, 5) := rfl
def dfX2 : List AV := [vR none, vI 0, vR none, vR none, vI 0, vR none, vR none, vR none, vR none, vR none, vR none, vR none, vI 0, vR none, vR none, vR none, vR none, vR none, vI 0, vI 0, vI 0, vR none, vI 0, vI 0, vI 0, vI 0, vI 0, vI 0, vI 0, vI 0, vR none, vR none, vI 0, vI 0, vI 0, vI 0, vI 0, vI 0, vR none, vR none, vL 0]
theorem dfoX2 : ∀ j, j < 41 → defaultValue (tyX2 j) = vp_V (dfX2.map cv) j := by decide +kernel
theorem clX2 : gCl[2]? = some (RX2, TX2, 41) := rfl
def dfX3 : List AV := [vI 0, vR none, vI 0]
theorem dfoX3 : ∀ j, j < 3 → defaultValue (tyX3 j) = vp_V (dfX3.map cv) j := by decide +kernel
theorem clX3 : gCl[3]? = some (RX3, TX3, 3) := rfl
def dfX4 : List AV := [vR none, vR none, vI 0, vI 0, vR none, vR none, vR none, vI 0, vI 0, vI 0, vI 0, vR none, vR none, vI 0, vI 0, vI 0]
theorem dfoX4 : ∀ j, j < 16 → defaultValue (tyX4 j) = vp_V (dfX4.map cv) j := by decide +kernel
theorem clX4 : gCl[4]? = some (RX4, TX4, 16) := rfl
def dfX5 : List AV := [vR none, vR none, vR none, vI 0, vR none, vR none, vI 0]
theorem dfoX5 : ∀ j, j < 7 → defaultValue (tyX5 j) = vp_V (dfX5.map cv) j := by decide +kernel
theorem clX5 : gCl[5]? = some (RX5, TX5, 7) := rfl
def dfX6 : List AV := [vI 0, vI 0, vI 0, vI 0, vR none, vI 0, vI 0, vI 0, vI 0, vI 0]
theorem dfoX6 : ∀ j, j < 10 → defaultValue (tyX6 j) = vp_V (dfX6.map cv) j := by decide +kernel
theorem clX6 : gCl[6]? = some (RX6, TX6, 10) := rfl
def dfX7 : List AV := [vI 0, vI 0, vI 0, vI 0, vI 0, vR none, vR none]
theorem dfoX7 : ∀ j, j < 7 → defaultValue (tyX7 j) = vp_V (dfX7.map cv) j := by decide +kernel
theorem clX7 : gCl[7]? = some (RX7, TX7, 7) := rfl
def dfX8 : List AV := [vI 0, vI 0]
theorem dfoX8 : ∀ j, j < 2 → defaultValue (tyX8 j) = vp_V (dfX8.map cv) j := by decide +kernel
theorem clX8 : gCl[8]? = some (RX8, TX8, 2) := rfl
def dfJ2 : List AV := [vI 0, vR none, vI 0]
theorem dfoJ2 : ∀ j, j < 3 → defaultValue (tyJ2 j) = vp_V (dfJ2.map cv) j := by decide +kernel
theorem clJ2 : gCl[9]? = some (RJ2, TJ2, 3) := rfl
def dfJ4 : List AV := [vR none, vI 0, vI 0, vI 0]
theorem dfoJ4 : ∀ j, j < 4 → defaultValue (tyJ4 j) = vp_V (dfJ4.map cv) j := by decide +kernel
theorem clJ4 : gCl[10]? = some (RJ4, TJ4, 4) := rfl
def dfJ5 : List AV := [vR none, vI 0, vI 0, vI 0]
theorem dfoJ5 : ∀ j, j < 4 → defaultValue (tyJ5 j) = vp_V (dfJ5.map cv) j := by decide +kernel
theorem clJ5 : gCl[11]? = some (RJ5, TJ5, 4) := rfl
def dfJ14 : List AV := [vR none, vR none, vR none, vR none, vI 0, vI 0, vI 0, vF 0]
theorem dfoJ14 : ∀ j, j < 8 → defaultValue (tyJ14 j) = vp_V (dfJ14.map cv) j := by decide +kernel
theorem clJ14 : gCl[12]? = some (RJ14, TJ14, 8) := rfl
def dfJ16 : List AV := [vR none]
theorem dfoJ16 : ∀ j, j < 1 → defaultValue (tyJ16 j) = vp_V (dfJ16.map cv) j := by decide +kernel
theorem clJ16 : gCl[13]? = some (RJ16, TJ16, 1) := rfl
def dfJ18 : List AV := [vI 0]
theorem dfoJ18 : ∀ j, j < 1 → defaultValue (tyJ18 j) = vp_V (dfJ18.map cv) j := by decide +kernel
theorem clJ18 : gCl[14]? = some (RJ18, TJ18, 1) := rfl
def dfJ21 : List AV := [vI 0, vR none, vR none, vR none]
theorem dfoJ21 : ∀ j, j < 4 → defaultValue (tyJ21 j) = vp_V (dfJ21.map cv) j := by decide +kernel
theorem clJ21 : gCl[15]? = some (RJ21, TJ21, 4) := rfl
def dfJ25 : List AV := [vR none, vR none, vR none, vR none, vI 0, vI 0, vI 0, vF 0, vR none, vR none, vI 0, vI 0]
theorem dfoJ25 : ∀ j, j < 12 → defaultValue (tyJ25 j) = vp_V (dfJ25.map cv) j := by decide +kernel
theorem clJ25 : gCl[16]? = some (RJ25, TJ25, 12) := rfl
def dfJ22 : List AV := [vI 0, vR none, vR none, vR none, vR none, vR none]
theorem dfoJ22 : ∀ j, j < 6 → defaultValue (tyJ22 j) = vp_V (dfJ22.map cv) j := by decide +kernel
theorem clJ22 : gCl[17]? = some (RJ22, TJ22, 6) := rfl
def dfJ26 : List AV := [vI 0, vR none]
theorem dfoJ26 : ∀ j, j < 2 → defaultValue (tyJ26 j) = vp_V (dfJ26.map cv) j := by decide +kernel
theorem clJ26 : gCl[18]? = some (RJ26, TJ26, 2) := rfl
def dfJ31 : List AV := [vR none, vR none, vI 0, vI 0, vR none]
theorem dfoJ31 : ∀ j, j < 5 → defaultValue (tyJ31 j) = vp_V (dfJ31.map cv) j := by decide +kernel
theorem clJ31 : gCl[19]? = some (RJ31, TJ31, 5) := rfl
theorem kJ1_1 : CkI RJ1 1 yJ0_init fJ0_init 0 := ⟨q162, q163, q98, q164, rfl, rfl, ⟨by decide +kernel, by decide +kernel, by decide +kernel⟩, by decide⟩
theorem kJ10_9 : CkS RJ10 9 yJ5_checkIndex fJ5_checkIndex 2 := ⟨q660, q414, q105, q415, ⟨by decide +kernel, by decide +kernel, by decide +kernel⟩, by decide⟩
theorem kJ10_34 : CkS RJ10 34 yJ10_compareTo_2 fJ10_compareTo_2 4 := ⟨q1039, q1040, q111, q1041, ⟨by decide +kernel, by decide +kernel, by decide +kernel⟩, by decide⟩
theorem kJ10_54 : CkS RJ10 54 yJ10_length fJ10_length 1 := ⟨q1160, q1161, q111, q1162, ⟨by decide +kernel, by decide +kernel, by decide +kernel⟩, by decide⟩
theorem kJ10_59 : CkS RJ10 59 yJ10_compareToUTF16Values fJ10_compareToUTF16Values 4 := ⟨q1164, q1165, q111, q1166, ⟨by decide +kernel, by decide +kernel, by decide +kernel⟩, by decide⟩
theorem kJ10_38 : CkS RJ10 38 yJ8_min fJ8_min 2 := ⟨q1042, q361, q108, q362, ⟨by decide +kernel, by decide +kernel, by decide +kernel⟩, by decide⟩
theorem kJ10_50 : CkS RJ10 50 yJ10_getChar fJ10_getChar 2 := ⟨q1147, q1148, q111, q1149, ⟨by decide +kernel, by decide +kernel, by decide +kernel⟩, by decide⟩
theorem kJ10_62 : CkS RJ10 62 yJ5_checkOffset fJ5_checkOffset 2 := ⟨q1199, q1194, q105, q1195, ⟨by decide +kernel, by decide +kernel, by decide +kernel⟩, by decide⟩
theorem kJ10_44 : CkS RJ10 44 yJ7_mismatch fJ7_mismatch 3 := ⟨q1043, q1044, q107, q1045, ⟨by decide +kernel, by decide +kernel, by decide +kernel⟩, by decide⟩
theorem kJ10_84 : CkS RJ10 84 yJ7_vectorizedHashCode fJ7_vectorizedHashCode 5 := ⟨q913, q914, q107, q915, ⟨by decide +kernel, by decide +kernel, by decide +kernel⟩, by decide⟩
theorem kJ10_232 : CkS RJ10 232 yJ9_copyOfRange fJ9_copyOfRange 3 := ⟨q637, q447, q109, q448, ⟨by decide +kernel, by decide +kernel, by decide +kernel⟩, by decide⟩
theorem kJ10_112 : CkI RJ10 112 yJ5_init_3 fJ5_init_3 2 := ⟨q638, q639, q105, q640, rfl, rfl, ⟨by decide +kernel, by decide +kernel, by decide +kernel⟩, by decide⟩
theorem kJ12_105 : CkS RJ12 105 yJ11_checkIndex fJ11_checkIndex 3 := ⟨q493, q417, q112, q418, ⟨by decide +kernel, by decide +kernel, by decide +kernel⟩, by decide⟩
theorem kJ14_158 : CkV RJ14 158 yJ14_getNode fJ14_getNode 1 := ⟨q1210, q882, q2790, q118, q883, ⟨by decide +kernel, by decide +kernel, by decide +kernel⟩, by decide⟩
theorem kJ14_158_J25 : CkU RJ14 158 RJ25 "java/util/HashMap" ⟨"java/util/HashMap", "getNode", "(Ljava/lang/Object;)Ljava/util/HashMap$Node;"⟩ yJ14_getNode fJ14_getNode 1 := ⟨⟨q1210, q2789, q2791, q882, q118, q883⟩, Or.inl rfl, ⟨by decide +kernel, by decide +kernel, by decide +kernel⟩, by decide⟩
theorem kJ14_149 : CkS RJ14 149 yJ14_hash fJ14_hash 1 := ⟨q884, q885, q118, q886, ⟨by decide +kernel, by decide +kernel, by decide +kernel⟩, by decide⟩
theorem kJ14_173_X8 : CkU RJ14 173 RX8 "java/lang/Object" ⟨"java/lang/Object", "equals", "(Ljava/lang/Object;)Z"⟩ yX8_equals fX8_equals 1 := ⟨⟨q960, q962, q965, q966, q132, q967⟩, Or.inr (Or.inl ⟨q961, _, _, _, q985⟩), ⟨by decide +kernel, by decide +kernel, by decide +kernel⟩, by decide⟩
theorem kJ14_173_J5 : CkU RJ14 173 RJ5 "java/lang/Object" ⟨"java/lang/Object", "equals", "(Ljava/lang/Object;)Z"⟩ yJ5_equals fJ5_equals 1 := ⟨⟨q960, q962, q981, q690, q105, q692⟩, Or.inr (Or.inl ⟨q961, _, _, _, q985⟩), ⟨by decide +kernel, by decide +kernel, by decide +kernel⟩, by decide⟩
theorem kJ14_173_J18 : CkU RJ14 173 RJ18 "java/lang/Object" ⟨"java/lang/Object", "equals", "(Ljava/lang/Object;)Z"⟩ yJ18_equals fJ18_equals 1 := ⟨⟨q960, q962, q974, q975, q122, q976⟩, Or.inr (Or.inl ⟨q961, _, _, _, q985⟩), ⟨by decide +kernel, by decide +kernel, by decide +kernel⟩, by decide⟩
theorem kJ14_1_X8 : CkU RJ14 1 RX8 "java/lang/Object" ⟨"java/lang/Object", "hashCode", "()I"⟩ yX8_hashCode fX8_hashCode 0 := ⟨⟨q888, q890, q893, q894, q132, q895⟩, Or.inr (Or.inr q887), ⟨by decide +kernel, by decide +kernel, by decide +kernel⟩, by decide⟩
theorem kJ14_1_J5 : CkU RJ14 1 RJ5 "java/lang/Object" ⟨"java/lang/Object", "hashCode", "()I"⟩ yJ5_hashCode fJ5_hashCode 0 := ⟨⟨q888, q890, q907, q908, q105, q909⟩, Or.inr (Or.inr q887), ⟨by decide +kernel, by decide +kernel, by decide +kernel⟩, by decide⟩
theorem kJ14_1_J18 : CkU RJ14 1 RJ18 "java/lang/Object" ⟨"java/lang/Object", "hashCode", "()I"⟩ yJ18_hashCode fJ18_hashCode 0 := ⟨⟨q888, q890, q901, q902, q122, q903⟩, Or.inr (Or.inr q887), ⟨by decide +kernel, by decide +kernel, by decide +kernel⟩, by decide⟩
theorem kJ14_43 : CkI RJ14 43 yJ13_init fJ13_init 0 := ⟨q792, q793, q117, q794, rfl, rfl, ⟨by decide +kernel, by decide +kernel, by decide +kernel⟩, by decide⟩
theorem kJ14_245 : CkI RJ14 245 yJ29_init fJ29_init 1 := ⟨q2060, q2061, q137, q2062, rfl, rfl, ⟨by decide +kernel, by decide +kernel, by decide +kernel⟩, by decide⟩
theorem kJ14_375 : CkI RJ14 375 yJ21_init fJ21_init 4 := ⟨q1309, q1257, q127, q1258, rfl, rfl, ⟨by decide +kernel, by decide +kernel, by decide +kernel⟩, by decide⟩
theorem kJ14_152 : CkV RJ14 152 yJ14_putVal fJ14_putVal 5 := ⟨q1219, q1220, q1221, q118, q1224, ⟨by decide +kernel, by decide +kernel, by decide +kernel⟩, by decide⟩
theorem kJ14_152_J25 : CkU RJ14 152 RJ25 "java/util/HashMap" ⟨"java/util/HashMap", "putVal", "(ILjava/lang/Object;Ljava/lang/Object;ZZ)Ljava/lang/Object;"⟩ yJ14_putVal fJ14_putVal 5 := ⟨⟨q1219, q1222, q1223, q1220, q118, q1224⟩, Or.inl rfl, ⟨by decide +kernel, by decide +kernel, by decide +kernel⟩, by decide⟩
theorem kJ14_117 : CkV RJ14 117 yJ14_resize fJ14_resize 0 := ⟨q1225, q1226, q1227, q118, q1230, ⟨by decide +kernel, by decide +kernel, by decide +kernel⟩, by decide⟩
theorem kJ14_117_J25 : CkU RJ14 117 RJ25 "java/util/HashMap" ⟨"java/util/HashMap", "resize", "()[Ljava/util/HashMap$Node;"⟩ yJ14_resize fJ14_resize 0 := ⟨⟨q1225, q1228, q1229, q1226, q118, q1230⟩, Or.inl rfl, ⟨by decide +kernel, by decide +kernel, by decide +kernel⟩, by decide⟩
theorem kJ14_186 : CkV RJ14 186 yJ14_newNode fJ14_newNode 4 := ⟨q1333, q1334, q1335, q118, q1344, ⟨by decide +kernel, by decide +kernel, by decide +kernel⟩, by decide⟩
theorem kJ14_186_J25 : CkU RJ14 186 RJ25 "java/util/HashMap" ⟨"java/util/HashMap", "newNode", "(ILjava/lang/Object;Ljava/lang/Object;Ljava/util/HashMap$Node;)Ljava/util/HashMap$Node;"⟩ yJ25_newNode fJ25_newNode 4 := ⟨⟨q1333, q1336, q1337, q1338, q133, q1339⟩, Or.inr (Or.inl ⟨q1334, _, _, _, q1344⟩), ⟨by decide +kernel, by decide +kernel, by decide +kernel⟩, by decide⟩
theorem kJ14_194 : CkV RJ14 194 yJ14_treeifyBin fJ14_treeifyBin 2 := ⟨q1387, q1388, q1389, q118, q1392, ⟨by decide +kernel, by decide +kernel, by decide +kernel⟩, by decide⟩
theorem kJ14_194_J25 : CkU RJ14 194 RJ25 "java/util/HashMap" ⟨"java/util/HashMap", "treeifyBin", "([Ljava/util/HashMap$Node;I)V"⟩ yJ14_treeifyBin fJ14_treeifyBin 2 := ⟨⟨q1387, q1390, q1391, q1388, q118, q1392⟩, Or.inl rfl, ⟨by decide +kernel, by decide +kernel, by decide +kernel⟩, by decide⟩
theorem kJ14_198 : CkV RJ14 198 yJ14_afterNodeAccess fJ14_afterNodeAccess 1 := ⟨q1402, q1403, q1404, q118, q1407, ⟨by decide +kernel, by decide +kernel, by decide +kernel⟩, by decide⟩
theorem kJ14_198_J25 : CkU RJ14 198 RJ25 "java/util/HashMap" ⟨"java/util/HashMap", "afterNodeAccess", "(Ljava/util/HashMap$Node;)V"⟩ yJ25_afterNodeAccess fJ25_afterNodeAccess 1 := ⟨⟨q1402, q1405, q1406, q1205, q133, q1207⟩, Or.inr (Or.inl ⟨q1403, _, _, _, q1407⟩), ⟨by decide +kernel, by decide +kernel, by decide +kernel⟩, by decide⟩
theorem kJ14_205 : CkV RJ14 205 yJ14_afterNodeInsertion fJ14_afterNodeInsertion 1 := ⟨q1408, q1409, q1410, q118, q1419, ⟨by decide +kernel, by decide +kernel, by decide +kernel⟩, by decide⟩
theorem kJ14_205_J25 : CkU RJ14 205 RJ25 "java/util/HashMap" ⟨"java/util/HashMap", "afterNodeInsertion", "(Z)V"⟩ yJ25_afterNodeInsertion fJ25_afterNodeInsertion 1 := ⟨⟨q1408, q1411, q1412, q1413, q133, q1414⟩, Or.inr (Or.inl ⟨q1409, _, _, _, q1419⟩), ⟨by decide +kernel, by decide +kernel, by decide +kernel⟩, by decide⟩
theorem kJ14_215 : CkV RJ14 215 yJ14_replacementTreeNode fJ14_replacementTreeNode 2 := ⟨q1393, q1394, q1395, q118, q1400, ⟨by decide +kernel, by decide +kernel, by decide +kernel⟩, by decide⟩
theorem kJ14_215_J25 : CkU RJ14 215 RJ25 "java/util/HashMap" ⟨"java/util/HashMap", "replacementTreeNode", "(Ljava/util/HashMap$Node;Ljava/util/HashMap$Node;)Ljava/util/HashMap$TreeNode;"⟩ yJ25_replacementTreeNode fJ25_replacementTreeNode 2 := ⟨⟨q1393, q1396, q1397, q1398, q133, q1399⟩, Or.inr (Or.inl ⟨q1394, _, _, _, q1400⟩), ⟨by decide +kernel, by decide +kernel, by decide +kernel⟩, by decide⟩
theorem kJ15_1 : CkI RJ15 1 yJ0_init fJ0_init 0 := ⟨q837, q163, q98, q164, rfl, rfl, ⟨by decide +kernel, by decide +kernel, by decide +kernel⟩, by decide⟩
theorem kJ16_68 : CkV RJ16 68 yJ14_put fJ14_put 2 := ⟨q1426, q1214, q1215, q118, q1218, ⟨by decide +kernel, by decide +kernel, by decide +kernel⟩, by decide⟩
theorem kJ16_68_J25 : CkU RJ16 68 RJ25 "java/util/HashMap" ⟨"java/util/HashMap", "put", "(Ljava/lang/Object;Ljava/lang/Object;)Ljava/lang/Object;"⟩ yJ14_put fJ14_put 2 := ⟨⟨q1426, q1216, q1217, q1214, q118, q1218⟩, Or.inl rfl, ⟨by decide +kernel, by decide +kernel, by decide +kernel⟩, by decide⟩
theorem kJ16_60 : CkV RJ16 60 yJ14_containsKey fJ14_containsKey 1 := ⟨q1432, q1433, q1434, q118, q1437, ⟨by decide +kernel, by decide +kernel, by decide +kernel⟩, by decide⟩
theorem kJ16_60_J25 : CkU RJ16 60 RJ25 "java/util/HashMap" ⟨"java/util/HashMap", "containsKey", "(Ljava/lang/Object;)Z"⟩ yJ14_containsKey fJ14_containsKey 1 := ⟨⟨q1432, q1435, q1436, q1433, q118, q1437⟩, Or.inl rfl, ⟨by decide +kernel, by decide +kernel, by decide +kernel⟩, by decide⟩
theorem kJ16_1 : CkI RJ16 1 yJ15_init fJ15_init 0 := ⟨q834, q835, q119, q836, rfl, rfl, ⟨by decide +kernel, by decide +kernel, by decide +kernel⟩, by decide⟩
theorem kJ16_9 : CkI RJ16 9 yJ14_init fJ14_init 0 := ⟨q839, q790, q118, q791, rfl, rfl, ⟨by decide +kernel, by decide +kernel, by decide +kernel⟩, by decide⟩
theorem kJ16_45 : CkV RJ16 45 yJ14_keySet fJ14_keySet 0 := ⟨q2052, q2053, q2054, q118, q2057, ⟨by decide +kernel, by decide +kernel, by decide +kernel⟩, by decide⟩
theorem kJ16_45_J25 : CkU RJ16 45 RJ25 "java/util/HashMap" ⟨"java/util/HashMap", "keySet", "()Ljava/util/Set;"⟩ yJ25_keySet fJ25_keySet 0 := ⟨⟨q2052, q2055, q2056, q1990, q133, q1992⟩, Or.inr (Or.inl ⟨q2053, _, _, _, q2057⟩), ⟨by decide +kernel, by decide +kernel, by decide +kernel⟩, by decide⟩
theorem kJ18_284 : CkV RJ18 284 yJ18_compareTo_2 fJ18_compareTo_2 1 := ⟨q1019, q1020, q1021, q122, q1022, ⟨by decide +kernel, by decide +kernel, by decide +kernel⟩, by decide⟩
theorem kJ18_259 : CkS RJ18 259 yJ18_compare fJ18_compare 2 := ⟨q1023, q1024, q122, q1025, ⟨by decide +kernel, by decide +kernel, by decide +kernel⟩, by decide⟩
theorem kJ18_211 : CkV RJ18 211 yJ18_intValue fJ18_intValue 0 := ⟨q977, q978, q979, q122, q980, ⟨by decide +kernel, by decide +kernel, by decide +kernel⟩, by decide⟩
theorem kJ18_208 : CkS RJ18 208 yJ18_hashCode_2 fJ18_hashCode_2 1 := ⟨q904, q905, q122, q906, ⟨by decide +kernel, by decide +kernel, by decide +kernel⟩, by decide⟩
theorem kJ18_202 : CkI RJ18 202 yJ17_init fJ17_init 0 := ⟨q863, q864, q121, q865, rfl, rfl, ⟨by decide +kernel, by decide +kernel, by decide +kernel⟩, by decide⟩
theorem kJ18_199 : CkI RJ18 199 yJ18_init fJ18_init 1 := ⟨q860, q861, q122, q862, rfl, rfl, ⟨by decide +kernel, by decide +kernel, by decide +kernel⟩, by decide⟩
theorem kJ2_131 : CkV RJ2 131 yJ2_add_2 fJ2_add_2 3 := ⟨q525, q527, qs4, q100, q528, ⟨by decide +kernel, by decide +kernel, by decide +kernel⟩, by decide⟩
theorem kJ2_129 : CkV RJ2 129 yJ2_grow fJ2_grow 0 := ⟨q529, q531, qs5, q100, q532, ⟨by decide +kernel, by decide +kernel, by decide +kernel⟩, by decide⟩
theorem kJ2_135 : CkV RJ2 135 yJ2_rangeCheckForAdd fJ2_rangeCheckForAdd 1 := ⟨q584, q586, qs7, q100, q587, ⟨by decide +kernel, by decide +kernel, by decide +kernel⟩, by decide⟩
theorem kJ2_118 : CkS RJ2 118 yJ12_checkIndex fJ12_checkIndex 2 := ⟨q490, q491, q113, q492, ⟨by decide +kernel, by decide +kernel, by decide +kernel⟩, by decide⟩
theorem kJ2_123 : CkV RJ2 123 yJ2_elementData fJ2_elementData 1 := ⟨q510, q511, q512, q100, q513, ⟨by decide +kernel, by decide +kernel, by decide +kernel⟩, by decide⟩
theorem kJ2_69 : CkV RJ2 69 yJ2_grow_2 fJ2_grow_2 1 := ⟨q533, q535, qs6, q100, q536, ⟨by decide +kernel, by decide +kernel, by decide +kernel⟩, by decide⟩
theorem kJ2_73 : CkS RJ2 73 yJ7_newLength fJ7_newLength 3 := ⟨q537, q340, q107, q341, ⟨by decide +kernel, by decide +kernel, by decide +kernel⟩, by decide⟩
theorem kJ2_66 : CkS RJ2 66 yJ9_copyOf_2 fJ9_copyOf_2 2 := ⟨q538, q539, q109, q540, ⟨by decide +kernel, by decide +kernel, by decide +kernel⟩, by decide⟩
theorem kJ2_79 : CkS RJ2 79 yJ8_max fJ8_max 2 := ⟨q576, q343, q108, q344, ⟨by decide +kernel, by decide +kernel, by decide +kernel⟩, by decide⟩
theorem kJ2_1 : CkI RJ2 1 yJ1_init fJ1_init 0 := ⟨q159, q160, q99, q161, rfl, rfl, ⟨by decide +kernel, by decide +kernel, by decide +kernel⟩, by decide⟩
theorem kJ2_144 : CkV RJ2 144 yJ2_fastRemove fJ2_fastRemove 2 := ⟨q494, q496, qs3, q100, q497, ⟨by decide +kernel, by decide +kernel, by decide +kernel⟩, by decide⟩
theorem kJ22_1 : CkI RJ22 1 yJ21_init fJ21_init 4 := ⟨q1256, q1257, q127, q1258, rfl, rfl, ⟨by decide +kernel, by decide +kernel, by decide +kernel⟩, by decide⟩
theorem kJ25_53 : CkV RJ25 53 yJ25_removeEldestEntry fJ25_removeEldestEntry 1 := ⟨q1415, q1416, q1417, q133, q1418, ⟨by decide +kernel, by decide +kernel, by decide +kernel⟩, by decide⟩
theorem kJ25_99_J25 : CkU RJ25 99 RJ25 "java/util/HashMap" ⟨"java/util/LinkedHashMap", "getNode", "(Ljava/lang/Object;)Ljava/util/HashMap$Node;"⟩ yJ14_getNode fJ14_getNode 1 := ⟨⟨q878, q879, q881, q882, q118, q883⟩, Or.inl rfl, ⟨by decide +kernel, by decide +kernel, by decide +kernel⟩, by decide⟩
theorem kJ25_103 : CkV RJ25 103 yJ25_afterNodeAccess fJ25_afterNodeAccess 1 := ⟨q1204, q1205, q1206, q133, q1207, ⟨by decide +kernel, by decide +kernel, by decide +kernel⟩, by decide⟩
theorem kJ25_87 : CkI RJ25 87 yJ14_init fJ14_init 0 := ⟨q1947, q790, q118, q791, rfl, rfl, ⟨by decide +kernel, by decide +kernel, by decide +kernel⟩, by decide⟩
theorem kJ25_113 : CkV RJ25 113 yJ25_sequencedKeySet fJ25_sequencedKeySet 0 := ⟨q1993, q1994, q1995, q133, q1996, ⟨by decide +kernel, by decide +kernel, by decide +kernel⟩, by decide⟩
theorem kJ25_28 : CkI RJ25 28 yJ22_init fJ22_init 4 := ⟨q1253, q1254, q128, q1255, rfl, rfl, ⟨by decide +kernel, by decide +kernel, by decide +kernel⟩, by decide⟩
theorem kJ25_32 : CkV RJ25 32 yJ25_linkNodeAtEnd fJ25_linkNodeAtEnd 1 := ⟨q1340, q1342, qs18, q133, q1343, ⟨by decide +kernel, by decide +kernel, by decide +kernel⟩, by decide⟩
theorem kJ25_46 : CkV RJ25 46 yJ25_transferLinks fJ25_transferLinks 2 := ⟨q1302, q1304, qs17, q133, q1306, ⟨by decide +kernel, by decide +kernel, by decide +kernel⟩, by decide⟩
theorem kJ25_123 : CkI RJ25 123 yJ26_init fJ26_init 2 := ⟨q1999, q2000, q134, q2001, rfl, rfl, ⟨by decide +kernel, by decide +kernel, by decide +kernel⟩, by decide⟩
theorem kJ26_7 : CkI RJ26 7 yJ15_init fJ15_init 0 := ⟨q2002, q835, q119, q836, rfl, rfl, ⟨by decide +kernel, by decide +kernel, by decide +kernel⟩, by decide⟩
theorem kJ26_28 : CkI RJ26 28 yJ31_init fJ31_init 2 := ⟨q2078, q2079, q139, q2080, rfl, rfl, ⟨by decide +kernel, by decide +kernel, by decide +kernel⟩, by decide⟩
theorem kJ28_1 : CkI RJ28 1 yJ27_init fJ27_init 1 := ⟨q2026, q2027, q135, q2028, rfl, rfl, ⟨by decide +kernel, by decide +kernel, by decide +kernel⟩, by decide⟩
theorem kJ29_7 : CkI RJ29 7 yJ15_init fJ15_init 0 := ⟨q2063, q835, q119, q836, rfl, rfl, ⟨by decide +kernel, by decide +kernel, by decide +kernel⟩, by decide⟩
theorem kJ29_24 : CkI RJ29 24 yJ28_init fJ28_init 1 := ⟨q2023, q2024, q136, q2025, rfl, rfl, ⟨by decide +kernel, by decide +kernel, by decide +kernel⟩, by decide⟩
theorem kJ3_100_J4 : CkP RJ3 100 RJ4 yJ3_getValue yJ3_ensureCapacityInternal fJ3_ensureCapacityInternal 1 := ⟨q331, q333, q332, ⟨q435, rfl, by decide +kernel, by decide +kernel⟩, q103, q334, ⟨by decide +kernel, by decide +kernel, by decide +kernel⟩, by decide⟩
theorem kJ3_83_J4 : CkU RJ3 83 RJ4 "java/lang/AbstractStringBuilder" ⟨"java/lang/AbstractStringBuilder", "isLatin1", "()Z"⟩ yJ3_isLatin1 fJ3_isLatin1 0 := ⟨⟨q366, q368, q369, q367, q103, q370⟩, Or.inl rfl, ⟨by decide +kernel, by decide +kernel, by decide +kernel⟩, by decide⟩
theorem kJ3_191 : CkS RJ3 191 yJ10_canEncode fJ10_canEncode 1 := ⟨q371, q372, q111, q373, ⟨by decide +kernel, by decide +kernel, by decide +kernel⟩, by decide⟩
theorem kJ3_195_J4 : CkP RJ3 195 RJ4 yJ3_getValue yJ3_inflate fJ3_inflate 0 := ⟨q374, q376, q375, ⟨q435, rfl, by decide +kernel, by decide +kernel⟩, q103, q377, ⟨by decide +kernel, by decide +kernel, by decide +kernel⟩, by decide⟩
theorem kJ3_204_J4 : CkP RJ3 204 RJ4 yJ3_getValue yJ3_appendNull fJ3_appendNull 0 := ⟨q1619, q1621, q1620, ⟨q435, rfl, by decide +kernel, by decide +kernel⟩, q103, q1622, ⟨by decide +kernel, by decide +kernel, by decide +kernel⟩, by decide⟩
theorem kJ3_32 : CkV RJ3 32 yJ5_length fJ5_length 0 := ⟨q1630, q610, q611, q105, q612, ⟨by decide +kernel, by decide +kernel, by decide +kernel⟩, by decide⟩
theorem kJ3_208_J4 : CkP RJ3 208 RJ4 yJ3_getValue yJ3_putStringAt fJ3_putStringAt 2 := ⟨q1631, q1633, q1632, ⟨q435, rfl, by decide +kernel, by decide +kernel⟩, q103, q1634, ⟨by decide +kernel, by decide +kernel, by decide +kernel⟩, by decide⟩
theorem kJ3_87 : CkS RJ3 87 yJ10_compareTo_2 fJ10_compareTo_2 4 := ⟨q1186, q1040, q111, q1041, ⟨by decide +kernel, by decide +kernel, by decide +kernel⟩, by decide⟩
theorem kJ3_94 : CkS RJ3 94 yJ10_compareToUTF16_2 fJ10_compareToUTF16_2 4 := ⟨q1196, q1197, q111, q1198, ⟨by decide +kernel, by decide +kernel, by decide +kernel⟩, by decide⟩
theorem kJ3_104_J4 : CkP RJ3 104 RJ4 yJ3_getValue yJ3_newCapacity fJ3_newCapacity 1 := ⟨q335, q337, q336, ⟨q435, rfl, by decide +kernel, by decide +kernel⟩, q103, q338, ⟨by decide +kernel, by decide +kernel, by decide +kernel⟩, by decide⟩
theorem kJ3_108 : CkS RJ3 108 yJ9_copyOf fJ9_copyOf 2 := ⟨q350, q351, q109, q352, ⟨by decide +kernel, by decide +kernel, by decide +kernel⟩, by decide⟩
theorem kJ3_125 : CkS RJ3 125 yJ10_inflate fJ10_inflate 5 := ⟨q378, q379, q111, q380, ⟨by decide +kernel, by decide +kernel, by decide +kernel⟩, by decide⟩
theorem kJ3_40 : CkV RJ3 40 yJ5_coder fJ5_coder 0 := ⟨q1639, q614, q615, q105, q616, ⟨by decide +kernel, by decide +kernel, by decide +kernel⟩, by decide⟩
theorem kJ3_114 : CkS RJ3 114 yJ7_newLength fJ7_newLength 3 := ⟨q339, q340, q107, q341, ⟨by decide +kernel, by decide +kernel, by decide +kernel⟩, by decide⟩
theorem kJ3_397_J4 : CkP RJ3 397 RJ4 yJ3_getValue yJ3_inflateIfNeededFor fJ3_inflateIfNeededFor 1 := ⟨q1635, q1637, q1636, ⟨q435, rfl, by decide +kernel, by decide +kernel⟩, q103, q1638, ⟨by decide +kernel, by decide +kernel, by decide +kernel⟩, by decide⟩
theorem kJ3_399 : CkV RJ3 399 yJ5_getBytes fJ5_getBytes 3 := ⟨q1640, q1641, q1642, q105, q1643, ⟨by decide +kernel, by decide +kernel, by decide +kernel⟩, by decide⟩
theorem kJ31_1 : CkI RJ31 1 yJ30_init fJ30_init 2 := ⟨q2081, q2082, q138, q2083, rfl, rfl, ⟨by decide +kernel, by decide +kernel, by decide +kernel⟩, by decide⟩
theorem kJ31_7_J31 : CkU RJ31 7 RJ31 "java/util/LinkedHashMap$LinkedHashIterator" ⟨"java/util/LinkedHashMap$LinkedKeyIterator", "nextNode", "()Ljava/util/LinkedHashMap$Entry;"⟩ yJ30_nextNode fJ30_nextNode 0 := ⟨⟨q2137, q2138, q2140, q2141, q138, q2142⟩, Or.inl rfl, ⟨by decide +kernel, by decide +kernel, by decide +kernel⟩, by decide⟩
theorem kJ31_13_J22 : CkU RJ31 13 RJ22 "java/util/HashMap$Node" ⟨"java/util/LinkedHashMap$Entry", "getKey", "()Ljava/lang/Object;"⟩ yJ21_getKey fJ21_getKey 0 := ⟨⟨q2143, q2144, q2147, q2148, q127, q2149⟩, Or.inl rfl, ⟨by decide +kernel, by decide +kernel, by decide +kernel⟩, by decide⟩
theorem kJ4_50 : CkSU RJ4 50 yJ3_append fJ3_append 1 := ⟨q328, q2784, q323, q329, q103, q330, by decide +kernel, by decide +kernel, by decide⟩
theorem kJ4_29 : CkSU RJ4 29 yJ3_append_2 fJ3_append_2 1 := ⟨q1616, q2792, q323, q1617, q103, q1618, by decide +kernel, by decide +kernel, by decide⟩
theorem kJ4_346 : CkV RJ4 346 yJ4_compareTo_2 fJ4_compareTo_2 1 := ⟨q1179, q1180, q1181, q104, q1182, ⟨by decide +kernel, by decide +kernel, by decide +kernel⟩, by decide⟩
theorem kJ4_13 : CkSU RJ4 13 yJ3_compareTo fJ3_compareTo 1 := ⟨q1183, q2788, q323, q1184, q103, q1185, by decide +kernel, by decide +kernel, by decide⟩
theorem kJ4_1 : CkI RJ4 1 yJ3_init fJ3_init 1 := ⟨q298, q299, q103, q300, rfl, rfl, ⟨by decide +kernel, by decide +kernel, by decide +kernel⟩, by decide⟩
theorem kJ4_343 : CkSU RJ4 343 yJ3_length fJ3_length 0 := ⟨q443, q439, q323, q438, q103, q444, by decide +kernel, by decide +kernel, by decide⟩
theorem kJ4_137 : CkI RJ4 137 yJ5_init fJ5_init 1 := ⟨q425, q426, q105, q427, rfl, rfl, ⟨by decide +kernel, by decide +kernel, by decide +kernel⟩, by decide⟩
theorem kJ5_492 : CkV RJ5 492 yJ5_isLatin1 fJ5_isLatin1 0 := ⟨q628, q629, q630, q105, q631, ⟨by decide +kernel, by decide +kernel, by decide +kernel⟩, by decide⟩
theorem kJ5_495 : CkS RJ5 495 yJ10_charAt fJ10_charAt 2 := ⟨q657, q658, q111, q659, ⟨by decide +kernel, by decide +kernel, by decide +kernel⟩, by decide⟩
theorem kJ5_1062 : CkS RJ5 1062 yJ11_checkFromToIndex fJ11_checkFromToIndex 4 := ⟨q625, q626, q112, q627, ⟨by decide +kernel, by decide +kernel, by decide +kernel⟩, by decide⟩
theorem kJ5_1065 : CkS RJ5 1065 yJ11_checkFromIndexSize fJ11_checkFromIndexSize 4 := ⟨q395, q396, q112, q397, ⟨by decide +kernel, by decide +kernel, by decide +kernel⟩, by decide⟩
theorem kJ5_1059 : CkS RJ5 1059 yJ11_checkIndex fJ11_checkIndex 3 := ⟨q416, q417, q112, q418, ⟨by decide +kernel, by decide +kernel, by decide +kernel⟩, by decide⟩
theorem kJ5_1084 : CkV RJ5 1084 yJ5_compareTo_2 fJ5_compareTo_2 1 := ⟨q1032, q1033, q1034, q105, q1035, ⟨by decide +kernel, by decide +kernel, by decide +kernel⟩, by decide⟩
theorem kJ5_335 : CkV RJ5 335 yJ5_coder fJ5_coder 0 := ⟨q613, q614, q615, q105, q616, ⟨by decide +kernel, by decide +kernel, by decide +kernel⟩, by decide⟩
theorem kJ5_586 : CkS RJ5 586 yJ10_compareTo fJ10_compareTo 2 := ⟨q1036, q1037, q111, q1038, ⟨by decide +kernel, by decide +kernel, by decide +kernel⟩, by decide⟩
theorem kJ5_591 : CkS RJ5 591 yJ10_compareToUTF16 fJ10_compareToUTF16 2 := ⟨q1157, q1158, q111, q1159, ⟨by decide +kernel, by decide +kernel, by decide +kernel⟩, by decide⟩
theorem kJ5_541 : CkS RJ5 541 yJ10_equals fJ10_equals 2 := ⟨q694, q695, q111, q696, ⟨by decide +kernel, by decide +kernel, by decide +kernel⟩, by decide⟩
theorem kJ5_106 : CkS RJ5 106 yJ10_inflate fJ10_inflate 5 := ⟨q1645, q379, q111, q380, ⟨by decide +kernel, by decide +kernel, by decide +kernel⟩, by decide⟩
theorem kJ5_628 : CkS RJ5 628 yJ10_hashCode fJ10_hashCode 1 := ⟨q910, q911, q111, q912, ⟨by decide +kernel, by decide +kernel, by decide +kernel⟩, by decide⟩
theorem kJ5_489 : CkI RJ5 489 yJ5_init_2 fJ5_init_2 2 := ⟨q428, q429, q105, q430, rfl, rfl, ⟨by decide +kernel, by decide +kernel, by decide +kernel⟩, by decide⟩
theorem kJ5_552_J4 : CkU RJ5 552 RJ4 "java/lang/AbstractStringBuilder" ⟨"java/lang/AbstractStringBuilder", "getValue", "()[B"⟩ yJ3_getValue fJ3_getValue 0 := ⟨⟨q432, q434, q435, q433, q103, q436⟩, Or.inl rfl, ⟨by decide +kernel, by decide +kernel, by decide +kernel⟩, by decide⟩
theorem kJ5_549_J4 : CkU RJ5 549 RJ4 "java/lang/AbstractStringBuilder" ⟨"java/lang/AbstractStringBuilder", "length", "()I"⟩ yJ4_length fJ4_length 0 := ⟨⟨q437, q439, q440, q441, q104, q442⟩, Or.inr (Or.inl ⟨q438, _, _, _, q444⟩), ⟨by decide +kernel, by decide +kernel, by decide +kernel⟩, by decide⟩
theorem kJ5_1047_J4 : CkU RJ5 1047 RJ4 "java/lang/AbstractStringBuilder" ⟨"java/lang/AbstractStringBuilder", "isLatin1", "()Z"⟩ yJ3_isLatin1 fJ3_isLatin1 0 := ⟨⟨q445, q368, q369, q367, q103, q370⟩, Or.inl rfl, ⟨by decide +kernel, by decide +kernel, by decide +kernel⟩, by decide⟩
theorem kJ5_54 : CkS RJ5 54 yJ9_copyOfRange fJ9_copyOfRange 3 := ⟨q446, q447, q109, q448, ⟨by decide +kernel, by decide +kernel, by decide +kernel⟩, by decide⟩
theorem kJ5_505 : CkV RJ5 505 yJ5_length fJ5_length 0 := ⟨q621, q610, q611, q105, q612, ⟨by decide +kernel, by decide +kernel, by decide +kernel⟩, by decide⟩
theorem kJ5_521 : CkS RJ5 521 yJ5_checkBoundsBeginEnd fJ5_checkBoundsBeginEnd 3 := ⟨q622, q623, q105, q624, ⟨by decide +kernel, by decide +kernel, by decide +kernel⟩, by decide⟩
theorem kJ5_685 : CkS RJ5 685 yJ10_newString fJ10_newString 3 := ⟨q632, q633, q111, q634, ⟨by decide +kernel, by decide +kernel, by decide +kernel⟩, by decide⟩
theorem kJ7_122 : CkS RJ7 122 yJ7_vectorizedMismatch fJ7_vectorizedMismatch 6 := ⟨q1050, q1051, q107, q1052, ⟨by decide +kernel, by decide +kernel, by decide +kernel⟩, by decide⟩
theorem kJ7_194 : CkS RJ7 194 yJ8_max fJ8_max 2 := ⟨q342, q343, q108, q344, ⟨by decide +kernel, by decide +kernel, by decide +kernel⟩, by decide⟩
theorem kJ7_201 : CkS RJ7 201 yJ7_hugeLength fJ7_hugeLength 2 := ⟨q346, q347, q107, q348, ⟨by decide +kernel, by decide +kernel, by decide +kernel⟩, by decide⟩
theorem kJ7_62 : CkS RJ7 62 yJ7_signedHashCode fJ7_signedHashCode 4 := ⟨q917, q918, q107, q919, ⟨by decide +kernel, by decide +kernel, by decide +kernel⟩, by decide⟩
theorem kJ7_66 : CkS RJ7 66 yJ7_utf16hashCode fJ7_utf16hashCode 4 := ⟨q920, q921, q107, q922, ⟨by decide +kernel, by decide +kernel, by decide +kernel⟩, by decide⟩
theorem kJ7_71 : CkS RJ7 71 yJ7_hashCode fJ7_hashCode 4 := ⟨q937, q938, q107, q939, ⟨by decide +kernel, by decide +kernel, by decide +kernel⟩, by decide⟩
theorem kJ7_75 : CkS RJ7 75 yJ7_hashCode_2 fJ7_hashCode_2 4 := ⟨q940, q941, q107, q942, ⟨by decide +kernel, by decide +kernel, by decide +kernel⟩, by decide⟩
theorem kJ7_79 : CkS RJ7 79 yJ7_hashCode_3 fJ7_hashCode_3 4 := ⟨q944, q945, q107, q946, ⟨by decide +kernel, by decide +kernel, by decide +kernel⟩, by decide⟩
theorem kJ7_84 : CkS RJ7 84 yJ7_hashCode_4 fJ7_hashCode_4 4 := ⟨q948, q949, q107, q950, ⟨by decide +kernel, by decide +kernel, by decide +kernel⟩, by decide⟩
theorem kJ7_58 : CkS RJ7 58 yJ18_numberOfLeadingZeros fJ18_numberOfLeadingZeros 1 := ⟨q1145, q1115, q122, q1116, ⟨by decide +kernel, by decide +kernel, by decide +kernel⟩, by decide⟩
theorem kJ7_11 : CkS RJ7 11 yJ18_numberOfTrailingZeros fJ18_numberOfTrailingZeros 1 := ⟨q1146, q1124, q122, q1125, ⟨by decide +kernel, by decide +kernel, by decide +kernel⟩, by decide⟩
theorem kJ9_304 : CkS RJ9 304 yJ8_min fJ8_min 2 := ⟨q360, q361, q108, q362, ⟨by decide +kernel, by decide +kernel, by decide +kernel⟩, by decide⟩
theorem kJ9_339 : CkS RJ9 339 yJ9_copyOfRangeByte fJ9_copyOfRangeByte 3 := ⟨q449, q450, q109, q451, ⟨by decide +kernel, by decide +kernel, by decide +kernel⟩, by decide⟩
theorem kJ9_343 : CkS RJ9 343 yJ9_checkLength fJ9_checkLength 2 := ⟨q452, q453, q109, q454, ⟨by decide +kernel, by decide +kernel, by decide +kernel⟩, by decide⟩
theorem kJ9_300 : CkS RJ9 300 yJ9_copyOf_3 fJ9_copyOf_3 3 := ⟨q570, q571, q109, q572, ⟨by decide +kernel, by decide +kernel, by decide +kernel⟩, by decide⟩
theorem kL_9 : CkI "AutoIndenterLaw" 9 yX0_init fX0_init 0 := ⟨q142, q143, q96, q144, rfl, rfl, ⟨by decide +kernel, by decide +kernel, by decide +kernel⟩, by decide⟩
theorem kL_12 : CkI "AutoIndenterLaw" 12 yX2_init fX2_init 0 := ⟨q2222, q2223, q101, q2224, rfl, rfl, ⟨by decide +kernel, by decide +kernel, by decide +kernel⟩, by decide⟩
theorem kL_13 : CkV "AutoIndenterLaw" 13 yX0_type fX0_type 1 := ⟨q243, q244, q245, q96, q246, ⟨by decide +kernel, by decide +kernel, by decide +kernel⟩, by decide⟩
theorem kL_17 : CkV "AutoIndenterLaw" 17 yX2_type fX2_type 1 := ⟨q2350, q2351, q2352, q101, q2353, ⟨by decide +kernel, by decide +kernel, by decide +kernel⟩, by decide⟩
theorem kL_18 : CkV "AutoIndenterLaw" 18 yX0_clear fX0_clear 0 := ⟨q250, q251, q252, q96, q253, ⟨by decide +kernel, by decide +kernel, by decide +kernel⟩, by decide⟩
theorem kL_22 : CkV "AutoIndenterLaw" 22 yX2_clear fX2_clear 0 := ⟨q2357, q2358, q2359, q101, q2360, ⟨by decide +kernel, by decide +kernel, by decide +kernel⟩, by decide⟩
theorem kL_23 : CkV "AutoIndenterLaw" 23 yX0_insertLine fX0_insertLine 1 := ⟨q254, q255, q256, q96, q257, ⟨by decide +kernel, by decide +kernel, by decide +kernel⟩, by decide⟩
theorem kL_26 : CkV "AutoIndenterLaw" 26 yX2_insertLine fX2_insertLine 1 := ⟨q2361, q2362, q2363, q101, q2364, ⟨by decide +kernel, by decide +kernel, by decide +kernel⟩, by decide⟩
theorem kL_27 : CkV "AutoIndenterLaw" 27 yX0_replaceLine fX0_replaceLine 1 := ⟨q588, q589, q590, q96, q591, ⟨by decide +kernel, by decide +kernel, by decide +kernel⟩, by decide⟩
theorem kL_30 : CkV "AutoIndenterLaw" 30 yX2_replaceLine fX2_replaceLine 1 := ⟨q2389, q2390, q2391, q101, q2392, ⟨by decide +kernel, by decide +kernel, by decide +kernel⟩, by decide⟩
theorem kL_31 : CkV "AutoIndenterLaw" 31 yX0_removeLine fX0_removeLine 1 := ⟨q601, q602, q603, q96, q604, ⟨by decide +kernel, by decide +kernel, by decide +kernel⟩, by decide⟩
theorem kL_34 : CkV "AutoIndenterLaw" 34 yX2_removeLine fX2_removeLine 1 := ⟨q2397, q2398, q2399, q101, q2400, ⟨by decide +kernel, by decide +kernel, by decide +kernel⟩, by decide⟩
theorem kL_35 : CkV "AutoIndenterLaw" 35 yX0_splitLine fX0_splitLine 2 := ⟨q605, q606, q607, q96, q608, ⟨by decide +kernel, by decide +kernel, by decide +kernel⟩, by decide⟩
theorem kL_39 : CkV "AutoIndenterLaw" 39 yX2_splitLine fX2_splitLine 2 := ⟨q2405, q2406, q2407, q101, q2408, ⟨by decide +kernel, by decide +kernel, by decide +kernel⟩, by decide⟩
theorem kL_40 : CkV "AutoIndenterLaw" 40 yX0_joinLines fX0_joinLines 1 := ⟨q1607, q1608, q1609, q96, q1610, ⟨by decide +kernel, by decide +kernel, by decide +kernel⟩, by decide⟩
theorem kL_43 : CkV "AutoIndenterLaw" 43 yX2_joinLines fX2_joinLines 1 := ⟨q2507, q2508, q2509, q101, q2510, ⟨by decide +kernel, by decide +kernel, by decide +kernel⟩, by decide⟩
theorem kL_44 : CkV "AutoIndenterLaw" 44 yX0_shift fX0_shift 3 := ⟨q1647, q1648, q1649, q96, q1650, ⟨by decide +kernel, by decide +kernel, by decide +kernel⟩, by decide⟩
theorem kL_48 : CkV "AutoIndenterLaw" 48 yX2_shift fX2_shift 3 := ⟨q2511, q2512, q2513, q101, q2514, ⟨by decide +kernel, by decide +kernel, by decide +kernel⟩, by decide⟩
theorem kL_49 : CkV "AutoIndenterLaw" 49 yX0_pin fX0_pin 1 := ⟨q1655, q1656, q1657, q96, q1658, ⟨by decide +kernel, by decide +kernel, by decide +kernel⟩, by decide⟩
theorem kL_52 : CkV "AutoIndenterLaw" 52 yX2_pin fX2_pin 1 := ⟨q2519, q2520, q2521, q101, q2522, ⟨by decide +kernel, by decide +kernel, by decide +kernel⟩, by decide⟩
theorem kL_53 : CkV "AutoIndenterLaw" 53 yX0_reindent fX0_reindent 2 := ⟨q1659, q1660, q1661, q96, q1662, ⟨by decide +kernel, by decide +kernel, by decide +kernel⟩, by decide⟩
theorem kL_56 : CkV "AutoIndenterLaw" 56 yX2_reindent fX2_reindent 2 := ⟨q2523, q2524, q2525, q101, q2526, ⟨by decide +kernel, by decide +kernel, by decide +kernel⟩, by decide⟩
theorem kL_57 : CkV "AutoIndenterLaw" 57 yX0_lines fX0_lines 0 := ⟨q1676, q1677, q1678, q96, q1679, ⟨by decide +kernel, by decide +kernel, by decide +kernel⟩, by decide⟩
theorem kL_60 : CkV "AutoIndenterLaw" 60 yX2_lines fX2_lines 0 := ⟨q2534, q2535, q2536, q101, q2537, ⟨by decide +kernel, by decide +kernel, by decide +kernel⟩, by decide⟩
theorem kL_61 : CkV "AutoIndenterLaw" 61 yX0_indentation fX0_indentation 1 := ⟨q1680, q1681, q1682, q96, q1683, ⟨by decide +kernel, by decide +kernel, by decide +kernel⟩, by decide⟩
theorem kL_64 : CkV "AutoIndenterLaw" 64 yX2_indentation fX2_indentation 1 := ⟨q2538, q2539, q2540, q101, q2541, ⟨by decide +kernel, by decide +kernel, by decide +kernel⟩, by decide⟩
theorem kL_65 : CkV "AutoIndenterLaw" 65 yX0_length fX0_length 1 := ⟨q1684, q1685, q1686, q96, q1687, ⟨by decide +kernel, by decide +kernel, by decide +kernel⟩, by decide⟩
theorem kL_68 : CkV "AutoIndenterLaw" 68 yX2_length fX2_length 1 := ⟨q2542, q2543, q2544, q101, q2545, ⟨by decide +kernel, by decide +kernel, by decide +kernel⟩, by decide⟩
theorem kL_69 : CkV "AutoIndenterLaw" 69 yX0_byteAt fX0_byteAt 2 := ⟨q1688, q1689, q1690, q96, q1691, ⟨by decide +kernel, by decide +kernel, by decide +kernel⟩, by decide⟩
theorem kL_72 : CkV "AutoIndenterLaw" 72 yX2_byteAt fX2_byteAt 2 := ⟨q2546, q2547, q2548, q101, q2549, ⟨by decide +kernel, by decide +kernel, by decide +kernel⟩, by decide⟩
theorem kL_73 : CkV "AutoIndenterLaw" 73 yX0_isProtected fX0_isProtected 1 := ⟨q1692, q1693, q1694, q96, q1695, ⟨by decide +kernel, by decide +kernel, by decide +kernel⟩, by decide⟩
theorem kL_76 : CkV "AutoIndenterLaw" 76 yX2_isProtected fX2_isProtected 1 := ⟨q2550, q2551, q2552, q101, q2553, ⟨by decide +kernel, by decide +kernel, by decide +kernel⟩, by decide⟩
theorem kL_77 : CkV "AutoIndenterLaw" 77 yX0_isPinned fX0_isPinned 1 := ⟨q1700, q1701, q1702, q96, q1703, ⟨by decide +kernel, by decide +kernel, by decide +kernel⟩, by decide⟩
theorem kL_80 : CkV "AutoIndenterLaw" 80 yX2_isPinned fX2_isPinned 1 := ⟨q2554, q2555, q2556, q101, q2557, ⟨by decide +kernel, by decide +kernel, by decide +kernel⟩, by decide⟩
theorem kL_81 : CkV "AutoIndenterLaw" 81 yX0_setStep fX0_setStep 1 := ⟨q1704, q1705, q1706, q96, q1707, ⟨by decide +kernel, by decide +kernel, by decide +kernel⟩, by decide⟩
theorem kL_84 : CkV "AutoIndenterLaw" 84 yX2_setStep fX2_setStep 1 := ⟨q2558, q2559, q2560, q101, q2561, ⟨by decide +kernel, by decide +kernel, by decide +kernel⟩, by decide⟩
theorem kL_85 : CkV "AutoIndenterLaw" 85 yX0_setBase fX0_setBase 1 := ⟨q1708, q1709, q1710, q96, q1711, ⟨by decide +kernel, by decide +kernel, by decide +kernel⟩, by decide⟩
theorem kL_88 : CkV "AutoIndenterLaw" 88 yX2_setBase fX2_setBase 1 := ⟨q2566, q2567, q2568, q101, q2569, ⟨by decide +kernel, by decide +kernel, by decide +kernel⟩, by decide⟩
theorem kL_89 : CkV "AutoIndenterLaw" 89 yX0_setComment fX0_setComment 1 := ⟨q1712, q1713, q1714, q96, q1715, ⟨by decide +kernel, by decide +kernel, by decide +kernel⟩, by decide⟩
theorem kL_92 : CkV "AutoIndenterLaw" 92 yX2_setComment fX2_setComment 1 := ⟨q2570, q2571, q2572, q101, q2573, ⟨by decide +kernel, by decide +kernel, by decide +kernel⟩, by decide⟩
theorem kL_93 : CkV "AutoIndenterLaw" 93 yX0_pair fX0_pair 5 := ⟨q1717, q1718, q1719, q96, q1720, ⟨by decide +kernel, by decide +kernel, by decide +kernel⟩, by decide⟩
theorem kL_97 : CkV "AutoIndenterLaw" 97 yX2_pair fX2_pair 5 := ⟨q2574, q2575, q2576, q101, q2577, ⟨by decide +kernel, by decide +kernel, by decide +kernel⟩, by decide⟩
theorem kL_98 : CkV "AutoIndenterLaw" 98 yX0_starter fX0_starter 3 := ⟨q1786, q1787, q1788, q96, q1789, ⟨by decide +kernel, by decide +kernel, by decide +kernel⟩, by decide⟩
theorem kL_101 : CkV "AutoIndenterLaw" 101 yX2_starter fX2_starter 3 := ⟨q2601, q2602, q2603, q101, q2604, ⟨by decide +kernel, by decide +kernel, by decide +kernel⟩, by decide⟩
theorem kL_102 : CkV "AutoIndenterLaw" 102 yX0_joiner fX0_joiner 3 := ⟨q1794, q1795, q1796, q96, q1797, ⟨by decide +kernel, by decide +kernel, by decide +kernel⟩, by decide⟩
theorem kL_105 : CkV "AutoIndenterLaw" 105 yX2_joiner fX2_joiner 3 := ⟨q2605, q2606, q2607, q101, q2608, ⟨by decide +kernel, by decide +kernel, by decide +kernel⟩, by decide⟩
theorem kL_106 : CkV "AutoIndenterLaw" 106 yX0_dropRule fX0_dropRule 1 := ⟨q1798, q1799, q1800, q96, q1801, ⟨by decide +kernel, by decide +kernel, by decide +kernel⟩, by decide⟩
theorem kL_109 : CkV "AutoIndenterLaw" 109 yX2_dropRule fX2_dropRule 1 := ⟨q2609, q2610, q2611, q101, q2612, ⟨by decide +kernel, by decide +kernel, by decide +kernel⟩, by decide⟩
theorem kL_110 : CkV "AutoIndenterLaw" 110 yX0_wanted fX0_wanted 1 := ⟨q1802, q1803, q1804, q96, q1805, ⟨by decide +kernel, by decide +kernel, by decide +kernel⟩, by decide⟩
theorem kL_113 : CkV "AutoIndenterLaw" 113 yX2_wanted fX2_wanted 1 := ⟨q2613, q2614, q2615, q101, q2616, ⟨by decide +kernel, by decide +kernel, by decide +kernel⟩, by decide⟩
theorem kL_114 : CkV "AutoIndenterLaw" 114 yX0_reason fX0_reason 1 := ⟨q1810, q1811, q1812, q96, q1813, ⟨by decide +kernel, by decide +kernel, by decide +kernel⟩, by decide⟩
theorem kL_117 : CkV "AutoIndenterLaw" 117 yX2_reason fX2_reason 1 := ⟨q2621, q2622, q2623, q101, q2624, ⟨by decide +kernel, by decide +kernel, by decide +kernel⟩, by decide⟩
theorem kL_118 : CkV "AutoIndenterLaw" 118 yX0_decidingRule fX0_decidingRule 1 := ⟨q1814, q1815, q1816, q96, q1817, ⟨by decide +kernel, by decide +kernel, by decide +kernel⟩, by decide⟩
theorem kL_121 : CkV "AutoIndenterLaw" 121 yX2_decidingRule fX2_decidingRule 1 := ⟨q2625, q2626, q2627, q101, q2628, ⟨by decide +kernel, by decide +kernel, by decide +kernel⟩, by decide⟩
theorem kL_122 : CkV "AutoIndenterLaw" 122 yX0_wouldChange fX0_wouldChange 0 := ⟨q1818, q1819, q1820, q96, q1821, ⟨by decide +kernel, by decide +kernel, by decide +kernel⟩, by decide⟩
theorem kL_125 : CkV "AutoIndenterLaw" 125 yX2_wouldChange fX2_wouldChange 0 := ⟨q2629, q2630, q2631, q101, q2632, ⟨by decide +kernel, by decide +kernel, by decide +kernel⟩, by decide⟩
theorem kL_126 : CkV "AutoIndenterLaw" 126 yX0_changesWith fX0_changesWith 2 := ⟨q1822, q1823, q1824, q96, q1825, ⟨by decide +kernel, by decide +kernel, by decide +kernel⟩, by decide⟩
theorem kL_129 : CkV "AutoIndenterLaw" 129 yX2_changesWith fX2_changesWith 2 := ⟨q2633, q2634, q2635, q101, q2636, ⟨by decide +kernel, by decide +kernel, by decide +kernel⟩, by decide⟩
theorem kL_130 : CkV "AutoIndenterLaw" 130 yX0_fewestChanges fX0_fewestChanges 0 := ⟨q1852, q1853, q1854, q96, q1855, ⟨by decide +kernel, by decide +kernel, by decide +kernel⟩, by decide⟩
theorem kL_133 : CkV "AutoIndenterLaw" 133 yX2_fewestChanges fX2_fewestChanges 0 := ⟨q2641, q2642, q2643, q101, q2644, ⟨by decide +kernel, by decide +kernel, by decide +kernel⟩, by decide⟩
theorem kL_134 : CkV "AutoIndenterLaw" 134 yX0_bestStep fX0_bestStep 0 := ⟨q1860, q1861, q1862, q96, q1863, ⟨by decide +kernel, by decide +kernel, by decide +kernel⟩, by decide⟩
theorem kL_137 : CkV "AutoIndenterLaw" 137 yX2_bestStep fX2_bestStep 0 := ⟨q2649, q2650, q2651, q101, q2652, ⟨by decide +kernel, by decide +kernel, by decide +kernel⟩, by decide⟩
theorem kL_138 : CkV "AutoIndenterLaw" 138 yX0_bestBase fX0_bestBase 0 := ⟨q1864, q1865, q1866, q96, q1867, ⟨by decide +kernel, by decide +kernel, by decide +kernel⟩, by decide⟩
theorem kL_141 : CkV "AutoIndenterLaw" 141 yX2_bestBase fX2_bestBase 0 := ⟨q2653, q2654, q2655, q101, q2656, ⟨by decide +kernel, by decide +kernel, by decide +kernel⟩, by decide⟩
theorem kL_142 : CkV "AutoIndenterLaw" 142 yX0_tokens fX0_tokens 1 := ⟨q1868, q1869, q1870, q96, q1871, ⟨by decide +kernel, by decide +kernel, by decide +kernel⟩, by decide⟩
theorem kL_145 : CkV "AutoIndenterLaw" 145 yX2_tokens fX2_tokens 1 := ⟨q2657, q2658, q2659, q101, q2660, ⟨by decide +kernel, by decide +kernel, by decide +kernel⟩, by decide⟩
theorem kL_146 : CkV "AutoIndenterLaw" 146 yX0_tokenAt fX0_tokenAt 2 := ⟨q1873, q1874, q1875, q96, q1876, ⟨by decide +kernel, by decide +kernel, by decide +kernel⟩, by decide⟩
theorem kL_149 : CkV "AutoIndenterLaw" 149 yX2_tokenAt fX2_tokenAt 2 := ⟨q2661, q2662, q2663, q101, q2664, ⟨by decide +kernel, by decide +kernel, by decide +kernel⟩, by decide⟩
theorem kL_150 : CkV "AutoIndenterLaw" 150 yX0_tokenLength fX0_tokenLength 2 := ⟨q1882, q1883, q1884, q96, q1885, ⟨by decide +kernel, by decide +kernel, by decide +kernel⟩, by decide⟩
theorem kL_153 : CkV "AutoIndenterLaw" 153 yX2_tokenLength fX2_tokenLength 2 := ⟨q2669, q2670, q2671, q101, q2672, ⟨by decide +kernel, by decide +kernel, by decide +kernel⟩, by decide⟩
theorem kL_154 : CkV "AutoIndenterLaw" 154 yX0_tokenKind fX0_tokenKind 2 := ⟨q1886, q1887, q1888, q96, q1889, ⟨by decide +kernel, by decide +kernel, by decide +kernel⟩, by decide⟩
theorem kL_157 : CkV "AutoIndenterLaw" 157 yX2_tokenKind fX2_tokenKind 2 := ⟨q2673, q2674, q2675, q101, q2676, ⟨by decide +kernel, by decide +kernel, by decide +kernel⟩, by decide⟩
theorem kL_158 : CkV "AutoIndenterLaw" 158 yX0_openedBy fX0_openedBy 2 := ⟨q1890, q1891, q1892, q96, q1893, ⟨by decide +kernel, by decide +kernel, by decide +kernel⟩, by decide⟩
theorem kL_161 : CkV "AutoIndenterLaw" 161 yX2_openedBy fX2_openedBy 2 := ⟨q2677, q2678, q2679, q101, q2680, ⟨by decide +kernel, by decide +kernel, by decide +kernel⟩, by decide⟩
theorem kL_162 : CkV "AutoIndenterLaw" 162 yX0_closedBy fX0_closedBy 2 := ⟨q1899, q1900, q1901, q96, q1902, ⟨by decide +kernel, by decide +kernel, by decide +kernel⟩, by decide⟩
theorem kL_165 : CkV "AutoIndenterLaw" 165 yX2_closedBy fX2_closedBy 2 := ⟨q2685, q2686, q2687, q101, q2688, ⟨by decide +kernel, by decide +kernel, by decide +kernel⟩, by decide⟩
theorem kL_166 : CkV "AutoIndenterLaw" 166 yX0_depth fX0_depth 1 := ⟨q1903, q1904, q1905, q96, q1906, ⟨by decide +kernel, by decide +kernel, by decide +kernel⟩, by decide⟩
theorem kL_169 : CkV "AutoIndenterLaw" 169 yX2_depth fX2_depth 1 := ⟨q2689, q2690, q2691, q101, q2692, ⟨by decide +kernel, by decide +kernel, by decide +kernel⟩, by decide⟩
theorem kL_170 : CkV "AutoIndenterLaw" 170 yX0_blockRule fX0_blockRule 2 := ⟨q1907, q1908, q1909, q96, q1910, ⟨by decide +kernel, by decide +kernel, by decide +kernel⟩, by decide⟩
theorem kL_173 : CkV "AutoIndenterLaw" 173 yX2_blockRule fX2_blockRule 2 := ⟨q2693, q2694, q2695, q101, q2696, ⟨by decide +kernel, by decide +kernel, by decide +kernel⟩, by decide⟩
theorem kL_174 : CkV "AutoIndenterLaw" 174 yX0_blockOpening fX0_blockOpening 2 := ⟨q1919, q1920, q1921, q96, q1922, ⟨by decide +kernel, by decide +kernel, by decide +kernel⟩, by decide⟩
theorem kL_177 : CkV "AutoIndenterLaw" 177 yX2_blockOpening fX2_blockOpening 2 := ⟨q2701, q2702, q2703, q101, q2704, ⟨by decide +kernel, by decide +kernel, by decide +kernel⟩, by decide⟩
theorem kL_178 : CkV "AutoIndenterLaw" 178 yX0_contentColumn fX0_contentColumn 2 := ⟨q1923, q1924, q1925, q96, q1926, ⟨by decide +kernel, by decide +kernel, by decide +kernel⟩, by decide⟩
theorem kL_181 : CkV "AutoIndenterLaw" 181 yX2_contentColumn fX2_contentColumn 2 := ⟨q2705, q2706, q2707, q101, q2708, ⟨by decide +kernel, by decide +kernel, by decide +kernel⟩, by decide⟩
theorem kL_182 : CkV "AutoIndenterLaw" 182 yX0_strays fX0_strays 0 := ⟨q1927, q1928, q1929, q96, q1930, ⟨by decide +kernel, by decide +kernel, by decide +kernel⟩, by decide⟩
theorem kL_185 : CkV "AutoIndenterLaw" 185 yX2_strays fX2_strays 0 := ⟨q2709, q2710, q2711, q101, q2712, ⟨by decide +kernel, by decide +kernel, by decide +kernel⟩, by decide⟩
theorem kL_186 : CkV "AutoIndenterLaw" 186 yX0_lost fX0_lost 0 := ⟨q1931, q1932, q1933, q96, q1934, ⟨by decide +kernel, by decide +kernel, by decide +kernel⟩, by decide⟩
theorem kL_189 : CkV "AutoIndenterLaw" 189 yX2_lost fX2_lost 0 := ⟨q2713, q2714, q2715, q101, q2716, ⟨by decide +kernel, by decide +kernel, by decide +kernel⟩, by decide⟩
theorem kL_190 : CkV "AutoIndenterLaw" 190 yX0_vocabulary fX0_vocabulary 0 := ⟨q1935, q1936, q1937, q96, q1938, ⟨by decide +kernel, by decide +kernel, by decide +kernel⟩, by decide⟩
theorem kL_193 : CkV "AutoIndenterLaw" 193 yX2_vocabulary fX2_vocabulary 0 := ⟨q2717, q2718, q2719, q101, q2720, ⟨by decide +kernel, by decide +kernel, by decide +kernel⟩, by decide⟩
theorem kL_194 : CkV "AutoIndenterLaw" 194 yX0_commonestCount fX0_commonestCount 0 := ⟨q1982, q1983, q1984, q96, q1985, ⟨by decide +kernel, by decide +kernel, by decide +kernel⟩, by decide⟩
theorem kL_197 : CkV "AutoIndenterLaw" 197 yX2_commonestCount fX2_commonestCount 0 := ⟨q2729, q2730, q2731, q101, q2732, ⟨by decide +kernel, by decide +kernel, by decide +kernel⟩, by decide⟩
theorem kL_198 : CkV "AutoIndenterLaw" 198 yX0_commonestByte fX0_commonestByte 1 := ⟨q2150, q2151, q2152, q96, q2153, ⟨by decide +kernel, by decide +kernel, by decide +kernel⟩, by decide⟩
theorem kL_201 : CkV "AutoIndenterLaw" 201 yX2_commonestByte fX2_commonestByte 1 := ⟨q2737, q2738, q2739, q101, q2740, ⟨by decide +kernel, by decide +kernel, by decide +kernel⟩, by decide⟩
theorem kL_202 : CkV "AutoIndenterLaw" 202 yX0_undo fX0_undo 0 := ⟨q2155, q2156, q2157, q96, q2158, ⟨by decide +kernel, by decide +kernel, by decide +kernel⟩, by decide⟩
theorem kL_205 : CkV "AutoIndenterLaw" 205 yX2_undo fX2_undo 0 := ⟨q2741, q2742, q2743, q101, q2744, ⟨by decide +kernel, by decide +kernel, by decide +kernel⟩, by decide⟩
theorem kL_206 : CkV "AutoIndenterLaw" 206 yX0_keep fX0_keep 1 := ⟨q2163, q2164, q2165, q96, q2166, ⟨by decide +kernel, by decide +kernel, by decide +kernel⟩, by decide⟩
theorem kL_209 : CkV "AutoIndenterLaw" 209 yX2_keep fX2_keep 1 := ⟨q2745, q2746, q2747, q101, q2748, ⟨by decide +kernel, by decide +kernel, by decide +kernel⟩, by decide⟩
theorem kL_210 : CkV "AutoIndenterLaw" 210 yX0_back fX0_back 1 := ⟨q2167, q2168, q2169, q96, q2170, ⟨by decide +kernel, by decide +kernel, by decide +kernel⟩, by decide⟩
theorem kL_213 : CkV "AutoIndenterLaw" 213 yX2_back fX2_back 1 := ⟨q2749, q2750, q2751, q101, q2752, ⟨by decide +kernel, by decide +kernel, by decide +kernel⟩, by decide⟩
theorem kL_214 : CkV "AutoIndenterLaw" 214 yX0_draw fX0_draw 2 := ⟨q2175, q2176, q2177, q96, q2178, ⟨by decide +kernel, by decide +kernel, by decide +kernel⟩, by decide⟩
theorem kL_217 : CkV "AutoIndenterLaw" 217 yX2_draw fX2_draw 2 := ⟨q2753, q2754, q2755, q101, q2756, ⟨by decide +kernel, by decide +kernel, by decide +kernel⟩, by decide⟩
theorem kL_218 : CkV "AutoIndenterLaw" 218 yX0_digest fX0_digest 0 := ⟨q2203, q2204, q2205, q96, q2206, ⟨by decide +kernel, by decide +kernel, by decide +kernel⟩, by decide⟩
theorem kL_222 : CkV "AutoIndenterLaw" 222 yX2_digest fX2_digest 0 := ⟨q2766, q2767, q2768, q101, q2769, ⟨by decide +kernel, by decide +kernel, by decide +kernel⟩, by decide⟩
theorem kX0_1 : CkS RX0 1 yX0_isIn fX0_isIn 3 := ⟨q247, q248, q96, q249, ⟨by decide +kernel, by decide +kernel, by decide +kernel⟩, by decide⟩
theorem kX0_52 : CkV RX0 52 yX1_copy fX1_copy 0 := ⟨q499, q500, q501, q97, q502, ⟨by decide +kernel, by decide +kernel, by decide +kernel⟩, by decide⟩
theorem kX0_402 : CkV RX0 402 yJ2_clear fJ2_clear 0 := ⟨q2171, q2172, q2173, q100, q2174, ⟨by decide +kernel, by decide +kernel, by decide +kernel⟩, by decide⟩
theorem kX0_44 : CkV RX0 44 yJ2_size fJ2_size 0 := ⟨q258, q259, q260, q100, q261, ⟨by decide +kernel, by decide +kernel, by decide +kernel⟩, by decide⟩
theorem kX0_160 : CkV RX0 160 yJ5_length fJ5_length 0 := ⟨q609, q610, q611, q105, q612, ⟨by decide +kernel, by decide +kernel, by decide +kernel⟩, by decide⟩
theorem kX0_164 : CkV RX0 164 yJ5_charAt fJ5_charAt 1 := ⟨q653, q654, q655, q105, q656, ⟨by decide +kernel, by decide +kernel, by decide +kernel⟩, by decide⟩
theorem kX0_168 : CkV RX0 168 yJ5_substring fJ5_substring 2 := ⟨q617, q618, q619, q105, q620, ⟨by decide +kernel, by decide +kernel, by decide +kernel⟩, by decide⟩
theorem kX0_48 : CkV RX0 48 yJ2_remove fJ2_remove 1 := ⟨q486, q487, q488, q100, q489, ⟨by decide +kernel, by decide +kernel, by decide +kernel⟩, by decide⟩
theorem kX0_56 : CkV RX0 56 yJ2_add fJ2_add 1 := ⟨q579, q522, q523, q100, q524, ⟨by decide +kernel, by decide +kernel, by decide +kernel⟩, by decide⟩
theorem kX0_277 : CkI RX0 277 yX8_init fX8_init 2 := ⟨q1834, q1835, q132, q1836, rfl, rfl, ⟨by decide +kernel, by decide +kernel, by decide +kernel⟩, by decide⟩
theorem kX0_293 : CkV RX0 293 yX0_changesOf fX0_changesOf 2 := ⟨q1826, q1828, qs34, q96, q1829, ⟨by decide +kernel, by decide +kernel, by decide +kernel⟩, by decide⟩
theorem kX0_298 : CkV RX0 298 yX0_best fX0_best 0 := ⟨q1856, q1858, qs35, q96, q1859, ⟨by decide +kernel, by decide +kernel, by decide +kernel⟩, by decide⟩
theorem kX0_341 : CkV RX0 341 yX0_isBlock fX0_isBlock 2 := ⟨q1911, q1913, qs38, q96, q1914, ⟨by decide +kernel, by decide +kernel, by decide +kernel⟩, by decide⟩
theorem kX0_344 : CkV RX0 344 yX0_opening fX0_opening 1 := ⟨q1915, q1917, qs39, q96, q1918, ⟨by decide +kernel, by decide +kernel, by decide +kernel⟩, by decide⟩
theorem kX0_149 : CkV RX0 149 yX0_line fX0_line 1 := ⟨q596, q598, qs9, q96, q599, ⟨by decide +kernel, by decide +kernel, by decide +kernel⟩, by decide⟩
theorem kX0_145 : CkV RX0 145 yX0_isLine fX0_isLine 1 := ⟨q592, q594, qs8, q96, q595, ⟨by decide +kernel, by decide +kernel, by decide +kernel⟩, by decide⟩
theorem kX0_274 : CkI RX0 274 yJ14_init fJ14_init 0 := ⟨q1831, q790, q118, q791, rfl, rfl, ⟨by decide +kernel, by decide +kernel, by decide +kernel⟩, by decide⟩
theorem kX0_279 : CkV RX0 279 yJ14_get fJ14_get 1 := ⟨q1847, q872, q873, q118, q1209, ⟨by decide +kernel, by decide +kernel, by decide +kernel⟩, by decide⟩
theorem kX0_279_J25 : CkU RX0 279 RJ25 "java/util/HashMap" ⟨"java/util/HashMap", "get", "(Ljava/lang/Object;)Ljava/lang/Object;"⟩ yJ25_get fJ25_get 1 := ⟨⟨q1847, q874, q875, q876, q133, q877⟩, Or.inr (Or.inl ⟨q872, _, _, _, q1209⟩), ⟨by decide +kernel, by decide +kernel, by decide +kernel⟩, by decide⟩
theorem kX0_282 : CkV RX0 282 yJ18_intValue fJ18_intValue 0 := ⟨q1849, q978, q979, q122, q980, ⟨by decide +kernel, by decide +kernel, by decide +kernel⟩, by decide⟩
theorem kX0_75 : CkV RX0 75 yX0_walked_2 fX0_walked_2 3 := ⟨q668, q670, qs11, q96, q671, ⟨by decide +kernel, by decide +kernel, by decide +kernel⟩, by decide⟩
theorem kX0_201 : CkV RX0 201 yX4_reindent fX4_reindent 2 := ⟨q1663, q1664, q1665, q114, q1666, ⟨by decide +kernel, by decide +kernel, by decide +kernel⟩, by decide⟩
theorem kX0_208 : CkS RX0 208 yJ18_bitCount fJ18_bitCount 1 := ⟨q1670, q1671, q122, q1672, ⟨by decide +kernel, by decide +kernel, by decide +kernel⟩, by decide⟩
theorem kX0_285 : CkS RX0 285 yJ18_valueOf fJ18_valueOf 1 := ⟨q1850, q852, q122, q853, ⟨by decide +kernel, by decide +kernel, by decide +kernel⟩, by decide⟩
theorem kX0_289 : CkV RX0 289 yJ14_put fJ14_put 2 := ⟨q1851, q1214, q1215, q118, q1218, ⟨by decide +kernel, by decide +kernel, by decide +kernel⟩, by decide⟩
theorem kX0_289_J25 : CkU RX0 289 RJ25 "java/util/HashMap" ⟨"java/util/HashMap", "put", "(Ljava/lang/Object;Ljava/lang/Object;)Ljava/lang/Object;"⟩ yJ14_put fJ14_put 2 := ⟨⟨q1851, q1216, q1217, q1214, q118, q1218⟩, Or.inl rfl, ⟨by decide +kernel, by decide +kernel, by decide +kernel⟩, by decide⟩
theorem kX0_305 : CkV RX0 305 yX0_isToken fX0_isToken 2 := ⟨q1877, q1879, qs36, q96, q1880, ⟨by decide +kernel, by decide +kernel, by decide +kernel⟩, by decide⟩
theorem kX0_97 : CkV RX0 97 yX0_walked fX0_walked 1 := ⟨q664, q666, qs10, q96, q667, ⟨by decide +kernel, by decide +kernel, by decide +kernel⟩, by decide⟩
theorem kX0_329 : CkV RX0 329 yX0_placeOf fX0_placeOf 1 := ⟨q1894, q1896, qs37, q96, q1897, ⟨by decide +kernel, by decide +kernel, by decide +kernel⟩, by decide⟩
theorem kX0_368 : CkV RX0 368 yJ25_keySet fJ25_keySet 0 := ⟨q1989, q1990, q1991, q133, q1992, ⟨by decide +kernel, by decide +kernel, by decide +kernel⟩, by decide⟩
theorem kX0_372_J26 : CkF RX0 372 RJ26 ⟨"java/util/Set", "iterator", "()Ljava/util/Iterator;"⟩ yJ26_iterator fJ26_iterator 0 := ⟨q2012, q2071, q2073, q134, q2075, by decide +kernel, ⟨by decide +kernel, by decide +kernel, by decide +kernel⟩, by decide⟩
theorem kX0_378_J31 : CkF RX0 378 RJ31 ⟨"java/util/Iterator", "hasNext", "()Z"⟩ yJ30_hasNext fJ30_hasNext 0 := ⟨q2102, q2112, q2114, q138, q2116, by decide +kernel, ⟨by decide +kernel, by decide +kernel, by decide +kernel⟩, by decide⟩
theorem kX0_383_J31 : CkF RX0 383 RJ31 ⟨"java/util/Iterator", "next", "()Ljava/lang/Object;"⟩ yJ31_next fJ31_next 0 := ⟨q2118, q2132, q2134, q139, q2136, by decide +kernel, ⟨by decide +kernel, by decide +kernel, by decide +kernel⟩, by decide⟩
theorem kX0_366 : CkV RX0 366 yJ25_get fJ25_get 1 := ⟨q1971, q876, q2796, q133, q877, ⟨by decide +kernel, by decide +kernel, by decide +kernel⟩, by decide⟩
theorem kX0_13 : CkS RX0 13 yJ8_max fJ8_max 2 := ⟨q1573, q343, q108, q344, ⟨by decide +kernel, by decide +kernel, by decide +kernel⟩, by decide⟩
theorem kX0_387 : CkV RX0 387 yX0_counted fX0_counted 0 := ⟨q1939, q1941, qs40, q96, q1942, ⟨by decide +kernel, by decide +kernel, by decide +kernel⟩, by decide⟩
theorem kX0_392 : CkS RX0 392 yX0_commonest fX0_commonest 1 := ⟨q1986, q1987, q96, q1988, ⟨by decide +kernel, by decide +kernel, by decide +kernel⟩, by decide⟩
theorem kX0_214 : CkV RX0 214 yX0_divided fX0_divided 0 := ⟨q1696, q1698, qs27, q96, q1699, ⟨by decide +kernel, by decide +kernel, by decide +kernel⟩, by decide⟩
theorem kX0_107 : CkV RX0 107 yJ2_get fJ2_get 1 := ⟨q600, q507, q508, q100, q509, ⟨by decide +kernel, by decide +kernel, by decide +kernel⟩, by decide⟩
theorem kX0_362 : CkI RX0 362 yJ25_init fJ25_init 0 := ⟨q1944, q1945, q133, q1946, rfl, rfl, ⟨by decide +kernel, by decide +kernel, by decide +kernel⟩, by decide⟩
theorem kX0_367_J25 : CkU RX0 367 RJ25 "java/util/HashMap" ⟨"java/util/LinkedHashMap", "put", "(Ljava/lang/Object;Ljava/lang/Object;)Ljava/lang/Object;"⟩ yJ14_put fJ14_put 2 := ⟨⟨q1972, q1973, q1975, q1214, q118, q1218⟩, Or.inl rfl, ⟨by decide +kernel, by decide +kernel, by decide +kernel⟩, by decide⟩
theorem kX0_117 : CkI RX0 117 yJ4_init fJ4_init 0 := ⟨q295, q296, q104, q297, rfl, rfl, ⟨by decide +kernel, by decide +kernel, by decide +kernel⟩, by decide⟩
theorem kX0_118 : CkV RX0 118 yJ4_append fJ4_append 1 := ⟨q324, q325, q326, q104, q327, ⟨by decide +kernel, by decide +kernel, by decide +kernel⟩, by decide⟩
theorem kX0_122 : CkV RX0 122 yJ4_toString fJ4_toString 0 := ⟨q419, q420, q421, q104, q422, ⟨by decide +kernel, by decide +kernel, by decide +kernel⟩, by decide⟩
theorem kX0_175 : CkV RX0 175 yX4_isDecided fX4_isDecided 1 := ⟨q1574, q1575, q1576, q114, q1577, ⟨by decide +kernel, by decide +kernel, by decide +kernel⟩, by decide⟩
theorem kX0_178 : CkV RX0 178 yX4_decide fX4_decide 1 := ⟨q1583, q1584, q1585, q114, q1586, ⟨by decide +kernel, by decide +kernel, by decide +kernel⟩, by decide⟩
theorem kX0_263 : CkV RX0 263 yX0_decided fX0_decided 1 := ⟨q1806, q1808, qs33, q96, q1809, ⟨by decide +kernel, by decide +kernel, by decide +kernel⟩, by decide⟩
theorem kX0_449 : CkS RX0 449 yX0_mixed fX0_mixed 2 := ⟨q2208, q2209, q96, q2210, ⟨by decide +kernel, by decide +kernel, by decide +kernel⟩, by decide⟩
theorem kX0_464 : CkS RX0 464 yX0_mixedText fX0_mixedText 2 := ⟨q2212, q2213, q96, q2214, ⟨by decide +kernel, by decide +kernel, by decide +kernel⟩, by decide⟩
theorem kX0_481 : CkV RX0 481 yX0_wanted fX0_wanted 1 := ⟨q2215, q1803, q1804, q96, q1805, ⟨by decide +kernel, by decide +kernel, by decide +kernel⟩, by decide⟩
theorem kX0_484 : CkS RX0 484 yX0_mixedRule fX0_mixedRule 2 := ⟨q2216, q2217, q96, q2218, ⟨by decide +kernel, by decide +kernel, by decide +kernel⟩, by decide⟩
theorem kX0_139 : CkV RX0 139 yX0_begins fX0_begins 0 := ⟨q482, q484, qs2, q96, q485, ⟨by decide +kernel, by decide +kernel, by decide +kernel⟩, by decide⟩
theorem kX0_440 : CkV RX0 440 yX0_draws fX0_draws 0 := ⟨q2179, q2181, qs41, q96, q2182, ⟨by decide +kernel, by decide +kernel, by decide +kernel⟩, by decide⟩
theorem kX0_188 : CkV RX0 188 yJ4_append_2 fJ4_append_2 1 := ⟨q1612, q1613, q1614, q104, q1615, ⟨by decide +kernel, by decide +kernel, by decide +kernel⟩, by decide⟩
theorem kX0_443 : CkS RX0 443 yX0_piece fX0_piece 1 := ⟨q2184, q2185, q96, q2186, ⟨by decide +kernel, by decide +kernel, by decide +kernel⟩, by decide⟩
theorem kX0_128 : CkI RX0 128 yX3_init fX3_init 2 := ⟨q269, q270, q102, q271, rfl, rfl, ⟨by decide +kernel, by decide +kernel, by decide +kernel⟩, by decide⟩
theorem kX0_7 : CkS RX0 7 yJ8_min fJ8_min 2 := ⟨q1572, q361, q108, q362, ⟨by decide +kernel, by decide +kernel, by decide +kernel⟩, by decide⟩
theorem kX0_24 : CkIN RX0 24 yX1_init fX1_init 0 := ⟨⟨_, q150⟩, q151, q97, q152, rfl, rfl, ⟨by decide +kernel, by decide +kernel, by decide +kernel⟩, by decide⟩
theorem kX0_31 : CkI RX0 31 yJ2_init fJ2_init 0 := ⟨q209, q157, q100, q158, rfl, rfl, ⟨by decide +kernel, by decide +kernel, by decide +kernel⟩, by decide⟩
theorem kX0_135 : CkV RX0 135 yX0_typed fX0_typed 0 := ⟨q262, q264, qs0, q96, q265, ⟨by decide +kernel, by decide +kernel, by decide +kernel⟩, by decide⟩
theorem kX0_142 : CkV RX0 142 yJ2_add_3 fJ2_add_3 2 := ⟨q580, q581, q582, q100, q583, ⟨by decide +kernel, by decide +kernel, by decide +kernel⟩, by decide⟩
theorem kX0_231 : CkV RX0 231 yX0_skips fX0_skips 0 := ⟨q1728, q1730, qs29, q96, q1731, ⟨by decide +kernel, by decide +kernel, by decide +kernel⟩, by decide⟩
theorem kX0_302 : CkV RX0 302 yX5_count fX5_count 1 := ⟨q1872, q1600, q1601, q115, q1602, ⟨by decide +kernel, by decide +kernel, by decide +kernel⟩, by decide⟩
theorem kX0_184 : CkV RX0 184 yX3_isBlank fX3_isBlank 0 := ⟨q1611, q1579, q1580, q102, q1581, ⟨by decide +kernel, by decide +kernel, by decide +kernel⟩, by decide⟩
theorem kX0_259 : CkV RX0 259 yX0_single fX0_single 4 := ⟨q1790, q1792, qs32, q96, q1793, ⟨by decide +kernel, by decide +kernel, by decide +kernel⟩, by decide⟩
theorem kX0_241 : CkS RX0 241 yX0_isRule fX0_isRule 2 := ⟨q1721, q1722, q96, q1723, ⟨by decide +kernel, by decide +kernel, by decide +kernel⟩, by decide⟩
theorem kX0_244 : CkV RX0 244 yX0_readText fX0_readText 0 := ⟨q1724, q1726, qs28, q96, q1727, ⟨by decide +kernel, by decide +kernel, by decide +kernel⟩, by decide⟩
theorem kX0_247 : CkV RX0 247 yX0_isOver fX0_isOver 0 := ⟨q1732, q1734, qs30, q96, q1735, ⟨by decide +kernel, by decide +kernel, by decide +kernel⟩, by decide⟩
theorem kX0_252 : CkIN RX0 252 yX7_init fX7_init 7 := ⟨⟨_, q1738⟩, q1739, q131, q1740, rfl, rfl, ⟨by decide +kernel, by decide +kernel, by decide +kernel⟩, by decide⟩
theorem kX0_255 : CkV RX0 255 yX0_lay fX0_lay 2 := ⟨q1782, q1784, qs31, q96, q1785, ⟨by decide +kernel, by decide +kernel, by decide +kernel⟩, by decide⟩
theorem kX0_222 : CkS RX0 222 yX0_isWordByte fX0_isWordByte 1 := ⟨q1716, q777, q96, q778, ⟨by decide +kernel, by decide +kernel, by decide +kernel⟩, by decide⟩
theorem kX0_131 : CkV RX0 131 yX0_cut fX0_cut 2 := ⟨q289, q291, qs1, q96, q292, ⟨by decide +kernel, by decide +kernel, by decide +kernel⟩, by decide⟩
theorem kX0_193 : CkV RX0 193 yX0_isRange fX0_isRange 2 := ⟨q1651, q1653, qs26, q96, q1654, ⟨by decide +kernel, by decide +kernel, by decide +kernel⟩, by decide⟩
theorem kX0_171 : CkS RX0 171 yX0_bare fX0_bare 1 := ⟨q650, q651, q96, q652, ⟨by decide +kernel, by decide +kernel, by decide +kernel⟩, by decide⟩
theorem kX0_308 : CkV RX0 308 yX5_get fX5_get 2 := ⟨q1881, q1604, q1605, q115, q1606, ⟨by decide +kernel, by decide +kernel, by decide +kernel⟩, by decide⟩
theorem kX0_399 : CkV RX0 399 yJ2_isEmpty fJ2_isEmpty 0 := ⟨q2159, q2160, q2161, q100, q2162, ⟨by decide +kernel, by decide +kernel, by decide +kernel⟩, by decide⟩
theorem kX0_391_J25 : CkU RX0 391 RJ25 "java/util/HashMap" ⟨"java/util/LinkedHashMap", "size", "()I"⟩ yJ14_size fJ14_size 0 := ⟨⟨q1976, q1977, q1979, q1980, q118, q1981⟩, Or.inl rfl, ⟨by decide +kernel, by decide +kernel, by decide +kernel⟩, by decide⟩
theorem kX0_83 : CkI RX0 83 yX5_init fX5_init 1 := ⟨q676, q677, q115, q678, rfl, rfl, ⟨by decide +kernel, by decide +kernel, by decide +kernel⟩, by decide⟩
theorem kX0_86 : CkI RX0 86 yX4_init fX4_init 1 := ⟨q1468, q1469, q114, q1470, rfl, rfl, ⟨by decide +kernel, by decide +kernel, by decide +kernel⟩, by decide⟩
theorem kX0_89 : CkV RX0 89 yX4_begin fX4_begin 2 := ⟨q1534, q1535, q1536, q114, q1537, ⟨by decide +kernel, by decide +kernel, by decide +kernel⟩, by decide⟩
theorem kX0_93 : CkV RX0 93 yX4_passTo fX4_passTo 1 := ⟨q1540, q1541, q1542, q114, q1543, ⟨by decide +kernel, by decide +kernel, by decide +kernel⟩, by decide⟩
theorem kX1_31 : CkI RX1 31 yX1_init fX1_init 0 := ⟨q504, q151, q97, q152, rfl, rfl, ⟨by decide +kernel, by decide +kernel, by decide +kernel⟩, by decide⟩
theorem kX1_32 : CkV RX1 32 yJ2_size fJ2_size 0 := ⟨q505, q259, q260, q100, q261, ⟨by decide +kernel, by decide +kernel, by decide +kernel⟩, by decide⟩
theorem kX1_36 : CkV RX1 36 yJ2_get fJ2_get 1 := ⟨q506, q507, q508, q100, q509, ⟨by decide +kernel, by decide +kernel, by decide +kernel⟩, by decide⟩
theorem kX1_42 : CkV RX1 42 yX3_copy fX3_copy 0 := ⟨q515, q516, q517, q102, q518, ⟨by decide +kernel, by decide +kernel, by decide +kernel⟩, by decide⟩
theorem kX1_46 : CkV RX1 46 yJ2_add fJ2_add 1 := ⟨q521, q522, q523, q100, q524, ⟨by decide +kernel, by decide +kernel, by decide +kernel⟩, by decide⟩
theorem kX1_11 : CkI RX1 11 yJ2_init fJ2_init 0 := ⟨q156, q157, q100, q158, rfl, rfl, ⟨by decide +kernel, by decide +kernel, by decide +kernel⟩, by decide⟩
theorem kX2_79 : CkS RX2 79 yX2_in fX2_in 3 := ⟨q2354, q2355, q101, q2356, ⟨by decide +kernel, by decide +kernel, by decide +kernel⟩, by decide⟩
theorem kX2_75 : CkV RX2 75 yX2_copies fX2_copies 2 := ⟨q2373, q2375, qs44, q101, q2376, ⟨by decide +kernel, by decide +kernel, by decide +kernel⟩, by decide⟩
theorem kX2_274 : CkV RX2 274 yX2_searches fX2_searches 0 := ⟨q2645, q2647, qs83, q101, q2648, ⟨by decide +kernel, by decide +kernel, by decide +kernel⟩, by decide⟩
theorem kX2_222 : CkV RX2 222 yX2_uses fX2_uses 2 := ⟨q2413, q2415, qs51, q101, q2416, ⟨by decide +kernel, by decide +kernel, by decide +kernel⟩, by decide⟩
theorem kX2_283 : CkV RX2 283 yX2_blockOf fX2_blockOf 2 := ⟨q2697, q2699, qs86, q101, q2700, ⟨by decide +kernel, by decide +kernel, by decide +kernel⟩, by decide⟩
theorem kX2_163 : CkV RX2 163 yX2_columnOf fX2_columnOf 1 := ⟨q2499, q2501, qs71, q101, q2502, ⟨by decide +kernel, by decide +kernel, by decide +kernel⟩, by decide⟩
theorem kX2_216 : CkV RX2 216 yX2_isLine fX2_isLine 1 := ⟨q2393, q2395, qs48, q101, q2396, ⟨by decide +kernel, by decide +kernel, by decide +kernel⟩, by decide⟩
theorem kX2_83 : CkV RX2 83 yX2_contentAt fX2_contentAt 2 := ⟨q2409, q2411, qs50, q101, q2412, ⟨by decide +kernel, by decide +kernel, by decide +kernel⟩, by decide⟩
theorem kX2_228 : CkV RX2 228 yX2_settles fX2_settles 2 := ⟨q2527, q2529, qs74, q101, q2530, ⟨by decide +kernel, by decide +kernel, by decide +kernel⟩, by decide⟩
theorem kX2_231 : CkS RX2 231 yX2_bits fX2_bits 1 := ⟨q2531, q2532, q101, q2533, ⟨by decide +kernel, by decide +kernel, by decide +kernel⟩, by decide⟩
theorem kX2_262 : CkV RX2 262 yX2_changesBy fX2_changesBy 2 := ⟨q2637, q2639, qs82, q101, q2640, ⟨by decide +kernel, by decide +kernel, by decide +kernel⟩, by decide⟩
theorem kX2_277 : CkV RX2 277 yX2_tokenOf fX2_tokenOf 2 := ⟨q2665, q2667, qs84, q101, q2668, ⟨by decide +kernel, by decide +kernel, by decide +kernel⟩, by decide⟩
theorem kX2_280 : CkV RX2 280 yX2_placeOf fX2_placeOf 1 := ⟨q2681, q2683, qs85, q101, q2684, ⟨by decide +kernel, by decide +kernel, by decide +kernel⟩, by decide⟩
theorem kX2_160 : CkV RX2 160 yX2_isAligned fX2_isAligned 1 := ⟨q2495, q2497, qs70, q101, q2498, ⟨by decide +kernel, by decide +kernel, by decide +kernel⟩, by decide⟩
theorem kX2_120 : CkV RX2 120 yX2_ruleAt fX2_ruleAt 2 := ⟨q2471, q2473, qs64, q101, q2474, ⟨by decide +kernel, by decide +kernel, by decide +kernel⟩, by decide⟩
theorem kX2_91 : CkS RX2 91 yX2_least fX2_least 2 := ⟨q2449, q2450, q101, q2451, ⟨by decide +kernel, by decide +kernel, by decide +kernel⟩, by decide⟩
theorem kX2_138 : CkV RX2 138 yX2_tokenizes fX2_tokenizes 0 := ⟨q2421, q2423, qs53, q101, q2424, ⟨by decide +kernel, by decide +kernel, by decide +kernel⟩, by decide⟩
theorem kX2_289 : CkV RX2 289 yX2_isFirst fX2_isFirst 1 := ⟨q2721, q2723, qs87, q101, q2724, ⟨by decide +kernel, by decide +kernel, by decide +kernel⟩, by decide⟩
theorem kX2_286 : CkV RX2 286 yX2_isSame fX2_isSame 2 := ⟨q2725, q2727, qs88, q101, q2728, ⟨by decide +kernel, by decide +kernel, by decide +kernel⟩, by decide⟩
theorem kX2_295 : CkV RX2 295 yX2_commonest fX2_commonest 0 := ⟨q2733, q2735, qs89, q101, q2736, ⟨by decide +kernel, by decide +kernel, by decide +kernel⟩, by decide⟩
theorem kX2_179 : CkV RX2 179 yX2_columnIn fX2_columnIn 1 := ⟨q2491, q2493, qs69, q101, q2494, ⟨by decide +kernel, by decide +kernel, by decide +kernel⟩, by decide⟩
theorem kX2_182 : CkV RX2 182 yX2_offers fX2_offers 4 := ⟨q2503, q2505, qs72, q101, q2506, ⟨by decide +kernel, by decide +kernel, by decide +kernel⟩, by decide⟩
theorem kX2_148 : CkV RX2 148 yX2_ruleFor fX2_ruleFor 2 := ⟨q2479, q2481, qs66, q101, q2482, ⟨by decide +kernel, by decide +kernel, by decide +kernel⟩, by decide⟩
theorem kX2_259 : CkV RX2 259 yX2_isDecided fX2_isDecided 1 := ⟨q2617, q2619, qs81, q101, q2620, ⟨by decide +kernel, by decide +kernel, by decide +kernel⟩, by decide⟩
theorem kX2_151 : CkV RX2 151 yX2_looks fX2_looks 0 := ⟨q2417, q2419, qs52, q101, q2420, ⟨by decide +kernel, by decide +kernel, by decide +kernel⟩, by decide⟩
theorem kX2_315 : CkV RX2 315 yX2_mixes fX2_mixes 1 := ⟨q2771, q2773, qs92, q101, q2774, ⟨by decide +kernel, by decide +kernel, by decide +kernel⟩, by decide⟩
theorem kX2_185 : CkV RX2 185 yX2_isFree fX2_isFree 1 := ⟨q2483, q2485, qs67, q101, q2486, ⟨by decide +kernel, by decide +kernel, by decide +kernel⟩, by decide⟩
theorem kX2_188 : CkV RX2 188 yX2_decides fX2_decides 1 := ⟨q2487, q2489, qs68, q101, q2490, ⟨by decide +kernel, by decide +kernel, by decide +kernel⟩, by decide⟩
theorem kX2_323 : CkV RX2 323 yX2_mixesRule fX2_mixesRule 1 := ⟨q2776, q2778, qs93, q101, q2779, ⟨by decide +kernel, by decide +kernel, by decide +kernel⟩, by decide⟩
theorem kX2_87 : CkV RX2 87 yX2_isTriple fX2_isTriple 2 := ⟨q2433, q2435, qs56, q101, q2436, ⟨by decide +kernel, by decide +kernel, by decide +kernel⟩, by decide⟩
theorem kX2_101 : CkV RX2 101 yX2_endOfLiteral fX2_endOfLiteral 2 := ⟨q2429, q2431, qs55, q101, q2432, ⟨by decide +kernel, by decide +kernel, by decide +kernel⟩, by decide⟩
theorem kX2_104 : CkV RX2 104 yX2_adds fX2_adds 4 := ⟨q2441, q2443, qs58, q101, q2444, ⟨by decide +kernel, by decide +kernel, by decide +kernel⟩, by decide⟩
theorem kX2_108 : CkV RX2 108 yX2_endOfString fX2_endOfString 2 := ⟨q2445, q2447, qs59, q101, q2448, ⟨by decide +kernel, by decide +kernel, by decide +kernel⟩, by decide⟩
theorem kX2_94 : CkS RX2 94 yX2_isWord fX2_isWord 1 := ⟨q2452, q2453, q101, q2454, ⟨by decide +kernel, by decide +kernel, by decide +kernel⟩, by decide⟩
theorem kX2_111 : CkV RX2 111 yX2_endOfWord fX2_endOfWord 2 := ⟨q2455, q2457, qs60, q101, q2458, ⟨by decide +kernel, by decide +kernel, by decide +kernel⟩, by decide⟩
theorem kX2_207 : CkV RX2 207 yX2_begins fX2_begins 0 := ⟨q2369, q2371, qs43, q101, q2372, ⟨by decide +kernel, by decide +kernel, by decide +kernel⟩, by decide⟩
theorem kX2_306 : CkV RX2 306 yX2_drawsLine fX2_drawsLine 0 := ⟨q2757, q2759, qs90, q101, q2760, ⟨by decide +kernel, by decide +kernel, by decide +kernel⟩, by decide⟩
theorem kX2_303 : CkV RX2 303 yX2_draws fX2_draws 0 := ⟨q2761, q2763, qs91, q101, q2764, ⟨by decide +kernel, by decide +kernel, by decide +kernel⟩, by decide⟩
theorem kX2_200 : CkV RX2 200 yX2_copiesLine fX2_copiesLine 2 := ⟨q2381, q2383, qs46, q101, q2384, ⟨by decide +kernel, by decide +kernel, by decide +kernel⟩, by decide⟩
theorem kX2_203 : CkV RX2 203 yX2_isLineText fX2_isLineText 0 := ⟨q2365, q2367, qs42, q101, q2368, ⟨by decide +kernel, by decide +kernel, by decide +kernel⟩, by decide⟩
theorem kX2_210 : CkV RX2 210 yX2_parts fX2_parts 1 := ⟨q2377, q2379, qs45, q101, q2380, ⟨by decide +kernel, by decide +kernel, by decide +kernel⟩, by decide⟩
theorem kX2_213 : CkV RX2 213 yX2_writes fX2_writes 1 := ⟨q2385, q2387, qs47, q101, q2388, ⟨by decide +kernel, by decide +kernel, by decide +kernel⟩, by decide⟩
theorem kX2_123 : CkV RX2 123 yX2_hasText fX2_hasText 3 := ⟨q2467, q2469, qs63, q101, q2470, ⟨by decide +kernel, by decide +kernel, by decide +kernel⟩, by decide⟩
theorem kX2_114 : CkV RX2 114 yX2_isBlank fX2_isBlank 1 := ⟨q2425, q2427, qs54, q101, q2428, ⟨by decide +kernel, by decide +kernel, by decide +kernel⟩, by decide⟩
theorem kX2_219 : CkV RX2 219 yX2_drops fX2_drops 1 := ⟨q2401, q2403, qs49, q101, q2404, ⟨by decide +kernel, by decide +kernel, by decide +kernel⟩, by decide⟩
theorem kX2_252 : CkS RX2 252 yX2_isRule fX2_isRule 2 := ⟨q2578, q2579, q101, q2580, ⟨by decide +kernel, by decide +kernel, by decide +kernel⟩, by decide⟩
theorem kX2_255 : CkV RX2 255 yX2_makes fX2_makes 6 := ⟨q2581, q2583, qs76, q101, q2584, ⟨by decide +kernel, by decide +kernel, by decide +kernel⟩, by decide⟩
theorem kX2_141 : CkV RX2 141 yX2_notes fX2_notes 1 := ⟨q2459, q2461, qs61, q101, q2462, ⟨by decide +kernel, by decide +kernel, by decide +kernel⟩, by decide⟩
theorem kX2_145 : CkV RX2 145 yX2_shuts fX2_shuts 1 := ⟨q2463, q2465, qs62, q101, q2466, ⟨by decide +kernel, by decide +kernel, by decide +kernel⟩, by decide⟩
theorem kX2_246 : CkV RX2 246 yX2_readsTexts fX2_readsTexts 1 := ⟨q2585, q2587, qs77, q101, q2588, ⟨by decide +kernel, by decide +kernel, by decide +kernel⟩, by decide⟩
theorem kX2_249 : CkV RX2 249 yX2_writesText fX2_writesText 2 := ⟨q2597, q2599, qs80, q101, q2600, ⟨by decide +kernel, by decide +kernel, by decide +kernel⟩, by decide⟩
theorem kX2_318 : CkV RX2 318 yX2_mixesText fX2_mixesText 1 := ⟨q2780, q2782, qs94, q101, q2783, ⟨by decide +kernel, by decide +kernel, by decide +kernel⟩, by decide⟩
theorem kX2_240 : CkV RX2 240 yX2_skips fX2_skips 0 := ⟨q2593, q2595, qs79, q101, q2596, ⟨by decide +kernel, by decide +kernel, by decide +kernel⟩, by decide⟩
theorem kX2_243 : CkV RX2 243 yX2_readsOne fX2_readsOne 1 := ⟨q2589, q2591, qs78, q101, q2592, ⟨by decide +kernel, by decide +kernel, by decide +kernel⟩, by decide⟩
theorem kX2_225 : CkV RX2 225 yX2_isRange fX2_isRange 2 := ⟨q2515, q2517, qs73, q101, q2518, ⟨by decide +kernel, by decide +kernel, by decide +kernel⟩, by decide⟩
theorem kX2_234 : CkV RX2 234 yX2_sets fX2_sets 2 := ⟨q2562, q2564, qs75, q101, q2565, ⟨by decide +kernel, by decide +kernel, by decide +kernel⟩, by decide⟩
theorem kX2_132 : CkV RX2 132 yX2_isClosingText fX2_isClosingText 1 := ⟨q2475, q2477, qs65, q101, q2478, ⟨by decide +kernel, by decide +kernel, by decide +kernel⟩, by decide⟩
theorem kX2_117 : CkV RX2 117 yX2_divides fX2_divides 2 := ⟨q2437, q2439, qs57, q101, q2440, ⟨by decide +kernel, by decide +kernel, by decide +kernel⟩, by decide⟩
theorem kX3_17 : CkI RX3 17 yX3_init fX3_init 2 := ⟨q520, q270, q102, q271, rfl, rfl, ⟨by decide +kernel, by decide +kernel, by decide +kernel⟩, by decide⟩
theorem kX3_24 : CkV RX3 24 yJ5_isEmpty fJ5_isEmpty 0 := ⟨q1582, q704, q705, q105, q706, ⟨by decide +kernel, by decide +kernel, by decide +kernel⟩, by decide⟩
theorem kX4_36 : CkV RX4 36 yJ2_size fJ2_size 0 := ⟨q1472, q259, q260, q100, q261, ⟨by decide +kernel, by decide +kernel, by decide +kernel⟩, by decide⟩
theorem kX4_73 : CkV RX4 73 yJ2_get fJ2_get 1 := ⟨q1538, q507, q508, q100, q509, ⟨by decide +kernel, by decide +kernel, by decide +kernel⟩, by decide⟩
theorem kX4_91 : CkV RX4 91 yX4_ruleOf fX4_ruleOf 1 := ⟨q1553, q1555, qs21, q114, q1556, ⟨by decide +kernel, by decide +kernel, by decide +kernel⟩, by decide⟩
theorem kX4_99 : CkV RX4 99 yX7_closesBy fX7_closesBy 1 := ⟨q1557, q1558, q1559, q131, q1560, ⟨by decide +kernel, by decide +kernel, by decide +kernel⟩, by decide⟩
theorem kX4_127 : CkV RX4 127 yX4_closes fX4_closes 2 := ⟨q1549, q1551, qs20, q114, q1552, ⟨by decide +kernel, by decide +kernel, by decide +kernel⟩, by decide⟩
theorem kX4_134 : CkS RX4 134 yX4_opens fX4_opens 2 := ⟨q1562, q1563, q114, q1564, ⟨by decide +kernel, by decide +kernel, by decide +kernel⟩, by decide⟩
theorem kX4_148 : CkV RX4 148 yX4_isAligned fX4_isAligned 1 := ⟨q1587, q1589, qs23, q114, q1590, ⟨by decide +kernel, by decide +kernel, by decide +kernel⟩, by decide⟩
theorem kX4_158 : CkV RX4 158 yX4_closing fX4_closing 1 := ⟨q1591, q1593, qs24, q114, q1594, ⟨by decide +kernel, by decide +kernel, by decide +kernel⟩, by decide⟩
theorem kX4_161 : CkV RX4 161 yX4_take fX4_take 3 := ⟨q1595, q1597, qs25, q114, q1598, ⟨by decide +kernel, by decide +kernel, by decide +kernel⟩, by decide⟩
theorem kX4_165 : CkV RX4 165 yX5_count fX5_count 1 := ⟨q1599, q1600, q1601, q115, q1602, ⟨by decide +kernel, by decide +kernel, by decide +kernel⟩, by decide⟩
theorem kX4_168 : CkV RX4 168 yX5_get fX5_get 2 := ⟨q1603, q1604, q1605, q115, q1606, ⟨by decide +kernel, by decide +kernel, by decide +kernel⟩, by decide⟩
theorem kX4_123 : CkSN RX4 123 yX0_held fX0_held 1 := ⟨⟨_, q1569⟩, q1570, q96, q1571, ⟨by decide +kernel, by decide +kernel, by decide +kernel⟩, by decide⟩
theorem kX4_179 : CkV RX4 179 yX3_isBlank fX3_isBlank 0 := ⟨q1578, q1579, q1580, q102, q1581, ⟨by decide +kernel, by decide +kernel, by decide +kernel⟩, by decide⟩
theorem kX4_138 : CkV RX4 138 yX4_push fX4_push 1 := ⟨q1565, q1567, qs22, q114, q1568, ⟨by decide +kernel, by decide +kernel, by decide +kernel⟩, by decide⟩
theorem kX4_142 : CkV RX4 142 yX4_pass fX4_pass 1 := ⟨q1544, q1546, qs19, q114, q1547, ⟨by decide +kernel, by decide +kernel, by decide +kernel⟩, by decide⟩
theorem kX4_187 : CkV RX4 187 yX4_passTo fX4_passTo 1 := ⟨q1667, q1541, q1542, q114, q1543, ⟨by decide +kernel, by decide +kernel, by decide +kernel⟩, by decide⟩
theorem kX4_190 : CkV RX4 190 yX4_isDecided fX4_isDecided 1 := ⟨q1668, q1575, q1576, q114, q1577, ⟨by decide +kernel, by decide +kernel, by decide +kernel⟩, by decide⟩
theorem kX4_196 : CkV RX4 196 yX4_decide fX4_decide 1 := ⟨q1669, q1584, q1585, q114, q1586, ⟨by decide +kernel, by decide +kernel, by decide +kernel⟩, by decide⟩
theorem kX5_118 : CkV RX5 118 yJ5_isEmpty fJ5_isEmpty 0 := ⟨q703, q704, q705, q105, q706, ⟨by decide +kernel, by decide +kernel, by decide +kernel⟩, by decide⟩
theorem kX5_122 : CkV RX5 122 yX5_literalEnd fX5_literalEnd 2 := ⟨q707, q709, qs14, q115, q710, ⟨by decide +kernel, by decide +kernel, by decide +kernel⟩, by decide⟩
theorem kX5_93 : CkV RX5 93 yJ5_length fJ5_length 0 := ⟨q711, q610, q611, q105, q612, ⟨by decide +kernel, by decide +kernel, by decide +kernel⟩, by decide⟩
theorem kX5_96 : CkV RX5 96 yJ5_charAt fJ5_charAt 1 := ⟨q715, q654, q655, q105, q656, ⟨by decide +kernel, by decide +kernel, by decide +kernel⟩, by decide⟩
theorem kX5_100 : CkS RX5 100 yX5_isLiteral fX5_isLiteral 2 := ⟨q712, q713, q115, q714, ⟨by decide +kernel, by decide +kernel, by decide +kernel⟩, by decide⟩
theorem kX5_129 : CkI RX5 129 yX6_init fX6_init 6 := ⟨q718, q719, q116, q720, rfl, rfl, ⟨by decide +kernel, by decide +kernel, by decide +kernel⟩, by decide⟩
theorem kX5_88 : CkV RX5 88 yJ2_add fJ2_add 1 := ⟨q697, q522, q523, q100, q524, ⟨by decide +kernel, by decide +kernel, by decide +kernel⟩, by decide⟩
theorem kX5_132 : CkS RX5 132 yX5_stringEnd fX5_stringEnd 2 := ⟨q772, q773, q115, q774, ⟨by decide +kernel, by decide +kernel, by decide +kernel⟩, by decide⟩
theorem kX5_114 : CkSN RX5 114 yX0_isWordByte fX0_isWordByte 1 := ⟨⟨_, q776⟩, q777, q96, q778, ⟨by decide +kernel, by decide +kernel, by decide +kernel⟩, by decide⟩
theorem kX5_135 : CkS RX5 135 yX5_wordEnd fX5_wordEnd 2 := ⟨q779, q780, q115, q781, ⟨by decide +kernel, by decide +kernel, by decide +kernel⟩, by decide⟩
theorem kX5_138 : CkV RX5 138 yJ5_substring fJ5_substring 2 := ⟨q782, q618, q619, q105, q620, ⟨by decide +kernel, by decide +kernel, by decide +kernel⟩, by decide⟩
theorem kX5_45 : CkV RX5 45 yX5_wordOf fX5_wordOf 1 := ⟨q682, q684, qs12, q115, q685, ⟨by decide +kernel, by decide +kernel, by decide +kernel⟩, by decide⟩
theorem kX5_144 : CkI RX5 144 yJ14_init fJ14_init 0 := ⟨q789, q790, q118, q791, rfl, rfl, ⟨by decide +kernel, by decide +kernel, by decide +kernel⟩, by decide⟩
theorem kX5_147 : CkI RX5 147 yJ16_init fJ16_init 0 := ⟨q831, q832, q120, q833, rfl, rfl, ⟨by decide +kernel, by decide +kernel, by decide +kernel⟩, by decide⟩
theorem kX5_148 : CkV RX5 148 yX5_use fX5_use 2 := ⟨q844, q846, qs16, q115, q847, ⟨by decide +kernel, by decide +kernel, by decide +kernel⟩, by decide⟩
theorem kX5_152 : CkS RX5 152 yJ18_valueOf fJ18_valueOf 1 := ⟨q851, q852, q122, q853, ⟨by decide +kernel, by decide +kernel, by decide +kernel⟩, by decide⟩
theorem kX5_158 : CkV RX5 158 yJ16_add fJ16_add 1 := ⟨q1420, q1421, q1422, q120, q1423, ⟨by decide +kernel, by decide +kernel, by decide +kernel⟩, by decide⟩
theorem kX5_56 : CkV RX5 56 yJ2_size fJ2_size 0 := ⟨q686, q259, q260, q100, q261, ⟨by decide +kernel, by decide +kernel, by decide +kernel⟩, by decide⟩
theorem kX5_66 : CkV RX5 66 yJ2_get fJ2_get 1 := ⟨q687, q507, q508, q100, q509, ⟨by decide +kernel, by decide +kernel, by decide +kernel⟩, by decide⟩
theorem kX5_162 : CkSN RX5 162 yX0_isIn fX0_isIn 3 := ⟨⟨_, q1427⟩, q248, q96, q249, ⟨by decide +kernel, by decide +kernel, by decide +kernel⟩, by decide⟩
theorem kX5_166 : CkS RX5 166 yX5_numberOf fX5_numberOf 2 := ⟨q848, q849, q115, q850, ⟨by decide +kernel, by decide +kernel, by decide +kernel⟩, by decide⟩
theorem kX5_179 : CkV RX5 179 yJ16_contains fJ16_contains 1 := ⟨q1428, q1429, q1430, q120, q1431, ⟨by decide +kernel, by decide +kernel, by decide +kernel⟩, by decide⟩
theorem kX5_11 : CkI RX5 11 yJ2_init fJ2_init 0 := ⟨q681, q157, q100, q158, rfl, rfl, ⟨by decide +kernel, by decide +kernel, by decide +kernel⟩, by decide⟩
theorem kX5_75 : CkV RX5 75 yX5_divide fX5_divide 2 := ⟨q699, q701, qs13, q115, q702, ⟨by decide +kernel, by decide +kernel, by decide +kernel⟩, by decide⟩
theorem kX5_79 : CkV RX5 79 yX5_findRules fX5_findRules 0 := ⟨q783, q785, qs15, q115, q786, ⟨by decide +kernel, by decide +kernel, by decide +kernel⟩, by decide⟩
theorem kX5_192 : CkV RX5 192 yJ14_get fJ14_get 1 := ⟨q871, q872, q873, q118, q1209, ⟨by decide +kernel, by decide +kernel, by decide +kernel⟩, by decide⟩
theorem kX5_192_J25 : CkU RX5 192 RJ25 "java/util/HashMap" ⟨"java/util/HashMap", "get", "(Ljava/lang/Object;)Ljava/lang/Object;"⟩ yJ25_get fJ25_get 1 := ⟨⟨q871, q874, q875, q876, q133, q877⟩, Or.inr (Or.inl ⟨q872, _, _, _, q1209⟩), ⟨by decide +kernel, by decide +kernel, by decide +kernel⟩, by decide⟩
theorem kX5_195 : CkV RX5 195 yJ18_intValue fJ18_intValue 0 := ⟨q1212, q978, q979, q122, q980, ⟨by decide +kernel, by decide +kernel, by decide +kernel⟩, by decide⟩
theorem kX5_108 : CkS RX5 108 yJ8_min fJ8_min 2 := ⟨q775, q361, q108, q362, ⟨by decide +kernel, by decide +kernel, by decide +kernel⟩, by decide⟩
theorem kX5_188 : CkV RX5 188 yJ14_put fJ14_put 2 := ⟨q1213, q1214, q1215, q118, q1218, ⟨by decide +kernel, by decide +kernel, by decide +kernel⟩, by decide⟩
theorem kX5_188_J25 : CkU RX5 188 RJ25 "java/util/HashMap" ⟨"java/util/HashMap", "put", "(Ljava/lang/Object;Ljava/lang/Object;)Ljava/lang/Object;"⟩ yJ14_put fJ14_put 2 := ⟨⟨q1213, q1216, q1217, q1214, q118, q1218⟩, Or.inl rfl, ⟨by decide +kernel, by decide +kernel, by decide +kernel⟩, by decide⟩
theorem kX5_84 : CkV RX5 84 yJ5_equals fJ5_equals 1 := ⟨q689, q690, q691, q105, q692, ⟨by decide +kernel, by decide +kernel, by decide +kernel⟩, by decide⟩
theorem kX7_34 : CkV RX7 34 yJ5_equals fJ5_equals 1 := ⟨q1561, q690, q691, q105, q692, ⟨by decide +kernel, by decide +kernel, by decide +kernel⟩, by decide⟩
theorem kX7_3 : CkI RX7 3 yJ24_init fJ24_init 0 := ⟨q1741, q1742, q130, q1743, rfl, rfl, ⟨by decide +kernel, by decide +kernel, by decide +kernel⟩, by decide⟩
section GH
variable {X : gCx} {fi : gFi} {d pc : Nat} {L : List (Option AV)} {st : List AV} {hp : gHp} {Q : Option AV → gHp → Prop}
theorem gs_V0 {y : MethodName} {cf : gFi} {d' idx : Nat} {b : Nat} {lb ci N : Nat} {fs : List AV} {T : u_T} {rest : List AV} {Q1 : AV → gHp → Prop} (hd : decode fi.2.1 pc = .ok (.invokevirtual idx, 3)) (ck : CkV fi.1 idx y cf 0) (hb : gl X hp b = some (lb, .inr (ci, fs))) (hcl : gCl[ci]? = some (y.cls, T, N)) (hdd : d' + 1 ≤ d) (hrest : (rest.map ct).sum ≤ 8) (hM : MV X y cf d' [vR (some b)] hp Q1) (k : ∀ v hp1, Q1 v hp1 → G X fi d (pc + 3) L (v :: rest) hp1 Q) : G X fi d pc L (vR (some b) :: rest) hp Q :=
  gs_callV (As := []) hd ck hb hcl rfl hdd hrest hM (fun r hp1 ⟨v, e, h⟩ => by subst e; exact k v hp1 h)
theorem gs_V0v {y : MethodName} {cf : gFi} {d' idx : Nat} {b : Nat} {lb ci N : Nat} {fs : List AV} {T : u_T} {rest : List AV} {Q1 : gHp → Prop} (hd : decode fi.2.1 pc = .ok (.invokevirtual idx, 3)) (ck : CkV fi.1 idx y cf 0) (hb : gl X hp b = some (lb, .inr (ci, fs))) (hcl : gCl[ci]? = some (y.cls, T, N)) (hdd : d' + 1 ≤ d) (hrest : (rest.map ct).sum ≤ 8) (hM : M0 X y cf d' [vR (some b)] hp Q1) (k : ∀ hp1, Q1 hp1 → G X fi d (pc + 3) L rest hp1 Q) : G X fi d pc L (vR (some b) :: rest) hp Q :=
  gs_callV (As := []) hd ck hb hcl rfl hdd hrest hM (fun r hp1 ⟨e, h⟩ => by subst e; exact k hp1 h)
theorem gs_V1 {y : MethodName} {cf : gFi} {d' idx : Nat} {b : Nat} {x1 : AV} {lb ci N : Nat} {fs : List AV} {T : u_T} {rest : List AV} {Q1 : AV → gHp → Prop} (hd : decode fi.2.1 pc = .ok (.invokevirtual idx, 3)) (ck : CkV fi.1 idx y cf 1) (hb : gl X hp b = some (lb, .inr (ci, fs))) (hcl : gCl[ci]? = some (y.cls, T, N)) (hdd : d' + 1 ≤ d) (hrest : (rest.map ct).sum ≤ 8) (hM : MV X y cf d' [vR (some b), x1] hp Q1) (k : ∀ v hp1, Q1 v hp1 → G X fi d (pc + 3) L (v :: rest) hp1 Q) : G X fi d pc L (x1 :: vR (some b) :: rest) hp Q :=
  gs_callV (As := [x1]) hd ck hb hcl rfl hdd hrest hM (fun r hp1 ⟨v, e, h⟩ => by subst e; exact k v hp1 h)
theorem gs_V1v {y : MethodName} {cf : gFi} {d' idx : Nat} {b : Nat} {x1 : AV} {lb ci N : Nat} {fs : List AV} {T : u_T} {rest : List AV} {Q1 : gHp → Prop} (hd : decode fi.2.1 pc = .ok (.invokevirtual idx, 3)) (ck : CkV fi.1 idx y cf 1) (hb : gl X hp b = some (lb, .inr (ci, fs))) (hcl : gCl[ci]? = some (y.cls, T, N)) (hdd : d' + 1 ≤ d) (hrest : (rest.map ct).sum ≤ 8) (hM : M0 X y cf d' [vR (some b), x1] hp Q1) (k : ∀ hp1, Q1 hp1 → G X fi d (pc + 3) L rest hp1 Q) : G X fi d pc L (x1 :: vR (some b) :: rest) hp Q :=
  gs_callV (As := [x1]) hd ck hb hcl rfl hdd hrest hM (fun r hp1 ⟨e, h⟩ => by subst e; exact k hp1 h)
theorem gs_V2 {y : MethodName} {cf : gFi} {d' idx : Nat} {b : Nat} {x1 x2 : AV} {lb ci N : Nat} {fs : List AV} {T : u_T} {rest : List AV} {Q1 : AV → gHp → Prop} (hd : decode fi.2.1 pc = .ok (.invokevirtual idx, 3)) (ck : CkV fi.1 idx y cf 2) (hb : gl X hp b = some (lb, .inr (ci, fs))) (hcl : gCl[ci]? = some (y.cls, T, N)) (hdd : d' + 1 ≤ d) (hrest : (rest.map ct).sum ≤ 8) (hM : MV X y cf d' [vR (some b), x1, x2] hp Q1) (k : ∀ v hp1, Q1 v hp1 → G X fi d (pc + 3) L (v :: rest) hp1 Q) : G X fi d pc L (x2 :: x1 :: vR (some b) :: rest) hp Q :=
  gs_callV (As := [x1, x2]) hd ck hb hcl rfl hdd hrest hM (fun r hp1 ⟨v, e, h⟩ => by subst e; exact k v hp1 h)
theorem gs_V2v {y : MethodName} {cf : gFi} {d' idx : Nat} {b : Nat} {x1 x2 : AV} {lb ci N : Nat} {fs : List AV} {T : u_T} {rest : List AV} {Q1 : gHp → Prop} (hd : decode fi.2.1 pc = .ok (.invokevirtual idx, 3)) (ck : CkV fi.1 idx y cf 2) (hb : gl X hp b = some (lb, .inr (ci, fs))) (hcl : gCl[ci]? = some (y.cls, T, N)) (hdd : d' + 1 ≤ d) (hrest : (rest.map ct).sum ≤ 8) (hM : M0 X y cf d' [vR (some b), x1, x2] hp Q1) (k : ∀ hp1, Q1 hp1 → G X fi d (pc + 3) L rest hp1 Q) : G X fi d pc L (x2 :: x1 :: vR (some b) :: rest) hp Q :=
  gs_callV (As := [x1, x2]) hd ck hb hcl rfl hdd hrest hM (fun r hp1 ⟨e, h⟩ => by subst e; exact k hp1 h)
theorem gs_V3 {y : MethodName} {cf : gFi} {d' idx : Nat} {b : Nat} {x1 x2 x3 : AV} {lb ci N : Nat} {fs : List AV} {T : u_T} {rest : List AV} {Q1 : AV → gHp → Prop} (hd : decode fi.2.1 pc = .ok (.invokevirtual idx, 3)) (ck : CkV fi.1 idx y cf 3) (hb : gl X hp b = some (lb, .inr (ci, fs))) (hcl : gCl[ci]? = some (y.cls, T, N)) (hdd : d' + 1 ≤ d) (hrest : (rest.map ct).sum ≤ 8) (hM : MV X y cf d' [vR (some b), x1, x2, x3] hp Q1) (k : ∀ v hp1, Q1 v hp1 → G X fi d (pc + 3) L (v :: rest) hp1 Q) : G X fi d pc L (x3 :: x2 :: x1 :: vR (some b) :: rest) hp Q :=
  gs_callV (As := [x1, x2, x3]) hd ck hb hcl rfl hdd hrest hM (fun r hp1 ⟨v, e, h⟩ => by subst e; exact k v hp1 h)
theorem gs_V3v {y : MethodName} {cf : gFi} {d' idx : Nat} {b : Nat} {x1 x2 x3 : AV} {lb ci N : Nat} {fs : List AV} {T : u_T} {rest : List AV} {Q1 : gHp → Prop} (hd : decode fi.2.1 pc = .ok (.invokevirtual idx, 3)) (ck : CkV fi.1 idx y cf 3) (hb : gl X hp b = some (lb, .inr (ci, fs))) (hcl : gCl[ci]? = some (y.cls, T, N)) (hdd : d' + 1 ≤ d) (hrest : (rest.map ct).sum ≤ 8) (hM : M0 X y cf d' [vR (some b), x1, x2, x3] hp Q1) (k : ∀ hp1, Q1 hp1 → G X fi d (pc + 3) L rest hp1 Q) : G X fi d pc L (x3 :: x2 :: x1 :: vR (some b) :: rest) hp Q :=
  gs_callV (As := [x1, x2, x3]) hd ck hb hcl rfl hdd hrest hM (fun r hp1 ⟨e, h⟩ => by subst e; exact k hp1 h)
theorem gs_V4 {y : MethodName} {cf : gFi} {d' idx : Nat} {b : Nat} {x1 x2 x3 x4 : AV} {lb ci N : Nat} {fs : List AV} {T : u_T} {rest : List AV} {Q1 : AV → gHp → Prop} (hd : decode fi.2.1 pc = .ok (.invokevirtual idx, 3)) (ck : CkV fi.1 idx y cf 4) (hb : gl X hp b = some (lb, .inr (ci, fs))) (hcl : gCl[ci]? = some (y.cls, T, N)) (hdd : d' + 1 ≤ d) (hrest : (rest.map ct).sum ≤ 8) (hM : MV X y cf d' [vR (some b), x1, x2, x3, x4] hp Q1) (k : ∀ v hp1, Q1 v hp1 → G X fi d (pc + 3) L (v :: rest) hp1 Q) : G X fi d pc L (x4 :: x3 :: x2 :: x1 :: vR (some b) :: rest) hp Q :=
  gs_callV (As := [x1, x2, x3, x4]) hd ck hb hcl rfl hdd hrest hM (fun r hp1 ⟨v, e, h⟩ => by subst e; exact k v hp1 h)
theorem gs_V4v {y : MethodName} {cf : gFi} {d' idx : Nat} {b : Nat} {x1 x2 x3 x4 : AV} {lb ci N : Nat} {fs : List AV} {T : u_T} {rest : List AV} {Q1 : gHp → Prop} (hd : decode fi.2.1 pc = .ok (.invokevirtual idx, 3)) (ck : CkV fi.1 idx y cf 4) (hb : gl X hp b = some (lb, .inr (ci, fs))) (hcl : gCl[ci]? = some (y.cls, T, N)) (hdd : d' + 1 ≤ d) (hrest : (rest.map ct).sum ≤ 8) (hM : M0 X y cf d' [vR (some b), x1, x2, x3, x4] hp Q1) (k : ∀ hp1, Q1 hp1 → G X fi d (pc + 3) L rest hp1 Q) : G X fi d pc L (x4 :: x3 :: x2 :: x1 :: vR (some b) :: rest) hp Q :=
  gs_callV (As := [x1, x2, x3, x4]) hd ck hb hcl rfl hdd hrest hM (fun r hp1 ⟨e, h⟩ => by subst e; exact k hp1 h)
theorem gs_V5 {y : MethodName} {cf : gFi} {d' idx : Nat} {b : Nat} {x1 x2 x3 x4 x5 : AV} {lb ci N : Nat} {fs : List AV} {T : u_T} {rest : List AV} {Q1 : AV → gHp → Prop} (hd : decode fi.2.1 pc = .ok (.invokevirtual idx, 3)) (ck : CkV fi.1 idx y cf 5) (hb : gl X hp b = some (lb, .inr (ci, fs))) (hcl : gCl[ci]? = some (y.cls, T, N)) (hdd : d' + 1 ≤ d) (hrest : (rest.map ct).sum ≤ 8) (hM : MV X y cf d' [vR (some b), x1, x2, x3, x4, x5] hp Q1) (k : ∀ v hp1, Q1 v hp1 → G X fi d (pc + 3) L (v :: rest) hp1 Q) : G X fi d pc L (x5 :: x4 :: x3 :: x2 :: x1 :: vR (some b) :: rest) hp Q :=
  gs_callV (As := [x1, x2, x3, x4, x5]) hd ck hb hcl rfl hdd hrest hM (fun r hp1 ⟨v, e, h⟩ => by subst e; exact k v hp1 h)
theorem gs_V5v {y : MethodName} {cf : gFi} {d' idx : Nat} {b : Nat} {x1 x2 x3 x4 x5 : AV} {lb ci N : Nat} {fs : List AV} {T : u_T} {rest : List AV} {Q1 : gHp → Prop} (hd : decode fi.2.1 pc = .ok (.invokevirtual idx, 3)) (ck : CkV fi.1 idx y cf 5) (hb : gl X hp b = some (lb, .inr (ci, fs))) (hcl : gCl[ci]? = some (y.cls, T, N)) (hdd : d' + 1 ≤ d) (hrest : (rest.map ct).sum ≤ 8) (hM : M0 X y cf d' [vR (some b), x1, x2, x3, x4, x5] hp Q1) (k : ∀ hp1, Q1 hp1 → G X fi d (pc + 3) L rest hp1 Q) : G X fi d pc L (x5 :: x4 :: x3 :: x2 :: x1 :: vR (some b) :: rest) hp Q :=
  gs_callV (As := [x1, x2, x3, x4, x5]) hd ck hb hcl rfl hdd hrest hM (fun r hp1 ⟨e, h⟩ => by subst e; exact k hp1 h)
theorem gs_V6 {y : MethodName} {cf : gFi} {d' idx : Nat} {b : Nat} {x1 x2 x3 x4 x5 x6 : AV} {lb ci N : Nat} {fs : List AV} {T : u_T} {rest : List AV} {Q1 : AV → gHp → Prop} (hd : decode fi.2.1 pc = .ok (.invokevirtual idx, 3)) (ck : CkV fi.1 idx y cf 6) (hb : gl X hp b = some (lb, .inr (ci, fs))) (hcl : gCl[ci]? = some (y.cls, T, N)) (hdd : d' + 1 ≤ d) (hrest : (rest.map ct).sum ≤ 8) (hM : MV X y cf d' [vR (some b), x1, x2, x3, x4, x5, x6] hp Q1) (k : ∀ v hp1, Q1 v hp1 → G X fi d (pc + 3) L (v :: rest) hp1 Q) : G X fi d pc L (x6 :: x5 :: x4 :: x3 :: x2 :: x1 :: vR (some b) :: rest) hp Q :=
  gs_callV (As := [x1, x2, x3, x4, x5, x6]) hd ck hb hcl rfl hdd hrest hM (fun r hp1 ⟨v, e, h⟩ => by subst e; exact k v hp1 h)
theorem gs_V6v {y : MethodName} {cf : gFi} {d' idx : Nat} {b : Nat} {x1 x2 x3 x4 x5 x6 : AV} {lb ci N : Nat} {fs : List AV} {T : u_T} {rest : List AV} {Q1 : gHp → Prop} (hd : decode fi.2.1 pc = .ok (.invokevirtual idx, 3)) (ck : CkV fi.1 idx y cf 6) (hb : gl X hp b = some (lb, .inr (ci, fs))) (hcl : gCl[ci]? = some (y.cls, T, N)) (hdd : d' + 1 ≤ d) (hrest : (rest.map ct).sum ≤ 8) (hM : M0 X y cf d' [vR (some b), x1, x2, x3, x4, x5, x6] hp Q1) (k : ∀ hp1, Q1 hp1 → G X fi d (pc + 3) L rest hp1 Q) : G X fi d pc L (x6 :: x5 :: x4 :: x3 :: x2 :: x1 :: vR (some b) :: rest) hp Q :=
  gs_callV (As := [x1, x2, x3, x4, x5, x6]) hd ck hb hcl rfl hdd hrest hM (fun r hp1 ⟨e, h⟩ => by subst e; exact k hp1 h)
theorem gs_S0 {y : MethodName} {cf : gFi} {d' idx : Nat} {rest : List AV} {Q1 : AV → gHp → Prop} (hd : decode fi.2.1 pc = .ok (.invokestatic idx, 3)) (ck : CkS fi.1 idx y cf 0) (hdd : d' + 1 ≤ d) (hrest : (rest.map ct).sum ≤ 8) (hM : MV X y cf d' [] hp Q1) (k : ∀ v hp1, Q1 v hp1 → G X fi d (pc + 3) L (v :: rest) hp1 Q) : G X fi d pc L (rest) hp Q :=
  gs_callS (As := []) hd ck rfl hdd hrest hM (fun r hp1 ⟨v, e, h⟩ => by subst e; exact k v hp1 h)
theorem gs_S0v {y : MethodName} {cf : gFi} {d' idx : Nat} {rest : List AV} {Q1 : gHp → Prop} (hd : decode fi.2.1 pc = .ok (.invokestatic idx, 3)) (ck : CkS fi.1 idx y cf 0) (hdd : d' + 1 ≤ d) (hrest : (rest.map ct).sum ≤ 8) (hM : M0 X y cf d' [] hp Q1) (k : ∀ hp1, Q1 hp1 → G X fi d (pc + 3) L rest hp1 Q) : G X fi d pc L (rest) hp Q :=
  gs_callS (As := []) hd ck rfl hdd hrest hM (fun r hp1 ⟨e, h⟩ => by subst e; exact k hp1 h)
theorem gs_S1 {y : MethodName} {cf : gFi} {d' idx : Nat} {x1 : AV} {rest : List AV} {Q1 : AV → gHp → Prop} (hd : decode fi.2.1 pc = .ok (.invokestatic idx, 3)) (ck : CkS fi.1 idx y cf 1) (hdd : d' + 1 ≤ d) (hrest : (rest.map ct).sum ≤ 8) (hM : MV X y cf d' [x1] hp Q1) (k : ∀ v hp1, Q1 v hp1 → G X fi d (pc + 3) L (v :: rest) hp1 Q) : G X fi d pc L (x1 :: rest) hp Q :=
  gs_callS (As := [x1]) hd ck rfl hdd hrest hM (fun r hp1 ⟨v, e, h⟩ => by subst e; exact k v hp1 h)
theorem gs_S1v {y : MethodName} {cf : gFi} {d' idx : Nat} {x1 : AV} {rest : List AV} {Q1 : gHp → Prop} (hd : decode fi.2.1 pc = .ok (.invokestatic idx, 3)) (ck : CkS fi.1 idx y cf 1) (hdd : d' + 1 ≤ d) (hrest : (rest.map ct).sum ≤ 8) (hM : M0 X y cf d' [x1] hp Q1) (k : ∀ hp1, Q1 hp1 → G X fi d (pc + 3) L rest hp1 Q) : G X fi d pc L (x1 :: rest) hp Q :=
  gs_callS (As := [x1]) hd ck rfl hdd hrest hM (fun r hp1 ⟨e, h⟩ => by subst e; exact k hp1 h)
theorem gs_S2 {y : MethodName} {cf : gFi} {d' idx : Nat} {x1 x2 : AV} {rest : List AV} {Q1 : AV → gHp → Prop} (hd : decode fi.2.1 pc = .ok (.invokestatic idx, 3)) (ck : CkS fi.1 idx y cf 2) (hdd : d' + 1 ≤ d) (hrest : (rest.map ct).sum ≤ 8) (hM : MV X y cf d' [x1, x2] hp Q1) (k : ∀ v hp1, Q1 v hp1 → G X fi d (pc + 3) L (v :: rest) hp1 Q) : G X fi d pc L (x2 :: x1 :: rest) hp Q :=
  gs_callS (As := [x1, x2]) hd ck rfl hdd hrest hM (fun r hp1 ⟨v, e, h⟩ => by subst e; exact k v hp1 h)
theorem gs_S2v {y : MethodName} {cf : gFi} {d' idx : Nat} {x1 x2 : AV} {rest : List AV} {Q1 : gHp → Prop} (hd : decode fi.2.1 pc = .ok (.invokestatic idx, 3)) (ck : CkS fi.1 idx y cf 2) (hdd : d' + 1 ≤ d) (hrest : (rest.map ct).sum ≤ 8) (hM : M0 X y cf d' [x1, x2] hp Q1) (k : ∀ hp1, Q1 hp1 → G X fi d (pc + 3) L rest hp1 Q) : G X fi d pc L (x2 :: x1 :: rest) hp Q :=
  gs_callS (As := [x1, x2]) hd ck rfl hdd hrest hM (fun r hp1 ⟨e, h⟩ => by subst e; exact k hp1 h)
theorem gs_S3 {y : MethodName} {cf : gFi} {d' idx : Nat} {x1 x2 x3 : AV} {rest : List AV} {Q1 : AV → gHp → Prop} (hd : decode fi.2.1 pc = .ok (.invokestatic idx, 3)) (ck : CkS fi.1 idx y cf 3) (hdd : d' + 1 ≤ d) (hrest : (rest.map ct).sum ≤ 8) (hM : MV X y cf d' [x1, x2, x3] hp Q1) (k : ∀ v hp1, Q1 v hp1 → G X fi d (pc + 3) L (v :: rest) hp1 Q) : G X fi d pc L (x3 :: x2 :: x1 :: rest) hp Q :=
  gs_callS (As := [x1, x2, x3]) hd ck rfl hdd hrest hM (fun r hp1 ⟨v, e, h⟩ => by subst e; exact k v hp1 h)
theorem gs_S3v {y : MethodName} {cf : gFi} {d' idx : Nat} {x1 x2 x3 : AV} {rest : List AV} {Q1 : gHp → Prop} (hd : decode fi.2.1 pc = .ok (.invokestatic idx, 3)) (ck : CkS fi.1 idx y cf 3) (hdd : d' + 1 ≤ d) (hrest : (rest.map ct).sum ≤ 8) (hM : M0 X y cf d' [x1, x2, x3] hp Q1) (k : ∀ hp1, Q1 hp1 → G X fi d (pc + 3) L rest hp1 Q) : G X fi d pc L (x3 :: x2 :: x1 :: rest) hp Q :=
  gs_callS (As := [x1, x2, x3]) hd ck rfl hdd hrest hM (fun r hp1 ⟨e, h⟩ => by subst e; exact k hp1 h)
theorem gs_S4 {y : MethodName} {cf : gFi} {d' idx : Nat} {x1 x2 x3 x4 : AV} {rest : List AV} {Q1 : AV → gHp → Prop} (hd : decode fi.2.1 pc = .ok (.invokestatic idx, 3)) (ck : CkS fi.1 idx y cf 4) (hdd : d' + 1 ≤ d) (hrest : (rest.map ct).sum ≤ 8) (hM : MV X y cf d' [x1, x2, x3, x4] hp Q1) (k : ∀ v hp1, Q1 v hp1 → G X fi d (pc + 3) L (v :: rest) hp1 Q) : G X fi d pc L (x4 :: x3 :: x2 :: x1 :: rest) hp Q :=
  gs_callS (As := [x1, x2, x3, x4]) hd ck rfl hdd hrest hM (fun r hp1 ⟨v, e, h⟩ => by subst e; exact k v hp1 h)
theorem gs_S4v {y : MethodName} {cf : gFi} {d' idx : Nat} {x1 x2 x3 x4 : AV} {rest : List AV} {Q1 : gHp → Prop} (hd : decode fi.2.1 pc = .ok (.invokestatic idx, 3)) (ck : CkS fi.1 idx y cf 4) (hdd : d' + 1 ≤ d) (hrest : (rest.map ct).sum ≤ 8) (hM : M0 X y cf d' [x1, x2, x3, x4] hp Q1) (k : ∀ hp1, Q1 hp1 → G X fi d (pc + 3) L rest hp1 Q) : G X fi d pc L (x4 :: x3 :: x2 :: x1 :: rest) hp Q :=
  gs_callS (As := [x1, x2, x3, x4]) hd ck rfl hdd hrest hM (fun r hp1 ⟨e, h⟩ => by subst e; exact k hp1 h)
theorem gs_S5 {y : MethodName} {cf : gFi} {d' idx : Nat} {x1 x2 x3 x4 x5 : AV} {rest : List AV} {Q1 : AV → gHp → Prop} (hd : decode fi.2.1 pc = .ok (.invokestatic idx, 3)) (ck : CkS fi.1 idx y cf 5) (hdd : d' + 1 ≤ d) (hrest : (rest.map ct).sum ≤ 8) (hM : MV X y cf d' [x1, x2, x3, x4, x5] hp Q1) (k : ∀ v hp1, Q1 v hp1 → G X fi d (pc + 3) L (v :: rest) hp1 Q) : G X fi d pc L (x5 :: x4 :: x3 :: x2 :: x1 :: rest) hp Q :=
  gs_callS (As := [x1, x2, x3, x4, x5]) hd ck rfl hdd hrest hM (fun r hp1 ⟨v, e, h⟩ => by subst e; exact k v hp1 h)
theorem gs_S5v {y : MethodName} {cf : gFi} {d' idx : Nat} {x1 x2 x3 x4 x5 : AV} {rest : List AV} {Q1 : gHp → Prop} (hd : decode fi.2.1 pc = .ok (.invokestatic idx, 3)) (ck : CkS fi.1 idx y cf 5) (hdd : d' + 1 ≤ d) (hrest : (rest.map ct).sum ≤ 8) (hM : M0 X y cf d' [x1, x2, x3, x4, x5] hp Q1) (k : ∀ hp1, Q1 hp1 → G X fi d (pc + 3) L rest hp1 Q) : G X fi d pc L (x5 :: x4 :: x3 :: x2 :: x1 :: rest) hp Q :=
  gs_callS (As := [x1, x2, x3, x4, x5]) hd ck rfl hdd hrest hM (fun r hp1 ⟨e, h⟩ => by subst e; exact k hp1 h)
theorem gs_I0v {y : MethodName} {cf : gFi} {d' idx : Nat} {b : Nat} {rest : List AV} {Q1 : gHp → Prop} (hd : decode fi.2.1 pc = .ok (.invokespecial idx, 3)) (ck : CkI fi.1 idx y cf 0) (hdd : d' + 1 ≤ d) (hrest : (rest.map ct).sum ≤ 8) (hM : M0 X y cf d' [vR (some b)] hp Q1) (k : ∀ hp1, Q1 hp1 → G X fi d (pc + 3) L rest hp1 Q) : G X fi d pc L (vR (some b) :: rest) hp Q :=
  gs_callI (As := []) hd ck rfl hdd hrest hM (fun r hp1 ⟨e, h⟩ => by subst e; exact k hp1 h)
theorem gs_I1v {y : MethodName} {cf : gFi} {d' idx : Nat} {b : Nat} {x1 : AV} {rest : List AV} {Q1 : gHp → Prop} (hd : decode fi.2.1 pc = .ok (.invokespecial idx, 3)) (ck : CkI fi.1 idx y cf 1) (hdd : d' + 1 ≤ d) (hrest : (rest.map ct).sum ≤ 8) (hM : M0 X y cf d' [vR (some b), x1] hp Q1) (k : ∀ hp1, Q1 hp1 → G X fi d (pc + 3) L rest hp1 Q) : G X fi d pc L (x1 :: vR (some b) :: rest) hp Q :=
  gs_callI (As := [x1]) hd ck rfl hdd hrest hM (fun r hp1 ⟨e, h⟩ => by subst e; exact k hp1 h)
theorem gs_I2v {y : MethodName} {cf : gFi} {d' idx : Nat} {b : Nat} {x1 x2 : AV} {rest : List AV} {Q1 : gHp → Prop} (hd : decode fi.2.1 pc = .ok (.invokespecial idx, 3)) (ck : CkI fi.1 idx y cf 2) (hdd : d' + 1 ≤ d) (hrest : (rest.map ct).sum ≤ 8) (hM : M0 X y cf d' [vR (some b), x1, x2] hp Q1) (k : ∀ hp1, Q1 hp1 → G X fi d (pc + 3) L rest hp1 Q) : G X fi d pc L (x2 :: x1 :: vR (some b) :: rest) hp Q :=
  gs_callI (As := [x1, x2]) hd ck rfl hdd hrest hM (fun r hp1 ⟨e, h⟩ => by subst e; exact k hp1 h)
theorem gs_I3v {y : MethodName} {cf : gFi} {d' idx : Nat} {b : Nat} {x1 x2 x3 : AV} {rest : List AV} {Q1 : gHp → Prop} (hd : decode fi.2.1 pc = .ok (.invokespecial idx, 3)) (ck : CkI fi.1 idx y cf 3) (hdd : d' + 1 ≤ d) (hrest : (rest.map ct).sum ≤ 8) (hM : M0 X y cf d' [vR (some b), x1, x2, x3] hp Q1) (k : ∀ hp1, Q1 hp1 → G X fi d (pc + 3) L rest hp1 Q) : G X fi d pc L (x3 :: x2 :: x1 :: vR (some b) :: rest) hp Q :=
  gs_callI (As := [x1, x2, x3]) hd ck rfl hdd hrest hM (fun r hp1 ⟨e, h⟩ => by subst e; exact k hp1 h)
theorem gs_I4v {y : MethodName} {cf : gFi} {d' idx : Nat} {b : Nat} {x1 x2 x3 x4 : AV} {rest : List AV} {Q1 : gHp → Prop} (hd : decode fi.2.1 pc = .ok (.invokespecial idx, 3)) (ck : CkI fi.1 idx y cf 4) (hdd : d' + 1 ≤ d) (hrest : (rest.map ct).sum ≤ 8) (hM : M0 X y cf d' [vR (some b), x1, x2, x3, x4] hp Q1) (k : ∀ hp1, Q1 hp1 → G X fi d (pc + 3) L rest hp1 Q) : G X fi d pc L (x4 :: x3 :: x2 :: x1 :: vR (some b) :: rest) hp Q :=
  gs_callI (As := [x1, x2, x3, x4]) hd ck rfl hdd hrest hM (fun r hp1 ⟨e, h⟩ => by subst e; exact k hp1 h)
theorem gs_I5v {y : MethodName} {cf : gFi} {d' idx : Nat} {b : Nat} {x1 x2 x3 x4 x5 : AV} {rest : List AV} {Q1 : gHp → Prop} (hd : decode fi.2.1 pc = .ok (.invokespecial idx, 3)) (ck : CkI fi.1 idx y cf 5) (hdd : d' + 1 ≤ d) (hrest : (rest.map ct).sum ≤ 8) (hM : M0 X y cf d' [vR (some b), x1, x2, x3, x4, x5] hp Q1) (k : ∀ hp1, Q1 hp1 → G X fi d (pc + 3) L rest hp1 Q) : G X fi d pc L (x5 :: x4 :: x3 :: x2 :: x1 :: vR (some b) :: rest) hp Q :=
  gs_callI (As := [x1, x2, x3, x4, x5]) hd ck rfl hdd hrest hM (fun r hp1 ⟨e, h⟩ => by subst e; exact k hp1 h)
theorem gs_I6v {y : MethodName} {cf : gFi} {d' idx : Nat} {b : Nat} {x1 x2 x3 x4 x5 x6 : AV} {rest : List AV} {Q1 : gHp → Prop} (hd : decode fi.2.1 pc = .ok (.invokespecial idx, 3)) (ck : CkI fi.1 idx y cf 6) (hdd : d' + 1 ≤ d) (hrest : (rest.map ct).sum ≤ 8) (hM : M0 X y cf d' [vR (some b), x1, x2, x3, x4, x5, x6] hp Q1) (k : ∀ hp1, Q1 hp1 → G X fi d (pc + 3) L rest hp1 Q) : G X fi d pc L (x6 :: x5 :: x4 :: x3 :: x2 :: x1 :: vR (some b) :: rest) hp Q :=
  gs_callI (As := [x1, x2, x3, x4, x5, x6]) hd ck rfl hdd hrest hM (fun r hp1 ⟨e, h⟩ => by subst e; exact k hp1 h)
theorem gs_I7v {y : MethodName} {cf : gFi} {d' idx : Nat} {b : Nat} {x1 x2 x3 x4 x5 x6 x7 : AV} {rest : List AV} {Q1 : gHp → Prop} (hd : decode fi.2.1 pc = .ok (.invokespecial idx, 3)) (ck : CkI fi.1 idx y cf 7) (hdd : d' + 1 ≤ d) (hrest : (rest.map ct).sum ≤ 8) (hM : M0 X y cf d' [vR (some b), x1, x2, x3, x4, x5, x6, x7] hp Q1) (k : ∀ hp1, Q1 hp1 → G X fi d (pc + 3) L rest hp1 Q) : G X fi d pc L (x7 :: x6 :: x5 :: x4 :: x3 :: x2 :: x1 :: vR (some b) :: rest) hp Q :=
  gs_callI (As := [x1, x2, x3, x4, x5, x6, x7]) hd ck rfl hdd hrest hM (fun r hp1 ⟨e, h⟩ => by subst e; exact k hp1 h)
theorem gs_SN0 {y : MethodName} {cf : gFi} {d' idx : Nat} {rest : List AV} {Q1 : AV → gHp → Prop} (hd : decode fi.2.1 pc = .ok (.invokestatic idx, 3)) (ck : CkSN fi.1 idx y cf 0) (hdd : d' + 1 ≤ d) (hrest : (rest.map ct).sum ≤ 8) (hM : MV X y cf d' [] hp Q1) (k : ∀ v hp1, Q1 v hp1 → G X fi d (pc + 3) L (v :: rest) hp1 Q) : G X fi d pc L (rest) hp Q :=
  gs_callSN (As := []) hd ck rfl hdd hrest hM (fun r hp1 ⟨v, e, h⟩ => by subst e; exact k v hp1 h)
theorem gs_SN1 {y : MethodName} {cf : gFi} {d' idx : Nat} {x1 : AV} {rest : List AV} {Q1 : AV → gHp → Prop} (hd : decode fi.2.1 pc = .ok (.invokestatic idx, 3)) (ck : CkSN fi.1 idx y cf 1) (hdd : d' + 1 ≤ d) (hrest : (rest.map ct).sum ≤ 8) (hM : MV X y cf d' [x1] hp Q1) (k : ∀ v hp1, Q1 v hp1 → G X fi d (pc + 3) L (v :: rest) hp1 Q) : G X fi d pc L (x1 :: rest) hp Q :=
  gs_callSN (As := [x1]) hd ck rfl hdd hrest hM (fun r hp1 ⟨v, e, h⟩ => by subst e; exact k v hp1 h)
theorem gs_SN2 {y : MethodName} {cf : gFi} {d' idx : Nat} {x1 x2 : AV} {rest : List AV} {Q1 : AV → gHp → Prop} (hd : decode fi.2.1 pc = .ok (.invokestatic idx, 3)) (ck : CkSN fi.1 idx y cf 2) (hdd : d' + 1 ≤ d) (hrest : (rest.map ct).sum ≤ 8) (hM : MV X y cf d' [x1, x2] hp Q1) (k : ∀ v hp1, Q1 v hp1 → G X fi d (pc + 3) L (v :: rest) hp1 Q) : G X fi d pc L (x2 :: x1 :: rest) hp Q :=
  gs_callSN (As := [x1, x2]) hd ck rfl hdd hrest hM (fun r hp1 ⟨v, e, h⟩ => by subst e; exact k v hp1 h)
theorem gs_SN3 {y : MethodName} {cf : gFi} {d' idx : Nat} {x1 x2 x3 : AV} {rest : List AV} {Q1 : AV → gHp → Prop} (hd : decode fi.2.1 pc = .ok (.invokestatic idx, 3)) (ck : CkSN fi.1 idx y cf 3) (hdd : d' + 1 ≤ d) (hrest : (rest.map ct).sum ≤ 8) (hM : MV X y cf d' [x1, x2, x3] hp Q1) (k : ∀ v hp1, Q1 v hp1 → G X fi d (pc + 3) L (v :: rest) hp1 Q) : G X fi d pc L (x3 :: x2 :: x1 :: rest) hp Q :=
  gs_callSN (As := [x1, x2, x3]) hd ck rfl hdd hrest hM (fun r hp1 ⟨v, e, h⟩ => by subst e; exact k v hp1 h)
theorem gs_IN0v {y : MethodName} {cf : gFi} {d' idx : Nat} {b : Nat} {rest : List AV} {Q1 : gHp → Prop} (hd : decode fi.2.1 pc = .ok (.invokespecial idx, 3)) (ck : CkIN fi.1 idx y cf 0) (hdd : d' + 1 ≤ d) (hrest : (rest.map ct).sum ≤ 8) (hM : M0 X y cf d' [vR (some b)] hp Q1) (k : ∀ hp1, Q1 hp1 → G X fi d (pc + 3) L rest hp1 Q) : G X fi d pc L (vR (some b) :: rest) hp Q :=
  gs_callIN (As := []) hd ck rfl hdd hrest hM (fun r hp1 ⟨e, h⟩ => by subst e; exact k hp1 h)
theorem gs_IN7v {y : MethodName} {cf : gFi} {d' idx : Nat} {b : Nat} {x1 x2 x3 x4 x5 x6 x7 : AV} {rest : List AV} {Q1 : gHp → Prop} (hd : decode fi.2.1 pc = .ok (.invokespecial idx, 3)) (ck : CkIN fi.1 idx y cf 7) (hdd : d' + 1 ≤ d) (hrest : (rest.map ct).sum ≤ 8) (hM : M0 X y cf d' [vR (some b), x1, x2, x3, x4, x5, x6, x7] hp Q1) (k : ∀ hp1, Q1 hp1 → G X fi d (pc + 3) L rest hp1 Q) : G X fi d pc L (x7 :: x6 :: x5 :: x4 :: x3 :: x2 :: x1 :: vR (some b) :: rest) hp Q :=
  gs_callIN (As := [x1, x2, x3, x4, x5, x6, x7]) hd ck rfl hdd hrest hM (fun r hp1 ⟨e, h⟩ => by subst e; exact k hp1 h)
theorem gs_U0 {y : MethodName} {cf : gFi} {d' idx : Nat} {b : Nat} {C owner : String} {x : MethodName} {lb ci N : Nat} {fs : List AV} {T : u_T} {rest : List AV} {Q1 : AV → gHp → Prop} (hd : decode fi.2.1 pc = .ok (.invokevirtual idx, 3)) (ck : CkU fi.1 idx C owner x y cf 0) (hb : gl X hp b = some (lb, .inr (ci, fs))) (hcl : gCl[ci]? = some (C, T, N)) (hdd : d' + 1 ≤ d) (hrest : (rest.map ct).sum ≤ 8) (hM : MV X y cf d' [vR (some b)] hp Q1) (k : ∀ v hp1, Q1 v hp1 → G X fi d (pc + 3) L (v :: rest) hp1 Q) : G X fi d pc L (vR (some b) :: rest) hp Q :=
  gs_callU (As := []) hd ck hb hcl rfl hdd hrest hM (fun r hp1 ⟨v, e, h⟩ => by subst e; exact k v hp1 h)
theorem gs_U0v {y : MethodName} {cf : gFi} {d' idx : Nat} {b : Nat} {C owner : String} {x : MethodName} {lb ci N : Nat} {fs : List AV} {T : u_T} {rest : List AV} {Q1 : gHp → Prop} (hd : decode fi.2.1 pc = .ok (.invokevirtual idx, 3)) (ck : CkU fi.1 idx C owner x y cf 0) (hb : gl X hp b = some (lb, .inr (ci, fs))) (hcl : gCl[ci]? = some (C, T, N)) (hdd : d' + 1 ≤ d) (hrest : (rest.map ct).sum ≤ 8) (hM : M0 X y cf d' [vR (some b)] hp Q1) (k : ∀ hp1, Q1 hp1 → G X fi d (pc + 3) L rest hp1 Q) : G X fi d pc L (vR (some b) :: rest) hp Q :=
  gs_callU (As := []) hd ck hb hcl rfl hdd hrest hM (fun r hp1 ⟨e, h⟩ => by subst e; exact k hp1 h)
theorem gs_U1 {y : MethodName} {cf : gFi} {d' idx : Nat} {b : Nat} {x1 : AV} {C owner : String} {x : MethodName} {lb ci N : Nat} {fs : List AV} {T : u_T} {rest : List AV} {Q1 : AV → gHp → Prop} (hd : decode fi.2.1 pc = .ok (.invokevirtual idx, 3)) (ck : CkU fi.1 idx C owner x y cf 1) (hb : gl X hp b = some (lb, .inr (ci, fs))) (hcl : gCl[ci]? = some (C, T, N)) (hdd : d' + 1 ≤ d) (hrest : (rest.map ct).sum ≤ 8) (hM : MV X y cf d' [vR (some b), x1] hp Q1) (k : ∀ v hp1, Q1 v hp1 → G X fi d (pc + 3) L (v :: rest) hp1 Q) : G X fi d pc L (x1 :: vR (some b) :: rest) hp Q :=
  gs_callU (As := [x1]) hd ck hb hcl rfl hdd hrest hM (fun r hp1 ⟨v, e, h⟩ => by subst e; exact k v hp1 h)
theorem gs_U1v {y : MethodName} {cf : gFi} {d' idx : Nat} {b : Nat} {x1 : AV} {C owner : String} {x : MethodName} {lb ci N : Nat} {fs : List AV} {T : u_T} {rest : List AV} {Q1 : gHp → Prop} (hd : decode fi.2.1 pc = .ok (.invokevirtual idx, 3)) (ck : CkU fi.1 idx C owner x y cf 1) (hb : gl X hp b = some (lb, .inr (ci, fs))) (hcl : gCl[ci]? = some (C, T, N)) (hdd : d' + 1 ≤ d) (hrest : (rest.map ct).sum ≤ 8) (hM : M0 X y cf d' [vR (some b), x1] hp Q1) (k : ∀ hp1, Q1 hp1 → G X fi d (pc + 3) L rest hp1 Q) : G X fi d pc L (x1 :: vR (some b) :: rest) hp Q :=
  gs_callU (As := [x1]) hd ck hb hcl rfl hdd hrest hM (fun r hp1 ⟨e, h⟩ => by subst e; exact k hp1 h)
theorem gs_U2 {y : MethodName} {cf : gFi} {d' idx : Nat} {b : Nat} {x1 x2 : AV} {C owner : String} {x : MethodName} {lb ci N : Nat} {fs : List AV} {T : u_T} {rest : List AV} {Q1 : AV → gHp → Prop} (hd : decode fi.2.1 pc = .ok (.invokevirtual idx, 3)) (ck : CkU fi.1 idx C owner x y cf 2) (hb : gl X hp b = some (lb, .inr (ci, fs))) (hcl : gCl[ci]? = some (C, T, N)) (hdd : d' + 1 ≤ d) (hrest : (rest.map ct).sum ≤ 8) (hM : MV X y cf d' [vR (some b), x1, x2] hp Q1) (k : ∀ v hp1, Q1 v hp1 → G X fi d (pc + 3) L (v :: rest) hp1 Q) : G X fi d pc L (x2 :: x1 :: vR (some b) :: rest) hp Q :=
  gs_callU (As := [x1, x2]) hd ck hb hcl rfl hdd hrest hM (fun r hp1 ⟨v, e, h⟩ => by subst e; exact k v hp1 h)
theorem gs_U2v {y : MethodName} {cf : gFi} {d' idx : Nat} {b : Nat} {x1 x2 : AV} {C owner : String} {x : MethodName} {lb ci N : Nat} {fs : List AV} {T : u_T} {rest : List AV} {Q1 : gHp → Prop} (hd : decode fi.2.1 pc = .ok (.invokevirtual idx, 3)) (ck : CkU fi.1 idx C owner x y cf 2) (hb : gl X hp b = some (lb, .inr (ci, fs))) (hcl : gCl[ci]? = some (C, T, N)) (hdd : d' + 1 ≤ d) (hrest : (rest.map ct).sum ≤ 8) (hM : M0 X y cf d' [vR (some b), x1, x2] hp Q1) (k : ∀ hp1, Q1 hp1 → G X fi d (pc + 3) L rest hp1 Q) : G X fi d pc L (x2 :: x1 :: vR (some b) :: rest) hp Q :=
  gs_callU (As := [x1, x2]) hd ck hb hcl rfl hdd hrest hM (fun r hp1 ⟨e, h⟩ => by subst e; exact k hp1 h)
theorem gs_U3 {y : MethodName} {cf : gFi} {d' idx : Nat} {b : Nat} {x1 x2 x3 : AV} {C owner : String} {x : MethodName} {lb ci N : Nat} {fs : List AV} {T : u_T} {rest : List AV} {Q1 : AV → gHp → Prop} (hd : decode fi.2.1 pc = .ok (.invokevirtual idx, 3)) (ck : CkU fi.1 idx C owner x y cf 3) (hb : gl X hp b = some (lb, .inr (ci, fs))) (hcl : gCl[ci]? = some (C, T, N)) (hdd : d' + 1 ≤ d) (hrest : (rest.map ct).sum ≤ 8) (hM : MV X y cf d' [vR (some b), x1, x2, x3] hp Q1) (k : ∀ v hp1, Q1 v hp1 → G X fi d (pc + 3) L (v :: rest) hp1 Q) : G X fi d pc L (x3 :: x2 :: x1 :: vR (some b) :: rest) hp Q :=
  gs_callU (As := [x1, x2, x3]) hd ck hb hcl rfl hdd hrest hM (fun r hp1 ⟨v, e, h⟩ => by subst e; exact k v hp1 h)
theorem gs_U3v {y : MethodName} {cf : gFi} {d' idx : Nat} {b : Nat} {x1 x2 x3 : AV} {C owner : String} {x : MethodName} {lb ci N : Nat} {fs : List AV} {T : u_T} {rest : List AV} {Q1 : gHp → Prop} (hd : decode fi.2.1 pc = .ok (.invokevirtual idx, 3)) (ck : CkU fi.1 idx C owner x y cf 3) (hb : gl X hp b = some (lb, .inr (ci, fs))) (hcl : gCl[ci]? = some (C, T, N)) (hdd : d' + 1 ≤ d) (hrest : (rest.map ct).sum ≤ 8) (hM : M0 X y cf d' [vR (some b), x1, x2, x3] hp Q1) (k : ∀ hp1, Q1 hp1 → G X fi d (pc + 3) L rest hp1 Q) : G X fi d pc L (x3 :: x2 :: x1 :: vR (some b) :: rest) hp Q :=
  gs_callU (As := [x1, x2, x3]) hd ck hb hcl rfl hdd hrest hM (fun r hp1 ⟨e, h⟩ => by subst e; exact k hp1 h)
theorem gs_U4 {y : MethodName} {cf : gFi} {d' idx : Nat} {b : Nat} {x1 x2 x3 x4 : AV} {C owner : String} {x : MethodName} {lb ci N : Nat} {fs : List AV} {T : u_T} {rest : List AV} {Q1 : AV → gHp → Prop} (hd : decode fi.2.1 pc = .ok (.invokevirtual idx, 3)) (ck : CkU fi.1 idx C owner x y cf 4) (hb : gl X hp b = some (lb, .inr (ci, fs))) (hcl : gCl[ci]? = some (C, T, N)) (hdd : d' + 1 ≤ d) (hrest : (rest.map ct).sum ≤ 8) (hM : MV X y cf d' [vR (some b), x1, x2, x3, x4] hp Q1) (k : ∀ v hp1, Q1 v hp1 → G X fi d (pc + 3) L (v :: rest) hp1 Q) : G X fi d pc L (x4 :: x3 :: x2 :: x1 :: vR (some b) :: rest) hp Q :=
  gs_callU (As := [x1, x2, x3, x4]) hd ck hb hcl rfl hdd hrest hM (fun r hp1 ⟨v, e, h⟩ => by subst e; exact k v hp1 h)
theorem gs_U4v {y : MethodName} {cf : gFi} {d' idx : Nat} {b : Nat} {x1 x2 x3 x4 : AV} {C owner : String} {x : MethodName} {lb ci N : Nat} {fs : List AV} {T : u_T} {rest : List AV} {Q1 : gHp → Prop} (hd : decode fi.2.1 pc = .ok (.invokevirtual idx, 3)) (ck : CkU fi.1 idx C owner x y cf 4) (hb : gl X hp b = some (lb, .inr (ci, fs))) (hcl : gCl[ci]? = some (C, T, N)) (hdd : d' + 1 ≤ d) (hrest : (rest.map ct).sum ≤ 8) (hM : M0 X y cf d' [vR (some b), x1, x2, x3, x4] hp Q1) (k : ∀ hp1, Q1 hp1 → G X fi d (pc + 3) L rest hp1 Q) : G X fi d pc L (x4 :: x3 :: x2 :: x1 :: vR (some b) :: rest) hp Q :=
  gs_callU (As := [x1, x2, x3, x4]) hd ck hb hcl rfl hdd hrest hM (fun r hp1 ⟨e, h⟩ => by subst e; exact k hp1 h)
theorem gs_U5 {y : MethodName} {cf : gFi} {d' idx : Nat} {b : Nat} {x1 x2 x3 x4 x5 : AV} {C owner : String} {x : MethodName} {lb ci N : Nat} {fs : List AV} {T : u_T} {rest : List AV} {Q1 : AV → gHp → Prop} (hd : decode fi.2.1 pc = .ok (.invokevirtual idx, 3)) (ck : CkU fi.1 idx C owner x y cf 5) (hb : gl X hp b = some (lb, .inr (ci, fs))) (hcl : gCl[ci]? = some (C, T, N)) (hdd : d' + 1 ≤ d) (hrest : (rest.map ct).sum ≤ 8) (hM : MV X y cf d' [vR (some b), x1, x2, x3, x4, x5] hp Q1) (k : ∀ v hp1, Q1 v hp1 → G X fi d (pc + 3) L (v :: rest) hp1 Q) : G X fi d pc L (x5 :: x4 :: x3 :: x2 :: x1 :: vR (some b) :: rest) hp Q :=
  gs_callU (As := [x1, x2, x3, x4, x5]) hd ck hb hcl rfl hdd hrest hM (fun r hp1 ⟨v, e, h⟩ => by subst e; exact k v hp1 h)
theorem gs_U5v {y : MethodName} {cf : gFi} {d' idx : Nat} {b : Nat} {x1 x2 x3 x4 x5 : AV} {C owner : String} {x : MethodName} {lb ci N : Nat} {fs : List AV} {T : u_T} {rest : List AV} {Q1 : gHp → Prop} (hd : decode fi.2.1 pc = .ok (.invokevirtual idx, 3)) (ck : CkU fi.1 idx C owner x y cf 5) (hb : gl X hp b = some (lb, .inr (ci, fs))) (hcl : gCl[ci]? = some (C, T, N)) (hdd : d' + 1 ≤ d) (hrest : (rest.map ct).sum ≤ 8) (hM : M0 X y cf d' [vR (some b), x1, x2, x3, x4, x5] hp Q1) (k : ∀ hp1, Q1 hp1 → G X fi d (pc + 3) L rest hp1 Q) : G X fi d pc L (x5 :: x4 :: x3 :: x2 :: x1 :: vR (some b) :: rest) hp Q :=
  gs_callU (As := [x1, x2, x3, x4, x5]) hd ck hb hcl rfl hdd hrest hM (fun r hp1 ⟨e, h⟩ => by subst e; exact k hp1 h)
theorem gs_P0 {y : MethodName} {cf : gFi} {d' idx : Nat} {b : Nat} {C : String} {x0 : MethodName} {lb ci N : Nat} {fs : List AV} {T : u_T} {rest : List AV} {Q1 : AV → gHp → Prop} (hd : decode fi.2.1 pc = .ok (.invokevirtual idx, 3)) (ck : CkP fi.1 idx C x0 y cf 0) (hb : gl X hp b = some (lb, .inr (ci, fs))) (hcl : gCl[ci]? = some (C, T, N)) (hdd : d' + 1 ≤ d) (hrest : (rest.map ct).sum ≤ 8) (hM : MV X y cf d' [vR (some b)] hp Q1) (k : ∀ v hp1, Q1 v hp1 → G X fi d (pc + 3) L (v :: rest) hp1 Q) : G X fi d pc L (vR (some b) :: rest) hp Q :=
  gs_callP (As := []) hd ck hb hcl rfl hdd hrest hM (fun r hp1 ⟨v, e, h⟩ => by subst e; exact k v hp1 h)
theorem gs_P0v {y : MethodName} {cf : gFi} {d' idx : Nat} {b : Nat} {C : String} {x0 : MethodName} {lb ci N : Nat} {fs : List AV} {T : u_T} {rest : List AV} {Q1 : gHp → Prop} (hd : decode fi.2.1 pc = .ok (.invokevirtual idx, 3)) (ck : CkP fi.1 idx C x0 y cf 0) (hb : gl X hp b = some (lb, .inr (ci, fs))) (hcl : gCl[ci]? = some (C, T, N)) (hdd : d' + 1 ≤ d) (hrest : (rest.map ct).sum ≤ 8) (hM : M0 X y cf d' [vR (some b)] hp Q1) (k : ∀ hp1, Q1 hp1 → G X fi d (pc + 3) L rest hp1 Q) : G X fi d pc L (vR (some b) :: rest) hp Q :=
  gs_callP (As := []) hd ck hb hcl rfl hdd hrest hM (fun r hp1 ⟨e, h⟩ => by subst e; exact k hp1 h)
theorem gs_P1 {y : MethodName} {cf : gFi} {d' idx : Nat} {b : Nat} {x1 : AV} {C : String} {x0 : MethodName} {lb ci N : Nat} {fs : List AV} {T : u_T} {rest : List AV} {Q1 : AV → gHp → Prop} (hd : decode fi.2.1 pc = .ok (.invokevirtual idx, 3)) (ck : CkP fi.1 idx C x0 y cf 1) (hb : gl X hp b = some (lb, .inr (ci, fs))) (hcl : gCl[ci]? = some (C, T, N)) (hdd : d' + 1 ≤ d) (hrest : (rest.map ct).sum ≤ 8) (hM : MV X y cf d' [vR (some b), x1] hp Q1) (k : ∀ v hp1, Q1 v hp1 → G X fi d (pc + 3) L (v :: rest) hp1 Q) : G X fi d pc L (x1 :: vR (some b) :: rest) hp Q :=
  gs_callP (As := [x1]) hd ck hb hcl rfl hdd hrest hM (fun r hp1 ⟨v, e, h⟩ => by subst e; exact k v hp1 h)
theorem gs_P1v {y : MethodName} {cf : gFi} {d' idx : Nat} {b : Nat} {x1 : AV} {C : String} {x0 : MethodName} {lb ci N : Nat} {fs : List AV} {T : u_T} {rest : List AV} {Q1 : gHp → Prop} (hd : decode fi.2.1 pc = .ok (.invokevirtual idx, 3)) (ck : CkP fi.1 idx C x0 y cf 1) (hb : gl X hp b = some (lb, .inr (ci, fs))) (hcl : gCl[ci]? = some (C, T, N)) (hdd : d' + 1 ≤ d) (hrest : (rest.map ct).sum ≤ 8) (hM : M0 X y cf d' [vR (some b), x1] hp Q1) (k : ∀ hp1, Q1 hp1 → G X fi d (pc + 3) L rest hp1 Q) : G X fi d pc L (x1 :: vR (some b) :: rest) hp Q :=
  gs_callP (As := [x1]) hd ck hb hcl rfl hdd hrest hM (fun r hp1 ⟨e, h⟩ => by subst e; exact k hp1 h)
theorem gs_P2 {y : MethodName} {cf : gFi} {d' idx : Nat} {b : Nat} {x1 x2 : AV} {C : String} {x0 : MethodName} {lb ci N : Nat} {fs : List AV} {T : u_T} {rest : List AV} {Q1 : AV → gHp → Prop} (hd : decode fi.2.1 pc = .ok (.invokevirtual idx, 3)) (ck : CkP fi.1 idx C x0 y cf 2) (hb : gl X hp b = some (lb, .inr (ci, fs))) (hcl : gCl[ci]? = some (C, T, N)) (hdd : d' + 1 ≤ d) (hrest : (rest.map ct).sum ≤ 8) (hM : MV X y cf d' [vR (some b), x1, x2] hp Q1) (k : ∀ v hp1, Q1 v hp1 → G X fi d (pc + 3) L (v :: rest) hp1 Q) : G X fi d pc L (x2 :: x1 :: vR (some b) :: rest) hp Q :=
  gs_callP (As := [x1, x2]) hd ck hb hcl rfl hdd hrest hM (fun r hp1 ⟨v, e, h⟩ => by subst e; exact k v hp1 h)
theorem gs_P2v {y : MethodName} {cf : gFi} {d' idx : Nat} {b : Nat} {x1 x2 : AV} {C : String} {x0 : MethodName} {lb ci N : Nat} {fs : List AV} {T : u_T} {rest : List AV} {Q1 : gHp → Prop} (hd : decode fi.2.1 pc = .ok (.invokevirtual idx, 3)) (ck : CkP fi.1 idx C x0 y cf 2) (hb : gl X hp b = some (lb, .inr (ci, fs))) (hcl : gCl[ci]? = some (C, T, N)) (hdd : d' + 1 ≤ d) (hrest : (rest.map ct).sum ≤ 8) (hM : M0 X y cf d' [vR (some b), x1, x2] hp Q1) (k : ∀ hp1, Q1 hp1 → G X fi d (pc + 3) L rest hp1 Q) : G X fi d pc L (x2 :: x1 :: vR (some b) :: rest) hp Q :=
  gs_callP (As := [x1, x2]) hd ck hb hcl rfl hdd hrest hM (fun r hp1 ⟨e, h⟩ => by subst e; exact k hp1 h)
theorem gs_P3 {y : MethodName} {cf : gFi} {d' idx : Nat} {b : Nat} {x1 x2 x3 : AV} {C : String} {x0 : MethodName} {lb ci N : Nat} {fs : List AV} {T : u_T} {rest : List AV} {Q1 : AV → gHp → Prop} (hd : decode fi.2.1 pc = .ok (.invokevirtual idx, 3)) (ck : CkP fi.1 idx C x0 y cf 3) (hb : gl X hp b = some (lb, .inr (ci, fs))) (hcl : gCl[ci]? = some (C, T, N)) (hdd : d' + 1 ≤ d) (hrest : (rest.map ct).sum ≤ 8) (hM : MV X y cf d' [vR (some b), x1, x2, x3] hp Q1) (k : ∀ v hp1, Q1 v hp1 → G X fi d (pc + 3) L (v :: rest) hp1 Q) : G X fi d pc L (x3 :: x2 :: x1 :: vR (some b) :: rest) hp Q :=
  gs_callP (As := [x1, x2, x3]) hd ck hb hcl rfl hdd hrest hM (fun r hp1 ⟨v, e, h⟩ => by subst e; exact k v hp1 h)
theorem gs_P3v {y : MethodName} {cf : gFi} {d' idx : Nat} {b : Nat} {x1 x2 x3 : AV} {C : String} {x0 : MethodName} {lb ci N : Nat} {fs : List AV} {T : u_T} {rest : List AV} {Q1 : gHp → Prop} (hd : decode fi.2.1 pc = .ok (.invokevirtual idx, 3)) (ck : CkP fi.1 idx C x0 y cf 3) (hb : gl X hp b = some (lb, .inr (ci, fs))) (hcl : gCl[ci]? = some (C, T, N)) (hdd : d' + 1 ≤ d) (hrest : (rest.map ct).sum ≤ 8) (hM : M0 X y cf d' [vR (some b), x1, x2, x3] hp Q1) (k : ∀ hp1, Q1 hp1 → G X fi d (pc + 3) L rest hp1 Q) : G X fi d pc L (x3 :: x2 :: x1 :: vR (some b) :: rest) hp Q :=
  gs_callP (As := [x1, x2, x3]) hd ck hb hcl rfl hdd hrest hM (fun r hp1 ⟨e, h⟩ => by subst e; exact k hp1 h)
theorem gs_SU0 {y : MethodName} {cf : gFi} {d' idx : Nat} {b : Nat} {C : String} {lb ci N : Nat} {fs : List AV} {T : u_T} {rest : List AV} {Q1 : AV → gHp → Prop} (hd : decode fi.2.1 pc = .ok (.invokespecial idx, 3)) (ck : CkSU fi.1 idx y cf 0) (hb : gl X hp b = some (lb, .inr (ci, fs))) (hcl : gCl[ci]? = some (C, T, N)) (hdd : d' + 1 ≤ d) (hrest : (rest.map ct).sum ≤ 8) (hM : MV X y cf d' [vR (some b)] hp Q1) (k : ∀ v hp1, Q1 v hp1 → G X fi d (pc + 3) L (v :: rest) hp1 Q) : G X fi d pc L (vR (some b) :: rest) hp Q :=
  gs_callSU (As := []) hd ck hb hcl rfl hdd hrest hM (fun r hp1 ⟨v, e, h⟩ => by subst e; exact k v hp1 h)
theorem gs_SU1 {y : MethodName} {cf : gFi} {d' idx : Nat} {b : Nat} {x1 : AV} {C : String} {lb ci N : Nat} {fs : List AV} {T : u_T} {rest : List AV} {Q1 : AV → gHp → Prop} (hd : decode fi.2.1 pc = .ok (.invokespecial idx, 3)) (ck : CkSU fi.1 idx y cf 1) (hb : gl X hp b = some (lb, .inr (ci, fs))) (hcl : gCl[ci]? = some (C, T, N)) (hdd : d' + 1 ≤ d) (hrest : (rest.map ct).sum ≤ 8) (hM : MV X y cf d' [vR (some b), x1] hp Q1) (k : ∀ v hp1, Q1 v hp1 → G X fi d (pc + 3) L (v :: rest) hp1 Q) : G X fi d pc L (x1 :: vR (some b) :: rest) hp Q :=
  gs_callSU (As := [x1]) hd ck hb hcl rfl hdd hrest hM (fun r hp1 ⟨v, e, h⟩ => by subst e; exact k v hp1 h)
theorem gs_SU2 {y : MethodName} {cf : gFi} {d' idx : Nat} {b : Nat} {x1 x2 : AV} {C : String} {lb ci N : Nat} {fs : List AV} {T : u_T} {rest : List AV} {Q1 : AV → gHp → Prop} (hd : decode fi.2.1 pc = .ok (.invokespecial idx, 3)) (ck : CkSU fi.1 idx y cf 2) (hb : gl X hp b = some (lb, .inr (ci, fs))) (hcl : gCl[ci]? = some (C, T, N)) (hdd : d' + 1 ≤ d) (hrest : (rest.map ct).sum ≤ 8) (hM : MV X y cf d' [vR (some b), x1, x2] hp Q1) (k : ∀ v hp1, Q1 v hp1 → G X fi d (pc + 3) L (v :: rest) hp1 Q) : G X fi d pc L (x2 :: x1 :: vR (some b) :: rest) hp Q :=
  gs_callSU (As := [x1, x2]) hd ck hb hcl rfl hdd hrest hM (fun r hp1 ⟨v, e, h⟩ => by subst e; exact k v hp1 h)
theorem gs_F0 {y : MethodName} {cf : gFi} {d' idx : Nat} {b : Nat} {C : String} {x : MethodName} {count : Nat} {lb ci N : Nat} {fs : List AV} {T : u_T} {rest : List AV} {Q1 : AV → gHp → Prop} (hd : decode fi.2.1 pc = .ok (.invokeinterface idx count, 5)) (ck : CkF fi.1 idx C x y cf 0) (hb : gl X hp b = some (lb, .inr (ci, fs))) (hcl : gCl[ci]? = some (C, T, N)) (hdd : d' + 1 ≤ d) (hrest : (rest.map ct).sum ≤ 8) (hM : MV X y cf d' [vR (some b)] hp Q1) (k : ∀ v hp1, Q1 v hp1 → G X fi d (pc + 5) L (v :: rest) hp1 Q) : G X fi d pc L (vR (some b) :: rest) hp Q :=
  gs_callF (As := []) hd ck hb hcl rfl hdd hrest hM (fun r hp1 ⟨v, e, h⟩ => by subst e; exact k v hp1 h)
theorem gs_F1 {y : MethodName} {cf : gFi} {d' idx : Nat} {b : Nat} {x1 : AV} {C : String} {x : MethodName} {count : Nat} {lb ci N : Nat} {fs : List AV} {T : u_T} {rest : List AV} {Q1 : AV → gHp → Prop} (hd : decode fi.2.1 pc = .ok (.invokeinterface idx count, 5)) (ck : CkF fi.1 idx C x y cf 1) (hb : gl X hp b = some (lb, .inr (ci, fs))) (hcl : gCl[ci]? = some (C, T, N)) (hdd : d' + 1 ≤ d) (hrest : (rest.map ct).sum ≤ 8) (hM : MV X y cf d' [vR (some b), x1] hp Q1) (k : ∀ v hp1, Q1 v hp1 → G X fi d (pc + 5) L (v :: rest) hp1 Q) : G X fi d pc L (x1 :: vR (some b) :: rest) hp Q :=
  gs_callF (As := [x1]) hd ck hb hcl rfl hdd hrest hM (fun r hp1 ⟨v, e, h⟩ => by subst e; exact k v hp1 h)
end GH
