/-! no native row stands for the methods that we walk (printed by tool/genpf.py) -/
set_option maxRecDepth 100000
theorem pfJ0_init : plainFor yJ0_init = true := by first | exact plainFor_of_name (by decide) | decide +kernel
theorem pfJ1_init : plainFor yJ1_init = true := by first | exact plainFor_of_name (by decide) | decide +kernel
theorem pfJ2_init : plainFor yJ2_init = true := by first | exact plainFor_of_name (by decide) | decide +kernel
theorem pfJ2_size : plainFor yJ2_size = true := by first | exact plainFor_of_name (by decide) | decide +kernel
theorem pfJ2_remove : plainFor yJ2_remove = true := by first | exact plainFor_of_name (by decide) | decide +kernel
theorem pfJ2_fastRemove : plainFor yJ2_fastRemove = true := by first | exact plainFor_of_name (by decide) | decide +kernel
theorem pfJ2_get : plainFor yJ2_get = true := by first | exact plainFor_of_name (by decide) | decide +kernel
theorem pfJ2_elementData : plainFor yJ2_elementData = true := by first | exact plainFor_of_name (by decide) | decide +kernel
theorem pfJ2_add : plainFor yJ2_add = true := by first | exact plainFor_of_name (by decide) | decide +kernel
theorem pfJ2_add_2 : plainFor yJ2_add_2 = true := by first | exact plainFor_of_name (by decide) | decide +kernel
theorem pfJ2_grow : plainFor yJ2_grow = true := by first | exact plainFor_of_name (by decide) | decide +kernel
theorem pfJ2_grow_2 : plainFor yJ2_grow_2 = true := by first | exact plainFor_of_name (by decide) | decide +kernel
theorem pfJ2_add_3 : plainFor yJ2_add_3 = true := by first | exact plainFor_of_name (by decide) | decide +kernel
theorem pfJ2_rangeCheckForAdd : plainFor yJ2_rangeCheckForAdd = true := by first | exact plainFor_of_name (by decide) | decide +kernel
theorem pfJ2_isEmpty : plainFor yJ2_isEmpty = true := by first | exact plainFor_of_name (by decide) | decide +kernel
theorem pfJ2_clear : plainFor yJ2_clear = true := by first | exact plainFor_of_name (by decide) | decide +kernel
theorem pfJ3_init : plainFor yJ3_init = true := by first | exact plainFor_of_name (by decide) | decide +kernel
theorem pfJ3_append : plainFor yJ3_append = true := by first | exact plainFor_of_name (by decide) | decide +kernel
theorem pfJ3_append_2 : plainFor yJ3_append_2 = true := by first | exact plainFor_of_name (by decide) | decide +kernel
theorem pfJ3_ensureCapacityInternal : plainFor yJ3_ensureCapacityInternal = true := by first | exact plainFor_of_name (by decide) | decide +kernel
theorem pfJ3_newCapacity : plainFor yJ3_newCapacity = true := by first | exact plainFor_of_name (by decide) | decide +kernel
theorem pfJ3_isLatin1 : plainFor yJ3_isLatin1 = true := by first | exact plainFor_of_name (by decide) | decide +kernel
theorem pfJ3_getValue : plainFor yJ3_getValue = true := by first | exact plainFor_of_name (by decide) | decide +kernel
theorem pfJ3_length : plainFor yJ3_length = true := by first | exact plainFor_of_name (by decide) | decide +kernel
theorem pfJ3_putStringAt : plainFor yJ3_putStringAt = true := by first | exact plainFor_of_name (by decide) | decide +kernel
theorem pfJ3_inflateIfNeededFor : plainFor yJ3_inflateIfNeededFor = true := by first | exact plainFor_of_name (by decide) | decide +kernel
theorem pfJ4_init : plainFor yJ4_init = true := by first | exact plainFor_of_name (by decide) | decide +kernel
theorem pfJ4_append : plainFor yJ4_append = true := by first | exact plainFor_of_name (by decide) | decide +kernel
theorem pfJ4_append_2 : plainFor yJ4_append_2 = true := by first | exact plainFor_of_name (by decide) | decide +kernel
theorem pfJ4_toString : plainFor yJ4_toString = true := by first | exact plainFor_of_name (by decide) | decide +kernel
theorem pfJ4_length : plainFor yJ4_length = true := by first | exact plainFor_of_name (by decide) | decide +kernel
theorem pfJ5_init : plainFor yJ5_init = true := by first | exact plainFor_of_name (by decide) | decide +kernel
theorem pfJ5_init_2 : plainFor yJ5_init_2 = true := by first | exact plainFor_of_name (by decide) | decide +kernel
theorem pfJ5_init_3 : plainFor yJ5_init_3 = true := by first | exact plainFor_of_name (by decide) | decide +kernel
theorem pfJ5_length : plainFor yJ5_length = true := by first | exact plainFor_of_name (by decide) | decide +kernel
theorem pfJ5_coder : plainFor yJ5_coder = true := by first | exact plainFor_of_name (by decide) | decide +kernel
theorem pfJ5_substring : plainFor yJ5_substring = true := by first | exact plainFor_of_name (by decide) | decide +kernel
theorem pfJ5_checkBoundsBeginEnd : plainFor yJ5_checkBoundsBeginEnd = true := by first | exact plainFor_of_name (by decide) | decide +kernel
theorem pfJ5_isLatin1 : plainFor yJ5_isLatin1 = true := by first | exact plainFor_of_name (by decide) | decide +kernel
theorem pfJ5_charAt : plainFor yJ5_charAt = true := by first | exact plainFor_of_name (by decide) | decide +kernel
theorem pfJ5_checkIndex : plainFor yJ5_checkIndex = true := by first | exact plainFor_of_name (by decide) | decide +kernel
theorem pfJ5_equals : plainFor yJ5_equals = true := by first | exact plainFor_of_name (by decide) | decide +kernel
theorem pfJ5_isEmpty : plainFor yJ5_isEmpty = true := by first | exact plainFor_of_name (by decide) | decide +kernel
theorem pfJ5_getBytes : plainFor yJ5_getBytes = true := by first | exact plainFor_of_name (by decide) | decide +kernel
theorem pfJ7_newLength : plainFor yJ7_newLength = true := by first | exact plainFor_of_name (by decide) | decide +kernel
theorem pfJ8_max : plainFor yJ8_max = true := by first | exact plainFor_of_name (by decide) | decide +kernel
theorem pfJ8_min : plainFor yJ8_min = true := by first | exact plainFor_of_name (by decide) | decide +kernel
theorem pfJ9_copyOf : plainFor yJ9_copyOf = true := by first | exact plainFor_of_name (by decide) | decide +kernel
theorem pfJ9_copyOf_2 : plainFor yJ9_copyOf_2 = true := by first | exact plainFor_of_name (by decide) | decide +kernel
theorem pfJ9_copyOf_3 : plainFor yJ9_copyOf_3 = true := by first | exact plainFor_of_name (by decide) | decide +kernel
theorem pfJ9_copyOfRange : plainFor yJ9_copyOfRange = true := by first | exact plainFor_of_name (by decide) | decide +kernel
theorem pfJ9_copyOfRangeByte : plainFor yJ9_copyOfRangeByte = true := by first | exact plainFor_of_name (by decide) | decide +kernel
theorem pfJ9_checkLength : plainFor yJ9_checkLength = true := by first | exact plainFor_of_name (by decide) | decide +kernel
theorem pfJ10_canEncode : plainFor yJ10_canEncode = true := by first | exact plainFor_of_name (by decide) | decide +kernel
theorem pfJ10_charAt : plainFor yJ10_charAt = true := by first | exact plainFor_of_name (by decide) | decide +kernel
theorem pfJ10_newString : plainFor yJ10_newString = true := by first | exact plainFor_of_name (by decide) | decide +kernel
theorem pfJ10_equals : plainFor yJ10_equals = true := by first | exact plainFor_of_name (by decide) | decide +kernel
theorem pfJ11_checkIndex : plainFor yJ11_checkIndex = true := by first | exact plainFor_of_name (by decide) | decide +kernel
theorem pfJ11_checkFromToIndex : plainFor yJ11_checkFromToIndex = true := by first | exact plainFor_of_name (by decide) | decide +kernel
theorem pfJ12_checkIndex : plainFor yJ12_checkIndex = true := by first | exact plainFor_of_name (by decide) | decide +kernel
theorem pfJ13_init : plainFor yJ13_init = true := by first | exact plainFor_of_name (by decide) | decide +kernel
theorem pfJ14_init : plainFor yJ14_init = true := by first | exact plainFor_of_name (by decide) | decide +kernel
theorem pfJ14_get : plainFor yJ14_get = true := by first | exact plainFor_of_name (by decide) | decide +kernel
theorem pfJ14_getNode : plainFor yJ14_getNode = true := by first | exact plainFor_of_name (by decide) | decide +kernel
theorem pfJ14_hash : plainFor yJ14_hash = true := by first | exact plainFor_of_name (by decide) | decide +kernel
theorem pfJ14_put : plainFor yJ14_put = true := by first | exact plainFor_of_name (by decide) | decide +kernel
theorem pfJ14_putVal : plainFor yJ14_putVal = true := by first | exact plainFor_of_name (by decide) | decide +kernel
theorem pfJ14_resize : plainFor yJ14_resize = true := by first | exact plainFor_of_name (by decide) | decide +kernel
theorem pfJ14_newNode : plainFor yJ14_newNode = true := by first | exact plainFor_of_name (by decide) | decide +kernel
theorem pfJ14_treeifyBin : plainFor yJ14_treeifyBin = true := by first | exact plainFor_of_name (by decide) | decide +kernel
theorem pfJ14_afterNodeAccess : plainFor yJ14_afterNodeAccess = true := by first | exact plainFor_of_name (by decide) | decide +kernel
theorem pfJ14_afterNodeInsertion : plainFor yJ14_afterNodeInsertion = true := by first | exact plainFor_of_name (by decide) | decide +kernel
theorem pfJ14_containsKey : plainFor yJ14_containsKey = true := by first | exact plainFor_of_name (by decide) | decide +kernel
theorem pfJ14_size : plainFor yJ14_size = true := by first | exact plainFor_of_name (by decide) | decide +kernel
theorem pfJ15_init : plainFor yJ15_init = true := by first | exact plainFor_of_name (by decide) | decide +kernel
theorem pfJ16_init : plainFor yJ16_init = true := by first | exact plainFor_of_name (by decide) | decide +kernel
theorem pfJ16_add : plainFor yJ16_add = true := by first | exact plainFor_of_name (by decide) | decide +kernel
theorem pfJ16_contains : plainFor yJ16_contains = true := by first | exact plainFor_of_name (by decide) | decide +kernel
theorem pfJ17_init : plainFor yJ17_init = true := by first | exact plainFor_of_name (by decide) | decide +kernel
theorem pfJ18_valueOf : plainFor yJ18_valueOf = true := by first | exact plainFor_of_name (by decide) | decide +kernel
theorem pfJ18_init : plainFor yJ18_init = true := by first | exact plainFor_of_name (by decide) | decide +kernel
theorem pfJ18_intValue : plainFor yJ18_intValue = true := by first | exact plainFor_of_name (by decide) | decide +kernel
theorem pfJ18_bitCount : plainFor yJ18_bitCount = true := by first | exact plainFor_of_name (by decide) | decide +kernel
theorem pfJ18_equals : plainFor yJ18_equals = true := by first | exact plainFor_of_name (by decide) | decide +kernel
theorem pfJ18_hashCode : plainFor yJ18_hashCode = true := by first | exact plainFor_of_name (by decide) | decide +kernel
theorem pfJ18_hashCode_2 : plainFor yJ18_hashCode_2 = true := by first | exact plainFor_of_name (by decide) | decide +kernel
theorem pfJ21_init : plainFor yJ21_init = true := by first | exact plainFor_of_name (by decide) | decide +kernel
theorem pfJ22_init : plainFor yJ22_init = true := by first | exact plainFor_of_name (by decide) | decide +kernel
theorem pfJ24_init : plainFor yJ24_init = true := by first | exact plainFor_of_name (by decide) | decide +kernel
theorem pfJ25_init : plainFor yJ25_init = true := by first | exact plainFor_of_name (by decide) | decide +kernel
theorem pfJ25_get : plainFor yJ25_get = true := by first | exact plainFor_of_name (by decide) | decide +kernel
theorem pfJ25_afterNodeAccess : plainFor yJ25_afterNodeAccess = true := by first | exact plainFor_of_name (by decide) | decide +kernel
theorem pfJ25_afterNodeInsertion : plainFor yJ25_afterNodeInsertion = true := by first | exact plainFor_of_name (by decide) | decide +kernel
theorem pfJ25_removeEldestEntry : plainFor yJ25_removeEldestEntry = true := by first | exact plainFor_of_name (by decide) | decide +kernel
theorem pfJ25_newNode : plainFor yJ25_newNode = true := by first | exact plainFor_of_name (by decide) | decide +kernel
theorem pfJ25_linkNodeAtEnd : plainFor yJ25_linkNodeAtEnd = true := by first | exact plainFor_of_name (by decide) | decide +kernel
theorem pfJ25_keySet : plainFor yJ25_keySet = true := by first | exact plainFor_of_name (by decide) | decide +kernel
theorem pfJ25_sequencedKeySet : plainFor yJ25_sequencedKeySet = true := by first | exact plainFor_of_name (by decide) | decide +kernel
theorem pfJ26_init : plainFor yJ26_init = true := by first | exact plainFor_of_name (by decide) | decide +kernel
theorem pfJ26_iterator : plainFor yJ26_iterator = true := by first | exact plainFor_of_name (by decide) | decide +kernel
theorem pfJ30_init : plainFor yJ30_init = true := by first | exact plainFor_of_name (by decide) | decide +kernel
theorem pfJ30_hasNext : plainFor yJ30_hasNext = true := by first | exact plainFor_of_name (by decide) | decide +kernel
theorem pfJ30_nextNode : plainFor yJ30_nextNode = true := by first | exact plainFor_of_name (by decide) | decide +kernel
theorem pfJ31_init : plainFor yJ31_init = true := by first | exact plainFor_of_name (by decide) | decide +kernel
theorem pfJ31_next : plainFor yJ31_next = true := by first | exact plainFor_of_name (by decide) | decide +kernel
theorem pfX0_back : plainFor yX0_back = true := plainFor_of_name (by decide)
theorem pfX0_bare : plainFor yX0_bare = true := plainFor_of_name (by decide)
theorem pfX0_begins : plainFor yX0_begins = true := plainFor_of_name (by decide)
theorem pfX0_best : plainFor yX0_best = true := plainFor_of_name (by decide)
theorem pfX0_bestBase : plainFor yX0_bestBase = true := plainFor_of_name (by decide)
theorem pfX0_bestStep : plainFor yX0_bestStep = true := plainFor_of_name (by decide)
theorem pfX0_blockOpening : plainFor yX0_blockOpening = true := plainFor_of_name (by decide)
theorem pfX0_blockRule : plainFor yX0_blockRule = true := plainFor_of_name (by decide)
theorem pfX0_byteAt : plainFor yX0_byteAt = true := plainFor_of_name (by decide)
theorem pfX0_changesOf : plainFor yX0_changesOf = true := plainFor_of_name (by decide)
theorem pfX0_changesWith : plainFor yX0_changesWith = true := plainFor_of_name (by decide)
theorem pfX0_clear : plainFor yX0_clear = true := plainFor_of_name (by decide)
theorem pfX0_closedBy : plainFor yX0_closedBy = true := plainFor_of_name (by decide)
theorem pfX0_commonest : plainFor yX0_commonest = true := plainFor_of_name (by decide)
theorem pfX0_commonestByte : plainFor yX0_commonestByte = true := plainFor_of_name (by decide)
theorem pfX0_commonestCount : plainFor yX0_commonestCount = true := plainFor_of_name (by decide)
theorem pfX0_contentColumn : plainFor yX0_contentColumn = true := plainFor_of_name (by decide)
theorem pfX0_counted : plainFor yX0_counted = true := plainFor_of_name (by decide)
theorem pfX0_cut : plainFor yX0_cut = true := plainFor_of_name (by decide)
theorem pfX0_decided : plainFor yX0_decided = true := plainFor_of_name (by decide)
theorem pfX0_decidingRule : plainFor yX0_decidingRule = true := plainFor_of_name (by decide)
theorem pfX0_depth : plainFor yX0_depth = true := plainFor_of_name (by decide)
theorem pfX0_digest : plainFor yX0_digest = true := plainFor_of_name (by decide)
theorem pfX0_divided : plainFor yX0_divided = true := plainFor_of_name (by decide)
theorem pfX0_draw : plainFor yX0_draw = true := plainFor_of_name (by decide)
theorem pfX0_draws : plainFor yX0_draws = true := plainFor_of_name (by decide)
theorem pfX0_dropRule : plainFor yX0_dropRule = true := plainFor_of_name (by decide)
theorem pfX0_fewestChanges : plainFor yX0_fewestChanges = true := plainFor_of_name (by decide)
theorem pfX0_held : plainFor yX0_held = true := plainFor_of_name (by decide)
theorem pfX0_indentation : plainFor yX0_indentation = true := plainFor_of_name (by decide)
theorem pfX0_init : plainFor yX0_init = true := plainFor_of_name (by decide)
theorem pfX0_insertLine : plainFor yX0_insertLine = true := plainFor_of_name (by decide)
theorem pfX0_isBlock : plainFor yX0_isBlock = true := plainFor_of_name (by decide)
theorem pfX0_isIn : plainFor yX0_isIn = true := plainFor_of_name (by decide)
theorem pfX0_isLine : plainFor yX0_isLine = true := plainFor_of_name (by decide)
theorem pfX0_isOver : plainFor yX0_isOver = true := plainFor_of_name (by decide)
theorem pfX0_isPinned : plainFor yX0_isPinned = true := plainFor_of_name (by decide)
theorem pfX0_isProtected : plainFor yX0_isProtected = true := plainFor_of_name (by decide)
theorem pfX0_isRange : plainFor yX0_isRange = true := plainFor_of_name (by decide)
theorem pfX0_isRule : plainFor yX0_isRule = true := plainFor_of_name (by decide)
theorem pfX0_isToken : plainFor yX0_isToken = true := plainFor_of_name (by decide)
theorem pfX0_isWordByte : plainFor yX0_isWordByte = true := plainFor_of_name (by decide)
theorem pfX0_joinLines : plainFor yX0_joinLines = true := plainFor_of_name (by decide)
theorem pfX0_joiner : plainFor yX0_joiner = true := plainFor_of_name (by decide)
theorem pfX0_keep : plainFor yX0_keep = true := plainFor_of_name (by decide)
theorem pfX0_lay : plainFor yX0_lay = true := plainFor_of_name (by decide)
theorem pfX0_length : plainFor yX0_length = true := plainFor_of_name (by decide)
theorem pfX0_line : plainFor yX0_line = true := plainFor_of_name (by decide)
theorem pfX0_lines : plainFor yX0_lines = true := plainFor_of_name (by decide)
theorem pfX0_lost : plainFor yX0_lost = true := plainFor_of_name (by decide)
theorem pfX0_mixed : plainFor yX0_mixed = true := plainFor_of_name (by decide)
theorem pfX0_mixedRule : plainFor yX0_mixedRule = true := plainFor_of_name (by decide)
theorem pfX0_mixedText : plainFor yX0_mixedText = true := plainFor_of_name (by decide)
theorem pfX0_openedBy : plainFor yX0_openedBy = true := plainFor_of_name (by decide)
theorem pfX0_opening : plainFor yX0_opening = true := plainFor_of_name (by decide)
theorem pfX0_pair : plainFor yX0_pair = true := plainFor_of_name (by decide)
theorem pfX0_piece : plainFor yX0_piece = true := plainFor_of_name (by decide)
theorem pfX0_pin : plainFor yX0_pin = true := plainFor_of_name (by decide)
theorem pfX0_placeOf : plainFor yX0_placeOf = true := plainFor_of_name (by decide)
theorem pfX0_readText : plainFor yX0_readText = true := plainFor_of_name (by decide)
theorem pfX0_reason : plainFor yX0_reason = true := plainFor_of_name (by decide)
theorem pfX0_reindent : plainFor yX0_reindent = true := plainFor_of_name (by decide)
theorem pfX0_removeLine : plainFor yX0_removeLine = true := plainFor_of_name (by decide)
theorem pfX0_replaceLine : plainFor yX0_replaceLine = true := plainFor_of_name (by decide)
theorem pfX0_setBase : plainFor yX0_setBase = true := plainFor_of_name (by decide)
theorem pfX0_setComment : plainFor yX0_setComment = true := plainFor_of_name (by decide)
theorem pfX0_setStep : plainFor yX0_setStep = true := plainFor_of_name (by decide)
theorem pfX0_shift : plainFor yX0_shift = true := plainFor_of_name (by decide)
theorem pfX0_single : plainFor yX0_single = true := plainFor_of_name (by decide)
theorem pfX0_skips : plainFor yX0_skips = true := plainFor_of_name (by decide)
theorem pfX0_splitLine : plainFor yX0_splitLine = true := plainFor_of_name (by decide)
theorem pfX0_starter : plainFor yX0_starter = true := plainFor_of_name (by decide)
theorem pfX0_strays : plainFor yX0_strays = true := plainFor_of_name (by decide)
theorem pfX0_tokenAt : plainFor yX0_tokenAt = true := plainFor_of_name (by decide)
theorem pfX0_tokenKind : plainFor yX0_tokenKind = true := plainFor_of_name (by decide)
theorem pfX0_tokenLength : plainFor yX0_tokenLength = true := plainFor_of_name (by decide)
theorem pfX0_tokens : plainFor yX0_tokens = true := plainFor_of_name (by decide)
theorem pfX0_type : plainFor yX0_type = true := plainFor_of_name (by decide)
theorem pfX0_typed : plainFor yX0_typed = true := plainFor_of_name (by decide)
theorem pfX0_undo : plainFor yX0_undo = true := plainFor_of_name (by decide)
theorem pfX0_vocabulary : plainFor yX0_vocabulary = true := plainFor_of_name (by decide)
theorem pfX0_walked : plainFor yX0_walked = true := plainFor_of_name (by decide)
theorem pfX0_walked_2 : plainFor yX0_walked_2 = true := plainFor_of_name (by decide)
theorem pfX0_wanted : plainFor yX0_wanted = true := plainFor_of_name (by decide)
theorem pfX0_wouldChange : plainFor yX0_wouldChange = true := plainFor_of_name (by decide)
theorem pfX1_copy : plainFor yX1_copy = true := plainFor_of_name (by decide)
theorem pfX1_init : plainFor yX1_init = true := plainFor_of_name (by decide)
theorem pfX2_adds : plainFor yX2_adds = true := plainFor_of_name (by decide)
theorem pfX2_back : plainFor yX2_back = true := plainFor_of_name (by decide)
theorem pfX2_begins : plainFor yX2_begins = true := plainFor_of_name (by decide)
theorem pfX2_bestBase : plainFor yX2_bestBase = true := plainFor_of_name (by decide)
theorem pfX2_bestStep : plainFor yX2_bestStep = true := plainFor_of_name (by decide)
theorem pfX2_bits : plainFor yX2_bits = true := plainFor_of_name (by decide)
theorem pfX2_blockOf : plainFor yX2_blockOf = true := plainFor_of_name (by decide)
theorem pfX2_blockOpening : plainFor yX2_blockOpening = true := plainFor_of_name (by decide)
theorem pfX2_blockRule : plainFor yX2_blockRule = true := plainFor_of_name (by decide)
theorem pfX2_byteAt : plainFor yX2_byteAt = true := plainFor_of_name (by decide)
theorem pfX2_changesBy : plainFor yX2_changesBy = true := plainFor_of_name (by decide)
theorem pfX2_changesWith : plainFor yX2_changesWith = true := plainFor_of_name (by decide)
theorem pfX2_clear : plainFor yX2_clear = true := plainFor_of_name (by decide)
theorem pfX2_closedBy : plainFor yX2_closedBy = true := plainFor_of_name (by decide)
theorem pfX2_columnIn : plainFor yX2_columnIn = true := plainFor_of_name (by decide)
theorem pfX2_columnOf : plainFor yX2_columnOf = true := plainFor_of_name (by decide)
theorem pfX2_commonest : plainFor yX2_commonest = true := plainFor_of_name (by decide)
theorem pfX2_commonestByte : plainFor yX2_commonestByte = true := plainFor_of_name (by decide)
theorem pfX2_commonestCount : plainFor yX2_commonestCount = true := plainFor_of_name (by decide)
theorem pfX2_contentAt : plainFor yX2_contentAt = true := plainFor_of_name (by decide)
theorem pfX2_contentColumn : plainFor yX2_contentColumn = true := plainFor_of_name (by decide)
theorem pfX2_copies : plainFor yX2_copies = true := plainFor_of_name (by decide)
theorem pfX2_copiesLine : plainFor yX2_copiesLine = true := plainFor_of_name (by decide)
theorem pfX2_decides : plainFor yX2_decides = true := plainFor_of_name (by decide)
theorem pfX2_decidingRule : plainFor yX2_decidingRule = true := plainFor_of_name (by decide)
theorem pfX2_depth : plainFor yX2_depth = true := plainFor_of_name (by decide)
theorem pfX2_digest : plainFor yX2_digest = true := plainFor_of_name (by decide)
theorem pfX2_divides : plainFor yX2_divides = true := plainFor_of_name (by decide)
theorem pfX2_draw : plainFor yX2_draw = true := plainFor_of_name (by decide)
theorem pfX2_draws : plainFor yX2_draws = true := plainFor_of_name (by decide)
theorem pfX2_drawsLine : plainFor yX2_drawsLine = true := plainFor_of_name (by decide)
theorem pfX2_dropRule : plainFor yX2_dropRule = true := plainFor_of_name (by decide)
theorem pfX2_drops : plainFor yX2_drops = true := plainFor_of_name (by decide)
theorem pfX2_endOfLiteral : plainFor yX2_endOfLiteral = true := plainFor_of_name (by decide)
theorem pfX2_endOfString : plainFor yX2_endOfString = true := plainFor_of_name (by decide)
theorem pfX2_endOfWord : plainFor yX2_endOfWord = true := plainFor_of_name (by decide)
theorem pfX2_fewestChanges : plainFor yX2_fewestChanges = true := plainFor_of_name (by decide)
theorem pfX2_hasText : plainFor yX2_hasText = true := plainFor_of_name (by decide)
theorem pfX2_in : plainFor yX2_in = true := plainFor_of_name (by decide)
theorem pfX2_indentation : plainFor yX2_indentation = true := plainFor_of_name (by decide)
theorem pfX2_init : plainFor yX2_init = true := plainFor_of_name (by decide)
theorem pfX2_insertLine : plainFor yX2_insertLine = true := plainFor_of_name (by decide)
theorem pfX2_isAligned : plainFor yX2_isAligned = true := plainFor_of_name (by decide)
theorem pfX2_isBlank : plainFor yX2_isBlank = true := plainFor_of_name (by decide)
theorem pfX2_isClosingText : plainFor yX2_isClosingText = true := plainFor_of_name (by decide)
theorem pfX2_isDecided : plainFor yX2_isDecided = true := plainFor_of_name (by decide)
theorem pfX2_isFirst : plainFor yX2_isFirst = true := plainFor_of_name (by decide)
theorem pfX2_isFree : plainFor yX2_isFree = true := plainFor_of_name (by decide)
theorem pfX2_isLine : plainFor yX2_isLine = true := plainFor_of_name (by decide)
theorem pfX2_isLineText : plainFor yX2_isLineText = true := plainFor_of_name (by decide)
theorem pfX2_isPinned : plainFor yX2_isPinned = true := plainFor_of_name (by decide)
theorem pfX2_isProtected : plainFor yX2_isProtected = true := plainFor_of_name (by decide)
theorem pfX2_isRange : plainFor yX2_isRange = true := plainFor_of_name (by decide)
theorem pfX2_isRule : plainFor yX2_isRule = true := plainFor_of_name (by decide)
theorem pfX2_isSame : plainFor yX2_isSame = true := plainFor_of_name (by decide)
theorem pfX2_isTriple : plainFor yX2_isTriple = true := plainFor_of_name (by decide)
theorem pfX2_isWord : plainFor yX2_isWord = true := plainFor_of_name (by decide)
theorem pfX2_joinLines : plainFor yX2_joinLines = true := plainFor_of_name (by decide)
theorem pfX2_joiner : plainFor yX2_joiner = true := plainFor_of_name (by decide)
theorem pfX2_keep : plainFor yX2_keep = true := plainFor_of_name (by decide)
theorem pfX2_least : plainFor yX2_least = true := plainFor_of_name (by decide)
theorem pfX2_length : plainFor yX2_length = true := plainFor_of_name (by decide)
theorem pfX2_lines : plainFor yX2_lines = true := plainFor_of_name (by decide)
theorem pfX2_looks : plainFor yX2_looks = true := plainFor_of_name (by decide)
theorem pfX2_lost : plainFor yX2_lost = true := plainFor_of_name (by decide)
theorem pfX2_makes : plainFor yX2_makes = true := plainFor_of_name (by decide)
theorem pfX2_mixes : plainFor yX2_mixes = true := plainFor_of_name (by decide)
theorem pfX2_mixesRule : plainFor yX2_mixesRule = true := plainFor_of_name (by decide)
theorem pfX2_mixesText : plainFor yX2_mixesText = true := plainFor_of_name (by decide)
theorem pfX2_notes : plainFor yX2_notes = true := plainFor_of_name (by decide)
theorem pfX2_offers : plainFor yX2_offers = true := plainFor_of_name (by decide)
theorem pfX2_openedBy : plainFor yX2_openedBy = true := plainFor_of_name (by decide)
theorem pfX2_pair : plainFor yX2_pair = true := plainFor_of_name (by decide)
theorem pfX2_parts : plainFor yX2_parts = true := plainFor_of_name (by decide)
theorem pfX2_pin : plainFor yX2_pin = true := plainFor_of_name (by decide)
theorem pfX2_placeOf : plainFor yX2_placeOf = true := plainFor_of_name (by decide)
theorem pfX2_readsOne : plainFor yX2_readsOne = true := plainFor_of_name (by decide)
theorem pfX2_readsTexts : plainFor yX2_readsTexts = true := plainFor_of_name (by decide)
theorem pfX2_reason : plainFor yX2_reason = true := plainFor_of_name (by decide)
theorem pfX2_reindent : plainFor yX2_reindent = true := plainFor_of_name (by decide)
theorem pfX2_removeLine : plainFor yX2_removeLine = true := plainFor_of_name (by decide)
theorem pfX2_replaceLine : plainFor yX2_replaceLine = true := plainFor_of_name (by decide)
theorem pfX2_ruleAt : plainFor yX2_ruleAt = true := plainFor_of_name (by decide)
theorem pfX2_ruleFor : plainFor yX2_ruleFor = true := plainFor_of_name (by decide)
theorem pfX2_searches : plainFor yX2_searches = true := plainFor_of_name (by decide)
theorem pfX2_setBase : plainFor yX2_setBase = true := plainFor_of_name (by decide)
theorem pfX2_setComment : plainFor yX2_setComment = true := plainFor_of_name (by decide)
theorem pfX2_setStep : plainFor yX2_setStep = true := plainFor_of_name (by decide)
theorem pfX2_sets : plainFor yX2_sets = true := plainFor_of_name (by decide)
theorem pfX2_settles : plainFor yX2_settles = true := plainFor_of_name (by decide)
theorem pfX2_shift : plainFor yX2_shift = true := plainFor_of_name (by decide)
theorem pfX2_shuts : plainFor yX2_shuts = true := plainFor_of_name (by decide)
theorem pfX2_skips : plainFor yX2_skips = true := plainFor_of_name (by decide)
theorem pfX2_splitLine : plainFor yX2_splitLine = true := plainFor_of_name (by decide)
theorem pfX2_starter : plainFor yX2_starter = true := plainFor_of_name (by decide)
theorem pfX2_strays : plainFor yX2_strays = true := plainFor_of_name (by decide)
theorem pfX2_tokenAt : plainFor yX2_tokenAt = true := plainFor_of_name (by decide)
theorem pfX2_tokenKind : plainFor yX2_tokenKind = true := plainFor_of_name (by decide)
theorem pfX2_tokenLength : plainFor yX2_tokenLength = true := plainFor_of_name (by decide)
theorem pfX2_tokenOf : plainFor yX2_tokenOf = true := plainFor_of_name (by decide)
theorem pfX2_tokenizes : plainFor yX2_tokenizes = true := plainFor_of_name (by decide)
theorem pfX2_tokens : plainFor yX2_tokens = true := plainFor_of_name (by decide)
theorem pfX2_type : plainFor yX2_type = true := plainFor_of_name (by decide)
theorem pfX2_undo : plainFor yX2_undo = true := plainFor_of_name (by decide)
theorem pfX2_uses : plainFor yX2_uses = true := plainFor_of_name (by decide)
theorem pfX2_vocabulary : plainFor yX2_vocabulary = true := plainFor_of_name (by decide)
theorem pfX2_wanted : plainFor yX2_wanted = true := plainFor_of_name (by decide)
theorem pfX2_wouldChange : plainFor yX2_wouldChange = true := plainFor_of_name (by decide)
theorem pfX2_writes : plainFor yX2_writes = true := plainFor_of_name (by decide)
theorem pfX2_writesText : plainFor yX2_writesText = true := plainFor_of_name (by decide)
theorem pfX3_copy : plainFor yX3_copy = true := plainFor_of_name (by decide)
theorem pfX3_init : plainFor yX3_init = true := plainFor_of_name (by decide)
theorem pfX3_isBlank : plainFor yX3_isBlank = true := plainFor_of_name (by decide)
theorem pfX4_begin : plainFor yX4_begin = true := plainFor_of_name (by decide)
theorem pfX4_closes : plainFor yX4_closes = true := plainFor_of_name (by decide)
theorem pfX4_closing : plainFor yX4_closing = true := plainFor_of_name (by decide)
theorem pfX4_decide : plainFor yX4_decide = true := plainFor_of_name (by decide)
theorem pfX4_init : plainFor yX4_init = true := plainFor_of_name (by decide)
theorem pfX4_isAligned : plainFor yX4_isAligned = true := plainFor_of_name (by decide)
theorem pfX4_isDecided : plainFor yX4_isDecided = true := plainFor_of_name (by decide)
theorem pfX4_opens : plainFor yX4_opens = true := plainFor_of_name (by decide)
theorem pfX4_pass : plainFor yX4_pass = true := plainFor_of_name (by decide)
theorem pfX4_passTo : plainFor yX4_passTo = true := plainFor_of_name (by decide)
theorem pfX4_push : plainFor yX4_push = true := plainFor_of_name (by decide)
theorem pfX4_reindent : plainFor yX4_reindent = true := plainFor_of_name (by decide)
theorem pfX4_ruleOf : plainFor yX4_ruleOf = true := plainFor_of_name (by decide)
theorem pfX4_take : plainFor yX4_take = true := plainFor_of_name (by decide)
theorem pfX5_count : plainFor yX5_count = true := plainFor_of_name (by decide)
theorem pfX5_divide : plainFor yX5_divide = true := plainFor_of_name (by decide)
theorem pfX5_findRules : plainFor yX5_findRules = true := plainFor_of_name (by decide)
theorem pfX5_get : plainFor yX5_get = true := plainFor_of_name (by decide)
theorem pfX5_init : plainFor yX5_init = true := plainFor_of_name (by decide)
theorem pfX5_isLiteral : plainFor yX5_isLiteral = true := plainFor_of_name (by decide)
theorem pfX5_literalEnd : plainFor yX5_literalEnd = true := plainFor_of_name (by decide)
theorem pfX5_numberOf : plainFor yX5_numberOf = true := plainFor_of_name (by decide)
theorem pfX5_stringEnd : plainFor yX5_stringEnd = true := plainFor_of_name (by decide)
theorem pfX5_use : plainFor yX5_use = true := plainFor_of_name (by decide)
theorem pfX5_wordEnd : plainFor yX5_wordEnd = true := plainFor_of_name (by decide)
theorem pfX5_wordOf : plainFor yX5_wordOf = true := plainFor_of_name (by decide)
theorem pfX6_init : plainFor yX6_init = true := plainFor_of_name (by decide)
theorem pfX7_closesBy : plainFor yX7_closesBy = true := plainFor_of_name (by decide)
theorem pfX7_init : plainFor yX7_init = true := plainFor_of_name (by decide)
theorem pfX8_equals : plainFor yX8_equals = true := plainFor_of_name (by decide)
theorem pfX8_hashCode : plainFor yX8_hashCode = true := plainFor_of_name (by decide)
theorem pfX8_init : plainFor yX8_init = true := plainFor_of_name (by decide)
