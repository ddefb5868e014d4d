set_option maxRecDepth 100000
abbrev mJ0_init : nd_Mt := (yJ0_init, cJ0_init, 1, (Option.none : Option Jvm.ClassFile.FieldType), none)
abbrev mJ1_init : nd_Mt := (yJ1_init, cJ1_init, 1, (Option.none : Option Jvm.ClassFile.FieldType), none)
abbrev mJ11_checkIndex : nd_Mt := (yJ11_checkIndex, cJ11_checkIndex, 3, (Option.some Jvm.ClassFile.FieldType.int), none)
abbrev mJ13_init : nd_Mt := (yJ13_init, cJ13_init, 1, (Option.none : Option Jvm.ClassFile.FieldType), none)
abbrev mJ14_getChars : nd_Mt := (yJ14_getChars, cJ14_getChars, 7, (Option.some Jvm.ClassFile.FieldType.int), none)
abbrev mJ14_init : nd_Mt := (yJ14_init, cJ14_init, 2, (Option.none : Option Jvm.ClassFile.FieldType), none)
abbrev mJ14_intValue : nd_Mt := (yJ14_intValue, cJ14_intValue, 1, (Option.some Jvm.ClassFile.FieldType.int), none)
abbrev mJ14_stringSize : nd_Mt := (yJ14_stringSize, cJ14_stringSize, 4, (Option.some Jvm.ClassFile.FieldType.int), none)
abbrev mJ14_valueOf : nd_Mt := (yJ14_valueOf, cJ14_valueOf, 1, (Option.some (Jvm.ClassFile.FieldType.object "java/lang/Integer")), none)
abbrev mJ15_hugeLength : nd_Mt := (yJ15_hugeLength, cJ15_hugeLength, 3, (Option.some Jvm.ClassFile.FieldType.int), none)
abbrev mJ15_newLength : nd_Mt := (yJ15_newLength, cJ15_newLength, 4, (Option.some Jvm.ClassFile.FieldType.int), none)
abbrev mJ16_checkLength : nd_Mt := (yJ16_checkLength, cJ16_checkLength, 2, (Option.none : Option Jvm.ClassFile.FieldType), none)
abbrev mJ16_copyOf : nd_Mt := (yJ16_copyOf, cJ16_copyOf, 2, (Option.some (Jvm.ClassFile.FieldType.array (Jvm.ClassFile.FieldType.object "java/lang/Object"))), none)
abbrev mJ16_copyOfRange : nd_Mt := (yJ16_copyOfRange, cJ16_copyOfRange, 3, (Option.some (Jvm.ClassFile.FieldType.array Jvm.ClassFile.FieldType.byte)), none)
abbrev mJ16_copyOfRangeByte : nd_Mt := (yJ16_copyOfRangeByte, cJ16_copyOfRangeByte, 5, (Option.some (Jvm.ClassFile.FieldType.array Jvm.ClassFile.FieldType.byte)), none)
abbrev mJ16_copyOf_2 : nd_Mt := (yJ16_copyOf_2, cJ16_copyOf_2, 4, (Option.some (Jvm.ClassFile.FieldType.array (Jvm.ClassFile.FieldType.object "java/lang/Object"))), none)
abbrev mJ16_copyOf_3 : nd_Mt := (yJ16_copyOf_3, cJ16_copyOf_3, 3, (Option.some (Jvm.ClassFile.FieldType.array Jvm.ClassFile.FieldType.byte)), none)
abbrev mJ16_copyOf_4 : nd_Mt := (yJ16_copyOf_4, cJ16_copyOf_4, 3, (Option.some (Jvm.ClassFile.FieldType.array Jvm.ClassFile.FieldType.int)), none)
abbrev mJ16_rangeCheck : nd_Mt := (yJ16_rangeCheck, cJ16_rangeCheck, 3, (Option.none : Option Jvm.ClassFile.FieldType), none)
abbrev mJ16_sort : nd_Mt := (yJ16_sort, cJ16_sort, 3, (Option.none : Option Jvm.ClassFile.FieldType), none)
abbrev mJ17_checkIndex : nd_Mt := (yJ17_checkIndex, cJ17_checkIndex, 2, (Option.some Jvm.ClassFile.FieldType.int), none)
abbrev mJ18_init : nd_Mt := (yJ18_init, cJ18_init, 1, (Option.none : Option Jvm.ClassFile.FieldType), none)
abbrev mJ19_init : nd_Mt := (yJ19_init, cJ19_init, 1, (Option.none : Option Jvm.ClassFile.FieldType), none)
abbrev mJ2_add : nd_Mt := (yJ2_add, cJ2_add, 2, (Option.some Jvm.ClassFile.FieldType.boolean), none)
abbrev mJ2_add_2 : nd_Mt := (yJ2_add_2, cJ2_add_2, 4, (Option.none : Option Jvm.ClassFile.FieldType), none)
abbrev mJ2_clear : nd_Mt := (yJ2_clear, cJ2_clear, 4, (Option.none : Option Jvm.ClassFile.FieldType), none)
abbrev mJ2_elementData : nd_Mt := (yJ2_elementData, cJ2_elementData, 2, (Option.some (Jvm.ClassFile.FieldType.object "java/lang/Object")), none)
abbrev mJ2_fastRemove : nd_Mt := (yJ2_fastRemove, cJ2_fastRemove, 4, (Option.none : Option Jvm.ClassFile.FieldType), none)
abbrev mJ2_get : nd_Mt := (yJ2_get, cJ2_get, 2, (Option.some (Jvm.ClassFile.FieldType.object "java/lang/Object")), none)
abbrev mJ2_grow : nd_Mt := (yJ2_grow, cJ2_grow, 1, (Option.some (Jvm.ClassFile.FieldType.array (Jvm.ClassFile.FieldType.object "java/lang/Object"))), none)
abbrev mJ2_grow_2 : nd_Mt := (yJ2_grow_2, cJ2_grow_2, 4, (Option.some (Jvm.ClassFile.FieldType.array (Jvm.ClassFile.FieldType.object "java/lang/Object"))), none)
abbrev mJ2_init : nd_Mt := (yJ2_init, cJ2_init, 1, (Option.none : Option Jvm.ClassFile.FieldType), none)
abbrev mJ2_iterator : nd_Mt := (yJ2_iterator, cJ2_iterator, 1, (Option.some (Jvm.ClassFile.FieldType.object "java/util/Iterator")), none)
abbrev mJ2_remove : nd_Mt := (yJ2_remove, cJ2_remove, 4, (Option.some (Jvm.ClassFile.FieldType.object "java/lang/Object")), none)
abbrev mJ2_size : nd_Mt := (yJ2_size, cJ2_size, 1, (Option.some Jvm.ClassFile.FieldType.int), none)
abbrev mJ22_init : nd_Mt := (yJ22_init, cJ22_init, 1, (Option.none : Option Jvm.ClassFile.FieldType), none)
abbrev mJ22_init_2 : nd_Mt := (yJ22_init_2, cJ22_init_2, 2, (Option.none : Option Jvm.ClassFile.FieldType), none)
abbrev mJ23_init : nd_Mt := (yJ23_init, cJ23_init, 2, (Option.none : Option Jvm.ClassFile.FieldType), none)
abbrev mJ23_init_2 : nd_Mt := (yJ23_init_2, cJ23_init_2, 1, (Option.none : Option Jvm.ClassFile.FieldType), none)
abbrev mJ24_init : nd_Mt := (yJ24_init, cJ24_init, 2, (Option.none : Option Jvm.ClassFile.FieldType), none)
abbrev mJ24_init_2 : nd_Mt := (yJ24_init_2, cJ24_init_2, 2, (Option.none : Option Jvm.ClassFile.FieldType), none)
abbrev mJ25_heapSort : nd_Mt := (yJ25_heapSort, cJ25_heapSort, 5, (Option.none : Option Jvm.ClassFile.FieldType), none)
abbrev mJ25_insertionSort : nd_Mt := (yJ25_insertionSort, cJ25_insertionSort, 7, (Option.none : Option Jvm.ClassFile.FieldType), none)
abbrev mJ25_mergeParts : nd_Mt := (yJ25_mergeParts, cJ25_mergeParts, 15, (Option.none : Option Jvm.ClassFile.FieldType), none)
abbrev mJ25_mergeRuns : nd_Mt := (yJ25_mergeRuns, cJ25_mergeRuns, 18, (Option.some (Jvm.ClassFile.FieldType.array Jvm.ClassFile.FieldType.long)), none)
abbrev mJ25_mixedInsertionSort : nd_Mt := (yJ25_mixedInsertionSort, cJ25_mixedInsertionSort, 11, (Option.none : Option Jvm.ClassFile.FieldType), none)
abbrev mJ25_pushDown : nd_Mt := (yJ25_pushDown, cJ25_pushDown, 7, (Option.none : Option Jvm.ClassFile.FieldType), none)
abbrev mJ25_sort : nd_Mt := (yJ25_sort, cJ25_sort, 7, (Option.none : Option Jvm.ClassFile.FieldType), none)
abbrev mJ25_sort_2 : nd_Mt := (yJ25_sort_2, cJ25_sort_2, 25, (Option.none : Option Jvm.ClassFile.FieldType), none)
abbrev mJ25_tryMergeRuns : nd_Mt := (yJ25_tryMergeRuns, cJ25_tryMergeRuns, 13, (Option.some Jvm.ClassFile.FieldType.boolean), none)
abbrev mJ26_init : nd_Mt := (yJ26_init, cJ26_init, 1, (Option.none : Option Jvm.ClassFile.FieldType), none)
abbrev mJ27_checkForComodification : nd_Mt := (yJ27_checkForComodification, cJ27_checkForComodification, 1, (Option.none : Option Jvm.ClassFile.FieldType), none)
abbrev mJ27_hasNext : nd_Mt := (yJ27_hasNext, cJ27_hasNext, 1, (Option.some Jvm.ClassFile.FieldType.boolean), none)
abbrev mJ27_init : nd_Mt := (yJ27_init, cJ27_init, 2, (Option.none : Option Jvm.ClassFile.FieldType), none)
abbrev mJ27_next : nd_Mt := (yJ27_next, cJ27_next, 3, (Option.some (Jvm.ClassFile.FieldType.object "java/lang/Object")), none)
abbrev mJ28_init : nd_Mt := (yJ28_init, cJ28_init, 1, (Option.none : Option Jvm.ClassFile.FieldType), none)
abbrev mJ3_init : nd_Mt := (yJ3_init, cJ3_init, 1, (Option.none : Option Jvm.ClassFile.FieldType), none)
abbrev mJ3_init_2 : nd_Mt := (yJ3_init_2, cJ3_init_2, 2, (Option.none : Option Jvm.ClassFile.FieldType), none)
abbrev mJ3_init_3 : nd_Mt := (yJ3_init_3, cJ3_init_3, 5, (Option.none : Option Jvm.ClassFile.FieldType), none)
abbrev mJ4_init : nd_Mt := (yJ4_init, cJ4_init, 1, (Option.none : Option Jvm.ClassFile.FieldType), none)
abbrev mJ4_init_2 : nd_Mt := (yJ4_init_2, cJ4_init_2, 2, (Option.none : Option Jvm.ClassFile.FieldType), none)
abbrev mJ4_init_3 : nd_Mt := (yJ4_init_3, cJ4_init_3, 5, (Option.none : Option Jvm.ClassFile.FieldType), none)
abbrev mJ5_init : nd_Mt := (yJ5_init, cJ5_init, 1, (Option.none : Option Jvm.ClassFile.FieldType), none)
abbrev mJ5_init_2 : nd_Mt := (yJ5_init_2, cJ5_init_2, 2, (Option.none : Option Jvm.ClassFile.FieldType), none)
abbrev mJ6_init : nd_Mt := (yJ6_init, cJ6_init, 2, (Option.none : Option Jvm.ClassFile.FieldType), none)
abbrev mJ6_init_2 : nd_Mt := (yJ6_init_2, cJ6_init_2, 1, (Option.none : Option Jvm.ClassFile.FieldType), none)
abbrev mJ7_charAt : nd_Mt := (yJ7_charAt, cJ7_charAt, 2, (Option.some Jvm.ClassFile.FieldType.char), none)
abbrev mJ7_checkBoundsBeginEnd : nd_Mt := (yJ7_checkBoundsBeginEnd, cJ7_checkBoundsBeginEnd, 3, (Option.none : Option Jvm.ClassFile.FieldType), none)
abbrev mJ7_checkBoundsOffCount : nd_Mt := (yJ7_checkBoundsOffCount, cJ7_checkBoundsOffCount, 3, (Option.some Jvm.ClassFile.FieldType.int), none)
abbrev mJ7_checkIndex : nd_Mt := (yJ7_checkIndex, cJ7_checkIndex, 2, (Option.none : Option Jvm.ClassFile.FieldType), none)
abbrev mJ7_coder : nd_Mt := (yJ7_coder, cJ7_coder, 1, (Option.some Jvm.ClassFile.FieldType.byte), none)
abbrev mJ7_getBytes : nd_Mt := (yJ7_getBytes, cJ7_getBytes, 4, (Option.none : Option Jvm.ClassFile.FieldType), none)
abbrev mJ7_indexOf : nd_Mt := (yJ7_indexOf, cJ7_indexOf, 2, (Option.some Jvm.ClassFile.FieldType.int), none)
abbrev mJ7_indexOf_2 : nd_Mt := (yJ7_indexOf_2, cJ7_indexOf_2, 3, (Option.some Jvm.ClassFile.FieldType.int), none)
abbrev mJ7_init : nd_Mt := (yJ7_init, cJ7_init, 2, (Option.none : Option Jvm.ClassFile.FieldType), none)
abbrev mJ7_init_2 : nd_Mt := (yJ7_init_2, cJ7_init_2, 5, (Option.none : Option Jvm.ClassFile.FieldType), none)
abbrev mJ7_isLatin1 : nd_Mt := (yJ7_isLatin1, cJ7_isLatin1, 1, (Option.some Jvm.ClassFile.FieldType.boolean), none)
abbrev mJ7_length : nd_Mt := (yJ7_length, cJ7_length, 1, (Option.some Jvm.ClassFile.FieldType.int), none)
abbrev mJ8_canEncode : nd_Mt := (yJ8_canEncode, cJ8_canEncode, 1, (Option.some Jvm.ClassFile.FieldType.boolean), none)
abbrev mJ8_charAt : nd_Mt := (yJ8_charAt, cJ8_charAt, 2, (Option.some Jvm.ClassFile.FieldType.char), none)
abbrev mJ8_indexOf : nd_Mt := (yJ8_indexOf, cJ8_indexOf, 4, (Option.some Jvm.ClassFile.FieldType.int), none)
abbrev mJ8_indexOfChar : nd_Mt := (yJ8_indexOfChar, cJ8_indexOfChar, 6, (Option.some Jvm.ClassFile.FieldType.int), none)
abbrev mJ8_inflate : nd_Mt := (yJ8_inflate, cJ8_inflate, 5, (Option.none : Option Jvm.ClassFile.FieldType), none)
abbrev mJ9_max : nd_Mt := (yJ9_max, cJ9_max, 2, (Option.some Jvm.ClassFile.FieldType.int), none)
abbrev mJ9_max_2 : nd_Mt := (yJ9_max_2, cJ9_max_2, 4, (Option.some Jvm.ClassFile.FieldType.long), none)
abbrev mJ9_min : nd_Mt := (yJ9_min, cJ9_min, 4, (Option.some Jvm.ClassFile.FieldType.long), none)
abbrev mJ9_min_2 : nd_Mt := (yJ9_min_2, cJ9_min_2, 2, (Option.some Jvm.ClassFile.FieldType.int), none)
abbrev mX0_above : nd_Mt := (yX0_above, cX0_above, 4, (Option.some Jvm.ClassFile.FieldType.int), (some [((0), (9), (12), (19))]))
abbrev mX0_amend : nd_Mt := (yX0_amend, cX0_amend, 6, (Option.some Jvm.ClassFile.FieldType.int), (some [((0), (12), (15), (19)), ((0), (12), (19), (13))]))
abbrev mX0_beneath : nd_Mt := (yX0_beneath, cX0_beneath, 4, (Option.some Jvm.ClassFile.FieldType.int), (some [((0), (9), (12), (19))]))
abbrev mX0_best : nd_Mt := (yX0_best, cX0_best, 5, (Option.some Jvm.ClassFile.FieldType.int), (some [((0), (10), (13), (13))]))
abbrev mX0_better : nd_Mt := (yX0_better, cX0_better, 4, (Option.some Jvm.ClassFile.FieldType.int), (some [((0), (9), (12), (13))]))
abbrev mX0_cell : nd_Mt := (yX0_cell, cX0_cell, 5, (Option.some Jvm.ClassFile.FieldType.int), (some [((0), (10), (13), (19)), ((0), (10), (17), (13))]))
abbrev mX0_copy : nd_Mt := (yX0_copy, cX0_copy, 4, (Option.some Jvm.ClassFile.FieldType.int), (some [((0), (9), (12), (19)), ((0), (9), (15), (46))]))
abbrev mX0_crease : nd_Mt := (yX0_crease, cX0_crease, 4, (Option.some Jvm.ClassFile.FieldType.int), (some [((0), (9), (12), (19))]))
abbrev mX0_evening : nd_Mt := (yX0_evening, cX0_evening, 5, (Option.some Jvm.ClassFile.FieldType.int), (some [((0), (10), (13), (13))]))
abbrev mX0_fairest : nd_Mt := (yX0_fairest, cX0_fairest, 5, (Option.some Jvm.ClassFile.FieldType.int), (some [((0), (10), (13), (13))]))
abbrev mX0_folded : nd_Mt := (yX0_folded, cX0_folded, 4, (Option.some Jvm.ClassFile.FieldType.int), (some [((0), (9), (12), (13))]))
abbrev mX0_high : nd_Mt := (yX0_high, cX0_high, 4, (Option.some Jvm.ClassFile.FieldType.int), (some [((0), (9), (12), (19))]))
abbrev mX0_holding : nd_Mt := (yX0_holding, cX0_holding, 4, (Option.some Jvm.ClassFile.FieldType.int), (some [((0), (9), (12), (13))]))
abbrev mX0_image : nd_Mt := (yX0_image, cX0_image, 3, (Option.some Jvm.ClassFile.FieldType.int), (some [((0), (5), (8), (19))]))
abbrev mX0_judge : nd_Mt := (yX0_judge, cX0_judge, 5, (Option.some Jvm.ClassFile.FieldType.int), (some [((0), (10), (13), (19)), ((0), (10), (17), (46)), ((0), (10), (21), (13))]))
abbrev mX0_keenest : nd_Mt := (yX0_keenest, cX0_keenest, 4, (Option.some Jvm.ClassFile.FieldType.int), (some [((0), (9), (12), (13))]))
abbrev mX0_layer : nd_Mt := (yX0_layer, cX0_layer, 5, (Option.some Jvm.ClassFile.FieldType.int), (some [((0), (10), (13), (19)), ((0), (10), (17), (13))]))
abbrev mX0_likes : nd_Mt := (yX0_likes, cX0_likes, 4, (Option.some Jvm.ClassFile.FieldType.int), (some [((0), (9), (12), (19))]))
abbrev mX0_look : nd_Mt := (yX0_look, cX0_look, 5, (Option.some Jvm.ClassFile.FieldType.int), (some [((0), (10), (13), (19)), ((0), (10), (17), (46)), ((0), (10), (21), (13))]))
abbrev mX0_looks : nd_Mt := (yX0_looks, cX0_looks, 4, (Option.some Jvm.ClassFile.FieldType.int), (some [((0), (9), (12), (13))]))
abbrev mX0_made : nd_Mt := (yX0_made, cX0_made, 4, (Option.some Jvm.ClassFile.FieldType.int), (some [((0), (9), (12), (19)), ((0), (9), (15), (46)), ((0), (9), (18), (13))]))
abbrev mX0_madeBy : nd_Mt := (yX0_madeBy, cX0_madeBy, 5, (Option.some Jvm.ClassFile.FieldType.int), (some [((0), (10), (13), (19)), ((0), (10), (17), (46)), ((0), (10), (21), (13))]))
abbrev mX0_napkin : nd_Mt := (yX0_napkin, cX0_napkin, 4, (Option.some Jvm.ClassFile.FieldType.int), (some [((0), (9), (12), (13))]))
abbrev mX0_perform : nd_Mt := (yX0_perform, cX0_perform, 4, (Option.some Jvm.ClassFile.FieldType.int), (some [((0), (9), (12), (19)), ((0), (9), (15), (46))]))
abbrev mX0_reads : nd_Mt := (yX0_reads, cX0_reads, 5, (Option.some Jvm.ClassFile.FieldType.int), (some [((0), (10), (13), (19)), ((0), (10), (17), (46)), ((0), (10), (21), (13))]))
abbrev mX0_restore : nd_Mt := (yX0_restore, cX0_restore, 3, (Option.some Jvm.ClassFile.FieldType.int), (some [((0), (5), (8), (19)), ((0), (5), (11), (46))]))
abbrev mX0_rows : nd_Mt := (yX0_rows, cX0_rows, 4, (Option.some Jvm.ClassFile.FieldType.int), (some [((0), (9), (12), (13))]))
abbrev mX0_seen : nd_Mt := (yX0_seen, cX0_seen, 5, (Option.some Jvm.ClassFile.FieldType.int), (some [((0), (10), (13), (19)), ((0), (10), (17), (46)), ((0), (10), (21), (13))]))
abbrev mX0_shake : nd_Mt := (yX0_shake, cX0_shake, 3, (Option.some Jvm.ClassFile.FieldType.int), (some [((0), (8), (11), (46))]))
abbrev mX0_soonest : nd_Mt := (yX0_soonest, cX0_soonest, 4, (Option.some Jvm.ClassFile.FieldType.int), (some [((0), (9), (12), (13))]))
abbrev mX0_stack : nd_Mt := (yX0_stack, cX0_stack, 4, (Option.some Jvm.ClassFile.FieldType.int), (some [((0), (9), (12), (19)), ((0), (9), (15), (46)), ((0), (9), (18), (13))]))
abbrev mX0_stands : nd_Mt := (yX0_stands, cX0_stands, 4, (Option.some Jvm.ClassFile.FieldType.int), (some [((0), (16), (19), (19)), ((0), (16), (22), (46)), ((0), (16), (25), (13))]))
abbrev mX0_sure : nd_Mt := (yX0_sure, cX0_sure, 5, (Option.some Jvm.ClassFile.FieldType.int), (some [((0), (10), (13), (19)), ((0), (10), (17), (46)), ((0), (10), (21), (13))]))
abbrev mX0_tray : nd_Mt := (yX0_tray, cX0_tray, 5, (Option.some Jvm.ClassFile.FieldType.int), (some [((0), (7), (10), (19)), ((0), (7), (14), (13))]))
abbrev mX0_undo : nd_Mt := (yX0_undo, cX0_undo, 4, (Option.some Jvm.ClassFile.FieldType.int), (some [((0), (9), (12), (13))]))
abbrev mX0_unfold : nd_Mt := (yX0_unfold, cX0_unfold, 3, (Option.some Jvm.ClassFile.FieldType.int), (some [((0), (8), (11), (46))]))
abbrev mX0_write : nd_Mt := (yX0_write, cX0_write, 7, (Option.some Jvm.ClassFile.FieldType.int), (some [((0), (11), (14), (19)), ((0), (11), (18), (46)), ((0), (11), (22), (124))]))
abbrev mX1_above : nd_Mt := (yX1_above, cX1_above, 2, (Option.some Jvm.ClassFile.FieldType.int), none)
abbrev mX1_amend : nd_Mt := (yX1_amend, cX1_amend, 4, (Option.some Jvm.ClassFile.FieldType.int), none)
abbrev mX1_asks : nd_Mt := (yX1_asks, cX1_asks, 4, (Option.some (Jvm.ClassFile.FieldType.object "NapkinDeeds$Case")), none)
abbrev mX1_at : nd_Mt := (yX1_at, cX1_at, 3, (Option.some (Jvm.ClassFile.FieldType.object "NapkinDeeds$Look")), none)
abbrev mX1_beneath : nd_Mt := (yX1_beneath, cX1_beneath, 2, (Option.some Jvm.ClassFile.FieldType.int), none)
abbrev mX1_best : nd_Mt := (yX1_best, cX1_best, 4, (Option.some Jvm.ClassFile.FieldType.int), none)
abbrev mX1_bestOf : nd_Mt := (yX1_bestOf, cX1_bestOf, 3, (Option.some (Jvm.ClassFile.FieldType.object "NapkinDeeds$Best")), none)
abbrev mX1_better : nd_Mt := (yX1_better, cX1_better, 4, (Option.some Jvm.ClassFile.FieldType.int), none)
abbrev mX1_can : nd_Mt := (yX1_can, cX1_can, 1, (Option.none : Option Jvm.ClassFile.FieldType), none)
abbrev mX1_cell : nd_Mt := (yX1_cell, cX1_cell, 4, (Option.some Jvm.ClassFile.FieldType.int), none)
abbrev mX1_cells : nd_Mt := (yX1_cells, cX1_cells, 1, (Option.some Jvm.ClassFile.FieldType.int), none)
abbrev mX1_copies : nd_Mt := (yX1_copies, cX1_copies, 5, (Option.none : Option Jvm.ClassFile.FieldType), none)
abbrev mX1_copy : nd_Mt := (yX1_copy, cX1_copy, 6, (Option.some Jvm.ClassFile.FieldType.int), none)
abbrev mX1_count : nd_Mt := (yX1_count, cX1_count, 2, (Option.some Jvm.ClassFile.FieldType.int), none)
abbrev mX1_crease : nd_Mt := (yX1_crease, cX1_crease, 2, (Option.some Jvm.ClassFile.FieldType.int), none)
abbrev mX1_creasesOf : nd_Mt := (yX1_creasesOf, cX1_creasesOf, 5, (Option.some Jvm.ClassFile.FieldType.int), none)
abbrev mX1_does : nd_Mt := (yX1_does, cX1_does, 2, (Option.none : Option Jvm.ClassFile.FieldType), none)
abbrev mX1_draw : nd_Mt := (yX1_draw, cX1_draw, 2, (Option.some Jvm.ClassFile.FieldType.int), none)
abbrev mX1_drawn : nd_Mt := (yX1_drawn, cX1_drawn, 3, (Option.some Jvm.ClassFile.FieldType.int), none)
abbrev mX1_evening : nd_Mt := (yX1_evening, cX1_evening, 6, (Option.some Jvm.ClassFile.FieldType.int), none)
abbrev mX1_fairest : nd_Mt := (yX1_fairest, cX1_fairest, 4, (Option.some Jvm.ClassFile.FieldType.int), none)
abbrev mX1_fault : nd_Mt := (yX1_fault, cX1_fault, 2, (Option.some Jvm.ClassFile.FieldType.int), none)
abbrev mX1_feed : nd_Mt := (yX1_feed, cX1_feed, 6, (Option.some Jvm.ClassFile.FieldType.int), none)
abbrev mX1_fold : nd_Mt := (yX1_fold, cX1_fold, 4, (Option.some Jvm.ClassFile.FieldType.int), none)
abbrev mX1_folded : nd_Mt := (yX1_folded, cX1_folded, 2, (Option.some Jvm.ClassFile.FieldType.int), none)
abbrev mX1_four : nd_Mt := (yX1_four, cX1_four, 3, (Option.none : Option Jvm.ClassFile.FieldType), none)
abbrev mX1_guests : nd_Mt := (yX1_guests, cX1_guests, 1, (Option.some Jvm.ClassFile.FieldType.int), none)
abbrev mX1_has : nd_Mt := (yX1_has, cX1_has, 2, (Option.some Jvm.ClassFile.FieldType.boolean), none)
abbrev mX1_high : nd_Mt := (yX1_high, cX1_high, 2, (Option.some Jvm.ClassFile.FieldType.int), none)
abbrev mX1_holding : nd_Mt := (yX1_holding, cX1_holding, 3, (Option.some Jvm.ClassFile.FieldType.int), none)
abbrev mX1_holds : nd_Mt := (yX1_holds, cX1_holds, 1, (Option.some Jvm.ClassFile.FieldType.boolean), none)
abbrev mX1_holds_2 : nd_Mt := (yX1_holds_2, cX1_holds_2, 3, (Option.some Jvm.ClassFile.FieldType.boolean), none)
abbrev mX1_image : nd_Mt := (yX1_image, cX1_image, 2, (Option.none : Option Jvm.ClassFile.FieldType), none)
abbrev mX1_init : nd_Mt := (yX1_init, cX1_init, 1, (Option.none : Option Jvm.ClassFile.FieldType), none)
abbrev mX1_isIn : nd_Mt := (yX1_isIn, cX1_isIn, 6, (Option.some Jvm.ClassFile.FieldType.boolean), none)
abbrev mX1_judge : nd_Mt := (yX1_judge, cX1_judge, 6, (Option.some Jvm.ClassFile.FieldType.int), none)
abbrev mX1_keenest : nd_Mt := (yX1_keenest, cX1_keenest, 9, (Option.some Jvm.ClassFile.FieldType.int), none)
abbrev mX1_layer : nd_Mt := (yX1_layer, cX1_layer, 4, (Option.some Jvm.ClassFile.FieldType.int), none)
abbrev mX1_leastLikes : nd_Mt := (yX1_leastLikes, cX1_leastLikes, 5, (Option.some Jvm.ClassFile.FieldType.int), none)
abbrev mX1_likes : nd_Mt := (yX1_likes, cX1_likes, 4, (Option.some Jvm.ClassFile.FieldType.int), none)
abbrev mX1_likesNow : nd_Mt := (yX1_likesNow, cX1_likesNow, 3, (Option.some (Jvm.ClassFile.FieldType.array Jvm.ClassFile.FieldType.int)), none)
abbrev mX1_likes_2 : nd_Mt := (yX1_likes_2, cX1_likes_2, 2, (Option.some Jvm.ClassFile.FieldType.int), none)
abbrev mX1_look : nd_Mt := (yX1_look, cX1_look, 12, (Option.some Jvm.ClassFile.FieldType.int), none)
abbrev mX1_looks : nd_Mt := (yX1_looks, cX1_looks, 3, (Option.some Jvm.ClassFile.FieldType.int), none)
abbrev mX1_made : nd_Mt := (yX1_made, cX1_made, 4, (Option.some Jvm.ClassFile.FieldType.int), none)
abbrev mX1_madeBy : nd_Mt := (yX1_madeBy, cX1_madeBy, 5, (Option.some Jvm.ClassFile.FieldType.int), none)
abbrev mX1_marks : nd_Mt := (yX1_marks, cX1_marks, 6, (Option.some Jvm.ClassFile.FieldType.int), none)
abbrev mX1_marksOf : nd_Mt := (yX1_marksOf, cX1_marksOf, 4, (Option.some (Jvm.ClassFile.FieldType.object "NapkinDeeds$Tray")), none)
abbrev mX1_mustBe : nd_Mt := (yX1_mustBe, cX1_mustBe, 1, (Option.none : Option Jvm.ClassFile.FieldType), none)
abbrev mX1_mustRows : nd_Mt := (yX1_mustRows, cX1_mustRows, 1, (Option.none : Option Jvm.ClassFile.FieldType), none)
abbrev mX1_mustTell : nd_Mt := (yX1_mustTell, cX1_mustTell, 1, (Option.none : Option Jvm.ClassFile.FieldType), none)
abbrev mX1_napkin : nd_Mt := (yX1_napkin, cX1_napkin, 5, (Option.some Jvm.ClassFile.FieldType.int), (some [((24), (64), (71), (139)), ((24), (64), (103), (0)), ((71), (96), (103), (0)), ((103), (105), (103), (0))]))
abbrev mX1_needs : nd_Mt := (yX1_needs, cX1_needs, 1, (Option.none : Option Jvm.ClassFile.FieldType), none)
abbrev mX1_notes : nd_Mt := (yX1_notes, cX1_notes, 2, (Option.none : Option Jvm.ClassFile.FieldType), none)
abbrev mX1_now : nd_Mt := (yX1_now, cX1_now, 1, (Option.some (Jvm.ClassFile.FieldType.object "NapkinDeeds$Look")), none)
abbrev mX1_patterns : nd_Mt := (yX1_patterns, cX1_patterns, 2, (Option.some Jvm.ClassFile.FieldType.int), none)
abbrev mX1_perform : nd_Mt := (yX1_perform, cX1_perform, 4, (Option.some Jvm.ClassFile.FieldType.int), none)
abbrev mX1_reads : nd_Mt := (yX1_reads, cX1_reads, 4, (Option.some Jvm.ClassFile.FieldType.boolean), none)
abbrev mX1_reads_2 : nd_Mt := (yX1_reads_2, cX1_reads_2, 5, (Option.some Jvm.ClassFile.FieldType.int), none)
abbrev mX1_refuse : nd_Mt := (yX1_refuse, cX1_refuse, 4, (Option.some Jvm.ClassFile.FieldType.int), none)
abbrev mX1_restore : nd_Mt := (yX1_restore, cX1_restore, 2, (Option.none : Option Jvm.ClassFile.FieldType), none)
abbrev mX1_rows : nd_Mt := (yX1_rows, cX1_rows, 3, (Option.some Jvm.ClassFile.FieldType.int), none)
abbrev mX1_seen : nd_Mt := (yX1_seen, cX1_seen, 3, (Option.some Jvm.ClassFile.FieldType.int), none)
abbrev mX1_seenBy : nd_Mt := (yX1_seenBy, cX1_seenBy, 4, (Option.some (Jvm.ClassFile.FieldType.object "NapkinDeeds$Seen")), none)
abbrev mX1_seenOf : nd_Mt := (yX1_seenOf, cX1_seenOf, 4, (Option.some (Jvm.ClassFile.FieldType.object "NapkinDeeds$Tray")), none)
abbrev mX1_shake : nd_Mt := (yX1_shake, cX1_shake, 2, (Option.some Jvm.ClassFile.FieldType.int), none)
abbrev mX1_simple : nd_Mt := (yX1_simple, cX1_simple, 2, (Option.some Jvm.ClassFile.FieldType.int), none)
abbrev mX1_soonest : nd_Mt := (yX1_soonest, cX1_soonest, 3, (Option.some Jvm.ClassFile.FieldType.int), none)
abbrev mX1_stack : nd_Mt := (yX1_stack, cX1_stack, 4, (Option.some Jvm.ClassFile.FieldType.int), none)
abbrev mX1_stackOf : nd_Mt := (yX1_stackOf, cX1_stackOf, 6, (Option.some (Jvm.ClassFile.FieldType.array Jvm.ClassFile.FieldType.int)), none)
abbrev mX1_stacks : nd_Mt := (yX1_stacks, cX1_stacks, 1, (Option.some Jvm.ClassFile.FieldType.int), none)
abbrev mX1_stacksFrom : nd_Mt := (yX1_stacksFrom, cX1_stacksFrom, 6, (Option.some Jvm.ClassFile.FieldType.int), none)
abbrev mX1_stands : nd_Mt := (yX1_stands, cX1_stands, 6, (Option.some Jvm.ClassFile.FieldType.boolean), none)
abbrev mX1_stands_2 : nd_Mt := (yX1_stands_2, cX1_stands_2, 2, (Option.some Jvm.ClassFile.FieldType.boolean), none)
abbrev mX1_step : nd_Mt := (yX1_step, cX1_step, 1, (Option.some Jvm.ClassFile.FieldType.int), none)
abbrev mX1_sure : nd_Mt := (yX1_sure, cX1_sure, 4, (Option.some Jvm.ClassFile.FieldType.int), none)
abbrev mX1_there : nd_Mt := (yX1_there, cX1_there, 1, (Option.none : Option Jvm.ClassFile.FieldType), none)
abbrev mX1_top : nd_Mt := (yX1_top, cX1_top, 4, (Option.some Jvm.ClassFile.FieldType.int), none)
abbrev mX1_tray : nd_Mt := (yX1_tray, cX1_tray, 6, (Option.none : Option Jvm.ClassFile.FieldType), (some [((33), (40), (43), (530))]))
abbrev mX1_trayOf : nd_Mt := (yX1_trayOf, cX1_trayOf, 2, (Option.some (Jvm.ClassFile.FieldType.object "NapkinDeeds$Tray")), none)
abbrev mX1_under : nd_Mt := (yX1_under, cX1_under, 4, (Option.some Jvm.ClassFile.FieldType.int), none)
abbrev mX1_undo : nd_Mt := (yX1_undo, cX1_undo, 3, (Option.some Jvm.ClassFile.FieldType.int), none)
abbrev mX1_unfold : nd_Mt := (yX1_unfold, cX1_unfold, 1, (Option.some Jvm.ClassFile.FieldType.int), none)
abbrev mX1_whyFold : nd_Mt := (yX1_whyFold, cX1_whyFold, 6, (Option.some Jvm.ClassFile.FieldType.int), none)
abbrev mX1_whyNot : nd_Mt := (yX1_whyNot, cX1_whyNot, 5, (Option.some Jvm.ClassFile.FieldType.int), none)
abbrev mX1_worth : nd_Mt := (yX1_worth, cX1_worth, 1, (Option.some Jvm.ClassFile.FieldType.int), none)
abbrev mX1_worth_2 : nd_Mt := (yX1_worth_2, cX1_worth_2, 3, (Option.some Jvm.ClassFile.FieldType.int), none)
abbrev mX1_write : nd_Mt := (yX1_write, cX1_write, 7, (Option.some Jvm.ClassFile.FieldType.long), (some [((7), (20), (21), (536)), ((7), (20), (31), (538))]))
abbrev mX10_init : nd_Mt := (yX10_init, cX10_init, 2, (Option.none : Option Jvm.ClassFile.FieldType), none)
abbrev mX10_of : nd_Mt := (yX10_of, cX10_of, 2, (Option.some Jvm.ClassFile.FieldType.int), none)
abbrev mX11_init : nd_Mt := (yX11_init, cX11_init, 2, (Option.none : Option Jvm.ClassFile.FieldType), none)
abbrev mX11_of : nd_Mt := (yX11_of, cX11_of, 2, (Option.some Jvm.ClassFile.FieldType.int), none)
abbrev mX12_init : nd_Mt := (yX12_init, cX12_init, 3, (Option.none : Option Jvm.ClassFile.FieldType), none)
abbrev mX12_of : nd_Mt := (yX12_of, cX12_of, 2, (Option.some Jvm.ClassFile.FieldType.int), none)
abbrev mX13_by : nd_Mt := (yX13_by, cX13_by, 5, (Option.some Jvm.ClassFile.FieldType.long), none)
abbrev mX13_init : nd_Mt := (yX13_init, cX13_init, 3, (Option.none : Option Jvm.ClassFile.FieldType), none)
abbrev mX14_by : nd_Mt := (yX14_by, cX14_by, 5, (Option.some Jvm.ClassFile.FieldType.long), none)
abbrev mX14_init : nd_Mt := (yX14_init, cX14_init, 3, (Option.none : Option Jvm.ClassFile.FieldType), none)
abbrev mX15_by : nd_Mt := (yX15_by, cX15_by, 5, (Option.some Jvm.ClassFile.FieldType.long), none)
abbrev mX15_init : nd_Mt := (yX15_init, cX15_init, 3, (Option.none : Option Jvm.ClassFile.FieldType), none)
abbrev mX16_holds : nd_Mt := (yX16_holds, cX16_holds, 2, (Option.some Jvm.ClassFile.FieldType.boolean), none)
abbrev mX16_init : nd_Mt := (yX16_init, cX16_init, 2, (Option.none : Option Jvm.ClassFile.FieldType), none)
abbrev mX17_holds : nd_Mt := (yX17_holds, cX17_holds, 4, (Option.some Jvm.ClassFile.FieldType.boolean), none)
abbrev mX17_init : nd_Mt := (yX17_init, cX17_init, 4, (Option.none : Option Jvm.ClassFile.FieldType), none)
abbrev mX18_holds : nd_Mt := (yX18_holds, cX18_holds, 2, (Option.some Jvm.ClassFile.FieldType.boolean), none)
abbrev mX18_init : nd_Mt := (yX18_init, cX18_init, 3, (Option.none : Option Jvm.ClassFile.FieldType), none)
abbrev mX19_holds : nd_Mt := (yX19_holds, cX19_holds, 2, (Option.some Jvm.ClassFile.FieldType.boolean), none)
abbrev mX19_init : nd_Mt := (yX19_init, cX19_init, 3, (Option.none : Option Jvm.ClassFile.FieldType), none)
abbrev mX2_all : nd_Mt := (yX2_all, cX2_all, 3, (Option.some Jvm.ClassFile.FieldType.int), none)
abbrev mX2_become : nd_Mt := (yX2_become, cX2_become, 2, (Option.none : Option Jvm.ClassFile.FieldType), none)
abbrev mX2_begins : nd_Mt := (yX2_begins, cX2_begins, 3, (Option.none : Option Jvm.ClassFile.FieldType), none)
abbrev mX2_folds : nd_Mt := (yX2_folds, cX2_folds, 3, (Option.none : Option Jvm.ClassFile.FieldType), none)
abbrev mX2_init : nd_Mt := (yX2_init, cX2_init, 1, (Option.none : Option Jvm.ClassFile.FieldType), none)
abbrev mX2_lies : nd_Mt := (yX2_lies, cX2_lies, 7, (Option.some (Jvm.ClassFile.FieldType.object "NapkinDeeds$Look")), none)
abbrev mX2_mark : nd_Mt := (yX2_mark, cX2_mark, 2, (Option.some Jvm.ClassFile.FieldType.int), none)
abbrev mX20_goes : nd_Mt := (yX20_goes, cX20_goes, 7, (Option.none : Option Jvm.ClassFile.FieldType), none)
abbrev mX20_init : nd_Mt := (yX20_init, cX20_init, 2, (Option.none : Option Jvm.ClassFile.FieldType), none)
abbrev mX20_seeks : nd_Mt := (yX20_seeks, cX20_seeks, 4, (Option.some (Jvm.ClassFile.FieldType.object "NapkinDeeds$Rows")), none)
abbrev mX21_init : nd_Mt := (yX21_init, cX21_init, 2, (Option.none : Option Jvm.ClassFile.FieldType), none)
abbrev mX21_sees : nd_Mt := (yX21_sees, cX21_sees, 4, (Option.none : Option Jvm.ClassFile.FieldType), none)
abbrev mX22_init : nd_Mt := (yX22_init, cX22_init, 3, (Option.none : Option Jvm.ClassFile.FieldType), none)
abbrev mX22_isSo : nd_Mt := (yX22_isSo, cX22_isSo, 4, (Option.some Jvm.ClassFile.FieldType.boolean), none)
abbrev mX23_code : nd_Mt := (yX23_code, cX23_code, 2, (Option.some Jvm.ClassFile.FieldType.long), none)
abbrev mX23_init : nd_Mt := (yX23_init, cX23_init, 2, (Option.none : Option Jvm.ClassFile.FieldType), none)
abbrev mX23_sees : nd_Mt := (yX23_sees, cX23_sees, 4, (Option.none : Option Jvm.ClassFile.FieldType), none)
abbrev mX23_unlike : nd_Mt := (yX23_unlike, cX23_unlike, 3, (Option.some Jvm.ClassFile.FieldType.int), none)
abbrev mX24_init : nd_Mt := (yX24_init, cX24_init, 2, (Option.none : Option Jvm.ClassFile.FieldType), none)
abbrev mX24_isSo : nd_Mt := (yX24_isSo, cX24_isSo, 3, (Option.some Jvm.ClassFile.FieldType.boolean), none)
abbrev mX25_fold : nd_Mt := (yX25_fold, cX25_fold, 2, (Option.some Jvm.ClassFile.FieldType.int), none)
abbrev mX25_init : nd_Mt := (yX25_init, cX25_init, 2, (Option.none : Option Jvm.ClassFile.FieldType), none)
abbrev mX25_isNone : nd_Mt := (yX25_isNone, cX25_isNone, 1, (Option.some Jvm.ClassFile.FieldType.boolean), none)
abbrev mX25_sees : nd_Mt := (yX25_sees, cX25_sees, 6, (Option.none : Option Jvm.ClassFile.FieldType), none)
abbrev mX26_fewestFolds : nd_Mt := (yX26_fewestFolds, cX26_fewestFolds, 1, (Option.some Jvm.ClassFile.FieldType.int), none)
abbrev mX26_init : nd_Mt := (yX26_init, cX26_init, 2, (Option.none : Option Jvm.ClassFile.FieldType), none)
abbrev mX26_sees : nd_Mt := (yX26_sees, cX26_sees, 4, (Option.none : Option Jvm.ClassFile.FieldType), none)
abbrev mX26_tells : nd_Mt := (yX26_tells, cX26_tells, 2, (Option.some Jvm.ClassFile.FieldType.int), none)
abbrev mX26_value : nd_Mt := (yX26_value, cX26_value, 4, (Option.some Jvm.ClassFile.FieldType.long), none)
abbrev mX27_init : nd_Mt := (yX27_init, cX27_init, 2, (Option.none : Option Jvm.ClassFile.FieldType), none)
abbrev mX27_isSo : nd_Mt := (yX27_isSo, cX27_isSo, 3, (Option.some Jvm.ClassFile.FieldType.boolean), none)
abbrev mX28_init : nd_Mt := (yX28_init, cX28_init, 2, (Option.none : Option Jvm.ClassFile.FieldType), none)
abbrev mX28_isSo : nd_Mt := (yX28_isSo, cX28_isSo, 3, (Option.some Jvm.ClassFile.FieldType.boolean), none)
abbrev mX29_init : nd_Mt := (yX29_init, cX29_init, 2, (Option.none : Option Jvm.ClassFile.FieldType), none)
abbrev mX29_value : nd_Mt := (yX29_value, cX29_value, 4, (Option.some Jvm.ClassFile.FieldType.long), none)
abbrev mX3_cells : nd_Mt := (yX3_cells, cX3_cells, 1, (Option.some Jvm.ClassFile.FieldType.int), none)
abbrev mX3_init : nd_Mt := (yX3_init, cX3_init, 1, (Option.none : Option Jvm.ClassFile.FieldType), none)
abbrev mX3_isCell : nd_Mt := (yX3_isCell, cX3_isCell, 3, (Option.some Jvm.ClassFile.FieldType.boolean), none)
abbrev mX30_init : nd_Mt := (yX30_init, cX30_init, 3, (Option.none : Option Jvm.ClassFile.FieldType), none)
abbrev mX30_isSo : nd_Mt := (yX30_isSo, cX30_isSo, 3, (Option.some Jvm.ClassFile.FieldType.boolean), none)
abbrev mX31_init : nd_Mt := (yX31_init, cX31_init, 3, (Option.none : Option Jvm.ClassFile.FieldType), none)
abbrev mX31_isSo : nd_Mt := (yX31_isSo, cX31_isSo, 4, (Option.some Jvm.ClassFile.FieldType.boolean), none)
abbrev mX32_code : nd_Mt := (yX32_code, cX32_code, 5, (Option.some Jvm.ClassFile.FieldType.long), none)
abbrev mX32_init : nd_Mt := (yX32_init, cX32_init, 2, (Option.none : Option Jvm.ClassFile.FieldType), none)
abbrev mX32_isSo : nd_Mt := (yX32_isSo, cX32_isSo, 3, (Option.some Jvm.ClassFile.FieldType.boolean), none)
abbrev mX33_init : nd_Mt := (yX33_init, cX33_init, 3, (Option.none : Option Jvm.ClassFile.FieldType), none)
abbrev mX33_isSo : nd_Mt := (yX33_isSo, cX33_isSo, 4, (Option.some Jvm.ClassFile.FieldType.boolean), none)
abbrev mX34_init : nd_Mt := (yX34_init, cX34_init, 3, (Option.none : Option Jvm.ClassFile.FieldType), none)
abbrev mX34_isSo : nd_Mt := (yX34_isSo, cX34_isSo, 3, (Option.some Jvm.ClassFile.FieldType.boolean), none)
abbrev mX35_code : nd_Mt := (yX35_code, cX35_code, 2, (Option.some Jvm.ClassFile.FieldType.long), none)
abbrev mX35_init : nd_Mt := (yX35_init, cX35_init, 2, (Option.none : Option Jvm.ClassFile.FieldType), none)
abbrev mX35_isSo : nd_Mt := (yX35_isSo, cX35_isSo, 3, (Option.some Jvm.ClassFile.FieldType.boolean), none)
abbrev mX36_init : nd_Mt := (yX36_init, cX36_init, 2, (Option.none : Option Jvm.ClassFile.FieldType), none)
abbrev mX36_value : nd_Mt := (yX36_value, cX36_value, 4, (Option.some Jvm.ClassFile.FieldType.long), none)
abbrev mX37_init : nd_Mt := (yX37_init, cX37_init, 3, (Option.none : Option Jvm.ClassFile.FieldType), none)
abbrev mX37_isSo : nd_Mt := (yX37_isSo, cX37_isSo, 6, (Option.some Jvm.ClassFile.FieldType.boolean), none)
abbrev mX38_init : nd_Mt := (yX38_init, cX38_init, 3, (Option.none : Option Jvm.ClassFile.FieldType), none)
abbrev mX38_value : nd_Mt := (yX38_value, cX38_value, 4, (Option.some Jvm.ClassFile.FieldType.long), none)
abbrev mX39_init : nd_Mt := (yX39_init, cX39_init, 3, (Option.none : Option Jvm.ClassFile.FieldType), none)
abbrev mX39_sees : nd_Mt := (yX39_sees, cX39_sees, 6, (Option.none : Option Jvm.ClassFile.FieldType), none)
abbrev mX4_above : nd_Mt := (yX4_above, cX4_above, 2, (Option.some Jvm.ClassFile.FieldType.int), none)
abbrev mX4_adds : nd_Mt := (yX4_adds, cX4_adds, 3, (Option.none : Option Jvm.ClassFile.FieldType), none)
abbrev mX4_become : nd_Mt := (yX4_become, cX4_become, 3, (Option.some (Jvm.ClassFile.FieldType.object "NapkinDeeds$Look")), none)
abbrev mX4_beneath : nd_Mt := (yX4_beneath, cX4_beneath, 2, (Option.some Jvm.ClassFile.FieldType.int), none)
abbrev mX4_code : nd_Mt := (yX4_code, cX4_code, 5, (Option.some Jvm.ClassFile.FieldType.long), none)
abbrev mX4_columnOf : nd_Mt := (yX4_columnOf, cX4_columnOf, 3, (Option.some Jvm.ClassFile.FieldType.int), none)
abbrev mX4_crease : nd_Mt := (yX4_crease, cX4_crease, 4, (Option.some Jvm.ClassFile.FieldType.int), none)
abbrev mX4_creases : nd_Mt := (yX4_creases, cX4_creases, 4, (Option.some Jvm.ClassFile.FieldType.int), none)
abbrev mX4_flat : nd_Mt := (yX4_flat, cX4_flat, 3, (Option.some (Jvm.ClassFile.FieldType.object "NapkinDeeds$Look")), none)
abbrev mX4_folded : nd_Mt := (yX4_folded, cX4_folded, 11, (Option.some (Jvm.ClassFile.FieldType.object "NapkinDeeds$Look")), none)
abbrev mX4_greatest : nd_Mt := (yX4_greatest, cX4_greatest, 3, (Option.some Jvm.ClassFile.FieldType.int), none)
abbrev mX4_init : nd_Mt := (yX4_init, cX4_init, 1, (Option.none : Option Jvm.ClassFile.FieldType), none)
abbrev mX4_isLine : nd_Mt := (yX4_isLine, cX4_isLine, 3, (Option.some Jvm.ClassFile.FieldType.boolean), none)
abbrev mX4_isUp : nd_Mt := (yX4_isUp, cX4_isUp, 3, (Option.some Jvm.ClassFile.FieldType.boolean), none)
abbrev mX4_layerOf : nd_Mt := (yX4_layerOf, cX4_layerOf, 4, (Option.some Jvm.ClassFile.FieldType.int), none)
abbrev mX4_turns : nd_Mt := (yX4_turns, cX4_turns, 5, (Option.none : Option Jvm.ClassFile.FieldType), none)
abbrev mX40_gives : nd_Mt := (yX40_gives, cX40_gives, 1, (Option.none : Option Jvm.ClassFile.FieldType), none)
abbrev mX40_init : nd_Mt := (yX40_init, cX40_init, 2, (Option.none : Option Jvm.ClassFile.FieldType), none)
abbrev mX40_takes : nd_Mt := (yX40_takes, cX40_takes, 1, (Option.none : Option Jvm.ClassFile.FieldType), none)
abbrev mX41_kept : nd_Mt := (yX41_kept, cX41_kept, 3, (Option.some Jvm.ClassFile.FieldType.int), none)
abbrev mX5_init : nd_Mt := (yX5_init, cX5_init, 1, (Option.none : Option Jvm.ClassFile.FieldType), none)
abbrev mX6_at : nd_Mt := (yX6_at, cX6_at, 2, (Option.some Jvm.ClassFile.FieldType.long), none)
abbrev mX6_init : nd_Mt := (yX6_init, cX6_init, 1, (Option.none : Option Jvm.ClassFile.FieldType), none)
abbrev mX6_make : nd_Mt := (yX6_make, cX6_make, 3, (Option.none : Option Jvm.ClassFile.FieldType), none)
abbrev mX6_put : nd_Mt := (yX6_put, cX6_put, 4, (Option.none : Option Jvm.ClassFile.FieldType), none)
abbrev mX6_size : nd_Mt := (yX6_size, cX6_size, 1, (Option.some Jvm.ClassFile.FieldType.int), none)
abbrev mX7_above : nd_Mt := (yX7_above, cX7_above, 2, (Option.some Jvm.ClassFile.FieldType.int), none)
abbrev mX7_aboveAt : nd_Mt := (yX7_aboveAt, cX7_aboveAt, 3, (Option.some Jvm.ClassFile.FieldType.int), none)
abbrev mX7_addsFold : nd_Mt := (yX7_addsFold, cX7_addsFold, 2, (Option.none : Option Jvm.ClassFile.FieldType), none)
abbrev mX7_amend : nd_Mt := (yX7_amend, cX7_amend, 5, (Option.some Jvm.ClassFile.FieldType.int), none)
abbrev mX7_asks : nd_Mt := (yX7_asks, cX7_asks, 2, (Option.none : Option Jvm.ClassFile.FieldType), none)
abbrev mX7_asksAll : nd_Mt := (yX7_asksAll, cX7_asksAll, 5, (Option.none : Option Jvm.ClassFile.FieldType), none)
abbrev mX7_begins : nd_Mt := (yX7_begins, cX7_begins, 3, (Option.some Jvm.ClassFile.FieldType.boolean), none)
abbrev mX7_beginsLaw : nd_Mt := (yX7_beginsLaw, cX7_beginsLaw, 3, (Option.none : Option Jvm.ClassFile.FieldType), none)
abbrev mX7_beneath : nd_Mt := (yX7_beneath, cX7_beneath, 2, (Option.some Jvm.ClassFile.FieldType.int), none)
abbrev mX7_beneathAt : nd_Mt := (yX7_beneathAt, cX7_beneathAt, 3, (Option.some Jvm.ClassFile.FieldType.int), none)
abbrev mX7_best : nd_Mt := (yX7_best, cX7_best, 3, (Option.some Jvm.ClassFile.FieldType.int), none)
abbrev mX7_bestBy : nd_Mt := (yX7_bestBy, cX7_bestBy, 4, (Option.some Jvm.ClassFile.FieldType.int), none)
abbrev mX7_better : nd_Mt := (yX7_better, cX7_better, 2, (Option.some Jvm.ClassFile.FieldType.int), none)
abbrev mX7_blames : nd_Mt := (yX7_blames, cX7_blames, 2, (Option.none : Option Jvm.ClassFile.FieldType), none)
abbrev mX7_bound : nd_Mt := (yX7_bound, cX7_bound, 2, (Option.some Jvm.ClassFile.FieldType.int), none)
abbrev mX7_canStand : nd_Mt := (yX7_canStand, cX7_canStand, 3, (Option.some Jvm.ClassFile.FieldType.boolean), none)
abbrev mX7_cell : nd_Mt := (yX7_cell, cX7_cell, 3, (Option.some Jvm.ClassFile.FieldType.int), none)
abbrev mX7_cells : nd_Mt := (yX7_cells, cX7_cells, 1, (Option.some Jvm.ClassFile.FieldType.int), none)
abbrev mX7_columnsAt : nd_Mt := (yX7_columnsAt, cX7_columnsAt, 2, (Option.some Jvm.ClassFile.FieldType.int), none)
abbrev mX7_copy : nd_Mt := (yX7_copy, cX7_copy, 5, (Option.some Jvm.ClassFile.FieldType.int), none)
abbrev mX7_count : nd_Mt := (yX7_count, cX7_count, 3, (Option.some Jvm.ClassFile.FieldType.int), none)
abbrev mX7_crease : nd_Mt := (yX7_crease, cX7_crease, 2, (Option.some Jvm.ClassFile.FieldType.int), none)
abbrev mX7_creaseOf : nd_Mt := (yX7_creaseOf, cX7_creaseOf, 4, (Option.some Jvm.ClassFile.FieldType.int), none)
abbrev mX7_creasesAt : nd_Mt := (yX7_creasesAt, cX7_creasesAt, 4, (Option.some Jvm.ClassFile.FieldType.int), none)
abbrev mX7_creasesFault : nd_Mt := (yX7_creasesFault, cX7_creasesFault, 5, (Option.some Jvm.ClassFile.FieldType.int), none)
abbrev mX7_cut : nd_Mt := (yX7_cut, cX7_cut, 6, (Option.some Jvm.ClassFile.FieldType.long), none)
abbrev mX7_does : nd_Mt := (yX7_does, cX7_does, 2, (Option.none : Option Jvm.ClassFile.FieldType), none)
abbrev mX7_done : nd_Mt := (yX7_done, cX7_done, 5, (Option.some Jvm.ClassFile.FieldType.int), none)
abbrev mX7_draw : nd_Mt := (yX7_draw, cX7_draw, 2, (Option.some Jvm.ClassFile.FieldType.int), none)
abbrev mX7_drawn : nd_Mt := (yX7_drawn, cX7_drawn, 3, (Option.some Jvm.ClassFile.FieldType.int), none)
abbrev mX7_evening : nd_Mt := (yX7_evening, cX7_evening, 6, (Option.some Jvm.ClassFile.FieldType.int), none)
abbrev mX7_fails : nd_Mt := (yX7_fails, cX7_fails, 2, (Option.some Jvm.ClassFile.FieldType.int), none)
abbrev mX7_fairest : nd_Mt := (yX7_fairest, cX7_fairest, 3, (Option.some Jvm.ClassFile.FieldType.int), none)
abbrev mX7_fault : nd_Mt := (yX7_fault, cX7_fault, 2, (Option.some Jvm.ClassFile.FieldType.int), none)
abbrev mX7_feed : nd_Mt := (yX7_feed, cX7_feed, 8, (Option.some Jvm.ClassFile.FieldType.int), none)
abbrev mX7_fold : nd_Mt := (yX7_fold, cX7_fold, 3, (Option.some Jvm.ClassFile.FieldType.int), none)
abbrev mX7_folded : nd_Mt := (yX7_folded, cX7_folded, 2, (Option.some Jvm.ClassFile.FieldType.int), none)
abbrev mX7_folds : nd_Mt := (yX7_folds, cX7_folds, 12, (Option.none : Option Jvm.ClassFile.FieldType), none)
abbrev mX7_found : nd_Mt := (yX7_found, cX7_found, 3, (Option.some Jvm.ClassFile.FieldType.boolean), none)
abbrev mX7_goes : nd_Mt := (yX7_goes, cX7_goes, 5, (Option.some Jvm.ClassFile.FieldType.boolean), none)
abbrev mX7_goesIn : nd_Mt := (yX7_goesIn, cX7_goesIn, 1, (Option.none : Option Jvm.ClassFile.FieldType), none)
abbrev mX7_has : nd_Mt := (yX7_has, cX7_has, 2, (Option.some Jvm.ClassFile.FieldType.boolean), none)
abbrev mX7_hasCreases : nd_Mt := (yX7_hasCreases, cX7_hasCreases, 4, (Option.some Jvm.ClassFile.FieldType.boolean), none)
abbrev mX7_hiddenAt : nd_Mt := (yX7_hiddenAt, cX7_hiddenAt, 4, (Option.some Jvm.ClassFile.FieldType.int), none)
abbrev mX7_high : nd_Mt := (yX7_high, cX7_high, 2, (Option.some Jvm.ClassFile.FieldType.int), none)
abbrev mX7_highAt : nd_Mt := (yX7_highAt, cX7_highAt, 3, (Option.some Jvm.ClassFile.FieldType.int), none)
abbrev mX7_highestAt : nd_Mt := (yX7_highestAt, cX7_highestAt, 4, (Option.some Jvm.ClassFile.FieldType.int), none)
abbrev mX7_holding : nd_Mt := (yX7_holding, cX7_holding, 2, (Option.some Jvm.ClassFile.FieldType.int), none)
abbrev mX7_holds : nd_Mt := (yX7_holds, cX7_holds, 1, (Option.some Jvm.ClassFile.FieldType.boolean), none)
abbrev mX7_holdsAt : nd_Mt := (yX7_holdsAt, cX7_holdsAt, 2, (Option.some Jvm.ClassFile.FieldType.boolean), none)
abbrev mX7_image : nd_Mt := (yX7_image, cX7_image, 3, (Option.none : Option Jvm.ClassFile.FieldType), none)
abbrev mX7_init : nd_Mt := (yX7_init, cX7_init, 1, (Option.none : Option Jvm.ClassFile.FieldType), none)
abbrev mX7_isBetter : nd_Mt := (yX7_isBetter, cX7_isBetter, 5, (Option.some Jvm.ClassFile.FieldType.boolean), none)
abbrev mX7_isBetween : nd_Mt := (yX7_isBetween, cX7_isBetween, 3, (Option.some Jvm.ClassFile.FieldType.boolean), none)
abbrev mX7_isCell : nd_Mt := (yX7_isCell, cX7_isCell, 3, (Option.some Jvm.ClassFile.FieldType.boolean), none)
abbrev mX7_isColumn : nd_Mt := (yX7_isColumn, cX7_isColumn, 2, (Option.some Jvm.ClassFile.FieldType.boolean), none)
abbrev mX7_isDigit : nd_Mt := (yX7_isDigit, cX7_isDigit, 1, (Option.some Jvm.ClassFile.FieldType.boolean), none)
abbrev mX7_isFold : nd_Mt := (yX7_isFold, cX7_isFold, 6, (Option.some Jvm.ClassFile.FieldType.boolean), none)
abbrev mX7_isLetter : nd_Mt := (yX7_isLetter, cX7_isLetter, 1, (Option.some Jvm.ClassFile.FieldType.boolean), none)
abbrev mX7_isMore : nd_Mt := (yX7_isMore, cX7_isMore, 1, (Option.some Jvm.ClassFile.FieldType.boolean), none)
abbrev mX7_isNew : nd_Mt := (yX7_isNew, cX7_isNew, 4, (Option.some Jvm.ClassFile.FieldType.boolean), none)
abbrev mX7_isSign : nd_Mt := (yX7_isSign, cX7_isSign, 2, (Option.some Jvm.ClassFile.FieldType.boolean), none)
abbrev mX7_isSignByte : nd_Mt := (yX7_isSignByte, cX7_isSignByte, 2, (Option.some Jvm.ClassFile.FieldType.boolean), none)
abbrev mX7_isStack : nd_Mt := (yX7_isStack, cX7_isStack, 4, (Option.some Jvm.ClassFile.FieldType.boolean), none)
abbrev mX7_isTray : nd_Mt := (yX7_isTray, cX7_isTray, 1, (Option.some Jvm.ClassFile.FieldType.boolean), none)
abbrev mX7_isWhat : nd_Mt := (yX7_isWhat, cX7_isWhat, 1, (Option.some Jvm.ClassFile.FieldType.boolean), none)
abbrev mX7_isWord : nd_Mt := (yX7_isWord, cX7_isWord, 4, (Option.some Jvm.ClassFile.FieldType.boolean), none)
abbrev mX7_judge : nd_Mt := (yX7_judge, cX7_judge, 7, (Option.some Jvm.ClassFile.FieldType.int), none)
abbrev mX7_keenest : nd_Mt := (yX7_keenest, cX7_keenest, 5, (Option.some Jvm.ClassFile.FieldType.int), none)
abbrev mX7_keeps : nd_Mt := (yX7_keeps, cX7_keeps, 2, (Option.none : Option Jvm.ClassFile.FieldType), none)
abbrev mX7_keepsRow : nd_Mt := (yX7_keepsRow, cX7_keepsRow, 4, (Option.none : Option Jvm.ClassFile.FieldType), none)
abbrev mX7_lawOf : nd_Mt := (yX7_lawOf, cX7_lawOf, 6, (Option.some Jvm.ClassFile.FieldType.int), none)
abbrev mX7_lawWord : nd_Mt := (yX7_lawWord, cX7_lawWord, 1, (Option.some Jvm.ClassFile.FieldType.int), none)
abbrev mX7_layer : nd_Mt := (yX7_layer, cX7_layer, 3, (Option.some Jvm.ClassFile.FieldType.int), none)
abbrev mX7_layerAt : nd_Mt := (yX7_layerAt, cX7_layerAt, 4, (Option.some Jvm.ClassFile.FieldType.int), none)
abbrev mX7_laysFlat : nd_Mt := (yX7_laysFlat, cX7_laysFlat, 2, (Option.none : Option Jvm.ClassFile.FieldType), none)
abbrev mX7_laysLiked : nd_Mt := (yX7_laysLiked, cX7_laysLiked, 3, (Option.none : Option Jvm.ClassFile.FieldType), none)
abbrev mX7_laysNow : nd_Mt := (yX7_laysNow, cX7_laysNow, 2, (Option.some Jvm.ClassFile.FieldType.int), none)
abbrev mX7_laysPlaces : nd_Mt := (yX7_laysPlaces, cX7_laysPlaces, 4, (Option.none : Option Jvm.ClassFile.FieldType), none)
abbrev mX7_laysSeen : nd_Mt := (yX7_laysSeen, cX7_laysSeen, 4, (Option.none : Option Jvm.ClassFile.FieldType), none)
abbrev mX7_laysStep : nd_Mt := (yX7_laysStep, cX7_laysStep, 2, (Option.none : Option Jvm.ClassFile.FieldType), none)
abbrev mX7_leastLiked : nd_Mt := (yX7_leastLiked, cX7_leastLiked, 4, (Option.some Jvm.ClassFile.FieldType.int), none)
abbrev mX7_likes : nd_Mt := (yX7_likes, cX7_likes, 2, (Option.some Jvm.ClassFile.FieldType.int), none)
abbrev mX7_likesAt : nd_Mt := (yX7_likesAt, cX7_likesAt, 3, (Option.some Jvm.ClassFile.FieldType.int), none)
abbrev mX7_look : nd_Mt := (yX7_look, cX7_look, 8, (Option.some Jvm.ClassFile.FieldType.int), none)
abbrev mX7_lookAt : nd_Mt := (yX7_lookAt, cX7_lookAt, 5, (Option.some Jvm.ClassFile.FieldType.long), none)
abbrev mX7_looks : nd_Mt := (yX7_looks, cX7_looks, 2, (Option.some Jvm.ClassFile.FieldType.int), none)
abbrev mX7_looksSo : nd_Mt := (yX7_looksSo, cX7_looksSo, 4, (Option.some Jvm.ClassFile.FieldType.boolean), none)
abbrev mX7_made : nd_Mt := (yX7_made, cX7_made, 2, (Option.some Jvm.ClassFile.FieldType.int), none)
abbrev mX7_madeBy : nd_Mt := (yX7_madeBy, cX7_madeBy, 3, (Option.some Jvm.ClassFile.FieldType.int), none)
abbrev mX7_manyBy : nd_Mt := (yX7_manyBy, cX7_manyBy, 3, (Option.some Jvm.ClassFile.FieldType.int), none)
abbrev mX7_manyFromFlat : nd_Mt := (yX7_manyFromFlat, cX7_manyFromFlat, 2, (Option.some Jvm.ClassFile.FieldType.int), none)
abbrev mX7_markOf : nd_Mt := (yX7_markOf, cX7_markOf, 3, (Option.some Jvm.ClassFile.FieldType.int), none)
abbrev mX7_marksFault : nd_Mt := (yX7_marksFault, cX7_marksFault, 5, (Option.some Jvm.ClassFile.FieldType.int), none)
abbrev mX7_mustSign : nd_Mt := (yX7_mustSign, cX7_mustSign, 2, (Option.none : Option Jvm.ClassFile.FieldType), none)
abbrev mX7_mustWord : nd_Mt := (yX7_mustWord, cX7_mustWord, 2, (Option.none : Option Jvm.ClassFile.FieldType), none)
abbrev mX7_napkin : nd_Mt := (yX7_napkin, cX7_napkin, 3, (Option.some Jvm.ClassFile.FieldType.int), none)
abbrev mX7_number : nd_Mt := (yX7_number, cX7_number, 4, (Option.some Jvm.ClassFile.FieldType.int), none)
abbrev mX7_orderAt : nd_Mt := (yX7_orderAt, cX7_orderAt, 5, (Option.some Jvm.ClassFile.FieldType.long), none)
abbrev mX7_patterns : nd_Mt := (yX7_patterns, cX7_patterns, 1, (Option.some Jvm.ClassFile.FieldType.int), none)
abbrev mX7_perform : nd_Mt := (yX7_perform, cX7_perform, 3, (Option.some Jvm.ClassFile.FieldType.int), none)
abbrev mX7_puts : nd_Mt := (yX7_puts, cX7_puts, 9, (Option.none : Option Jvm.ClassFile.FieldType), none)
abbrev mX7_putsAside : nd_Mt := (yX7_putsAside, cX7_putsAside, 2, (Option.none : Option Jvm.ClassFile.FieldType), none)
abbrev mX7_putsBack : nd_Mt := (yX7_putsBack, cX7_putsBack, 2, (Option.none : Option Jvm.ClassFile.FieldType), none)
abbrev mX7_readAtom : nd_Mt := (yX7_readAtom, cX7_readAtom, 3, (Option.none : Option Jvm.ClassFile.FieldType), none)
abbrev mX7_readBoth : nd_Mt := (yX7_readBoth, cX7_readBoth, 1, (Option.none : Option Jvm.ClassFile.FieldType), none)
abbrev mX7_readCell : nd_Mt := (yX7_readCell, cX7_readCell, 3, (Option.none : Option Jvm.ClassFile.FieldType), none)
abbrev mX7_readGuest : nd_Mt := (yX7_readGuest, cX7_readGuest, 2, (Option.none : Option Jvm.ClassFile.FieldType), none)
abbrev mX7_readLine : nd_Mt := (yX7_readLine, cX7_readLine, 1, (Option.none : Option Jvm.ClassFile.FieldType), none)
abbrev mX7_readStop : nd_Mt := (yX7_readStop, cX7_readStop, 1, (Option.none : Option Jvm.ClassFile.FieldType), none)
abbrev mX7_readSum : nd_Mt := (yX7_readSum, cX7_readSum, 2, (Option.none : Option Jvm.ClassFile.FieldType), none)
abbrev mX7_readTerm : nd_Mt := (yX7_readTerm, cX7_readTerm, 1, (Option.none : Option Jvm.ClassFile.FieldType), none)
abbrev mX7_readTruth : nd_Mt := (yX7_readTruth, cX7_readTruth, 1, (Option.none : Option Jvm.ClassFile.FieldType), none)
abbrev mX7_readUnit : nd_Mt := (yX7_readUnit, cX7_readUnit, 2, (Option.none : Option Jvm.ClassFile.FieldType), none)
abbrev mX7_reads : nd_Mt := (yX7_reads, cX7_reads, 3, (Option.some Jvm.ClassFile.FieldType.int), none)
abbrev mX7_readsOn : nd_Mt := (yX7_readsOn, cX7_readsOn, 2, (Option.none : Option Jvm.ClassFile.FieldType), none)
abbrev mX7_refuse : nd_Mt := (yX7_refuse, cX7_refuse, 3, (Option.some Jvm.ClassFile.FieldType.int), none)
abbrev mX7_restore : nd_Mt := (yX7_restore, cX7_restore, 3, (Option.none : Option Jvm.ClassFile.FieldType), none)
abbrev mX7_rows : nd_Mt := (yX7_rows, cX7_rows, 2, (Option.some Jvm.ClassFile.FieldType.int), none)
abbrev mX7_see : nd_Mt := (yX7_see, cX7_see, 2, (Option.some Jvm.ClassFile.FieldType.int), none)
abbrev mX7_seen : nd_Mt := (yX7_seen, cX7_seen, 3, (Option.some Jvm.ClassFile.FieldType.int), none)
abbrev mX7_seenFault : nd_Mt := (yX7_seenFault, cX7_seenFault, 4, (Option.some Jvm.ClassFile.FieldType.int), none)
abbrev mX7_sees : nd_Mt := (yX7_sees, cX7_sees, 3, (Option.some Jvm.ClassFile.FieldType.boolean), none)
abbrev mX7_seesMade : nd_Mt := (yX7_seesMade, cX7_seesMade, 2, (Option.some Jvm.ClassFile.FieldType.boolean), none)
abbrev mX7_seesOne : nd_Mt := (yX7_seesOne, cX7_seesOne, 3, (Option.none : Option Jvm.ClassFile.FieldType), none)
abbrev mX7_shake : nd_Mt := (yX7_shake, cX7_shake, 2, (Option.some Jvm.ClassFile.FieldType.int), none)
abbrev mX7_simple : nd_Mt := (yX7_simple, cX7_simple, 1, (Option.some Jvm.ClassFile.FieldType.int), none)
abbrev mX7_soonest : nd_Mt := (yX7_soonest, cX7_soonest, 2, (Option.some Jvm.ClassFile.FieldType.int), none)
abbrev mX7_stack : nd_Mt := (yX7_stack, cX7_stack, 2, (Option.some Jvm.ClassFile.FieldType.int), none)
abbrev mX7_stackFault : nd_Mt := (yX7_stackFault, cX7_stackFault, 5, (Option.some Jvm.ClassFile.FieldType.int), none)
abbrev mX7_stacks : nd_Mt := (yX7_stacks, cX7_stacks, 1, (Option.some Jvm.ClassFile.FieldType.int), none)
abbrev mX7_standing : nd_Mt := (yX7_standing, cX7_standing, 5, (Option.some Jvm.ClassFile.FieldType.int), none)
abbrev mX7_stands : nd_Mt := (yX7_stands, cX7_stands, 3, (Option.some Jvm.ClassFile.FieldType.boolean), none)
abbrev mX7_step : nd_Mt := (yX7_step, cX7_step, 1, (Option.some Jvm.ClassFile.FieldType.int), none)
abbrev mX7_sure : nd_Mt := (yX7_sure, cX7_sure, 3, (Option.some Jvm.ClassFile.FieldType.int), none)
abbrev mX7_thrown : nd_Mt := (yX7_thrown, cX7_thrown, 1, (Option.some Jvm.ClassFile.FieldType.int), none)
abbrev mX7_toldBest : nd_Mt := (yX7_toldBest, cX7_toldBest, 2, (Option.some Jvm.ClassFile.FieldType.int), none)
abbrev mX7_toldRow : nd_Mt := (yX7_toldRow, cX7_toldRow, 2, (Option.some Jvm.ClassFile.FieldType.int), none)
abbrev mX7_took : nd_Mt := (yX7_took, cX7_took, 3, (Option.some Jvm.ClassFile.FieldType.boolean), none)
abbrev mX7_topAt : nd_Mt := (yX7_topAt, cX7_topAt, 4, (Option.some Jvm.ClassFile.FieldType.int), none)
abbrev mX7_tray : nd_Mt := (yX7_tray, cX7_tray, 5, (Option.none : Option Jvm.ClassFile.FieldType), none)
abbrev mX7_trayFault : nd_Mt := (yX7_trayFault, cX7_trayFault, 2, (Option.some Jvm.ClassFile.FieldType.int), none)
abbrev mX7_underAt : nd_Mt := (yX7_underAt, cX7_underAt, 4, (Option.some Jvm.ClassFile.FieldType.int), none)
abbrev mX7_undo : nd_Mt := (yX7_undo, cX7_undo, 3, (Option.some Jvm.ClassFile.FieldType.int), none)
abbrev mX7_unfold : nd_Mt := (yX7_unfold, cX7_unfold, 1, (Option.some Jvm.ClassFile.FieldType.int), none)
abbrev mX7_whyTold : nd_Mt := (yX7_whyTold, cX7_whyTold, 3, (Option.some Jvm.ClassFile.FieldType.int), none)
abbrev mX7_within : nd_Mt := (yX7_within, cX7_within, 6, (Option.some Jvm.ClassFile.FieldType.boolean), none)
abbrev mX7_worth : nd_Mt := (yX7_worth, cX7_worth, 1, (Option.some Jvm.ClassFile.FieldType.int), none)
abbrev mX7_worthAsked : nd_Mt := (yX7_worthAsked, cX7_worthAsked, 2, (Option.some Jvm.ClassFile.FieldType.int), none)
abbrev mX7_worthAt : nd_Mt := (yX7_worthAt, cX7_worthAt, 2, (Option.some Jvm.ClassFile.FieldType.int), none)
abbrev mX7_write : nd_Mt := (yX7_write, cX7_write, 5, (Option.some Jvm.ClassFile.FieldType.long), none)
abbrev mX8_all : nd_Mt := (yX8_all, cX8_all, 1, (Option.some (Jvm.ClassFile.FieldType.object "NapkinDeeds$Napkin")), none)
abbrev mX8_atom : nd_Mt := (yX8_atom, cX8_atom, 2, (Option.some (Jvm.ClassFile.FieldType.object "NapkinDeeds$Sum")), none)
abbrev mX8_both : nd_Mt := (yX8_both, cX8_both, 2, (Option.some (Jvm.ClassFile.FieldType.object "NapkinDeeds$Truth")), none)
abbrev mX8_deeper : nd_Mt := (yX8_deeper, cX8_deeper, 1, (Option.none : Option Jvm.ClassFile.FieldType), none)
abbrev mX8_eats : nd_Mt := (yX8_eats, cX8_eats, 3, (Option.some Jvm.ClassFile.FieldType.boolean), none)
abbrev mX8_eats_2 : nd_Mt := (yX8_eats_2, cX8_eats_2, 3, (Option.some Jvm.ClassFile.FieldType.boolean), none)
abbrev mX8_full : nd_Mt := (yX8_full, cX8_full, 2, (Option.none : Option Jvm.ClassFile.FieldType), none)
abbrev mX8_init : nd_Mt := (yX8_init, cX8_init, 3, (Option.none : Option Jvm.ClassFile.FieldType), none)
abbrev mX8_is : nd_Mt := (yX8_is, cX8_is, 3, (Option.some Jvm.ClassFile.FieldType.boolean), none)
abbrev mX8_isDigit : nd_Mt := (yX8_isDigit, cX8_isDigit, 2, (Option.some Jvm.ClassFile.FieldType.boolean), none)
abbrev mX8_isSmall : nd_Mt := (yX8_isSmall, cX8_isSmall, 2, (Option.some Jvm.ClassFile.FieldType.boolean), none)
abbrev mX8_is_2 : nd_Mt := (yX8_is_2, cX8_is_2, 2, (Option.some Jvm.ClassFile.FieldType.boolean), none)
abbrev mX8_law : nd_Mt := (yX8_law, cX8_law, 2, (Option.none : Option Jvm.ClassFile.FieldType), none)
abbrev mX8_line : nd_Mt := (yX8_line, cX8_line, 1, (Option.none : Option Jvm.ClassFile.FieldType), none)
abbrev mX8_minus : nd_Mt := (yX8_minus, cX8_minus, 2, (Option.some (Jvm.ClassFile.FieldType.object "NapkinDeeds$Sum")), none)
abbrev mX8_must : nd_Mt := (yX8_must, cX8_must, 2, (Option.none : Option Jvm.ClassFile.FieldType), none)
abbrev mX8_must_2 : nd_Mt := (yX8_must_2, cX8_must_2, 2, (Option.none : Option Jvm.ClassFile.FieldType), none)
abbrev mX8_next : nd_Mt := (yX8_next, cX8_next, 1, (Option.none : Option Jvm.ClassFile.FieldType), none)
abbrev mX8_number : nd_Mt := (yX8_number, cX8_number, 4, (Option.some Jvm.ClassFile.FieldType.int), none)
abbrev mX8_sum : nd_Mt := (yX8_sum, cX8_sum, 2, (Option.some (Jvm.ClassFile.FieldType.object "NapkinDeeds$Sum")), none)
abbrev mX8_term : nd_Mt := (yX8_term, cX8_term, 2, (Option.some (Jvm.ClassFile.FieldType.object "NapkinDeeds$Sum")), none)
abbrev mX8_truth : nd_Mt := (yX8_truth, cX8_truth, 2, (Option.some (Jvm.ClassFile.FieldType.object "NapkinDeeds$Truth")), none)
abbrev mX8_unit : nd_Mt := (yX8_unit, cX8_unit, 3, (Option.some (Jvm.ClassFile.FieldType.object "NapkinDeeds$Truth")), none)
abbrev mX8_wrong : nd_Mt := (yX8_wrong, cX8_wrong, 1, (Option.some (Jvm.ClassFile.FieldType.object "NapkinDeeds$Bad")), none)
abbrev mX9_init : nd_Mt := (yX9_init, cX9_init, 3, (Option.none : Option Jvm.ClassFile.FieldType), none)
theorem lkX7_95 : GoodIn lw_all (va_wsS RX7 95 mX7_isLetter.1 (nd_ws mX7_isLetter)) := lw_S q2870 q2871 q158 q2872
theorem lyX7_95 : mX7_isLetter.1.cls ≠ "java/lang/invoke/MethodHandle" ∧ mX7_isLetter.1.cls ≠ "java/lang/invoke/VarHandle" ∧ (parseMethodDescriptor mX7_isLetter.1.desc).map (fun d => d.parameters.length) = some 1 := by decide +kernel
theorem lkX7_99 : GoodIn lw_all (wsV RX7 99 RX7 mX7_see.1 (nd_ws mX7_see)) := lw_V q2873 q2875 qs60 q158 q2876
theorem lyX7_99 : mX7_see.1.cls = RX7 ∧ mX7_see.1.cls ≠ "java/lang/invoke/MethodHandle" ∧ mX7_see.1.cls ≠ "java/lang/invoke/VarHandle" ∧ (parseMethodDescriptor mX7_see.1.desc).map (fun d => d.parameters.length) = some 1 := by decide +kernel
theorem lkX7_103 : GoodIn lw_all (va_wsS RX7 103 mX7_isDigit.1 (nd_ws mX7_isDigit)) := lw_S q2877 q2878 q158 q2879
theorem lyX7_103 : mX7_isDigit.1.cls ≠ "java/lang/invoke/MethodHandle" ∧ mX7_isDigit.1.cls ≠ "java/lang/invoke/VarHandle" ∧ (parseMethodDescriptor mX7_isDigit.1.desc).map (fun d => d.parameters.length) = some 1 := by decide +kernel
theorem lkX7_109 : GoodIn lw_all (va_wsS RX7 109 mX7_isSignByte.1 (nd_ws mX7_isSignByte)) := lw_S q2880 q2881 q158 q2882
theorem lyX7_109 : mX7_isSignByte.1.cls ≠ "java/lang/invoke/MethodHandle" ∧ mX7_isSignByte.1.cls ≠ "java/lang/invoke/VarHandle" ∧ (parseMethodDescriptor mX7_isSignByte.1.desc).map (fun d => d.parameters.length) = some 1 := by decide +kernel
theorem lkX7_118 : GoodIn lw_all (wsV RX7 118 RJ7 mJ7_length.1 (nd_ws mJ7_length)) := lw_V q2892 q1293 q1294 q164 q1295
theorem lyX7_118 : mJ7_length.1.cls = RJ7 ∧ mJ7_length.1.cls ≠ "java/lang/invoke/MethodHandle" ∧ mJ7_length.1.cls ≠ "java/lang/invoke/VarHandle" ∧ (parseMethodDescriptor mJ7_length.1.desc).map (fun d => d.parameters.length) = some 0 := by decide +kernel
theorem lkX7_123 : GoodIn lw_all (wsV RX7 123 RJ7 mJ7_charAt.1 (nd_ws mJ7_charAt)) := lw_V q2893 q1670 q1671 q164 q1672
theorem lyX7_123 : mJ7_charAt.1.cls = RJ7 ∧ mJ7_charAt.1.cls ≠ "java/lang/invoke/MethodHandle" ∧ mJ7_charAt.1.cls ≠ "java/lang/invoke/VarHandle" ∧ (parseMethodDescriptor mJ7_charAt.1.desc).map (fun d => d.parameters.length) = some 1 := by decide +kernel
theorem lkX7_127 : GoodIn lw_all (wsV RX7 127 RX7 mX7_isWord.1 (nd_ws mX7_isWord)) := lw_V q2888 q2890 qs62 q158 q2891
theorem lyX7_127 : mX7_isWord.1.cls = RX7 ∧ mX7_isWord.1.cls ≠ "java/lang/invoke/MethodHandle" ∧ mX7_isWord.1.cls ≠ "java/lang/invoke/VarHandle" ∧ (parseMethodDescriptor mX7_isWord.1.desc).map (fun d => d.parameters.length) = some 1 := by decide +kernel
theorem lkX7_131 : GoodIn lw_all (wsV RX7 131 RX7 mX7_readsOn.1 (nd_ws mX7_readsOn)) := lw_V q2866 q2868 qs59 q158 q2869
theorem lyX7_131 : mX7_readsOn.1.cls = RX7 ∧ mX7_readsOn.1.cls ≠ "java/lang/invoke/MethodHandle" ∧ mX7_readsOn.1.cls ≠ "java/lang/invoke/VarHandle" ∧ (parseMethodDescriptor mX7_readsOn.1.desc).map (fun d => d.parameters.length) = some 0 := by decide +kernel
theorem lkX7_134 : GoodIn lw_all (wsV RX7 134 RX7 mX7_blames.1 (nd_ws mX7_blames)) := lw_V q2902 q2904 qs65 q158 q2905
theorem lyX7_134 : mX7_blames.1.cls = RX7 ∧ mX7_blames.1.cls ≠ "java/lang/invoke/MethodHandle" ∧ mX7_blames.1.cls ≠ "java/lang/invoke/VarHandle" ∧ (parseMethodDescriptor mX7_blames.1.desc).map (fun d => d.parameters.length) = some 1 := by decide +kernel
theorem lkX7_138 : GoodIn lw_all (va_wsS RX7 138 mX7_within.1 (nd_ws mX7_within)) := lw_S q2859 q2860 q158 q2861
theorem lyX7_138 : mX7_within.1.cls ≠ "java/lang/invoke/MethodHandle" ∧ mX7_within.1.cls ≠ "java/lang/invoke/VarHandle" ∧ (parseMethodDescriptor mX7_within.1.desc).map (fun d => d.parameters.length) = some 3 := by decide +kernel
theorem lkX7_142 : GoodIn lw_all (wsV RX7 142 RX7 mX7_took.1 (nd_ws mX7_took)) := lw_V q2915 q2917 qs68 q158 q2918
theorem lyX7_142 : mX7_took.1.cls = RX7 ∧ mX7_took.1.cls ≠ "java/lang/invoke/MethodHandle" ∧ mX7_took.1.cls ≠ "java/lang/invoke/VarHandle" ∧ (parseMethodDescriptor mX7_took.1.desc).map (fun d => d.parameters.length) = some 1 := by decide +kernel
theorem lkX7_151 : GoodIn lw_all (wsV RX7 151 RX7 mX7_mustSign.1 (nd_ws mX7_mustSign)) := lw_V q2929 q2931 qs71 q158 q2932
theorem lyX7_151 : mX7_mustSign.1.cls = RX7 ∧ mX7_mustSign.1.cls ≠ "java/lang/invoke/MethodHandle" ∧ mX7_mustSign.1.cls ≠ "java/lang/invoke/VarHandle" ∧ (parseMethodDescriptor mX7_mustSign.1.desc).map (fun d => d.parameters.length) = some 1 := by decide +kernel
theorem lkX7_157 : GoodIn lw_all (wsV RX7 157 RX7 mX7_readBoth.1 (nd_ws mX7_readBoth)) := lw_V q2973 q2975 qs80 q158 q2976
theorem lyX7_157 : mX7_readBoth.1.cls = RX7 ∧ mX7_readBoth.1.cls ≠ "java/lang/invoke/MethodHandle" ∧ mX7_readBoth.1.cls ≠ "java/lang/invoke/VarHandle" ∧ (parseMethodDescriptor mX7_readBoth.1.desc).map (fun d => d.parameters.length) = some 0 := by decide +kernel
theorem lkX7_162 : GoodIn lw_all (wsV RX7 162 RX7 mX7_laysStep.1 (nd_ws mX7_laysStep)) := lw_V q2956 q2958 qs76 q158 q2959
theorem lyX7_162 : mX7_laysStep.1.cls = RX7 ∧ mX7_laysStep.1.cls ≠ "java/lang/invoke/MethodHandle" ∧ mX7_laysStep.1.cls ≠ "java/lang/invoke/VarHandle" ∧ (parseMethodDescriptor mX7_laysStep.1.desc).map (fun d => d.parameters.length) = some 1 := by decide +kernel
theorem lkX7_165 : GoodIn lw_all (wsV RX7 165 RX7 mX7_readUnit.1 (nd_ws mX7_readUnit)) := lw_V q2977 q2979 qs81 q158 q2980
theorem lyX7_165 : mX7_readUnit.1.cls = RX7 ∧ mX7_readUnit.1.cls ≠ "java/lang/invoke/MethodHandle" ∧ mX7_readUnit.1.cls ≠ "java/lang/invoke/VarHandle" ∧ (parseMethodDescriptor mX7_readUnit.1.desc).map (fun d => d.parameters.length) = some 0 := by decide +kernel
theorem lkX7_172 : GoodIn lw_all (wsV RX7 172 RX7 mX7_goesIn.1 (nd_ws mX7_goesIn)) := lw_V q2964 q2966 qs78 q158 q2967
theorem lyX7_172 : mX7_goesIn.1.cls = RX7 ∧ mX7_goesIn.1.cls ≠ "java/lang/invoke/MethodHandle" ∧ mX7_goesIn.1.cls ≠ "java/lang/invoke/VarHandle" ∧ (parseMethodDescriptor mX7_goesIn.1.desc).map (fun d => d.parameters.length) = some 0 := by decide +kernel
theorem lkX7_175 : GoodIn lw_all (wsV RX7 175 RX7 mX7_isSign.1 (nd_ws mX7_isSign)) := lw_V q2960 q2962 qs77 q158 q2963
theorem lyX7_175 : mX7_isSign.1.cls = RX7 ∧ mX7_isSign.1.cls ≠ "java/lang/invoke/MethodHandle" ∧ mX7_isSign.1.cls ≠ "java/lang/invoke/VarHandle" ∧ (parseMethodDescriptor mX7_isSign.1.desc).map (fun d => d.parameters.length) = some 1 := by decide +kernel
theorem lkX7_178 : GoodIn lw_all (wsV RX7 178 RX7 mX7_readTruth.1 (nd_ws mX7_readTruth)) := lw_V q2969 q2971 qs79 q158 q2972
theorem lyX7_178 : mX7_readTruth.1.cls = RX7 ∧ mX7_readTruth.1.cls ≠ "java/lang/invoke/MethodHandle" ∧ mX7_readTruth.1.cls ≠ "java/lang/invoke/VarHandle" ∧ (parseMethodDescriptor mX7_readTruth.1.desc).map (fun d => d.parameters.length) = some 0 := by decide +kernel
theorem lkX7_181 : GoodIn lw_all (wsV RX7 181 RX7 mX7_readSum.1 (nd_ws mX7_readSum)) := lw_V q2933 q2935 qs72 q158 q2936
theorem lyX7_181 : mX7_readSum.1.cls = RX7 ∧ mX7_readSum.1.cls ≠ "java/lang/invoke/MethodHandle" ∧ mX7_readSum.1.cls ≠ "java/lang/invoke/VarHandle" ∧ (parseMethodDescriptor mX7_readSum.1.desc).map (fun d => d.parameters.length) = some 0 := by decide +kernel
theorem lkX7_184 : GoodIn lw_all (wsV RX7 184 RX7 mX7_readTerm.1 (nd_ws mX7_readTerm)) := lw_V q2937 q2939 qs73 q158 q2940
theorem lyX7_184 : mX7_readTerm.1.cls = RX7 ∧ mX7_readTerm.1.cls ≠ "java/lang/invoke/MethodHandle" ∧ mX7_readTerm.1.cls ≠ "java/lang/invoke/VarHandle" ∧ (parseMethodDescriptor mX7_readTerm.1.desc).map (fun d => d.parameters.length) = some 0 := by decide +kernel
theorem lkX7_187 : GoodIn lw_all (wsV RX7 187 RX7 mX7_readAtom.1 (nd_ws mX7_readAtom)) := lw_V q2941 q2943 qs74 q158 q2944
theorem lyX7_187 : mX7_readAtom.1.cls = RX7 ∧ mX7_readAtom.1.cls ≠ "java/lang/invoke/MethodHandle" ∧ mX7_readAtom.1.cls ≠ "java/lang/invoke/VarHandle" ∧ (parseMethodDescriptor mX7_readAtom.1.desc).map (fun d => d.parameters.length) = some 0 := by decide +kernel
theorem lkX7_206 : GoodIn lw_all (wsV RX7 206 RX7 mX7_lawWord.1 (nd_ws mX7_lawWord)) := lw_V q2945 q2947 qs75 q158 q2948
theorem lyX7_206 : mX7_lawWord.1.cls = RX7 ∧ mX7_lawWord.1.cls ≠ "java/lang/invoke/MethodHandle" ∧ mX7_lawWord.1.cls ≠ "java/lang/invoke/VarHandle" ∧ (parseMethodDescriptor mX7_lawWord.1.desc).map (fun d => d.parameters.length) = some 0 := by decide +kernel
theorem lkX7_209 : GoodIn lw_all (wsV RX7 209 RX7 mX7_number.1 (nd_ws mX7_number)) := lw_V q2906 q2908 qs66 q158 q2909
theorem lyX7_209 : mX7_number.1.cls = RX7 ∧ mX7_number.1.cls ≠ "java/lang/invoke/MethodHandle" ∧ mX7_number.1.cls ≠ "java/lang/invoke/VarHandle" ∧ (parseMethodDescriptor mX7_number.1.desc).map (fun d => d.parameters.length) = some 2 := by decide +kernel
theorem lkX7_213 : GoodIn lw_all (wsV RX7 213 RX7 mX7_begins.1 (nd_ws mX7_begins)) := lw_V q2898 q2900 qs64 q158 q2901
theorem lyX7_213 : mX7_begins.1.cls = RX7 ∧ mX7_begins.1.cls ≠ "java/lang/invoke/MethodHandle" ∧ mX7_begins.1.cls ≠ "java/lang/invoke/VarHandle" ∧ (parseMethodDescriptor mX7_begins.1.desc).map (fun d => d.parameters.length) = some 2 := by decide +kernel
theorem lkX7_219 : GoodIn lw_all (wsV RX7 219 RX7 mX7_mustWord.1 (nd_ws mX7_mustWord)) := lw_V q2911 q2913 qs67 q158 q2914
theorem lyX7_219 : mX7_mustWord.1.cls = RX7 ∧ mX7_mustWord.1.cls ≠ "java/lang/invoke/MethodHandle" ∧ mX7_mustWord.1.cls ≠ "java/lang/invoke/VarHandle" ∧ (parseMethodDescriptor mX7_mustWord.1.desc).map (fun d => d.parameters.length) = some 1 := by decide +kernel
theorem lkX7_225 : GoodIn lw_all (wsV RX7 225 RX7 mX7_readCell.1 (nd_ws mX7_readCell)) := lw_V q2894 q2896 qs63 q158 q2897
theorem lyX7_225 : mX7_readCell.1.cls = RX7 ∧ mX7_readCell.1.cls ≠ "java/lang/invoke/MethodHandle" ∧ mX7_readCell.1.cls ≠ "java/lang/invoke/VarHandle" ∧ (parseMethodDescriptor mX7_readCell.1.desc).map (fun d => d.parameters.length) = some 0 := by decide +kernel
theorem lkX7_228 : GoodIn lw_all (wsV RX7 228 RX7 mX7_readGuest.1 (nd_ws mX7_readGuest)) := lw_V q2920 q2922 qs69 q158 q2923
theorem lyX7_228 : mX7_readGuest.1.cls = RX7 ∧ mX7_readGuest.1.cls ≠ "java/lang/invoke/MethodHandle" ∧ mX7_readGuest.1.cls ≠ "java/lang/invoke/VarHandle" ∧ (parseMethodDescriptor mX7_readGuest.1.desc).map (fun d => d.parameters.length) = some 0 := by decide +kernel
theorem lkX7_233 : GoodIn lw_all (wsV RX7 233 RX7 mX7_beginsLaw.1 (nd_ws mX7_beginsLaw)) := lw_V q2925 q2927 qs70 q158 q2928
theorem lyX7_233 : mX7_beginsLaw.1.cls = RX7 ∧ mX7_beginsLaw.1.cls ≠ "java/lang/invoke/MethodHandle" ∧ mX7_beginsLaw.1.cls ≠ "java/lang/invoke/VarHandle" ∧ (parseMethodDescriptor mX7_beginsLaw.1.desc).map (fun d => d.parameters.length) = some 2 := by decide +kernel
theorem lkX7_241 : GoodIn lw_all (wsV RX7 241 RX7 mX7_readStop.1 (nd_ws mX7_readStop)) := lw_V q2985 q2987 qs82 q158 q2988
theorem lyX7_241 : mX7_readStop.1.cls = RX7 ∧ mX7_readStop.1.cls ≠ "java/lang/invoke/MethodHandle" ∧ mX7_readStop.1.cls ≠ "java/lang/invoke/VarHandle" ∧ (parseMethodDescriptor mX7_readStop.1.desc).map (fun d => d.parameters.length) = some 0 := by decide +kernel
theorem lkX7_244 : GoodIn lw_all (wsV RX7 244 RX7 mX7_fails.1 (nd_ws mX7_fails)) := lw_V q2862 q2864 qs58 q158 q2865
theorem lyX7_244 : mX7_fails.1.cls = RX7 ∧ mX7_fails.1.cls ≠ "java/lang/invoke/MethodHandle" ∧ mX7_fails.1.cls ≠ "java/lang/invoke/VarHandle" ∧ (parseMethodDescriptor mX7_fails.1.desc).map (fun d => d.parameters.length) = some 1 := by decide +kernel
theorem lkX7_247 : GoodIn lw_all (wsV RX7 247 RX7 mX7_readLine.1 (nd_ws mX7_readLine)) := lw_V q2883 q2885 qs61 q158 q2886
theorem lyX7_247 : mX7_readLine.1.cls = RX7 ∧ mX7_readLine.1.cls ≠ "java/lang/invoke/MethodHandle" ∧ mX7_readLine.1.cls ≠ "java/lang/invoke/VarHandle" ∧ (parseMethodDescriptor mX7_readLine.1.desc).map (fun d => d.parameters.length) = some 0 := by decide +kernel
theorem lkX7_253 : GoodIn lw_all (wsV RX7 253 RX7 mX7_cells.1 (nd_ws mX7_cells)) := lw_V q3001 q3003 qs84 q158 q3004
theorem lyX7_253 : mX7_cells.1.cls = RX7 ∧ mX7_cells.1.cls ≠ "java/lang/invoke/MethodHandle" ∧ mX7_cells.1.cls ≠ "java/lang/invoke/VarHandle" ∧ (parseMethodDescriptor mX7_cells.1.desc).map (fun d => d.parameters.length) = some 0 := by decide +kernel
theorem lkX7_256 : GoodIn lw_all (wsV RX7 256 RX7 mX7_columnsAt.1 (nd_ws mX7_columnsAt)) := lw_V q3018 q3020 qs88 q158 q3021
theorem lyX7_256 : mX7_columnsAt.1.cls = RX7 ∧ mX7_columnsAt.1.cls ≠ "java/lang/invoke/MethodHandle" ∧ mX7_columnsAt.1.cls ≠ "java/lang/invoke/VarHandle" ∧ (parseMethodDescriptor mX7_columnsAt.1.desc).map (fun d => d.parameters.length) = some 1 := by decide +kernel
theorem lkX7_261 : GoodIn lw_all (wsV RX7 261 RX7 mX7_highAt.1 (nd_ws mX7_highAt)) := lw_V q3027 q3029 qs90 q158 q3030
theorem lyX7_261 : mX7_highAt.1.cls = RX7 ∧ mX7_highAt.1.cls ≠ "java/lang/invoke/MethodHandle" ∧ mX7_highAt.1.cls ≠ "java/lang/invoke/VarHandle" ∧ (parseMethodDescriptor mX7_highAt.1.desc).map (fun d => d.parameters.length) = some 2 := by decide +kernel
theorem lkX7_264 : GoodIn lw_all (wsV RX7 264 RX7 mX7_layerAt.1 (nd_ws mX7_layerAt)) := lw_V q3031 q3033 qs91 q158 q3034
theorem lyX7_264 : mX7_layerAt.1.cls = RX7 ∧ mX7_layerAt.1.cls ≠ "java/lang/invoke/MethodHandle" ∧ mX7_layerAt.1.cls ≠ "java/lang/invoke/VarHandle" ∧ (parseMethodDescriptor mX7_layerAt.1.desc).map (fun d => d.parameters.length) = some 3 := by decide +kernel
theorem lkX7_268 : GoodIn lw_all (va_wsS RX7 268 mJ9_max.1 (nd_ws mJ9_max)) := lw_S q3022 q469 q166 q470
theorem lyX7_268 : mJ9_max.1.cls ≠ "java/lang/invoke/MethodHandle" ∧ mJ9_max.1.cls ≠ "java/lang/invoke/VarHandle" ∧ (parseMethodDescriptor mJ9_max.1.desc).map (fun d => d.parameters.length) = some 2 := by decide +kernel
theorem lkX7_273 : GoodIn lw_all (wsV RX7 273 RX7 mX7_puts.1 (nd_ws mX7_puts)) := lw_V q3023 q3025 qs89 q158 q3026
theorem lyX7_273 : mX7_puts.1.cls = RX7 ∧ mX7_puts.1.cls ≠ "java/lang/invoke/MethodHandle" ∧ mX7_puts.1.cls ≠ "java/lang/invoke/VarHandle" ∧ (parseMethodDescriptor mX7_puts.1.desc).map (fun d => d.parameters.length) = some 4 := by decide +kernel
theorem lkX7_277 : GoodIn lw_all (wsV RX7 277 RX7 mX7_laysFlat.1 (nd_ws mX7_laysFlat)) := lw_V q3010 q3012 qs86 q158 q3013
theorem lyX7_277 : mX7_laysFlat.1.cls = RX7 ∧ mX7_laysFlat.1.cls ≠ "java/lang/invoke/MethodHandle" ∧ mX7_laysFlat.1.cls ≠ "java/lang/invoke/VarHandle" ∧ (parseMethodDescriptor mX7_laysFlat.1.desc).map (fun d => d.parameters.length) = some 0 := by decide +kernel
theorem lkX7_280 : GoodIn lw_all (wsV RX7 280 RX7 mX7_folds.1 (nd_ws mX7_folds)) := lw_V q3014 q3016 qs87 q158 q3017
theorem lyX7_280 : mX7_folds.1.cls = RX7 ∧ mX7_folds.1.cls ≠ "java/lang/invoke/MethodHandle" ∧ mX7_folds.1.cls ≠ "java/lang/invoke/VarHandle" ∧ (parseMethodDescriptor mX7_folds.1.desc).map (fun d => d.parameters.length) = some 3 := by decide +kernel
theorem lkX7_283 : GoodIn lw_all (wsV RX7 283 RX7 mX7_markOf.1 (nd_ws mX7_markOf)) := lw_V q3059 q3061 qs95 q158 q3062
theorem lyX7_283 : mX7_markOf.1.cls = RX7 ∧ mX7_markOf.1.cls ≠ "java/lang/invoke/MethodHandle" ∧ mX7_markOf.1.cls ≠ "java/lang/invoke/VarHandle" ∧ (parseMethodDescriptor mX7_markOf.1.desc).map (fun d => d.parameters.length) = some 2 := by decide +kernel
theorem lkX7_287 : GoodIn lw_all (wsV RX7 287 RX7 mX7_aboveAt.1 (nd_ws mX7_aboveAt)) := lw_V q3055 q3057 qs94 q158 q3058
theorem lyX7_287 : mX7_aboveAt.1.cls = RX7 ∧ mX7_aboveAt.1.cls ≠ "java/lang/invoke/MethodHandle" ∧ mX7_aboveAt.1.cls ≠ "java/lang/invoke/VarHandle" ∧ (parseMethodDescriptor mX7_aboveAt.1.desc).map (fun d => d.parameters.length) = some 2 := by decide +kernel
theorem lkX7_290 : GoodIn lw_all (wsV RX7 290 RX7 mX7_beneathAt.1 (nd_ws mX7_beneathAt)) := lw_V q3067 q3069 qs96 q158 q3070
theorem lyX7_290 : mX7_beneathAt.1.cls = RX7 ∧ mX7_beneathAt.1.cls ≠ "java/lang/invoke/MethodHandle" ∧ mX7_beneathAt.1.cls ≠ "java/lang/invoke/VarHandle" ∧ (parseMethodDescriptor mX7_beneathAt.1.desc).map (fun d => d.parameters.length) = some 2 := by decide +kernel
theorem lkX7_293 : GoodIn lw_all (wsV RX7 293 RX7 mX7_topAt.1 (nd_ws mX7_topAt)) := lw_V q3100 q3102 qs101 q158 q3103
theorem lyX7_293 : mX7_topAt.1.cls = RX7 ∧ mX7_topAt.1.cls ≠ "java/lang/invoke/MethodHandle" ∧ mX7_topAt.1.cls ≠ "java/lang/invoke/VarHandle" ∧ (parseMethodDescriptor mX7_topAt.1.desc).map (fun d => d.parameters.length) = some 1 := by decide +kernel
theorem lkX7_296 : GoodIn lw_all (wsV RX7 296 RX7 mX7_underAt.1 (nd_ws mX7_underAt)) := lw_V q3104 q3106 qs102 q158 q3107
theorem lyX7_296 : mX7_underAt.1.cls = RX7 ∧ mX7_underAt.1.cls ≠ "java/lang/invoke/MethodHandle" ∧ mX7_underAt.1.cls ≠ "java/lang/invoke/VarHandle" ∧ (parseMethodDescriptor mX7_underAt.1.desc).map (fun d => d.parameters.length) = some 1 := by decide +kernel
theorem lkX7_299 : GoodIn lw_all (va_wsS RX7 299 mJ9_min_2.1 (nd_ws mJ9_min_2)) := lw_S q3079 q745 q166 q746
theorem lyX7_299 : mJ9_min_2.1.cls ≠ "java/lang/invoke/MethodHandle" ∧ mJ9_min_2.1.cls ≠ "java/lang/invoke/VarHandle" ∧ (parseMethodDescriptor mJ9_min_2.1.desc).map (fun d => d.parameters.length) = some 2 := by decide +kernel
theorem lkX7_302 : GoodIn lw_all (wsV RX7 302 RX7 mX7_laysPlaces.1 (nd_ws mX7_laysPlaces)) := lw_V q3035 q3037 qs92 q158 q3038
theorem lyX7_302 : mX7_laysPlaces.1.cls = RX7 ∧ mX7_laysPlaces.1.cls ≠ "java/lang/invoke/MethodHandle" ∧ mX7_laysPlaces.1.cls ≠ "java/lang/invoke/VarHandle" ∧ (parseMethodDescriptor mX7_laysPlaces.1.desc).map (fun d => d.parameters.length) = some 1 := by decide +kernel
theorem lkX7_305 : GoodIn lw_all (wsV RX7 305 RX7 mX7_creaseOf.1 (nd_ws mX7_creaseOf)) := lw_V q3075 q3077 qs97 q158 q3078
theorem lyX7_305 : mX7_creaseOf.1.cls = RX7 ∧ mX7_creaseOf.1.cls ≠ "java/lang/invoke/MethodHandle" ∧ mX7_creaseOf.1.cls ≠ "java/lang/invoke/VarHandle" ∧ (parseMethodDescriptor mX7_creaseOf.1.desc).map (fun d => d.parameters.length) = some 1 := by decide +kernel
theorem lkX7_312 : GoodIn lw_all (va_wsS RX7 312 mJ9_min.1 (nd_ws mJ9_min)) := lw_S q3124 q568 q166 q569
theorem lyX7_312 : mJ9_min.1.cls ≠ "java/lang/invoke/MethodHandle" ∧ mJ9_min.1.cls ≠ "java/lang/invoke/VarHandle" ∧ (parseMethodDescriptor mJ9_min.1.desc).map (fun d => d.parameters.length) = some 2 := by decide +kernel
theorem lkX7_315 : GoodIn lw_all (va_wsS RX7 315 mJ9_max_2.1 (nd_ws mJ9_max_2)) := lw_S q3125 q571 q166 q572
theorem lyX7_315 : mJ9_max_2.1.cls ≠ "java/lang/invoke/MethodHandle" ∧ mJ9_max_2.1.cls ≠ "java/lang/invoke/VarHandle" ∧ (parseMethodDescriptor mJ9_max_2.1.desc).map (fun d => d.parameters.length) = some 2 := by decide +kernel
theorem lkX7_317 : GoodIn lw_all (va_wsS RX7 317 mX7_bound.1 (nd_ws mX7_bound)) := lw_S q3119 q3120 q158 q3121
theorem lyX7_317 : mX7_bound.1.cls ≠ "java/lang/invoke/MethodHandle" ∧ mX7_bound.1.cls ≠ "java/lang/invoke/VarHandle" ∧ (parseMethodDescriptor mX7_bound.1.desc).map (fun d => d.parameters.length) = some 1 := by decide +kernel
theorem lkX7_321 : GoodIn lw_all (va_wsS RX7 321 mX7_done.1 (nd_ws mX7_done)) := lw_S q3116 q3117 q158 q3118
theorem lyX7_321 : mX7_done.1.cls ≠ "java/lang/invoke/MethodHandle" ∧ mX7_done.1.cls ≠ "java/lang/invoke/VarHandle" ∧ (parseMethodDescriptor mX7_done.1.desc).map (fun d => d.parameters.length) = some 3 := by decide +kernel
theorem lkX7_325 : GoodIn lw_all (wsV RX7 325 RX7 mX7_highestAt.1 (nd_ws mX7_highestAt)) := lw_V q3096 q3098 qs100 q158 q3099
theorem lyX7_325 : mX7_highestAt.1.cls = RX7 ∧ mX7_highestAt.1.cls ≠ "java/lang/invoke/MethodHandle" ∧ mX7_highestAt.1.cls ≠ "java/lang/invoke/VarHandle" ∧ (parseMethodDescriptor mX7_highestAt.1.desc).map (fun d => d.parameters.length) = some 1 := by decide +kernel
theorem lkX7_328 : GoodIn lw_all (wsV RX7 328 RX7 mX7_hiddenAt.1 (nd_ws mX7_hiddenAt)) := lw_V q3108 q3110 qs103 q158 q3111
theorem lyX7_328 : mX7_hiddenAt.1.cls = RX7 ∧ mX7_hiddenAt.1.cls ≠ "java/lang/invoke/MethodHandle" ∧ mX7_hiddenAt.1.cls ≠ "java/lang/invoke/VarHandle" ∧ (parseMethodDescriptor mX7_hiddenAt.1.desc).map (fun d => d.parameters.length) = some 1 := by decide +kernel
theorem lkX7_331 : GoodIn lw_all (wsV RX7 331 RX7 mX7_asks.1 (nd_ws mX7_asks)) := lw_V q3092 q3094 qs99 q158 q3095
theorem lyX7_331 : mX7_asks.1.cls = RX7 ∧ mX7_asks.1.cls ≠ "java/lang/invoke/MethodHandle" ∧ mX7_asks.1.cls ≠ "java/lang/invoke/VarHandle" ∧ (parseMethodDescriptor mX7_asks.1.desc).map (fun d => d.parameters.length) = some 1 := by decide +kernel
theorem lkX7_334 : GoodIn lw_all (wsV RX7 334 RX7 mX7_lawOf.1 (nd_ws mX7_lawOf)) := lw_V q3112 q3114 qs104 q158 q3115
theorem lyX7_334 : mX7_lawOf.1.cls = RX7 ∧ mX7_lawOf.1.cls ≠ "java/lang/invoke/MethodHandle" ∧ mX7_lawOf.1.cls ≠ "java/lang/invoke/VarHandle" ∧ (parseMethodDescriptor mX7_lawOf.1.desc).map (fun d => d.parameters.length) = some 2 := by decide +kernel
theorem lkX7_337 : GoodIn lw_all (wsV RX7 337 RX7 mX7_isCell.1 (nd_ws mX7_isCell)) := lw_V q2997 q2999 qs83 q158 q3000
theorem lyX7_337 : mX7_isCell.1.cls = RX7 ∧ mX7_isCell.1.cls ≠ "java/lang/invoke/MethodHandle" ∧ mX7_isCell.1.cls ≠ "java/lang/invoke/VarHandle" ∧ (parseMethodDescriptor mX7_isCell.1.desc).map (fun d => d.parameters.length) = some 1 := by decide +kernel
theorem lkX7_343 : GoodIn lw_all (wsV RX7 343 RX7 mX7_laysNow.1 (nd_ws mX7_laysNow)) := lw_V q3006 q3008 qs85 q158 q3009
theorem lyX7_343 : mX7_laysNow.1.cls = RX7 ∧ mX7_laysNow.1.cls ≠ "java/lang/invoke/MethodHandle" ∧ mX7_laysNow.1.cls ≠ "java/lang/invoke/VarHandle" ∧ (parseMethodDescriptor mX7_laysNow.1.desc).map (fun d => d.parameters.length) = some 0 := by decide +kernel
theorem lkX7_346 : GoodIn lw_all (wsV RX7 346 RX7 mX7_isColumn.1 (nd_ws mX7_isColumn)) := lw_V q3043 q3045 qs93 q158 q3046
theorem lyX7_346 : mX7_isColumn.1.cls = RX7 ∧ mX7_isColumn.1.cls ≠ "java/lang/invoke/MethodHandle" ∧ mX7_isColumn.1.cls ≠ "java/lang/invoke/VarHandle" ∧ (parseMethodDescriptor mX7_isColumn.1.desc).map (fun d => d.parameters.length) = some 1 := by decide +kernel
theorem lkX7_349 : GoodIn lw_all (wsV RX7 349 RX7 mX7_worthAt.1 (nd_ws mX7_worthAt)) := lw_V q3088 q3090 qs98 q158 q3091
theorem lyX7_349 : mX7_worthAt.1.cls = RX7 ∧ mX7_worthAt.1.cls ≠ "java/lang/invoke/MethodHandle" ∧ mX7_worthAt.1.cls ≠ "java/lang/invoke/VarHandle" ∧ (parseMethodDescriptor mX7_worthAt.1.desc).map (fun d => d.parameters.length) = some 1 := by decide +kernel
theorem lkX7_352 : GoodIn lw_all (wsV RX7 352 RX7 mX7_holdsAt.1 (nd_ws mX7_holdsAt)) := lw_V q3130 q3132 qs105 q158 q3133
theorem lyX7_352 : mX7_holdsAt.1.cls = RX7 ∧ mX7_holdsAt.1.cls ≠ "java/lang/invoke/MethodHandle" ∧ mX7_holdsAt.1.cls ≠ "java/lang/invoke/VarHandle" ∧ (parseMethodDescriptor mX7_holdsAt.1.desc).map (fun d => d.parameters.length) = some 1 := by decide +kernel
theorem lkX7_355 : GoodIn lw_all (wsV RX7 355 RX7 mX7_likesAt.1 (nd_ws mX7_likesAt)) := lw_V q3138 q3140 qs106 q158 q3141
theorem lyX7_355 : mX7_likesAt.1.cls = RX7 ∧ mX7_likesAt.1.cls ≠ "java/lang/invoke/MethodHandle" ∧ mX7_likesAt.1.cls ≠ "java/lang/invoke/VarHandle" ∧ (parseMethodDescriptor mX7_likesAt.1.desc).map (fun d => d.parameters.length) = some 2 := by decide +kernel
theorem lkX7_358 : GoodIn lw_all (wsV RX7 358 RX7 mX7_isFold.1 (nd_ws mX7_isFold)) := lw_V q3146 q3148 qs107 q158 q3149
theorem lyX7_358 : mX7_isFold.1.cls = RX7 ∧ mX7_isFold.1.cls ≠ "java/lang/invoke/MethodHandle" ∧ mX7_isFold.1.cls ≠ "java/lang/invoke/VarHandle" ∧ (parseMethodDescriptor mX7_isFold.1.desc).map (fun d => d.parameters.length) = some 3 := by decide +kernel
theorem lkX7_362 : GoodIn lw_all (wsV RX7 362 RX7 mX7_keeps.1 (nd_ws mX7_keeps)) := lw_V q3151 q3153 qs108 q158 q3154
theorem lyX7_362 : mX7_keeps.1.cls = RX7 ∧ mX7_keeps.1.cls ≠ "java/lang/invoke/MethodHandle" ∧ mX7_keeps.1.cls ≠ "java/lang/invoke/VarHandle" ∧ (parseMethodDescriptor mX7_keeps.1.desc).map (fun d => d.parameters.length) = some 0 := by decide +kernel
theorem lkX7_365 : GoodIn lw_all (wsV RX7 365 RX7 mX7_addsFold.1 (nd_ws mX7_addsFold)) := lw_V q3155 q3157 qs109 q158 q3158
theorem lyX7_365 : mX7_addsFold.1.cls = RX7 ∧ mX7_addsFold.1.cls ≠ "java/lang/invoke/MethodHandle" ∧ mX7_addsFold.1.cls ≠ "java/lang/invoke/VarHandle" ∧ (parseMethodDescriptor mX7_addsFold.1.desc).map (fun d => d.parameters.length) = some 1 := by decide +kernel
theorem lkX7_372 : GoodIn lw_all (va_wsS RX7 372 mX7_isTray.1 (nd_ws mX7_isTray)) := lw_S q3185 q3186 q158 q3187
theorem lyX7_372 : mX7_isTray.1.cls ≠ "java/lang/invoke/MethodHandle" ∧ mX7_isTray.1.cls ≠ "java/lang/invoke/VarHandle" ∧ (parseMethodDescriptor mX7_isTray.1.desc).map (fun d => d.parameters.length) = some 1 := by decide +kernel
theorem lkX7_389 : GoodIn lw_all (wsV RX7 389 RX7 mX7_trayFault.1 (nd_ws mX7_trayFault)) := lw_V q3181 q3183 qs110 q158 q3184
theorem lyX7_389 : mX7_trayFault.1.cls = RX7 ∧ mX7_trayFault.1.cls ≠ "java/lang/invoke/MethodHandle" ∧ mX7_trayFault.1.cls ≠ "java/lang/invoke/VarHandle" ∧ (parseMethodDescriptor mX7_trayFault.1.desc).map (fun d => d.parameters.length) = some 1 := by decide +kernel
theorem lkX7_392 : GoodIn lw_all (wsV RX7 392 RX7 mX7_putsAside.1 (nd_ws mX7_putsAside)) := lw_V q3188 q3190 qs111 q158 q3191
theorem lyX7_392 : mX7_putsAside.1.cls = RX7 ∧ mX7_putsAside.1.cls ≠ "java/lang/invoke/MethodHandle" ∧ mX7_putsAside.1.cls ≠ "java/lang/invoke/VarHandle" ∧ (parseMethodDescriptor mX7_putsAside.1.desc).map (fun d => d.parameters.length) = some 0 := by decide +kernel
theorem lkX7_395 : GoodIn lw_all (wsV RX7 395 RX7 mX7_whyTold.1 (nd_ws mX7_whyTold)) := lw_V q3192 q3194 qs112 q158 q3195
theorem lyX7_395 : mX7_whyTold.1.cls = RX7 ∧ mX7_whyTold.1.cls ≠ "java/lang/invoke/MethodHandle" ∧ mX7_whyTold.1.cls ≠ "java/lang/invoke/VarHandle" ∧ (parseMethodDescriptor mX7_whyTold.1.desc).map (fun d => d.parameters.length) = some 1 := by decide +kernel
theorem lkX7_398 : GoodIn lw_all (wsV RX7 398 RX7 mX7_does.1 (nd_ws mX7_does)) := lw_V q3203 q3205 qs113 q158 q3206
theorem lyX7_398 : mX7_does.1.cls = RX7 ∧ mX7_does.1.cls ≠ "java/lang/invoke/MethodHandle" ∧ mX7_does.1.cls ≠ "java/lang/invoke/VarHandle" ∧ (parseMethodDescriptor mX7_does.1.desc).map (fun d => d.parameters.length) = some 1 := by decide +kernel
theorem lkX7_401 : GoodIn lw_all (wsV RX7 401 RX7 mX7_putsBack.1 (nd_ws mX7_putsBack)) := lw_V q3207 q3209 qs114 q158 q3210
theorem lyX7_401 : mX7_putsBack.1.cls = RX7 ∧ mX7_putsBack.1.cls ≠ "java/lang/invoke/MethodHandle" ∧ mX7_putsBack.1.cls ≠ "java/lang/invoke/VarHandle" ∧ (parseMethodDescriptor mX7_putsBack.1.desc).map (fun d => d.parameters.length) = some 0 := by decide +kernel
theorem lkX7_410 : GoodIn lw_all (wsV RX7 410 RX7 mX7_draw.1 (nd_ws mX7_draw)) := lw_V q3220 q3222 qs115 q158 q3223
theorem lyX7_410 : mX7_draw.1.cls = RX7 ∧ mX7_draw.1.cls ≠ "java/lang/invoke/MethodHandle" ∧ mX7_draw.1.cls ≠ "java/lang/invoke/VarHandle" ∧ (parseMethodDescriptor mX7_draw.1.desc).map (fun d => d.parameters.length) = some 1 := by decide +kernel
theorem lkX7_413 : GoodIn lw_all (wsV RX7 413 RX7 mX7_drawn.1 (nd_ws mX7_drawn)) := lw_V q3225 q3227 qs116 q158 q3228
theorem lyX7_413 : mX7_drawn.1.cls = RX7 ∧ mX7_drawn.1.cls ≠ "java/lang/invoke/MethodHandle" ∧ mX7_drawn.1.cls ≠ "java/lang/invoke/VarHandle" ∧ (parseMethodDescriptor mX7_drawn.1.desc).map (fun d => d.parameters.length) = some 1 := by decide +kernel
theorem lkX7_416 : GoodIn lw_all (wsV RX7 416 RX7 mX7_sees.1 (nd_ws mX7_sees)) := lw_V q3241 q3243 qs118 q158 q3244
theorem lyX7_416 : mX7_sees.1.cls = RX7 ∧ mX7_sees.1.cls ≠ "java/lang/invoke/MethodHandle" ∧ mX7_sees.1.cls ≠ "java/lang/invoke/VarHandle" ∧ (parseMethodDescriptor mX7_sees.1.desc).map (fun d => d.parameters.length) = some 1 := by decide +kernel
theorem lkX7_422 : GoodIn lw_all (wsV RX7 422 RX7 mX7_goes.1 (nd_ws mX7_goes)) := lw_V q3237 q3239 qs117 q158 q3240
theorem lyX7_422 : mX7_goes.1.cls = RX7 ∧ mX7_goes.1.cls ≠ "java/lang/invoke/MethodHandle" ∧ mX7_goes.1.cls ≠ "java/lang/invoke/VarHandle" ∧ (parseMethodDescriptor mX7_goes.1.desc).map (fun d => d.parameters.length) = some 2 := by decide +kernel
theorem lkX7_446 : GoodIn lw_all (wsV RX7 446 RX7 mX7_leastLiked.1 (nd_ws mX7_leastLiked)) := lw_V q3301 q3303 qs132 q158 q3304
theorem lyX7_446 : mX7_leastLiked.1.cls = RX7 ∧ mX7_leastLiked.1.cls ≠ "java/lang/invoke/MethodHandle" ∧ mX7_leastLiked.1.cls ≠ "java/lang/invoke/VarHandle" ∧ (parseMethodDescriptor mX7_leastLiked.1.desc).map (fun d => d.parameters.length) = some 1 := by decide +kernel
theorem lkX7_455 : GoodIn lw_all (wsV RX7 455 RX7 mX7_lookAt.1 (nd_ws mX7_lookAt)) := lw_V q3245 q3247 qs119 q158 q3248
theorem lyX7_455 : mX7_lookAt.1.cls = RX7 ∧ mX7_lookAt.1.cls ≠ "java/lang/invoke/MethodHandle" ∧ mX7_lookAt.1.cls ≠ "java/lang/invoke/VarHandle" ∧ (parseMethodDescriptor mX7_lookAt.1.desc).map (fun d => d.parameters.length) = some 1 := by decide +kernel
theorem lkX7_459 : GoodIn lw_all (wsV RX7 459 RX7 mX7_isNew.1 (nd_ws mX7_isNew)) := lw_V q3250 q3252 qs120 q158 q3253
theorem lyX7_459 : mX7_isNew.1.cls = RX7 ∧ mX7_isNew.1.cls ≠ "java/lang/invoke/MethodHandle" ∧ mX7_isNew.1.cls ≠ "java/lang/invoke/VarHandle" ∧ (parseMethodDescriptor mX7_isNew.1.desc).map (fun d => d.parameters.length) = some 1 := by decide +kernel
theorem lkX7_462 : GoodIn lw_all (wsV RX7 462 RX7 mX7_isBetter.1 (nd_ws mX7_isBetter)) := lw_V q3256 q3258 qs121 q158 q3259
theorem lyX7_462 : mX7_isBetter.1.cls = RX7 ∧ mX7_isBetter.1.cls ≠ "java/lang/invoke/MethodHandle" ∧ mX7_isBetter.1.cls ≠ "java/lang/invoke/VarHandle" ∧ (parseMethodDescriptor mX7_isBetter.1.desc).map (fun d => d.parameters.length) = some 1 := by decide +kernel
theorem lkX7_465 : GoodIn lw_all (wsV RX7 465 RX7 mX7_orderAt.1 (nd_ws mX7_orderAt)) := lw_V q3260 q3262 qs122 q158 q3263
theorem lyX7_465 : mX7_orderAt.1.cls = RX7 ∧ mX7_orderAt.1.cls ≠ "java/lang/invoke/MethodHandle" ∧ mX7_orderAt.1.cls ≠ "java/lang/invoke/VarHandle" ∧ (parseMethodDescriptor mX7_orderAt.1.desc).map (fun d => d.parameters.length) = some 1 := by decide +kernel
theorem lkX7_468 : GoodIn lw_all (wsV RX7 468 RX7 mX7_creasesAt.1 (nd_ws mX7_creasesAt)) := lw_V q3265 q3267 qs123 q158 q3268
theorem lyX7_468 : mX7_creasesAt.1.cls = RX7 ∧ mX7_creasesAt.1.cls ≠ "java/lang/invoke/MethodHandle" ∧ mX7_creasesAt.1.cls ≠ "java/lang/invoke/VarHandle" ∧ (parseMethodDescriptor mX7_creasesAt.1.desc).map (fun d => d.parameters.length) = some 1 := by decide +kernel
theorem lkX7_471 : GoodIn lw_all (wsV RX7 471 RX7 mX7_looksSo.1 (nd_ws mX7_looksSo)) := lw_V q3269 q3271 qs124 q158 q3272
theorem lyX7_471 : mX7_looksSo.1.cls = RX7 ∧ mX7_looksSo.1.cls ≠ "java/lang/invoke/MethodHandle" ∧ mX7_looksSo.1.cls ≠ "java/lang/invoke/VarHandle" ∧ (parseMethodDescriptor mX7_looksSo.1.desc).map (fun d => d.parameters.length) = some 2 := by decide +kernel
theorem lkX7_474 : GoodIn lw_all (wsV RX7 474 RX7 mX7_seesOne.1 (nd_ws mX7_seesOne)) := lw_V q3273 q3275 qs125 q158 q3276
theorem lyX7_474 : mX7_seesOne.1.cls = RX7 ∧ mX7_seesOne.1.cls ≠ "java/lang/invoke/MethodHandle" ∧ mX7_seesOne.1.cls ≠ "java/lang/invoke/VarHandle" ∧ (parseMethodDescriptor mX7_seesOne.1.desc).map (fun d => d.parameters.length) = some 1 := by decide +kernel
theorem lkX7_477 : GoodIn lw_all (wsV RX7 477 RX7 mX7_seesMade.1 (nd_ws mX7_seesMade)) := lw_V q3277 q3279 qs126 q158 q3280
theorem lyX7_477 : mX7_seesMade.1.cls = RX7 ∧ mX7_seesMade.1.cls ≠ "java/lang/invoke/MethodHandle" ∧ mX7_seesMade.1.cls ≠ "java/lang/invoke/VarHandle" ∧ (parseMethodDescriptor mX7_seesMade.1.desc).map (fun d => d.parameters.length) = some 1 := by decide +kernel
theorem lkX7_480 : GoodIn lw_all (wsV RX7 480 RX7 mX7_found.1 (nd_ws mX7_found)) := lw_V q3289 q3291 qs129 q158 q3292
theorem lyX7_480 : mX7_found.1.cls = RX7 ∧ mX7_found.1.cls ≠ "java/lang/invoke/MethodHandle" ∧ mX7_found.1.cls ≠ "java/lang/invoke/VarHandle" ∧ (parseMethodDescriptor mX7_found.1.desc).map (fun d => d.parameters.length) = some 2 := by decide +kernel
theorem lkX7_484 : GoodIn lw_all (wsV RX7 484 RX7 mX7_isStack.1 (nd_ws mX7_isStack)) := lw_V q3293 q3295 qs130 q158 q3296
theorem lyX7_484 : mX7_isStack.1.cls = RX7 ∧ mX7_isStack.1.cls ≠ "java/lang/invoke/MethodHandle" ∧ mX7_isStack.1.cls ≠ "java/lang/invoke/VarHandle" ∧ (parseMethodDescriptor mX7_isStack.1.desc).map (fun d => d.parameters.length) = some 2 := by decide +kernel
theorem lkX7_487 : GoodIn lw_all (wsV RX7 487 RX7 mX7_worthAsked.1 (nd_ws mX7_worthAsked)) := lw_V q3297 q3299 qs131 q158 q3300
theorem lyX7_487 : mX7_worthAsked.1.cls = RX7 ∧ mX7_worthAsked.1.cls ≠ "java/lang/invoke/MethodHandle" ∧ mX7_worthAsked.1.cls ≠ "java/lang/invoke/VarHandle" ∧ (parseMethodDescriptor mX7_worthAsked.1.desc).map (fun d => d.parameters.length) = some 1 := by decide +kernel
theorem lkX7_490 : GoodIn lw_all (wsV RX7 490 RX7 mX7_keepsRow.1 (nd_ws mX7_keepsRow)) := lw_V q3285 q3287 qs128 q158 q3288
theorem lyX7_490 : mX7_keepsRow.1.cls = RX7 ∧ mX7_keepsRow.1.cls ≠ "java/lang/invoke/MethodHandle" ∧ mX7_keepsRow.1.cls ≠ "java/lang/invoke/VarHandle" ∧ (parseMethodDescriptor mX7_keepsRow.1.desc).map (fun d => d.parameters.length) = some 2 := by decide +kernel
theorem lkX7_493 : GoodIn lw_all (wsV RX7 493 RX7 mX7_hasCreases.1 (nd_ws mX7_hasCreases)) := lw_V q3281 q3283 qs127 q158 q3284
theorem lyX7_493 : mX7_hasCreases.1.cls = RX7 ∧ mX7_hasCreases.1.cls ≠ "java/lang/invoke/MethodHandle" ∧ mX7_hasCreases.1.cls ≠ "java/lang/invoke/VarHandle" ∧ (parseMethodDescriptor mX7_hasCreases.1.desc).map (fun d => d.parameters.length) = some 2 := by decide +kernel
theorem lkX7_499 : GoodIn lw_all (va_wsS RX7 499 mX7_isMore.1 (nd_ws mX7_isMore)) := lw_S q3233 q3234 q158 q3235
theorem lyX7_499 : mX7_isMore.1.cls ≠ "java/lang/invoke/MethodHandle" ∧ mX7_isMore.1.cls ≠ "java/lang/invoke/VarHandle" ∧ (parseMethodDescriptor mX7_isMore.1.desc).map (fun d => d.parameters.length) = some 1 := by decide +kernel
theorem lkX7_502 : GoodIn lw_all (wsV RX7 502 RX7 mX7_asksAll.1 (nd_ws mX7_asksAll)) := lw_V q3314 q3316 qs134 q158 q3317
theorem lyX7_502 : mX7_asksAll.1.cls = RX7 ∧ mX7_asksAll.1.cls ≠ "java/lang/invoke/MethodHandle" ∧ mX7_asksAll.1.cls ≠ "java/lang/invoke/VarHandle" ∧ (parseMethodDescriptor mX7_asksAll.1.desc).map (fun d => d.parameters.length) = some 3 := by decide +kernel
theorem lkX7_505 : GoodIn lw_all (wsV RX7 505 RX7 mX7_manyBy.1 (nd_ws mX7_manyBy)) := lw_V q3310 q3312 qs133 q158 q3313
theorem lyX7_505 : mX7_manyBy.1.cls = RX7 ∧ mX7_manyBy.1.cls ≠ "java/lang/invoke/MethodHandle" ∧ mX7_manyBy.1.cls ≠ "java/lang/invoke/VarHandle" ∧ (parseMethodDescriptor mX7_manyBy.1.desc).map (fun d => d.parameters.length) = some 2 := by decide +kernel
theorem lkX7_510 : GoodIn lw_all (va_wsS RX7 510 mX7_isWhat.1 (nd_ws mX7_isWhat)) := lw_S q3323 q3324 q158 q3325
theorem lyX7_510 : mX7_isWhat.1.cls ≠ "java/lang/invoke/MethodHandle" ∧ mX7_isWhat.1.cls ≠ "java/lang/invoke/VarHandle" ∧ (parseMethodDescriptor mX7_isWhat.1.desc).map (fun d => d.parameters.length) = some 1 := by decide +kernel
theorem lkX7_513 : GoodIn lw_all (wsV RX7 513 RX7 mX7_toldRow.1 (nd_ws mX7_toldRow)) := lw_V q3327 q3329 qs135 q158 q3330
theorem lyX7_513 : mX7_toldRow.1.cls = RX7 ∧ mX7_toldRow.1.cls ≠ "java/lang/invoke/MethodHandle" ∧ mX7_toldRow.1.cls ≠ "java/lang/invoke/VarHandle" ∧ (parseMethodDescriptor mX7_toldRow.1.desc).map (fun d => d.parameters.length) = some 1 := by decide +kernel
theorem lkX7_516 : GoodIn lw_all (wsV RX7 516 RX7 mX7_toldBest.1 (nd_ws mX7_toldBest)) := lw_V q3343 q3345 qs137 q158 q3346
theorem lyX7_516 : mX7_toldBest.1.cls = RX7 ∧ mX7_toldBest.1.cls ≠ "java/lang/invoke/MethodHandle" ∧ mX7_toldBest.1.cls ≠ "java/lang/invoke/VarHandle" ∧ (parseMethodDescriptor mX7_toldBest.1.desc).map (fun d => d.parameters.length) = some 1 := by decide +kernel
theorem lkX7_519 : GoodIn lw_all (wsV RX7 519 RX7 mX7_bestBy.1 (nd_ws mX7_bestBy)) := lw_V q3339 q3341 qs136 q158 q3342
theorem lyX7_519 : mX7_bestBy.1.cls = RX7 ∧ mX7_bestBy.1.cls ≠ "java/lang/invoke/MethodHandle" ∧ mX7_bestBy.1.cls ≠ "java/lang/invoke/VarHandle" ∧ (parseMethodDescriptor mX7_bestBy.1.desc).map (fun d => d.parameters.length) = some 3 := by decide +kernel
theorem lkX7_524 : GoodIn lw_all (wsV RX7 524 RX7 mX7_marksFault.1 (nd_ws mX7_marksFault)) := lw_V q3351 q3353 qs138 q158 q3354
theorem lyX7_524 : mX7_marksFault.1.cls = RX7 ∧ mX7_marksFault.1.cls ≠ "java/lang/invoke/MethodHandle" ∧ mX7_marksFault.1.cls ≠ "java/lang/invoke/VarHandle" ∧ (parseMethodDescriptor mX7_marksFault.1.desc).map (fun d => d.parameters.length) = some 1 := by decide +kernel
theorem lkX7_527 : GoodIn lw_all (va_wsS RX7 527 mX7_isBetween.1 (nd_ws mX7_isBetween)) := lw_S q3372 q3373 q158 q3374
theorem lyX7_527 : mX7_isBetween.1.cls ≠ "java/lang/invoke/MethodHandle" ∧ mX7_isBetween.1.cls ≠ "java/lang/invoke/VarHandle" ∧ (parseMethodDescriptor mX7_isBetween.1.desc).map (fun d => d.parameters.length) = some 3 := by decide +kernel
theorem lkX7_531 : GoodIn lw_all (wsV RX7 531 RX7 mX7_stackFault.1 (nd_ws mX7_stackFault)) := lw_V q3364 q3366 qs139 q158 q3367
theorem lyX7_531 : mX7_stackFault.1.cls = RX7 ∧ mX7_stackFault.1.cls ≠ "java/lang/invoke/MethodHandle" ∧ mX7_stackFault.1.cls ≠ "java/lang/invoke/VarHandle" ∧ (parseMethodDescriptor mX7_stackFault.1.desc).map (fun d => d.parameters.length) = some 1 := by decide +kernel
theorem lkX7_534 : GoodIn lw_all (wsV RX7 534 RX7 mX7_canStand.1 (nd_ws mX7_canStand)) := lw_V q3368 q3370 qs140 q158 q3371
theorem lyX7_534 : mX7_canStand.1.cls = RX7 ∧ mX7_canStand.1.cls ≠ "java/lang/invoke/MethodHandle" ∧ mX7_canStand.1.cls ≠ "java/lang/invoke/VarHandle" ∧ (parseMethodDescriptor mX7_canStand.1.desc).map (fun d => d.parameters.length) = some 0 := by decide +kernel
theorem lkX7_538 : GoodIn lw_all (va_wsS RX7 538 mX7_has.1 (nd_ws mX7_has)) := lw_S q3383 q3384 q158 q3385
theorem lyX7_538 : mX7_has.1.cls ≠ "java/lang/invoke/MethodHandle" ∧ mX7_has.1.cls ≠ "java/lang/invoke/VarHandle" ∧ (parseMethodDescriptor mX7_has.1.desc).map (fun d => d.parameters.length) = some 2 := by decide +kernel
theorem lkX7_541 : GoodIn lw_all (wsV RX7 541 RX7 mX7_standing.1 (nd_ws mX7_standing)) := lw_V q3379 q3381 qs141 q158 q3382
theorem lyX7_541 : mX7_standing.1.cls = RX7 ∧ mX7_standing.1.cls ≠ "java/lang/invoke/MethodHandle" ∧ mX7_standing.1.cls ≠ "java/lang/invoke/VarHandle" ∧ (parseMethodDescriptor mX7_standing.1.desc).map (fun d => d.parameters.length) = some 2 := by decide +kernel
theorem lkX7_544 : GoodIn lw_all (wsV RX7 544 RX7 mX7_manyFromFlat.1 (nd_ws mX7_manyFromFlat)) := lw_V q3394 q3396 qs142 q158 q3397
theorem lyX7_544 : mX7_manyFromFlat.1.cls = RX7 ∧ mX7_manyFromFlat.1.cls ≠ "java/lang/invoke/MethodHandle" ∧ mX7_manyFromFlat.1.cls ≠ "java/lang/invoke/VarHandle" ∧ (parseMethodDescriptor mX7_manyFromFlat.1.desc).map (fun d => d.parameters.length) = some 1 := by decide +kernel
theorem lkX7_549 : GoodIn lw_all (wsV RX7 549 RX7 mX7_creasesFault.1 (nd_ws mX7_creasesFault)) := lw_V q3402 q3404 qs143 q158 q3405
theorem lyX7_549 : mX7_creasesFault.1.cls = RX7 ∧ mX7_creasesFault.1.cls ≠ "java/lang/invoke/MethodHandle" ∧ mX7_creasesFault.1.cls ≠ "java/lang/invoke/VarHandle" ∧ (parseMethodDescriptor mX7_creasesFault.1.desc).map (fun d => d.parameters.length) = some 1 := by decide +kernel
theorem lkX7_552 : GoodIn lw_all (wsV RX7 552 RX7 mX7_laysLiked.1 (nd_ws mX7_laysLiked)) := lw_V q3419 q3421 qs144 q158 q3422
theorem lyX7_552 : mX7_laysLiked.1.cls = RX7 ∧ mX7_laysLiked.1.cls ≠ "java/lang/invoke/MethodHandle" ∧ mX7_laysLiked.1.cls ≠ "java/lang/invoke/VarHandle" ∧ (parseMethodDescriptor mX7_laysLiked.1.desc).map (fun d => d.parameters.length) = some 0 := by decide +kernel
theorem lkX7_558 : GoodIn lw_all (wsV RX7 558 RX7 mX7_seenFault.1 (nd_ws mX7_seenFault)) := lw_V q3439 q3441 qs145 q158 q3442
theorem lyX7_558 : mX7_seenFault.1.cls = RX7 ∧ mX7_seenFault.1.cls ≠ "java/lang/invoke/MethodHandle" ∧ mX7_seenFault.1.cls ≠ "java/lang/invoke/VarHandle" ∧ (parseMethodDescriptor mX7_seenFault.1.desc).map (fun d => d.parameters.length) = some 2 := by decide +kernel
theorem lkX7_561 : GoodIn lw_all (wsV RX7 561 RX7 mX7_laysSeen.1 (nd_ws mX7_laysSeen)) := lw_V q3443 q3445 qs146 q158 q3446
theorem lyX7_561 : mX7_laysSeen.1.cls = RX7 ∧ mX7_laysSeen.1.cls ≠ "java/lang/invoke/MethodHandle" ∧ mX7_laysSeen.1.cls ≠ "java/lang/invoke/VarHandle" ∧ (parseMethodDescriptor mX7_laysSeen.1.desc).map (fun d => d.parameters.length) = some 2 := by decide +kernel
theorem lkX7_564 : GoodIn lw_all (wsV RX7 564 RX7 mX7_cut.1 (nd_ws mX7_cut)) := lw_V q3463 q3465 qs147 q158 q3466
theorem lyX7_564 : mX7_cut.1.cls = RX7 ∧ mX7_cut.1.cls ≠ "java/lang/invoke/MethodHandle" ∧ mX7_cut.1.cls ≠ "java/lang/invoke/VarHandle" ∧ (parseMethodDescriptor mX7_cut.1.desc).map (fun d => d.parameters.length) = some 3 := by decide +kernel
theorem mo_W.known {h0 h : nd_H} {A : Nat → Nat → Int32} {F : Nat → Int32} {B : Nat → Nat → Int64} (hw : mo_W h0 A F B h) : h[102]? = some (.inl (0, 2912, .inl (A 0))) := hw.2.2.1 0 rfl
theorem mo_W.telling {h0 h : nd_H} {A : Nat → Nat → Int32} {F : Nat → Int32} {B : Nat → Nat → Int64} (hw : mo_W h0 A F B h) : h[103]? = some (.inl (0, 2912, .inl (A 1))) := hw.2.2.1 1 rfl
theorem mo_W.images {h0 h : nd_H} {A : Nat → Nat → Int32} {F : Nat → Int32} {B : Nat → Nat → Int64} (hw : mo_W h0 A F B h) : h[104]? = some (.inl (0, 8736, .inl (A 2))) := hw.2.2.1 2 rfl
theorem mo_W.isImage {h0 h : nd_H} {A : Nat → Nat → Int32} {F : Nat → Int32} {B : Nat → Nat → Int64} (hw : mo_W h0 A F B h) : h[105]? = some (.inl (4, 3, .inl (A 3))) := hw.2.2.1 3 rfl
theorem mo_W.tape {h0 h : nd_H} {A : Nat → Nat → Int32} {F : Nat → Int32} {B : Nat → Nat → Int64} (hw : mo_W h0 A F B h) : h[106]? = some (.inl (0, 900, .inl (A 5))) := hw.2.2.1 5 rfl
theorem mo_W.lies {h0 h : nd_H} {A : Nat → Nat → Int32} {F : Nat → Int32} {B : Nat → Nat → Int64} (hw : mo_W h0 A F B h) : h[107]? = some (.inl (0, 473, .inl (A 19))) := hw.2.2.1 19 rfl
theorem mo_W.places {h0 h : nd_H} {A : Nat → Nat → Int32} {F : Nat → Int32} {B : Nat → Nat → Int64} (hw : mo_W h0 A F B h) : h[108]? = some (.inl (0, 6, .inl (A 20))) := hw.2.2.1 20 rfl
theorem mo_W.lawStack {h0 h : nd_H} {A : Nat → Nat → Int32} {F : Nat → Int32} {B : Nat → Nat → Int64} (hw : mo_W h0 A F B h) : h[109]? = some (.inl (0, 64, .inl (A 21))) := hw.2.2.1 21 rfl
theorem mo_W.asked {h0 h : nd_H} {A : Nat → Nat → Int32} {F : Nat → Int32} {B : Nat → Nat → Int64} (hw : mo_W h0 A F B h) : h[110]? = some (.inl (0, 8, .inl (A 22))) := hw.2.2.1 22 rfl
theorem mo_W.aside {h0 h : nd_H} {A : Nat → Nat → Int32} {F : Nat → Int32} {B : Nat → Nat → Int64} (hw : mo_W h0 A F B h) : h[111]? = some (.inl (0, 18, .inl (A 23))) := hw.2.2.1 23 rfl
theorem mo_W.row {h0 h : nd_H} {A : Nat → Nat → Int32} {F : Nat → Int32} {B : Nat → Nat → Int64} (hw : mo_W h0 A F B h) : h[112]? = some (.inl (0, 5, .inl (A 25))) := hw.2.2.1 25 rfl
theorem mo_W.bestRow {h0 h : nd_H} {A : Nat → Nat → Int32} {F : Nat → Int32} {B : Nat → Nat → Int64} (hw : mo_W h0 A F B h) : h[113]? = some (.inl (0, 5, .inl (A 26))) := hw.2.2.1 26 rfl
theorem mo_W.likedNow {h0 h : nd_H} {A : Nat → Nat → Int32} {F : Nat → Int32} {B : Nat → Nat → Int64} (hw : mo_W h0 A F B h) : h[114]? = some (.inl (0, 4, .inl (A 27))) := hw.2.2.1 27 rfl
theorem mo_W.met {h0 h : nd_H} {A : Nat → Nat → Int32} {F : Nat → Int32} {B : Nat → Nat → Int64} (hw : mo_W h0 A F B h) : h[115]? = some (.inl (1, 65536, .inr (.inl (B 35)))) := hw.2.2.2 35 rfl
theorem mo_W.metBy {h0 h : nd_H} {A : Nat → Nat → Int32} {F : Nat → Int32} {B : Nat → Nat → Int64} (hw : mo_W h0 A F B h) : h[116]? = some (.inl (0, 65536, .inl (A 36))) := hw.2.2.1 36 rfl
theorem mo_W.layers {h0 h : nd_H} {A : Nat → Nat → Int32} {F : Nat → Int32} {B : Nat → Nat → Int64} (hw : mo_W h0 A F B h) : h[117]? = some (.inl (0, 6, .inl (A 38))) := hw.2.2.1 38 rfl
theorem mo_W.beneathHow {h0 h : nd_H} {A : Nat → Nat → Int32} {F : Nat → Int32} {B : Nat → Nat → Int64} (hw : mo_W h0 A F B h) : h[118]? = some (.inl (0, 600, .inl (A 39))) := hw.2.2.1 39 rfl
theorem mo_W.tSort {h0 h : nd_H} {A : Nat → Nat → Int32} {F : Nat → Int32} {B : Nat → Nat → Int64} (hw : mo_W h0 A F B h) : h[119]? = some (.inl (0, 4, .inl (A 40))) := hw.2.2.1 40 rfl
theorem mo_W.tMany {h0 h : nd_H} {A : Nat → Nat → Int32} {F : Nat → Int32} {B : Nat → Nat → Int64} (hw : mo_W h0 A F B h) : h[120]? = some (.inl (0, 4, .inl (A 41))) := hw.2.2.1 41 rfl
theorem mo_W.numbers {h0 h : nd_H} {A : Nat → Nat → Int32} {F : Nat → Int32} {B : Nat → Nat → Int64} (hw : mo_W h0 A F B h) : h[121]? = some (.inl (1, 120, .inr (.inl (B 42)))) := hw.2.2.2 42 rfl
section MOF
variable {g : nd_G} {mm : nd_Mt} {d mc ms : Nat} {K : nd_K} {X : nd_X} {pc : Nat} {lv : List (Option Value)} {st : List Value} {h h0 : nd_H} {cs ss : Nat} {A : Nat → Nat → Int32} {F : Nat → Int32} {B : Nat → Nat → Int64}
theorem mo_get_known (hC : nd_Cx g mm X) (hw : mo_W h0 A F B h) (hc : mm.1.cls = "NapkinDeedsModel") (hd : decode mm.2.1 pc = .ok (.getfield 9, 3)) (kk : nd_W g mm d mc ms K X (pc + 3) lv (.ref 102 :: st) h cs ss) : nd_W g mm d mc ms K X pc lv (.ref 101 :: st) h cs ss := nd_get (ci := nX7) (fs := mo_fl F) hC in_X7 rfl hw.2.1 0 (by decide) (by rw [hc]; exact q2716) (fun _ z => z) rfl hd kk
theorem mo_ast_known (hC : nd_Cx g mm X) (hw : mo_W h0 A F B h) {x : Int32} {j : Nat} (hj : j < 2912) (hd : decode mm.2.1 pc = .ok (.iastore, 1)) (kk : ∀ h2, mo_W h0 (va_up A 0 (upd (A 0) j x)) F B h2 → nd_W g mm d mc ms K X (pc + 1) lv st h2 cs ss) : nd_W g mm d mc ms K X pc lv (.int x :: .int (nI j) :: .ref 102 :: st) h cs ss := mo_iast hC hw 0 rfl rfl rfl hj (by decide) hd kk
theorem mo_get_telling (hC : nd_Cx g mm X) (hw : mo_W h0 A F B h) (hc : mm.1.cls = "NapkinDeedsModel") (hd : decode mm.2.1 pc = .ok (.getfield 13, 3)) (kk : nd_W g mm d mc ms K X (pc + 3) lv (.ref 103 :: st) h cs ss) : nd_W g mm d mc ms K X pc lv (.ref 101 :: st) h cs ss := nd_get (ci := nX7) (fs := mo_fl F) hC in_X7 rfl hw.2.1 1 (by decide) (by rw [hc]; exact q2717) (fun _ z => z) rfl hd kk
theorem mo_ast_telling (hC : nd_Cx g mm X) (hw : mo_W h0 A F B h) {x : Int32} {j : Nat} (hj : j < 2912) (hd : decode mm.2.1 pc = .ok (.iastore, 1)) (kk : ∀ h2, mo_W h0 (va_up A 1 (upd (A 1) j x)) F B h2 → nd_W g mm d mc ms K X (pc + 1) lv st h2 cs ss) : nd_W g mm d mc ms K X pc lv (.int x :: .int (nI j) :: .ref 103 :: st) h cs ss := mo_iast hC hw 1 rfl rfl rfl hj (by decide) hd kk
theorem mo_get_images (hC : nd_Cx g mm X) (hw : mo_W h0 A F B h) (hc : mm.1.cls = "NapkinDeedsModel") (hd : decode mm.2.1 pc = .ok (.getfield 16, 3)) (kk : nd_W g mm d mc ms K X (pc + 3) lv (.ref 104 :: st) h cs ss) : nd_W g mm d mc ms K X pc lv (.ref 101 :: st) h cs ss := nd_get (ci := nX7) (fs := mo_fl F) hC in_X7 rfl hw.2.1 2 (by decide) (by rw [hc]; exact q2718) (fun _ z => z) rfl hd kk
theorem mo_ast_images (hC : nd_Cx g mm X) (hw : mo_W h0 A F B h) {x : Int32} {j : Nat} (hj : j < 8736) (hd : decode mm.2.1 pc = .ok (.iastore, 1)) (kk : ∀ h2, mo_W h0 (va_up A 2 (upd (A 2) j x)) F B h2 → nd_W g mm d mc ms K X (pc + 1) lv st h2 cs ss) : nd_W g mm d mc ms K X pc lv (.int x :: .int (nI j) :: .ref 104 :: st) h cs ss := mo_iast hC hw 2 rfl rfl rfl hj (by decide) hd kk
theorem mo_get_isImage (hC : nd_Cx g mm X) (hw : mo_W h0 A F B h) (hc : mm.1.cls = "NapkinDeedsModel") (hd : decode mm.2.1 pc = .ok (.getfield 19, 3)) (kk : nd_W g mm d mc ms K X (pc + 3) lv (.ref 105 :: st) h cs ss) : nd_W g mm d mc ms K X pc lv (.ref 101 :: st) h cs ss := nd_get (ci := nX7) (fs := mo_fl F) hC in_X7 rfl hw.2.1 3 (by decide) (by rw [hc]; exact q2719) (fun _ z => z) rfl hd kk
theorem mo_get_thrown (hC : nd_Cx g mm X) (hw : mo_W h0 A F B h) (hc : mm.1.cls = "NapkinDeedsModel") (hd : decode mm.2.1 pc = .ok (.getfield 77, 3)) (kk : nd_W g mm d mc ms K X (pc + 3) lv (.int (F 4) :: st) h cs ss) : nd_W g mm d mc ms K X pc lv (.ref 101 :: st) h cs ss := nd_get (ci := nX7) (fs := mo_fl F) hC in_X7 rfl hw.2.1 4 (by decide) (by rw [hc]; exact q2720) (fun _ z => z) rfl hd kk
theorem mo_put_thrown (hC : nd_Cx g mm X) (hw : mo_W h0 A F B h) (hc : mm.1.cls = "NapkinDeedsModel") {x : Int32} (hd : decode mm.2.1 pc = .ok (.putfield 77, 3)) (kk : ∀ h2, mo_W h0 A (va_up F 4 x) B h2 → nd_W g mm d mc ms K X (pc + 3) lv st h2 cs ss) : nd_W g mm d mc ms K X pc lv (.int x :: .ref 101 :: st) h cs ss := mo_put hC hw 4 (by decide) (by rw [hc]; exact q2720) rfl rfl rfl rfl hd kk
theorem mo_get_tape (hC : nd_Cx g mm X) (hw : mo_W h0 A F B h) (hc : mm.1.cls = "NapkinDeedsModel") (hd : decode mm.2.1 pc = .ok (.getfield 23, 3)) (kk : nd_W g mm d mc ms K X (pc + 3) lv (.ref 106 :: st) h cs ss) : nd_W g mm d mc ms K X pc lv (.ref 101 :: st) h cs ss := nd_get (ci := nX7) (fs := mo_fl F) hC in_X7 rfl hw.2.1 5 (by decide) (by rw [hc]; exact q2721) (fun _ z => z) rfl hd kk
theorem mo_ast_tape (hC : nd_Cx g mm X) (hw : mo_W h0 A F B h) {x : Int32} {j : Nat} (hj : j < 900) (hd : decode mm.2.1 pc = .ok (.iastore, 1)) (kk : ∀ h2, mo_W h0 (va_up A 5 (upd (A 5) j x)) F B h2 → nd_W g mm d mc ms K X (pc + 1) lv st h2 cs ss) : nd_W g mm d mc ms K X pc lv (.int x :: .int (nI j) :: .ref 106 :: st) h cs ss := mo_iast hC hw 5 rfl rfl rfl hj (by decide) hd kk
theorem mo_get_taped (hC : nd_Cx g mm X) (hw : mo_W h0 A F B h) (hc : mm.1.cls = "NapkinDeedsModel") (hd : decode mm.2.1 pc = .ok (.getfield 80, 3)) (kk : nd_W g mm d mc ms K X (pc + 3) lv (.int (F 6) :: st) h cs ss) : nd_W g mm d mc ms K X pc lv (.ref 101 :: st) h cs ss := nd_get (ci := nX7) (fs := mo_fl F) hC in_X7 rfl hw.2.1 6 (by decide) (by rw [hc]; exact q2722) (fun _ z => z) rfl hd kk
theorem mo_put_taped (hC : nd_Cx g mm X) (hw : mo_W h0 A F B h) (hc : mm.1.cls = "NapkinDeedsModel") {x : Int32} (hd : decode mm.2.1 pc = .ok (.putfield 80, 3)) (kk : ∀ h2, mo_W h0 A (va_up F 6 x) B h2 → nd_W g mm d mc ms K X (pc + 3) lv st h2 cs ss) : nd_W g mm d mc ms K X pc lv (.int x :: .ref 101 :: st) h cs ss := mo_put hC hw 6 (by decide) (by rw [hc]; exact q2722) rfl rfl rfl rfl hd kk
theorem mo_get_length (hC : nd_Cx g mm X) (hw : mo_W h0 A F B h) (hc : mm.1.cls = "NapkinDeedsModel") (hd : decode mm.2.1 pc = .ok (.getfield 83, 3)) (kk : nd_W g mm d mc ms K X (pc + 3) lv (.int (F 7) :: st) h cs ss) : nd_W g mm d mc ms K X pc lv (.ref 101 :: st) h cs ss := nd_get (ci := nX7) (fs := mo_fl F) hC in_X7 rfl hw.2.1 7 (by decide) (by rw [hc]; exact q2723) (fun _ z => z) rfl hd kk
theorem mo_put_length (hC : nd_Cx g mm X) (hw : mo_W h0 A F B h) (hc : mm.1.cls = "NapkinDeedsModel") {x : Int32} (hd : decode mm.2.1 pc = .ok (.putfield 83, 3)) (kk : ∀ h2, mo_W h0 A (va_up F 7 x) B h2 → nd_W g mm d mc ms K X (pc + 3) lv st h2 cs ss) : nd_W g mm d mc ms K X pc lv (.int x :: .ref 101 :: st) h cs ss := mo_put hC hw 7 (by decide) (by rw [hc]; exact q2723) rfl rfl rfl rfl hd kk
theorem mo_get_head (hC : nd_Cx g mm X) (hw : mo_W h0 A F B h) (hc : mm.1.cls = "NapkinDeedsModel") (hd : decode mm.2.1 pc = .ok (.getfield 86, 3)) (kk : nd_W g mm d mc ms K X (pc + 3) lv (.int (F 8) :: st) h cs ss) : nd_W g mm d mc ms K X pc lv (.ref 101 :: st) h cs ss := nd_get (ci := nX7) (fs := mo_fl F) hC in_X7 rfl hw.2.1 8 (by decide) (by rw [hc]; exact q2724) (fun _ z => z) rfl hd kk
theorem mo_put_head (hC : nd_Cx g mm X) (hw : mo_W h0 A F B h) (hc : mm.1.cls = "NapkinDeedsModel") {x : Int32} (hd : decode mm.2.1 pc = .ok (.putfield 86, 3)) (kk : ∀ h2, mo_W h0 A (va_up F 8 x) B h2 → nd_W g mm d mc ms K X (pc + 3) lv st h2 cs ss) : nd_W g mm d mc ms K X pc lv (.int x :: .ref 101 :: st) h cs ss := mo_put hC hw 8 (by decide) (by rw [hc]; exact q2724) rfl rfl rfl rfl hd kk
theorem mo_get_begin (hC : nd_Cx g mm X) (hw : mo_W h0 A F B h) (hc : mm.1.cls = "NapkinDeedsModel") (hd : decode mm.2.1 pc = .ok (.getfield 89, 3)) (kk : nd_W g mm d mc ms K X (pc + 3) lv (.int (F 9) :: st) h cs ss) : nd_W g mm d mc ms K X pc lv (.ref 101 :: st) h cs ss := nd_get (ci := nX7) (fs := mo_fl F) hC in_X7 rfl hw.2.1 9 (by decide) (by rw [hc]; exact q2725) (fun _ z => z) rfl hd kk
theorem mo_put_begin (hC : nd_Cx g mm X) (hw : mo_W h0 A F B h) (hc : mm.1.cls = "NapkinDeedsModel") {x : Int32} (hd : decode mm.2.1 pc = .ok (.putfield 89, 3)) (kk : ∀ h2, mo_W h0 A (va_up F 9 x) B h2 → nd_W g mm d mc ms K X (pc + 3) lv st h2 cs ss) : nd_W g mm d mc ms K X pc lv (.int x :: .ref 101 :: st) h cs ss := mo_put hC hw 9 (by decide) (by rw [hc]; exact q2725) rfl rfl rfl rfl hd kk
theorem mo_get_token (hC : nd_Cx g mm X) (hw : mo_W h0 A F B h) (hc : mm.1.cls = "NapkinDeedsModel") (hd : decode mm.2.1 pc = .ok (.getfield 92, 3)) (kk : nd_W g mm d mc ms K X (pc + 3) lv (.int (F 10) :: st) h cs ss) : nd_W g mm d mc ms K X pc lv (.ref 101 :: st) h cs ss := nd_get (ci := nX7) (fs := mo_fl F) hC in_X7 rfl hw.2.1 10 (by decide) (by rw [hc]; exact q2726) (fun _ z => z) rfl hd kk
theorem mo_put_token (hC : nd_Cx g mm X) (hw : mo_W h0 A F B h) (hc : mm.1.cls = "NapkinDeedsModel") {x : Int32} (hd : decode mm.2.1 pc = .ok (.putfield 92, 3)) (kk : ∀ h2, mo_W h0 A (va_up F 10 x) B h2 → nd_W g mm d mc ms K X (pc + 3) lv st h2 cs ss) : nd_W g mm d mc ms K X pc lv (.int x :: .ref 101 :: st) h cs ss := mo_put hC hw 10 (by decide) (by rw [hc]; exact q2726) rfl rfl rfl rfl hd kk
theorem mo_get_value (hC : nd_Cx g mm X) (hw : mo_W h0 A F B h) (hc : mm.1.cls = "NapkinDeedsModel") (hd : decode mm.2.1 pc = .ok (.getfield 106, 3)) (kk : nd_W g mm d mc ms K X (pc + 3) lv (.int (F 11) :: st) h cs ss) : nd_W g mm d mc ms K X pc lv (.ref 101 :: st) h cs ss := nd_get (ci := nX7) (fs := mo_fl F) hC in_X7 rfl hw.2.1 11 (by decide) (by rw [hc]; exact q2727) (fun _ z => z) rfl hd kk
theorem mo_put_value (hC : nd_Cx g mm X) (hw : mo_W h0 A F B h) (hc : mm.1.cls = "NapkinDeedsModel") {x : Int32} (hd : decode mm.2.1 pc = .ok (.putfield 106, 3)) (kk : ∀ h2, mo_W h0 A (va_up F 11 x) B h2 → nd_W g mm d mc ms K X (pc + 3) lv st h2 cs ss) : nd_W g mm d mc ms K X pc lv (.int x :: .ref 101 :: st) h cs ss := mo_put hC hw 11 (by decide) (by rw [hc]; exact q2727) rfl rfl rfl rfl hd kk
theorem mo_get_bad (hC : nd_Cx g mm X) (hw : mo_W h0 A F B h) (hc : mm.1.cls = "NapkinDeedsModel") (hd : decode mm.2.1 pc = .ok (.getfield 112, 3)) (kk : nd_W g mm d mc ms K X (pc + 3) lv (.int (F 12) :: st) h cs ss) : nd_W g mm d mc ms K X pc lv (.ref 101 :: st) h cs ss := nd_get (ci := nX7) (fs := mo_fl F) hC in_X7 rfl hw.2.1 12 (by decide) (by rw [hc]; exact q2728) (fun _ z => z) rfl hd kk
theorem mo_put_bad (hC : nd_Cx g mm X) (hw : mo_W h0 A F B h) (hc : mm.1.cls = "NapkinDeedsModel") {x : Int32} (hd : decode mm.2.1 pc = .ok (.putfield 112, 3)) (kk : ∀ h2, mo_W h0 A (va_up F 12 x) B h2 → nd_W g mm d mc ms K X (pc + 3) lv st h2 cs ss) : nd_W g mm d mc ms K X pc lv (.int x :: .ref 101 :: st) h cs ss := mo_put hC hw 12 (by decide) (by rw [hc]; exact q2728) rfl rfl rfl rfl hd kk
theorem mo_get_badPlace (hC : nd_Cx g mm X) (hw : mo_W h0 A F B h) (hc : mm.1.cls = "NapkinDeedsModel") (hd : decode mm.2.1 pc = .ok (.getfield 115, 3)) (kk : nd_W g mm d mc ms K X (pc + 3) lv (.int (F 13) :: st) h cs ss) : nd_W g mm d mc ms K X pc lv (.ref 101 :: st) h cs ss := nd_get (ci := nX7) (fs := mo_fl F) hC in_X7 rfl hw.2.1 13 (by decide) (by rw [hc]; exact q2729) (fun _ z => z) rfl hd kk
theorem mo_put_badPlace (hC : nd_Cx g mm X) (hw : mo_W h0 A F B h) (hc : mm.1.cls = "NapkinDeedsModel") {x : Int32} (hd : decode mm.2.1 pc = .ok (.putfield 115, 3)) (kk : ∀ h2, mo_W h0 A (va_up F 13 x) B h2 → nd_W g mm d mc ms K X (pc + 3) lv st h2 cs ss) : nd_W g mm d mc ms K X pc lv (.int x :: .ref 101 :: st) h cs ss := mo_put hC hw 13 (by decide) (by rw [hc]; exact q2729) rfl rfl rfl rfl hd kk
theorem mo_get_faultKind (hC : nd_Cx g mm X) (hw : mo_W h0 A F B h) (hc : mm.1.cls = "NapkinDeedsModel") (hd : decode mm.2.1 pc = .ok (.getfield 250, 3)) (kk : nd_W g mm d mc ms K X (pc + 3) lv (.int (F 14) :: st) h cs ss) : nd_W g mm d mc ms K X pc lv (.ref 101 :: st) h cs ss := nd_get (ci := nX7) (fs := mo_fl F) hC in_X7 rfl hw.2.1 14 (by decide) (by rw [hc]; exact q2730) (fun _ z => z) rfl hd kk
theorem mo_put_faultKind (hC : nd_Cx g mm X) (hw : mo_W h0 A F B h) (hc : mm.1.cls = "NapkinDeedsModel") {x : Int32} (hd : decode mm.2.1 pc = .ok (.putfield 250, 3)) (kk : ∀ h2, mo_W h0 A (va_up F 14 x) B h2 → nd_W g mm d mc ms K X (pc + 3) lv st h2 cs ss) : nd_W g mm d mc ms K X pc lv (.int x :: .ref 101 :: st) h cs ss := mo_put hC hw 14 (by decide) (by rw [hc]; exact q2730) rfl rfl rfl rfl hd kk
theorem mo_get_faultPlace (hC : nd_Cx g mm X) (hw : mo_W h0 A F B h) (hc : mm.1.cls = "NapkinDeedsModel") (hd : decode mm.2.1 pc = .ok (.getfield 26, 3)) (kk : nd_W g mm d mc ms K X (pc + 3) lv (.int (F 15) :: st) h cs ss) : nd_W g mm d mc ms K X pc lv (.ref 101 :: st) h cs ss := nd_get (ci := nX7) (fs := mo_fl F) hC in_X7 rfl hw.2.1 15 (by decide) (by rw [hc]; exact q2731) (fun _ z => z) rfl hd kk
theorem mo_put_faultPlace (hC : nd_Cx g mm X) (hw : mo_W h0 A F B h) (hc : mm.1.cls = "NapkinDeedsModel") {x : Int32} (hd : decode mm.2.1 pc = .ok (.putfield 26, 3)) (kk : ∀ h2, mo_W h0 A (va_up F 15 x) B h2 → nd_W g mm d mc ms K X (pc + 3) lv st h2 cs ss) : nd_W g mm d mc ms K X pc lv (.int x :: .ref 101 :: st) h cs ss := mo_put hC hw 15 (by decide) (by rw [hc]; exact q2731) rfl rfl rfl rfl hd kk
theorem mo_get_deep (hC : nd_Cx g mm X) (hw : mo_W h0 A F B h) (hc : mm.1.cls = "NapkinDeedsModel") (hd : decode mm.2.1 pc = .ok (.getfield 154, 3)) (kk : nd_W g mm d mc ms K X (pc + 3) lv (.int (F 16) :: st) h cs ss) : nd_W g mm d mc ms K X pc lv (.ref 101 :: st) h cs ss := nd_get (ci := nX7) (fs := mo_fl F) hC in_X7 rfl hw.2.1 16 (by decide) (by rw [hc]; exact q2732) (fun _ z => z) rfl hd kk
theorem mo_put_deep (hC : nd_Cx g mm X) (hw : mo_W h0 A F B h) (hc : mm.1.cls = "NapkinDeedsModel") {x : Int32} (hd : decode mm.2.1 pc = .ok (.putfield 154, 3)) (kk : ∀ h2, mo_W h0 A (va_up F 16 x) B h2 → nd_W g mm d mc ms K X (pc + 3) lv st h2 cs ss) : nd_W g mm d mc ms K X pc lv (.int x :: .ref 101 :: st) h cs ss := mo_put hC hw 16 (by decide) (by rw [hc]; exact q2732) rfl rfl rfl rfl hd kk
theorem mo_get_lawMany (hC : nd_Cx g mm X) (hw : mo_W h0 A F B h) (hc : mm.1.cls = "NapkinDeedsModel") (hd : decode mm.2.1 pc = .ok (.getfield 148, 3)) (kk : nd_W g mm d mc ms K X (pc + 3) lv (.int (F 17) :: st) h cs ss) : nd_W g mm d mc ms K X pc lv (.ref 101 :: st) h cs ss := nd_get (ci := nX7) (fs := mo_fl F) hC in_X7 rfl hw.2.1 17 (by decide) (by rw [hc]; exact q2733) (fun _ z => z) rfl hd kk
theorem mo_put_lawMany (hC : nd_Cx g mm X) (hw : mo_W h0 A F B h) (hc : mm.1.cls = "NapkinDeedsModel") {x : Int32} (hd : decode mm.2.1 pc = .ok (.putfield 148, 3)) (kk : ∀ h2, mo_W h0 A (va_up F 17 x) B h2 → nd_W g mm d mc ms K X (pc + 3) lv st h2 cs ss) : nd_W g mm d mc ms K X pc lv (.int x :: .ref 101 :: st) h cs ss := mo_put hC hw 17 (by decide) (by rw [hc]; exact q2733) rfl rfl rfl rfl hd kk
theorem mo_get_lawAt (hC : nd_Cx g mm X) (hw : mo_W h0 A F B h) (hc : mm.1.cls = "NapkinDeedsModel") (hd : decode mm.2.1 pc = .ok (.getfield 145, 3)) (kk : nd_W g mm d mc ms K X (pc + 3) lv (.int (F 18) :: st) h cs ss) : nd_W g mm d mc ms K X pc lv (.ref 101 :: st) h cs ss := nd_get (ci := nX7) (fs := mo_fl F) hC in_X7 rfl hw.2.1 18 (by decide) (by rw [hc]; exact q2734) (fun _ z => z) rfl hd kk
theorem mo_put_lawAt (hC : nd_Cx g mm X) (hw : mo_W h0 A F B h) (hc : mm.1.cls = "NapkinDeedsModel") {x : Int32} (hd : decode mm.2.1 pc = .ok (.putfield 145, 3)) (kk : ∀ h2, mo_W h0 A (va_up F 18 x) B h2 → nd_W g mm d mc ms K X (pc + 3) lv st h2 cs ss) : nd_W g mm d mc ms K X pc lv (.int x :: .ref 101 :: st) h cs ss := mo_put hC hw 18 (by decide) (by rw [hc]; exact q2734) rfl rfl rfl rfl hd kk
theorem mo_get_lies (hC : nd_Cx g mm X) (hw : mo_W h0 A F B h) (hc : mm.1.cls = "NapkinDeedsModel") (hd : decode mm.2.1 pc = .ok (.getfield 30, 3)) (kk : nd_W g mm d mc ms K X (pc + 3) lv (.ref 107 :: st) h cs ss) : nd_W g mm d mc ms K X pc lv (.ref 101 :: st) h cs ss := nd_get (ci := nX7) (fs := mo_fl F) hC in_X7 rfl hw.2.1 19 (by decide) (by rw [hc]; exact q2735) (fun _ z => z) rfl hd kk
theorem mo_ast_lies (hC : nd_Cx g mm X) (hw : mo_W h0 A F B h) {x : Int32} {j : Nat} (hj : j < 473) (hd : decode mm.2.1 pc = .ok (.iastore, 1)) (kk : ∀ h2, mo_W h0 (va_up A 19 (upd (A 19) j x)) F B h2 → nd_W g mm d mc ms K X (pc + 1) lv st h2 cs ss) : nd_W g mm d mc ms K X pc lv (.int x :: .int (nI j) :: .ref 107 :: st) h cs ss := mo_iast hC hw 19 rfl rfl rfl hj (by decide) hd kk
theorem mo_get_places (hC : nd_Cx g mm X) (hw : mo_W h0 A F B h) (hc : mm.1.cls = "NapkinDeedsModel") (hd : decode mm.2.1 pc = .ok (.getfield 33, 3)) (kk : nd_W g mm d mc ms K X (pc + 3) lv (.ref 108 :: st) h cs ss) : nd_W g mm d mc ms K X pc lv (.ref 101 :: st) h cs ss := nd_get (ci := nX7) (fs := mo_fl F) hC in_X7 rfl hw.2.1 20 (by decide) (by rw [hc]; exact q2736) (fun _ z => z) rfl hd kk
theorem mo_ast_places (hC : nd_Cx g mm X) (hw : mo_W h0 A F B h) {x : Int32} {j : Nat} (hj : j < 6) (hd : decode mm.2.1 pc = .ok (.iastore, 1)) (kk : ∀ h2, mo_W h0 (va_up A 20 (upd (A 20) j x)) F B h2 → nd_W g mm d mc ms K X (pc + 1) lv st h2 cs ss) : nd_W g mm d mc ms K X pc lv (.int x :: .int (nI j) :: .ref 108 :: st) h cs ss := mo_iast hC hw 20 rfl rfl rfl hj (by decide) hd kk
theorem mo_get_lawStack (hC : nd_Cx g mm X) (hw : mo_W h0 A F B h) (hc : mm.1.cls = "NapkinDeedsModel") (hd : decode mm.2.1 pc = .ok (.getfield 36, 3)) (kk : nd_W g mm d mc ms K X (pc + 3) lv (.ref 109 :: st) h cs ss) : nd_W g mm d mc ms K X pc lv (.ref 101 :: st) h cs ss := nd_get (ci := nX7) (fs := mo_fl F) hC in_X7 rfl hw.2.1 21 (by decide) (by rw [hc]; exact q2737) (fun _ z => z) rfl hd kk
theorem mo_ast_lawStack (hC : nd_Cx g mm X) (hw : mo_W h0 A F B h) {x : Int32} {j : Nat} (hj : j < 64) (hd : decode mm.2.1 pc = .ok (.iastore, 1)) (kk : ∀ h2, mo_W h0 (va_up A 21 (upd (A 21) j x)) F B h2 → nd_W g mm d mc ms K X (pc + 1) lv st h2 cs ss) : nd_W g mm d mc ms K X pc lv (.int x :: .int (nI j) :: .ref 109 :: st) h cs ss := mo_iast hC hw 21 rfl rfl rfl hj (by decide) hd kk
theorem mo_get_asked (hC : nd_Cx g mm X) (hw : mo_W h0 A F B h) (hc : mm.1.cls = "NapkinDeedsModel") (hd : decode mm.2.1 pc = .ok (.getfield 39, 3)) (kk : nd_W g mm d mc ms K X (pc + 3) lv (.ref 110 :: st) h cs ss) : nd_W g mm d mc ms K X pc lv (.ref 101 :: st) h cs ss := nd_get (ci := nX7) (fs := mo_fl F) hC in_X7 rfl hw.2.1 22 (by decide) (by rw [hc]; exact q2738) (fun _ z => z) rfl hd kk
theorem mo_ast_asked (hC : nd_Cx g mm X) (hw : mo_W h0 A F B h) {x : Int32} {j : Nat} (hj : j < 8) (hd : decode mm.2.1 pc = .ok (.iastore, 1)) (kk : ∀ h2, mo_W h0 (va_up A 22 (upd (A 22) j x)) F B h2 → nd_W g mm d mc ms K X (pc + 1) lv st h2 cs ss) : nd_W g mm d mc ms K X pc lv (.int x :: .int (nI j) :: .ref 110 :: st) h cs ss := mo_iast hC hw 22 rfl rfl rfl hj (by decide) hd kk
theorem mo_get_aside (hC : nd_Cx g mm X) (hw : mo_W h0 A F B h) (hc : mm.1.cls = "NapkinDeedsModel") (hd : decode mm.2.1 pc = .ok (.getfield 42, 3)) (kk : nd_W g mm d mc ms K X (pc + 3) lv (.ref 111 :: st) h cs ss) : nd_W g mm d mc ms K X pc lv (.ref 101 :: st) h cs ss := nd_get (ci := nX7) (fs := mo_fl F) hC in_X7 rfl hw.2.1 23 (by decide) (by rw [hc]; exact q2739) (fun _ z => z) rfl hd kk
theorem mo_ast_aside (hC : nd_Cx g mm X) (hw : mo_W h0 A F B h) {x : Int32} {j : Nat} (hj : j < 18) (hd : decode mm.2.1 pc = .ok (.iastore, 1)) (kk : ∀ h2, mo_W h0 (va_up A 23 (upd (A 23) j x)) F B h2 → nd_W g mm d mc ms K X (pc + 1) lv st h2 cs ss) : nd_W g mm d mc ms K X pc lv (.int x :: .int (nI j) :: .ref 111 :: st) h cs ss := mo_iast hC hw 23 rfl rfl rfl hj (by decide) hd kk
theorem mo_get_state (hC : nd_Cx g mm X) (hw : mo_W h0 A F B h) (hc : mm.1.cls = "NapkinDeedsModel") (hd : decode mm.2.1 pc = .ok (.getfield 405, 3)) (kk : nd_W g mm d mc ms K X (pc + 3) lv (.int (F 24) :: st) h cs ss) : nd_W g mm d mc ms K X pc lv (.ref 101 :: st) h cs ss := nd_get (ci := nX7) (fs := mo_fl F) hC in_X7 rfl hw.2.1 24 (by decide) (by rw [hc]; exact q2740) (fun _ z => z) rfl hd kk
theorem mo_put_state (hC : nd_Cx g mm X) (hw : mo_W h0 A F B h) (hc : mm.1.cls = "NapkinDeedsModel") {x : Int32} (hd : decode mm.2.1 pc = .ok (.putfield 405, 3)) (kk : ∀ h2, mo_W h0 A (va_up F 24 x) B h2 → nd_W g mm d mc ms K X (pc + 3) lv st h2 cs ss) : nd_W g mm d mc ms K X pc lv (.int x :: .ref 101 :: st) h cs ss := mo_put hC hw 24 (by decide) (by rw [hc]; exact q2740) rfl rfl rfl rfl hd kk
theorem mo_get_row (hC : nd_Cx g mm X) (hw : mo_W h0 A F B h) (hc : mm.1.cls = "NapkinDeedsModel") (hd : decode mm.2.1 pc = .ok (.getfield 45, 3)) (kk : nd_W g mm d mc ms K X (pc + 3) lv (.ref 112 :: st) h cs ss) : nd_W g mm d mc ms K X pc lv (.ref 101 :: st) h cs ss := nd_get (ci := nX7) (fs := mo_fl F) hC in_X7 rfl hw.2.1 25 (by decide) (by rw [hc]; exact q2741) (fun _ z => z) rfl hd kk
theorem mo_ast_row (hC : nd_Cx g mm X) (hw : mo_W h0 A F B h) {x : Int32} {j : Nat} (hj : j < 5) (hd : decode mm.2.1 pc = .ok (.iastore, 1)) (kk : ∀ h2, mo_W h0 (va_up A 25 (upd (A 25) j x)) F B h2 → nd_W g mm d mc ms K X (pc + 1) lv st h2 cs ss) : nd_W g mm d mc ms K X pc lv (.int x :: .int (nI j) :: .ref 112 :: st) h cs ss := mo_iast hC hw 25 rfl rfl rfl hj (by decide) hd kk
theorem mo_get_bestRow (hC : nd_Cx g mm X) (hw : mo_W h0 A F B h) (hc : mm.1.cls = "NapkinDeedsModel") (hd : decode mm.2.1 pc = .ok (.getfield 48, 3)) (kk : nd_W g mm d mc ms K X (pc + 3) lv (.ref 113 :: st) h cs ss) : nd_W g mm d mc ms K X pc lv (.ref 101 :: st) h cs ss := nd_get (ci := nX7) (fs := mo_fl F) hC in_X7 rfl hw.2.1 26 (by decide) (by rw [hc]; exact q2742) (fun _ z => z) rfl hd kk
theorem mo_ast_bestRow (hC : nd_Cx g mm X) (hw : mo_W h0 A F B h) {x : Int32} {j : Nat} (hj : j < 5) (hd : decode mm.2.1 pc = .ok (.iastore, 1)) (kk : ∀ h2, mo_W h0 (va_up A 26 (upd (A 26) j x)) F B h2 → nd_W g mm d mc ms K X (pc + 1) lv st h2 cs ss) : nd_W g mm d mc ms K X pc lv (.int x :: .int (nI j) :: .ref 113 :: st) h cs ss := mo_iast hC hw 26 rfl rfl rfl hj (by decide) hd kk
theorem mo_get_likedNow (hC : nd_Cx g mm X) (hw : mo_W h0 A F B h) (hc : mm.1.cls = "NapkinDeedsModel") (hd : decode mm.2.1 pc = .ok (.getfield 51, 3)) (kk : nd_W g mm d mc ms K X (pc + 3) lv (.ref 114 :: st) h cs ss) : nd_W g mm d mc ms K X pc lv (.ref 101 :: st) h cs ss := nd_get (ci := nX7) (fs := mo_fl F) hC in_X7 rfl hw.2.1 27 (by decide) (by rw [hc]; exact q2743) (fun _ z => z) rfl hd kk
theorem mo_ast_likedNow (hC : nd_Cx g mm X) (hw : mo_W h0 A F B h) {x : Int32} {j : Nat} (hj : j < 4) (hd : decode mm.2.1 pc = .ok (.iastore, 1)) (kk : ∀ h2, mo_W h0 (va_up A 27 (upd (A 27) j x)) F B h2 → nd_W g mm d mc ms K X (pc + 1) lv st h2 cs ss) : nd_W g mm d mc ms K X pc lv (.int x :: .int (nI j) :: .ref 114 :: st) h cs ss := mo_iast hC hw 27 rfl rfl rfl hj (by decide) hd kk
theorem mo_get_askedWhat (hC : nd_Cx g mm X) (hw : mo_W h0 A F B h) (hc : mm.1.cls = "NapkinDeedsModel") (hd : decode mm.2.1 pc = .ok (.getfield 443, 3)) (kk : nd_W g mm d mc ms K X (pc + 3) lv (.int (F 28) :: st) h cs ss) : nd_W g mm d mc ms K X pc lv (.ref 101 :: st) h cs ss := nd_get (ci := nX7) (fs := mo_fl F) hC in_X7 rfl hw.2.1 28 (by decide) (by rw [hc]; exact q2744) (fun _ z => z) rfl hd kk
theorem mo_put_askedWhat (hC : nd_Cx g mm X) (hw : mo_W h0 A F B h) (hc : mm.1.cls = "NapkinDeedsModel") {x : Int32} (hd : decode mm.2.1 pc = .ok (.putfield 443, 3)) (kk : ∀ h2, mo_W h0 A (va_up F 28 x) B h2 → nd_W g mm d mc ms K X (pc + 3) lv st h2 cs ss) : nd_W g mm d mc ms K X pc lv (.int x :: .ref 101 :: st) h cs ss := mo_put hC hw 28 (by decide) (by rw [hc]; exact q2744) rfl rfl rfl rfl hd kk
theorem mo_get_from (hC : nd_Cx g mm X) (hw : mo_W h0 A F B h) (hc : mm.1.cls = "NapkinDeedsModel") (hd : decode mm.2.1 pc = .ok (.getfield 419, 3)) (kk : nd_W g mm d mc ms K X (pc + 3) lv (.int (F 29) :: st) h cs ss) : nd_W g mm d mc ms K X pc lv (.ref 101 :: st) h cs ss := nd_get (ci := nX7) (fs := mo_fl F) hC in_X7 rfl hw.2.1 29 (by decide) (by rw [hc]; exact q2745) (fun _ z => z) rfl hd kk
theorem mo_put_from (hC : nd_Cx g mm X) (hw : mo_W h0 A F B h) (hc : mm.1.cls = "NapkinDeedsModel") {x : Int32} (hd : decode mm.2.1 pc = .ok (.putfield 419, 3)) (kk : ∀ h2, mo_W h0 A (va_up F 29 x) B h2 → nd_W g mm d mc ms K X (pc + 3) lv st h2 cs ss) : nd_W g mm d mc ms K X pc lv (.int x :: .ref 101 :: st) h cs ss := mo_put hC hw 29 (by decide) (by rw [hc]; exact q2745) rfl rfl rfl rfl hd kk
theorem mo_get_rowMany (hC : nd_Cx g mm X) (hw : mo_W h0 A F B h) (hc : mm.1.cls = "NapkinDeedsModel") (hd : decode mm.2.1 pc = .ok (.getfield 452, 3)) (kk : nd_W g mm d mc ms K X (pc + 3) lv (.int (F 30) :: st) h cs ss) : nd_W g mm d mc ms K X pc lv (.ref 101 :: st) h cs ss := nd_get (ci := nX7) (fs := mo_fl F) hC in_X7 rfl hw.2.1 30 (by decide) (by rw [hc]; exact q2746) (fun _ z => z) rfl hd kk
theorem mo_put_rowMany (hC : nd_Cx g mm X) (hw : mo_W h0 A F B h) (hc : mm.1.cls = "NapkinDeedsModel") {x : Int32} (hd : decode mm.2.1 pc = .ok (.putfield 452, 3)) (kk : ∀ h2, mo_W h0 A (va_up F 30 x) B h2 → nd_W g mm d mc ms K X (pc + 3) lv st h2 cs ss) : nd_W g mm d mc ms K X pc lv (.int x :: .ref 101 :: st) h cs ss := mo_put hC hw 30 (by decide) (by rw [hc]; exact q2746) rfl rfl rfl rfl hd kk
theorem mo_get_rowBest (hC : nd_Cx g mm X) (hw : mo_W h0 A F B h) (hc : mm.1.cls = "NapkinDeedsModel") (hd : decode mm.2.1 pc = .ok (.getfield 425, 3)) (kk : nd_W g mm d mc ms K X (pc + 3) lv (.int (F 31) :: st) h cs ss) : nd_W g mm d mc ms K X pc lv (.ref 101 :: st) h cs ss := nd_get (ci := nX7) (fs := mo_fl F) hC in_X7 rfl hw.2.1 31 (by decide) (by rw [hc]; exact q2747) (fun _ z => z) rfl hd kk
theorem mo_put_rowBest (hC : nd_Cx g mm X) (hw : mo_W h0 A F B h) (hc : mm.1.cls = "NapkinDeedsModel") {x : Int32} (hd : decode mm.2.1 pc = .ok (.putfield 425, 3)) (kk : ∀ h2, mo_W h0 A (va_up F 31 x) B h2 → nd_W g mm d mc ms K X (pc + 3) lv st h2 cs ss) : nd_W g mm d mc ms K X pc lv (.int x :: .ref 101 :: st) h cs ss := mo_put hC hw 31 (by decide) (by rw [hc]; exact q2747) rfl rfl rfl rfl hd kk
theorem mo_get_bestMany (hC : nd_Cx g mm X) (hw : mo_W h0 A F B h) (hc : mm.1.cls = "NapkinDeedsModel") (hd : decode mm.2.1 pc = .ok (.getfield 428, 3)) (kk : nd_W g mm d mc ms K X (pc + 3) lv (.int (F 32) :: st) h cs ss) : nd_W g mm d mc ms K X pc lv (.ref 101 :: st) h cs ss := nd_get (ci := nX7) (fs := mo_fl F) hC in_X7 rfl hw.2.1 32 (by decide) (by rw [hc]; exact q2748) (fun _ z => z) rfl hd kk
theorem mo_put_bestMany (hC : nd_Cx g mm X) (hw : mo_W h0 A F B h) (hc : mm.1.cls = "NapkinDeedsModel") {x : Int32} (hd : decode mm.2.1 pc = .ok (.putfield 428, 3)) (kk : ∀ h2, mo_W h0 A (va_up F 32 x) B h2 → nd_W g mm d mc ms K X (pc + 3) lv st h2 cs ss) : nd_W g mm d mc ms K X pc lv (.int x :: .ref 101 :: st) h cs ss := mo_put hC hw 32 (by decide) (by rw [hc]; exact q2748) rfl rfl rfl rfl hd kk
theorem mo_get_askedTray (hC : nd_Cx g mm X) (hw : mo_W h0 A F B h) (hc : mm.1.cls = "NapkinDeedsModel") (hd : decode mm.2.1 pc = .ok (.getfield 449, 3)) (kk : nd_W g mm d mc ms K X (pc + 3) lv (.int (F 33) :: st) h cs ss) : nd_W g mm d mc ms K X pc lv (.ref 101 :: st) h cs ss := nd_get (ci := nX7) (fs := mo_fl F) hC in_X7 rfl hw.2.1 33 (by decide) (by rw [hc]; exact q2749) (fun _ z => z) rfl hd kk
theorem mo_put_askedTray (hC : nd_Cx g mm X) (hw : mo_W h0 A F B h) (hc : mm.1.cls = "NapkinDeedsModel") {x : Int32} (hd : decode mm.2.1 pc = .ok (.putfield 449, 3)) (kk : ∀ h2, mo_W h0 A (va_up F 33 x) B h2 → nd_W g mm d mc ms K X (pc + 3) lv st h2 cs ss) : nd_W g mm d mc ms K X pc lv (.int x :: .ref 101 :: st) h cs ss := mo_put hC hw 33 (by decide) (by rw [hc]; exact q2749) rfl rfl rfl rfl hd kk
theorem mo_get_sureSet (hC : nd_Cx g mm X) (hw : mo_W h0 A F B h) (hc : mm.1.cls = "NapkinDeedsModel") (hd : decode mm.2.1 pc = .ok (.getfield 555, 3)) (kk : nd_W g mm d mc ms K X (pc + 3) lv (.int (F 34) :: st) h cs ss) : nd_W g mm d mc ms K X pc lv (.ref 101 :: st) h cs ss := nd_get (ci := nX7) (fs := mo_fl F) hC in_X7 rfl hw.2.1 34 (by decide) (by rw [hc]; exact q2750) (fun _ z => z) rfl hd kk
theorem mo_put_sureSet (hC : nd_Cx g mm X) (hw : mo_W h0 A F B h) (hc : mm.1.cls = "NapkinDeedsModel") {x : Int32} (hd : decode mm.2.1 pc = .ok (.putfield 555, 3)) (kk : ∀ h2, mo_W h0 A (va_up F 34 x) B h2 → nd_W g mm d mc ms K X (pc + 3) lv st h2 cs ss) : nd_W g mm d mc ms K X pc lv (.int x :: .ref 101 :: st) h cs ss := mo_put hC hw 34 (by decide) (by rw [hc]; exact q2750) rfl rfl rfl rfl hd kk
theorem mo_get_met (hC : nd_Cx g mm X) (hw : mo_W h0 A F B h) (hc : mm.1.cls = "NapkinDeedsModel") (hd : decode mm.2.1 pc = .ok (.getfield 55, 3)) (kk : nd_W g mm d mc ms K X (pc + 3) lv (.ref 115 :: st) h cs ss) : nd_W g mm d mc ms K X pc lv (.ref 101 :: st) h cs ss := nd_get (ci := nX7) (fs := mo_fl F) hC in_X7 rfl hw.2.1 35 (by decide) (by rw [hc]; exact q2751) (fun _ z => z) rfl hd kk
theorem mo_ast_met (hC : nd_Cx g mm X) (hw : mo_W h0 A F B h) {x : Int64} {j : Nat} (hj : j < 65536) (hd : decode mm.2.1 pc = .ok (.lastore, 1)) (kk : ∀ h2, mo_W h0 A F (va_up B 35 (vp_updL (B 35) j x)) h2 → nd_W g mm d mc ms K X (pc + 1) lv st h2 cs ss) : nd_W g mm d mc ms K X pc lv (.long x :: .int (nI j) :: .ref 115 :: st) h cs ss := mo_last hC hw 35 rfl rfl hj (by decide) hd kk
theorem mo_get_metBy (hC : nd_Cx g mm X) (hw : mo_W h0 A F B h) (hc : mm.1.cls = "NapkinDeedsModel") (hd : decode mm.2.1 pc = .ok (.getfield 59, 3)) (kk : nd_W g mm d mc ms K X (pc + 3) lv (.ref 116 :: st) h cs ss) : nd_W g mm d mc ms K X pc lv (.ref 101 :: st) h cs ss := nd_get (ci := nX7) (fs := mo_fl F) hC in_X7 rfl hw.2.1 36 (by decide) (by rw [hc]; exact q2752) (fun _ z => z) rfl hd kk
theorem mo_ast_metBy (hC : nd_Cx g mm X) (hw : mo_W h0 A F B h) {x : Int32} {j : Nat} (hj : j < 65536) (hd : decode mm.2.1 pc = .ok (.iastore, 1)) (kk : ∀ h2, mo_W h0 (va_up A 36 (upd (A 36) j x)) F B h2 → nd_W g mm d mc ms K X (pc + 1) lv st h2 cs ss) : nd_W g mm d mc ms K X pc lv (.int x :: .int (nI j) :: .ref 116 :: st) h cs ss := mo_iast hC hw 36 rfl rfl rfl hj (by decide) hd kk
theorem mo_get_turn (hC : nd_Cx g mm X) (hw : mo_W h0 A F B h) (hc : mm.1.cls = "NapkinDeedsModel") (hd : decode mm.2.1 pc = .ok (.getfield 436, 3)) (kk : nd_W g mm d mc ms K X (pc + 3) lv (.int (F 37) :: st) h cs ss) : nd_W g mm d mc ms K X pc lv (.ref 101 :: st) h cs ss := nd_get (ci := nX7) (fs := mo_fl F) hC in_X7 rfl hw.2.1 37 (by decide) (by rw [hc]; exact q2753) (fun _ z => z) rfl hd kk
theorem mo_put_turn (hC : nd_Cx g mm X) (hw : mo_W h0 A F B h) (hc : mm.1.cls = "NapkinDeedsModel") {x : Int32} (hd : decode mm.2.1 pc = .ok (.putfield 436, 3)) (kk : ∀ h2, mo_W h0 A (va_up F 37 x) B h2 → nd_W g mm d mc ms K X (pc + 3) lv st h2 cs ss) : nd_W g mm d mc ms K X pc lv (.int x :: .ref 101 :: st) h cs ss := mo_put hC hw 37 (by decide) (by rw [hc]; exact q2753) rfl rfl rfl rfl hd kk
theorem mo_get_layers (hC : nd_Cx g mm X) (hw : mo_W h0 A F B h) (hc : mm.1.cls = "NapkinDeedsModel") (hd : decode mm.2.1 pc = .ok (.getfield 62, 3)) (kk : nd_W g mm d mc ms K X (pc + 3) lv (.ref 117 :: st) h cs ss) : nd_W g mm d mc ms K X pc lv (.ref 101 :: st) h cs ss := nd_get (ci := nX7) (fs := mo_fl F) hC in_X7 rfl hw.2.1 38 (by decide) (by rw [hc]; exact q2754) (fun _ z => z) rfl hd kk
theorem mo_ast_layers (hC : nd_Cx g mm X) (hw : mo_W h0 A F B h) {x : Int32} {j : Nat} (hj : j < 6) (hd : decode mm.2.1 pc = .ok (.iastore, 1)) (kk : ∀ h2, mo_W h0 (va_up A 38 (upd (A 38) j x)) F B h2 → nd_W g mm d mc ms K X (pc + 1) lv st h2 cs ss) : nd_W g mm d mc ms K X pc lv (.int x :: .int (nI j) :: .ref 117 :: st) h cs ss := mo_iast hC hw 38 rfl rfl rfl hj (by decide) hd kk
theorem mo_get_beneathHow (hC : nd_Cx g mm X) (hw : mo_W h0 A F B h) (hc : mm.1.cls = "NapkinDeedsModel") (hd : decode mm.2.1 pc = .ok (.getfield 65, 3)) (kk : nd_W g mm d mc ms K X (pc + 3) lv (.ref 118 :: st) h cs ss) : nd_W g mm d mc ms K X pc lv (.ref 101 :: st) h cs ss := nd_get (ci := nX7) (fs := mo_fl F) hC in_X7 rfl hw.2.1 39 (by decide) (by rw [hc]; exact q2755) (fun _ z => z) rfl hd kk
theorem mo_ast_beneathHow (hC : nd_Cx g mm X) (hw : mo_W h0 A F B h) {x : Int32} {j : Nat} (hj : j < 600) (hd : decode mm.2.1 pc = .ok (.iastore, 1)) (kk : ∀ h2, mo_W h0 (va_up A 39 (upd (A 39) j x)) F B h2 → nd_W g mm d mc ms K X (pc + 1) lv st h2 cs ss) : nd_W g mm d mc ms K X pc lv (.int x :: .int (nI j) :: .ref 118 :: st) h cs ss := mo_iast hC hw 39 rfl rfl rfl hj (by decide) hd kk
theorem mo_get_tSort (hC : nd_Cx g mm X) (hw : mo_W h0 A F B h) (hc : mm.1.cls = "NapkinDeedsModel") (hd : decode mm.2.1 pc = .ok (.getfield 68, 3)) (kk : nd_W g mm d mc ms K X (pc + 3) lv (.ref 119 :: st) h cs ss) : nd_W g mm d mc ms K X pc lv (.ref 101 :: st) h cs ss := nd_get (ci := nX7) (fs := mo_fl F) hC in_X7 rfl hw.2.1 40 (by decide) (by rw [hc]; exact q2756) (fun _ z => z) rfl hd kk
theorem mo_ast_tSort (hC : nd_Cx g mm X) (hw : mo_W h0 A F B h) {x : Int32} {j : Nat} (hj : j < 4) (hd : decode mm.2.1 pc = .ok (.iastore, 1)) (kk : ∀ h2, mo_W h0 (va_up A 40 (upd (A 40) j x)) F B h2 → nd_W g mm d mc ms K X (pc + 1) lv st h2 cs ss) : nd_W g mm d mc ms K X pc lv (.int x :: .int (nI j) :: .ref 119 :: st) h cs ss := mo_iast hC hw 40 rfl rfl rfl hj (by decide) hd kk
theorem mo_get_tMany (hC : nd_Cx g mm X) (hw : mo_W h0 A F B h) (hc : mm.1.cls = "NapkinDeedsModel") (hd : decode mm.2.1 pc = .ok (.getfield 71, 3)) (kk : nd_W g mm d mc ms K X (pc + 3) lv (.ref 120 :: st) h cs ss) : nd_W g mm d mc ms K X pc lv (.ref 101 :: st) h cs ss := nd_get (ci := nX7) (fs := mo_fl F) hC in_X7 rfl hw.2.1 41 (by decide) (by rw [hc]; exact q2757) (fun _ z => z) rfl hd kk
theorem mo_ast_tMany (hC : nd_Cx g mm X) (hw : mo_W h0 A F B h) {x : Int32} {j : Nat} (hj : j < 4) (hd : decode mm.2.1 pc = .ok (.iastore, 1)) (kk : ∀ h2, mo_W h0 (va_up A 41 (upd (A 41) j x)) F B h2 → nd_W g mm d mc ms K X (pc + 1) lv st h2 cs ss) : nd_W g mm d mc ms K X pc lv (.int x :: .int (nI j) :: .ref 120 :: st) h cs ss := mo_iast hC hw 41 rfl rfl rfl hj (by decide) hd kk
theorem mo_get_numbers (hC : nd_Cx g mm X) (hw : mo_W h0 A F B h) (hc : mm.1.cls = "NapkinDeedsModel") (hd : decode mm.2.1 pc = .ok (.getfield 74, 3)) (kk : nd_W g mm d mc ms K X (pc + 3) lv (.ref 121 :: st) h cs ss) : nd_W g mm d mc ms K X pc lv (.ref 101 :: st) h cs ss := nd_get (ci := nX7) (fs := mo_fl F) hC in_X7 rfl hw.2.1 42 (by decide) (by rw [hc]; exact q2758) (fun _ z => z) rfl hd kk
theorem mo_ast_numbers (hC : nd_Cx g mm X) (hw : mo_W h0 A F B h) {x : Int64} {j : Nat} (hj : j < 120) (hd : decode mm.2.1 pc = .ok (.lastore, 1)) (kk : ∀ h2, mo_W h0 A F (va_up B 42 (vp_updL (B 42) j x)) h2 → nd_W g mm d mc ms K X (pc + 1) lv st h2 cs ss) : nd_W g mm d mc ms K X pc lv (.long x :: .int (nI j) :: .ref 121 :: st) h cs ss := mo_last hC hw 42 rfl rfl hj (by decide) hd kk
theorem mo_callV (hC : nd_Cx g mm X) {mm2 : nd_Mt} {index n d2 : Nat} {As rest : List Value} (hw : mo_W h0 A F B h) (hh : mm2.2.2.2.2 = none) (hG : GoodIn lw_all (wsV mm.1.cls index RX7 mm2.1 (nd_ws mm2))) (hy : mm2.1.cls = RX7 ∧ mm2.1.cls ≠ "java/lang/invoke/MethodHandle" ∧ mm2.1.cls ≠ "java/lang/invoke/VarHandle" ∧ (parseMethodDescriptor mm2.1.desc).map (fun d => d.parameters.length) = some n) (hL : mm2.2.2.1 ≤ 45) (hdep : d2 + 1 ≤ d) (hn : As.length = n) (hrest : (rest.map nd_cn).sum ≤ 8) (hcs : cs ≤ mc) (hss : ss ≤ ms) (hd : decode mm.2.1 pc = .ok (.invokevirtual index, 3)) (hst : st = As.reverse ++ .ref 101 :: rest) (hM : nd_M g mm2 d2 0 0 (.ref 101 :: As) h (nd_Kc g mm d mc ms K X pc 3 lv rest cs ss)) : nd_W g mm d mc ms K X pc lv st h cs ss := by
  refine nd_callV (mc2 := 0) (ms2 := 0) (ci := nX7) (fs := mo_fl F) hC hh ?_ hy hw.2.1 rfl hL hdep hn hrest hcs hss hd hst hM
  unfold nd_ws at hG
  rw [hh] at hG
  exact hG
theorem mo_callS (hC : nd_Cx g mm X) {mm2 : nd_Mt} {index n d2 : Nat} {As rest : List Value} (hh : mm2.2.2.2.2 = none) (hG : GoodIn lw_all (va_wsS mm.1.cls index mm2.1 (nd_ws mm2))) (hy : mm2.1.cls ≠ "java/lang/invoke/MethodHandle" ∧ mm2.1.cls ≠ "java/lang/invoke/VarHandle" ∧ (parseMethodDescriptor mm2.1.desc).map (fun d => d.parameters.length) = some n) (hL : mm2.2.2.1 ≤ 45) (hdep : d2 + 1 ≤ d) (hn : As.length = n) (hrest : (rest.map nd_cn).sum ≤ 8) (hcs : cs ≤ mc) (hss : ss ≤ ms) (hd : decode mm.2.1 pc = .ok (.invokestatic index, 3)) (hst : st = As.reverse ++ rest) (hM : nd_M g mm2 d2 0 0 As h (nd_Kc g mm d mc ms K X pc 3 lv rest cs ss)) : nd_W g mm d mc ms K X pc lv st h cs ss := by
  refine nd_callS (mc2 := 0) (ms2 := 0) hC hh ?_ hy hL hdep hn hrest hcs hss hd hst hM
  unfold nd_ws at hG
  rw [hh] at hG
  exact hG
end MOF
