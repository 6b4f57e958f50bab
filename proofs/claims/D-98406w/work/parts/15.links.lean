/-! ===== LINKS: methods, fields, calls by their places (by program) ===== -/
set_option maxRecDepth 100000
abbrev mJ0_init : gxY := (yJ0_init, cJ0_init, 1, (Option.none : Option Jvm.ClassFile.FieldType), [])
abbrev mJ1_init : gxY := (yJ1_init, cJ1_init, 1, (Option.none : Option Jvm.ClassFile.FieldType), [])
abbrev mJ10_init : gxY := (yJ10_init, cJ10_init, 1, (Option.none : Option Jvm.ClassFile.FieldType), [])
abbrev mJ11_init : gxY := (yJ11_init, cJ11_init, 1, (Option.none : Option Jvm.ClassFile.FieldType), [])
abbrev mJ12_init : gxY := (yJ12_init, cJ12_init, 1, (Option.none : Option Jvm.ClassFile.FieldType), [])
abbrev mJ13_longValue : gxY := (yJ13_longValue, cJ13_longValue, 1, (Option.some Jvm.ClassFile.FieldType.long), [])
abbrev mJ13_valueOf : gxY := (yJ13_valueOf, cJ13_valueOf, 3, (Option.some (Jvm.ClassFile.FieldType.object "java/lang/Long")), [])
abbrev mJ13_init : gxY := (yJ13_init, cJ13_init, 3, (Option.none : Option Jvm.ClassFile.FieldType), [])
abbrev mJ14_newLength : gxY := (yJ14_newLength, cJ14_newLength, 4, (Option.some Jvm.ClassFile.FieldType.int), [])
abbrev mJ14_hugeLength : gxY := (yJ14_hugeLength, cJ14_hugeLength, 3, (Option.some Jvm.ClassFile.FieldType.int), [])
abbrev mJ15_copyOf : gxY := (yJ15_copyOf, cJ15_copyOf, 2, (Option.some (Jvm.ClassFile.FieldType.array (Jvm.ClassFile.FieldType.object "java/lang/Object"))), [])
abbrev mJ15_copyOf_2 : gxY := (yJ15_copyOf_2, cJ15_copyOf_2, 4, (Option.some (Jvm.ClassFile.FieldType.array (Jvm.ClassFile.FieldType.object "java/lang/Object"))), [])
abbrev mJ16_intValue : gxY := (yJ16_intValue, cJ16_intValue, 1, (Option.some Jvm.ClassFile.FieldType.int), [])
abbrev mJ16_valueOf : gxY := (yJ16_valueOf, cJ16_valueOf, 1, (Option.some (Jvm.ClassFile.FieldType.object "java/lang/Integer")), [])
abbrev mJ16_init : gxY := (yJ16_init, cJ16_init, 2, (Option.none : Option Jvm.ClassFile.FieldType), [])
abbrev mJ17_init : gxY := (yJ17_init, cJ17_init, 1, (Option.none : Option Jvm.ClassFile.FieldType), [])
abbrev mJ18_init : gxY := (yJ18_init, cJ18_init, 1, (Option.none : Option Jvm.ClassFile.FieldType), [])
abbrev mJ19_init : gxY := (yJ19_init, cJ19_init, 1, (Option.none : Option Jvm.ClassFile.FieldType), [])
abbrev mJ2_init : gxY := (yJ2_init, cJ2_init, 2, (Option.none : Option Jvm.ClassFile.FieldType), [])
abbrev mJ2_size : gxY := (yJ2_size, cJ2_size, 1, (Option.some Jvm.ClassFile.FieldType.int), [])
abbrev mJ2_get : gxY := (yJ2_get, cJ2_get, 2, (Option.some (Jvm.ClassFile.FieldType.object "java/lang/Object")), [])
abbrev mJ2_elementData : gxY := (yJ2_elementData, cJ2_elementData, 2, (Option.some (Jvm.ClassFile.FieldType.object "java/lang/Object")), [])
abbrev mJ2_init_2 : gxY := (yJ2_init_2, cJ2_init_2, 1, (Option.none : Option Jvm.ClassFile.FieldType), [])
abbrev mJ2_add : gxY := (yJ2_add, cJ2_add, 2, (Option.some Jvm.ClassFile.FieldType.boolean), [])
abbrev mJ2_add_2 : gxY := (yJ2_add_2, cJ2_add_2, 4, (Option.none : Option Jvm.ClassFile.FieldType), [])
abbrev mJ2_grow : gxY := (yJ2_grow, cJ2_grow, 1, (Option.some (Jvm.ClassFile.FieldType.array (Jvm.ClassFile.FieldType.object "java/lang/Object"))), [])
abbrev mJ2_grow_2 : gxY := (yJ2_grow_2, cJ2_grow_2, 4, (Option.some (Jvm.ClassFile.FieldType.array (Jvm.ClassFile.FieldType.object "java/lang/Object"))), [])
abbrev mJ2_clear : gxY := (yJ2_clear, cJ2_clear, 4, (Option.none : Option Jvm.ClassFile.FieldType), [])
abbrev mJ2_remove : gxY := (yJ2_remove, cJ2_remove, 4, (Option.some (Jvm.ClassFile.FieldType.object "java/lang/Object")), [])
abbrev mJ2_fastRemove : gxY := (yJ2_fastRemove, cJ2_fastRemove, 4, (Option.none : Option Jvm.ClassFile.FieldType), [])
abbrev mJ2_isEmpty : gxY := (yJ2_isEmpty, cJ2_isEmpty, 1, (Option.some Jvm.ClassFile.FieldType.boolean), [])
abbrev mJ3_checkIndex : gxY := (yJ3_checkIndex, cJ3_checkIndex, 2, (Option.some Jvm.ClassFile.FieldType.int), [])
abbrev mJ4_checkIndex : gxY := (yJ4_checkIndex, cJ4_checkIndex, 3, (Option.some Jvm.ClassFile.FieldType.int), [])
abbrev mJ4_checkFromToIndex : gxY := (yJ4_checkFromToIndex, cJ4_checkFromToIndex, 4, (Option.some Jvm.ClassFile.FieldType.int), [])
abbrev mJ5_indexOf : gxY := (yJ5_indexOf, cJ5_indexOf, 2, (Option.some Jvm.ClassFile.FieldType.int), [])
abbrev mJ5_indexOf_2 : gxY := (yJ5_indexOf_2, cJ5_indexOf_2, 3, (Option.some Jvm.ClassFile.FieldType.int), [])
abbrev mJ5_isLatin1 : gxY := (yJ5_isLatin1, cJ5_isLatin1, 1, (Option.some Jvm.ClassFile.FieldType.boolean), [])
abbrev mJ5_length : gxY := (yJ5_length, cJ5_length, 1, (Option.some Jvm.ClassFile.FieldType.int), [])
abbrev mJ5_coder : gxY := (yJ5_coder, cJ5_coder, 1, (Option.some Jvm.ClassFile.FieldType.byte), [])
abbrev mJ5_checkBoundsBeginEnd : gxY := (yJ5_checkBoundsBeginEnd, cJ5_checkBoundsBeginEnd, 3, (Option.none : Option Jvm.ClassFile.FieldType), [])
abbrev mJ5_charAt : gxY := (yJ5_charAt, cJ5_charAt, 2, (Option.some Jvm.ClassFile.FieldType.char), [])
abbrev mJ5_checkIndex : gxY := (yJ5_checkIndex, cJ5_checkIndex, 2, (Option.none : Option Jvm.ClassFile.FieldType), [])
abbrev mJ6_indexOf : gxY := (yJ6_indexOf, cJ6_indexOf, 4, (Option.some Jvm.ClassFile.FieldType.int), [])
abbrev mJ6_canEncode : gxY := (yJ6_canEncode, cJ6_canEncode, 1, (Option.some Jvm.ClassFile.FieldType.boolean), [])
abbrev mJ6_indexOfChar : gxY := (yJ6_indexOfChar, cJ6_indexOfChar, 6, (Option.some Jvm.ClassFile.FieldType.int), [])
abbrev mJ6_charAt : gxY := (yJ6_charAt, cJ6_charAt, 2, (Option.some Jvm.ClassFile.FieldType.char), [])
abbrev mJ7_max : gxY := (yJ7_max, cJ7_max, 2, (Option.some Jvm.ClassFile.FieldType.int), [])
abbrev mJ7_min : gxY := (yJ7_min, cJ7_min, 2, (Option.some Jvm.ClassFile.FieldType.int), [])
abbrev mJ8_indexOf : gxY := (yJ8_indexOf, cJ8_indexOf, 4, (Option.some Jvm.ClassFile.FieldType.int), [])
abbrev mJ8_indexOfChar : gxY := (yJ8_indexOfChar, cJ8_indexOfChar, 4, (Option.some Jvm.ClassFile.FieldType.int), [])
abbrev mJ8_checkBoundsBeginEnd : gxY := (yJ8_checkBoundsBeginEnd, cJ8_checkBoundsBeginEnd, 3, (Option.none : Option Jvm.ClassFile.FieldType), [])
abbrev mJ8_length : gxY := (yJ8_length, cJ8_length, 1, (Option.some Jvm.ClassFile.FieldType.int), [])
abbrev mJ8_indexOfCharUnsafe : gxY := (yJ8_indexOfCharUnsafe, cJ8_indexOfCharUnsafe, 5, (Option.some Jvm.ClassFile.FieldType.int), [])
abbrev mJ8_getChar : gxY := (yJ8_getChar, cJ8_getChar, 2, (Option.some Jvm.ClassFile.FieldType.char), [])
abbrev mJ8_indexOfSupplementary : gxY := (yJ8_indexOfSupplementary, cJ8_indexOfSupplementary, 7, (Option.some Jvm.ClassFile.FieldType.int), [])
abbrev mJ8_charAt : gxY := (yJ8_charAt, cJ8_charAt, 2, (Option.some Jvm.ClassFile.FieldType.char), [])
abbrev mJ8_checkIndex : gxY := (yJ8_checkIndex, cJ8_checkIndex, 2, (Option.none : Option Jvm.ClassFile.FieldType), [])
abbrev mJ9_isValidCodePoint : gxY := (yJ9_isValidCodePoint, cJ9_isValidCodePoint, 2, (Option.some Jvm.ClassFile.FieldType.boolean), [])
abbrev mJ9_highSurrogate : gxY := (yJ9_highSurrogate, cJ9_highSurrogate, 1, (Option.some Jvm.ClassFile.FieldType.char), [])
abbrev mJ9_lowSurrogate : gxY := (yJ9_lowSurrogate, cJ9_lowSurrogate, 1, (Option.some Jvm.ClassFile.FieldType.char), [])
abbrev mX0_person : gxY := (yX0_person, cX0_person, 5, (Option.some Jvm.ClassFile.FieldType.int), [((0 : Nat), (10 : Nat), (13 : Nat), (13 : Nat))])
abbrev mX0_plot : gxY := (yX0_plot, cX0_plot, 7, (Option.some Jvm.ClassFile.FieldType.int), [((0 : Nat), (14 : Nat), (17 : Nat), (13 : Nat))])
abbrev mX1_init : gxY := (yX1_init, cX1_init, 1, (Option.none : Option Jvm.ClassFile.FieldType), [])
abbrev mX1_feed : gxY := (yX1_feed, cX1_feed, 7, (Option.some Jvm.ClassFile.FieldType.int), [])
abbrev mX1_within : gxY := (yX1_within, cX1_within, 3, (Option.some Jvm.ClassFile.FieldType.boolean), [])
abbrev mX1_town : gxY := (yX1_town, cX1_town, 2, (Option.some Jvm.ClassFile.FieldType.int), [((0 : Nat), (73 : Nat), (74 : Nat), (114 : Nat))])
abbrev mX1_made : gxY := (yX1_made, cX1_made, 3, (Option.some (Jvm.ClassFile.FieldType.object "PaidSecrets$Person")), [])
abbrev mX1_has : gxY := (yX1_has, cX1_has, 2, (Option.some Jvm.ClassFile.FieldType.boolean), [])
abbrev mX1_gossip : gxY := (yX1_gossip, cX1_gossip, 2, (Option.some Jvm.ClassFile.FieldType.int), [((0 : Nat), (16 : Nat), (17 : Nat), (114 : Nat))])
abbrev mX1_now : gxY := (yX1_now, cX1_now, 1, (Option.some (Jvm.ClassFile.FieldType.object "PaidSecrets$Town")), [])
abbrev mX1_secret : gxY := (yX1_secret, cX1_secret, 4, (Option.some Jvm.ClassFile.FieldType.int), [])
abbrev mX1_isSecret : gxY := (yX1_isSecret, cX1_isSecret, 2, (Option.some Jvm.ClassFile.FieldType.boolean), [])
abbrev mX1_secrets : gxY := (yX1_secrets, cX1_secrets, 1, (Option.some Jvm.ClassFile.FieldType.int), [])
abbrev mX1_aware : gxY := (yX1_aware, cX1_aware, 4, (Option.some Jvm.ClassFile.FieldType.int), [])
abbrev mX1_isPerson : gxY := (yX1_isPerson, cX1_isPerson, 2, (Option.some Jvm.ClassFile.FieldType.boolean), [])
abbrev mX1_people : gxY := (yX1_people, cX1_people, 1, (Option.some Jvm.ClassFile.FieldType.int), [])
abbrev mX1_ear : gxY := (yX1_ear, cX1_ear, 3, (Option.some Jvm.ClassFile.FieldType.int), [])
abbrev mX1_tell : gxY := (yX1_tell, cX1_tell, 4, (Option.some Jvm.ClassFile.FieldType.int), [])
abbrev mX1_keeps : gxY := (yX1_keeps, cX1_keeps, 1, (Option.none : Option Jvm.ClassFile.FieldType), [])
abbrev mX1_pay : gxY := (yX1_pay, cX1_pay, 3, (Option.some Jvm.ClassFile.FieldType.int), [])
abbrev mX1_every : gxY := (yX1_every, cX1_every, 1, (Option.some Jvm.ClassFile.FieldType.int), [])
abbrev mX1_rise : gxY := (yX1_rise, cX1_rise, 2, (Option.some Jvm.ClassFile.FieldType.int), [])
abbrev mX1_quarter : gxY := (yX1_quarter, cX1_quarter, 1, (Option.some Jvm.ClassFile.FieldType.int), [])
abbrev mX1_lend : gxY := (yX1_lend, cX1_lend, 5, (Option.some Jvm.ClassFile.FieldType.int), [])
abbrev mX1_undo : gxY := (yX1_undo, cX1_undo, 1, (Option.some Jvm.ClassFile.FieldType.boolean), [])
abbrev mX1_judged : gxY := (yX1_judged, cX1_judged, 4, (Option.some Jvm.ClassFile.FieldType.int), [])
abbrev mX1_least : gxY := (yX1_least, cX1_least, 2, (Option.some Jvm.ClassFile.FieldType.int), [])
abbrev mX1_bits : gxY := (yX1_bits, cX1_bits, 3, (Option.some Jvm.ClassFile.FieldType.int), [])
abbrev mX1_payers : gxY := (yX1_payers, cX1_payers, 4, (Option.some Jvm.ClassFile.FieldType.int), [])
abbrev mX1_see : gxY := (yX1_see, cX1_see, 3, (Option.some Jvm.ClassFile.FieldType.boolean), [])
abbrev mX1_leaks : gxY := (yX1_leaks, cX1_leaks, 7, (Option.some Jvm.ClassFile.FieldType.int), [])
abbrev mX1_isAsSeen : gxY := (yX1_isAsSeen, cX1_isAsSeen, 3, (Option.some Jvm.ClassFile.FieldType.boolean), [])
abbrev mX1_lies : gxY := (yX1_lies, cX1_lies, 6, (Option.some Jvm.ClassFile.FieldType.int), [])
abbrev mX1_areTrue : gxY := (yX1_areTrue, cX1_areTrue, 3, (Option.some Jvm.ClassFile.FieldType.boolean), [])
abbrev mX1_mean : gxY := (yX1_mean, cX1_mean, 6, (Option.some Jvm.ClassFile.FieldType.int), [])
abbrev mX1_holds : gxY := (yX1_holds, cX1_holds, 6, (Option.some Jvm.ClassFile.FieldType.int), [])
abbrev mX1_settle : gxY := (yX1_settle, cX1_settle, 3, (Option.some Jvm.ClassFile.FieldType.int), [])
abbrev mX1_groups : gxY := (yX1_groups, cX1_groups, 6, (Option.some Jvm.ClassFile.FieldType.int), [])
abbrev mX1_rests : gxY := (yX1_rests, cX1_rests, 6, (Option.some Jvm.ClassFile.FieldType.int), [])
abbrev mX1_years : gxY := (yX1_years, cX1_years, 8, (Option.some Jvm.ClassFile.FieldType.int), [])
abbrev mX1_whispers : gxY := (yX1_whispers, cX1_whispers, 4, (Option.some Jvm.ClassFile.FieldType.boolean), [])
abbrev mX1_draw : gxY := (yX1_draw, cX1_draw, 2, (Option.some Jvm.ClassFile.FieldType.int), [])
abbrev mX1_quarterDay : gxY := (yX1_quarterDay, cX1_quarterDay, 3, (Option.some Jvm.ClassFile.FieldType.int), [])
abbrev mX1_mark : gxY := (yX1_mark, cX1_mark, 3, (Option.some Jvm.ClassFile.FieldType.boolean), [])
abbrev mX1_copied : gxY := (yX1_copied, cX1_copied, 3, (Option.some (Jvm.ClassFile.FieldType.object "java/util/ArrayList")), [])
abbrev mX1_count : gxY := (yX1_count, cX1_count, 2, (Option.some Jvm.ClassFile.FieldType.int), [])
abbrev mX1_person : gxY := (yX1_person, cX1_person, 3, (Option.some Jvm.ClassFile.FieldType.int), [])
abbrev mX1_plot : gxY := (yX1_plot, cX1_plot, 5, (Option.some Jvm.ClassFile.FieldType.int), [])
abbrev mX10_init : gxY := (yX10_init, cX10_init, 1, (Option.none : Option Jvm.ClassFile.FieldType), [])
abbrev mX10_thrown : gxY := (yX10_thrown, cX10_thrown, 1, (Option.some Jvm.ClassFile.FieldType.int), [])
abbrev mX10_feed : gxY := (yX10_feed, cX10_feed, 11, (Option.some Jvm.ClassFile.FieldType.int), [])
abbrev mX10_town : gxY := (yX10_town, cX10_town, 2, (Option.some Jvm.ClassFile.FieldType.int), [])
abbrev mX10_readsAll : gxY := (yX10_readsAll, cX10_readsAll, 2, (Option.some Jvm.ClassFile.FieldType.boolean), [])
abbrev mX10_starts : gxY := (yX10_starts, cX10_starts, 1, (Option.none : Option Jvm.ClassFile.FieldType), [])
abbrev mX10_nextToken : gxY := (yX10_nextToken, cX10_nextToken, 2, (Option.none : Option Jvm.ClassFile.FieldType), [])
abbrev mX10_signAt : gxY := (yX10_signAt, cX10_signAt, 2, (Option.some Jvm.ClassFile.FieldType.int), [])
abbrev mX10_isWord : gxY := (yX10_isWord, cX10_isWord, 3, (Option.some Jvm.ClassFile.FieldType.boolean), [])
abbrev mX10_readsPerson : gxY := (yX10_readsPerson, cX10_readsPerson, 4, (Option.some Jvm.ClassFile.FieldType.boolean), [])
abbrev mX10_fails : gxY := (yX10_fails, cX10_fails, 2, (Option.some Jvm.ClassFile.FieldType.boolean), [])
abbrev mX10_isNew : gxY := (yX10_isNew, cX10_isNew, 1, (Option.some Jvm.ClassFile.FieldType.boolean), [])
abbrev mX10_isKept : gxY := (yX10_isKept, cX10_isKept, 1, (Option.some Jvm.ClassFile.FieldType.boolean), [])
abbrev mX10_personNamed : gxY := (yX10_personNamed, cX10_personNamed, 2, (Option.some Jvm.ClassFile.FieldType.int), [])
abbrev mX10_named : gxY := (yX10_named, cX10_named, 6, (Option.some Jvm.ClassFile.FieldType.int), [])
abbrev mX10_secretNamed : gxY := (yX10_secretNamed, cX10_secretNamed, 2, (Option.some Jvm.ClassFile.FieldType.int), [])
abbrev mX10_needsBoth : gxY := (yX10_needsBoth, cX10_needsBoth, 5, (Option.some Jvm.ClassFile.FieldType.boolean), [])
abbrev mX10_needsWord : gxY := (yX10_needsWord, cX10_needsWord, 3, (Option.some Jvm.ClassFile.FieldType.boolean), [])
abbrev mX10_needsNumber : gxY := (yX10_needsNumber, cX10_needsNumber, 3, (Option.some Jvm.ClassFile.FieldType.boolean), [])
abbrev mX10_within : gxY := (yX10_within, cX10_within, 3, (Option.some Jvm.ClassFile.FieldType.boolean), [])
abbrev mX10_closes : gxY := (yX10_closes, cX10_closes, 1, (Option.some Jvm.ClassFile.FieldType.boolean), [])
abbrev mX10_isSign : gxY := (yX10_isSign, cX10_isSign, 2, (Option.some Jvm.ClassFile.FieldType.boolean), [])
abbrev mX10_readsSecret : gxY := (yX10_readsSecret, cX10_readsSecret, 4, (Option.some Jvm.ClassFile.FieldType.boolean), [])
abbrev mX10_needsPerson : gxY := (yX10_needsPerson, cX10_needsPerson, 2, (Option.some Jvm.ClassFile.FieldType.boolean), [])
abbrev mX10_needsSecret : gxY := (yX10_needsSecret, cX10_needsSecret, 2, (Option.some Jvm.ClassFile.FieldType.boolean), [])
abbrev mX10_readsKnowers : gxY := (yX10_readsKnowers, cX10_readsKnowers, 2, (Option.some Jvm.ClassFile.FieldType.boolean), [])
abbrev mX10_readsEar : gxY := (yX10_readsEar, cX10_readsEar, 5, (Option.some Jvm.ClassFile.FieldType.boolean), [])
abbrev mX10_readsClash : gxY := (yX10_readsClash, cX10_readsClash, 3, (Option.some Jvm.ClassFile.FieldType.boolean), [])
abbrev mX10_readsWorth : gxY := (yX10_readsWorth, cX10_readsWorth, 1, (Option.some Jvm.ClassFile.FieldType.boolean), [])
abbrev mX10_reads : gxY := (yX10_reads, cX10_reads, 6, (Option.some Jvm.ClassFile.FieldType.boolean), [])
abbrev mX10_fact : gxY := (yX10_fact, cX10_fact, 1, (Option.some Jvm.ClassFile.FieldType.int), [])
abbrev mX10_puts : gxY := (yX10_puts, cX10_puts, 2, (Option.none : Option Jvm.ClassFile.FieldType), [])
abbrev mX10_lays : gxY := (yX10_lays, cX10_lays, 1, (Option.none : Option Jvm.ClassFile.FieldType), [])
abbrev mX10_moves : gxY := (yX10_moves, cX10_moves, 3, (Option.none : Option Jvm.ClassFile.FieldType), [])
abbrev mX10_movesNames : gxY := (yX10_movesNames, cX10_movesNames, 3, (Option.none : Option Jvm.ClassFile.FieldType), [])
abbrev mX10_fresh : gxY := (yX10_fresh, cX10_fresh, 2, (Option.none : Option Jvm.ClassFile.FieldType), [])
abbrev mX10_gossip : gxY := (yX10_gossip, cX10_gossip, 1, (Option.some Jvm.ClassFile.FieldType.int), [])
abbrev mX10_readsLine : gxY := (yX10_readsLine, cX10_readsLine, 3, (Option.some Jvm.ClassFile.FieldType.boolean), [])
abbrev mX10_readsTelling : gxY := (yX10_readsTelling, cX10_readsTelling, 2, (Option.some Jvm.ClassFile.FieldType.boolean), [])
abbrev mX10_readsPayment : gxY := (yX10_readsPayment, cX10_readsPayment, 2, (Option.some Jvm.ClassFile.FieldType.boolean), [])
abbrev mX10_readsRise : gxY := (yX10_readsRise, cX10_readsRise, 2, (Option.some Jvm.ClassFile.FieldType.boolean), [])
abbrev mX10_laysLines : gxY := (yX10_laysLines, cX10_laysLines, 4, (Option.none : Option Jvm.ClassFile.FieldType), [])
abbrev mX10_person : gxY := (yX10_person, cX10_person, 3, (Option.some Jvm.ClassFile.FieldType.int), [])
abbrev mX10_isPerson : gxY := (yX10_isPerson, cX10_isPerson, 2, (Option.some Jvm.ClassFile.FieldType.boolean), [])
abbrev mX10_knownBy : gxY := (yX10_knownBy, cX10_knownBy, 4, (Option.some Jvm.ClassFile.FieldType.int), [])
abbrev mX10_purse : gxY := (yX10_purse, cX10_purse, 2, (Option.some Jvm.ClassFile.FieldType.int), [])
abbrev mX10_worthsOf : gxY := (yX10_worthsOf, cX10_worthsOf, 4, (Option.some Jvm.ClassFile.FieldType.int), [])
abbrev mX10_worthOf : gxY := (yX10_worthOf, cX10_worthOf, 2, (Option.some Jvm.ClassFile.FieldType.int), [])
abbrev mX10_baseOf : gxY := (yX10_baseOf, cX10_baseOf, 4, (Option.some Jvm.ClassFile.FieldType.int), [])
abbrev mX10_knowersOf : gxY := (yX10_knowersOf, cX10_knowersOf, 4, (Option.some Jvm.ClassFile.FieldType.int), [])
abbrev mX10_worked : gxY := (yX10_worked, cX10_worked, 6, (Option.some Jvm.ClassFile.FieldType.int), [])
abbrev mX10_opens : gxY := (yX10_opens, cX10_opens, 2, (Option.none : Option Jvm.ClassFile.FieldType), [])
abbrev mX10_sums : gxY := (yX10_sums, cX10_sums, 2, (Option.none : Option Jvm.ClassFile.FieldType), [])
abbrev mX10_tests : gxY := (yX10_tests, cX10_tests, 3, (Option.none : Option Jvm.ClassFile.FieldType), [])
abbrev mX10_between : gxY := (yX10_between, cX10_between, 3, (Option.some Jvm.ClassFile.FieldType.int), [])
abbrev mX10_net : gxY := (yX10_net, cX10_net, 4, (Option.some Jvm.ClassFile.FieldType.int), [])
abbrev mX10_secret : gxY := (yX10_secret, cX10_secret, 3, (Option.some Jvm.ClassFile.FieldType.int), [])
abbrev mX10_isSecret : gxY := (yX10_isSecret, cX10_isSecret, 2, (Option.some Jvm.ClassFile.FieldType.boolean), [])
abbrev mX10_aware : gxY := (yX10_aware, cX10_aware, 4, (Option.some Jvm.ClassFile.FieldType.int), [])
abbrev mX10_areTwo : gxY := (yX10_areTwo, cX10_areTwo, 3, (Option.some Jvm.ClassFile.FieldType.boolean), [])
abbrev mX10_ear : gxY := (yX10_ear, cX10_ear, 4, (Option.some Jvm.ClassFile.FieldType.int), [])
abbrev mX10_chanceOf : gxY := (yX10_chanceOf, cX10_chanceOf, 2, (Option.some Jvm.ClassFile.FieldType.int), [])
abbrev mX10_tell : gxY := (yX10_tell, cX10_tell, 4, (Option.some Jvm.ClassFile.FieldType.int), [])
abbrev mX10_canTell : gxY := (yX10_canTell, cX10_canTell, 4, (Option.some Jvm.ClassFile.FieldType.boolean), [])
abbrev mX10_speaks : gxY := (yX10_speaks, cX10_speaks, 2, (Option.some Jvm.ClassFile.FieldType.boolean), [])
abbrev mX10_keeps : gxY := (yX10_keeps, cX10_keeps, 2, (Option.none : Option Jvm.ClassFile.FieldType), [])
abbrev mX10_copies : gxY := (yX10_copies, cX10_copies, 5, (Option.none : Option Jvm.ClassFile.FieldType), [])
abbrev mX10_tells : gxY := (yX10_tells, cX10_tells, 4, (Option.none : Option Jvm.ClassFile.FieldType), [])
abbrev mX10_pay : gxY := (yX10_pay, cX10_pay, 3, (Option.some Jvm.ClassFile.FieldType.int), [])
abbrev mX10_canPay : gxY := (yX10_canPay, cX10_canPay, 3, (Option.some Jvm.ClassFile.FieldType.boolean), [])
abbrev mX10_pays : gxY := (yX10_pays, cX10_pays, 3, (Option.none : Option Jvm.ClassFile.FieldType), [])
abbrev mX10_rise : gxY := (yX10_rise, cX10_rise, 2, (Option.some Jvm.ClassFile.FieldType.int), [])
abbrev mX10_quarter : gxY := (yX10_quarter, cX10_quarter, 1, (Option.some Jvm.ClassFile.FieldType.int), [])
abbrev mX10_passes : gxY := (yX10_passes, cX10_passes, 3, (Option.some Jvm.ClassFile.FieldType.int), [])
abbrev mX10_lend : gxY := (yX10_lend, cX10_lend, 5, (Option.some Jvm.ClassFile.FieldType.int), [])
abbrev mX10_undo : gxY := (yX10_undo, cX10_undo, 1, (Option.some Jvm.ClassFile.FieldType.boolean), [])
abbrev mX10_judged : gxY := (yX10_judged, cX10_judged, 4, (Option.some Jvm.ClassFile.FieldType.int), [])
abbrev mX10_goes : gxY := (yX10_goes, cX10_goes, 5, (Option.some Jvm.ClassFile.FieldType.boolean), [])
abbrev mX10_finesOfAll : gxY := (yX10_finesOfAll, cX10_finesOfAll, 3, (Option.some Jvm.ClassFile.FieldType.int), [])
abbrev mX10_allSecrets : gxY := (yX10_allSecrets, cX10_allSecrets, 1, (Option.some Jvm.ClassFile.FieldType.int), [])
abbrev mX10_least : gxY := (yX10_least, cX10_least, 2, (Option.some Jvm.ClassFile.FieldType.int), [])
abbrev mX10_leastOf : gxY := (yX10_leastOf, cX10_leastOf, 6, (Option.some Jvm.ClassFile.FieldType.int), [])
abbrev mX10_bits : gxY := (yX10_bits, cX10_bits, 3, (Option.some Jvm.ClassFile.FieldType.int), [])
abbrev mX10_payers : gxY := (yX10_payers, cX10_payers, 5, (Option.some Jvm.ClassFile.FieldType.int), [])
abbrev mX10_payTogether : gxY := (yX10_payTogether, cX10_payTogether, 5, (Option.some Jvm.ClassFile.FieldType.boolean), [])
abbrev mX10_plot : gxY := (yX10_plot, cX10_plot, 5, (Option.some Jvm.ClassFile.FieldType.int), [])
abbrev mX10_plots : gxY := (yX10_plots, cX10_plots, 11, (Option.none : Option Jvm.ClassFile.FieldType), [])
abbrev mX10_see : gxY := (yX10_see, cX10_see, 3, (Option.some Jvm.ClassFile.FieldType.boolean), [])
abbrev mX10_leaks : gxY := (yX10_leaks, cX10_leaks, 7, (Option.some Jvm.ClassFile.FieldType.int), [])
abbrev mX10_isAsSeen : gxY := (yX10_isAsSeen, cX10_isAsSeen, 3, (Option.some Jvm.ClassFile.FieldType.boolean), [])
abbrev mX10_lies : gxY := (yX10_lies, cX10_lies, 6, (Option.some Jvm.ClassFile.FieldType.int), [])
abbrev mX10_isClashing : gxY := (yX10_isClashing, cX10_isClashing, 3, (Option.some Jvm.ClassFile.FieldType.boolean), [])
abbrev mX10_mean : gxY := (yX10_mean, cX10_mean, 6, (Option.some Jvm.ClassFile.FieldType.int), [])
abbrev mX10_nights : gxY := (yX10_nights, cX10_nights, 4, (Option.none : Option Jvm.ClassFile.FieldType), [])
abbrev mX10_night : gxY := (yX10_night, cX10_night, 7, (Option.none : Option Jvm.ClassFile.FieldType), [])
abbrev mX10_laysHears : gxY := (yX10_laysHears, cX10_laysHears, 6, (Option.none : Option Jvm.ClassFile.FieldType), [])
abbrev mX10_holds : gxY := (yX10_holds, cX10_holds, 6, (Option.some Jvm.ClassFile.FieldType.int), [])
abbrev mX10_settle : gxY := (yX10_settle, cX10_settle, 6, (Option.some Jvm.ClassFile.FieldType.int), [])
abbrev mX10_rests : gxY := (yX10_rests, cX10_rests, 9, (Option.some Jvm.ClassFile.FieldType.int), [])
abbrev mX10_may : gxY := (yX10_may, cX10_may, 3, (Option.some Jvm.ClassFile.FieldType.boolean), [])
abbrev mX10_isRest : gxY := (yX10_isRest, cX10_isRest, 6, (Option.some Jvm.ClassFile.FieldType.boolean), [])
abbrev mX10_hasBy : gxY := (yX10_hasBy, cX10_hasBy, 4, (Option.some Jvm.ClassFile.FieldType.int), [])
abbrev mX10_years : gxY := (yX10_years, cX10_years, 9, (Option.some Jvm.ClassFile.FieldType.int), [])
abbrev mX10_whispers : gxY := (yX10_whispers, cX10_whispers, 4, (Option.some Jvm.ClassFile.FieldType.int), [])
abbrev mX10_draws : gxY := (yX10_draws, cX10_draws, 2, (Option.some Jvm.ClassFile.FieldType.int), [])
abbrev mX10_mark : gxY := (yX10_mark, cX10_mark, 5, (Option.some Jvm.ClassFile.FieldType.boolean), [])
abbrev mX10_laysSeen : gxY := (yX10_laysSeen, cX10_laysSeen, 4, (Option.none : Option Jvm.ClassFile.FieldType), [])
abbrev mX10_count : gxY := (yX10_count, cX10_count, 2, (Option.some Jvm.ClassFile.FieldType.int), [])
abbrev mX11_init : gxY := (yX11_init, cX11_init, 2, (Option.none : Option Jvm.ClassFile.FieldType), [])
abbrev mX12_init : gxY := (yX12_init, cX12_init, 3, (Option.none : Option Jvm.ClassFile.FieldType), [])
abbrev mX12_more : gxY := (yX12_more, cX12_more, 1, (Option.some Jvm.ClassFile.FieldType.int), [])
abbrev mX12_counts : gxY := (yX12_counts, cX12_counts, 1, (Option.some Jvm.ClassFile.FieldType.boolean), [])
abbrev mX12_tells : gxY := (yX12_tells, cX12_tells, 1, (Option.some Jvm.ClassFile.FieldType.boolean), [])
abbrev mX12_kind : gxY := (yX12_kind, cX12_kind, 1, (Option.some Jvm.ClassFile.FieldType.int), [])
abbrev mX13_init : gxY := (yX13_init, cX13_init, 3, (Option.none : Option Jvm.ClassFile.FieldType), [])
abbrev mX13_more : gxY := (yX13_more, cX13_more, 1, (Option.some Jvm.ClassFile.FieldType.int), [])
abbrev mX13_kind : gxY := (yX13_kind, cX13_kind, 1, (Option.some Jvm.ClassFile.FieldType.int), [])
abbrev mX14_init : gxY := (yX14_init, cX14_init, 3, (Option.none : Option Jvm.ClassFile.FieldType), [])
abbrev mX14_tells : gxY := (yX14_tells, cX14_tells, 1, (Option.some Jvm.ClassFile.FieldType.boolean), [])
abbrev mX14_kind : gxY := (yX14_kind, cX14_kind, 1, (Option.some Jvm.ClassFile.FieldType.int), [])
abbrev mX15_init : gxY := (yX15_init, cX15_init, 3, (Option.none : Option Jvm.ClassFile.FieldType), [])
abbrev mX15_counts : gxY := (yX15_counts, cX15_counts, 1, (Option.some Jvm.ClassFile.FieldType.boolean), [])
abbrev mX15_kind : gxY := (yX15_kind, cX15_kind, 1, (Option.some Jvm.ClassFile.FieldType.int), [])
abbrev mX16_init : gxY := (yX16_init, cX16_init, 6, (Option.none : Option Jvm.ClassFile.FieldType), [])
abbrev mX17_init : gxY := (yX17_init, cX17_init, 1, (Option.none : Option Jvm.ClassFile.FieldType), [])
abbrev mX18_init : gxY := (yX18_init, cX18_init, 2, (Option.none : Option Jvm.ClassFile.FieldType), [])
abbrev mX18_of : gxY := (yX18_of, cX18_of, 2, (Option.some Jvm.ClassFile.FieldType.int), [])
abbrev mX19_init : gxY := (yX19_init, cX19_init, 2, (Option.none : Option Jvm.ClassFile.FieldType), [])
abbrev mX19_of : gxY := (yX19_of, cX19_of, 2, (Option.some Jvm.ClassFile.FieldType.int), [])
abbrev mX2_init : gxY := (yX2_init, cX2_init, 1, (Option.none : Option Jvm.ClassFile.FieldType), [])
abbrev mX2_feed : gxY := (yX2_feed, cX2_feed, 5, (Option.none : Option Jvm.ClassFile.FieldType), [])
abbrev mX2_town : gxY := (yX2_town, cX2_town, 1, (Option.some (Jvm.ClassFile.FieldType.object "PaidSecrets$Town")), [])
abbrev mX2_cut : gxY := (yX2_cut, cX2_cut, 8, (Option.none : Option Jvm.ClassFile.FieldType), [])
abbrev mX2_isLetter : gxY := (yX2_isLetter, cX2_isLetter, 1, (Option.some Jvm.ClassFile.FieldType.boolean), [])
abbrev mX2_isDigit : gxY := (yX2_isDigit, cX2_isDigit, 1, (Option.some Jvm.ClassFile.FieldType.boolean), [])
abbrev mX2_isWord : gxY := (yX2_isWord, cX2_isWord, 2, (Option.some Jvm.ClassFile.FieldType.boolean), [])
abbrev mX2_word : gxY := (yX2_word, cX2_word, 4, (Option.some Jvm.ClassFile.FieldType.long), [])
abbrev mX2_person : gxY := (yX2_person, cX2_person, 4, (Option.none : Option Jvm.ClassFile.FieldType), [])
abbrev mX2_newName : gxY := (yX2_newName, cX2_newName, 3, (Option.none : Option Jvm.ClassFile.FieldType), [])
abbrev mX2_wrong : gxY := (yX2_wrong, cX2_wrong, 2, (Option.some (Jvm.ClassFile.FieldType.object "PaidSecrets$Wrong")), [])
abbrev mX2_isName : gxY := (yX2_isName, cX2_isName, 1, (Option.some Jvm.ClassFile.FieldType.boolean), [])
abbrev mX2_which : gxY := (yX2_which, cX2_which, 3, (Option.some Jvm.ClassFile.FieldType.int), [])
abbrev mX2_number : gxY := (yX2_number, cX2_number, 4, (Option.some Jvm.ClassFile.FieldType.int), [])
abbrev mX2_takeWord : gxY := (yX2_takeWord, cX2_takeWord, 2, (Option.none : Option Jvm.ClassFile.FieldType), [])
abbrev mX2_hasWord : gxY := (yX2_hasWord, cX2_hasWord, 3, (Option.some Jvm.ClassFile.FieldType.boolean), [])
abbrev mX2_number_2 : gxY := (yX2_number_2, cX2_number_2, 3, (Option.some Jvm.ClassFile.FieldType.int), [])
abbrev mX2_secret : gxY := (yX2_secret, cX2_secret, 6, (Option.none : Option Jvm.ClassFile.FieldType), [])
abbrev mX2_takeTold : gxY := (yX2_takeTold, cX2_takeTold, 4, (Option.some Jvm.ClassFile.FieldType.int), [])
abbrev mX2_told : gxY := (yX2_told, cX2_told, 4, (Option.some Jvm.ClassFile.FieldType.int), [])
abbrev mX2_some : gxY := (yX2_some, cX2_some, 5, (Option.some Jvm.ClassFile.FieldType.int), [])
abbrev mX2_ear : gxY := (yX2_ear, cX2_ear, 3, (Option.none : Option Jvm.ClassFile.FieldType), [])
abbrev mX2_clash : gxY := (yX2_clash, cX2_clash, 3, (Option.none : Option Jvm.ClassFile.FieldType), [])
abbrev mX2_worth : gxY := (yX2_worth, cX2_worth, 1, (Option.none : Option Jvm.ClassFile.FieldType), [])
abbrev mX2_whole : gxY := (yX2_whole, cX2_whole, 1, (Option.some (Jvm.ClassFile.FieldType.object "PaidSecrets$Expression")), [])
abbrev mX2_all : gxY := (yX2_all, cX2_all, 5, (Option.some (Jvm.ClassFile.FieldType.object "PaidSecrets$Expression")), [])
abbrev mX2_test : gxY := (yX2_test, cX2_test, 5, (Option.some (Jvm.ClassFile.FieldType.object "PaidSecrets$Expression")), [])
abbrev mX2_sum : gxY := (yX2_sum, cX2_sum, 5, (Option.some (Jvm.ClassFile.FieldType.object "PaidSecrets$Expression")), [])
abbrev mX2_term : gxY := (yX2_term, cX2_term, 4, (Option.some (Jvm.ClassFile.FieldType.object "PaidSecrets$Expression")), [])
abbrev mX2_part : gxY := (yX2_part, cX2_part, 4, (Option.some (Jvm.ClassFile.FieldType.object "PaidSecrets$Expression")), [])
abbrev mX2_isSign : gxY := (yX2_isSign, cX2_isSign, 2, (Option.some Jvm.ClassFile.FieldType.boolean), [])
abbrev mX2_sign : gxY := (yX2_sign, cX2_sign, 2, (Option.none : Option Jvm.ClassFile.FieldType), [])
abbrev mX2_hasSign : gxY := (yX2_hasSign, cX2_hasSign, 3, (Option.some Jvm.ClassFile.FieldType.boolean), [])
abbrev mX2_chain : gxY := (yX2_chain, cX2_chain, 2, (Option.some (Jvm.ClassFile.FieldType.object "PaidSecrets$Chain")), [])
abbrev mX2_gossip : gxY := (yX2_gossip, cX2_gossip, 3, (Option.some (Jvm.ClassFile.FieldType.object "java/util/ArrayList")), [])
abbrev mX2_line : gxY := (yX2_line, cX2_line, 1, (Option.some (Jvm.ClassFile.FieldType.object "PaidSecrets$Line")), [])
abbrev mX2_tells : gxY := (yX2_tells, cX2_tells, 3, (Option.some (Jvm.ClassFile.FieldType.object "PaidSecrets$Line")), [])
abbrev mX20_init : gxY := (yX20_init, cX20_init, 2, (Option.none : Option Jvm.ClassFile.FieldType), [])
abbrev mX20_of : gxY := (yX20_of, cX20_of, 2, (Option.some Jvm.ClassFile.FieldType.int), [])
abbrev mX21_init : gxY := (yX21_init, cX21_init, 2, (Option.none : Option Jvm.ClassFile.FieldType), [])
abbrev mX21_of : gxY := (yX21_of, cX21_of, 4, (Option.some Jvm.ClassFile.FieldType.int), [])
abbrev mX22_init : gxY := (yX22_init, cX22_init, 2, (Option.none : Option Jvm.ClassFile.FieldType), [])
abbrev mX22_on : gxY := (yX22_on, cX22_on, 3, (Option.some Jvm.ClassFile.FieldType.int), [])
abbrev mX23_init : gxY := (yX23_init, cX23_init, 2, (Option.none : Option Jvm.ClassFile.FieldType), [])
abbrev mX23_with : gxY := (yX23_with, cX23_with, 3, (Option.some Jvm.ClassFile.FieldType.int), [])
abbrev mX24_init : gxY := (yX24_init, cX24_init, 2, (Option.none : Option Jvm.ClassFile.FieldType), [])
abbrev mX24_with : gxY := (yX24_with, cX24_with, 3, (Option.some Jvm.ClassFile.FieldType.int), [])
abbrev mX25_init : gxY := (yX25_init, cX25_init, 2, (Option.none : Option Jvm.ClassFile.FieldType), [])
abbrev mX25_with : gxY := (yX25_with, cX25_with, 3, (Option.some Jvm.ClassFile.FieldType.int), [])
abbrev mX26_init : gxY := (yX26_init, cX26_init, 2, (Option.none : Option Jvm.ClassFile.FieldType), [])
abbrev mX26_with : gxY := (yX26_with, cX26_with, 3, (Option.some Jvm.ClassFile.FieldType.int), [])
abbrev mX27_init : gxY := (yX27_init, cX27_init, 2, (Option.none : Option Jvm.ClassFile.FieldType), [])
abbrev mX27_with : gxY := (yX27_with, cX27_with, 3, (Option.some Jvm.ClassFile.FieldType.int), [])
abbrev mX28_init : gxY := (yX28_init, cX28_init, 2, (Option.none : Option Jvm.ClassFile.FieldType), [])
abbrev mX28_with : gxY := (yX28_with, cX28_with, 3, (Option.some Jvm.ClassFile.FieldType.int), [])
abbrev mX29_init : gxY := (yX29_init, cX29_init, 2, (Option.none : Option Jvm.ClassFile.FieldType), [])
abbrev mX29_with : gxY := (yX29_with, cX29_with, 3, (Option.some Jvm.ClassFile.FieldType.int), [])
abbrev mX3_init : gxY := (yX3_init, cX3_init, 1, (Option.none : Option Jvm.ClassFile.FieldType), [])
abbrev mX3_begins : gxY := (yX3_begins, cX3_begins, 3, (Option.some (Jvm.ClassFile.FieldType.object "PaidSecrets$Talk")), [])
abbrev mX3_worth : gxY := (yX3_worth, cX3_worth, 3, (Option.some Jvm.ClassFile.FieldType.int), [])
abbrev mX3_secret : gxY := (yX3_secret, cX3_secret, 2, (Option.some (Jvm.ClassFile.FieldType.object "PaidSecrets$Secret")), [])
abbrev mX3_bare : gxY := (yX3_bare, cX3_bare, 3, (Option.some Jvm.ClassFile.FieldType.int), [])
abbrev mX3_mayTell : gxY := (yX3_mayTell, cX3_mayTell, 4, (Option.some Jvm.ClassFile.FieldType.boolean), [])
abbrev mX3_copied : gxY := (yX3_copied, cX3_copied, 1, (Option.some (Jvm.ClassFile.FieldType.object "PaidSecrets$Talk")), [])
abbrev mX3_copies : gxY := (yX3_copies, cX3_copies, 2, (Option.some (Jvm.ClassFile.FieldType.object "PaidSecrets$Talk")), [])
abbrev mX3_tells : gxY := (yX3_tells, cX3_tells, 4, (Option.none : Option Jvm.ClassFile.FieldType), [])
abbrev mX3_mayPay : gxY := (yX3_mayPay, cX3_mayPay, 3, (Option.some Jvm.ClassFile.FieldType.boolean), [])
abbrev mX3_known : gxY := (yX3_known, cX3_known, 4, (Option.some Jvm.ClassFile.FieldType.int), [])
abbrev mX3_worths : gxY := (yX3_worths, cX3_worths, 4, (Option.some Jvm.ClassFile.FieldType.int), [])
abbrev mX3_pays : gxY := (yX3_pays, cX3_pays, 3, (Option.none : Option Jvm.ClassFile.FieldType), [])
abbrev mX3_rises : gxY := (yX3_rises, cX3_rises, 2, (Option.some Jvm.ClassFile.FieldType.boolean), [])
abbrev mX3_ends : gxY := (yX3_ends, cX3_ends, 3, (Option.some Jvm.ClassFile.FieldType.int), [])
abbrev mX3_lends : gxY := (yX3_lends, cX3_lends, 4, (Option.some Jvm.ClassFile.FieldType.boolean), [])
abbrev mX3_finedInAll : gxY := (yX3_finedInAll, cX3_finedInAll, 3, (Option.some Jvm.ClassFile.FieldType.int), [])
abbrev mX3_all : gxY := (yX3_all, cX3_all, 1, (Option.some Jvm.ClassFile.FieldType.int), [])
abbrev mX3_least : gxY := (yX3_least, cX3_least, 5, (Option.some Jvm.ClassFile.FieldType.int), [])
abbrev mX3_isLess : gxY := (yX3_isLess, cX3_isLess, 3, (Option.some Jvm.ClassFile.FieldType.boolean), [])
abbrev mX3_purse : gxY := (yX3_purse, cX3_purse, 2, (Option.some Jvm.ClassFile.FieldType.int), [])
abbrev mX30_init : gxY := (yX30_init, cX30_init, 1, (Option.none : Option Jvm.ClassFile.FieldType), [])
abbrev mX31_init : gxY := (yX31_init, cX31_init, 4, (Option.none : Option Jvm.ClassFile.FieldType), [])
abbrev mX31_isDone : gxY := (yX31_isDone, cX31_isDone, 2, (Option.some Jvm.ClassFile.FieldType.boolean), [])
abbrev mX32_init : gxY := (yX32_init, cX32_init, 3, (Option.none : Option Jvm.ClassFile.FieldType), [])
abbrev mX32_isDone : gxY := (yX32_isDone, cX32_isDone, 2, (Option.some Jvm.ClassFile.FieldType.boolean), [])
abbrev mX33_init : gxY := (yX33_init, cX33_init, 2, (Option.none : Option Jvm.ClassFile.FieldType), [])
abbrev mX33_isDone : gxY := (yX33_isDone, cX33_isDone, 2, (Option.some Jvm.ClassFile.FieldType.boolean), [])
abbrev mX34_init : gxY := (yX34_init, cX34_init, 1, (Option.none : Option Jvm.ClassFile.FieldType), [])
abbrev mX34_isDone : gxY := (yX34_isDone, cX34_isDone, 2, (Option.some Jvm.ClassFile.FieldType.boolean), [])
abbrev mX35_init : gxY := (yX35_init, cX35_init, 4, (Option.none : Option Jvm.ClassFile.FieldType), [])
abbrev mX4_init : gxY := (yX4_init, cX4_init, 1, (Option.none : Option Jvm.ClassFile.FieldType), [])
abbrev mX4_find : gxY := (yX4_find, cX4_find, 4, (Option.some Jvm.ClassFile.FieldType.int), [])
abbrev mX4_ear : gxY := (yX4_ear, cX4_ear, 4, (Option.some Jvm.ClassFile.FieldType.int), [])
abbrev mX4_chance : gxY := (yX4_chance, cX4_chance, 2, (Option.some Jvm.ClassFile.FieldType.int), [])
abbrev mX4_knowers : gxY := (yX4_knowers, cX4_knowers, 4, (Option.some Jvm.ClassFile.FieldType.int), [])
abbrev mX4_bare : gxY := (yX4_bare, cX4_bare, 7, (Option.some Jvm.ClassFile.FieldType.int), [])
abbrev mX5_init : gxY := (yX5_init, cX5_init, 1, (Option.none : Option Jvm.ClassFile.FieldType), [])
abbrev mX6_init : gxY := (yX6_init, cX6_init, 2, (Option.none : Option Jvm.ClassFile.FieldType), [])
abbrev mX6_lays : gxY := (yX6_lays, cX6_lays, 2, (Option.none : Option Jvm.ClassFile.FieldType), [])
abbrev mX6_can : gxY := (yX6_can, cX6_can, 3, (Option.some Jvm.ClassFile.FieldType.boolean), [])
abbrev mX6_pays : gxY := (yX6_pays, cX6_pays, 8, (Option.some Jvm.ClassFile.FieldType.boolean), [])
abbrev mX7_init : gxY := (yX7_init, cX7_init, 2, (Option.none : Option Jvm.ClassFile.FieldType), [])
abbrev mX7_finds : gxY := (yX7_finds, cX7_finds, 5, (Option.none : Option Jvm.ClassFile.FieldType), [])
abbrev mX7_goes : gxY := (yX7_goes, cX7_goes, 7, (Option.none : Option Jvm.ClassFile.FieldType), [])
abbrev mX8_init : gxY := (yX8_init, cX8_init, 2, (Option.none : Option Jvm.ClassFile.FieldType), [])
abbrev mX8_goes : gxY := (yX8_goes, cX8_goes, 5, (Option.none : Option Jvm.ClassFile.FieldType), [])
abbrev mX8_spreads : gxY := (yX8_spreads, cX8_spreads, 4, (Option.none : Option Jvm.ClassFile.FieldType), [])
abbrev mX8_hears : gxY := (yX8_hears, cX8_hears, 6, (Option.some Jvm.ClassFile.FieldType.int), [])
abbrev mX8_chance : gxY := (yX8_chance, cX8_chance, 6, (Option.some Jvm.ClassFile.FieldType.int), [])
abbrev mX9_init : gxY := (yX9_init, cX9_init, 2, (Option.none : Option Jvm.ClassFile.FieldType), [])
abbrev mX9_lays : gxY := (yX9_lays, cX9_lays, 4, (Option.some Jvm.ClassFile.FieldType.int), [])
abbrev mX9_isRest : gxY := (yX9_isRest, cX9_isRest, 7, (Option.some Jvm.ClassFile.FieldType.boolean), [])
abbrev mX9_reads : gxY := (yX9_reads, cX9_reads, 4, (Option.some Jvm.ClassFile.FieldType.boolean), [])
abbrev mX9_may : gxY := (yX9_may, cX9_may, 3, (Option.some Jvm.ClassFile.FieldType.boolean), [])
abbrev mX9_gets : gxY := (yX9_gets, cX9_gets, 4, (Option.some Jvm.ClassFile.FieldType.int), [])
theorem fX1_24 : gxF "PaidSecrets" 24 0 0 true := ⟨RX1, TX1, 12, tyX1, rfl, in_X1, by decide, q536, rfl, tyX1_ok, nmX1⟩
theorem fX1_40 : gxF "PaidSecrets" 40 0 1 false := ⟨RX1, TX1, 12, tyX1, rfl, in_X1, by decide, q541, rfl, tyX1_ok, nmX1⟩
theorem fX1_44 : gxF "PaidSecrets" 44 0 2 true := ⟨RX1, TX1, 12, tyX1, rfl, in_X1, by decide, q542, rfl, tyX1_ok, nmX1⟩
theorem fX1_52 : gxF "PaidSecrets" 52 0 3 false := ⟨RX1, TX1, 12, tyX1, rfl, in_X1, by decide, q543, rfl, tyX1_ok, nmX1⟩
theorem fX1_56 : gxF "PaidSecrets" 56 0 4 false := ⟨RX1, TX1, 12, tyX1, rfl, in_X1, by decide, q544, rfl, tyX1_ok, nmX1⟩
theorem fX1_60 : gxF "PaidSecrets" 60 0 5 true := ⟨RX1, TX1, 12, tyX1, rfl, in_X1, by decide, q545, rfl, tyX1_ok, nmX1⟩
theorem fX1_68 : gxF "PaidSecrets" 68 0 6 true := ⟨RX1, TX1, 12, tyX1, rfl, in_X1, by decide, q546, rfl, tyX1_ok, nmX1⟩
theorem fX1_75 : gxF "PaidSecrets" 75 0 7 true := ⟨RX1, TX1, 12, tyX1, rfl, in_X1, by decide, q547, rfl, tyX1_ok, nmX1⟩
theorem fX1_82 : gxF "PaidSecrets" 82 0 8 true := ⟨RX1, TX1, 12, tyX1, rfl, in_X1, by decide, q548, rfl, tyX1_ok, nmX1⟩
theorem fX1_89 : gxF "PaidSecrets" 89 0 9 true := ⟨RX1, TX1, 12, tyX1, rfl, in_X1, by decide, q549, rfl, tyX1_ok, nmX1⟩
theorem fX1_95 : gxF "PaidSecrets" 95 0 11 true := ⟨RX1, TX1, 12, tyX1, rfl, in_X1, by decide, q551, rfl, tyX1_ok, nmX1⟩
theorem fX1_103 : gxF "PaidSecrets" 103 1 5 false := ⟨RX2, TX2, 11, tyX2, rfl, in_X2, by decide, q236, rfl, tyX2_ok, nmX2⟩
theorem fX1_116 : gxF "PaidSecrets" 116 10 6 true := ⟨RX11, TX11, 7, tyX11, rfl, in_X11, by decide, q786, rfl, tyX11_ok, nmX11⟩
theorem fX1_125 : gxF "PaidSecrets" 125 2 0 false := ⟨RX3, TX3, 11, tyX3, rfl, in_X3, by decide, q275, rfl, tyX3_ok, nmX3⟩
theorem fX1_128 : gxF "PaidSecrets" 128 3 2 true := ⟨RX4, TX4, 8, tyX4, rfl, in_X4, by decide, q376, rfl, tyX4_ok, nmX4⟩
theorem fX1_135 : gxF "PaidSecrets" 135 3 3 true := ⟨RX4, TX4, 8, tyX4, rfl, in_X4, by decide, q380, rfl, tyX4_ok, nmX4⟩
theorem fX1_160 : gxF "PaidSecrets" 160 2 3 true := ⟨RX3, TX3, 11, tyX3, rfl, in_X3, by decide, q283, rfl, tyX3_ok, nmX3⟩
theorem fX1_164_X12 : gxF "PaidSecrets" 164 11 1 true := ⟨RX12, TX12, 2, tyX12, rfl, in_X12, by decide, q972, rfl, tyX12_ok, nmX12⟩
theorem fX1_164_X13 : gxF "PaidSecrets" 164 12 1 true := ⟨RX13, TX13, 2, tyX13, rfl, in_X13, by decide, q972, rfl, tyX13_ok, nmX13⟩
theorem fX1_164_X14 : gxF "PaidSecrets" 164 13 1 true := ⟨RX14, TX14, 2, tyX14, rfl, in_X14, by decide, q972, rfl, tyX14_ok, nmX14⟩
theorem fX1_164_X15 : gxF "PaidSecrets" 164 14 1 true := ⟨RX15, TX15, 2, tyX15, rfl, in_X15, by decide, q972, rfl, tyX15_ok, nmX15⟩
theorem fX1_174 : gxF "PaidSecrets" 174 2 8 false := ⟨RX3, TX3, 11, tyX3, rfl, in_X3, by decide, q294, rfl, tyX3_ok, nmX3⟩
theorem fX1_180 : gxF "PaidSecrets" 180 2 4 true := ⟨RX3, TX3, 11, tyX3, rfl, in_X3, by decide, q285, rfl, tyX3_ok, nmX3⟩
theorem fX1_183 : gxF "PaidSecrets" 183 2 5 true := ⟨RX3, TX3, 11, tyX3, rfl, in_X3, by decide, q287, rfl, tyX3_ok, nmX3⟩
theorem fX1_191 : gxF "PaidSecrets" 191 15 0 true := ⟨RX16, TX16, 6, tyX16, rfl, in_X16, by decide, q1029, rfl, tyX16_ok, nmX16⟩
theorem fX1_195 : gxF "PaidSecrets" 195 15 1 true := ⟨RX16, TX16, 6, tyX16, rfl, in_X16, by decide, q1032, rfl, tyX16_ok, nmX16⟩
theorem fX1_198 : gxF "PaidSecrets" 198 15 2 true := ⟨RX16, TX16, 6, tyX16, rfl, in_X16, by decide, q1035, rfl, tyX16_ok, nmX16⟩
theorem fX1_201 : gxF "PaidSecrets" 201 15 3 true := ⟨RX16, TX16, 6, tyX16, rfl, in_X16, by decide, q1038, rfl, tyX16_ok, nmX16⟩
theorem fX1_204 : gxF "PaidSecrets" 204 2 1 true := ⟨RX3, TX3, 11, tyX3, rfl, in_X3, by decide, q279, rfl, tyX3_ok, nmX3⟩
theorem fX1_213 : gxF "PaidSecrets" 213 2 6 false := ⟨RX3, TX3, 11, tyX3, rfl, in_X3, by decide, q289, rfl, tyX3_ok, nmX3⟩
theorem fX1_216 : gxF "PaidSecrets" 216 2 7 false := ⟨RX3, TX3, 11, tyX3, rfl, in_X3, by decide, q292, rfl, tyX3_ok, nmX3⟩
theorem fX1_219 : gxF "PaidSecrets" 219 15 5 false := ⟨RX16, TX16, 6, tyX16, rfl, in_X16, by decide, q1041, rfl, tyX16_ok, nmX16⟩
theorem fX1_222 : gxF "PaidSecrets" 222 2 2 true := ⟨RX3, TX3, 11, tyX3, rfl, in_X3, by decide, q281, rfl, tyX3_ok, nmX3⟩
theorem fX1_302 : gxF "PaidSecrets" 302 6 3 false := ⟨RX7, TX7, 8, tyX7, rfl, in_X7, by decide, q472, rfl, tyX7_ok, nmX7⟩
theorem fX1_305 : gxF "PaidSecrets" 305 6 4 false := ⟨RX7, TX7, 8, tyX7, rfl, in_X7, by decide, q474, rfl, tyX7_ok, nmX7⟩
theorem fX1_308 : gxF "PaidSecrets" 308 6 1 true := ⟨RX7, TX7, 8, tyX7, rfl, in_X7, by decide, q469, rfl, tyX7_ok, nmX7⟩
theorem fX1_349 : gxF "PaidSecrets" 349 0 10 false := ⟨RX1, TX1, 12, tyX1, rfl, in_X1, by decide, q550, rfl, tyX1_ok, nmX1⟩
theorem fX1_361 : gxF "PaidSecrets" 361 3 4 true := ⟨RX4, TX4, 8, tyX4, rfl, in_X4, by decide, q384, rfl, tyX4_ok, nmX4⟩
theorem fX1_390 : gxF "PaidSecrets" 390 3 5 false := ⟨RX4, TX4, 8, tyX4, rfl, in_X4, by decide, q386, rfl, tyX4_ok, nmX4⟩
theorem fX1_393 : gxF "PaidSecrets" 393 2 10 false := ⟨RX3, TX3, 11, tyX3, rfl, in_X3, by decide, q298, rfl, tyX3_ok, nmX3⟩
theorem fX1_396 : gxF "PaidSecrets" 396 2 9 false := ⟨RX3, TX3, 11, tyX3, rfl, in_X3, by decide, q296, rfl, tyX3_ok, nmX3⟩
theorem fX21_12 : gxF "PaidSecrets$Chain" 12 19 1 true := ⟨RX21, TX21, 2, tyX21, rfl, in_X21, by decide, q1171, rfl, tyX21_ok, nmX21⟩
theorem fX21_18 : gxF "PaidSecrets$Chain" 18 19 0 true := ⟨RX21, TX21, 2, tyX21, rfl, in_X21, by decide, q1170, rfl, tyX21_ok, nmX21⟩
theorem fX18_7 : gxF "PaidSecrets$Fact" 7 16 0 true := ⟨RX18, TX18, 1, tyX18, rfl, in_X18, by decide, q1127, rfl, tyX18_ok, nmX18⟩
theorem fX18_13 : gxF "PaidSecrets$Fact" 13 4 0 true := ⟨RX5, TX5, 1, tyX5, rfl, in_X5, by decide, q363, rfl, tyX5_ok, nmX5⟩
theorem fX5_9 : gxF "PaidSecrets$Facts" 9 4 0 true := ⟨RX5, TX5, 1, tyX5, rfl, in_X5, by decide, q362, rfl, tyX5_ok, nmX5⟩
theorem fX9_3 : gxF "PaidSecrets$Feast" 3 8 3 true := ⟨RX9, TX9, 4, tyX9, rfl, in_X9, by decide, q524, rfl, tyX9_ok, nmX9⟩
theorem fX9_15 : gxF "PaidSecrets$Feast" 15 8 0 true := ⟨RX9, TX9, 4, tyX9, rfl, in_X9, by decide, q521, rfl, tyX9_ok, nmX9⟩
theorem fX9_19 : gxF "PaidSecrets$Feast" 19 8 1 true := ⟨RX9, TX9, 4, tyX9, rfl, in_X9, by decide, q522, rfl, tyX9_ok, nmX9⟩
theorem fX9_22 : gxF "PaidSecrets$Feast" 22 8 2 false := ⟨RX9, TX9, 4, tyX9, rfl, in_X9, by decide, q523, rfl, tyX9_ok, nmX9⟩
theorem fX9_41 : gxF "PaidSecrets$Feast" 41 2 1 true := ⟨RX3, TX3, 11, tyX3, rfl, in_X3, by decide, q278, rfl, tyX3_ok, nmX3⟩
theorem fX22_7_X23 : gxF "PaidSecrets$Link" 7 20 0 true := ⟨RX23, TX23, 1, tyX23, rfl, in_X23, by decide, q1187, rfl, tyX23_ok, nmX23⟩
theorem fX22_7_X24 : gxF "PaidSecrets$Link" 7 21 0 true := ⟨RX24, TX24, 1, tyX24, rfl, in_X24, by decide, q1187, rfl, tyX24_ok, nmX24⟩
theorem fX22_7_X25 : gxF "PaidSecrets$Link" 7 22 0 true := ⟨RX25, TX25, 1, tyX25, rfl, in_X25, by decide, q1187, rfl, tyX25_ok, nmX25⟩
theorem fX22_7_X26 : gxF "PaidSecrets$Link" 7 23 0 true := ⟨RX26, TX26, 1, tyX26, rfl, in_X26, by decide, q1187, rfl, tyX26_ok, nmX26⟩
theorem fX22_7_X27 : gxF "PaidSecrets$Link" 7 24 0 true := ⟨RX27, TX27, 1, tyX27, rfl, in_X27, by decide, q1187, rfl, tyX27_ok, nmX27⟩
theorem fX22_7_X28 : gxF "PaidSecrets$Link" 7 25 0 true := ⟨RX28, TX28, 1, tyX28, rfl, in_X28, by decide, q1187, rfl, tyX28_ok, nmX28⟩
theorem fX22_7_X29 : gxF "PaidSecrets$Link" 7 26 0 true := ⟨RX29, TX29, 1, tyX29, rfl, in_X29, by decide, q1187, rfl, tyX29_ok, nmX29⟩
theorem fX35_7 : gxF "PaidSecrets$Mark" 7 31 0 true := ⟨RX35, TX35, 3, tyX35, rfl, in_X35, by decide, q1750, rfl, tyX35_ok, nmX35⟩
theorem fX35_13 : gxF "PaidSecrets$Mark" 13 31 1 true := ⟨RX35, TX35, 3, tyX35, rfl, in_X35, by decide, q1752, rfl, tyX35_ok, nmX35⟩
theorem fX35_17 : gxF "PaidSecrets$Mark" 17 31 2 true := ⟨RX35, TX35, 3, tyX35, rfl, in_X35, by decide, q1754, rfl, tyX35_ok, nmX35⟩
theorem fX8_3 : gxF "PaidSecrets$Nights" 3 7 3 true := ⟨RX8, TX8, 4, tyX8, rfl, in_X8, by decide, q505, rfl, tyX8_ok, nmX8⟩
theorem fX8_15 : gxF "PaidSecrets$Nights" 15 7 0 false := ⟨RX8, TX8, 4, tyX8, rfl, in_X8, by decide, q501, rfl, tyX8_ok, nmX8⟩
theorem fX8_19 : gxF "PaidSecrets$Nights" 19 7 1 false := ⟨RX8, TX8, 4, tyX8, rfl, in_X8, by decide, q503, rfl, tyX8_ok, nmX8⟩
theorem fX8_22 : gxF "PaidSecrets$Nights" 22 7 2 true := ⟨RX8, TX8, 4, tyX8, rfl, in_X8, by decide, q504, rfl, tyX8_ok, nmX8⟩
theorem fX8_29 : gxF "PaidSecrets$Nights" 29 2 1 true := ⟨RX3, TX3, 11, tyX3, rfl, in_X3, by decide, q277, rfl, tyX3_ok, nmX3⟩
theorem fX8_59 : gxF "PaidSecrets$Nights" 59 3 2 true := ⟨RX4, TX4, 8, tyX4, rfl, in_X4, by decide, q375, rfl, tyX4_ok, nmX4⟩
theorem fX20_7 : gxF "PaidSecrets$Not" 7 18 0 true := ⟨RX20, TX20, 1, tyX20, rfl, in_X20, by decide, q1147, rfl, tyX20_ok, nmX20⟩
theorem fX6_3 : gxF "PaidSecrets$Payers" 3 5 3 true := ⟨RX6, TX6, 4, tyX6, rfl, in_X6, by decide, q447, rfl, tyX6_ok, nmX6⟩
theorem fX6_15 : gxF "PaidSecrets$Payers" 15 5 0 true := ⟨RX6, TX6, 4, tyX6, rfl, in_X6, by decide, q444, rfl, tyX6_ok, nmX6⟩
theorem fX6_19 : gxF "PaidSecrets$Payers" 19 5 1 true := ⟨RX6, TX6, 4, tyX6, rfl, in_X6, by decide, q445, rfl, tyX6_ok, nmX6⟩
theorem fX6_22 : gxF "PaidSecrets$Payers" 22 5 2 true := ⟨RX6, TX6, 4, tyX6, rfl, in_X6, by decide, q446, rfl, tyX6_ok, nmX6⟩
theorem fX6_54 : gxF "PaidSecrets$Payers" 54 3 2 true := ⟨RX4, TX4, 8, tyX4, rfl, in_X4, by decide, q374, rfl, tyX4_ok, nmX4⟩
theorem fX6_67_X12 : gxF "PaidSecrets$Payers" 67 11 1 true := ⟨RX12, TX12, 2, tyX12, rfl, in_X12, by decide, q970, rfl, tyX12_ok, nmX12⟩
theorem fX6_67_X13 : gxF "PaidSecrets$Payers" 67 12 1 true := ⟨RX13, TX13, 2, tyX13, rfl, in_X13, by decide, q970, rfl, tyX13_ok, nmX13⟩
theorem fX6_67_X14 : gxF "PaidSecrets$Payers" 67 13 1 true := ⟨RX14, TX14, 2, tyX14, rfl, in_X14, by decide, q970, rfl, tyX14_ok, nmX14⟩
theorem fX6_67_X15 : gxF "PaidSecrets$Payers" 67 14 1 true := ⟨RX15, TX15, 2, tyX15, rfl, in_X15, by decide, q970, rfl, tyX15_ok, nmX15⟩
theorem fX6_74 : gxF "PaidSecrets$Payers" 74 2 7 false := ⟨RX3, TX3, 11, tyX3, rfl, in_X3, by decide, q291, rfl, tyX3_ok, nmX3⟩
theorem fX32_7 : gxF "PaidSecrets$Pays" 7 28 0 true := ⟨RX32, TX32, 2, tyX32, rfl, in_X32, by decide, q1290, rfl, tyX32_ok, nmX32⟩
theorem fX32_13 : gxF "PaidSecrets$Pays" 13 28 1 true := ⟨RX32, TX32, 2, tyX32, rfl, in_X32, by decide, q1291, rfl, tyX32_ok, nmX32⟩
theorem fX12_7_X12 : gxF "PaidSecrets$Person" 7 11 0 true := ⟨RX12, TX12, 2, tyX12, rfl, in_X12, by decide, q967, rfl, tyX12_ok, nmX12⟩
theorem fX12_7_X13 : gxF "PaidSecrets$Person" 7 12 0 true := ⟨RX13, TX13, 2, tyX13, rfl, in_X13, by decide, q967, rfl, tyX13_ok, nmX13⟩
theorem fX12_7_X14 : gxF "PaidSecrets$Person" 7 13 0 true := ⟨RX14, TX14, 2, tyX14, rfl, in_X14, by decide, q967, rfl, tyX14_ok, nmX14⟩
theorem fX12_7_X15 : gxF "PaidSecrets$Person" 7 14 0 true := ⟨RX15, TX15, 2, tyX15, rfl, in_X15, by decide, q967, rfl, tyX15_ok, nmX15⟩
theorem fX12_13_X12 : gxF "PaidSecrets$Person" 13 11 1 true := ⟨RX12, TX12, 2, tyX12, rfl, in_X12, by decide, q969, rfl, tyX12_ok, nmX12⟩
theorem fX12_13_X13 : gxF "PaidSecrets$Person" 13 12 1 true := ⟨RX13, TX13, 2, tyX13, rfl, in_X13, by decide, q969, rfl, tyX13_ok, nmX13⟩
theorem fX12_13_X14 : gxF "PaidSecrets$Person" 13 13 1 true := ⟨RX14, TX14, 2, tyX14, rfl, in_X14, by decide, q969, rfl, tyX14_ok, nmX14⟩
theorem fX12_13_X15 : gxF "PaidSecrets$Person" 13 14 1 true := ⟨RX15, TX15, 2, tyX15, rfl, in_X15, by decide, q969, rfl, tyX15_ok, nmX15⟩
theorem fX19_7 : gxF "PaidSecrets$Plain" 7 17 0 true := ⟨RX19, TX19, 1, tyX19, rfl, in_X19, by decide, q1137, rfl, tyX19_ok, nmX19⟩
theorem fX7_3 : gxF "PaidSecrets$Plots" 3 6 7 true := ⟨RX7, TX7, 8, tyX7, rfl, in_X7, by decide, q477, rfl, tyX7_ok, nmX7⟩
theorem fX7_15 : gxF "PaidSecrets$Plots" 15 6 0 true := ⟨RX7, TX7, 8, tyX7, rfl, in_X7, by decide, q467, rfl, tyX7_ok, nmX7⟩
theorem fX7_19 : gxF "PaidSecrets$Plots" 19 6 1 true := ⟨RX7, TX7, 8, tyX7, rfl, in_X7, by decide, q468, rfl, tyX7_ok, nmX7⟩
theorem fX7_25 : gxF "PaidSecrets$Plots" 25 6 2 true := ⟨RX7, TX7, 8, tyX7, rfl, in_X7, by decide, q470, rfl, tyX7_ok, nmX7⟩
theorem fX7_29 : gxF "PaidSecrets$Plots" 29 6 5 false := ⟨RX7, TX7, 8, tyX7, rfl, in_X7, by decide, q475, rfl, tyX7_ok, nmX7⟩
theorem fX7_33 : gxF "PaidSecrets$Plots" 33 6 6 false := ⟨RX7, TX7, 8, tyX7, rfl, in_X7, by decide, q476, rfl, tyX7_ok, nmX7⟩
theorem fX7_36 : gxF "PaidSecrets$Plots" 36 6 4 false := ⟨RX7, TX7, 8, tyX7, rfl, in_X7, by decide, q473, rfl, tyX7_ok, nmX7⟩
theorem fX7_51 : gxF "PaidSecrets$Plots" 51 6 3 false := ⟨RX7, TX7, 8, tyX7, rfl, in_X7, by decide, q471, rfl, tyX7_ok, nmX7⟩
theorem fX2_19 : gxF "PaidSecrets$Reader" 19 1 0 true := ⟨RX2, TX2, 11, tyX2, rfl, in_X2, by decide, q230, rfl, tyX2_ok, nmX2⟩
theorem fX2_33 : gxF "PaidSecrets$Reader" 33 1 1 true := ⟨RX2, TX2, 11, tyX2, rfl, in_X2, by decide, q231, rfl, tyX2_ok, nmX2⟩
theorem fX2_76 : gxF "PaidSecrets$Reader" 76 1 2 true := ⟨RX2, TX2, 11, tyX2, rfl, in_X2, by decide, q232, rfl, tyX2_ok, nmX2⟩
theorem fX2_79 : gxF "PaidSecrets$Reader" 79 1 4 true := ⟨RX2, TX2, 11, tyX2, rfl, in_X2, by decide, q234, rfl, tyX2_ok, nmX2⟩
theorem fX2_83 : gxF "PaidSecrets$Reader" 83 1 6 true := ⟨RX2, TX2, 11, tyX2, rfl, in_X2, by decide, q237, rfl, tyX2_ok, nmX2⟩
theorem fX2_86 : gxF "PaidSecrets$Reader" 86 1 7 true := ⟨RX2, TX2, 11, tyX2, rfl, in_X2, by decide, q238, rfl, tyX2_ok, nmX2⟩
theorem fX2_90 : gxF "PaidSecrets$Reader" 90 1 8 true := ⟨RX2, TX2, 11, tyX2, rfl, in_X2, by decide, q239, rfl, tyX2_ok, nmX2⟩
theorem fX2_99 : gxF "PaidSecrets$Reader" 99 1 5 false := ⟨RX2, TX2, 11, tyX2, rfl, in_X2, by decide, q235, rfl, tyX2_ok, nmX2⟩
theorem fX2_132 : gxF "PaidSecrets$Reader" 132 1 9 false := ⟨RX2, TX2, 11, tyX2, rfl, in_X2, by decide, q240, rfl, tyX2_ok, nmX2⟩
theorem fX2_168 : gxF "PaidSecrets$Reader" 168 1 3 false := ⟨RX2, TX2, 11, tyX2, rfl, in_X2, by decide, q233, rfl, tyX2_ok, nmX2⟩
theorem fX2_201 : gxF "PaidSecrets$Reader" 201 3 0 true := ⟨RX4, TX4, 8, tyX4, rfl, in_X4, by decide, q369, rfl, tyX4_ok, nmX4⟩
theorem fX2_217 : gxF "PaidSecrets$Reader" 217 3 1 true := ⟨RX4, TX4, 8, tyX4, rfl, in_X4, by decide, q371, rfl, tyX4_ok, nmX4⟩
theorem fX2_232 : gxF "PaidSecrets$Reader" 232 3 2 true := ⟨RX4, TX4, 8, tyX4, rfl, in_X4, by decide, q377, rfl, tyX4_ok, nmX4⟩
theorem fX2_249 : gxF "PaidSecrets$Reader" 249 3 3 true := ⟨RX4, TX4, 8, tyX4, rfl, in_X4, by decide, q381, rfl, tyX4_ok, nmX4⟩
theorem fX2_268 : gxF "PaidSecrets$Reader" 268 3 4 true := ⟨RX4, TX4, 8, tyX4, rfl, in_X4, by decide, q383, rfl, tyX4_ok, nmX4⟩
theorem fX2_275 : gxF "PaidSecrets$Reader" 275 15 5 false := ⟨RX16, TX16, 6, tyX16, rfl, in_X16, by decide, q1042, rfl, tyX16_ok, nmX16⟩
theorem fX2_278 : gxF "PaidSecrets$Reader" 278 3 5 false := ⟨RX4, TX4, 8, tyX4, rfl, in_X4, by decide, q385, rfl, tyX4_ok, nmX4⟩
theorem fX2_281 : gxF "PaidSecrets$Reader" 281 3 6 false := ⟨RX4, TX4, 8, tyX4, rfl, in_X4, by decide, q388, rfl, tyX4_ok, nmX4⟩
theorem fX2_312 : gxF "PaidSecrets$Reader" 312 1 10 false := ⟨RX2, TX2, 11, tyX2, rfl, in_X2, by decide, q241, rfl, tyX2_ok, nmX2⟩
theorem fX2_330 : gxF "PaidSecrets$Reader" 330 19 1 true := ⟨RX21, TX21, 2, tyX21, rfl, in_X21, by decide, q1172, rfl, tyX21_ok, nmX21⟩
theorem fX33_7 : gxF "PaidSecrets$Rises" 7 29 0 true := ⟨RX33, TX33, 1, tyX33, rfl, in_X33, by decide, q1303, rfl, tyX33_ok, nmX33⟩
theorem fX16_7 : gxF "PaidSecrets$Secret" 7 15 0 true := ⟨RX16, TX16, 6, tyX16, rfl, in_X16, by decide, q1027, rfl, tyX16_ok, nmX16⟩
theorem fX16_13 : gxF "PaidSecrets$Secret" 13 15 1 true := ⟨RX16, TX16, 6, tyX16, rfl, in_X16, by decide, q1030, rfl, tyX16_ok, nmX16⟩
theorem fX16_17 : gxF "PaidSecrets$Secret" 17 15 2 true := ⟨RX16, TX16, 6, tyX16, rfl, in_X16, by decide, q1033, rfl, tyX16_ok, nmX16⟩
theorem fX16_20 : gxF "PaidSecrets$Secret" 20 15 3 true := ⟨RX16, TX16, 6, tyX16, rfl, in_X16, by decide, q1036, rfl, tyX16_ok, nmX16⟩
theorem fX16_23 : gxF "PaidSecrets$Secret" 23 15 4 true := ⟨RX16, TX16, 6, tyX16, rfl, in_X16, by decide, q1039, rfl, tyX16_ok, nmX16⟩
theorem fX3_9 : gxF "PaidSecrets$Talk" 9 2 1 true := ⟨RX3, TX3, 11, tyX3, rfl, in_X3, by decide, q276, rfl, tyX3_ok, nmX3⟩
theorem fX3_15 : gxF "PaidSecrets$Talk" 15 2 2 true := ⟨RX3, TX3, 11, tyX3, rfl, in_X3, by decide, q280, rfl, tyX3_ok, nmX3⟩
theorem fX3_18 : gxF "PaidSecrets$Talk" 18 2 3 true := ⟨RX3, TX3, 11, tyX3, rfl, in_X3, by decide, q282, rfl, tyX3_ok, nmX3⟩
theorem fX3_21 : gxF "PaidSecrets$Talk" 21 2 4 true := ⟨RX3, TX3, 11, tyX3, rfl, in_X3, by decide, q284, rfl, tyX3_ok, nmX3⟩
theorem fX3_24 : gxF "PaidSecrets$Talk" 24 2 5 true := ⟨RX3, TX3, 11, tyX3, rfl, in_X3, by decide, q286, rfl, tyX3_ok, nmX3⟩
theorem fX3_27 : gxF "PaidSecrets$Talk" 27 2 0 false := ⟨RX3, TX3, 11, tyX3, rfl, in_X3, by decide, q274, rfl, tyX3_ok, nmX3⟩
theorem fX3_31 : gxF "PaidSecrets$Talk" 31 3 3 true := ⟨RX4, TX4, 8, tyX4, rfl, in_X4, by decide, q379, rfl, tyX4_ok, nmX4⟩
theorem fX3_49 : gxF "PaidSecrets$Talk" 49 15 4 true := ⟨RX16, TX16, 6, tyX16, rfl, in_X16, by decide, q1040, rfl, tyX16_ok, nmX16⟩
theorem fX3_53 : gxF "PaidSecrets$Talk" 53 3 2 true := ⟨RX4, TX4, 8, tyX4, rfl, in_X4, by decide, q373, rfl, tyX4_ok, nmX4⟩
theorem fX3_58_X12 : gxF "PaidSecrets$Talk" 58 11 0 true := ⟨RX12, TX12, 2, tyX12, rfl, in_X12, by decide, q968, rfl, tyX12_ok, nmX12⟩
theorem fX3_58_X13 : gxF "PaidSecrets$Talk" 58 12 0 true := ⟨RX13, TX13, 2, tyX13, rfl, in_X13, by decide, q968, rfl, tyX13_ok, nmX13⟩
theorem fX3_58_X14 : gxF "PaidSecrets$Talk" 58 13 0 true := ⟨RX14, TX14, 2, tyX14, rfl, in_X14, by decide, q968, rfl, tyX14_ok, nmX14⟩
theorem fX3_58_X15 : gxF "PaidSecrets$Talk" 58 14 0 true := ⟨RX15, TX15, 2, tyX15, rfl, in_X15, by decide, q968, rfl, tyX15_ok, nmX15⟩
theorem fX3_60 : gxF "PaidSecrets$Talk" 60 2 6 false := ⟨RX3, TX3, 11, tyX3, rfl, in_X3, by decide, q288, rfl, tyX3_ok, nmX3⟩
theorem fX3_63 : gxF "PaidSecrets$Talk" 63 2 7 false := ⟨RX3, TX3, 11, tyX3, rfl, in_X3, by decide, q290, rfl, tyX3_ok, nmX3⟩
theorem fX3_66 : gxF "PaidSecrets$Talk" 66 2 8 false := ⟨RX3, TX3, 11, tyX3, rfl, in_X3, by decide, q293, rfl, tyX3_ok, nmX3⟩
theorem fX3_69 : gxF "PaidSecrets$Talk" 69 2 9 false := ⟨RX3, TX3, 11, tyX3, rfl, in_X3, by decide, q295, rfl, tyX3_ok, nmX3⟩
theorem fX3_72 : gxF "PaidSecrets$Talk" 72 2 10 false := ⟨RX3, TX3, 11, tyX3, rfl, in_X3, by decide, q297, rfl, tyX3_ok, nmX3⟩
theorem fX3_90 : gxF "PaidSecrets$Talk" 90 15 1 true := ⟨RX16, TX16, 6, tyX16, rfl, in_X16, by decide, q1031, rfl, tyX16_ok, nmX16⟩
theorem fX3_101 : gxF "PaidSecrets$Talk" 101 15 3 true := ⟨RX16, TX16, 6, tyX16, rfl, in_X16, by decide, q1037, rfl, tyX16_ok, nmX16⟩
theorem fX3_121 : gxF "PaidSecrets$Talk" 121 15 0 true := ⟨RX16, TX16, 6, tyX16, rfl, in_X16, by decide, q1028, rfl, tyX16_ok, nmX16⟩
theorem fX3_125_X12 : gxF "PaidSecrets$Talk" 125 11 1 true := ⟨RX12, TX12, 2, tyX12, rfl, in_X12, by decide, q971, rfl, tyX12_ok, nmX12⟩
theorem fX3_125_X13 : gxF "PaidSecrets$Talk" 125 12 1 true := ⟨RX13, TX13, 2, tyX13, rfl, in_X13, by decide, q971, rfl, tyX13_ok, nmX13⟩
theorem fX3_125_X14 : gxF "PaidSecrets$Talk" 125 13 1 true := ⟨RX14, TX14, 2, tyX14, rfl, in_X14, by decide, q971, rfl, tyX14_ok, nmX14⟩
theorem fX3_125_X15 : gxF "PaidSecrets$Talk" 125 14 1 true := ⟨RX15, TX15, 2, tyX15, rfl, in_X15, by decide, q971, rfl, tyX15_ok, nmX15⟩
theorem fX31_7 : gxF "PaidSecrets$Tells" 7 27 0 true := ⟨RX31, TX31, 3, tyX31, rfl, in_X31, by decide, q1274, rfl, tyX31_ok, nmX31⟩
theorem fX31_13 : gxF "PaidSecrets$Tells" 13 27 1 true := ⟨RX31, TX31, 3, tyX31, rfl, in_X31, by decide, q1275, rfl, tyX31_ok, nmX31⟩
theorem fX31_16 : gxF "PaidSecrets$Tells" 16 27 2 true := ⟨RX31, TX31, 3, tyX31, rfl, in_X31, by decide, q1276, rfl, tyX31_ok, nmX31⟩
theorem fX4_14 : gxF "PaidSecrets$Town" 14 3 0 true := ⟨RX4, TX4, 8, tyX4, rfl, in_X4, by decide, q368, rfl, tyX4_ok, nmX4⟩
theorem fX4_20 : gxF "PaidSecrets$Town" 20 3 1 true := ⟨RX4, TX4, 8, tyX4, rfl, in_X4, by decide, q370, rfl, tyX4_ok, nmX4⟩
theorem fX4_23 : gxF "PaidSecrets$Town" 23 3 2 true := ⟨RX4, TX4, 8, tyX4, rfl, in_X4, by decide, q372, rfl, tyX4_ok, nmX4⟩
theorem fX4_26 : gxF "PaidSecrets$Town" 26 3 3 true := ⟨RX4, TX4, 8, tyX4, rfl, in_X4, by decide, q378, rfl, tyX4_ok, nmX4⟩
theorem fX4_29 : gxF "PaidSecrets$Town" 29 3 4 true := ⟨RX4, TX4, 8, tyX4, rfl, in_X4, by decide, q382, rfl, tyX4_ok, nmX4⟩
theorem fX4_35 : gxF "PaidSecrets$Town" 35 3 7 true := ⟨RX4, TX4, 8, tyX4, rfl, in_X4, by decide, q389, rfl, tyX4_ok, nmX4⟩
theorem fX4_88 : gxF "PaidSecrets$Town" 88 15 2 true := ⟨RX16, TX16, 6, tyX16, rfl, in_X16, by decide, q1034, rfl, tyX16_ok, nmX16⟩
theorem fX4_92 : gxF "PaidSecrets$Town" 92 3 6 false := ⟨RX4, TX4, 8, tyX4, rfl, in_X4, by decide, q387, rfl, tyX4_ok, nmX4⟩
theorem fX4_99 : gxF "PaidSecrets$Town" 99 4 0 true := ⟨RX5, TX5, 1, tyX5, rfl, in_X5, by decide, q364, rfl, tyX5_ok, nmX5⟩
theorem fX11_7 : gxF "PaidSecrets$Wrong" 7 10 6 true := ⟨RX11, TX11, 7, tyX11, rfl, in_X11, by decide, q785, rfl, tyX11_ok, nmX11⟩
theorem fX10_7 : gxF "PaidSecretsModel" 7 9 2 true := ⟨RX10, TX10, 70, tyX10, rfl, in_X10, by decide, q1845, rfl, tyX10_ok, nmX10⟩
theorem fX10_13 : gxF "PaidSecretsModel" 13 9 10 true := ⟨RX10, TX10, 70, tyX10, rfl, in_X10, by decide, q1853, rfl, tyX10_ok, nmX10⟩
theorem fX10_16 : gxF "PaidSecretsModel" 16 9 11 true := ⟨RX10, TX10, 70, tyX10, rfl, in_X10, by decide, q1854, rfl, tyX10_ok, nmX10⟩
theorem fX10_20 : gxF "PaidSecretsModel" 20 9 12 true := ⟨RX10, TX10, 70, tyX10, rfl, in_X10, by decide, q1855, rfl, tyX10_ok, nmX10⟩
theorem fX10_23 : gxF "PaidSecretsModel" 23 9 13 true := ⟨RX10, TX10, 70, tyX10, rfl, in_X10, by decide, q1856, rfl, tyX10_ok, nmX10⟩
theorem fX10_26 : gxF "PaidSecretsModel" 26 9 14 true := ⟨RX10, TX10, 70, tyX10, rfl, in_X10, by decide, q1857, rfl, tyX10_ok, nmX10⟩
theorem fX10_29 : gxF "PaidSecretsModel" 29 9 15 true := ⟨RX10, TX10, 70, tyX10, rfl, in_X10, by decide, q1858, rfl, tyX10_ok, nmX10⟩
theorem fX10_32 : gxF "PaidSecretsModel" 32 9 16 true := ⟨RX10, TX10, 70, tyX10, rfl, in_X10, by decide, q1859, rfl, tyX10_ok, nmX10⟩
theorem fX10_35 : gxF "PaidSecretsModel" 35 9 17 true := ⟨RX10, TX10, 70, tyX10, rfl, in_X10, by decide, q1860, rfl, tyX10_ok, nmX10⟩
theorem fX10_38 : gxF "PaidSecretsModel" 38 9 18 true := ⟨RX10, TX10, 70, tyX10, rfl, in_X10, by decide, q1861, rfl, tyX10_ok, nmX10⟩
theorem fX10_41 : gxF "PaidSecretsModel" 41 9 19 true := ⟨RX10, TX10, 70, tyX10, rfl, in_X10, by decide, q1862, rfl, tyX10_ok, nmX10⟩
theorem fX10_44 : gxF "PaidSecretsModel" 44 9 20 true := ⟨RX10, TX10, 70, tyX10, rfl, in_X10, by decide, q1863, rfl, tyX10_ok, nmX10⟩
theorem fX10_47 : gxF "PaidSecretsModel" 47 9 21 true := ⟨RX10, TX10, 70, tyX10, rfl, in_X10, by decide, q1864, rfl, tyX10_ok, nmX10⟩
theorem fX10_50 : gxF "PaidSecretsModel" 50 9 22 true := ⟨RX10, TX10, 70, tyX10, rfl, in_X10, by decide, q1865, rfl, tyX10_ok, nmX10⟩
theorem fX10_53 : gxF "PaidSecretsModel" 53 9 23 true := ⟨RX10, TX10, 70, tyX10, rfl, in_X10, by decide, q1866, rfl, tyX10_ok, nmX10⟩
theorem fX10_56 : gxF "PaidSecretsModel" 56 9 24 true := ⟨RX10, TX10, 70, tyX10, rfl, in_X10, by decide, q1867, rfl, tyX10_ok, nmX10⟩
theorem fX10_59 : gxF "PaidSecretsModel" 59 9 25 true := ⟨RX10, TX10, 70, tyX10, rfl, in_X10, by decide, q1868, rfl, tyX10_ok, nmX10⟩
theorem fX10_62 : gxF "PaidSecretsModel" 62 9 26 true := ⟨RX10, TX10, 70, tyX10, rfl, in_X10, by decide, q1869, rfl, tyX10_ok, nmX10⟩
theorem fX10_65 : gxF "PaidSecretsModel" 65 9 27 true := ⟨RX10, TX10, 70, tyX10, rfl, in_X10, by decide, q1870, rfl, tyX10_ok, nmX10⟩
theorem fX10_68 : gxF "PaidSecretsModel" 68 9 29 true := ⟨RX10, TX10, 70, tyX10, rfl, in_X10, by decide, q1872, rfl, tyX10_ok, nmX10⟩
theorem fX10_71 : gxF "PaidSecretsModel" 71 9 30 true := ⟨RX10, TX10, 70, tyX10, rfl, in_X10, by decide, q1873, rfl, tyX10_ok, nmX10⟩
theorem fX10_75 : gxF "PaidSecretsModel" 75 9 31 true := ⟨RX10, TX10, 70, tyX10, rfl, in_X10, by decide, q1874, rfl, tyX10_ok, nmX10⟩
theorem fX10_78 : gxF "PaidSecretsModel" 78 9 32 true := ⟨RX10, TX10, 70, tyX10, rfl, in_X10, by decide, q1875, rfl, tyX10_ok, nmX10⟩
theorem fX10_81 : gxF "PaidSecretsModel" 81 9 33 true := ⟨RX10, TX10, 70, tyX10, rfl, in_X10, by decide, q1876, rfl, tyX10_ok, nmX10⟩
theorem fX10_84 : gxF "PaidSecretsModel" 84 9 34 true := ⟨RX10, TX10, 70, tyX10, rfl, in_X10, by decide, q1877, rfl, tyX10_ok, nmX10⟩
theorem fX10_87 : gxF "PaidSecretsModel" 87 9 35 true := ⟨RX10, TX10, 70, tyX10, rfl, in_X10, by decide, q1878, rfl, tyX10_ok, nmX10⟩
theorem fX10_90 : gxF "PaidSecretsModel" 90 9 36 true := ⟨RX10, TX10, 70, tyX10, rfl, in_X10, by decide, q1879, rfl, tyX10_ok, nmX10⟩
theorem fX10_93 : gxF "PaidSecretsModel" 93 9 37 true := ⟨RX10, TX10, 70, tyX10, rfl, in_X10, by decide, q1880, rfl, tyX10_ok, nmX10⟩
theorem fX10_96 : gxF "PaidSecretsModel" 96 9 38 true := ⟨RX10, TX10, 70, tyX10, rfl, in_X10, by decide, q1881, rfl, tyX10_ok, nmX10⟩
theorem fX10_99 : gxF "PaidSecretsModel" 99 9 39 true := ⟨RX10, TX10, 70, tyX10, rfl, in_X10, by decide, q1882, rfl, tyX10_ok, nmX10⟩
theorem fX10_102 : gxF "PaidSecretsModel" 102 9 40 true := ⟨RX10, TX10, 70, tyX10, rfl, in_X10, by decide, q1883, rfl, tyX10_ok, nmX10⟩
theorem fX10_105 : gxF "PaidSecretsModel" 105 9 42 true := ⟨RX10, TX10, 70, tyX10, rfl, in_X10, by decide, q1885, rfl, tyX10_ok, nmX10⟩
theorem fX10_108 : gxF "PaidSecretsModel" 108 9 43 true := ⟨RX10, TX10, 70, tyX10, rfl, in_X10, by decide, q1886, rfl, tyX10_ok, nmX10⟩
theorem fX10_111 : gxF "PaidSecretsModel" 111 9 44 true := ⟨RX10, TX10, 70, tyX10, rfl, in_X10, by decide, q1887, rfl, tyX10_ok, nmX10⟩
theorem fX10_114 : gxF "PaidSecretsModel" 114 9 45 true := ⟨RX10, TX10, 70, tyX10, rfl, in_X10, by decide, q1888, rfl, tyX10_ok, nmX10⟩
theorem fX10_117 : gxF "PaidSecretsModel" 117 9 46 true := ⟨RX10, TX10, 70, tyX10, rfl, in_X10, by decide, q1889, rfl, tyX10_ok, nmX10⟩
theorem fX10_120 : gxF "PaidSecretsModel" 120 9 47 true := ⟨RX10, TX10, 70, tyX10, rfl, in_X10, by decide, q1890, rfl, tyX10_ok, nmX10⟩
theorem fX10_123 : gxF "PaidSecretsModel" 123 9 48 true := ⟨RX10, TX10, 70, tyX10, rfl, in_X10, by decide, q1891, rfl, tyX10_ok, nmX10⟩
theorem fX10_126 : gxF "PaidSecretsModel" 126 9 49 true := ⟨RX10, TX10, 70, tyX10, rfl, in_X10, by decide, q1892, rfl, tyX10_ok, nmX10⟩
theorem fX10_129 : gxF "PaidSecretsModel" 129 9 50 true := ⟨RX10, TX10, 70, tyX10, rfl, in_X10, by decide, q1893, rfl, tyX10_ok, nmX10⟩
theorem fX10_132 : gxF "PaidSecretsModel" 132 9 51 true := ⟨RX10, TX10, 70, tyX10, rfl, in_X10, by decide, q1894, rfl, tyX10_ok, nmX10⟩
theorem fX10_135 : gxF "PaidSecretsModel" 135 9 52 true := ⟨RX10, TX10, 70, tyX10, rfl, in_X10, by decide, q1895, rfl, tyX10_ok, nmX10⟩
theorem fX10_138 : gxF "PaidSecretsModel" 138 9 53 true := ⟨RX10, TX10, 70, tyX10, rfl, in_X10, by decide, q1896, rfl, tyX10_ok, nmX10⟩
theorem fX10_141 : gxF "PaidSecretsModel" 141 9 54 true := ⟨RX10, TX10, 70, tyX10, rfl, in_X10, by decide, q1897, rfl, tyX10_ok, nmX10⟩
theorem fX10_145 : gxF "PaidSecretsModel" 145 9 56 true := ⟨RX10, TX10, 70, tyX10, rfl, in_X10, by decide, q1899, rfl, tyX10_ok, nmX10⟩
theorem fX10_148 : gxF "PaidSecretsModel" 148 9 57 true := ⟨RX10, TX10, 70, tyX10, rfl, in_X10, by decide, q1900, rfl, tyX10_ok, nmX10⟩
theorem fX10_151 : gxF "PaidSecretsModel" 151 9 58 true := ⟨RX10, TX10, 70, tyX10, rfl, in_X10, by decide, q1901, rfl, tyX10_ok, nmX10⟩
theorem fX10_154 : gxF "PaidSecretsModel" 154 9 59 true := ⟨RX10, TX10, 70, tyX10, rfl, in_X10, by decide, q1902, rfl, tyX10_ok, nmX10⟩
theorem fX10_157 : gxF "PaidSecretsModel" 157 9 62 true := ⟨RX10, TX10, 70, tyX10, rfl, in_X10, by decide, q1905, rfl, tyX10_ok, nmX10⟩
theorem fX10_160 : gxF "PaidSecretsModel" 160 9 63 true := ⟨RX10, TX10, 70, tyX10, rfl, in_X10, by decide, q1906, rfl, tyX10_ok, nmX10⟩
theorem fX10_163 : gxF "PaidSecretsModel" 163 9 64 true := ⟨RX10, TX10, 70, tyX10, rfl, in_X10, by decide, q1907, rfl, tyX10_ok, nmX10⟩
theorem fX10_166 : gxF "PaidSecretsModel" 166 9 65 true := ⟨RX10, TX10, 70, tyX10, rfl, in_X10, by decide, q1908, rfl, tyX10_ok, nmX10⟩
theorem fX10_169 : gxF "PaidSecretsModel" 169 9 66 true := ⟨RX10, TX10, 70, tyX10, rfl, in_X10, by decide, q1909, rfl, tyX10_ok, nmX10⟩
theorem fX10_172 : gxF "PaidSecretsModel" 172 9 67 true := ⟨RX10, TX10, 70, tyX10, rfl, in_X10, by decide, q1910, rfl, tyX10_ok, nmX10⟩
theorem fX10_175 : gxF "PaidSecretsModel" 175 9 0 false := ⟨RX10, TX10, 70, tyX10, rfl, in_X10, by decide, q1843, rfl, tyX10_ok, nmX10⟩
theorem fX10_181 : gxF "PaidSecretsModel" 181 9 1 false := ⟨RX10, TX10, 70, tyX10, rfl, in_X10, by decide, q1844, rfl, tyX10_ok, nmX10⟩
theorem fX10_184 : gxF "PaidSecretsModel" 184 9 3 false := ⟨RX10, TX10, 70, tyX10, rfl, in_X10, by decide, q1846, rfl, tyX10_ok, nmX10⟩
theorem fX10_187 : gxF "PaidSecretsModel" 187 9 4 false := ⟨RX10, TX10, 70, tyX10, rfl, in_X10, by decide, q1847, rfl, tyX10_ok, nmX10⟩
theorem fX10_190 : gxF "PaidSecretsModel" 190 9 5 false := ⟨RX10, TX10, 70, tyX10, rfl, in_X10, by decide, q1848, rfl, tyX10_ok, nmX10⟩
theorem fX10_193 : gxF "PaidSecretsModel" 193 9 7 false := ⟨RX10, TX10, 70, tyX10, rfl, in_X10, by decide, q1850, rfl, tyX10_ok, nmX10⟩
theorem fX10_197 : gxF "PaidSecretsModel" 197 9 8 false := ⟨RX10, TX10, 70, tyX10, rfl, in_X10, by decide, q1851, rfl, tyX10_ok, nmX10⟩
theorem fX10_200 : gxF "PaidSecretsModel" 200 9 6 false := ⟨RX10, TX10, 70, tyX10, rfl, in_X10, by decide, q1849, rfl, tyX10_ok, nmX10⟩
theorem fX10_211 : gxF "PaidSecretsModel" 211 9 9 false := ⟨RX10, TX10, 70, tyX10, rfl, in_X10, by decide, q1852, rfl, tyX10_ok, nmX10⟩
theorem fX10_214 : gxF "PaidSecretsModel" 214 9 28 false := ⟨RX10, TX10, 70, tyX10, rfl, in_X10, by decide, q1871, rfl, tyX10_ok, nmX10⟩
theorem fX10_312 : gxF "PaidSecretsModel" 312 9 41 false := ⟨RX10, TX10, 70, tyX10, rfl, in_X10, by decide, q1884, rfl, tyX10_ok, nmX10⟩
theorem fX10_398 : gxF "PaidSecretsModel" 398 9 55 false := ⟨RX10, TX10, 70, tyX10, rfl, in_X10, by decide, q1898, rfl, tyX10_ok, nmX10⟩
theorem fX10_501 : gxF "PaidSecretsModel" 501 9 61 false := ⟨RX10, TX10, 70, tyX10, rfl, in_X10, by decide, q1904, rfl, tyX10_ok, nmX10⟩
theorem fX10_504 : gxF "PaidSecretsModel" 504 9 60 false := ⟨RX10, TX10, 70, tyX10, rfl, in_X10, by decide, q1903, rfl, tyX10_ok, nmX10⟩
theorem fX10_531 : gxF "PaidSecretsModel" 531 9 68 false := ⟨RX10, TX10, 70, tyX10, rfl, in_X10, by decide, q1911, rfl, tyX10_ok, nmX10⟩
theorem fX10_543 : gxF "PaidSecretsModel" 543 9 69 false := ⟨RX10, TX10, 70, tyX10, rfl, in_X10, by decide, q1912, rfl, tyX10_ok, nmX10⟩
theorem fJ16_205 : gxF "java/lang/Integer" 205 34 0 true := ⟨RJ16, TJ16, 1, tyJ16, rfl, in_J16, by decide, q935, rfl, tyJ16_ok, nmJ16⟩
theorem fJ13_273 : gxF "java/lang/Long" 273 33 0 true := ⟨RJ13, TJ13, 1, tyJ13, rfl, in_J13, by decide, q841, rfl, tyJ13_ok, nmJ13⟩
theorem fJ10_7_X11 : gxF "java/lang/Throwable" 7 10 0 false := ⟨RX11, TX11, 7, tyX11, rfl, in_X11, by decide, q788, rfl, tyX11_ok, nmX11⟩
theorem fJ10_7_J18 : gxF "java/lang/Throwable" 7 35 0 false := ⟨RJ18, TJ18, 6, tyJ18, rfl, in_J18, by decide, q788, rfl, tyJ18_ok, nmJ18⟩
theorem fJ10_17_X11 : gxF "java/lang/Throwable" 17 10 1 false := ⟨RX11, TX11, 7, tyX11, rfl, in_X11, by decide, q789, rfl, tyX11_ok, nmX11⟩
theorem fJ10_17_J18 : gxF "java/lang/Throwable" 17 35 1 false := ⟨RJ18, TJ18, 6, tyJ18, rfl, in_J18, by decide, q789, rfl, tyJ18_ok, nmJ18⟩
theorem fJ10_24_X11 : gxF "java/lang/Throwable" 24 10 2 false := ⟨RX11, TX11, 7, tyX11, rfl, in_X11, by decide, q790, rfl, tyX11_ok, nmX11⟩
theorem fJ10_24_J18 : gxF "java/lang/Throwable" 24 35 2 false := ⟨RJ18, TJ18, 6, tyJ18, rfl, in_J18, by decide, q790, rfl, tyJ18_ok, nmJ18⟩
theorem fJ10_198_X11 : gxF "java/lang/Throwable" 198 10 4 false := ⟨RX11, TX11, 7, tyX11, rfl, in_X11, by decide, q787, rfl, tyX11_ok, nmX11⟩
theorem fJ10_198_J18 : gxF "java/lang/Throwable" 198 35 4 false := ⟨RJ18, TJ18, 6, tyJ18, rfl, in_J18, by decide, q787, rfl, tyJ18_ok, nmJ18⟩
theorem fJ1_7 : gxF "java/util/AbstractList" 7 32 0 false := ⟨RJ2, TJ2, 3, tyJ2, rfl, in_J2, by decide, q346, rfl, tyJ2_ok, nmJ2⟩
theorem fJ2_9 : gxF "java/util/ArrayList" 9 32 1 false := ⟨RJ2, TJ2, 3, tyJ2, rfl, in_J2, by decide, q344, rfl, tyJ2_ok, nmJ2⟩
theorem fJ2_48 : gxF "java/util/ArrayList" 48 32 2 false := ⟨RJ2, TJ2, 3, tyJ2, rfl, in_J2, by decide, q345, rfl, tyJ2_ok, nmJ2⟩
theorem fX1_329 : gxFN "PaidSecrets" 329 7 0 false := ⟨RX8, "PaidSecrets", TX8, 4, tyX8, rfl, in_X8, by decide, q502, rfl, tyX8_ok, nmX8⟩
theorem fX1_387 : gxFN "PaidSecrets" 387 31 0 true := ⟨RX35, "PaidSecrets", TX35, 3, tyX35, rfl, in_X35, by decide, q1751, rfl, tyX35_ok, nmX35⟩
theorem fX1_388 : gxFN "PaidSecrets" 388 31 1 true := ⟨RX35, "PaidSecrets", TX35, 3, tyX35, rfl, in_X35, by decide, q1753, rfl, tyX35_ok, nmX35⟩
theorem fX1_389 : gxFN "PaidSecrets" 389 31 2 true := ⟨RX35, "PaidSecrets", TX35, 3, tyX35, rfl, in_X35, by decide, q1755, rfl, tyX35_ok, nmX35⟩
theorem fX9_37 : gxFN "PaidSecrets$Feast" 37 0 1 false := ⟨RX1, "PaidSecrets", TX1, 12, tyX1, rfl, in_X1, by decide, q540, rfl, tyX1_ok, nmX1⟩
theorem fX8_25 : gxFN "PaidSecrets$Nights" 25 0 1 false := ⟨RX1, "PaidSecrets", TX1, 12, tyX1, rfl, in_X1, by decide, q537, rfl, tyX1_ok, nmX1⟩
theorem fX6_30 : gxFN "PaidSecrets$Payers" 30 0 1 false := ⟨RX1, "PaidSecrets", TX1, 12, tyX1, rfl, in_X1, by decide, q538, rfl, tyX1_ok, nmX1⟩
theorem fX7_39 : gxFN "PaidSecrets$Plots" 39 0 1 false := ⟨RX1, "PaidSecrets", TX1, 12, tyX1, rfl, in_X1, by decide, q539, rfl, tyX1_ok, nmX1⟩
theorem tX1_0 : ∀ C T N, gxCl[0]? = some (C, T, N) → parseFieldDescriptor (T 0).2.2.1 = some (tyX1 0) := by
  intro C T N e
  cases e
  exact tyX1_ok 0 (by decide)
theorem tX1_1 : ∀ C T N, gxCl[0]? = some (C, T, N) → parseFieldDescriptor (T 1).2.2.1 = some (tyX1 1) := by
  intro C T N e
  cases e
  exact tyX1_ok 1 (by decide)
theorem tX1_2 : ∀ C T N, gxCl[0]? = some (C, T, N) → parseFieldDescriptor (T 2).2.2.1 = some (tyX1 2) := by
  intro C T N e
  cases e
  exact tyX1_ok 2 (by decide)
theorem tX1_3 : ∀ C T N, gxCl[0]? = some (C, T, N) → parseFieldDescriptor (T 3).2.2.1 = some (tyX1 3) := by
  intro C T N e
  cases e
  exact tyX1_ok 3 (by decide)
theorem tX1_4 : ∀ C T N, gxCl[0]? = some (C, T, N) → parseFieldDescriptor (T 4).2.2.1 = some (tyX1 4) := by
  intro C T N e
  cases e
  exact tyX1_ok 4 (by decide)
theorem tX1_5 : ∀ C T N, gxCl[0]? = some (C, T, N) → parseFieldDescriptor (T 5).2.2.1 = some (tyX1 5) := by
  intro C T N e
  cases e
  exact tyX1_ok 5 (by decide)
theorem tX1_6 : ∀ C T N, gxCl[0]? = some (C, T, N) → parseFieldDescriptor (T 6).2.2.1 = some (tyX1 6) := by
  intro C T N e
  cases e
  exact tyX1_ok 6 (by decide)
theorem tX1_7 : ∀ C T N, gxCl[0]? = some (C, T, N) → parseFieldDescriptor (T 7).2.2.1 = some (tyX1 7) := by
  intro C T N e
  cases e
  exact tyX1_ok 7 (by decide)
theorem tX1_8 : ∀ C T N, gxCl[0]? = some (C, T, N) → parseFieldDescriptor (T 8).2.2.1 = some (tyX1 8) := by
  intro C T N e
  cases e
  exact tyX1_ok 8 (by decide)
theorem tX1_9 : ∀ C T N, gxCl[0]? = some (C, T, N) → parseFieldDescriptor (T 9).2.2.1 = some (tyX1 9) := by
  intro C T N e
  cases e
  exact tyX1_ok 9 (by decide)
theorem tX1_10 : ∀ C T N, gxCl[0]? = some (C, T, N) → parseFieldDescriptor (T 10).2.2.1 = some (tyX1 10) := by
  intro C T N e
  cases e
  exact tyX1_ok 10 (by decide)
theorem tX1_11 : ∀ C T N, gxCl[0]? = some (C, T, N) → parseFieldDescriptor (T 11).2.2.1 = some (tyX1 11) := by
  intro C T N e
  cases e
  exact tyX1_ok 11 (by decide)
theorem tX2_0 : ∀ C T N, gxCl[1]? = some (C, T, N) → parseFieldDescriptor (T 0).2.2.1 = some (tyX2 0) := by
  intro C T N e
  cases e
  exact tyX2_ok 0 (by decide)
theorem tX2_1 : ∀ C T N, gxCl[1]? = some (C, T, N) → parseFieldDescriptor (T 1).2.2.1 = some (tyX2 1) := by
  intro C T N e
  cases e
  exact tyX2_ok 1 (by decide)
theorem tX2_2 : ∀ C T N, gxCl[1]? = some (C, T, N) → parseFieldDescriptor (T 2).2.2.1 = some (tyX2 2) := by
  intro C T N e
  cases e
  exact tyX2_ok 2 (by decide)
theorem tX2_3 : ∀ C T N, gxCl[1]? = some (C, T, N) → parseFieldDescriptor (T 3).2.2.1 = some (tyX2 3) := by
  intro C T N e
  cases e
  exact tyX2_ok 3 (by decide)
theorem tX2_4 : ∀ C T N, gxCl[1]? = some (C, T, N) → parseFieldDescriptor (T 4).2.2.1 = some (tyX2 4) := by
  intro C T N e
  cases e
  exact tyX2_ok 4 (by decide)
theorem tX2_5 : ∀ C T N, gxCl[1]? = some (C, T, N) → parseFieldDescriptor (T 5).2.2.1 = some (tyX2 5) := by
  intro C T N e
  cases e
  exact tyX2_ok 5 (by decide)
theorem tX2_6 : ∀ C T N, gxCl[1]? = some (C, T, N) → parseFieldDescriptor (T 6).2.2.1 = some (tyX2 6) := by
  intro C T N e
  cases e
  exact tyX2_ok 6 (by decide)
theorem tX2_7 : ∀ C T N, gxCl[1]? = some (C, T, N) → parseFieldDescriptor (T 7).2.2.1 = some (tyX2 7) := by
  intro C T N e
  cases e
  exact tyX2_ok 7 (by decide)
theorem tX2_8 : ∀ C T N, gxCl[1]? = some (C, T, N) → parseFieldDescriptor (T 8).2.2.1 = some (tyX2 8) := by
  intro C T N e
  cases e
  exact tyX2_ok 8 (by decide)
theorem tX2_9 : ∀ C T N, gxCl[1]? = some (C, T, N) → parseFieldDescriptor (T 9).2.2.1 = some (tyX2 9) := by
  intro C T N e
  cases e
  exact tyX2_ok 9 (by decide)
theorem tX2_10 : ∀ C T N, gxCl[1]? = some (C, T, N) → parseFieldDescriptor (T 10).2.2.1 = some (tyX2 10) := by
  intro C T N e
  cases e
  exact tyX2_ok 10 (by decide)
theorem tX3_0 : ∀ C T N, gxCl[2]? = some (C, T, N) → parseFieldDescriptor (T 0).2.2.1 = some (tyX3 0) := by
  intro C T N e
  cases e
  exact tyX3_ok 0 (by decide)
theorem tX3_1 : ∀ C T N, gxCl[2]? = some (C, T, N) → parseFieldDescriptor (T 1).2.2.1 = some (tyX3 1) := by
  intro C T N e
  cases e
  exact tyX3_ok 1 (by decide)
theorem tX3_2 : ∀ C T N, gxCl[2]? = some (C, T, N) → parseFieldDescriptor (T 2).2.2.1 = some (tyX3 2) := by
  intro C T N e
  cases e
  exact tyX3_ok 2 (by decide)
theorem tX3_3 : ∀ C T N, gxCl[2]? = some (C, T, N) → parseFieldDescriptor (T 3).2.2.1 = some (tyX3 3) := by
  intro C T N e
  cases e
  exact tyX3_ok 3 (by decide)
theorem tX3_4 : ∀ C T N, gxCl[2]? = some (C, T, N) → parseFieldDescriptor (T 4).2.2.1 = some (tyX3 4) := by
  intro C T N e
  cases e
  exact tyX3_ok 4 (by decide)
theorem tX3_5 : ∀ C T N, gxCl[2]? = some (C, T, N) → parseFieldDescriptor (T 5).2.2.1 = some (tyX3 5) := by
  intro C T N e
  cases e
  exact tyX3_ok 5 (by decide)
theorem tX3_6 : ∀ C T N, gxCl[2]? = some (C, T, N) → parseFieldDescriptor (T 6).2.2.1 = some (tyX3 6) := by
  intro C T N e
  cases e
  exact tyX3_ok 6 (by decide)
theorem tX3_7 : ∀ C T N, gxCl[2]? = some (C, T, N) → parseFieldDescriptor (T 7).2.2.1 = some (tyX3 7) := by
  intro C T N e
  cases e
  exact tyX3_ok 7 (by decide)
theorem tX3_8 : ∀ C T N, gxCl[2]? = some (C, T, N) → parseFieldDescriptor (T 8).2.2.1 = some (tyX3 8) := by
  intro C T N e
  cases e
  exact tyX3_ok 8 (by decide)
theorem tX3_9 : ∀ C T N, gxCl[2]? = some (C, T, N) → parseFieldDescriptor (T 9).2.2.1 = some (tyX3 9) := by
  intro C T N e
  cases e
  exact tyX3_ok 9 (by decide)
theorem tX3_10 : ∀ C T N, gxCl[2]? = some (C, T, N) → parseFieldDescriptor (T 10).2.2.1 = some (tyX3 10) := by
  intro C T N e
  cases e
  exact tyX3_ok 10 (by decide)
theorem tX4_0 : ∀ C T N, gxCl[3]? = some (C, T, N) → parseFieldDescriptor (T 0).2.2.1 = some (tyX4 0) := by
  intro C T N e
  cases e
  exact tyX4_ok 0 (by decide)
theorem tX4_1 : ∀ C T N, gxCl[3]? = some (C, T, N) → parseFieldDescriptor (T 1).2.2.1 = some (tyX4 1) := by
  intro C T N e
  cases e
  exact tyX4_ok 1 (by decide)
theorem tX4_2 : ∀ C T N, gxCl[3]? = some (C, T, N) → parseFieldDescriptor (T 2).2.2.1 = some (tyX4 2) := by
  intro C T N e
  cases e
  exact tyX4_ok 2 (by decide)
theorem tX4_3 : ∀ C T N, gxCl[3]? = some (C, T, N) → parseFieldDescriptor (T 3).2.2.1 = some (tyX4 3) := by
  intro C T N e
  cases e
  exact tyX4_ok 3 (by decide)
theorem tX4_4 : ∀ C T N, gxCl[3]? = some (C, T, N) → parseFieldDescriptor (T 4).2.2.1 = some (tyX4 4) := by
  intro C T N e
  cases e
  exact tyX4_ok 4 (by decide)
theorem tX4_5 : ∀ C T N, gxCl[3]? = some (C, T, N) → parseFieldDescriptor (T 5).2.2.1 = some (tyX4 5) := by
  intro C T N e
  cases e
  exact tyX4_ok 5 (by decide)
theorem tX4_6 : ∀ C T N, gxCl[3]? = some (C, T, N) → parseFieldDescriptor (T 6).2.2.1 = some (tyX4 6) := by
  intro C T N e
  cases e
  exact tyX4_ok 6 (by decide)
theorem tX4_7 : ∀ C T N, gxCl[3]? = some (C, T, N) → parseFieldDescriptor (T 7).2.2.1 = some (tyX4 7) := by
  intro C T N e
  cases e
  exact tyX4_ok 7 (by decide)
theorem tX5_0 : ∀ C T N, gxCl[4]? = some (C, T, N) → parseFieldDescriptor (T 0).2.2.1 = some (tyX5 0) := by
  intro C T N e
  cases e
  exact tyX5_ok 0 (by decide)
theorem tX6_0 : ∀ C T N, gxCl[5]? = some (C, T, N) → parseFieldDescriptor (T 0).2.2.1 = some (tyX6 0) := by
  intro C T N e
  cases e
  exact tyX6_ok 0 (by decide)
theorem tX6_1 : ∀ C T N, gxCl[5]? = some (C, T, N) → parseFieldDescriptor (T 1).2.2.1 = some (tyX6 1) := by
  intro C T N e
  cases e
  exact tyX6_ok 1 (by decide)
theorem tX6_2 : ∀ C T N, gxCl[5]? = some (C, T, N) → parseFieldDescriptor (T 2).2.2.1 = some (tyX6 2) := by
  intro C T N e
  cases e
  exact tyX6_ok 2 (by decide)
theorem tX6_3 : ∀ C T N, gxCl[5]? = some (C, T, N) → parseFieldDescriptor (T 3).2.2.1 = some (tyX6 3) := by
  intro C T N e
  cases e
  exact tyX6_ok 3 (by decide)
theorem tX7_0 : ∀ C T N, gxCl[6]? = some (C, T, N) → parseFieldDescriptor (T 0).2.2.1 = some (tyX7 0) := by
  intro C T N e
  cases e
  exact tyX7_ok 0 (by decide)
theorem tX7_1 : ∀ C T N, gxCl[6]? = some (C, T, N) → parseFieldDescriptor (T 1).2.2.1 = some (tyX7 1) := by
  intro C T N e
  cases e
  exact tyX7_ok 1 (by decide)
theorem tX7_2 : ∀ C T N, gxCl[6]? = some (C, T, N) → parseFieldDescriptor (T 2).2.2.1 = some (tyX7 2) := by
  intro C T N e
  cases e
  exact tyX7_ok 2 (by decide)
theorem tX7_3 : ∀ C T N, gxCl[6]? = some (C, T, N) → parseFieldDescriptor (T 3).2.2.1 = some (tyX7 3) := by
  intro C T N e
  cases e
  exact tyX7_ok 3 (by decide)
theorem tX7_4 : ∀ C T N, gxCl[6]? = some (C, T, N) → parseFieldDescriptor (T 4).2.2.1 = some (tyX7 4) := by
  intro C T N e
  cases e
  exact tyX7_ok 4 (by decide)
theorem tX7_5 : ∀ C T N, gxCl[6]? = some (C, T, N) → parseFieldDescriptor (T 5).2.2.1 = some (tyX7 5) := by
  intro C T N e
  cases e
  exact tyX7_ok 5 (by decide)
theorem tX7_6 : ∀ C T N, gxCl[6]? = some (C, T, N) → parseFieldDescriptor (T 6).2.2.1 = some (tyX7 6) := by
  intro C T N e
  cases e
  exact tyX7_ok 6 (by decide)
theorem tX7_7 : ∀ C T N, gxCl[6]? = some (C, T, N) → parseFieldDescriptor (T 7).2.2.1 = some (tyX7 7) := by
  intro C T N e
  cases e
  exact tyX7_ok 7 (by decide)
theorem tX8_0 : ∀ C T N, gxCl[7]? = some (C, T, N) → parseFieldDescriptor (T 0).2.2.1 = some (tyX8 0) := by
  intro C T N e
  cases e
  exact tyX8_ok 0 (by decide)
theorem tX8_1 : ∀ C T N, gxCl[7]? = some (C, T, N) → parseFieldDescriptor (T 1).2.2.1 = some (tyX8 1) := by
  intro C T N e
  cases e
  exact tyX8_ok 1 (by decide)
theorem tX8_2 : ∀ C T N, gxCl[7]? = some (C, T, N) → parseFieldDescriptor (T 2).2.2.1 = some (tyX8 2) := by
  intro C T N e
  cases e
  exact tyX8_ok 2 (by decide)
theorem tX8_3 : ∀ C T N, gxCl[7]? = some (C, T, N) → parseFieldDescriptor (T 3).2.2.1 = some (tyX8 3) := by
  intro C T N e
  cases e
  exact tyX8_ok 3 (by decide)
theorem tX9_0 : ∀ C T N, gxCl[8]? = some (C, T, N) → parseFieldDescriptor (T 0).2.2.1 = some (tyX9 0) := by
  intro C T N e
  cases e
  exact tyX9_ok 0 (by decide)
theorem tX9_1 : ∀ C T N, gxCl[8]? = some (C, T, N) → parseFieldDescriptor (T 1).2.2.1 = some (tyX9 1) := by
  intro C T N e
  cases e
  exact tyX9_ok 1 (by decide)
theorem tX9_2 : ∀ C T N, gxCl[8]? = some (C, T, N) → parseFieldDescriptor (T 2).2.2.1 = some (tyX9 2) := by
  intro C T N e
  cases e
  exact tyX9_ok 2 (by decide)
theorem tX9_3 : ∀ C T N, gxCl[8]? = some (C, T, N) → parseFieldDescriptor (T 3).2.2.1 = some (tyX9 3) := by
  intro C T N e
  cases e
  exact tyX9_ok 3 (by decide)
theorem tX10_0 : ∀ C T N, gxCl[9]? = some (C, T, N) → parseFieldDescriptor (T 0).2.2.1 = some (tyX10 0) := by
  intro C T N e
  cases e
  exact tyX10_ok 0 (by decide)
theorem tX10_1 : ∀ C T N, gxCl[9]? = some (C, T, N) → parseFieldDescriptor (T 1).2.2.1 = some (tyX10 1) := by
  intro C T N e
  cases e
  exact tyX10_ok 1 (by decide)
theorem tX10_2 : ∀ C T N, gxCl[9]? = some (C, T, N) → parseFieldDescriptor (T 2).2.2.1 = some (tyX10 2) := by
  intro C T N e
  cases e
  exact tyX10_ok 2 (by decide)
theorem tX10_3 : ∀ C T N, gxCl[9]? = some (C, T, N) → parseFieldDescriptor (T 3).2.2.1 = some (tyX10 3) := by
  intro C T N e
  cases e
  exact tyX10_ok 3 (by decide)
theorem tX10_4 : ∀ C T N, gxCl[9]? = some (C, T, N) → parseFieldDescriptor (T 4).2.2.1 = some (tyX10 4) := by
  intro C T N e
  cases e
  exact tyX10_ok 4 (by decide)
theorem tX10_5 : ∀ C T N, gxCl[9]? = some (C, T, N) → parseFieldDescriptor (T 5).2.2.1 = some (tyX10 5) := by
  intro C T N e
  cases e
  exact tyX10_ok 5 (by decide)
theorem tX10_6 : ∀ C T N, gxCl[9]? = some (C, T, N) → parseFieldDescriptor (T 6).2.2.1 = some (tyX10 6) := by
  intro C T N e
  cases e
  exact tyX10_ok 6 (by decide)
theorem tX10_7 : ∀ C T N, gxCl[9]? = some (C, T, N) → parseFieldDescriptor (T 7).2.2.1 = some (tyX10 7) := by
  intro C T N e
  cases e
  exact tyX10_ok 7 (by decide)
theorem tX10_8 : ∀ C T N, gxCl[9]? = some (C, T, N) → parseFieldDescriptor (T 8).2.2.1 = some (tyX10 8) := by
  intro C T N e
  cases e
  exact tyX10_ok 8 (by decide)
theorem tX10_9 : ∀ C T N, gxCl[9]? = some (C, T, N) → parseFieldDescriptor (T 9).2.2.1 = some (tyX10 9) := by
  intro C T N e
  cases e
  exact tyX10_ok 9 (by decide)
theorem tX10_10 : ∀ C T N, gxCl[9]? = some (C, T, N) → parseFieldDescriptor (T 10).2.2.1 = some (tyX10 10) := by
  intro C T N e
  cases e
  exact tyX10_ok 10 (by decide)
theorem tX10_11 : ∀ C T N, gxCl[9]? = some (C, T, N) → parseFieldDescriptor (T 11).2.2.1 = some (tyX10 11) := by
  intro C T N e
  cases e
  exact tyX10_ok 11 (by decide)
theorem tX10_12 : ∀ C T N, gxCl[9]? = some (C, T, N) → parseFieldDescriptor (T 12).2.2.1 = some (tyX10 12) := by
  intro C T N e
  cases e
  exact tyX10_ok 12 (by decide)
theorem tX10_13 : ∀ C T N, gxCl[9]? = some (C, T, N) → parseFieldDescriptor (T 13).2.2.1 = some (tyX10 13) := by
  intro C T N e
  cases e
  exact tyX10_ok 13 (by decide)
theorem tX10_14 : ∀ C T N, gxCl[9]? = some (C, T, N) → parseFieldDescriptor (T 14).2.2.1 = some (tyX10 14) := by
  intro C T N e
  cases e
  exact tyX10_ok 14 (by decide)
theorem tX10_15 : ∀ C T N, gxCl[9]? = some (C, T, N) → parseFieldDescriptor (T 15).2.2.1 = some (tyX10 15) := by
  intro C T N e
  cases e
  exact tyX10_ok 15 (by decide)
theorem tX10_16 : ∀ C T N, gxCl[9]? = some (C, T, N) → parseFieldDescriptor (T 16).2.2.1 = some (tyX10 16) := by
  intro C T N e
  cases e
  exact tyX10_ok 16 (by decide)
theorem tX10_17 : ∀ C T N, gxCl[9]? = some (C, T, N) → parseFieldDescriptor (T 17).2.2.1 = some (tyX10 17) := by
  intro C T N e
  cases e
  exact tyX10_ok 17 (by decide)
theorem tX10_18 : ∀ C T N, gxCl[9]? = some (C, T, N) → parseFieldDescriptor (T 18).2.2.1 = some (tyX10 18) := by
  intro C T N e
  cases e
  exact tyX10_ok 18 (by decide)
theorem tX10_19 : ∀ C T N, gxCl[9]? = some (C, T, N) → parseFieldDescriptor (T 19).2.2.1 = some (tyX10 19) := by
  intro C T N e
  cases e
  exact tyX10_ok 19 (by decide)
theorem tX10_20 : ∀ C T N, gxCl[9]? = some (C, T, N) → parseFieldDescriptor (T 20).2.2.1 = some (tyX10 20) := by
  intro C T N e
  cases e
  exact tyX10_ok 20 (by decide)
theorem tX10_21 : ∀ C T N, gxCl[9]? = some (C, T, N) → parseFieldDescriptor (T 21).2.2.1 = some (tyX10 21) := by
  intro C T N e
  cases e
  exact tyX10_ok 21 (by decide)
theorem tX10_22 : ∀ C T N, gxCl[9]? = some (C, T, N) → parseFieldDescriptor (T 22).2.2.1 = some (tyX10 22) := by
  intro C T N e
  cases e
  exact tyX10_ok 22 (by decide)
theorem tX10_23 : ∀ C T N, gxCl[9]? = some (C, T, N) → parseFieldDescriptor (T 23).2.2.1 = some (tyX10 23) := by
  intro C T N e
  cases e
  exact tyX10_ok 23 (by decide)
theorem tX10_24 : ∀ C T N, gxCl[9]? = some (C, T, N) → parseFieldDescriptor (T 24).2.2.1 = some (tyX10 24) := by
  intro C T N e
  cases e
  exact tyX10_ok 24 (by decide)
theorem tX10_25 : ∀ C T N, gxCl[9]? = some (C, T, N) → parseFieldDescriptor (T 25).2.2.1 = some (tyX10 25) := by
  intro C T N e
  cases e
  exact tyX10_ok 25 (by decide)
theorem tX10_26 : ∀ C T N, gxCl[9]? = some (C, T, N) → parseFieldDescriptor (T 26).2.2.1 = some (tyX10 26) := by
  intro C T N e
  cases e
  exact tyX10_ok 26 (by decide)
theorem tX10_27 : ∀ C T N, gxCl[9]? = some (C, T, N) → parseFieldDescriptor (T 27).2.2.1 = some (tyX10 27) := by
  intro C T N e
  cases e
  exact tyX10_ok 27 (by decide)
theorem tX10_28 : ∀ C T N, gxCl[9]? = some (C, T, N) → parseFieldDescriptor (T 28).2.2.1 = some (tyX10 28) := by
  intro C T N e
  cases e
  exact tyX10_ok 28 (by decide)
theorem tX10_29 : ∀ C T N, gxCl[9]? = some (C, T, N) → parseFieldDescriptor (T 29).2.2.1 = some (tyX10 29) := by
  intro C T N e
  cases e
  exact tyX10_ok 29 (by decide)
theorem tX10_30 : ∀ C T N, gxCl[9]? = some (C, T, N) → parseFieldDescriptor (T 30).2.2.1 = some (tyX10 30) := by
  intro C T N e
  cases e
  exact tyX10_ok 30 (by decide)
theorem tX10_31 : ∀ C T N, gxCl[9]? = some (C, T, N) → parseFieldDescriptor (T 31).2.2.1 = some (tyX10 31) := by
  intro C T N e
  cases e
  exact tyX10_ok 31 (by decide)
theorem tX10_32 : ∀ C T N, gxCl[9]? = some (C, T, N) → parseFieldDescriptor (T 32).2.2.1 = some (tyX10 32) := by
  intro C T N e
  cases e
  exact tyX10_ok 32 (by decide)
theorem tX10_33 : ∀ C T N, gxCl[9]? = some (C, T, N) → parseFieldDescriptor (T 33).2.2.1 = some (tyX10 33) := by
  intro C T N e
  cases e
  exact tyX10_ok 33 (by decide)
theorem tX10_34 : ∀ C T N, gxCl[9]? = some (C, T, N) → parseFieldDescriptor (T 34).2.2.1 = some (tyX10 34) := by
  intro C T N e
  cases e
  exact tyX10_ok 34 (by decide)
theorem tX10_35 : ∀ C T N, gxCl[9]? = some (C, T, N) → parseFieldDescriptor (T 35).2.2.1 = some (tyX10 35) := by
  intro C T N e
  cases e
  exact tyX10_ok 35 (by decide)
theorem tX10_36 : ∀ C T N, gxCl[9]? = some (C, T, N) → parseFieldDescriptor (T 36).2.2.1 = some (tyX10 36) := by
  intro C T N e
  cases e
  exact tyX10_ok 36 (by decide)
theorem tX10_37 : ∀ C T N, gxCl[9]? = some (C, T, N) → parseFieldDescriptor (T 37).2.2.1 = some (tyX10 37) := by
  intro C T N e
  cases e
  exact tyX10_ok 37 (by decide)
theorem tX10_38 : ∀ C T N, gxCl[9]? = some (C, T, N) → parseFieldDescriptor (T 38).2.2.1 = some (tyX10 38) := by
  intro C T N e
  cases e
  exact tyX10_ok 38 (by decide)
theorem tX10_39 : ∀ C T N, gxCl[9]? = some (C, T, N) → parseFieldDescriptor (T 39).2.2.1 = some (tyX10 39) := by
  intro C T N e
  cases e
  exact tyX10_ok 39 (by decide)
theorem tX10_40 : ∀ C T N, gxCl[9]? = some (C, T, N) → parseFieldDescriptor (T 40).2.2.1 = some (tyX10 40) := by
  intro C T N e
  cases e
  exact tyX10_ok 40 (by decide)
theorem tX10_41 : ∀ C T N, gxCl[9]? = some (C, T, N) → parseFieldDescriptor (T 41).2.2.1 = some (tyX10 41) := by
  intro C T N e
  cases e
  exact tyX10_ok 41 (by decide)
theorem tX10_42 : ∀ C T N, gxCl[9]? = some (C, T, N) → parseFieldDescriptor (T 42).2.2.1 = some (tyX10 42) := by
  intro C T N e
  cases e
  exact tyX10_ok 42 (by decide)
theorem tX10_43 : ∀ C T N, gxCl[9]? = some (C, T, N) → parseFieldDescriptor (T 43).2.2.1 = some (tyX10 43) := by
  intro C T N e
  cases e
  exact tyX10_ok 43 (by decide)
theorem tX10_44 : ∀ C T N, gxCl[9]? = some (C, T, N) → parseFieldDescriptor (T 44).2.2.1 = some (tyX10 44) := by
  intro C T N e
  cases e
  exact tyX10_ok 44 (by decide)
theorem tX10_45 : ∀ C T N, gxCl[9]? = some (C, T, N) → parseFieldDescriptor (T 45).2.2.1 = some (tyX10 45) := by
  intro C T N e
  cases e
  exact tyX10_ok 45 (by decide)
theorem tX10_46 : ∀ C T N, gxCl[9]? = some (C, T, N) → parseFieldDescriptor (T 46).2.2.1 = some (tyX10 46) := by
  intro C T N e
  cases e
  exact tyX10_ok 46 (by decide)
theorem tX10_47 : ∀ C T N, gxCl[9]? = some (C, T, N) → parseFieldDescriptor (T 47).2.2.1 = some (tyX10 47) := by
  intro C T N e
  cases e
  exact tyX10_ok 47 (by decide)
theorem tX10_48 : ∀ C T N, gxCl[9]? = some (C, T, N) → parseFieldDescriptor (T 48).2.2.1 = some (tyX10 48) := by
  intro C T N e
  cases e
  exact tyX10_ok 48 (by decide)
theorem tX10_49 : ∀ C T N, gxCl[9]? = some (C, T, N) → parseFieldDescriptor (T 49).2.2.1 = some (tyX10 49) := by
  intro C T N e
  cases e
  exact tyX10_ok 49 (by decide)
theorem tX10_50 : ∀ C T N, gxCl[9]? = some (C, T, N) → parseFieldDescriptor (T 50).2.2.1 = some (tyX10 50) := by
  intro C T N e
  cases e
  exact tyX10_ok 50 (by decide)
theorem tX10_51 : ∀ C T N, gxCl[9]? = some (C, T, N) → parseFieldDescriptor (T 51).2.2.1 = some (tyX10 51) := by
  intro C T N e
  cases e
  exact tyX10_ok 51 (by decide)
theorem tX10_52 : ∀ C T N, gxCl[9]? = some (C, T, N) → parseFieldDescriptor (T 52).2.2.1 = some (tyX10 52) := by
  intro C T N e
  cases e
  exact tyX10_ok 52 (by decide)
theorem tX10_53 : ∀ C T N, gxCl[9]? = some (C, T, N) → parseFieldDescriptor (T 53).2.2.1 = some (tyX10 53) := by
  intro C T N e
  cases e
  exact tyX10_ok 53 (by decide)
theorem tX10_54 : ∀ C T N, gxCl[9]? = some (C, T, N) → parseFieldDescriptor (T 54).2.2.1 = some (tyX10 54) := by
  intro C T N e
  cases e
  exact tyX10_ok 54 (by decide)
theorem tX10_55 : ∀ C T N, gxCl[9]? = some (C, T, N) → parseFieldDescriptor (T 55).2.2.1 = some (tyX10 55) := by
  intro C T N e
  cases e
  exact tyX10_ok 55 (by decide)
theorem tX10_56 : ∀ C T N, gxCl[9]? = some (C, T, N) → parseFieldDescriptor (T 56).2.2.1 = some (tyX10 56) := by
  intro C T N e
  cases e
  exact tyX10_ok 56 (by decide)
theorem tX10_57 : ∀ C T N, gxCl[9]? = some (C, T, N) → parseFieldDescriptor (T 57).2.2.1 = some (tyX10 57) := by
  intro C T N e
  cases e
  exact tyX10_ok 57 (by decide)
theorem tX10_58 : ∀ C T N, gxCl[9]? = some (C, T, N) → parseFieldDescriptor (T 58).2.2.1 = some (tyX10 58) := by
  intro C T N e
  cases e
  exact tyX10_ok 58 (by decide)
theorem tX10_59 : ∀ C T N, gxCl[9]? = some (C, T, N) → parseFieldDescriptor (T 59).2.2.1 = some (tyX10 59) := by
  intro C T N e
  cases e
  exact tyX10_ok 59 (by decide)
theorem tX10_60 : ∀ C T N, gxCl[9]? = some (C, T, N) → parseFieldDescriptor (T 60).2.2.1 = some (tyX10 60) := by
  intro C T N e
  cases e
  exact tyX10_ok 60 (by decide)
theorem tX10_61 : ∀ C T N, gxCl[9]? = some (C, T, N) → parseFieldDescriptor (T 61).2.2.1 = some (tyX10 61) := by
  intro C T N e
  cases e
  exact tyX10_ok 61 (by decide)
theorem tX10_62 : ∀ C T N, gxCl[9]? = some (C, T, N) → parseFieldDescriptor (T 62).2.2.1 = some (tyX10 62) := by
  intro C T N e
  cases e
  exact tyX10_ok 62 (by decide)
theorem tX10_63 : ∀ C T N, gxCl[9]? = some (C, T, N) → parseFieldDescriptor (T 63).2.2.1 = some (tyX10 63) := by
  intro C T N e
  cases e
  exact tyX10_ok 63 (by decide)
theorem tX10_64 : ∀ C T N, gxCl[9]? = some (C, T, N) → parseFieldDescriptor (T 64).2.2.1 = some (tyX10 64) := by
  intro C T N e
  cases e
  exact tyX10_ok 64 (by decide)
theorem tX10_65 : ∀ C T N, gxCl[9]? = some (C, T, N) → parseFieldDescriptor (T 65).2.2.1 = some (tyX10 65) := by
  intro C T N e
  cases e
  exact tyX10_ok 65 (by decide)
theorem tX10_66 : ∀ C T N, gxCl[9]? = some (C, T, N) → parseFieldDescriptor (T 66).2.2.1 = some (tyX10 66) := by
  intro C T N e
  cases e
  exact tyX10_ok 66 (by decide)
theorem tX10_67 : ∀ C T N, gxCl[9]? = some (C, T, N) → parseFieldDescriptor (T 67).2.2.1 = some (tyX10 67) := by
  intro C T N e
  cases e
  exact tyX10_ok 67 (by decide)
theorem tX10_68 : ∀ C T N, gxCl[9]? = some (C, T, N) → parseFieldDescriptor (T 68).2.2.1 = some (tyX10 68) := by
  intro C T N e
  cases e
  exact tyX10_ok 68 (by decide)
theorem tX10_69 : ∀ C T N, gxCl[9]? = some (C, T, N) → parseFieldDescriptor (T 69).2.2.1 = some (tyX10 69) := by
  intro C T N e
  cases e
  exact tyX10_ok 69 (by decide)
theorem tX11_0 : ∀ C T N, gxCl[10]? = some (C, T, N) → parseFieldDescriptor (T 0).2.2.1 = some (tyX11 0) := by
  intro C T N e
  cases e
  exact tyX11_ok 0 (by decide)
theorem tX11_1 : ∀ C T N, gxCl[10]? = some (C, T, N) → parseFieldDescriptor (T 1).2.2.1 = some (tyX11 1) := by
  intro C T N e
  cases e
  exact tyX11_ok 1 (by decide)
theorem tX11_2 : ∀ C T N, gxCl[10]? = some (C, T, N) → parseFieldDescriptor (T 2).2.2.1 = some (tyX11 2) := by
  intro C T N e
  cases e
  exact tyX11_ok 2 (by decide)
theorem tX11_3 : ∀ C T N, gxCl[10]? = some (C, T, N) → parseFieldDescriptor (T 3).2.2.1 = some (tyX11 3) := by
  intro C T N e
  cases e
  exact tyX11_ok 3 (by decide)
theorem tX11_4 : ∀ C T N, gxCl[10]? = some (C, T, N) → parseFieldDescriptor (T 4).2.2.1 = some (tyX11 4) := by
  intro C T N e
  cases e
  exact tyX11_ok 4 (by decide)
theorem tX11_5 : ∀ C T N, gxCl[10]? = some (C, T, N) → parseFieldDescriptor (T 5).2.2.1 = some (tyX11 5) := by
  intro C T N e
  cases e
  exact tyX11_ok 5 (by decide)
theorem tX11_6 : ∀ C T N, gxCl[10]? = some (C, T, N) → parseFieldDescriptor (T 6).2.2.1 = some (tyX11 6) := by
  intro C T N e
  cases e
  exact tyX11_ok 6 (by decide)
theorem tX12_0 : ∀ C T N, gxCl[11]? = some (C, T, N) → parseFieldDescriptor (T 0).2.2.1 = some (tyX12 0) := by
  intro C T N e
  cases e
  exact tyX12_ok 0 (by decide)
theorem tX12_1 : ∀ C T N, gxCl[11]? = some (C, T, N) → parseFieldDescriptor (T 1).2.2.1 = some (tyX12 1) := by
  intro C T N e
  cases e
  exact tyX12_ok 1 (by decide)
theorem tX13_0 : ∀ C T N, gxCl[12]? = some (C, T, N) → parseFieldDescriptor (T 0).2.2.1 = some (tyX13 0) := by
  intro C T N e
  cases e
  exact tyX13_ok 0 (by decide)
theorem tX13_1 : ∀ C T N, gxCl[12]? = some (C, T, N) → parseFieldDescriptor (T 1).2.2.1 = some (tyX13 1) := by
  intro C T N e
  cases e
  exact tyX13_ok 1 (by decide)
theorem tX14_0 : ∀ C T N, gxCl[13]? = some (C, T, N) → parseFieldDescriptor (T 0).2.2.1 = some (tyX14 0) := by
  intro C T N e
  cases e
  exact tyX14_ok 0 (by decide)
theorem tX14_1 : ∀ C T N, gxCl[13]? = some (C, T, N) → parseFieldDescriptor (T 1).2.2.1 = some (tyX14 1) := by
  intro C T N e
  cases e
  exact tyX14_ok 1 (by decide)
theorem tX15_0 : ∀ C T N, gxCl[14]? = some (C, T, N) → parseFieldDescriptor (T 0).2.2.1 = some (tyX15 0) := by
  intro C T N e
  cases e
  exact tyX15_ok 0 (by decide)
theorem tX15_1 : ∀ C T N, gxCl[14]? = some (C, T, N) → parseFieldDescriptor (T 1).2.2.1 = some (tyX15 1) := by
  intro C T N e
  cases e
  exact tyX15_ok 1 (by decide)
theorem tX16_0 : ∀ C T N, gxCl[15]? = some (C, T, N) → parseFieldDescriptor (T 0).2.2.1 = some (tyX16 0) := by
  intro C T N e
  cases e
  exact tyX16_ok 0 (by decide)
theorem tX16_1 : ∀ C T N, gxCl[15]? = some (C, T, N) → parseFieldDescriptor (T 1).2.2.1 = some (tyX16 1) := by
  intro C T N e
  cases e
  exact tyX16_ok 1 (by decide)
theorem tX16_2 : ∀ C T N, gxCl[15]? = some (C, T, N) → parseFieldDescriptor (T 2).2.2.1 = some (tyX16 2) := by
  intro C T N e
  cases e
  exact tyX16_ok 2 (by decide)
theorem tX16_3 : ∀ C T N, gxCl[15]? = some (C, T, N) → parseFieldDescriptor (T 3).2.2.1 = some (tyX16 3) := by
  intro C T N e
  cases e
  exact tyX16_ok 3 (by decide)
theorem tX16_4 : ∀ C T N, gxCl[15]? = some (C, T, N) → parseFieldDescriptor (T 4).2.2.1 = some (tyX16 4) := by
  intro C T N e
  cases e
  exact tyX16_ok 4 (by decide)
theorem tX16_5 : ∀ C T N, gxCl[15]? = some (C, T, N) → parseFieldDescriptor (T 5).2.2.1 = some (tyX16 5) := by
  intro C T N e
  cases e
  exact tyX16_ok 5 (by decide)
theorem tX18_0 : ∀ C T N, gxCl[16]? = some (C, T, N) → parseFieldDescriptor (T 0).2.2.1 = some (tyX18 0) := by
  intro C T N e
  cases e
  exact tyX18_ok 0 (by decide)
theorem tX19_0 : ∀ C T N, gxCl[17]? = some (C, T, N) → parseFieldDescriptor (T 0).2.2.1 = some (tyX19 0) := by
  intro C T N e
  cases e
  exact tyX19_ok 0 (by decide)
theorem tX20_0 : ∀ C T N, gxCl[18]? = some (C, T, N) → parseFieldDescriptor (T 0).2.2.1 = some (tyX20 0) := by
  intro C T N e
  cases e
  exact tyX20_ok 0 (by decide)
theorem tX21_0 : ∀ C T N, gxCl[19]? = some (C, T, N) → parseFieldDescriptor (T 0).2.2.1 = some (tyX21 0) := by
  intro C T N e
  cases e
  exact tyX21_ok 0 (by decide)
theorem tX21_1 : ∀ C T N, gxCl[19]? = some (C, T, N) → parseFieldDescriptor (T 1).2.2.1 = some (tyX21 1) := by
  intro C T N e
  cases e
  exact tyX21_ok 1 (by decide)
theorem tX23_0 : ∀ C T N, gxCl[20]? = some (C, T, N) → parseFieldDescriptor (T 0).2.2.1 = some (tyX23 0) := by
  intro C T N e
  cases e
  exact tyX23_ok 0 (by decide)
theorem tX24_0 : ∀ C T N, gxCl[21]? = some (C, T, N) → parseFieldDescriptor (T 0).2.2.1 = some (tyX24 0) := by
  intro C T N e
  cases e
  exact tyX24_ok 0 (by decide)
theorem tX25_0 : ∀ C T N, gxCl[22]? = some (C, T, N) → parseFieldDescriptor (T 0).2.2.1 = some (tyX25 0) := by
  intro C T N e
  cases e
  exact tyX25_ok 0 (by decide)
theorem tX26_0 : ∀ C T N, gxCl[23]? = some (C, T, N) → parseFieldDescriptor (T 0).2.2.1 = some (tyX26 0) := by
  intro C T N e
  cases e
  exact tyX26_ok 0 (by decide)
theorem tX27_0 : ∀ C T N, gxCl[24]? = some (C, T, N) → parseFieldDescriptor (T 0).2.2.1 = some (tyX27 0) := by
  intro C T N e
  cases e
  exact tyX27_ok 0 (by decide)
theorem tX28_0 : ∀ C T N, gxCl[25]? = some (C, T, N) → parseFieldDescriptor (T 0).2.2.1 = some (tyX28 0) := by
  intro C T N e
  cases e
  exact tyX28_ok 0 (by decide)
theorem tX29_0 : ∀ C T N, gxCl[26]? = some (C, T, N) → parseFieldDescriptor (T 0).2.2.1 = some (tyX29 0) := by
  intro C T N e
  cases e
  exact tyX29_ok 0 (by decide)
theorem tX31_0 : ∀ C T N, gxCl[27]? = some (C, T, N) → parseFieldDescriptor (T 0).2.2.1 = some (tyX31 0) := by
  intro C T N e
  cases e
  exact tyX31_ok 0 (by decide)
theorem tX31_1 : ∀ C T N, gxCl[27]? = some (C, T, N) → parseFieldDescriptor (T 1).2.2.1 = some (tyX31 1) := by
  intro C T N e
  cases e
  exact tyX31_ok 1 (by decide)
theorem tX31_2 : ∀ C T N, gxCl[27]? = some (C, T, N) → parseFieldDescriptor (T 2).2.2.1 = some (tyX31 2) := by
  intro C T N e
  cases e
  exact tyX31_ok 2 (by decide)
theorem tX32_0 : ∀ C T N, gxCl[28]? = some (C, T, N) → parseFieldDescriptor (T 0).2.2.1 = some (tyX32 0) := by
  intro C T N e
  cases e
  exact tyX32_ok 0 (by decide)
theorem tX32_1 : ∀ C T N, gxCl[28]? = some (C, T, N) → parseFieldDescriptor (T 1).2.2.1 = some (tyX32 1) := by
  intro C T N e
  cases e
  exact tyX32_ok 1 (by decide)
theorem tX33_0 : ∀ C T N, gxCl[29]? = some (C, T, N) → parseFieldDescriptor (T 0).2.2.1 = some (tyX33 0) := by
  intro C T N e
  cases e
  exact tyX33_ok 0 (by decide)
theorem tX35_0 : ∀ C T N, gxCl[31]? = some (C, T, N) → parseFieldDescriptor (T 0).2.2.1 = some (tyX35 0) := by
  intro C T N e
  cases e
  exact tyX35_ok 0 (by decide)
theorem tX35_1 : ∀ C T N, gxCl[31]? = some (C, T, N) → parseFieldDescriptor (T 1).2.2.1 = some (tyX35 1) := by
  intro C T N e
  cases e
  exact tyX35_ok 1 (by decide)
theorem tX35_2 : ∀ C T N, gxCl[31]? = some (C, T, N) → parseFieldDescriptor (T 2).2.2.1 = some (tyX35 2) := by
  intro C T N e
  cases e
  exact tyX35_ok 2 (by decide)
theorem tJ2_0 : ∀ C T N, gxCl[32]? = some (C, T, N) → parseFieldDescriptor (T 0).2.2.1 = some (tyJ2 0) := by
  intro C T N e
  cases e
  exact tyJ2_ok 0 (by decide)
theorem tJ2_1 : ∀ C T N, gxCl[32]? = some (C, T, N) → parseFieldDescriptor (T 1).2.2.1 = some (tyJ2 1) := by
  intro C T N e
  cases e
  exact tyJ2_ok 1 (by decide)
theorem tJ2_2 : ∀ C T N, gxCl[32]? = some (C, T, N) → parseFieldDescriptor (T 2).2.2.1 = some (tyJ2 2) := by
  intro C T N e
  cases e
  exact tyJ2_ok 2 (by decide)
theorem tJ13_0 : ∀ C T N, gxCl[33]? = some (C, T, N) → parseFieldDescriptor (T 0).2.2.1 = some (tyJ13 0) := by
  intro C T N e
  cases e
  exact tyJ13_ok 0 (by decide)
theorem tJ16_0 : ∀ C T N, gxCl[34]? = some (C, T, N) → parseFieldDescriptor (T 0).2.2.1 = some (tyJ16 0) := by
  intro C T N e
  cases e
  exact tyJ16_ok 0 (by decide)
theorem tJ18_0 : ∀ C T N, gxCl[35]? = some (C, T, N) → parseFieldDescriptor (T 0).2.2.1 = some (tyJ18 0) := by
  intro C T N e
  cases e
  exact tyJ18_ok 0 (by decide)
theorem tJ18_1 : ∀ C T N, gxCl[35]? = some (C, T, N) → parseFieldDescriptor (T 1).2.2.1 = some (tyJ18 1) := by
  intro C T N e
  cases e
  exact tyJ18_ok 1 (by decide)
theorem tJ18_2 : ∀ C T N, gxCl[35]? = some (C, T, N) → parseFieldDescriptor (T 2).2.2.1 = some (tyJ18 2) := by
  intro C T N e
  cases e
  exact tyJ18_ok 2 (by decide)
theorem tJ18_3 : ∀ C T N, gxCl[35]? = some (C, T, N) → parseFieldDescriptor (T 3).2.2.1 = some (tyJ18 3) := by
  intro C T N e
  cases e
  exact tyJ18_ok 3 (by decide)
theorem tJ18_4 : ∀ C T N, gxCl[35]? = some (C, T, N) → parseFieldDescriptor (T 4).2.2.1 = some (tyJ18 4) := by
  intro C T N e
  cases e
  exact tyJ18_ok 4 (by decide)
theorem tJ18_5 : ∀ C T N, gxCl[35]? = some (C, T, N) → parseFieldDescriptor (T 5).2.2.1 = some (tyJ18 5) := by
  intro C T N e
  cases e
  exact tyJ18_ok 5 (by decide)
theorem kX10_203 {G : gxG} {Y : gxY} {d d' pc b : Nat} {ls : List (Option Value)} {st : List Value} {h : gxH} {σ : mS} {Q : Outcome → gxH → Prop} {P : Int32 → mS → Prop} {v1 : Value} (hY : Y.1.cls = "PaidSecretsModel") (hM : mMi G mX10_signAt d' [.ref b, v1] h b σ P) (hdd : d' + 1 ≤ d) (hst : (st.map fun v => v.category).sum ≤ 8) (hd : decode Y.2.1 pc = .ok (.invokevirtual 203, 3)) (kr : ∀ r σ1, P r σ1 → gxV G Y d 0 0 (pc + 3) ls (.int r :: st) (mput h b σ1) Q) : gxV G Y d 0 0 pc ls (v1 :: .ref b :: st) (mput h b σ) Q := by
  refine gx_callV (kc := 0) (ks := 0) (mc := 0) (ms := 0) (As := [v1]) hM q2082 q143 (hY ▸ q2079) q2081 qs59 (m_rc rfl) (by decide) (show gxAr "(I)I" 1 by decide +kernel) (by decide) hdd hst hd (gxQi.k ?_) gxQi.t
  rintro r h' ⟨σ', rfl, hp⟩
  exact kr r σ' hp
theorem kX10_225 {G : gxG} {Y : gxY} {d d' pc b : Nat} {ls : List (Option Value)} {st : List Value} {h : gxH} {σ : mS} {Q : Outcome → gxH → Prop} {P : Int32 → mS → Prop}  (hY : Y.1.cls = "PaidSecretsModel") (hM : mMi G mX10_fact d' [.ref b] h b σ P) (hdd : d' + 1 ≤ d) (hst : (st.map fun v => v.category).sum ≤ 8) (hd : decode Y.2.1 pc = .ok (.invokevirtual 225, 3)) (kr : ∀ r σ1, P r σ1 → gxV G Y d 0 0 (pc + 3) ls (.int r :: st) (mput h b σ1) Q) : gxV G Y d 0 0 pc ls (.ref b :: st) (mput h b σ) Q := by
  refine gx_callV (kc := 0) (ks := 0) (mc := 0) (ms := 0) (As := []) hM q2198 q143 (hY ▸ q2195) q2197 qs80 (m_rc rfl) (by decide) (show gxAr "()I" 0 by decide +kernel) (by decide) hdd hst hd (gxQi.k ?_) gxQi.t
  rintro r h' ⟨σ', rfl, hp⟩
  exact kr r σ' hp
theorem kX10_231 {G : gxG} {Y : gxY} {d d' pc b : Nat} {ls : List (Option Value)} {st : List Value} {h : gxH} {σ : mS} {Q : Outcome → gxH → Prop} {P : Int32 → mS → Prop} {v1 : Value} (hY : Y.1.cls = "PaidSecretsModel") (hM : mMi G mX10_isWord d' [.ref b, v1] h b σ P) (hdd : d' + 1 ≤ d) (hst : (st.map fun v => v.category).sum ≤ 8) (hd : decode Y.2.1 pc = .ok (.invokevirtual 231, 3)) (kr : ∀ r σ1, P r σ1 → gxV G Y d 0 0 (pc + 3) ls (.int r :: st) (mput h b σ1) Q) : gxV G Y d 0 0 pc ls (v1 :: .ref b :: st) (mput h b σ) Q := by
  refine gx_callV (kc := 0) (ks := 0) (mc := 0) (ms := 0) (As := [v1]) hM q2089 q143 (hY ▸ q2086) q2088 qs60 (m_rc rfl) (by decide) (show gxAr "(J)Z" 1 by decide +kernel) (by decide) hdd hst hd (gxQi.k ?_) gxQi.t
  rintro r h' ⟨σ', rfl, hp⟩
  exact kr r σ' hp
theorem kX10_235 {G : gxG} {Y : gxY} {d d' pc b : Nat} {ls : List (Option Value)} {st : List Value} {h : gxH} {σ : mS} {Q : Outcome → gxH → Prop} {P : Int32 → mS → Prop} {v1 : Value} (hY : Y.1.cls = "PaidSecretsModel") (hM : mMi G mX10_isSign d' [.ref b, v1] h b σ P) (hdd : d' + 1 ≤ d) (hst : (st.map fun v => v.category).sum ≤ 8) (hd : decode Y.2.1 pc = .ok (.invokevirtual 235, 3)) (kr : ∀ r σ1, P r σ1 → gxV G Y d 0 0 (pc + 3) ls (.int r :: st) (mput h b σ1) Q) : gxV G Y d 0 0 pc ls (v1 :: .ref b :: st) (mput h b σ) Q := by
  refine gx_callV (kc := 0) (ks := 0) (mc := 0) (ms := 0) (As := [v1]) hM q2162 q143 (hY ▸ q2159) q2161 qs71 (m_rc rfl) (by decide) (show gxAr "(I)Z" 1 by decide +kernel) (by decide) hdd hst hd (gxQi.k ?_) gxQi.t
  rintro r h' ⟨σ', rfl, hp⟩
  exact kr r σ' hp
theorem kX10_239 {G : gxG} {Y : gxY} {d d' pc b : Nat} {ls : List (Option Value)} {st : List Value} {h : gxH} {σ : mS} {Q : Outcome → gxH → Prop} {P : Int32 → mS → Prop} {v1 : Value} (hY : Y.1.cls = "PaidSecretsModel") (hM : mMi G mX10_fails d' [.ref b, v1] h b σ P) (hdd : d' + 1 ≤ d) (hst : (st.map fun v => v.category).sum ≤ 8) (hd : decode Y.2.1 pc = .ok (.invokevirtual 239, 3)) (kr : ∀ r σ1, P r σ1 → gxV G Y d 0 0 (pc + 3) ls (.int r :: st) (mput h b σ1) Q) : gxV G Y d 0 0 pc ls (v1 :: .ref b :: st) (mput h b σ) Q := by
  refine gx_callV (kc := 0) (ks := 0) (mc := 0) (ms := 0) (As := [v1]) hM q2097 q143 (hY ▸ q2094) q2096 qs62 (m_rc rfl) (by decide) (show gxAr "(I)Z" 1 by decide +kernel) (by decide) hdd hst hd (gxQi.k ?_) gxQi.t
  rintro r h' ⟨σ', rfl, hp⟩
  exact kr r σ' hp
theorem kX10_242 {G : gxG} {Y : gxY} {d d' pc b : Nat} {ls : List (Option Value)} {st : List Value} {h : gxH} {σ : mS} {Q : Outcome → gxH → Prop} {P : mS → Prop} {v1 : Value} (hY : Y.1.cls = "PaidSecretsModel") (hM : mMv G mX10_puts d' [.ref b, v1] h b σ P) (hdd : d' + 1 ≤ d) (hst : (st.map fun v => v.category).sum ≤ 8) (hd : decode Y.2.1 pc = .ok (.invokevirtual 242, 3)) (kr : ∀ σ1, P σ1 → gxV G Y d 0 0 (pc + 3) ls st (mput h b σ1) Q) : gxV G Y d 0 0 pc ls (v1 :: .ref b :: st) (mput h b σ) Q := by
  refine gx_callV (kc := 0) (ks := 0) (mc := 0) (ms := 0) (As := [v1]) hM q2206 q143 (hY ▸ q2203) q2205 qs81 (m_rc rfl) (by decide) (show gxAr "(I)V" 1 by decide +kernel) (by decide) hdd hst hd (gxQv.k ?_) gxQv.t
  rintro h' ⟨σ', rfl, hp⟩
  exact kr σ' hp
theorem kX10_246 {G : gxG} {Y : gxY} {d d' pc b : Nat} {ls : List (Option Value)} {st : List Value} {h : gxH} {σ : mS} {Q : Outcome → gxH → Prop} {P : mS → Prop}  (hY : Y.1.cls = "PaidSecretsModel") (hM : mMv G mX10_nextToken d' [.ref b] h b σ P) (hdd : d' + 1 ≤ d) (hst : (st.map fun v => v.category).sum ≤ 8) (hd : decode Y.2.1 pc = .ok (.invokevirtual 246, 3)) (kr : ∀ σ1, P σ1 → gxV G Y d 0 0 (pc + 3) ls st (mput h b σ1) Q) : gxV G Y d 0 0 pc ls (.ref b :: st) (mput h b σ) Q := by
  refine gx_callV (kc := 0) (ks := 0) (mc := 0) (ms := 0) (As := []) hM q2078 q143 (hY ▸ q2075) q2077 qs58 (m_rc rfl) (by decide) (show gxAr "()V" 0 by decide +kernel) (by decide) hdd hst hd (gxQv.k ?_) gxQv.t
  rintro h' ⟨σ', rfl, hp⟩
  exact kr σ' hp
theorem kX10_253 {G : gxG} {Y : gxY} {d d' pc b : Nat} {ls : List (Option Value)} {st : List Value} {h : gxH} {σ : mS} {Q : Outcome → gxH → Prop} {P : mS → Prop} {v1 : Value} (hY : Y.1.cls = "PaidSecretsModel") (hM : mMv G mX10_sums d' [.ref b, v1] h b σ P) (hdd : d' + 1 ≤ d) (hst : (st.map fun v => v.category).sum ≤ 8) (hd : decode Y.2.1 pc = .ok (.invokevirtual 253, 3)) (kr : ∀ σ1, P σ1 → gxV G Y d 0 0 (pc + 3) ls st (mput h b σ1) Q) : gxV G Y d 0 0 pc ls (v1 :: .ref b :: st) (mput h b σ) Q := by
  refine gx_callV (kc := 0) (ks := 0) (mc := 0) (ms := 0) (As := [v1]) hM q2289 q143 (hY ▸ q2286) q2288 qs98 (m_rc rfl) (by decide) (show gxAr "(I)V" 1 by decide +kernel) (by decide) hdd hst hd (gxQv.k ?_) gxQv.t
  rintro h' ⟨σ', rfl, hp⟩
  exact kr σ' hp
theorem kX10_256 {G : gxG} {Y : gxY} {d d' pc b : Nat} {ls : List (Option Value)} {st : List Value} {h : gxH} {σ : mS} {Q : Outcome → gxH → Prop} {P : mS → Prop} {v1 : Value} (hY : Y.1.cls = "PaidSecretsModel") (hM : mMv G mX10_opens d' [.ref b, v1] h b σ P) (hdd : d' + 1 ≤ d) (hst : (st.map fun v => v.category).sum ≤ 8) (hd : decode Y.2.1 pc = .ok (.invokevirtual 256, 3)) (kr : ∀ σ1, P σ1 → gxV G Y d 0 0 (pc + 3) ls st (mput h b σ1) Q) : gxV G Y d 0 0 pc ls (v1 :: .ref b :: st) (mput h b σ) Q := by
  refine gx_callV (kc := 0) (ks := 0) (mc := 0) (ms := 0) (As := [v1]) hM q2285 q143 (hY ▸ q2282) q2284 qs97 (m_rc rfl) (by decide) (show gxAr "(I)V" 1 by decide +kernel) (by decide) hdd hst hd (gxQv.k ?_) gxQv.t
  rintro h' ⟨σ', rfl, hp⟩
  exact kr σ' hp
theorem kX10_259 {G : gxG} {Y : gxY} {d d' pc b : Nat} {ls : List (Option Value)} {st : List Value} {h : gxH} {σ : mS} {Q : Outcome → gxH → Prop} {P : mS → Prop} {v1 : Value} (hY : Y.1.cls = "PaidSecretsModel") (hM : mMv G mX10_tests d' [.ref b, v1] h b σ P) (hdd : d' + 1 ≤ d) (hst : (st.map fun v => v.category).sum ≤ 8) (hd : decode Y.2.1 pc = .ok (.invokevirtual 259, 3)) (kr : ∀ σ1, P σ1 → gxV G Y d 0 0 (pc + 3) ls st (mput h b σ1) Q) : gxV G Y d 0 0 pc ls (v1 :: .ref b :: st) (mput h b σ) Q := by
  refine gx_callV (kc := 0) (ks := 0) (mc := 0) (ms := 0) (As := [v1]) hM q2293 q143 (hY ▸ q2290) q2292 qs99 (m_rc rfl) (by decide) (show gxAr "(I)V" 1 by decide +kernel) (by decide) hdd hst hd (gxQv.k ?_) gxQv.t
  rintro h' ⟨σ', rfl, hp⟩
  exact kr σ' hp
theorem kX10_304 {G : gxG} {Y : gxY} {d d' pc b : Nat} {ls : List (Option Value)} {st : List Value} {h : gxH} {σ : mS} {Q : Outcome → gxH → Prop} {P : Int32 → mS → Prop} {v1 v2 v3 v4 : Value} (hY : Y.1.cls = "PaidSecretsModel") (hM : mMi G mX10_named d' [v1, v2, v3, v4] h b σ P) (hdd : d' + 1 ≤ d) (hst : (st.map fun v => v.category).sum ≤ 8) (hd : decode Y.2.1 pc = .ok (.invokestatic 304, 3)) (kr : ∀ r σ1, P r σ1 → gxV G Y d 0 0 (pc + 3) ls (.int r :: st) (mput h b σ1) Q) : gxV G Y d 0 0 pc ls (v4 :: v3 :: v2 :: v1 :: st) (mput h b σ) Q := by
  refine gx_callS (kc := 0) (ks := 0) (mc := 0) (ms := 0) (As := [v1, v2, v3, v4]) hM q2135 q143 (hY ▸ q2133) q2134 (by decide) (show gxAr "([JIIJ)I" 4 by decide +kernel) (by decide) hdd hst hd (gxQi.k ?_) gxQi.t
  rintro r h' ⟨σ', rfl, hp⟩
  exact kr r σ' hp
theorem kX10_308 {G : gxG} {Y : gxY} {d d' pc b : Nat} {ls : List (Option Value)} {st : List Value} {h : gxH} {σ : mS} {Q : Outcome → gxH → Prop} {P : Int32 → mS → Prop} {v1 v2 v3 : Value} (hY : Y.1.cls = "PaidSecretsModel") (hM : mMi G mX10_within d' [v1, v2, v3] h b σ P) (hdd : d' + 1 ≤ d) (hst : (st.map fun v => v.category).sum ≤ 8) (hd : decode Y.2.1 pc = .ok (.invokestatic 308, 3)) (kr : ∀ r σ1, P r σ1 → gxV G Y d 0 0 (pc + 3) ls (.int r :: st) (mput h b σ1) Q) : gxV G Y d 0 0 pc ls (v3 :: v2 :: v1 :: st) (mput h b σ) Q := by
  refine gx_callS (kc := 0) (ks := 0) (mc := 0) (ms := 0) (As := [v1, v2, v3]) hM q2154 q143 (hY ▸ q2152) q2153 (by decide) (show gxAr "(III)Z" 3 by decide +kernel) (by decide) hdd hst hd (gxQi.k ?_) gxQi.t
  rintro r h' ⟨σ', rfl, hp⟩
  exact kr r σ' hp
theorem kX10_315 {G : gxG} {Y : gxY} {d d' pc b : Nat} {ls : List (Option Value)} {st : List Value} {h : gxH} {σ : mS} {Q : Outcome → gxH → Prop} {P : Int32 → mS → Prop} {v1 : Value} (hY : Y.1.cls = "PaidSecretsModel") (hM : mMi G mX10_needsWord d' [.ref b, v1] h b σ P) (hdd : d' + 1 ≤ d) (hst : (st.map fun v => v.category).sum ≤ 8) (hd : decode Y.2.1 pc = .ok (.invokevirtual 315, 3)) (kr : ∀ r σ1, P r σ1 → gxV G Y d 0 0 (pc + 3) ls (.int r :: st) (mput h b σ1) Q) : gxV G Y d 0 0 pc ls (v1 :: .ref b :: st) (mput h b σ) Q := by
  refine gx_callV (kc := 0) (ks := 0) (mc := 0) (ms := 0) (As := [v1]) hM q2147 q143 (hY ▸ q2144) q2146 qs68 (m_rc rfl) (by decide) (show gxAr "(J)Z" 1 by decide +kernel) (by decide) hdd hst hd (gxQi.k ?_) gxQi.t
  rintro r h' ⟨σ', rfl, hp⟩
  exact kr r σ' hp
theorem kX10_318 {G : gxG} {Y : gxY} {d d' pc b : Nat} {ls : List (Option Value)} {st : List Value} {h : gxH} {σ : mS} {Q : Outcome → gxH → Prop} {P : Int32 → mS → Prop} {v1 v2 : Value} (hY : Y.1.cls = "PaidSecretsModel") (hM : mMi G mX10_needsNumber d' [.ref b, v1, v2] h b σ P) (hdd : d' + 1 ≤ d) (hst : (st.map fun v => v.category).sum ≤ 8) (hd : decode Y.2.1 pc = .ok (.invokevirtual 318, 3)) (kr : ∀ r σ1, P r σ1 → gxV G Y d 0 0 (pc + 3) ls (.int r :: st) (mput h b σ1) Q) : gxV G Y d 0 0 pc ls (v2 :: v1 :: .ref b :: st) (mput h b σ) Q := by
  refine gx_callV (kc := 0) (ks := 0) (mc := 0) (ms := 0) (As := [v1, v2]) hM q2151 q143 (hY ▸ q2148) q2150 qs69 (m_rc rfl) (by decide) (show gxAr "(II)Z" 2 by decide +kernel) (by decide) hdd hst hd (gxQi.k ?_) gxQi.t
  rintro r h' ⟨σ', rfl, hp⟩
  exact kr r σ' hp
theorem kX10_322 {G : gxG} {Y : gxY} {d d' pc b : Nat} {ls : List (Option Value)} {st : List Value} {h : gxH} {σ : mS} {Q : Outcome → gxH → Prop} {P : Int32 → mS → Prop}  (hY : Y.1.cls = "PaidSecretsModel") (hM : mMi G mX10_isKept d' [.ref b] h b σ P) (hdd : d' + 1 ≤ d) (hst : (st.map fun v => v.category).sum ≤ 8) (hd : decode Y.2.1 pc = .ok (.invokevirtual 322, 3)) (kr : ∀ r σ1, P r σ1 → gxV G Y d 0 0 (pc + 3) ls (.int r :: st) (mput h b σ1) Q) : gxV G Y d 0 0 pc ls (.ref b :: st) (mput h b σ) Q := by
  refine gx_callV (kc := 0) (ks := 0) (mc := 0) (ms := 0) (As := []) hM q2105 q143 (hY ▸ q2102) q2104 qs64 (m_rc rfl) (by decide) (show gxAr "()Z" 0 by decide +kernel) (by decide) hdd hst hd (gxQi.k ?_) gxQi.t
  rintro r h' ⟨σ', rfl, hp⟩
  exact kr r σ' hp
theorem kX10_326 {G : gxG} {Y : gxY} {d d' pc b : Nat} {ls : List (Option Value)} {st : List Value} {h : gxH} {σ : mS} {Q : Outcome → gxH → Prop} {P : Int32 → mS → Prop} {v1 : Value} (hY : Y.1.cls = "PaidSecretsModel") (hM : mMi G mX10_personNamed d' [.ref b, v1] h b σ P) (hdd : d' + 1 ≤ d) (hst : (st.map fun v => v.category).sum ≤ 8) (hd : decode Y.2.1 pc = .ok (.invokevirtual 326, 3)) (kr : ∀ r σ1, P r σ1 → gxV G Y d 0 0 (pc + 3) ls (.int r :: st) (mput h b σ1) Q) : gxV G Y d 0 0 pc ls (v1 :: .ref b :: st) (mput h b σ) Q := by
  refine gx_callV (kc := 0) (ks := 0) (mc := 0) (ms := 0) (As := [v1]) hM q2132 q143 (hY ▸ q2129) q2131 qs65 (m_rc rfl) (by decide) (show gxAr "(I)I" 1 by decide +kernel) (by decide) hdd hst hd (gxQi.k ?_) gxQi.t
  rintro r h' ⟨σ', rfl, hp⟩
  exact kr r σ' hp
theorem kX10_329 {G : gxG} {Y : gxY} {d d' pc b : Nat} {ls : List (Option Value)} {st : List Value} {h : gxH} {σ : mS} {Q : Outcome → gxH → Prop} {P : Int32 → mS → Prop} {v1 : Value} (hY : Y.1.cls = "PaidSecretsModel") (hM : mMi G mX10_secretNamed d' [.ref b, v1] h b σ P) (hdd : d' + 1 ≤ d) (hst : (st.map fun v => v.category).sum ≤ 8) (hd : decode Y.2.1 pc = .ok (.invokevirtual 329, 3)) (kr : ∀ r σ1, P r σ1 → gxV G Y d 0 0 (pc + 3) ls (.int r :: st) (mput h b σ1) Q) : gxV G Y d 0 0 pc ls (v1 :: .ref b :: st) (mput h b σ) Q := by
  refine gx_callV (kc := 0) (ks := 0) (mc := 0) (ms := 0) (As := [v1]) hM q2139 q143 (hY ▸ q2136) q2138 qs66 (m_rc rfl) (by decide) (show gxAr "(I)I" 1 by decide +kernel) (by decide) hdd hst hd (gxQi.k ?_) gxQi.t
  rintro r h' ⟨σ', rfl, hp⟩
  exact kr r σ' hp
theorem kX10_332 {G : gxG} {Y : gxY} {d d' pc b : Nat} {ls : List (Option Value)} {st : List Value} {h : gxH} {σ : mS} {Q : Outcome → gxH → Prop} {P : Int32 → mS → Prop}  (hY : Y.1.cls = "PaidSecretsModel") (hM : mMi G mX10_isNew d' [.ref b] h b σ P) (hdd : d' + 1 ≤ d) (hst : (st.map fun v => v.category).sum ≤ 8) (hd : decode Y.2.1 pc = .ok (.invokevirtual 332, 3)) (kr : ∀ r σ1, P r σ1 → gxV G Y d 0 0 (pc + 3) ls (.int r :: st) (mput h b σ1) Q) : gxV G Y d 0 0 pc ls (.ref b :: st) (mput h b σ) Q := by
  refine gx_callV (kc := 0) (ks := 0) (mc := 0) (ms := 0) (As := []) hM q2101 q143 (hY ▸ q2098) q2100 qs63 (m_rc rfl) (by decide) (show gxAr "()Z" 0 by decide +kernel) (by decide) hdd hst hd (gxQi.k ?_) gxQi.t
  rintro r h' ⟨σ', rfl, hp⟩
  exact kr r σ' hp
theorem kX10_335 {G : gxG} {Y : gxY} {d d' pc b : Nat} {ls : List (Option Value)} {st : List Value} {h : gxH} {σ : mS} {Q : Outcome → gxH → Prop} {P : Int32 → mS → Prop} {v1 v2 v3 : Value} (hY : Y.1.cls = "PaidSecretsModel") (hM : mMi G mX10_needsBoth d' [.ref b, v1, v2, v3] h b σ P) (hdd : d' + 1 ≤ d) (hst : (st.map fun v => v.category).sum ≤ 8) (hd : decode Y.2.1 pc = .ok (.invokevirtual 335, 3)) (kr : ∀ r σ1, P r σ1 → gxV G Y d 0 0 (pc + 3) ls (.int r :: st) (mput h b σ1) Q) : gxV G Y d 0 0 pc ls (v3 :: v2 :: v1 :: .ref b :: st) (mput h b σ) Q := by
  refine gx_callV (kc := 0) (ks := 0) (mc := 0) (ms := 0) (As := [v1, v2, v3]) hM q2143 q143 (hY ▸ q2140) q2142 qs67 (m_rc rfl) (by decide) (show gxAr "(JII)Z" 3 by decide +kernel) (by decide) hdd hst hd (gxQi.k ?_) gxQi.t
  rintro r h' ⟨σ', rfl, hp⟩
  exact kr r σ' hp
theorem kX10_339 {G : gxG} {Y : gxY} {d d' pc b : Nat} {ls : List (Option Value)} {st : List Value} {h : gxH} {σ : mS} {Q : Outcome → gxH → Prop} {P : Int32 → mS → Prop}  (hY : Y.1.cls = "PaidSecretsModel") (hM : mMi G mX10_closes d' [.ref b] h b σ P) (hdd : d' + 1 ≤ d) (hst : (st.map fun v => v.category).sum ≤ 8) (hd : decode Y.2.1 pc = .ok (.invokevirtual 339, 3)) (kr : ∀ r σ1, P r σ1 → gxV G Y d 0 0 (pc + 3) ls (.int r :: st) (mput h b σ1) Q) : gxV G Y d 0 0 pc ls (.ref b :: st) (mput h b σ) Q := by
  refine gx_callV (kc := 0) (ks := 0) (mc := 0) (ms := 0) (As := []) hM q2158 q143 (hY ▸ q2155) q2157 qs70 (m_rc rfl) (by decide) (show gxAr "()Z" 0 by decide +kernel) (by decide) hdd hst hd (gxQi.k ?_) gxQi.t
  rintro r h' ⟨σ', rfl, hp⟩
  exact kr r σ' hp
theorem kX10_342 {G : gxG} {Y : gxY} {d d' pc b : Nat} {ls : List (Option Value)} {st : List Value} {h : gxH} {σ : mS} {Q : Outcome → gxH → Prop} {P : Int32 → mS → Prop} {v1 : Value} (hY : Y.1.cls = "PaidSecretsModel") (hM : mMi G mX10_needsPerson d' [.ref b, v1] h b σ P) (hdd : d' + 1 ≤ d) (hst : (st.map fun v => v.category).sum ≤ 8) (hd : decode Y.2.1 pc = .ok (.invokevirtual 342, 3)) (kr : ∀ r σ1, P r σ1 → gxV G Y d 0 0 (pc + 3) ls (.int r :: st) (mput h b σ1) Q) : gxV G Y d 0 0 pc ls (v1 :: .ref b :: st) (mput h b σ) Q := by
  refine gx_callV (kc := 0) (ks := 0) (mc := 0) (ms := 0) (As := [v1]) hM q2170 q143 (hY ▸ q2167) q2169 qs73 (m_rc rfl) (by decide) (show gxAr "(I)Z" 1 by decide +kernel) (by decide) hdd hst hd (gxQi.k ?_) gxQi.t
  rintro r h' ⟨σ', rfl, hp⟩
  exact kr r σ' hp
theorem kX10_345 {G : gxG} {Y : gxY} {d d' pc b : Nat} {ls : List (Option Value)} {st : List Value} {h : gxH} {σ : mS} {Q : Outcome → gxH → Prop} {P : Int32 → mS → Prop} {v1 : Value} (hY : Y.1.cls = "PaidSecretsModel") (hM : mMi G mX10_needsSecret d' [.ref b, v1] h b σ P) (hdd : d' + 1 ≤ d) (hst : (st.map fun v => v.category).sum ≤ 8) (hd : decode Y.2.1 pc = .ok (.invokevirtual 345, 3)) (kr : ∀ r σ1, P r σ1 → gxV G Y d 0 0 (pc + 3) ls (.int r :: st) (mput h b σ1) Q) : gxV G Y d 0 0 pc ls (v1 :: .ref b :: st) (mput h b σ) Q := by
  refine gx_callV (kc := 0) (ks := 0) (mc := 0) (ms := 0) (As := [v1]) hM q2174 q143 (hY ▸ q2171) q2173 qs74 (m_rc rfl) (by decide) (show gxAr "(I)Z" 1 by decide +kernel) (by decide) hdd hst hd (gxQi.k ?_) gxQi.t
  rintro r h' ⟨σ', rfl, hp⟩
  exact kr r σ' hp
theorem kX10_348 {G : gxG} {Y : gxY} {d d' pc b : Nat} {ls : List (Option Value)} {st : List Value} {h : gxH} {σ : mS} {Q : Outcome → gxH → Prop} {P : Int32 → mS → Prop} {v1 : Value} (hY : Y.1.cls = "PaidSecretsModel") (hM : mMi G mX10_readsKnowers d' [.ref b, v1] h b σ P) (hdd : d' + 1 ≤ d) (hst : (st.map fun v => v.category).sum ≤ 8) (hd : decode Y.2.1 pc = .ok (.invokevirtual 348, 3)) (kr : ∀ r σ1, P r σ1 → gxV G Y d 0 0 (pc + 3) ls (.int r :: st) (mput h b σ1) Q) : gxV G Y d 0 0 pc ls (v1 :: .ref b :: st) (mput h b σ) Q := by
  refine gx_callV (kc := 0) (ks := 0) (mc := 0) (ms := 0) (As := [v1]) hM q2178 q143 (hY ▸ q2175) q2177 qs75 (m_rc rfl) (by decide) (show gxAr "(I)Z" 1 by decide +kernel) (by decide) hdd hst hd (gxQi.k ?_) gxQi.t
  rintro r h' ⟨σ', rfl, hp⟩
  exact kr r σ' hp
theorem kX10_351 {G : gxG} {Y : gxY} {d d' pc b : Nat} {ls : List (Option Value)} {st : List Value} {h : gxH} {σ : mS} {Q : Outcome → gxH → Prop} {P : Int32 → mS → Prop}  (hY : Y.1.cls = "PaidSecretsModel") (hM : mMi G mX10_reads d' [.ref b] h b σ P) (hdd : d' + 1 ≤ d) (hst : (st.map fun v => v.category).sum ≤ 8) (hd : decode Y.2.1 pc = .ok (.invokevirtual 351, 3)) (kr : ∀ r σ1, P r σ1 → gxV G Y d 0 0 (pc + 3) ls (.int r :: st) (mput h b σ1) Q) : gxV G Y d 0 0 pc ls (.ref b :: st) (mput h b σ) Q := by
  refine gx_callV (kc := 0) (ks := 0) (mc := 0) (ms := 0) (As := []) hM q2194 q143 (hY ▸ q2191) q2193 qs79 (m_rc rfl) (by decide) (show gxAr "()Z" 0 by decide +kernel) (by decide) hdd hst hd (gxQi.k ?_) gxQi.t
  rintro r h' ⟨σ', rfl, hp⟩
  exact kr r σ' hp
theorem kX10_354 {G : gxG} {Y : gxY} {d d' pc b : Nat} {ls : List (Option Value)} {st : List Value} {h : gxH} {σ : mS} {Q : Outcome → gxH → Prop} {P : mS → Prop}  (hY : Y.1.cls = "PaidSecretsModel") (hM : mMv G mX10_starts d' [.ref b] h b σ P) (hdd : d' + 1 ≤ d) (hst : (st.map fun v => v.category).sum ≤ 8) (hd : decode Y.2.1 pc = .ok (.invokevirtual 354, 3)) (kr : ∀ σ1, P σ1 → gxV G Y d 0 0 (pc + 3) ls st (mput h b σ1) Q) : gxV G Y d 0 0 pc ls (.ref b :: st) (mput h b σ) Q := by
  refine gx_callV (kc := 0) (ks := 0) (mc := 0) (ms := 0) (As := []) hM q2074 q143 (hY ▸ q2071) q2073 qs57 (m_rc rfl) (by decide) (show gxAr "()V" 0 by decide +kernel) (by decide) hdd hst hd (gxQv.k ?_) gxQv.t
  rintro h' ⟨σ', rfl, hp⟩
  exact kr σ' hp
theorem kX10_357 {G : gxG} {Y : gxY} {d d' pc b : Nat} {ls : List (Option Value)} {st : List Value} {h : gxH} {σ : mS} {Q : Outcome → gxH → Prop} {P : Int32 → mS → Prop}  (hY : Y.1.cls = "PaidSecretsModel") (hM : mMi G mX10_readsPerson d' [.ref b] h b σ P) (hdd : d' + 1 ≤ d) (hst : (st.map fun v => v.category).sum ≤ 8) (hd : decode Y.2.1 pc = .ok (.invokevirtual 357, 3)) (kr : ∀ r σ1, P r σ1 → gxV G Y d 0 0 (pc + 3) ls (.int r :: st) (mput h b σ1) Q) : gxV G Y d 0 0 pc ls (.ref b :: st) (mput h b σ) Q := by
  refine gx_callV (kc := 0) (ks := 0) (mc := 0) (ms := 0) (As := []) hM q2093 q143 (hY ▸ q2090) q2092 qs61 (m_rc rfl) (by decide) (show gxAr "()Z" 0 by decide +kernel) (by decide) hdd hst hd (gxQi.k ?_) gxQi.t
  rintro r h' ⟨σ', rfl, hp⟩
  exact kr r σ' hp
theorem kX10_360 {G : gxG} {Y : gxY} {d d' pc b : Nat} {ls : List (Option Value)} {st : List Value} {h : gxH} {σ : mS} {Q : Outcome → gxH → Prop} {P : Int32 → mS → Prop}  (hY : Y.1.cls = "PaidSecretsModel") (hM : mMi G mX10_readsSecret d' [.ref b] h b σ P) (hdd : d' + 1 ≤ d) (hst : (st.map fun v => v.category).sum ≤ 8) (hd : decode Y.2.1 pc = .ok (.invokevirtual 360, 3)) (kr : ∀ r σ1, P r σ1 → gxV G Y d 0 0 (pc + 3) ls (.int r :: st) (mput h b σ1) Q) : gxV G Y d 0 0 pc ls (.ref b :: st) (mput h b σ) Q := by
  refine gx_callV (kc := 0) (ks := 0) (mc := 0) (ms := 0) (As := []) hM q2166 q143 (hY ▸ q2163) q2165 qs72 (m_rc rfl) (by decide) (show gxAr "()Z" 0 by decide +kernel) (by decide) hdd hst hd (gxQi.k ?_) gxQi.t
  rintro r h' ⟨σ', rfl, hp⟩
  exact kr r σ' hp
theorem kX10_363 {G : gxG} {Y : gxY} {d d' pc b : Nat} {ls : List (Option Value)} {st : List Value} {h : gxH} {σ : mS} {Q : Outcome → gxH → Prop} {P : Int32 → mS → Prop}  (hY : Y.1.cls = "PaidSecretsModel") (hM : mMi G mX10_readsEar d' [.ref b] h b σ P) (hdd : d' + 1 ≤ d) (hst : (st.map fun v => v.category).sum ≤ 8) (hd : decode Y.2.1 pc = .ok (.invokevirtual 363, 3)) (kr : ∀ r σ1, P r σ1 → gxV G Y d 0 0 (pc + 3) ls (.int r :: st) (mput h b σ1) Q) : gxV G Y d 0 0 pc ls (.ref b :: st) (mput h b σ) Q := by
  refine gx_callV (kc := 0) (ks := 0) (mc := 0) (ms := 0) (As := []) hM q2182 q143 (hY ▸ q2179) q2181 qs76 (m_rc rfl) (by decide) (show gxAr "()Z" 0 by decide +kernel) (by decide) hdd hst hd (gxQi.k ?_) gxQi.t
  rintro r h' ⟨σ', rfl, hp⟩
  exact kr r σ' hp
theorem kX10_366 {G : gxG} {Y : gxY} {d d' pc b : Nat} {ls : List (Option Value)} {st : List Value} {h : gxH} {σ : mS} {Q : Outcome → gxH → Prop} {P : Int32 → mS → Prop}  (hY : Y.1.cls = "PaidSecretsModel") (hM : mMi G mX10_readsClash d' [.ref b] h b σ P) (hdd : d' + 1 ≤ d) (hst : (st.map fun v => v.category).sum ≤ 8) (hd : decode Y.2.1 pc = .ok (.invokevirtual 366, 3)) (kr : ∀ r σ1, P r σ1 → gxV G Y d 0 0 (pc + 3) ls (.int r :: st) (mput h b σ1) Q) : gxV G Y d 0 0 pc ls (.ref b :: st) (mput h b σ) Q := by
  refine gx_callV (kc := 0) (ks := 0) (mc := 0) (ms := 0) (As := []) hM q2186 q143 (hY ▸ q2183) q2185 qs77 (m_rc rfl) (by decide) (show gxAr "()Z" 0 by decide +kernel) (by decide) hdd hst hd (gxQi.k ?_) gxQi.t
  rintro r h' ⟨σ', rfl, hp⟩
  exact kr r σ' hp
theorem kX10_369 {G : gxG} {Y : gxY} {d d' pc b : Nat} {ls : List (Option Value)} {st : List Value} {h : gxH} {σ : mS} {Q : Outcome → gxH → Prop} {P : Int32 → mS → Prop}  (hY : Y.1.cls = "PaidSecretsModel") (hM : mMi G mX10_readsWorth d' [.ref b] h b σ P) (hdd : d' + 1 ≤ d) (hst : (st.map fun v => v.category).sum ≤ 8) (hd : decode Y.2.1 pc = .ok (.invokevirtual 369, 3)) (kr : ∀ r σ1, P r σ1 → gxV G Y d 0 0 (pc + 3) ls (.int r :: st) (mput h b σ1) Q) : gxV G Y d 0 0 pc ls (.ref b :: st) (mput h b σ) Q := by
  refine gx_callV (kc := 0) (ks := 0) (mc := 0) (ms := 0) (As := []) hM q2190 q143 (hY ▸ q2187) q2189 qs78 (m_rc rfl) (by decide) (show gxAr "()Z" 0 by decide +kernel) (by decide) hdd hst hd (gxQi.k ?_) gxQi.t
  rintro r h' ⟨σ', rfl, hp⟩
  exact kr r σ' hp
theorem kX10_372 {G : gxG} {Y : gxY} {d d' pc b : Nat} {ls : List (Option Value)} {st : List Value} {h : gxH} {σ : mS} {Q : Outcome → gxH → Prop} {P : mS → Prop} {v1 v2 : Value} (hY : Y.1.cls = "PaidSecretsModel") (hM : mMv G mX10_moves d' [v1, v2] h b σ P) (hdd : d' + 1 ≤ d) (hst : (st.map fun v => v.category).sum ≤ 8) (hd : decode Y.2.1 pc = .ok (.invokestatic 372, 3)) (kr : ∀ σ1, P σ1 → gxV G Y d 0 0 (pc + 3) ls st (mput h b σ1) Q) : gxV G Y d 0 0 pc ls (v2 :: v1 :: st) (mput h b σ) Q := by
  refine gx_callS (kc := 0) (ks := 0) (mc := 0) (ms := 0) (As := [v1, v2]) hM q2213 q143 (hY ▸ q2211) q2212 (by decide) (show gxAr "([II)V" 2 by decide +kernel) (by decide) hdd hst hd (gxQv.k ?_) gxQv.t
  rintro h' ⟨σ', rfl, hp⟩
  exact kr σ' hp
theorem kX10_376 {G : gxG} {Y : gxY} {d d' pc b : Nat} {ls : List (Option Value)} {st : List Value} {h : gxH} {σ : mS} {Q : Outcome → gxH → Prop} {P : mS → Prop} {v1 v2 : Value} (hY : Y.1.cls = "PaidSecretsModel") (hM : mMv G mX10_movesNames d' [v1, v2] h b σ P) (hdd : d' + 1 ≤ d) (hst : (st.map fun v => v.category).sum ≤ 8) (hd : decode Y.2.1 pc = .ok (.invokestatic 376, 3)) (kr : ∀ σ1, P σ1 → gxV G Y d 0 0 (pc + 3) ls st (mput h b σ1) Q) : gxV G Y d 0 0 pc ls (v2 :: v1 :: st) (mput h b σ) Q := by
  refine gx_callS (kc := 0) (ks := 0) (mc := 0) (ms := 0) (As := [v1, v2]) hM q2216 q143 (hY ▸ q2214) q2215 (by decide) (show gxAr "([JI)V" 2 by decide +kernel) (by decide) hdd hst hd (gxQv.k ?_) gxQv.t
  rintro h' ⟨σ', rfl, hp⟩
  exact kr σ' hp
theorem kX10_380 {G : gxG} {Y : gxY} {d d' pc b : Nat} {ls : List (Option Value)} {st : List Value} {h : gxH} {σ : mS} {Q : Outcome → gxH → Prop} {P : Int32 → mS → Prop} {v1 : Value} (hY : Y.1.cls = "PaidSecretsModel") (hM : mMi G mX10_readsTelling d' [.ref b, v1] h b σ P) (hdd : d' + 1 ≤ d) (hst : (st.map fun v => v.category).sum ≤ 8) (hd : decode Y.2.1 pc = .ok (.invokevirtual 380, 3)) (kr : ∀ r σ1, P r σ1 → gxV G Y d 0 0 (pc + 3) ls (.int r :: st) (mput h b σ1) Q) : gxV G Y d 0 0 pc ls (v1 :: .ref b :: st) (mput h b σ) Q := by
  refine gx_callV (kc := 0) (ks := 0) (mc := 0) (ms := 0) (As := [v1]) hM q2232 q143 (hY ▸ q2229) q2231 qs85 (m_rc rfl) (by decide) (show gxAr "(I)Z" 1 by decide +kernel) (by decide) hdd hst hd (gxQi.k ?_) gxQi.t
  rintro r h' ⟨σ', rfl, hp⟩
  exact kr r σ' hp
theorem kX10_383 {G : gxG} {Y : gxY} {d d' pc b : Nat} {ls : List (Option Value)} {st : List Value} {h : gxH} {σ : mS} {Q : Outcome → gxH → Prop} {P : Int32 → mS → Prop} {v1 : Value} (hY : Y.1.cls = "PaidSecretsModel") (hM : mMi G mX10_readsPayment d' [.ref b, v1] h b σ P) (hdd : d' + 1 ≤ d) (hst : (st.map fun v => v.category).sum ≤ 8) (hd : decode Y.2.1 pc = .ok (.invokevirtual 383, 3)) (kr : ∀ r σ1, P r σ1 → gxV G Y d 0 0 (pc + 3) ls (.int r :: st) (mput h b σ1) Q) : gxV G Y d 0 0 pc ls (v1 :: .ref b :: st) (mput h b σ) Q := by
  refine gx_callV (kc := 0) (ks := 0) (mc := 0) (ms := 0) (As := [v1]) hM q2236 q143 (hY ▸ q2233) q2235 qs86 (m_rc rfl) (by decide) (show gxAr "(I)Z" 1 by decide +kernel) (by decide) hdd hst hd (gxQi.k ?_) gxQi.t
  rintro r h' ⟨σ', rfl, hp⟩
  exact kr r σ' hp
theorem kX10_386 {G : gxG} {Y : gxY} {d d' pc b : Nat} {ls : List (Option Value)} {st : List Value} {h : gxH} {σ : mS} {Q : Outcome → gxH → Prop} {P : Int32 → mS → Prop} {v1 : Value} (hY : Y.1.cls = "PaidSecretsModel") (hM : mMi G mX10_readsRise d' [.ref b, v1] h b σ P) (hdd : d' + 1 ≤ d) (hst : (st.map fun v => v.category).sum ≤ 8) (hd : decode Y.2.1 pc = .ok (.invokevirtual 386, 3)) (kr : ∀ r σ1, P r σ1 → gxV G Y d 0 0 (pc + 3) ls (.int r :: st) (mput h b σ1) Q) : gxV G Y d 0 0 pc ls (v1 :: .ref b :: st) (mput h b σ) Q := by
  refine gx_callV (kc := 0) (ks := 0) (mc := 0) (ms := 0) (As := [v1]) hM q2240 q143 (hY ▸ q2237) q2239 qs87 (m_rc rfl) (by decide) (show gxAr "(I)Z" 1 by decide +kernel) (by decide) hdd hst hd (gxQi.k ?_) gxQi.t
  rintro r h' ⟨σ', rfl, hp⟩
  exact kr r σ' hp
theorem kX10_389 {G : gxG} {Y : gxY} {d d' pc b : Nat} {ls : List (Option Value)} {st : List Value} {h : gxH} {σ : mS} {Q : Outcome → gxH → Prop} {P : Int32 → mS → Prop}  (hY : Y.1.cls = "PaidSecretsModel") (hM : mMi G mX10_readsAll d' [.ref b] h b σ P) (hdd : d' + 1 ≤ d) (hst : (st.map fun v => v.category).sum ≤ 8) (hd : decode Y.2.1 pc = .ok (.invokevirtual 389, 3)) (kr : ∀ r σ1, P r σ1 → gxV G Y d 0 0 (pc + 3) ls (.int r :: st) (mput h b σ1) Q) : gxV G Y d 0 0 pc ls (.ref b :: st) (mput h b σ) Q := by
  refine gx_callV (kc := 0) (ks := 0) (mc := 0) (ms := 0) (As := []) hM q2070 q143 (hY ▸ q2067) q2069 qs56 (m_rc rfl) (by decide) (show gxAr "()Z" 0 by decide +kernel) (by decide) hdd hst hd (gxQi.k ?_) gxQi.t
  rintro r h' ⟨σ', rfl, hp⟩
  exact kr r σ' hp
theorem kX10_392 {G : gxG} {Y : gxY} {d d' pc b : Nat} {ls : List (Option Value)} {st : List Value} {h : gxH} {σ : mS} {Q : Outcome → gxH → Prop} {P : mS → Prop}  (hY : Y.1.cls = "PaidSecretsModel") (hM : mMv G mX10_lays d' [.ref b] h b σ P) (hdd : d' + 1 ≤ d) (hst : (st.map fun v => v.category).sum ≤ 8) (hd : decode Y.2.1 pc = .ok (.invokevirtual 392, 3)) (kr : ∀ σ1, P σ1 → gxV G Y d 0 0 (pc + 3) ls st (mput h b σ1) Q) : gxV G Y d 0 0 pc ls (.ref b :: st) (mput h b σ) Q := by
  refine gx_callV (kc := 0) (ks := 0) (mc := 0) (ms := 0) (As := []) hM q2210 q143 (hY ▸ q2207) q2209 qs82 (m_rc rfl) (by decide) (show gxAr "()V" 0 by decide +kernel) (by decide) hdd hst hd (gxQv.k ?_) gxQv.t
  rintro h' ⟨σ', rfl, hp⟩
  exact kr σ' hp
theorem kX10_395 {G : gxG} {Y : gxY} {d d' pc b : Nat} {ls : List (Option Value)} {st : List Value} {h : gxH} {σ : mS} {Q : Outcome → gxH → Prop} {P : mS → Prop}  (hY : Y.1.cls = "PaidSecretsModel") (hM : mMv G mX10_fresh d' [.ref b] h b σ P) (hdd : d' + 1 ≤ d) (hst : (st.map fun v => v.category).sum ≤ 8) (hd : decode Y.2.1 pc = .ok (.invokevirtual 395, 3)) (kr : ∀ σ1, P σ1 → gxV G Y d 0 0 (pc + 3) ls st (mput h b σ1) Q) : gxV G Y d 0 0 pc ls (.ref b :: st) (mput h b σ) Q := by
  refine gx_callV (kc := 0) (ks := 0) (mc := 0) (ms := 0) (As := []) hM q2220 q143 (hY ▸ q2217) q2219 qs83 (m_rc rfl) (by decide) (show gxAr "()V" 0 by decide +kernel) (by decide) hdd hst hd (gxQv.k ?_) gxQv.t
  rintro h' ⟨σ', rfl, hp⟩
  exact kr σ' hp
theorem kX10_401 {G : gxG} {Y : gxY} {d d' pc b : Nat} {ls : List (Option Value)} {st : List Value} {h : gxH} {σ : mS} {Q : Outcome → gxH → Prop} {P : Int32 → mS → Prop}  (hY : Y.1.cls = "PaidSecretsModel") (hM : mMi G mX10_readsLine d' [.ref b] h b σ P) (hdd : d' + 1 ≤ d) (hst : (st.map fun v => v.category).sum ≤ 8) (hd : decode Y.2.1 pc = .ok (.invokevirtual 401, 3)) (kr : ∀ r σ1, P r σ1 → gxV G Y d 0 0 (pc + 3) ls (.int r :: st) (mput h b σ1) Q) : gxV G Y d 0 0 pc ls (.ref b :: st) (mput h b σ) Q := by
  refine gx_callV (kc := 0) (ks := 0) (mc := 0) (ms := 0) (As := []) hM q2228 q143 (hY ▸ q2225) q2227 qs84 (m_rc rfl) (by decide) (show gxAr "()Z" 0 by decide +kernel) (by decide) hdd hst hd (gxQi.k ?_) gxQi.t
  rintro r h' ⟨σ', rfl, hp⟩
  exact kr r σ' hp
theorem kX10_404 {G : gxG} {Y : gxY} {d d' pc b : Nat} {ls : List (Option Value)} {st : List Value} {h : gxH} {σ : mS} {Q : Outcome → gxH → Prop} {P : mS → Prop} {v1 v2 : Value} (hY : Y.1.cls = "PaidSecretsModel") (hM : mMv G mX10_laysLines d' [.ref b, v1, v2] h b σ P) (hdd : d' + 1 ≤ d) (hst : (st.map fun v => v.category).sum ≤ 8) (hd : decode Y.2.1 pc = .ok (.invokevirtual 404, 3)) (kr : ∀ σ1, P σ1 → gxV G Y d 0 0 (pc + 3) ls st (mput h b σ1) Q) : gxV G Y d 0 0 pc ls (v2 :: v1 :: .ref b :: st) (mput h b σ) Q := by
  refine gx_callV (kc := 0) (ks := 0) (mc := 0) (ms := 0) (As := [v1, v2]) hM q2244 q143 (hY ▸ q2241) q2243 qs88 (m_rc rfl) (by decide) (show gxAr "(II)V" 2 by decide +kernel) (by decide) hdd hst hd (gxQv.k ?_) gxQv.t
  rintro h' ⟨σ', rfl, hp⟩
  exact kr σ' hp
theorem kX10_408 {G : gxG} {Y : gxY} {d d' pc b : Nat} {ls : List (Option Value)} {st : List Value} {h : gxH} {σ : mS} {Q : Outcome → gxH → Prop} {P : Int32 → mS → Prop} {v1 : Value} (hY : Y.1.cls = "PaidSecretsModel") (hM : mMi G mX10_knowersOf d' [.ref b, v1] h b σ P) (hdd : d' + 1 ≤ d) (hst : (st.map fun v => v.category).sum ≤ 8) (hd : decode Y.2.1 pc = .ok (.invokevirtual 408, 3)) (kr : ∀ r σ1, P r σ1 → gxV G Y d 0 0 (pc + 3) ls (.int r :: st) (mput h b σ1) Q) : gxV G Y d 0 0 pc ls (v1 :: .ref b :: st) (mput h b σ) Q := by
  refine gx_callV (kc := 0) (ks := 0) (mc := 0) (ms := 0) (As := [v1]) hM q2276 q143 (hY ▸ q2273) q2275 qs95 (m_rc rfl) (by decide) (show gxAr "(I)I" 1 by decide +kernel) (by decide) hdd hst hd (gxQi.k ?_) gxQi.t
  rintro r h' ⟨σ', rfl, hp⟩
  exact kr r σ' hp
theorem kX10_411 {G : gxG} {Y : gxY} {d d' pc b : Nat} {ls : List (Option Value)} {st : List Value} {h : gxH} {σ : mS} {Q : Outcome → gxH → Prop} {P : Int32 → mS → Prop} {v1 v2 : Value} (hY : Y.1.cls = "PaidSecretsModel") (hM : mMi G mJ7_max d' [v1, v2] h b σ P) (hdd : d' + 1 ≤ d) (hst : (st.map fun v => v.category).sum ≤ 8) (hd : decode Y.2.1 pc = .ok (.invokestatic 411, 3)) (kr : ∀ r σ1, P r σ1 → gxV G Y d 0 0 (pc + 3) ls (.int r :: st) (mput h b σ1) Q) : gxV G Y d 0 0 pc ls (v2 :: v1 :: st) (mput h b σ) Q := by
  refine gx_callS (kc := 0) (ks := 0) (mc := 0) (ms := 0) (As := [v1, v2]) hM q643 q146 (hY ▸ q2277) q642 (by decide) (show gxAr "(II)I" 2 by decide +kernel) (by decide) hdd hst hd (gxQi.k ?_) gxQi.t
  rintro r h' ⟨σ', rfl, hp⟩
  exact kr r σ' hp
theorem kX10_417 {G : gxG} {Y : gxY} {d d' pc b : Nat} {ls : List (Option Value)} {st : List Value} {h : gxH} {σ : mS} {Q : Outcome → gxH → Prop} {P : Int32 → mS → Prop} {v1 : Value} (hY : Y.1.cls = "PaidSecretsModel") (hM : mMi G mX10_worked d' [.ref b, v1] h b σ P) (hdd : d' + 1 ≤ d) (hst : (st.map fun v => v.category).sum ≤ 8) (hd : decode Y.2.1 pc = .ok (.invokevirtual 417, 3)) (kr : ∀ r σ1, P r σ1 → gxV G Y d 0 0 (pc + 3) ls (.int r :: st) (mput h b σ1) Q) : gxV G Y d 0 0 pc ls (v1 :: .ref b :: st) (mput h b σ) Q := by
  refine gx_callV (kc := 0) (ks := 0) (mc := 0) (ms := 0) (As := [v1]) hM q2281 q143 (hY ▸ q2278) q2280 qs96 (m_rc rfl) (by decide) (show gxAr "(I)I" 1 by decide +kernel) (by decide) hdd hst hd (gxQi.k ?_) gxQi.t
  rintro r h' ⟨σ', rfl, hp⟩
  exact kr r σ' hp
theorem kX10_420 {G : gxG} {Y : gxY} {d d' pc b : Nat} {ls : List (Option Value)} {st : List Value} {h : gxH} {σ : mS} {Q : Outcome → gxH → Prop} {P : Int32 → mS → Prop} {v1 v2 v3 : Value} (hY : Y.1.cls = "PaidSecretsModel") (hM : mMi G mX10_between d' [v1, v2, v3] h b σ P) (hdd : d' + 1 ≤ d) (hst : (st.map fun v => v.category).sum ≤ 8) (hd : decode Y.2.1 pc = .ok (.invokestatic 420, 3)) (kr : ∀ r σ1, P r σ1 → gxV G Y d 0 0 (pc + 3) ls (.int r :: st) (mput h b σ1) Q) : gxV G Y d 0 0 pc ls (v3 :: v2 :: v1 :: st) (mput h b σ) Q := by
  refine gx_callS (kc := 0) (ks := 0) (mc := 0) (ms := 0) (As := [v1, v2, v3]) hM q2296 q143 (hY ▸ q2294) q2295 (by decide) (show gxAr "(III)I" 3 by decide +kernel) (by decide) hdd hst hd (gxQi.k ?_) gxQi.t
  rintro r h' ⟨σ', rfl, hp⟩
  exact kr r σ' hp
theorem kX10_424 {G : gxG} {Y : gxY} {d d' pc b : Nat} {ls : List (Option Value)} {st : List Value} {h : gxH} {σ : mS} {Q : Outcome → gxH → Prop} {P : Int32 → mS → Prop} {v1 v2 : Value} (hY : Y.1.cls = "PaidSecretsModel") (hM : mMi G mX10_baseOf d' [.ref b, v1, v2] h b σ P) (hdd : d' + 1 ≤ d) (hst : (st.map fun v => v.category).sum ≤ 8) (hd : decode Y.2.1 pc = .ok (.invokevirtual 424, 3)) (kr : ∀ r σ1, P r σ1 → gxV G Y d 0 0 (pc + 3) ls (.int r :: st) (mput h b σ1) Q) : gxV G Y d 0 0 pc ls (v2 :: v1 :: .ref b :: st) (mput h b σ) Q := by
  refine gx_callV (kc := 0) (ks := 0) (mc := 0) (ms := 0) (As := [v1, v2]) hM q2272 q143 (hY ▸ q2269) q2271 qs94 (m_rc rfl) (by decide) (show gxAr "(II)I" 2 by decide +kernel) (by decide) hdd hst hd (gxQi.k ?_) gxQi.t
  rintro r h' ⟨σ', rfl, hp⟩
  exact kr r σ' hp
theorem kX10_427 {G : gxG} {Y : gxY} {d d' pc b : Nat} {ls : List (Option Value)} {st : List Value} {h : gxH} {σ : mS} {Q : Outcome → gxH → Prop} {P : Int32 → mS → Prop} {v1 : Value} (hY : Y.1.cls = "PaidSecretsModel") (hM : mMi G mX10_worthOf d' [.ref b, v1] h b σ P) (hdd : d' + 1 ≤ d) (hst : (st.map fun v => v.category).sum ≤ 8) (hd : decode Y.2.1 pc = .ok (.invokevirtual 427, 3)) (kr : ∀ r σ1, P r σ1 → gxV G Y d 0 0 (pc + 3) ls (.int r :: st) (mput h b σ1) Q) : gxV G Y d 0 0 pc ls (v1 :: .ref b :: st) (mput h b σ) Q := by
  refine gx_callV (kc := 0) (ks := 0) (mc := 0) (ms := 0) (As := [v1]) hM q2268 q143 (hY ▸ q2265) q2267 qs93 (m_rc rfl) (by decide) (show gxAr "(I)I" 1 by decide +kernel) (by decide) hdd hst hd (gxQi.k ?_) gxQi.t
  rintro r h' ⟨σ', rfl, hp⟩
  exact kr r σ' hp
theorem kX10_430 {G : gxG} {Y : gxY} {d d' pc b : Nat} {ls : List (Option Value)} {st : List Value} {h : gxH} {σ : mS} {Q : Outcome → gxH → Prop} {P : Int32 → mS → Prop} {v1 : Value} (hY : Y.1.cls = "PaidSecretsModel") (hM : mMi G mX10_knownBy d' [.ref b, v1] h b σ P) (hdd : d' + 1 ≤ d) (hst : (st.map fun v => v.category).sum ≤ 8) (hd : decode Y.2.1 pc = .ok (.invokevirtual 430, 3)) (kr : ∀ r σ1, P r σ1 → gxV G Y d 0 0 (pc + 3) ls (.int r :: st) (mput h b σ1) Q) : gxV G Y d 0 0 pc ls (v1 :: .ref b :: st) (mput h b σ) Q := by
  refine gx_callV (kc := 0) (ks := 0) (mc := 0) (ms := 0) (As := [v1]) hM q2256 q143 (hY ▸ q2253) q2255 qs90 (m_rc rfl) (by decide) (show gxAr "(I)I" 1 by decide +kernel) (by decide) hdd hst hd (gxQi.k ?_) gxQi.t
  rintro r h' ⟨σ', rfl, hp⟩
  exact kr r σ' hp
theorem kX10_433 {G : gxG} {Y : gxY} {d d' pc b : Nat} {ls : List (Option Value)} {st : List Value} {h : gxH} {σ : mS} {Q : Outcome → gxH → Prop} {P : Int32 → mS → Prop} {v1 : Value} (hY : Y.1.cls = "PaidSecretsModel") (hM : mMi G mX10_worthsOf d' [.ref b, v1] h b σ P) (hdd : d' + 1 ≤ d) (hst : (st.map fun v => v.category).sum ≤ 8) (hd : decode Y.2.1 pc = .ok (.invokevirtual 433, 3)) (kr : ∀ r σ1, P r σ1 → gxV G Y d 0 0 (pc + 3) ls (.int r :: st) (mput h b σ1) Q) : gxV G Y d 0 0 pc ls (v1 :: .ref b :: st) (mput h b σ) Q := by
  refine gx_callV (kc := 0) (ks := 0) (mc := 0) (ms := 0) (As := [v1]) hM q2264 q143 (hY ▸ q2261) q2263 qs92 (m_rc rfl) (by decide) (show gxAr "(I)I" 1 by decide +kernel) (by decide) hdd hst hd (gxQi.k ?_) gxQi.t
  rintro r h' ⟨σ', rfl, hp⟩
  exact kr r σ' hp
theorem kX10_436 {G : gxG} {Y : gxY} {d d' pc b : Nat} {ls : List (Option Value)} {st : List Value} {h : gxH} {σ : mS} {Q : Outcome → gxH → Prop} {P : Int32 → mS → Prop} {v1 : Value} (hY : Y.1.cls = "PaidSecretsModel") (hM : mMi G mX10_isPerson d' [.ref b, v1] h b σ P) (hdd : d' + 1 ≤ d) (hst : (st.map fun v => v.category).sum ≤ 8) (hd : decode Y.2.1 pc = .ok (.invokevirtual 436, 3)) (kr : ∀ r σ1, P r σ1 → gxV G Y d 0 0 (pc + 3) ls (.int r :: st) (mput h b σ1) Q) : gxV G Y d 0 0 pc ls (v1 :: .ref b :: st) (mput h b σ) Q := by
  refine gx_callV (kc := 0) (ks := 0) (mc := 0) (ms := 0) (As := [v1]) hM q2252 q143 (hY ▸ q2249) q2251 qs89 (m_rc rfl) (by decide) (show gxAr "(I)Z" 1 by decide +kernel) (by decide) hdd hst hd (gxQi.k ?_) gxQi.t
  rintro r h' ⟨σ', rfl, hp⟩
  exact kr r σ' hp
theorem kX10_439 {G : gxG} {Y : gxY} {d d' pc b : Nat} {ls : List (Option Value)} {st : List Value} {h : gxH} {σ : mS} {Q : Outcome → gxH → Prop} {P : Int32 → mS → Prop} {v1 : Value} (hY : Y.1.cls = "PaidSecretsModel") (hM : mMi G mX10_purse d' [.ref b, v1] h b σ P) (hdd : d' + 1 ≤ d) (hst : (st.map fun v => v.category).sum ≤ 8) (hd : decode Y.2.1 pc = .ok (.invokevirtual 439, 3)) (kr : ∀ r σ1, P r σ1 → gxV G Y d 0 0 (pc + 3) ls (.int r :: st) (mput h b σ1) Q) : gxV G Y d 0 0 pc ls (v1 :: .ref b :: st) (mput h b σ) Q := by
  refine gx_callV (kc := 0) (ks := 0) (mc := 0) (ms := 0) (As := [v1]) hM q2260 q143 (hY ▸ q2257) q2259 qs91 (m_rc rfl) (by decide) (show gxAr "(I)I" 1 by decide +kernel) (by decide) hdd hst hd (gxQi.k ?_) gxQi.t
  rintro r h' ⟨σ', rfl, hp⟩
  exact kr r σ' hp
theorem kX10_442 {G : gxG} {Y : gxY} {d d' pc b : Nat} {ls : List (Option Value)} {st : List Value} {h : gxH} {σ : mS} {Q : Outcome → gxH → Prop} {P : Int32 → mS → Prop} {v1 : Value} (hY : Y.1.cls = "PaidSecretsModel") (hM : mMi G mX10_net d' [.ref b, v1] h b σ P) (hdd : d' + 1 ≤ d) (hst : (st.map fun v => v.category).sum ≤ 8) (hd : decode Y.2.1 pc = .ok (.invokevirtual 442, 3)) (kr : ∀ r σ1, P r σ1 → gxV G Y d 0 0 (pc + 3) ls (.int r :: st) (mput h b σ1) Q) : gxV G Y d 0 0 pc ls (v1 :: .ref b :: st) (mput h b σ) Q := by
  refine gx_callV (kc := 0) (ks := 0) (mc := 0) (ms := 0) (As := [v1]) hM q2300 q143 (hY ▸ q2297) q2299 qs100 (m_rc rfl) (by decide) (show gxAr "(I)I" 1 by decide +kernel) (by decide) hdd hst hd (gxQi.k ?_) gxQi.t
  rintro r h' ⟨σ', rfl, hp⟩
  exact kr r σ' hp
theorem kX10_445 {G : gxG} {Y : gxY} {d d' pc b : Nat} {ls : List (Option Value)} {st : List Value} {h : gxH} {σ : mS} {Q : Outcome → gxH → Prop} {P : Int32 → mS → Prop} {v1 : Value} (hY : Y.1.cls = "PaidSecretsModel") (hM : mMi G mX10_isSecret d' [.ref b, v1] h b σ P) (hdd : d' + 1 ≤ d) (hst : (st.map fun v => v.category).sum ≤ 8) (hd : decode Y.2.1 pc = .ok (.invokevirtual 445, 3)) (kr : ∀ r σ1, P r σ1 → gxV G Y d 0 0 (pc + 3) ls (.int r :: st) (mput h b σ1) Q) : gxV G Y d 0 0 pc ls (v1 :: .ref b :: st) (mput h b σ) Q := by
  refine gx_callV (kc := 0) (ks := 0) (mc := 0) (ms := 0) (As := [v1]) hM q2308 q143 (hY ▸ q2305) q2307 qs101 (m_rc rfl) (by decide) (show gxAr "(I)Z" 1 by decide +kernel) (by decide) hdd hst hd (gxQi.k ?_) gxQi.t
  rintro r h' ⟨σ', rfl, hp⟩
  exact kr r σ' hp
theorem kX10_448 {G : gxG} {Y : gxY} {d d' pc b : Nat} {ls : List (Option Value)} {st : List Value} {h : gxH} {σ : mS} {Q : Outcome → gxH → Prop} {P : Int32 → mS → Prop} {v1 v2 : Value} (hY : Y.1.cls = "PaidSecretsModel") (hM : mMi G mX10_areTwo d' [.ref b, v1, v2] h b σ P) (hdd : d' + 1 ≤ d) (hst : (st.map fun v => v.category).sum ≤ 8) (hd : decode Y.2.1 pc = .ok (.invokevirtual 448, 3)) (kr : ∀ r σ1, P r σ1 → gxV G Y d 0 0 (pc + 3) ls (.int r :: st) (mput h b σ1) Q) : gxV G Y d 0 0 pc ls (v2 :: v1 :: .ref b :: st) (mput h b σ) Q := by
  refine gx_callV (kc := 0) (ks := 0) (mc := 0) (ms := 0) (As := [v1, v2]) hM q2316 q143 (hY ▸ q2313) q2315 qs102 (m_rc rfl) (by decide) (show gxAr "(II)Z" 2 by decide +kernel) (by decide) hdd hst hd (gxQi.k ?_) gxQi.t
  rintro r h' ⟨σ', rfl, hp⟩
  exact kr r σ' hp
theorem kX10_451 {G : gxG} {Y : gxY} {d d' pc b : Nat} {ls : List (Option Value)} {st : List Value} {h : gxH} {σ : mS} {Q : Outcome → gxH → Prop} {P : Int32 → mS → Prop} {v1 v2 : Value} (hY : Y.1.cls = "PaidSecretsModel") (hM : mMi G mJ7_min d' [v1, v2] h b σ P) (hdd : d' + 1 ≤ d) (hst : (st.map fun v => v.category).sum ≤ 8) (hd : decode Y.2.1 pc = .ok (.invokestatic 451, 3)) (kr : ∀ r σ1, P r σ1 → gxV G Y d 0 0 (pc + 3) ls (.int r :: st) (mput h b σ1) Q) : gxV G Y d 0 0 pc ls (v2 :: v1 :: st) (mput h b σ) Q := by
  refine gx_callS (kc := 0) (ks := 0) (mc := 0) (ms := 0) (As := [v1, v2]) hM q646 q146 (hY ▸ q2325) q645 (by decide) (show gxAr "(II)I" 2 by decide +kernel) (by decide) hdd hst hd (gxQi.k ?_) gxQi.t
  rintro r h' ⟨σ', rfl, hp⟩
  exact kr r σ' hp
theorem kX10_454 {G : gxG} {Y : gxY} {d d' pc b : Nat} {ls : List (Option Value)} {st : List Value} {h : gxH} {σ : mS} {Q : Outcome → gxH → Prop} {P : Int32 → mS → Prop} {v1 : Value} (hY : Y.1.cls = "PaidSecretsModel") (hM : mMi G mX10_chanceOf d' [.ref b, v1] h b σ P) (hdd : d' + 1 ≤ d) (hst : (st.map fun v => v.category).sum ≤ 8) (hd : decode Y.2.1 pc = .ok (.invokevirtual 454, 3)) (kr : ∀ r σ1, P r σ1 → gxV G Y d 0 0 (pc + 3) ls (.int r :: st) (mput h b σ1) Q) : gxV G Y d 0 0 pc ls (v1 :: .ref b :: st) (mput h b σ) Q := by
  refine gx_callV (kc := 0) (ks := 0) (mc := 0) (ms := 0) (As := [v1]) hM q2324 q143 (hY ▸ q2321) q2323 qs103 (m_rc rfl) (by decide) (show gxAr "(I)I" 1 by decide +kernel) (by decide) hdd hst hd (gxQi.k ?_) gxQi.t
  rintro r h' ⟨σ', rfl, hp⟩
  exact kr r σ' hp
theorem kX10_457 {G : gxG} {Y : gxY} {d d' pc b : Nat} {ls : List (Option Value)} {st : List Value} {h : gxH} {σ : mS} {Q : Outcome → gxH → Prop} {P : mS → Prop} {v1 v2 v3 v4 : Value} (hY : Y.1.cls = "PaidSecretsModel") (hM : mMv G mX10_copies d' [v1, v2, v3, v4] h b σ P) (hdd : d' + 1 ≤ d) (hst : (st.map fun v => v.category).sum ≤ 8) (hd : decode Y.2.1 pc = .ok (.invokestatic 457, 3)) (kr : ∀ σ1, P σ1 → gxV G Y d 0 0 (pc + 3) ls st (mput h b σ1) Q) : gxV G Y d 0 0 pc ls (v4 :: v3 :: v2 :: v1 :: st) (mput h b σ) Q := by
  refine gx_callS (kc := 0) (ks := 0) (mc := 0) (ms := 0) (As := [v1, v2, v3, v4]) hM q2344 q143 (hY ▸ q2342) q2343 (by decide) (show gxAr "([II[II)V" 4 by decide +kernel) (by decide) hdd hst hd (gxQv.k ?_) gxQv.t
  rintro h' ⟨σ', rfl, hp⟩
  exact kr σ' hp
theorem kX10_461 {G : gxG} {Y : gxY} {d d' pc b : Nat} {ls : List (Option Value)} {st : List Value} {h : gxH} {σ : mS} {Q : Outcome → gxH → Prop} {P : Int32 → mS → Prop} {v1 : Value} (hY : Y.1.cls = "PaidSecretsModel") (hM : mMi G mX10_speaks d' [.ref b, v1] h b σ P) (hdd : d' + 1 ≤ d) (hst : (st.map fun v => v.category).sum ≤ 8) (hd : decode Y.2.1 pc = .ok (.invokevirtual 461, 3)) (kr : ∀ r σ1, P r σ1 → gxV G Y d 0 0 (pc + 3) ls (.int r :: st) (mput h b σ1) Q) : gxV G Y d 0 0 pc ls (v1 :: .ref b :: st) (mput h b σ) Q := by
  refine gx_callV (kc := 0) (ks := 0) (mc := 0) (ms := 0) (As := [v1]) hM q2337 q143 (hY ▸ q2334) q2336 qs105 (m_rc rfl) (by decide) (show gxAr "(I)Z" 1 by decide +kernel) (by decide) hdd hst hd (gxQi.k ?_) gxQi.t
  rintro r h' ⟨σ', rfl, hp⟩
  exact kr r σ' hp
theorem kX10_464 {G : gxG} {Y : gxY} {d d' pc b : Nat} {ls : List (Option Value)} {st : List Value} {h : gxH} {σ : mS} {Q : Outcome → gxH → Prop} {P : Int32 → mS → Prop} {v1 v2 v3 : Value} (hY : Y.1.cls = "PaidSecretsModel") (hM : mMi G mX10_canTell d' [.ref b, v1, v2, v3] h b σ P) (hdd : d' + 1 ≤ d) (hst : (st.map fun v => v.category).sum ≤ 8) (hd : decode Y.2.1 pc = .ok (.invokevirtual 464, 3)) (kr : ∀ r σ1, P r σ1 → gxV G Y d 0 0 (pc + 3) ls (.int r :: st) (mput h b σ1) Q) : gxV G Y d 0 0 pc ls (v3 :: v2 :: v1 :: .ref b :: st) (mput h b σ) Q := by
  refine gx_callV (kc := 0) (ks := 0) (mc := 0) (ms := 0) (As := [v1, v2, v3]) hM q2333 q143 (hY ▸ q2330) q2332 qs104 (m_rc rfl) (by decide) (show gxAr "(III)Z" 3 by decide +kernel) (by decide) hdd hst hd (gxQi.k ?_) gxQi.t
  rintro r h' ⟨σ', rfl, hp⟩
  exact kr r σ' hp
theorem kX10_467 {G : gxG} {Y : gxY} {d d' pc b : Nat} {ls : List (Option Value)} {st : List Value} {h : gxH} {σ : mS} {Q : Outcome → gxH → Prop} {P : mS → Prop}  (hY : Y.1.cls = "PaidSecretsModel") (hM : mMv G mX10_keeps d' [.ref b] h b σ P) (hdd : d' + 1 ≤ d) (hst : (st.map fun v => v.category).sum ≤ 8) (hd : decode Y.2.1 pc = .ok (.invokevirtual 467, 3)) (kr : ∀ σ1, P σ1 → gxV G Y d 0 0 (pc + 3) ls st (mput h b σ1) Q) : gxV G Y d 0 0 pc ls (.ref b :: st) (mput h b σ) Q := by
  refine gx_callV (kc := 0) (ks := 0) (mc := 0) (ms := 0) (As := []) hM q2341 q143 (hY ▸ q2338) q2340 qs106 (m_rc rfl) (by decide) (show gxAr "()V" 0 by decide +kernel) (by decide) hdd hst hd (gxQv.k ?_) gxQv.t
  rintro h' ⟨σ', rfl, hp⟩
  exact kr σ' hp
theorem kX10_470 {G : gxG} {Y : gxY} {d d' pc b : Nat} {ls : List (Option Value)} {st : List Value} {h : gxH} {σ : mS} {Q : Outcome → gxH → Prop} {P : mS → Prop} {v1 v2 v3 : Value} (hY : Y.1.cls = "PaidSecretsModel") (hM : mMv G mX10_tells d' [.ref b, v1, v2, v3] h b σ P) (hdd : d' + 1 ≤ d) (hst : (st.map fun v => v.category).sum ≤ 8) (hd : decode Y.2.1 pc = .ok (.invokevirtual 470, 3)) (kr : ∀ σ1, P σ1 → gxV G Y d 0 0 (pc + 3) ls st (mput h b σ1) Q) : gxV G Y d 0 0 pc ls (v3 :: v2 :: v1 :: .ref b :: st) (mput h b σ) Q := by
  refine gx_callV (kc := 0) (ks := 0) (mc := 0) (ms := 0) (As := [v1, v2, v3]) hM q2348 q143 (hY ▸ q2345) q2347 qs107 (m_rc rfl) (by decide) (show gxAr "(III)V" 3 by decide +kernel) (by decide) hdd hst hd (gxQv.k ?_) gxQv.t
  rintro h' ⟨σ', rfl, hp⟩
  exact kr σ' hp
theorem kX10_474 {G : gxG} {Y : gxY} {d d' pc b : Nat} {ls : List (Option Value)} {st : List Value} {h : gxH} {σ : mS} {Q : Outcome → gxH → Prop} {P : Int32 → mS → Prop} {v1 v2 : Value} (hY : Y.1.cls = "PaidSecretsModel") (hM : mMi G mX10_canPay d' [.ref b, v1, v2] h b σ P) (hdd : d' + 1 ≤ d) (hst : (st.map fun v => v.category).sum ≤ 8) (hd : decode Y.2.1 pc = .ok (.invokevirtual 474, 3)) (kr : ∀ r σ1, P r σ1 → gxV G Y d 0 0 (pc + 3) ls (.int r :: st) (mput h b σ1) Q) : gxV G Y d 0 0 pc ls (v2 :: v1 :: .ref b :: st) (mput h b σ) Q := by
  refine gx_callV (kc := 0) (ks := 0) (mc := 0) (ms := 0) (As := [v1, v2]) hM q2356 q143 (hY ▸ q2353) q2355 qs108 (m_rc rfl) (by decide) (show gxAr "(II)Z" 2 by decide +kernel) (by decide) hdd hst hd (gxQi.k ?_) gxQi.t
  rintro r h' ⟨σ', rfl, hp⟩
  exact kr r σ' hp
theorem kX10_477 {G : gxG} {Y : gxY} {d d' pc b : Nat} {ls : List (Option Value)} {st : List Value} {h : gxH} {σ : mS} {Q : Outcome → gxH → Prop} {P : mS → Prop} {v1 v2 : Value} (hY : Y.1.cls = "PaidSecretsModel") (hM : mMv G mX10_pays d' [.ref b, v1, v2] h b σ P) (hdd : d' + 1 ≤ d) (hst : (st.map fun v => v.category).sum ≤ 8) (hd : decode Y.2.1 pc = .ok (.invokevirtual 477, 3)) (kr : ∀ σ1, P σ1 → gxV G Y d 0 0 (pc + 3) ls st (mput h b σ1) Q) : gxV G Y d 0 0 pc ls (v2 :: v1 :: .ref b :: st) (mput h b σ) Q := by
  refine gx_callV (kc := 0) (ks := 0) (mc := 0) (ms := 0) (As := [v1, v2]) hM q2360 q143 (hY ▸ q2357) q2359 qs109 (m_rc rfl) (by decide) (show gxAr "(II)V" 2 by decide +kernel) (by decide) hdd hst hd (gxQv.k ?_) gxQv.t
  rintro h' ⟨σ', rfl, hp⟩
  exact kr σ' hp
theorem kX10_480 {G : gxG} {Y : gxY} {d d' pc b : Nat} {ls : List (Option Value)} {st : List Value} {h : gxH} {σ : mS} {Q : Outcome → gxH → Prop} {P : Int32 → mS → Prop}  (hY : Y.1.cls = "PaidSecretsModel") (hM : mMi G mX10_passes d' [.ref b] h b σ P) (hdd : d' + 1 ≤ d) (hst : (st.map fun v => v.category).sum ≤ 8) (hd : decode Y.2.1 pc = .ok (.invokevirtual 480, 3)) (kr : ∀ r σ1, P r σ1 → gxV G Y d 0 0 (pc + 3) ls (.int r :: st) (mput h b σ1) Q) : gxV G Y d 0 0 pc ls (.ref b :: st) (mput h b σ) Q := by
  refine gx_callV (kc := 0) (ks := 0) (mc := 0) (ms := 0) (As := []) hM q2372 q143 (hY ▸ q2369) q2371 qs110 (m_rc rfl) (by decide) (show gxAr "()I" 0 by decide +kernel) (by decide) hdd hst hd (gxQi.k ?_) gxQi.t
  rintro r h' ⟨σ', rfl, hp⟩
  exact kr r σ' hp
theorem kX10_483 {G : gxG} {Y : gxY} {d d' pc b : Nat} {ls : List (Option Value)} {st : List Value} {h : gxH} {σ : mS} {Q : Outcome → gxH → Prop} {P : Int32 → mS → Prop} {v1 : Value} (hY : Y.1.cls = "PaidSecretsModel") (hM : mMi G mX10_goes d' [.ref b, v1] h b σ P) (hdd : d' + 1 ≤ d) (hst : (st.map fun v => v.category).sum ≤ 8) (hd : decode Y.2.1 pc = .ok (.invokevirtual 483, 3)) (kr : ∀ r σ1, P r σ1 → gxV G Y d 0 0 (pc + 3) ls (.int r :: st) (mput h b σ1) Q) : gxV G Y d 0 0 pc ls (v1 :: .ref b :: st) (mput h b σ) Q := by
  refine gx_callV (kc := 0) (ks := 0) (mc := 0) (ms := 0) (As := [v1]) hM q2388 q143 (hY ▸ q2385) q2387 qs111 (m_rc rfl) (by decide) (show gxAr "(I)Z" 1 by decide +kernel) (by decide) hdd hst hd (gxQi.k ?_) gxQi.t
  rintro r h' ⟨σ', rfl, hp⟩
  exact kr r σ' hp
theorem kX10_486 {G : gxG} {Y : gxY} {d d' pc b : Nat} {ls : List (Option Value)} {st : List Value} {h : gxH} {σ : mS} {Q : Outcome → gxH → Prop} {P : Int32 → mS → Prop}  (hY : Y.1.cls = "PaidSecretsModel") (hM : mMi G mX10_finesOfAll d' [.ref b] h b σ P) (hdd : d' + 1 ≤ d) (hst : (st.map fun v => v.category).sum ≤ 8) (hd : decode Y.2.1 pc = .ok (.invokevirtual 486, 3)) (kr : ∀ r σ1, P r σ1 → gxV G Y d 0 0 (pc + 3) ls (.int r :: st) (mput h b σ1) Q) : gxV G Y d 0 0 pc ls (.ref b :: st) (mput h b σ) Q := by
  refine gx_callV (kc := 0) (ks := 0) (mc := 0) (ms := 0) (As := []) hM q2392 q143 (hY ▸ q2389) q2391 qs112 (m_rc rfl) (by decide) (show gxAr "()I" 0 by decide +kernel) (by decide) hdd hst hd (gxQi.k ?_) gxQi.t
  rintro r h' ⟨σ', rfl, hp⟩
  exact kr r σ' hp
theorem kX10_489 {G : gxG} {Y : gxY} {d d' pc b : Nat} {ls : List (Option Value)} {st : List Value} {h : gxH} {σ : mS} {Q : Outcome → gxH → Prop} {P : Int32 → mS → Prop}  (hY : Y.1.cls = "PaidSecretsModel") (hM : mMi G mX10_allSecrets d' [.ref b] h b σ P) (hdd : d' + 1 ≤ d) (hst : (st.map fun v => v.category).sum ≤ 8) (hd : decode Y.2.1 pc = .ok (.invokevirtual 489, 3)) (kr : ∀ r σ1, P r σ1 → gxV G Y d 0 0 (pc + 3) ls (.int r :: st) (mput h b σ1) Q) : gxV G Y d 0 0 pc ls (.ref b :: st) (mput h b σ) Q := by
  refine gx_callV (kc := 0) (ks := 0) (mc := 0) (ms := 0) (As := []) hM q2396 q143 (hY ▸ q2393) q2395 qs113 (m_rc rfl) (by decide) (show gxAr "()I" 0 by decide +kernel) (by decide) hdd hst hd (gxQi.k ?_) gxQi.t
  rintro r h' ⟨σ', rfl, hp⟩
  exact kr r σ' hp
theorem kX10_492 {G : gxG} {Y : gxY} {d d' pc b : Nat} {ls : List (Option Value)} {st : List Value} {h : gxH} {σ : mS} {Q : Outcome → gxH → Prop} {P : Int32 → mS → Prop} {v1 : Value} (hY : Y.1.cls = "PaidSecretsModel") (hM : mMi G mX10_bits d' [v1] h b σ P) (hdd : d' + 1 ≤ d) (hst : (st.map fun v => v.category).sum ≤ 8) (hd : decode Y.2.1 pc = .ok (.invokestatic 492, 3)) (kr : ∀ r σ1, P r σ1 → gxV G Y d 0 0 (pc + 3) ls (.int r :: st) (mput h b σ1) Q) : gxV G Y d 0 0 pc ls (v1 :: st) (mput h b σ) Q := by
  refine gx_callS (kc := 0) (ks := 0) (mc := 0) (ms := 0) (As := [v1]) hM q2407 q143 (hY ▸ q2405) q2406 (by decide) (show gxAr "(I)I" 1 by decide +kernel) (by decide) hdd hst hd (gxQi.k ?_) gxQi.t
  rintro r h' ⟨σ', rfl, hp⟩
  exact kr r σ' hp
theorem kX10_495 {G : gxG} {Y : gxY} {d d' pc b : Nat} {ls : List (Option Value)} {st : List Value} {h : gxH} {σ : mS} {Q : Outcome → gxH → Prop} {P : Int32 → mS → Prop} {v1 : Value} (hY : Y.1.cls = "PaidSecretsModel") (hM : mMi G mX10_leastOf d' [.ref b, v1] h b σ P) (hdd : d' + 1 ≤ d) (hst : (st.map fun v => v.category).sum ≤ 8) (hd : decode Y.2.1 pc = .ok (.invokevirtual 495, 3)) (kr : ∀ r σ1, P r σ1 → gxV G Y d 0 0 (pc + 3) ls (.int r :: st) (mput h b σ1) Q) : gxV G Y d 0 0 pc ls (v1 :: .ref b :: st) (mput h b σ) Q := by
  refine gx_callV (kc := 0) (ks := 0) (mc := 0) (ms := 0) (As := [v1]) hM q2404 q143 (hY ▸ q2401) q2403 qs114 (m_rc rfl) (by decide) (show gxAr "(I)I" 1 by decide +kernel) (by decide) hdd hst hd (gxQi.k ?_) gxQi.t
  rintro r h' ⟨σ', rfl, hp⟩
  exact kr r σ' hp
theorem kX10_498 {G : gxG} {Y : gxY} {d d' pc b : Nat} {ls : List (Option Value)} {st : List Value} {h : gxH} {σ : mS} {Q : Outcome → gxH → Prop} {P : Int32 → mS → Prop} {v1 v2 : Value} (hY : Y.1.cls = "PaidSecretsModel") (hM : mMi G mX10_payTogether d' [.ref b, v1, v2] h b σ P) (hdd : d' + 1 ≤ d) (hst : (st.map fun v => v.category).sum ≤ 8) (hd : decode Y.2.1 pc = .ok (.invokevirtual 498, 3)) (kr : ∀ r σ1, P r σ1 → gxV G Y d 0 0 (pc + 3) ls (.int r :: st) (mput h b σ1) Q) : gxV G Y d 0 0 pc ls (v2 :: v1 :: .ref b :: st) (mput h b σ) Q := by
  refine gx_callV (kc := 0) (ks := 0) (mc := 0) (ms := 0) (As := [v1, v2]) hM q2415 q143 (hY ▸ q2412) q2414 qs115 (m_rc rfl) (by decide) (show gxAr "(II)Z" 2 by decide +kernel) (by decide) hdd hst hd (gxQi.k ?_) gxQi.t
  rintro r h' ⟨σ', rfl, hp⟩
  exact kr r σ' hp
theorem kX10_507 {G : gxG} {Y : gxY} {d d' pc b : Nat} {ls : List (Option Value)} {st : List Value} {h : gxH} {σ : mS} {Q : Outcome → gxH → Prop} {P : mS → Prop} {v1 v2 v3 v4 : Value} (hY : Y.1.cls = "PaidSecretsModel") (hM : mMv G mX10_plots d' [.ref b, v1, v2, v3, v4] h b σ P) (hdd : d' + 1 ≤ d) (hst : (st.map fun v => v.category).sum ≤ 8) (hd : decode Y.2.1 pc = .ok (.invokevirtual 507, 3)) (kr : ∀ σ1, P σ1 → gxV G Y d 0 0 (pc + 3) ls st (mput h b σ1) Q) : gxV G Y d 0 0 pc ls (v4 :: v3 :: v2 :: v1 :: .ref b :: st) (mput h b σ) Q := by
  refine gx_callV (kc := 0) (ks := 0) (mc := 0) (ms := 0) (As := [v1, v2, v3, v4]) hM q2423 q143 (hY ▸ q2420) q2422 qs116 (m_rc rfl) (by decide) (show gxAr "(IIII)V" 4 by decide +kernel) (by decide) hdd hst hd (gxQv.k ?_) gxQv.t
  rintro h' ⟨σ', rfl, hp⟩
  exact kr σ' hp
theorem kX10_511 {G : gxG} {Y : gxY} {d d' pc b : Nat} {ls : List (Option Value)} {st : List Value} {h : gxH} {σ : mS} {Q : Outcome → gxH → Prop} {P : Int32 → mS → Prop} {v1 : Value} (hY : Y.1.cls = "PaidSecretsModel") (hM : mMi G mX10_isAsSeen d' [.ref b, v1] h b σ P) (hdd : d' + 1 ≤ d) (hst : (st.map fun v => v.category).sum ≤ 8) (hd : decode Y.2.1 pc = .ok (.invokevirtual 511, 3)) (kr : ∀ r σ1, P r σ1 → gxV G Y d 0 0 (pc + 3) ls (.int r :: st) (mput h b σ1) Q) : gxV G Y d 0 0 pc ls (v1 :: .ref b :: st) (mput h b σ) Q := by
  refine gx_callV (kc := 0) (ks := 0) (mc := 0) (ms := 0) (As := [v1]) hM q2435 q143 (hY ▸ q2432) q2434 qs117 (m_rc rfl) (by decide) (show gxAr "(I)Z" 1 by decide +kernel) (by decide) hdd hst hd (gxQi.k ?_) gxQi.t
  rintro r h' ⟨σ', rfl, hp⟩
  exact kr r σ' hp
theorem kX10_514 {G : gxG} {Y : gxY} {d d' pc b : Nat} {ls : List (Option Value)} {st : List Value} {h : gxH} {σ : mS} {Q : Outcome → gxH → Prop} {P : Int32 → mS → Prop} {v1 : Value} (hY : Y.1.cls = "PaidSecretsModel") (hM : mMi G mX10_isClashing d' [.ref b, v1] h b σ P) (hdd : d' + 1 ≤ d) (hst : (st.map fun v => v.category).sum ≤ 8) (hd : decode Y.2.1 pc = .ok (.invokevirtual 514, 3)) (kr : ∀ r σ1, P r σ1 → gxV G Y d 0 0 (pc + 3) ls (.int r :: st) (mput h b σ1) Q) : gxV G Y d 0 0 pc ls (v1 :: .ref b :: st) (mput h b σ) Q := by
  refine gx_callV (kc := 0) (ks := 0) (mc := 0) (ms := 0) (As := [v1]) hM q2443 q143 (hY ▸ q2440) q2442 qs118 (m_rc rfl) (by decide) (show gxAr "(I)Z" 1 by decide +kernel) (by decide) hdd hst hd (gxQi.k ?_) gxQi.t
  rintro r h' ⟨σ', rfl, hp⟩
  exact kr r σ' hp
theorem kX10_518 {G : gxG} {Y : gxY} {d d' pc b : Nat} {ls : List (Option Value)} {st : List Value} {h : gxH} {σ : mS} {Q : Outcome → gxH → Prop} {P : mS → Prop} {v1 : Value} (hY : Y.1.cls = "PaidSecretsModel") (hM : mMv G mX10_laysHears d' [.ref b, v1] h b σ P) (hdd : d' + 1 ≤ d) (hst : (st.map fun v => v.category).sum ≤ 8) (hd : decode Y.2.1 pc = .ok (.invokevirtual 518, 3)) (kr : ∀ σ1, P σ1 → gxV G Y d 0 0 (pc + 3) ls st (mput h b σ1) Q) : gxV G Y d 0 0 pc ls (v1 :: .ref b :: st) (mput h b σ) Q := by
  refine gx_callV (kc := 0) (ks := 0) (mc := 0) (ms := 0) (As := [v1]) hM q2460 q143 (hY ▸ q2457) q2459 qs121 (m_rc rfl) (by decide) (show gxAr "(I)V" 1 by decide +kernel) (by decide) hdd hst hd (gxQv.k ?_) gxQv.t
  rintro h' ⟨σ', rfl, hp⟩
  exact kr σ' hp
theorem kX10_523 {G : gxG} {Y : gxY} {d d' pc b : Nat} {ls : List (Option Value)} {st : List Value} {h : gxH} {σ : mS} {Q : Outcome → gxH → Prop} {P : mS → Prop}  (hY : Y.1.cls = "PaidSecretsModel") (hM : mMv G mX10_night d' [.ref b] h b σ P) (hdd : d' + 1 ≤ d) (hst : (st.map fun v => v.category).sum ≤ 8) (hd : decode Y.2.1 pc = .ok (.invokevirtual 523, 3)) (kr : ∀ σ1, P σ1 → gxV G Y d 0 0 (pc + 3) ls st (mput h b σ1) Q) : gxV G Y d 0 0 pc ls (.ref b :: st) (mput h b σ) Q := by
  refine gx_callV (kc := 0) (ks := 0) (mc := 0) (ms := 0) (As := []) hM q2456 q143 (hY ▸ q2453) q2455 qs120 (m_rc rfl) (by decide) (show gxAr "()V" 0 by decide +kernel) (by decide) hdd hst hd (gxQv.k ?_) gxQv.t
  rintro h' ⟨σ', rfl, hp⟩
  exact kr σ' hp
theorem kX10_526 {G : gxG} {Y : gxY} {d d' pc b : Nat} {ls : List (Option Value)} {st : List Value} {h : gxH} {σ : mS} {Q : Outcome → gxH → Prop} {P : mS → Prop} {v1 v2 : Value} (hY : Y.1.cls = "PaidSecretsModel") (hM : mMv G mX10_nights d' [.ref b, v1, v2] h b σ P) (hdd : d' + 1 ≤ d) (hst : (st.map fun v => v.category).sum ≤ 8) (hd : decode Y.2.1 pc = .ok (.invokevirtual 526, 3)) (kr : ∀ σ1, P σ1 → gxV G Y d 0 0 (pc + 3) ls st (mput h b σ1) Q) : gxV G Y d 0 0 pc ls (v2 :: v1 :: .ref b :: st) (mput h b σ) Q := by
  refine gx_callV (kc := 0) (ks := 0) (mc := 0) (ms := 0) (As := [v1, v2]) hM q2451 q143 (hY ▸ q2448) q2450 qs119 (m_rc rfl) (by decide) (show gxAr "(II)V" 2 by decide +kernel) (by decide) hdd hst hd (gxQv.k ?_) gxQv.t
  rintro h' ⟨σ', rfl, hp⟩
  exact kr σ' hp
theorem kX10_534 {G : gxG} {Y : gxY} {d d' pc b : Nat} {ls : List (Option Value)} {st : List Value} {h : gxH} {σ : mS} {Q : Outcome → gxH → Prop} {P : Int32 → mS → Prop} {v1 : Value} (hY : Y.1.cls = "PaidSecretsModel") (hM : mMi G mX10_hasBy d' [.ref b, v1] h b σ P) (hdd : d' + 1 ≤ d) (hst : (st.map fun v => v.category).sum ≤ 8) (hd : decode Y.2.1 pc = .ok (.invokevirtual 534, 3)) (kr : ∀ r σ1, P r σ1 → gxV G Y d 0 0 (pc + 3) ls (.int r :: st) (mput h b σ1) Q) : gxV G Y d 0 0 pc ls (v1 :: .ref b :: st) (mput h b σ) Q := by
  refine gx_callV (kc := 0) (ks := 0) (mc := 0) (ms := 0) (As := [v1]) hM q2486 q143 (hY ▸ q2483) q2485 qs124 (m_rc rfl) (by decide) (show gxAr "(I)I" 1 by decide +kernel) (by decide) hdd hst hd (gxQi.k ?_) gxQi.t
  rintro r h' ⟨σ', rfl, hp⟩
  exact kr r σ' hp
theorem kX10_537 {G : gxG} {Y : gxY} {d d' pc b : Nat} {ls : List (Option Value)} {st : List Value} {h : gxH} {σ : mS} {Q : Outcome → gxH → Prop} {P : Int32 → mS → Prop} {v1 v2 : Value} (hY : Y.1.cls = "PaidSecretsModel") (hM : mMi G mX10_may d' [.ref b, v1, v2] h b σ P) (hdd : d' + 1 ≤ d) (hst : (st.map fun v => v.category).sum ≤ 8) (hd : decode Y.2.1 pc = .ok (.invokevirtual 537, 3)) (kr : ∀ r σ1, P r σ1 → gxV G Y d 0 0 (pc + 3) ls (.int r :: st) (mput h b σ1) Q) : gxV G Y d 0 0 pc ls (v2 :: v1 :: .ref b :: st) (mput h b σ) Q := by
  refine gx_callV (kc := 0) (ks := 0) (mc := 0) (ms := 0) (As := [v1, v2]) hM q2478 q143 (hY ▸ q2475) q2477 qs122 (m_rc rfl) (by decide) (show gxAr "(II)Z" 2 by decide +kernel) (by decide) hdd hst hd (gxQi.k ?_) gxQi.t
  rintro r h' ⟨σ', rfl, hp⟩
  exact kr r σ' hp
theorem kX10_540 {G : gxG} {Y : gxY} {d d' pc b : Nat} {ls : List (Option Value)} {st : List Value} {h : gxH} {σ : mS} {Q : Outcome → gxH → Prop} {P : Int32 → mS → Prop}  (hY : Y.1.cls = "PaidSecretsModel") (hM : mMi G mX10_isRest d' [.ref b] h b σ P) (hdd : d' + 1 ≤ d) (hst : (st.map fun v => v.category).sum ≤ 8) (hd : decode Y.2.1 pc = .ok (.invokevirtual 540, 3)) (kr : ∀ r σ1, P r σ1 → gxV G Y d 0 0 (pc + 3) ls (.int r :: st) (mput h b σ1) Q) : gxV G Y d 0 0 pc ls (.ref b :: st) (mput h b σ) Q := by
  refine gx_callV (kc := 0) (ks := 0) (mc := 0) (ms := 0) (As := []) hM q2482 q143 (hY ▸ q2479) q2481 qs123 (m_rc rfl) (by decide) (show gxAr "()Z" 0 by decide +kernel) (by decide) hdd hst hd (gxQi.k ?_) gxQi.t
  rintro r h' ⟨σ', rfl, hp⟩
  exact kr r σ' hp
theorem kX10_554 {G : gxG} {Y : gxY} {d d' pc b : Nat} {ls : List (Option Value)} {st : List Value} {h : gxH} {σ : mS} {Q : Outcome → gxH → Prop} {P : Int32 → mS → Prop} {v1 : Value} (hY : Y.1.cls = "PaidSecretsModel") (hM : mMi G mX10_draws d' [.ref b, v1] h b σ P) (hdd : d' + 1 ≤ d) (hst : (st.map fun v => v.category).sum ≤ 8) (hd : decode Y.2.1 pc = .ok (.invokevirtual 554, 3)) (kr : ∀ r σ1, P r σ1 → gxV G Y d 0 0 (pc + 3) ls (.int r :: st) (mput h b σ1) Q) : gxV G Y d 0 0 pc ls (v1 :: .ref b :: st) (mput h b σ) Q := by
  refine gx_callV (kc := 0) (ks := 0) (mc := 0) (ms := 0) (As := [v1]) hM q2498 q143 (hY ▸ q2495) q2497 qs126 (m_rc rfl) (by decide) (show gxAr "(I)I" 1 by decide +kernel) (by decide) hdd hst hd (gxQi.k ?_) gxQi.t
  rintro r h' ⟨σ', rfl, hp⟩
  exact kr r σ' hp
theorem kX10_557 {G : gxG} {Y : gxY} {d d' pc b : Nat} {ls : List (Option Value)} {st : List Value} {h : gxH} {σ : mS} {Q : Outcome → gxH → Prop} {P : Int32 → mS → Prop}  (hY : Y.1.cls = "PaidSecretsModel") (hM : mMi G mX10_whispers d' [.ref b] h b σ P) (hdd : d' + 1 ≤ d) (hst : (st.map fun v => v.category).sum ≤ 8) (hd : decode Y.2.1 pc = .ok (.invokevirtual 557, 3)) (kr : ∀ r σ1, P r σ1 → gxV G Y d 0 0 (pc + 3) ls (.int r :: st) (mput h b σ1) Q) : gxV G Y d 0 0 pc ls (.ref b :: st) (mput h b σ) Q := by
  refine gx_callV (kc := 0) (ks := 0) (mc := 0) (ms := 0) (As := []) hM q2494 q143 (hY ▸ q2491) q2493 qs125 (m_rc rfl) (by decide) (show gxAr "()I" 0 by decide +kernel) (by decide) hdd hst hd (gxQi.k ?_) gxQi.t
  rintro r h' ⟨σ', rfl, hp⟩
  exact kr r σ' hp
theorem kX10_560 {G : gxG} {Y : gxY} {d d' pc b : Nat} {ls : List (Option Value)} {st : List Value} {h : gxH} {σ : mS} {Q : Outcome → gxH → Prop} {P : mS → Prop} {v1 v2 : Value} (hY : Y.1.cls = "PaidSecretsModel") (hM : mMv G mX10_laysSeen d' [.ref b, v1, v2] h b σ P) (hdd : d' + 1 ≤ d) (hst : (st.map fun v => v.category).sum ≤ 8) (hd : decode Y.2.1 pc = .ok (.invokevirtual 560, 3)) (kr : ∀ σ1, P σ1 → gxV G Y d 0 0 (pc + 3) ls st (mput h b σ1) Q) : gxV G Y d 0 0 pc ls (v2 :: v1 :: .ref b :: st) (mput h b σ) Q := by
  refine gx_callV (kc := 0) (ks := 0) (mc := 0) (ms := 0) (As := [v1, v2]) hM q2510 q143 (hY ▸ q2507) q2509 qs127 (m_rc rfl) (by decide) (show gxAr "(II)V" 2 by decide +kernel) (by decide) hdd hst hd (gxQv.k ?_) gxQv.t
  rintro h' ⟨σ', rfl, hp⟩
  exact kr σ' hp
