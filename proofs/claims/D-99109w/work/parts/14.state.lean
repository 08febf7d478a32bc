/-! STATE: the methods by name; the fixed cells 512 .. 639 as a tuple of numbers; its heap (printed by tools/gen_state.py) -/
set_option maxRecDepth 100000
abbrev mJ0_init : Mt := (yJ0_init, cJ0_init, 1, none)
abbrev mJ10_init : Mt := (yJ10_init, cJ10_init, 1, none)
abbrev mJ11_init : Mt := (yJ11_init, cJ11_init, 1, none)
abbrev mJ12_bitCount : Mt := (yJ12_bitCount, cJ12_bitCount, 1, some FieldType.int)
abbrev mJ12_init : Mt := (yJ12_init, cJ12_init, 2, none)
abbrev mJ12_intValue : Mt := (yJ12_intValue, cJ12_intValue, 1, some FieldType.int)
abbrev mJ12_numberOfTrailingZeros : Mt := (yJ12_numberOfTrailingZeros, cJ12_numberOfTrailingZeros, 2, some FieldType.int)
abbrev mJ12_valueOf : Mt := (yJ12_valueOf, cJ12_valueOf, 1, some ((FieldType.object "java/lang/Integer")))
abbrev mJ13_hugeLength : Mt := (yJ13_hugeLength, cJ13_hugeLength, 3, some FieldType.int)
abbrev mJ13_newLength : Mt := (yJ13_newLength, cJ13_newLength, 4, some FieldType.int)
abbrev mJ14_copyOf : Mt := (yJ14_copyOf, cJ14_copyOf, 2, some ((FieldType.array (FieldType.object "java/lang/Object"))))
abbrev mJ14_copyOf_2 : Mt := (yJ14_copyOf_2, cJ14_copyOf_2, 4, some ((FieldType.array (FieldType.object "java/lang/Object"))))
abbrev mJ14_fill : Mt := (yJ14_fill, cJ14_fill, 4, none)
abbrev mJ15_checkIndex : Mt := (yJ15_checkIndex, cJ15_checkIndex, 2, some FieldType.int)
abbrev mJ16_init : Mt := (yJ16_init, cJ16_init, 1, none)
abbrev mJ1_init : Mt := (yJ1_init, cJ1_init, 1, none)
abbrev mJ2_add : Mt := (yJ2_add, cJ2_add, 2, some FieldType.boolean)
abbrev mJ2_add_2 : Mt := (yJ2_add_2, cJ2_add_2, 4, none)
abbrev mJ2_elementData : Mt := (yJ2_elementData, cJ2_elementData, 2, some ((FieldType.object "java/lang/Object")))
abbrev mJ2_get : Mt := (yJ2_get, cJ2_get, 2, some ((FieldType.object "java/lang/Object")))
abbrev mJ2_grow : Mt := (yJ2_grow, cJ2_grow, 1, some ((FieldType.array (FieldType.object "java/lang/Object"))))
abbrev mJ2_grow_2 : Mt := (yJ2_grow_2, cJ2_grow_2, 4, some ((FieldType.array (FieldType.object "java/lang/Object"))))
abbrev mJ2_init : Mt := (yJ2_init, cJ2_init, 1, none)
abbrev mJ2_isEmpty : Mt := (yJ2_isEmpty, cJ2_isEmpty, 1, some FieldType.boolean)
abbrev mJ2_size : Mt := (yJ2_size, cJ2_size, 1, some FieldType.int)
abbrev mJ3_charAt : Mt := (yJ3_charAt, cJ3_charAt, 2, some FieldType.char)
abbrev mJ3_checkIndex : Mt := (yJ3_checkIndex, cJ3_checkIndex, 2, none)
abbrev mJ3_coder : Mt := (yJ3_coder, cJ3_coder, 1, some FieldType.byte)
abbrev mJ3_isLatin1 : Mt := (yJ3_isLatin1, cJ3_isLatin1, 1, some FieldType.boolean)
abbrev mJ3_length : Mt := (yJ3_length, cJ3_length, 1, some FieldType.int)
abbrev mJ4_charAt : Mt := (yJ4_charAt, cJ4_charAt, 2, some FieldType.char)
abbrev mJ5_checkIndex : Mt := (yJ5_checkIndex, cJ5_checkIndex, 3, some FieldType.int)
abbrev mJ6_charAt : Mt := (yJ6_charAt, cJ6_charAt, 2, some FieldType.char)
abbrev mJ6_checkIndex : Mt := (yJ6_checkIndex, cJ6_checkIndex, 2, none)
abbrev mJ6_getChar : Mt := (yJ6_getChar, cJ6_getChar, 2, some FieldType.char)
abbrev mJ6_length : Mt := (yJ6_length, cJ6_length, 1, some FieldType.int)
abbrev mJ7_abs : Mt := (yJ7_abs, cJ7_abs, 2, some FieldType.long)
abbrev mJ7_abs_2 : Mt := (yJ7_abs_2, cJ7_abs_2, 1, some FieldType.int)
abbrev mJ7_max : Mt := (yJ7_max, cJ7_max, 2, some FieldType.int)
abbrev mJ7_max_2 : Mt := (yJ7_max_2, cJ7_max_2, 4, some FieldType.long)
abbrev mJ7_min : Mt := (yJ7_min, cJ7_min, 2, some FieldType.int)
abbrev mJ7_min_2 : Mt := (yJ7_min_2, cJ7_min_2, 4, some FieldType.long)
abbrev mJ8_init : Mt := (yJ8_init, cJ8_init, 1, none)
abbrev mJ9_init : Mt := (yJ9_init, cJ9_init, 1, none)
abbrev mX0_about : Mt := (yX0_about, cX0_about, 2, some FieldType.int)
abbrev mX0_alone : Mt := (yX0_alone, cX0_alone, 5, some FieldType.int)
abbrev mX0_appointments : Mt := (yX0_appointments, cX0_appointments, 4, some FieldType.int)
abbrev mX0_back : Mt := (yX0_back, cX0_back, 1, some FieldType.int)
abbrev mX0_besideOf : Mt := (yX0_besideOf, cX0_besideOf, 4, some FieldType.int)
abbrev mX0_bitOf : Mt := (yX0_bitOf, cX0_bitOf, 1, some FieldType.int)
abbrev mX0_book : Mt := (yX0_book, cX0_book, 3, some FieldType.int)
abbrev mX0_by : Mt := (yX0_by, cX0_by, 2, some FieldType.boolean)
abbrev mX0_canForget : Mt := (yX0_canForget, cX0_canForget, 3, some FieldType.boolean)
abbrev mX0_canHat : Mt := (yX0_canHat, cX0_canHat, 2, some FieldType.boolean)
abbrev mX0_common : Mt := (yX0_common, cX0_common, 2, some FieldType.int)
abbrev mX0_crowded : Mt := (yX0_crowded, cX0_crowded, 4, some FieldType.int)
abbrev mX0_date : Mt := (yX0_date, cX0_date, 1, some FieldType.int)
abbrev mX0_datesSeen : Mt := (yX0_datesSeen, cX0_datesSeen, 6, some FieldType.int)
abbrev mX0_day : Mt := (yX0_day, cX0_day, 3, some FieldType.int)
abbrev mX0_does : Mt := (yX0_does, cX0_does, 2, some FieldType.boolean)
abbrev mX0_draws : Mt := (yX0_draws, cX0_draws, 1, none)
abbrev mX0_earnedOn : Mt := (yX0_earnedOn, cX0_earnedOn, 5, some FieldType.int)
abbrev mX0_earnsBy : Mt := (yX0_earnsBy, cX0_earnsBy, 5, some FieldType.int)
abbrev mX0_end : Mt := (yX0_end, cX0_end, 2, some FieldType.int)
abbrev mX0_fault : Mt := (yX0_fault, cX0_fault, 2, some FieldType.int)
abbrev mX0_feast : Mt := (yX0_feast, cX0_feast, 4, some FieldType.int)
abbrev mX0_feed : Mt := (yX0_feed, cX0_feed, 6, some FieldType.int)
abbrev mX0_firstLooted : Mt := (yX0_firstLooted, cX0_firstLooted, 5, some FieldType.int)
abbrev mX0_foretold : Mt := (yX0_foretold, cX0_foretold, 3, some FieldType.int)
abbrev mX0_forget : Mt := (yX0_forget, cX0_forget, 3, some FieldType.boolean)
abbrev mX0_friendsOn : Mt := (yX0_friendsOn, cX0_friendsOn, 4, some FieldType.int)
abbrev mX0_goes : Mt := (yX0_goes, cX0_goes, 4, none)
abbrev mX0_gossip : Mt := (yX0_gossip, cX0_gossip, 4, some FieldType.int)
abbrev mX0_happens : Mt := (yX0_happens, cX0_happens, 4, none)
abbrev mX0_has : Mt := (yX0_has, cX0_has, 2, some FieldType.boolean)
abbrev mX0_hat : Mt := (yX0_hat, cX0_hat, 2, some FieldType.int)
abbrev mX0_hats : Mt := (yX0_hats, cX0_hats, 4, some FieldType.int)
abbrev mX0_hatted : Mt := (yX0_hatted, cX0_hatted, 3, some FieldType.boolean)
abbrev mX0_held : Mt := (yX0_held, cX0_held, 4, some FieldType.int)
abbrev mX0_house : Mt := (yX0_house, cX0_house, 7, some FieldType.int)
abbrev mX0_image : Mt := (yX0_image, cX0_image, 1, some FieldType.int)
abbrev mX0_in : Mt := (yX0_in, cX0_in, 3, some FieldType.boolean)
abbrev mX0_indoors : Mt := (yX0_indoors, cX0_indoors, 3, some FieldType.int)
abbrev mX0_init : Mt := (yX0_init, cX0_init, 1, none)
abbrev mX0_is : Mt := (yX0_is, cX0_is, 2, some FieldType.int)
abbrev mX0_isDate : Mt := (yX0_isDate, cX0_isDate, 1, some FieldType.boolean)
abbrev mX0_isGone : Mt := (yX0_isGone, cX0_isGone, 2, some FieldType.boolean)
abbrev mX0_isHouse : Mt := (yX0_isHouse, cX0_isHouse, 2, some FieldType.boolean)
abbrev mX0_isOpen : Mt := (yX0_isOpen, cX0_isOpen, 4, some FieldType.boolean)
abbrev mX0_isRound : Mt := (yX0_isRound, cX0_isRound, 3, some FieldType.boolean)
abbrev mX0_isText : Mt := (yX0_isText, cX0_isText, 2, some FieldType.boolean)
abbrev mX0_isThere : Mt := (yX0_isThere, cX0_isThere, 2, some FieldType.boolean)
abbrev mX0_knock : Mt := (yX0_knock, cX0_knock, 2, some FieldType.int)
abbrev mX0_knocking : Mt := (yX0_knocking, cX0_knocking, 6, some FieldType.int)
abbrev mX0_knocks : Mt := (yX0_knocks, cX0_knocks, 3, some FieldType.int)
abbrev mX0_knocksAt : Mt := (yX0_knocksAt, cX0_knocksAt, 6, some FieldType.int)
abbrev mX0_knowing : Mt := (yX0_knowing, cX0_knowing, 4, some FieldType.int)
abbrev mX0_knows : Mt := (yX0_knows, cX0_knows, 5, some FieldType.int)
abbrev mX0_leap : Mt := (yX0_leap, cX0_leap, 6, some FieldType.int)
abbrev mX0_letsBy : Mt := (yX0_letsBy, cX0_letsBy, 4, some FieldType.boolean)
abbrev mX0_loot : Mt := (yX0_loot, cX0_loot, 4, some FieldType.int)
abbrev mX0_lootFrom : Mt := (yX0_lootFrom, cX0_lootFrom, 7, some FieldType.int)
abbrev mX0_losesBy : Mt := (yX0_losesBy, cX0_losesBy, 5, some FieldType.int)
abbrev mX0_marry : Mt := (yX0_marry, cX0_marry, 4, some FieldType.int)
abbrev mX0_names : Mt := (yX0_names, cX0_names, 5, none)
abbrev mX0_never : Mt := (yX0_never, cX0_never, 4, some FieldType.int)
abbrev mX0_nextKnock : Mt := (yX0_nextKnock, cX0_nextKnock, 8, some FieldType.int)
abbrev mX0_nextLike : Mt := (yX0_nextLike, cX0_nextLike, 3, some FieldType.int)
abbrev mX0_night : Mt := (yX0_night, cX0_night, 4, some FieldType.int)
abbrev mX0_nobodys : Mt := (yX0_nobodys, cX0_nobodys, 3, some FieldType.int)
abbrev mX0_odds : Mt := (yX0_odds, cX0_odds, 7, some FieldType.int)
abbrev mX0_of : Mt := (yX0_of, cX0_of, 4, some FieldType.int)
abbrev mX0_offended : Mt := (yX0_offended, cX0_offended, 3, some FieldType.int)
abbrev mX0_openOn : Mt := (yX0_openOn, cX0_openOn, 5, some FieldType.int)
abbrev mX0_passes : Mt := (yX0_passes, cX0_passes, 4, none)
abbrev mX0_passesAll : Mt := (yX0_passesAll, cX0_passesAll, 3, some FieldType.boolean)
abbrev mX0_played : Mt := (yX0_played, cX0_played, 4, some FieldType.int)
abbrev mX0_poorest : Mt := (yX0_poorest, cX0_poorest, 4, some FieldType.int)
abbrev mX0_pursesBy : Mt := (yX0_pursesBy, cX0_pursesBy, 5, some FieldType.int)
abbrev mX0_put : Mt := (yX0_put, cX0_put, 3, none)
abbrev mX0_richest : Mt := (yX0_richest, cX0_richest, 4, some FieldType.int)
abbrev mX0_rounds : Mt := (yX0_rounds, cX0_rounds, 3, some FieldType.int)
abbrev mX0_rules : Mt := (yX0_rules, cX0_rules, 1, some ((FieldType.object "ShutDays$Text")))
abbrev mX0_seen : Mt := (yX0_seen, cX0_seen, 5, some FieldType.int)
abbrev mX0_sets : Mt := (yX0_sets, cX0_sets, 7, some FieldType.int)
abbrev mX0_setsWith : Mt := (yX0_setsWith, cX0_setsWith, 6, some FieldType.int)
abbrev mX0_shutOn : Mt := (yX0_shutOn, cX0_shutOn, 4, some FieldType.int)
abbrev mX0_there : Mt := (yX0_there, cX0_there, 1, some FieldType.int)
abbrev mX0_thieves : Mt := (yX0_thieves, cX0_thieves, 4, some FieldType.int)
abbrev mX0_twins : Mt := (yX0_twins, cX0_twins, 4, some FieldType.int)
abbrev mX0_undo : Mt := (yX0_undo, cX0_undo, 1, some FieldType.int)
abbrev mX0_visits : Mt := (yX0_visits, cX0_visits, 6, some FieldType.boolean)
abbrev mX0_ways : Mt := (yX0_ways, cX0_ways, 2, some FieldType.int)
abbrev mX0_wedDates : Mt := (yX0_wedDates, cX0_wedDates, 5, some FieldType.int)
abbrev mX0_weddings : Mt := (yX0_weddings, cX0_weddings, 2, some FieldType.int)
abbrev mX0_weds : Mt := (yX0_weds, cX0_weds, 6, none)
abbrev mX0_whose : Mt := (yX0_whose, cX0_whose, 6, some FieldType.int)
abbrev mX0_years : Mt := (yX0_years, cX0_years, 5, some FieldType.int)
abbrev mX10_init : Mt := (yX10_init, cX10_init, 2, none)
abbrev mX10_of : Mt := (yX10_of, cX10_of, 2, some FieldType.long)
abbrev mX11_init : Mt := (yX11_init, cX11_init, 2, none)
abbrev mX11_is : Mt := (yX11_is, cX11_is, 2, some FieldType.boolean)
abbrev mX12_init : Mt := (yX12_init, cX12_init, 3, none)
abbrev mX12_is : Mt := (yX12_is, cX12_is, 6, some FieldType.boolean)
abbrev mX13_init : Mt := (yX13_init, cX13_init, 4, none)
abbrev mX13_is : Mt := (yX13_is, cX13_is, 4, some FieldType.boolean)
abbrev mX14_init : Mt := (yX14_init, cX14_init, 3, none)
abbrev mX14_is : Mt := (yX14_is, cX14_is, 4, some FieldType.boolean)
abbrev mX15_a : Mt := (yX15_a, cX15_a, 1, some FieldType.int)
abbrev mX15_b : Mt := (yX15_b, cX15_b, 1, some FieldType.int)
abbrev mX15_c : Mt := (yX15_c, cX15_c, 1, some FieldType.int)
abbrev mX15_init : Mt := (yX15_init, cX15_init, 6, none)
abbrev mX15_number : Mt := (yX15_number, cX15_number, 1, some FieldType.int)
abbrev mX15_sort : Mt := (yX15_sort, cX15_sort, 1, some FieldType.int)
abbrev mX1_adds : Mt := (yX1_adds, cX1_adds, 4, some FieldType.int)
abbrev mX1_be : Mt := (yX1_be, cX1_be, 2, none)
abbrev mX1_clears : Mt := (yX1_clears, cX1_clears, 2, some FieldType.int)
abbrev mX1_copy : Mt := (yX1_copy, cX1_copy, 2, none)
abbrev mX1_copy_2 : Mt := (yX1_copy_2, cX1_copy_2, 3, none)
abbrev mX1_init : Mt := (yX1_init, cX1_init, 1, none)
abbrev mX1_keeps : Mt := (yX1_keeps, cX1_keeps, 2, none)
abbrev mX1_tells : Mt := (yX1_tells, cX1_tells, 4, none)
abbrev mX2_about : Mt := (yX2_about, cX2_about, 2, some FieldType.int)
abbrev mX2_alone : Mt := (yX2_alone, cX2_alone, 5, some FieldType.int)
abbrev mX2_anew : Mt := (yX2_anew, cX2_anew, 1, none)
abbrev mX2_appointments : Mt := (yX2_appointments, cX2_appointments, 7, some FieldType.int)
abbrev mX2_areHere : Mt := (yX2_areHere, cX2_areHere, 3, some FieldType.boolean)
abbrev mX2_arePassed : Mt := (yX2_arePassed, cX2_arePassed, 3, some FieldType.boolean)
abbrev mX2_back : Mt := (yX2_back, cX2_back, 1, some FieldType.int)
abbrev mX2_begin : Mt := (yX2_begin, cX2_begin, 3, none)
abbrev mX2_beginOne : Mt := (yX2_beginOne, cX2_beginOne, 2, some FieldType.int)
abbrev mX2_behindOne : Mt := (yX2_behindOne, cX2_behindOne, 2, some FieldType.int)
abbrev mX2_besideOn : Mt := (yX2_besideOn, cX2_besideOn, 3, some FieldType.int)
abbrev mX2_betweenOf : Mt := (yX2_betweenOf, cX2_betweenOf, 1, some FieldType.int)
abbrev mX2_bits : Mt := (yX2_bits, cX2_bits, 3, some FieldType.int)
abbrev mX2_body : Mt := (yX2_body, cX2_body, 4, some FieldType.int)
abbrev mX2_book : Mt := (yX2_book, cX2_book, 3, some FieldType.int)
abbrev mX2_by : Mt := (yX2_by, cX2_by, 2, some FieldType.boolean)
abbrev mX2_byteAt : Mt := (yX2_byteAt, cX2_byteAt, 2, some FieldType.int)
abbrev mX2_canDraw : Mt := (yX2_canDraw, cX2_canDraw, 2, some FieldType.boolean)
abbrev mX2_canForget : Mt := (yX2_canForget, cX2_canForget, 3, some FieldType.boolean)
abbrev mX2_clause : Mt := (yX2_clause, cX2_clause, 5, some FieldType.int)
abbrev mX2_clauseOf : Mt := (yX2_clauseOf, cX2_clauseOf, 3, some FieldType.int)
abbrev mX2_clip : Mt := (yX2_clip, cX2_clip, 2, some FieldType.long)
abbrev mX2_common : Mt := (yX2_common, cX2_common, 5, some FieldType.int)
abbrev mX2_compareOf : Mt := (yX2_compareOf, cX2_compareOf, 1, some FieldType.int)
abbrev mX2_copy : Mt := (yX2_copy, cX2_copy, 3, none)
abbrev mX2_count : Mt := (yX2_count, cX2_count, 3, none)
abbrev mX2_crowded : Mt := (yX2_crowded, cX2_crowded, 4, some FieldType.int)
abbrev mX2_cut : Mt := (yX2_cut, cX2_cut, 4, some FieldType.int)
abbrev mX2_date : Mt := (yX2_date, cX2_date, 1, some FieldType.int)
abbrev mX2_day : Mt := (yX2_day, cX2_day, 2, some FieldType.int)
abbrev mX2_digit : Mt := (yX2_digit, cX2_digit, 8, some FieldType.long)
abbrev mX2_earnedOn : Mt := (yX2_earnedOn, cX2_earnedOn, 5, some FieldType.int)
abbrev mX2_earnsOn : Mt := (yX2_earnsOn, cX2_earnsOn, 3, some FieldType.int)
abbrev mX2_emit : Mt := (yX2_emit, cX2_emit, 3, none)
abbrev mX2_end : Mt := (yX2_end, cX2_end, 2, some FieldType.int)
abbrev mX2_endOne : Mt := (yX2_endOne, cX2_endOne, 1, some FieldType.int)
abbrev mX2_entry : Mt := (yX2_entry, cX2_entry, 3, some FieldType.int)
abbrev mX2_fault : Mt := (yX2_fault, cX2_fault, 2, some FieldType.int)
abbrev mX2_feast : Mt := (yX2_feast, cX2_feast, 4, some FieldType.int)
abbrev mX2_feed : Mt := (yX2_feed, cX2_feed, 6, some FieldType.int)
abbrev mX2_figure : Mt := (yX2_figure, cX2_figure, 4, some FieldType.int)
abbrev mX2_foretold : Mt := (yX2_foretold, cX2_foretold, 4, some FieldType.int)
abbrev mX2_forget : Mt := (yX2_forget, cX2_forget, 3, some FieldType.boolean)
abbrev mX2_forgetNow : Mt := (yX2_forgetNow, cX2_forgetNow, 3, none)
abbrev mX2_four : Mt := (yX2_four, cX2_four, 3, none)
abbrev mX2_friendsOn : Mt := (yX2_friendsOn, cX2_friendsOn, 4, some FieldType.int)
abbrev mX2_get : Mt := (yX2_get, cX2_get, 3, some FieldType.int)
abbrev mX2_goOn : Mt := (yX2_goOn, cX2_goOn, 3, none)
abbrev mX2_gossip : Mt := (yX2_gossip, cX2_gossip, 3, some FieldType.int)
abbrev mX2_happens : Mt := (yX2_happens, cX2_happens, 3, none)
abbrev mX2_has : Mt := (yX2_has, cX2_has, 2, some FieldType.boolean)
abbrev mX2_hat : Mt := (yX2_hat, cX2_hat, 2, some FieldType.int)
abbrev mX2_hatNow : Mt := (yX2_hatNow, cX2_hatNow, 4, some FieldType.int)
abbrev mX2_house : Mt := (yX2_house, cX2_house, 7, some FieldType.int)
abbrev mX2_houseClause : Mt := (yX2_houseClause, cX2_houseClause, 3, some FieldType.int)
abbrev mX2_image : Mt := (yX2_image, cX2_image, 1, some FieldType.int)
abbrev mX2_indoors : Mt := (yX2_indoors, cX2_indoors, 3, some FieldType.int)
abbrev mX2_init : Mt := (yX2_init, cX2_init, 1, none)
abbrev mX2_is : Mt := (yX2_is, cX2_is, 2, some FieldType.int)
abbrev mX2_isAskAhead : Mt := (yX2_isAskAhead, cX2_isAskAhead, 1, some FieldType.boolean)
abbrev mX2_isAsked : Mt := (yX2_isAsked, cX2_isAsked, 5, some FieldType.boolean)
abbrev mX2_isCompared : Mt := (yX2_isCompared, cX2_isCompared, 2, some FieldType.boolean)
abbrev mX2_isDividing : Mt := (yX2_isDividing, cX2_isDividing, 4, some FieldType.boolean)
abbrev mX2_isFigure : Mt := (yX2_isFigure, cX2_isFigure, 1, some FieldType.boolean)
abbrev mX2_isFriends : Mt := (yX2_isFriends, cX2_isFriends, 1, some FieldType.boolean)
abbrev mX2_isHere : Mt := (yX2_isHere, cX2_isHere, 2, some FieldType.boolean)
abbrev mX2_isHouse : Mt := (yX2_isHouse, cX2_isHouse, 2, some FieldType.boolean)
abbrev mX2_isIn : Mt := (yX2_isIn, cX2_isIn, 3, some FieldType.boolean)
abbrev mX2_isLaid : Mt := (yX2_isLaid, cX2_isLaid, 8, some FieldType.boolean)
abbrev mX2_isLetterByte : Mt := (yX2_isLetterByte, cX2_isLetterByte, 1, some FieldType.boolean)
abbrev mX2_isLetting : Mt := (yX2_isLetting, cX2_isLetting, 3, some FieldType.boolean)
abbrev mX2_isLong : Mt := (yX2_isLong, cX2_isLong, 5, some FieldType.boolean)
abbrev mX2_isOpen : Mt := (yX2_isOpen, cX2_isOpen, 3, some FieldType.boolean)
abbrev mX2_isPlayed : Mt := (yX2_isPlayed, cX2_isPlayed, 5, some FieldType.boolean)
abbrev mX2_isRound : Mt := (yX2_isRound, cX2_isRound, 3, some FieldType.boolean)
abbrev mX2_isShut : Mt := (yX2_isShut, cX2_isShut, 2, some FieldType.boolean)
abbrev mX2_isSign : Mt := (yX2_isSign, cX2_isSign, 1, some FieldType.boolean)
abbrev mX2_isWord : Mt := (yX2_isWord, cX2_isWord, 3, some FieldType.boolean)
abbrev mX2_joined : Mt := (yX2_joined, cX2_joined, 3, some FieldType.boolean)
abbrev mX2_keep : Mt := (yX2_keep, cX2_keep, 4, none)
abbrev mX2_knock : Mt := (yX2_knock, cX2_knock, 2, some FieldType.int)
abbrev mX2_knockNow : Mt := (yX2_knockNow, cX2_knockNow, 4, some FieldType.int)
abbrev mX2_knocks : Mt := (yX2_knocks, cX2_knocks, 3, some FieldType.int)
abbrev mX2_knocksAt : Mt := (yX2_knocksAt, cX2_knocksAt, 5, some FieldType.int)
abbrev mX2_knows : Mt := (yX2_knows, cX2_knows, 5, some FieldType.int)
abbrev mX2_later : Mt := (yX2_later, cX2_later, 4, some FieldType.int)
abbrev mX2_lawClause : Mt := (yX2_lawClause, cX2_lawClause, 4, some FieldType.int)
abbrev mX2_layMembers : Mt := (yX2_layMembers, cX2_layMembers, 4, some FieldType.int)
abbrev mX2_laySets : Mt := (yX2_laySets, cX2_laySets, 6, none)
abbrev mX2_layThieves : Mt := (yX2_layThieves, cX2_layThieves, 7, none)
abbrev mX2_leap : Mt := (yX2_leap, cX2_leap, 4, some FieldType.int)
abbrev mX2_losesOf : Mt := (yX2_losesOf, cX2_losesOf, 2, some FieldType.int)
abbrev mX2_marry : Mt := (yX2_marry, cX2_marry, 5, some FieldType.int)
abbrev mX2_name : Mt := (yX2_name, cX2_name, 3, none)
abbrev mX2_nameOf : Mt := (yX2_nameOf, cX2_nameOf, 1, some FieldType.int)
abbrev mX2_never : Mt := (yX2_never, cX2_never, 4, some FieldType.int)
abbrev mX2_nextKnock : Mt := (yX2_nextKnock, cX2_nextKnock, 7, some FieldType.int)
abbrev mX2_nextMate : Mt := (yX2_nextMate, cX2_nextMate, 4, some FieldType.int)
abbrev mX2_nextRow : Mt := (yX2_nextRow, cX2_nextRow, 4, some FieldType.boolean)
abbrev mX2_nextToken : Mt := (yX2_nextToken, cX2_nextToken, 2, none)
abbrev mX2_night : Mt := (yX2_night, cX2_night, 5, some FieldType.int)
abbrev mX2_nobodys : Mt := (yX2_nobodys, cX2_nobodys, 3, some FieldType.int)
abbrev mX2_note : Mt := (yX2_note, cX2_note, 3, none)
abbrev mX2_odds : Mt := (yX2_odds, cX2_odds, 5, some FieldType.int)
abbrev mX2_of : Mt := (yX2_of, cX2_of, 3, some FieldType.int)
abbrev mX2_offended : Mt := (yX2_offended, cX2_offended, 4, some FieldType.int)
abbrev mX2_openOn : Mt := (yX2_openOn, cX2_openOn, 4, some FieldType.int)
abbrev mX2_opened : Mt := (yX2_opened, cX2_opened, 2, some FieldType.int)
abbrev mX2_parsed : Mt := (yX2_parsed, cX2_parsed, 3, some FieldType.int)
abbrev mX2_pass : Mt := (yX2_pass, cX2_pass, 4, none)
abbrev mX2_played : Mt := (yX2_played, cX2_played, 3, some FieldType.int)
abbrev mX2_poorest : Mt := (yX2_poorest, cX2_poorest, 4, some FieldType.int)
abbrev mX2_put : Mt := (yX2_put, cX2_put, 4, none)
abbrev mX2_putBack : Mt := (yX2_putBack, cX2_putBack, 2, none)
abbrev mX2_rank : Mt := (yX2_rank, cX2_rank, 1, some FieldType.int)
abbrev mX2_readText : Mt := (yX2_readText, cX2_readText, 2, some FieldType.int)
abbrev mX2_richest : Mt := (yX2_richest, cX2_richest, 4, some FieldType.int)
abbrev mX2_rounds : Mt := (yX2_rounds, cX2_rounds, 4, some FieldType.int)
abbrev mX2_says : Mt := (yX2_says, cX2_says, 4, some FieldType.int)
abbrev mX2_seen : Mt := (yX2_seen, cX2_seen, 5, some FieldType.int)
abbrev mX2_setAside : Mt := (yX2_setAside, cX2_setAside, 2, none)
abbrev mX2_sets : Mt := (yX2_sets, cX2_sets, 4, some FieldType.int)
abbrev mX2_settle : Mt := (yX2_settle, cX2_settle, 2, none)
abbrev mX2_sharedNow : Mt := (yX2_sharedNow, cX2_sharedNow, 3, some FieldType.int)
abbrev mX2_shutOn : Mt := (yX2_shutOn, cX2_shutOn, 4, some FieldType.int)
abbrev mX2_sortOf : Mt := (yX2_sortOf, cX2_sortOf, 1, some FieldType.int)
abbrev mX2_spread : Mt := (yX2_spread, cX2_spread, 4, some FieldType.int)
abbrev mX2_text : Mt := (yX2_text, cX2_text, 1, some FieldType.int)
abbrev mX2_thieves : Mt := (yX2_thieves, cX2_thieves, 4, some FieldType.int)
abbrev mX2_twins : Mt := (yX2_twins, cX2_twins, 4, some FieldType.int)
abbrev mX2_two : Mt := (yX2_two, cX2_two, 5, some FieldType.long)
abbrev mX2_undo : Mt := (yX2_undo, cX2_undo, 4, some FieldType.int)
abbrev mX2_w2 : Mt := (yX2_w2, cX2_w2, 2, some FieldType.long)
abbrev mX2_w3 : Mt := (yX2_w3, cX2_w3, 3, some FieldType.long)
abbrev mX2_w4 : Mt := (yX2_w4, cX2_w4, 4, some FieldType.long)
abbrev mX2_w5 : Mt := (yX2_w5, cX2_w5, 5, some FieldType.long)
abbrev mX2_w6 : Mt := (yX2_w6, cX2_w6, 6, some FieldType.long)
abbrev mX2_wed : Mt := (yX2_wed, cX2_wed, 5, some FieldType.int)
abbrev mX2_weddings : Mt := (yX2_weddings, cX2_weddings, 3, some FieldType.int)
abbrev mX2_whose : Mt := (yX2_whose, cX2_whose, 8, some FieldType.int)
abbrev mX2_worded : Mt := (yX2_worded, cX2_worded, 5, some FieldType.int)
abbrev mX2_work : Mt := (yX2_work, cX2_work, 9, none)
abbrev mX2_write : Mt := (yX2_write, cX2_write, 4, none)
abbrev mX2_years : Mt := (yX2_years, cX2_years, 5, some FieldType.int)
abbrev mX3_ask : Mt := (yX3_ask, cX3_ask, 3, some ((FieldType.object "ShutDays$Asked")))
abbrev mX3_behind : Mt := (yX3_behind, cX3_behind, 4, some FieldType.int)
abbrev mX3_both : Mt := (yX3_both, cX3_both, 2, some ((FieldType.object "ShutDays$Asked")))
abbrev mX3_digit : Mt := (yX3_digit, cX3_digit, 3, some ((FieldType.object "ShutDays$Sum")))
abbrev mX3_divides : Mt := (yX3_divides, cX3_divides, 2, some ((FieldType.object "ShutDays$Asked")))
abbrev mX3_doing : Mt := (yX3_doing, cX3_doing, 4, some ((FieldType.object "ShutDays$Doing")))
abbrev mX3_either : Mt := (yX3_either, cX3_either, 2, some ((FieldType.object "ShutDays$Asked")))
abbrev mX3_init : Mt := (yX3_init, cX3_init, 3, none)
abbrev mX3_isDigit : Mt := (yX3_isDigit, cX3_isDigit, 1, some FieldType.boolean)
abbrev mX3_isLetter : Mt := (yX3_isLetter, cX3_isLetter, 1, some FieldType.boolean)
abbrev mX3_isWord : Mt := (yX3_isWord, cX3_isWord, 3, some FieldType.boolean)
abbrev mX3_mayName : Mt := (yX3_mayName, cX3_mayName, 2, some FieldType.boolean)
abbrev mX3_nameNow : Mt := (yX3_nameNow, cX3_nameNow, 1, some FieldType.int)
abbrev mX3_next : Mt := (yX3_next, cX3_next, 3, none)
abbrev mX3_number : Mt := (yX3_number, cX3_number, 4, some FieldType.int)
abbrev mX3_one : Mt := (yX3_one, cX3_one, 3, some ((FieldType.object "ShutDays$Sum")))
abbrev mX3_opens : Mt := (yX3_opens, cX3_opens, 1, none)
abbrev mX3_product : Mt := (yX3_product, cX3_product, 3, some ((FieldType.object "ShutDays$Sum")))
abbrev mX3_read : Mt := (yX3_read, cX3_read, 2, some ((FieldType.object "ShutDays$Text")))
abbrev mX3_sum : Mt := (yX3_sum, cX3_sum, 3, some ((FieldType.object "ShutDays$Sum")))
abbrev mX3_want : Mt := (yX3_want, cX3_want, 2, none)
abbrev mX3_wrong : Mt := (yX3_wrong, cX3_wrong, 2, some ((FieldType.object "ShutDays$Wrong")))
abbrev mX4_init : Mt := (yX4_init, cX4_init, 1, none)
abbrev mX5_init : Mt := (yX5_init, cX5_init, 3, none)
abbrev mX6_add : Mt := (yX6_add, cX6_add, 3, none)
abbrev mX6_init : Mt := (yX6_init, cX6_init, 2, none)
abbrev mX6_itself : Mt := (yX6_itself, cX6_itself, 1, some ((FieldType.object "ShutDays$Sum")))
abbrev mX6_of : Mt := (yX6_of, cX6_of, 10, some FieldType.long)
abbrev mX7_init : Mt := (yX7_init, cX7_init, 2, none)
abbrev mX7_of : Mt := (yX7_of, cX7_of, 2, some FieldType.long)
abbrev mX8_init : Mt := (yX8_init, cX8_init, 3, none)
abbrev mX8_of : Mt := (yX8_of, cX8_of, 8, some FieldType.long)
abbrev mX9_init : Mt := (yX9_init, cX9_init, 2, none)
abbrev mX9_of : Mt := (yX9_of, cX9_of, 2, some FieldType.long)
theorem nz_b (b : Bool) : narrow .boolean (.int (b2i b)) = .int (b2i b) := by cases b <;> rfl
theorem b2i_t : b2i true = 1 := rfl
theorem b2i_f : b2i false = 0 := rfl
theorem b2i_0 (b : Bool) : (b2i b = 0) ↔ b = false := by cases b <;> decide
theorem b2i_1 (b : Bool) : (b2i b = 1) ↔ b = true := by cases b <;> decide
section ENDE
variable {d : Nat} {M : Mt} {h h2 : AH} {pc : Nat} {ls : List (Option Value)}
theorem AW.iretE {v w : Int32} (hd : decode M.2.1 pc = .ok (.ireturn, 1)) (hr : M.2.2.2 = some .int) (hz : ls.length = M.2.2.1) (e : v = w) (eh : h = h2) : AW d M h pc ls [.int v] (.inl (some (.int w))) h2 := by
  subst e; subst eh; exact AW.iret hd hr hz
theorem AW.zretE {v w : Int32} (hd : decode M.2.1 pc = .ok (.ireturn, 1)) (hr : M.2.2.2 = some .boolean) (hz : ls.length = M.2.2.1) (e : v = w) (hw : w = 0 ∨ w = 1) (eh : h = h2) : AW d M h pc ls [.int v] (.inl (some (.int w))) h2 := by
  subst e; subst eh; exact AW.zret hd hr (by rcases hw with rfl | rfl <;> rfl) hz
theorem AW.bretE {v : Int32} {w : Bool} (hd : decode M.2.1 pc = .ok (.ireturn, 1)) (hr : M.2.2.2 = some .boolean) (hz : ls.length = M.2.2.1) (e : v = b2i w) (eh : h = h2) : AW d M h pc ls [.int v] (.inl (some (.int (b2i w)))) h2 := by
  subst e; subst eh; exact AW.zret hd hr (nz_b w) hz
theorem AW.lretE {v w : Int64} (hd : decode M.2.1 pc = .ok (.lreturn, 1)) (hr : M.2.2.2 = some .long) (hz : ls.length = M.2.2.1) (e : v = w) (eh : h = h2) : AW d M h pc ls [.long v] (.inl (some (.long w))) h2 := by
  subst e; subst eh; exact AW.lret hd hr hz
theorem AW.vretE (hd : decode M.2.1 pc = .ok (.return_, 1)) (hr : M.2.2.2 = none) (hz : ls.length = M.2.2.1) (eh : h = h2) : AW d M h pc ls [] (.inl none) h2 := by
  subst eh; exact AW.vret hd hr hz
end ENDE
/-- int arrays by cell; scalars (those of the model by their fields' numbers, 100..: taped, fault, faultAt, most of the system); the longs; the word; the texts' cells; the rest of the heap -/
def Sg : Type := (Nat → Nat → Int32) × (Nat → Int32) × (Nat → Int64) × Int64 × (Nat → Value) × AH
def Sg.A (s : Sg) : Nat → Nat → Int32 := s.1
def Sg.S (s : Sg) : Nat → Int32 := s.2.1
def Sg.V (s : Sg) : Nat → Int64 := s.2.2.1
def Sg.w (s : Sg) : Int64 := s.2.2.2.1
def Sg.T (s : Sg) : Nat → Value := s.2.2.2.2.1
def Sg.b (s : Sg) : AH := s.2.2.2.2.2
def Sg.setA (s : Sg) (k : Nat) (f : Nat → Int32) : Sg := (up s.A k f, s.2)
def Sg.setS (s : Sg) (k : Nat) (x : Int32) : Sg := (s.A, up s.S k x, s.2.2)
def Sg.setV (s : Sg) (f : Nat → Int64) : Sg := (s.A, s.S, f, s.2.2.2)
def Sg.setw (s : Sg) (x : Int64) : Sg := (s.A, s.S, s.V, x, s.2.2.2.2)
def Sg.setT (s : Sg) (f : Nat → Value) : Sg := (s.A, s.S, s.V, s.w, f, s.b)
def Sg.setb (s : Sg) (b : AH) : Sg := (s.A, s.S, s.V, s.w, s.T, b)
def ln (k : Nat) : Nat := if k = 626 then 2308 else if k = 627 then 2308 else if k = 628 then 2820 else if k = 629 then 300 else if k = 630 then 160 else if k = 631 then 8 else if k = 634 then 68 else if k = 635 then 20 else if 636 ≤ k then 7 else if k = 514 then 6 else if k = 515 then 145 else if k = 567 then 6 else if k = 568 then 145 else if k < 525 then 3 else if k < 534 then 2 else if k < 565 then 145 else if k < 578 then 3 else if k < 587 then 2 else if k < 618 then 145 else if k = 620 then 8 else if k = 621 then 145 else 7
def mfl (s : Sg) : List Value := [.ref 626, .ref 627, .ref 628, .ref 629, .int (s.S 4), .int (s.S 5), .int (s.S 6), .int (s.S 7), .int (s.S 8), .int (s.S 9), .int (s.S 10), .long s.w, .int (s.S 12), .int (s.S 13), .int (s.S 14), .ref 630, .int (s.S 16), .int (s.S 17), .int (s.S 18), .int (s.S 19), .int (s.S 20), .ref 631, .ref 632, .ref 633, .ref 634, .int (s.S 25), .int (s.S 26), .int (s.S 27), .int (s.S 28), .ref 635, .int (s.S 30), .int (s.S 31), .ref 636, .ref 637, .ref 638, .ref 639]
def sfl (s : Sg) : List Value := [.ref 513, .ref 566, .ref 619, .int (s.S 100), .int (s.S 101), .int (s.S 102), .ref 620, .ref 621, .ref 622, .ref 623, .ref 624, .int (s.S 103)]
def AC_T (f : Nat → Value) : AC := .inl (5, 4, f)
/-- the fixed cells -/
def fx (s : Sg) (k : Nat) : AC := if k = 625 then .inr (2, mfl s) else if k = 632 then la 330 s.V else if k = 633 then za 330 (s.A 633) else if k = 512 then .inr (0, sfl s) else if k = 513 then .inr (1, [.ref 514, .ref 515, .ref 516, .ref 525, .ref 534, .ref 565]) else if k = 566 then .inr (1, [.ref 567, .ref 568, .ref 569, .ref 578, .ref 587, .ref 618]) else if k = 619 then ba 300 (s.A 619) else if k = 516 then .inl (4, 8, fun j => .ref (517 + j)) else if k = 525 then .inl (4, 8, fun j => .ref (526 + j)) else if k = 534 then .inl (4, 30, fun j => .ref (535 + j)) else if k = 569 then .inl (4, 8, fun j => .ref (570 + j)) else if k = 578 then .inl (4, 8, fun j => .ref (579 + j)) else if k = 587 then .inl (4, 30, fun j => .ref (588 + j)) else if k = 565 then .inl (5, 4, fun j => s.T (2 * j)) else if k = 618 then .inl (5, 4, fun j => s.T (2 * j + 1)) else ia (ln k) (s.A k)
def isFx (k : Nat) : Bool := decide (512 ≤ k) && decide (k < 640)
def hp (s : Sg) : AH := (s.b.n, s.b.u, fun k => if isFx k = true then some (fx s k) else s.b.g k)
/-- the cells that are plain int arrays -/
def isI (k : Nat) : Bool := isFx k && !(k == 625 || k == 632 || k == 633 || k == 512 || k == 513 || k == 566 || k == 619 || k == 516 || k == 525 || k == 534 || k == 569 || k == 578 || k == 587 || k == 565 || k == 618)
theorem fx_I {s : Sg} {k : Nat} (h : isI k = true) : fx s k = ia (ln k) (s.A k) := by
  simp only [isI, Bool.and_eq_true, Bool.not_eq_true', Bool.or_eq_false_iff, beq_eq_false_iff_ne, ne_eq] at h
  unfold fx
  simp only [h, if_false]
theorem hp_g {s : Sg} {k : Nat} (h : isFx k = true) : (hp s).g k = some (fx s k) := by
  show (if isFx k = true then some (fx s k) else s.b.g k) = _
  rw [if_pos h]
theorem hp_gI {s : Sg} {k : Nat} (h : isI k = true) : (hp s).g k = some (ia (ln k) (s.A k)) := by
  have h2 : isFx k = true := by unfold isI at h; exact (Bool.and_eq_true_iff.mp h).1
  rw [hp_g h2, fx_I h]
theorem hp_set {s t : Sg} {k : Nat} {c : AC} (hk : isFx k = true) (h1 : fx t k = c) (h2 : ∀ j, j ≠ k → fx t j = fx s j) (hb : t.b = s.b) : (hp s).set k c = hp t := by
  unfold hp AH.set
  rw [hb]
  refine congrArg (fun z => (s.b.n, s.b.u, z)) (funext fun j => ?_)
  show (if j = k then some c else if isFx j = true then some (fx s j) else s.b.g j) = if isFx j = true then some (fx t j) else s.b.g j
  by_cases hj : j = k
  · subst hj
    rw [if_pos rfl, if_pos hk, h1]
  · rw [if_neg hj, h2 j hj]
theorem up_ne {α : Type} {f : Nat → α} {k j : Nat} {x : α} (h : j ≠ k) : up f k x j = f j := by unfold up; rw [if_neg h]
theorem up_eq {α : Type} {f : Nat → α} {k : Nat} {x : α} : up f k x k = x := by unfold up; rw [if_pos rfl]
theorem fx_setA {s : Sg} {k j : Nat} {f : Nat → Int32} (h : j ≠ k) : fx (s.setA k f) j = fx s j := by
  unfold fx
  have e1 : (s.setA k f).V = s.V := rfl
  have e2 : (s.setA k f).T = s.T := rfl
  have e3 : mfl (s.setA k f) = mfl s := rfl
  have e4 : sfl (s.setA k f) = sfl s := rfl
  have e5 : (s.setA k f).A j = s.A j := up_ne h
  rw [e1, e2, e3, e4, e5]
  by_cases h1 : j = 633
  · subst h1
    simp [show (s.setA k f).A 633 = s.A 633 from up_ne h]
  · by_cases h2 : j = 619
    · subst h2
      simp [show (s.setA k f).A 619 = s.A 619 from up_ne h]
    · simp only [h1, h2, if_false]
theorem hp_sI {s : Sg} {k : Nat} {f : Nat → Int32} (h : isI k = true) : (hp s).set k (ia (ln k) f) = hp (s.setA k f) := by
  have h2 : isFx k = true := by unfold isI at h; exact (Bool.and_eq_true_iff.mp h).1
  refine hp_set h2 ?_ (fun j hj => fx_setA hj) rfl
  rw [fx_I h]
  show ia (ln k) (up s.A k f k) = _
  rw [up_eq]
section FX
variable {s : Sg}
theorem gM : (hp s).g 625 = some (.inr (2, mfl s)) := hp_g rfl
theorem gX : (hp s).g 512 = some (.inr (0, sfl s)) := hp_g rfl
theorem gN : (hp s).g 513 = some (.inr (1, [.ref 514, .ref 515, .ref 516, .ref 525, .ref 534, .ref 565])) := hp_g rfl
theorem gI : (hp s).g 566 = some (.inr (1, [.ref 567, .ref 568, .ref 569, .ref 578, .ref 587, .ref 618])) := hp_g rfl
theorem g632 : (hp s).g 632 = some (la 330 s.V) := hp_g rfl
theorem g633 : (hp s).g 633 = some (za 330 (s.A 633)) := hp_g rfl
theorem g619 : (hp s).g 619 = some (ba 300 (s.A 619)) := hp_g rfl
theorem g516 : (hp s).g 516 = some (.inl (4, 8, fun j => .ref (517 + j))) := hp_g rfl
theorem g525 : (hp s).g 525 = some (.inl (4, 8, fun j => .ref (526 + j))) := hp_g rfl
theorem g534 : (hp s).g 534 = some (.inl (4, 30, fun j => .ref (535 + j))) := hp_g rfl
theorem g569 : (hp s).g 569 = some (.inl (4, 8, fun j => .ref (570 + j))) := hp_g rfl
theorem g578 : (hp s).g 578 = some (.inl (4, 8, fun j => .ref (579 + j))) := hp_g rfl
theorem g587 : (hp s).g 587 = some (.inl (4, 30, fun j => .ref (588 + j))) := hp_g rfl
theorem g565 : (hp s).g 565 = some (.inl (5, 4, fun j => s.T (2 * j))) := hp_g rfl
theorem g618 : (hp s).g 618 = some (.inl (5, 4, fun j => s.T (2 * j + 1))) := hp_g rfl
theorem s633 {f : Nat → Int32} : (hp s).set 633 (za 330 f) = hp (s.setA 633 f) := hp_set rfl rfl (fun j hj => fx_setA hj) rfl
theorem s619 {f : Nat → Int32} : (hp s).set 619 (ba 300 f) = hp (s.setA 619 f) := hp_set rfl rfl (fun j hj => fx_setA hj) rfl
theorem s632 {f : Nat → Int64} : (hp s).set 632 (la 330 f) = hp (s.setV f) := by
  refine hp_set rfl rfl (fun j hj => ?_) rfl
  unfold fx
  simp only [hj, if_false]
  rfl
theorem s565 {f : Nat → Value} : (hp s).set 565 (.inl (5, 4, f)) = hp (s.setT (fun j => if j % 2 = 0 then f (j / 2) else s.T j)) := by
  refine hp_set rfl ?_ (fun j hj => ?_) rfl
  · show AC_T _ = AC_T _
    exact congrArg AC_T (funext fun j => by show (if (2 * j) % 2 = 0 then f (2 * j / 2) else _) = _; rw [if_pos (by omega)]; congr 1; omega)
  · by_cases h : j = 618
    · subst h
      exact congrArg AC_T (funext fun j => by show (if (2 * j + 1) % 2 = 0 then _ else _) = _; rw [if_neg (by omega)])
    · unfold fx; simp only [hj, h, if_false]; rfl
theorem s618 {f : Nat → Value} : (hp s).set 618 (.inl (5, 4, f)) = hp (s.setT (fun j => if j % 2 = 1 then f (j / 2) else s.T j)) := by
  refine hp_set rfl ?_ (fun j hj => ?_) rfl
  · show AC_T _ = AC_T _
    exact congrArg AC_T (funext fun j => by show (if (2 * j + 1) % 2 = 1 then f ((2 * j + 1) / 2) else _) = _; rw [if_pos (by omega)]; congr 1; omega)
  · by_cases h : j = 565
    · subst h
      exact congrArg AC_T (funext fun j => by show (if (2 * j) % 2 = 1 then _ else _) = _; rw [if_neg (by omega)])
    · unfold fx; simp only [hj, h, if_false]; rfl
theorem g626 : (hp s).g 626 = some (ia 2308 (s.A 626)) := hp_gI rfl
theorem s626 {f : Nat → Int32} : (hp s).set 626 (ia 2308 f) = hp (s.setA 626 f) := hp_sI (k := 626) rfl
theorem g627 : (hp s).g 627 = some (ia 2308 (s.A 627)) := hp_gI rfl
theorem s627 {f : Nat → Int32} : (hp s).set 627 (ia 2308 f) = hp (s.setA 627 f) := hp_sI (k := 627) rfl
theorem g628 : (hp s).g 628 = some (ia 2820 (s.A 628)) := hp_gI rfl
theorem s628 {f : Nat → Int32} : (hp s).set 628 (ia 2820 f) = hp (s.setA 628 f) := hp_sI (k := 628) rfl
theorem g629 : (hp s).g 629 = some (ia 300 (s.A 629)) := hp_gI rfl
theorem s629 {f : Nat → Int32} : (hp s).set 629 (ia 300 f) = hp (s.setA 629 f) := hp_sI (k := 629) rfl
theorem g630 : (hp s).g 630 = some (ia 160 (s.A 630)) := hp_gI rfl
theorem s630 {f : Nat → Int32} : (hp s).set 630 (ia 160 f) = hp (s.setA 630 f) := hp_sI (k := 630) rfl
theorem g631 : (hp s).g 631 = some (ia 8 (s.A 631)) := hp_gI rfl
theorem s631 {f : Nat → Int32} : (hp s).set 631 (ia 8 f) = hp (s.setA 631 f) := hp_sI (k := 631) rfl
theorem g634 : (hp s).g 634 = some (ia 68 (s.A 634)) := hp_gI rfl
theorem s634 {f : Nat → Int32} : (hp s).set 634 (ia 68 f) = hp (s.setA 634 f) := hp_sI (k := 634) rfl
theorem g635 : (hp s).g 635 = some (ia 20 (s.A 635)) := hp_gI rfl
theorem s635 {f : Nat → Int32} : (hp s).set 635 (ia 20 f) = hp (s.setA 635 f) := hp_sI (k := 635) rfl
theorem g636 : (hp s).g 636 = some (ia 7 (s.A 636)) := hp_gI rfl
theorem s636 {f : Nat → Int32} : (hp s).set 636 (ia 7 f) = hp (s.setA 636 f) := hp_sI (k := 636) rfl
theorem g637 : (hp s).g 637 = some (ia 7 (s.A 637)) := hp_gI rfl
theorem s637 {f : Nat → Int32} : (hp s).set 637 (ia 7 f) = hp (s.setA 637 f) := hp_sI (k := 637) rfl
theorem g638 : (hp s).g 638 = some (ia 7 (s.A 638)) := hp_gI rfl
theorem s638 {f : Nat → Int32} : (hp s).set 638 (ia 7 f) = hp (s.setA 638 f) := hp_sI (k := 638) rfl
theorem g639 : (hp s).g 639 = some (ia 7 (s.A 639)) := hp_gI rfl
theorem s639 {f : Nat → Int32} : (hp s).set 639 (ia 7 f) = hp (s.setA 639 f) := hp_sI (k := 639) rfl
theorem g514 : (hp s).g 514 = some (ia 6 (s.A 514)) := hp_gI rfl
theorem s514 {f : Nat → Int32} : (hp s).set 514 (ia 6 f) = hp (s.setA 514 f) := hp_sI (k := 514) rfl
theorem g515 : (hp s).g 515 = some (ia 145 (s.A 515)) := hp_gI rfl
theorem s515 {f : Nat → Int32} : (hp s).set 515 (ia 145 f) = hp (s.setA 515 f) := hp_sI (k := 515) rfl
theorem g567 : (hp s).g 567 = some (ia 6 (s.A 567)) := hp_gI rfl
theorem s567 {f : Nat → Int32} : (hp s).set 567 (ia 6 f) = hp (s.setA 567 f) := hp_sI (k := 567) rfl
theorem g568 : (hp s).g 568 = some (ia 145 (s.A 568)) := hp_gI rfl
theorem s568 {f : Nat → Int32} : (hp s).set 568 (ia 145 f) = hp (s.setA 568 f) := hp_sI (k := 568) rfl
theorem g620 : (hp s).g 620 = some (ia 8 (s.A 620)) := hp_gI rfl
theorem s620 {f : Nat → Int32} : (hp s).set 620 (ia 8 f) = hp (s.setA 620 f) := hp_sI (k := 620) rfl
theorem g621 : (hp s).g 621 = some (ia 145 (s.A 621)) := hp_gI rfl
theorem s621 {f : Nat → Int32} : (hp s).set 621 (ia 145 f) = hp (s.setA 621 f) := hp_sI (k := 621) rfl
theorem g622 : (hp s).g 622 = some (ia 7 (s.A 622)) := hp_gI rfl
theorem s622 {f : Nat → Int32} : (hp s).set 622 (ia 7 f) = hp (s.setA 622 f) := hp_sI (k := 622) rfl
theorem g623 : (hp s).g 623 = some (ia 7 (s.A 623)) := hp_gI rfl
theorem s623 {f : Nat → Int32} : (hp s).set 623 (ia 7 f) = hp (s.setA 623 f) := hp_sI (k := 623) rfl
theorem g624 : (hp s).g 624 = some (ia 7 (s.A 624)) := hp_gI rfl
theorem s624 {f : Nat → Int32} : (hp s).set 624 (ia 7 f) = hp (s.setA 624 f) := hp_sI (k := 624) rfl
theorem sM4 {x : Int32} : (hp s).set 625 (.inr (2, (mfl s).set 4 (.int x))) = hp (s.setS 4 x) := by
  refine hp_set rfl rfl (fun j hj => ?_) rfl
  unfold fx
  by_cases h : j = 512
  · subst h; rfl
  · simp only [hj, h, if_false]; rfl
theorem sM5 {x : Int32} : (hp s).set 625 (.inr (2, (mfl s).set 5 (.int x))) = hp (s.setS 5 x) := by
  refine hp_set rfl rfl (fun j hj => ?_) rfl
  unfold fx
  by_cases h : j = 512
  · subst h; rfl
  · simp only [hj, h, if_false]; rfl
theorem sM6 {x : Int32} : (hp s).set 625 (.inr (2, (mfl s).set 6 (.int x))) = hp (s.setS 6 x) := by
  refine hp_set rfl rfl (fun j hj => ?_) rfl
  unfold fx
  by_cases h : j = 512
  · subst h; rfl
  · simp only [hj, h, if_false]; rfl
theorem sM7 {x : Int32} : (hp s).set 625 (.inr (2, (mfl s).set 7 (.int x))) = hp (s.setS 7 x) := by
  refine hp_set rfl rfl (fun j hj => ?_) rfl
  unfold fx
  by_cases h : j = 512
  · subst h; rfl
  · simp only [hj, h, if_false]; rfl
theorem sM8 {x : Int32} : (hp s).set 625 (.inr (2, (mfl s).set 8 (.int x))) = hp (s.setS 8 x) := by
  refine hp_set rfl rfl (fun j hj => ?_) rfl
  unfold fx
  by_cases h : j = 512
  · subst h; rfl
  · simp only [hj, h, if_false]; rfl
theorem sM9 {x : Int32} : (hp s).set 625 (.inr (2, (mfl s).set 9 (.int x))) = hp (s.setS 9 x) := by
  refine hp_set rfl rfl (fun j hj => ?_) rfl
  unfold fx
  by_cases h : j = 512
  · subst h; rfl
  · simp only [hj, h, if_false]; rfl
theorem sM10 {x : Int32} : (hp s).set 625 (.inr (2, (mfl s).set 10 (.int x))) = hp (s.setS 10 x) := by
  refine hp_set rfl rfl (fun j hj => ?_) rfl
  unfold fx
  by_cases h : j = 512
  · subst h; rfl
  · simp only [hj, h, if_false]; rfl
theorem sMw {x : Int64} : (hp s).set 625 (.inr (2, (mfl s).set 11 (.long x))) = hp (s.setw x) := by
  refine hp_set rfl rfl (fun j hj => ?_) rfl
  unfold fx
  by_cases h : j = 512
  · subst h; rfl
  · simp only [hj, h, if_false]; rfl
theorem sM12 {x : Int32} : (hp s).set 625 (.inr (2, (mfl s).set 12 (.int x))) = hp (s.setS 12 x) := by
  refine hp_set rfl rfl (fun j hj => ?_) rfl
  unfold fx
  by_cases h : j = 512
  · subst h; rfl
  · simp only [hj, h, if_false]; rfl
theorem sM13 {x : Int32} : (hp s).set 625 (.inr (2, (mfl s).set 13 (.int x))) = hp (s.setS 13 x) := by
  refine hp_set rfl rfl (fun j hj => ?_) rfl
  unfold fx
  by_cases h : j = 512
  · subst h; rfl
  · simp only [hj, h, if_false]; rfl
theorem sM14 {x : Int32} : (hp s).set 625 (.inr (2, (mfl s).set 14 (.int x))) = hp (s.setS 14 x) := by
  refine hp_set rfl rfl (fun j hj => ?_) rfl
  unfold fx
  by_cases h : j = 512
  · subst h; rfl
  · simp only [hj, h, if_false]; rfl
theorem sM16 {x : Int32} : (hp s).set 625 (.inr (2, (mfl s).set 16 (.int x))) = hp (s.setS 16 x) := by
  refine hp_set rfl rfl (fun j hj => ?_) rfl
  unfold fx
  by_cases h : j = 512
  · subst h; rfl
  · simp only [hj, h, if_false]; rfl
theorem sM17 {x : Int32} : (hp s).set 625 (.inr (2, (mfl s).set 17 (.int x))) = hp (s.setS 17 x) := by
  refine hp_set rfl rfl (fun j hj => ?_) rfl
  unfold fx
  by_cases h : j = 512
  · subst h; rfl
  · simp only [hj, h, if_false]; rfl
theorem sM18 {x : Int32} : (hp s).set 625 (.inr (2, (mfl s).set 18 (.int x))) = hp (s.setS 18 x) := by
  refine hp_set rfl rfl (fun j hj => ?_) rfl
  unfold fx
  by_cases h : j = 512
  · subst h; rfl
  · simp only [hj, h, if_false]; rfl
theorem sM19 {x : Int32} : (hp s).set 625 (.inr (2, (mfl s).set 19 (.int x))) = hp (s.setS 19 x) := by
  refine hp_set rfl rfl (fun j hj => ?_) rfl
  unfold fx
  by_cases h : j = 512
  · subst h; rfl
  · simp only [hj, h, if_false]; rfl
theorem sM20 {x : Int32} : (hp s).set 625 (.inr (2, (mfl s).set 20 (.int x))) = hp (s.setS 20 x) := by
  refine hp_set rfl rfl (fun j hj => ?_) rfl
  unfold fx
  by_cases h : j = 512
  · subst h; rfl
  · simp only [hj, h, if_false]; rfl
theorem sM25 {x : Int32} : (hp s).set 625 (.inr (2, (mfl s).set 25 (.int x))) = hp (s.setS 25 x) := by
  refine hp_set rfl rfl (fun j hj => ?_) rfl
  unfold fx
  by_cases h : j = 512
  · subst h; rfl
  · simp only [hj, h, if_false]; rfl
theorem sM26 {x : Int32} : (hp s).set 625 (.inr (2, (mfl s).set 26 (.int x))) = hp (s.setS 26 x) := by
  refine hp_set rfl rfl (fun j hj => ?_) rfl
  unfold fx
  by_cases h : j = 512
  · subst h; rfl
  · simp only [hj, h, if_false]; rfl
theorem sM27 {x : Int32} : (hp s).set 625 (.inr (2, (mfl s).set 27 (.int x))) = hp (s.setS 27 x) := by
  refine hp_set rfl rfl (fun j hj => ?_) rfl
  unfold fx
  by_cases h : j = 512
  · subst h; rfl
  · simp only [hj, h, if_false]; rfl
theorem sM28 {x : Int32} : (hp s).set 625 (.inr (2, (mfl s).set 28 (.int x))) = hp (s.setS 28 x) := by
  refine hp_set rfl rfl (fun j hj => ?_) rfl
  unfold fx
  by_cases h : j = 512
  · subst h; rfl
  · simp only [hj, h, if_false]; rfl
theorem sM30 {x : Int32} : (hp s).set 625 (.inr (2, (mfl s).set 30 (.int x))) = hp (s.setS 30 x) := by
  refine hp_set rfl rfl (fun j hj => ?_) rfl
  unfold fx
  by_cases h : j = 512
  · subst h; rfl
  · simp only [hj, h, if_false]; rfl
theorem sM31 {x : Int32} : (hp s).set 625 (.inr (2, (mfl s).set 31 (.int x))) = hp (s.setS 31 x) := by
  refine hp_set rfl rfl (fun j hj => ?_) rfl
  unfold fx
  by_cases h : j = 512
  · subst h; rfl
  · simp only [hj, h, if_false]; rfl
theorem sX3 {x : Int32} : (hp s).set 512 (.inr (0, (sfl s).set 3 (.int x))) = hp (s.setS 100 x) := by
  refine hp_set rfl rfl (fun j hj => ?_) rfl
  unfold fx
  by_cases h : j = 625
  · subst h; rfl
  · simp only [hj, h, if_false]; rfl
theorem sX4 {x : Int32} : (hp s).set 512 (.inr (0, (sfl s).set 4 (.int x))) = hp (s.setS 101 x) := by
  refine hp_set rfl rfl (fun j hj => ?_) rfl
  unfold fx
  by_cases h : j = 625
  · subst h; rfl
  · simp only [hj, h, if_false]; rfl
theorem sX5 {x : Int32} : (hp s).set 512 (.inr (0, (sfl s).set 5 (.int x))) = hp (s.setS 102 x) := by
  refine hp_set rfl rfl (fun j hj => ?_) rfl
  unfold fx
  by_cases h : j = 625
  · subst h; rfl
  · simp only [hj, h, if_false]; rfl
theorem sX11 {x : Int32} : (hp s).set 512 (.inr (0, (sfl s).set 11 (.int x))) = hp (s.setS 103 x) := by
  refine hp_set rfl rfl (fun j hj => ?_) rfl
  unfold fx
  by_cases h : j = 625
  · subst h; rfl
  · simp only [hj, h, if_false]; rfl
end FX
