/-! METHODS AND LINKS (written by gen/mk_links.py) -/
def mJ0_init : zM := (yJ0_init, cJ0_init, 1, none, [])
def mJ0_init_2 : zM := (yJ0_init_2, cJ0_init_2, 5, none, [])
def mJ1_init : zM := (yJ1_init, cJ1_init, 5, none, [])
def mJ1_init_2 : zM := (yJ1_init_2, cJ1_init_2, 1, none, [])
def mJ2_length : zM := (yJ2_length, cJ2_length, 1, some (FieldType.int), [])
def mJ2_coder : zM := (yJ2_coder, cJ2_coder, 1, some (FieldType.byte), [])
def mJ2_charAt : zM := (yJ2_charAt, cJ2_charAt, 2, some (FieldType.char), [])
def mJ2_isLatin1 : zM := (yJ2_isLatin1, cJ2_isLatin1, 1, some (FieldType.boolean), [])
def mJ2_checkIndex : zM := (yJ2_checkIndex, cJ2_checkIndex, 2, none, [])
def mJ3_charAt : zM := (yJ3_charAt, cJ3_charAt, 2, some (FieldType.char), [])
def mJ4_checkIndex : zM := (yJ4_checkIndex, cJ4_checkIndex, 3, some (FieldType.int), [])
def mJ5_charAt : zM := (yJ5_charAt, cJ5_charAt, 2, some (FieldType.char), [])
def mJ5_checkIndex : zM := (yJ5_checkIndex, cJ5_checkIndex, 2, none, [])
def mJ5_length : zM := (yJ5_length, cJ5_length, 1, some (FieldType.int), [])
def mJ5_getChar : zM := (yJ5_getChar, cJ5_getChar, 2, some (FieldType.char), [])
def mJ6_init : zM := (yJ6_init, cJ6_init, 1, none, [])
def mJ7_init : zM := (yJ7_init, cJ7_init, 1, none, [])
def mJ8_max : zM := (yJ8_max, cJ8_max, 2, some (FieldType.int), [])
def mJ8_min : zM := (yJ8_min, cJ8_min, 2, some (FieldType.int), [])
def mJ9_bitCount : zM := (yJ9_bitCount, cJ9_bitCount, 1, some (FieldType.int), [])
def mJ10_init : zM := (yJ10_init, cJ10_init, 1, none, [])
def mX0_slice : zM := (yX0_slice, cX0_slice, 5, some (FieldType.int), [((0 : Nat), (10 : Nat), (13 : Nat), (13 : Nat))])
def mX0_guest : zM := (yX0_guest, cX0_guest, 5, some (FieldType.int), [((0 : Nat), (10 : Nat), (13 : Nat), (13 : Nat))])
def mX0_sort : zM := (yX0_sort, cX0_sort, 5, some (FieldType.int), [((0 : Nat), (10 : Nat), (13 : Nat), (13 : Nat))])
def mX0_left : zM := (yX0_left, cX0_left, 5, some (FieldType.int), [((0 : Nat), (10 : Nat), (13 : Nat), (13 : Nat))])
def mX0_mean : zM := (yX0_mean, cX0_mean, 5, some (FieldType.int), [((0 : Nat), (9 : Nat), (12 : Nat), (13 : Nat))])
def mX2_init : zM := (yX2_init, cX2_init, 1, none, [])
def mX3_init : zM := (yX3_init, cX3_init, 1, none, [])
def mX3_whole : zM := (yX3_whole, cX3_whole, 2, some (FieldType.int), [])
def mX3_all : zM := (yX3_all, cX3_all, 3, some (FieldType.int), [])
def mX4_init : zM := (yX4_init, cX4_init, 1, none, [])
def mX4_go : zM := (yX4_go, cX4_go, 6, some (FieldType.int), [])
def mX4_be : zM := (yX4_be, cX4_be, 2, none, [])
def mX4_why : zM := (yX4_why, cX4_why, 6, some (FieldType.int), [])
def mX4_areMet : zM := (yX4_areMet, cX4_areMet, 3, some (FieldType.boolean), [])
def mX4_end : zM := (yX4_end, cX4_end, 2, some (FieldType.int), [])
def mX4_had : zM := (yX4_had, cX4_had, 6, some (FieldType.int), [])
def mX4_ends : zM := (yX4_ends, cX4_ends, 3, some (FieldType.int), [])
def mX4_isDone : zM := (yX4_isDone, cX4_isDone, 3, some (FieldType.boolean), [])
def mX4_left : zM := (yX4_left, cX4_left, 4, some (FieldType.int), [])
def mX4_drop : zM := (yX4_drop, cX4_drop, 3, none, [])
def mX4_isTaken : zM := (yX4_isTaken, cX4_isTaken, 4, some (FieldType.boolean), [])
def mX4_goesOf : zM := (yX4_goesOf, cX4_goesOf, 4, some (FieldType.int), [])
def mX4_ends_2 : zM := (yX4_ends_2, cX4_ends_2, 4, some (FieldType.int), [])
def mX5_init : zM := (yX5_init, cX5_init, 3, none, [])
def mX5_begin : zM := (yX5_begin, cX5_begin, 1, none, [])
def mX5_next : zM := (yX5_next, cX5_next, 2, none, [])
def mX5_peek : zM := (yX5_peek, cX5_peek, 1, some (FieldType.int), [])
def mX5_isLetter : zM := (yX5_isLetter, cX5_isLetter, 2, some (FieldType.boolean), [])
def mX5_isDigit : zM := (yX5_isDigit, cX5_isDigit, 2, some (FieldType.boolean), [])
def mX5_run : zM := (yX5_run, cX5_run, 3, none, [])
def mX5_find : zM := (yX5_find, cX5_find, 3, some (FieldType.int), [])
def mX5_is : zM := (yX5_is, cX5_is, 3, some (FieldType.boolean), [])
def mX5_must : zM := (yX5_must, cX5_must, 3, none, [])
def mX5_wrong : zM := (yX5_wrong, cX5_wrong, 2, some ((FieldType.object "PanSlices$Fault")), [])
def mX5_number : zM := (yX5_number, cX5_number, 4, some (FieldType.int), [])
def mX5_isName : zM := (yX5_isName, cX5_isName, 1, some (FieldType.boolean), [])
def mX5_of : zM := (yX5_of, cX5_of, 4, some (FieldType.int), [])
def mX5_sign : zM := (yX5_sign, cX5_sign, 2, none, [])
def mX5_is_2 : zM := (yX5_is_2, cX5_is_2, 2, some (FieldType.boolean), [])
def mX5_slice : zM := (yX5_slice, cX5_slice, 2, some (FieldType.int), [])
def mX6_init : zM := (yX6_init, cX6_init, 2, none, [])
def mX6_read : zM := (yX6_read, cX6_read, 4, some (FieldType.int), [])
def mX6_line : zM := (yX6_line, cX6_line, 3, none, [])
def mX6_fresh : zM := (yX6_fresh, cX6_fresh, 3, some (FieldType.long), [])
def mX7_init : zM := (yX7_init, cX7_init, 2, none, [])
def mX7_read : zM := (yX7_read, cX7_read, 7, none, [])
def mX8_init : zM := (yX8_init, cX8_init, 1, none, [])
def mX9_init : zM := (yX9_init, cX9_init, 1, none, [])
def mX9_likes : zM := (yX9_likes, cX9_likes, 3, some (FieldType.int), [])
def mX10_init : zM := (yX10_init, cX10_init, 1, none, [])
def mX10_likes : zM := (yX10_likes, cX10_likes, 3, some (FieldType.int), [])
def mX11_init : zM := (yX11_init, cX11_init, 1, none, [])
def mX11_likes : zM := (yX11_likes, cX11_likes, 3, some (FieldType.int), [])
def mX12_init : zM := (yX12_init, cX12_init, 2, none, [])
def mX12_read : zM := (yX12_read, cX12_read, 2, some ((FieldType.object "PanSlices$Cond")), [])
def mX12_any : zM := (yX12_any, cX12_any, 3, some ((FieldType.object "PanSlices$Cond")), [])
def mX12_both : zM := (yX12_both, cX12_both, 3, some ((FieldType.object "PanSlices$Cond")), [])
def mX12_single : zM := (yX12_single, cX12_single, 8, some ((FieldType.object "PanSlices$Cond")), [])
def mX14_init : zM := (yX14_init, cX14_init, 1, none, [])
def mX15_init : zM := (yX15_init, cX15_init, 2, none, [])
def mX15_is : zM := (yX15_is, cX15_is, 4, some (FieldType.boolean), [])
def mX16_init : zM := (yX16_init, cX16_init, 3, none, [])
def mX16_is : zM := (yX16_is, cX16_is, 4, some (FieldType.boolean), [])
def mX17_init : zM := (yX17_init, cX17_init, 4, none, [])
def mX17_is : zM := (yX17_is, cX17_is, 5, some (FieldType.boolean), [])
def mX18_init : zM := (yX18_init, cX18_init, 3, none, [])
def mX18_is : zM := (yX18_is, cX18_is, 4, some (FieldType.boolean), [])
def mX19_init : zM := (yX19_init, cX19_init, 3, none, [])
def mX19_is : zM := (yX19_is, cX19_is, 4, some (FieldType.boolean), [])
def mX1_init : zM := (yX1_init, cX1_init, 1, none, [])
def mX1_feed : zM := (yX1_feed, cX1_feed, 6, some (FieldType.int), [])
def mX1_four : zM := (yX1_four, cX1_four, 3, none, [])
def mX1_end : zM := (yX1_end, cX1_end, 2, some (FieldType.boolean), [])
def mX1_kitchen : zM := (yX1_kitchen, cX1_kitchen, 3, some (FieldType.int), [((17 : Nat), (50 : Nat), (51 : Nat), (13 : Nat))])
def mX1_taken : zM := (yX1_taken, cX1_taken, 1, none, [])
def mX1_isIn : zM := (yX1_isIn, cX1_isIn, 3, some (FieldType.boolean), [])
def mX1_has : zM := (yX1_has, cX1_has, 2, some (FieldType.boolean), [])
def mX1_fault : zM := (yX1_fault, cX1_fault, 1, some (FieldType.int), [])
def mX1_plan : zM := (yX1_plan, cX1_plan, 2, some (FieldType.int), [((9 : Nat), (42 : Nat), (43 : Nat), (13 : Nat))])
def mX1_keep : zM := (yX1_keep, cX1_keep, 2, none, [])
def mX1_judge : zM := (yX1_judge, cX1_judge, 2, some (FieldType.int), [])
def mX1_why : zM := (yX1_why, cX1_why, 1, some (FieldType.int), [])
def mX1_go : zM := (yX1_go, cX1_go, 3, some (FieldType.int), [])
def mX1_ends : zM := (yX1_ends, cX1_ends, 1, some (FieldType.int), [])
def mX1_done : zM := (yX1_done, cX1_done, 3, some (FieldType.int), [])
def mX1_on : zM := (yX1_on, cX1_on, 4, some (FieldType.int), [])
def mX1_write : zM := (yX1_write, cX1_write, 2, some (FieldType.int), [])
def mX1_putName : zM := (yX1_putName, cX1_putName, 4, none, [])
def mX1_put : zM := (yX1_put, cX1_put, 2, none, [])
def mX1_putNumber : zM := (yX1_putNumber, cX1_putNumber, 3, none, [])
def mX1_byteAt : zM := (yX1_byteAt, cX1_byteAt, 2, some (FieldType.int), [])
def mX1_undo : zM := (yX1_undo, cX1_undo, 1, some (FieldType.int), [])
def mX1_add : zM := (yX1_add, cX1_add, 6, some (FieldType.int), [])
def mX1_isSlice : zM := (yX1_isSlice, cX1_isSlice, 2, some (FieldType.boolean), [])
def mX1_drop : zM := (yX1_drop, cX1_drop, 2, some (FieldType.boolean), [])
def mX1_isGo : zM := (yX1_isGo, cX1_isGo, 2, some (FieldType.boolean), [])
def mX1_later : zM := (yX1_later, cX1_later, 3, some (FieldType.boolean), [])
def mX1_early : zM := (yX1_early, cX1_early, 4, some (FieldType.int), [])
def mX1_earliest : zM := (yX1_earliest, cX1_earliest, 4, some (FieldType.int), [])
def mX1_idle : zM := (yX1_idle, cX1_idle, 4, some (FieldType.int), [])
def mX1_forgotten : zM := (yX1_forgotten, cX1_forgotten, 2, some (FieldType.int), [])
def mX1_fewest : zM := (yX1_fewest, cX1_fewest, 5, some (FieldType.int), [])
def mX1_bound : zM := (yX1_bound, cX1_bound, 5, some (FieldType.int), [])
def mX1_several : zM := (yX1_several, cX1_several, 6, some (FieldType.int), [])
def mX1_one : zM := (yX1_one, cX1_one, 7, some (FieldType.int), [])
def mX1_orders : zM := (yX1_orders, cX1_orders, 5, none, [])
def mX1_fits : zM := (yX1_fits, cX1_fits, 6, some (FieldType.boolean), [])
def mX1_takes : zM := (yX1_takes, cX1_takes, 4, none, [])
def mX1_masters : zM := (yX1_masters, cX1_masters, 7, some (FieldType.int), [])
def mX1_pupil : zM := (yX1_pupil, cX1_pupil, 6, some (FieldType.int), [])
def mX1_cook : zM := (yX1_cook, cX1_cook, 2, some (FieldType.int), [])
def mX1_toasts : zM := (yX1_toasts, cX1_toasts, 6, some (FieldType.int), [])
def mX1_minute : zM := (yX1_minute, cX1_minute, 6, none, [])
def mX1_freePlace : zM := (yX1_freePlace, cX1_freePlace, 4, some (FieldType.int), [])
def mX1_chosen : zM := (yX1_chosen, cX1_chosen, 5, some (FieldType.int), [])
def mX1_canGo : zM := (yX1_canGo, cX1_canGo, 4, some (FieldType.boolean), [])
def mX1_isOn : zM := (yX1_isOn, cX1_isOn, 3, some (FieldType.boolean), [])
def mX1_sideOf : zM := (yX1_sideOf, cX1_sideOf, 3, some (FieldType.int), [])
def mX1_best : zM := (yX1_best, cX1_best, 5, some (FieldType.int), [])
def mX1_alike : zM := (yX1_alike, cX1_alike, 3, some (FieldType.int), [])
def mX1_areAlike : zM := (yX1_areAlike, cX1_areAlike, 2, some (FieldType.boolean), [])
def mX1_alikeTime : zM := (yX1_alikeTime, cX1_alikeTime, 2, some (FieldType.int), [])
def mX1_alikeAt : zM := (yX1_alikeAt, cX1_alikeAt, 6, some (FieldType.int), [])
def mX1_served : zM := (yX1_served, cX1_served, 10, some (FieldType.int), [])
def mX1_worthOf : zM := (yX1_worthOf, cX1_worthOf, 6, some (FieldType.int), [])
def mX1_worthOf_2 : zM := (yX1_worthOf_2, cX1_worthOf_2, 4, some (FieldType.int), [])
def mX1_servedAt : zM := (yX1_servedAt, cX1_servedAt, 2, some (FieldType.int), [])
def mX1_hotel : zM := (yX1_hotel, cX1_hotel, 9, some (FieldType.int), [])
def mX1_pans : zM := (yX1_pans, cX1_pans, 2, some (FieldType.int), [])
def mX1_brown : zM := (yX1_brown, cX1_brown, 10, some (FieldType.long), [])
def mX1_one_2 : zM := (yX1_one_2, cX1_one_2, 2, some (FieldType.int), [])
def mX1_isMinute : zM := (yX1_isMinute, cX1_isMinute, 2, some (FieldType.boolean), [])
def mX1_morning : zM := (yX1_morning, cX1_morning, 2, some (FieldType.int), [])
def mX1_morningOf : zM := (yX1_morningOf, cX1_morningOf, 8, some (FieldType.int), [])
def mX1_drawn : zM := (yX1_drawn, cX1_drawn, 5, some (FieldType.int), [])
def mX1_draw : zM := (yX1_draw, cX1_draw, 2, some (FieldType.int), [])
def mX1_mornings : zM := (yX1_mornings, cX1_mornings, 5, some (FieldType.int), [])
def mX1_sentence : zM := (yX1_sentence, cX1_sentence, 2, some (FieldType.int), [((9 : Nat), (27 : Nat), (28 : Nat), (13 : Nat))])
def mX1_said : zM := (yX1_said, cX1_said, 4, some (FieldType.int), [])
def mX1_image : zM := (yX1_image, cX1_image, 2, some (FieldType.boolean), [])
def mX1_restore : zM := (yX1_restore, cX1_restore, 2, some (FieldType.boolean), [])
def mX1_count : zM := (yX1_count, cX1_count, 2, some (FieldType.int), [])
def mX1_slice : zM := (yX1_slice, cX1_slice, 3, some (FieldType.int), [])
def mX1_must : zM := (yX1_must, cX1_must, 1, none, [])
def mX1_guest : zM := (yX1_guest, cX1_guest, 3, some (FieldType.int), [])
def mX1_sort : zM := (yX1_sort, cX1_sort, 3, some (FieldType.int), [])
def mX1_left : zM := (yX1_left, cX1_left, 3, some (FieldType.int), [])
def mX1_mean : zM := (yX1_mean, cX1_mean, 13, some (FieldType.long), [])
def mX1_common : zM := (yX1_common, cX1_common, 4, some (FieldType.long), [])
def mX13_init : zM := (yX13_init, cX13_init, 1, none, [])
def mX13_thrown : zM := (yX13_thrown, cX13_thrown, 1, some (FieldType.int), [])
def mX13_feed : zM := (yX13_feed, cX13_feed, 6, some (FieldType.int), [])
def mX13_come : zM := (yX13_come, cX13_come, 3, none, [])
def mX13_end : zM := (yX13_end, cX13_end, 2, some (FieldType.boolean), [])
def mX13_kitchen : zM := (yX13_kitchen, cX13_kitchen, 3, some (FieldType.int), [])
def mX13_begin : zM := (yX13_begin, cX13_begin, 2, none, [])
def mX13_lay : zM := (yX13_lay, cX13_lay, 1, none, [])
def mX13_plain : zM := (yX13_plain, cX13_plain, 2, none, [])
def mX13_take : zM := (yX13_take, cX13_take, 2, some (FieldType.int), [])
def mX13_next : zM := (yX13_next, cX13_next, 5, none, [])
def mX13_isLetter : zM := (yX13_isLetter, cX13_isLetter, 1, some (FieldType.boolean), [])
def mX13_isDigit : zM := (yX13_isDigit, cX13_isDigit, 1, some (FieldType.boolean), [])
def mX13_tapeAt : zM := (yX13_tapeAt, cX13_tapeAt, 2, some (FieldType.int), [])
def mX13_readLine : zM := (yX13_readLine, cX13_readLine, 2, some (FieldType.boolean), [])
def mX13_isWord : zM := (yX13_isWord, cX13_isWord, 2, some (FieldType.boolean), [])
def mX13_wordOf : zM := (yX13_wordOf, cX13_wordOf, 1, some (FieldType.long), [])
def mX13_spelt : zM := (yX13_spelt, cX13_spelt, 7, some (FieldType.long), [])
def mX13_readPlain : zM := (yX13_readPlain, cX13_readPlain, 4, some (FieldType.boolean), [])
def mX13_readOnce : zM := (yX13_readOnce, cX13_readOnce, 2, some (FieldType.boolean), [])
def mX13_has : zM := (yX13_has, cX13_has, 2, some (FieldType.boolean), [])
def mX13_bad : zM := (yX13_bad, cX13_bad, 2, some (FieldType.boolean), [])
def mX13_readNumber : zM := (yX13_readNumber, cX13_readNumber, 3, some (FieldType.boolean), [])
def mX13_isIn : zM := (yX13_isIn, cX13_isIn, 3, some (FieldType.boolean), [])
def mX13_readBurn : zM := (yX13_readBurn, cX13_readBurn, 1, some (FieldType.boolean), [])
def mX13_readSlice : zM := (yX13_readSlice, cX13_readSlice, 2, some (FieldType.boolean), [])
def mX13_readNew : zM := (yX13_readNew, cX13_readNew, 2, some (FieldType.boolean), [])
def mX13_isName : zM := (yX13_isName, cX13_isName, 2, some (FieldType.boolean), [])
def mX13_findIn : zM := (yX13_findIn, cX13_findIn, 6, some (FieldType.int), [])
def mX13_readGuest : zM := (yX13_readGuest, cX13_readGuest, 2, some (FieldType.boolean), [])
def mX13_readSort : zM := (yX13_readSort, cX13_readSort, 2, some (FieldType.boolean), [])
def mX13_readEnd : zM := (yX13_readEnd, cX13_readEnd, 1, some (FieldType.boolean), [])
def mX13_isSign : zM := (yX13_isSign, cX13_isSign, 2, some (FieldType.boolean), [])
def mX13_fault : zM := (yX13_fault, cX13_fault, 1, some (FieldType.int), [])
def mX13_slice : zM := (yX13_slice, cX13_slice, 3, some (FieldType.int), [])
def mX13_isSlice : zM := (yX13_isSlice, cX13_isSlice, 2, some (FieldType.boolean), [])
def mX13_slices : zM := (yX13_slices, cX13_slices, 1, some (FieldType.int), [])
def mX13_refuse : zM := (yX13_refuse, cX13_refuse, 1, some (FieldType.int), [])
def mX13_guest : zM := (yX13_guest, cX13_guest, 3, some (FieldType.int), [])
def mX13_sort : zM := (yX13_sort, cX13_sort, 3, some (FieldType.int), [])
def mX13_undo : zM := (yX13_undo, cX13_undo, 2, some (FieldType.int), [])
def mX13_plan : zM := (yX13_plan, cX13_plan, 3, some (FieldType.int), [])
def mX13_readGo : zM := (yX13_readGo, cX13_readGo, 3, some (FieldType.boolean), [])
def mX13_snap : zM := (yX13_snap, cX13_snap, 2, none, [])
def mX13_lays : zM := (yX13_lays, cX13_lays, 7, none, [])
def mX13_goes : zM := (yX13_goes, cX13_goes, 1, some (FieldType.int), [])
def mX13_judge : zM := (yX13_judge, cX13_judge, 2, some (FieldType.int), [])
def mX13_from : zM := (yX13_from, cX13_from, 2, some (FieldType.int), [])
def mX13_go5 : zM := (yX13_go5, cX13_go5, 3, some (FieldType.int), [])
def mX13_wrong : zM := (yX13_wrong, cX13_wrong, 9, some (FieldType.int), [])
def mX13_overlap : zM := (yX13_overlap, cX13_overlap, 4, some (FieldType.boolean), [])
def mX13_isOnce : zM := (yX13_isOnce, cX13_isOnce, 2, some (FieldType.boolean), [])
def mX13_behind : zM := (yX13_behind, cX13_behind, 2, some (FieldType.int), [])
def mX13_needs : zM := (yX13_needs, cX13_needs, 3, some (FieldType.int), [])
def mX13_why : zM := (yX13_why, cX13_why, 1, some (FieldType.int), [])
def mX13_go : zM := (yX13_go, cX13_go, 3, some (FieldType.int), [])
def mX13_left : zM := (yX13_left, cX13_left, 3, some (FieldType.int), [])
def mX13_leftOf : zM := (yX13_leftOf, cX13_leftOf, 5, some (FieldType.int), [])
def mX13_ends : zM := (yX13_ends, cX13_ends, 1, some (FieldType.int), [])
def mX13_endsAt : zM := (yX13_endsAt, cX13_endsAt, 3, some (FieldType.int), [])
def mX13_most : zM := (yX13_most, cX13_most, 2, some (FieldType.int), [])
def mX13_done : zM := (yX13_done, cX13_done, 3, some (FieldType.int), [])
def mX13_isDone : zM := (yX13_isDone, cX13_isDone, 2, some (FieldType.boolean), [])
def mX13_on : zM := (yX13_on, cX13_on, 4, some (FieldType.int), [])
def mX13_write : zM := (yX13_write, cX13_write, 3, some (FieldType.int), [])
def mX13_putName : zM := (yX13_putName, cX13_putName, 6, none, [])
def mX13_put : zM := (yX13_put, cX13_put, 2, none, [])
def mX13_putNumber : zM := (yX13_putNumber, cX13_putNumber, 2, none, [])
def mX13_byteAt : zM := (yX13_byteAt, cX13_byteAt, 2, some (FieldType.int), [])
def mX13_several : zM := (yX13_several, cX13_several, 7, some (FieldType.int), [])
def mX13_longest : zM := (yX13_longest, cX13_longest, 3, some (FieldType.int), [])
def mX13_allMinutes : zM := (yX13_allMinutes, cX13_allMinutes, 3, some (FieldType.int), [])
def mX13_up : zM := (yX13_up, cX13_up, 2, some (FieldType.int), [])
def mX13_bound : zM := (yX13_bound, cX13_bound, 4, some (FieldType.int), [])
def mX13_one : zM := (yX13_one, cX13_one, 7, some (FieldType.int), [])
def mX13_trySides : zM := (yX13_trySides, cX13_trySides, 8, none, [])
def mX13_canStart : zM := (yX13_canStart, cX13_canStart, 8, some (FieldType.boolean), [])
def mX13_masters : zM := (yX13_masters, cX13_masters, 6, some (FieldType.int), [])
def mX13_takes : zM := (yX13_takes, cX13_takes, 6, some (FieldType.int), [])
def mX13_cook : zM := (yX13_cook, cX13_cook, 2, some (FieldType.int), [])
def mX13_cookAll : zM := (yX13_cookAll, cX13_cookAll, 5, some (FieldType.int), [])
def mX13_cookMinute : zM := (yX13_cookMinute, cX13_cookMinute, 7, none, [])
def mX13_isOn : zM := (yX13_isOn, cX13_isOn, 5, none, [])
def mX13_takesCook : zM := (yX13_takesCook, cX13_takesCook, 6, some (FieldType.int), [])
def mX13_hasLeft : zM := (yX13_hasLeft, cX13_hasLeft, 2, some (FieldType.boolean), [])
def mX13_isRested : zM := (yX13_isRested, cX13_isRested, 5, some (FieldType.boolean), [])
def mX13_sideOf : zM := (yX13_sideOf, cX13_sideOf, 3, some (FieldType.int), [])
def mX13_likes : zM := (yX13_likes, cX13_likes, 3, some (FieldType.int), [])
def mX13_placeFor : zM := (yX13_placeFor, cX13_placeFor, 3, some (FieldType.int), [])
def mX13_tells : zM := (yX13_tells, cX13_tells, 5, none, [])
def mX13_best : zM := (yX13_best, cX13_best, 5, some (FieldType.int), [])
def mX13_add : zM := (yX13_add, cX13_add, 6, some (FieldType.int), [])
def mX13_drop : zM := (yX13_drop, cX13_drop, 3, some (FieldType.boolean), [])
def mX13_later : zM := (yX13_later, cX13_later, 3, some (FieldType.boolean), [])
def mX13_early : zM := (yX13_early, cX13_early, 4, some (FieldType.int), [])
def mX13_canBeEarly : zM := (yX13_canBeEarly, cX13_canBeEarly, 2, some (FieldType.boolean), [])
def mX13_earliest : zM := (yX13_earliest, cX13_earliest, 3, some (FieldType.int), [])
def mX13_idle : zM := (yX13_idle, cX13_idle, 6, some (FieldType.int), [])
def mX13_forgotten : zM := (yX13_forgotten, cX13_forgotten, 2, some (FieldType.int), [])
def mX13_fewest : zM := (yX13_fewest, cX13_fewest, 4, some (FieldType.int), [])
def mX13_placesFor : zM := (yX13_placesFor, cX13_placesFor, 4, some (FieldType.int), [])
def mX13_alike : zM := (yX13_alike, cX13_alike, 3, some (FieldType.int), [])
def mX13_areAlike : zM := (yX13_areAlike, cX13_areAlike, 2, some (FieldType.boolean), [])
def mX13_alikeAt : zM := (yX13_alikeAt, cX13_alikeAt, 6, some (FieldType.int), [])
def mX13_served : zM := (yX13_served, cX13_served, 10, some (FieldType.int), [])
def mX13_bits : zM := (yX13_bits, cX13_bits, 3, some (FieldType.int), [])
def mX13_worthOfSet : zM := (yX13_worthOfSet, cX13_worthOfSet, 5, some (FieldType.int), [])
def mX13_worthOf : zM := (yX13_worthOf, cX13_worthOf, 5, some (FieldType.int), [])
def mX13_servedAt : zM := (yX13_servedAt, cX13_servedAt, 2, some (FieldType.int), [])
def mX13_mean : zM := (yX13_mean, cX13_mean, 11, some (FieldType.long), [])
def mX13_refuseLong : zM := (yX13_refuseLong, cX13_refuseLong, 1, some (FieldType.long), [])
def mX13_common : zM := (yX13_common, cX13_common, 10, some (FieldType.long), [])
def mX13_hotel : zM := (yX13_hotel, cX13_hotel, 10, some (FieldType.int), [])
def mX13_pans : zM := (yX13_pans, cX13_pans, 2, some (FieldType.int), [])
def mX13_brown : zM := (yX13_brown, cX13_brown, 9, some (FieldType.long), [])
def mX13_mayBe : zM := (yX13_mayBe, cX13_mayBe, 3, some (FieldType.boolean), [])
def mX13_morning : zM := (yX13_morning, cX13_morning, 2, some (FieldType.int), [])
def mX13_morningBy : zM := (yX13_morningBy, cX13_morningBy, 9, some (FieldType.int), [])
def mX13_drawn : zM := (yX13_drawn, cX13_drawn, 5, some (FieldType.int), [])
def mX13_draw : zM := (yX13_draw, cX13_draw, 2, some (FieldType.int), [])
def mX13_mornings : zM := (yX13_mornings, cX13_mornings, 6, some (FieldType.int), [])
def mX13_sentence : zM := (yX13_sentence, cX13_sentence, 2, some (FieldType.int), [])
def mX13_readOr : zM := (yX13_readOr, cX13_readOr, 2, some (FieldType.boolean), [])
def mX13_readAnd : zM := (yX13_readAnd, cX13_readAnd, 2, some (FieldType.boolean), [])
def mX13_readOne : zM := (yX13_readOne, cX13_readOne, 4, some (FieldType.boolean), [])
def mX13_oneAtHand : zM := (yX13_oneAtHand, cX13_oneAtHand, 3, some (FieldType.int), [])
def mX13_readBracket : zM := (yX13_readBracket, cX13_readBracket, 1, some (FieldType.boolean), [])
def mX13_readNot : zM := (yX13_readNot, cX13_readNot, 1, some (FieldType.boolean), [])
def mX13_saysOne : zM := (yX13_saysOne, cX13_saysOne, 6, some (FieldType.int), [])
def mX13_readAfter : zM := (yX13_readAfter, cX13_readAfter, 2, some (FieldType.boolean), [])
def mX13_readCompare : zM := (yX13_readCompare, cX13_readCompare, 3, some (FieldType.boolean), [])
def mX13_said : zM := (yX13_said, cX13_said, 4, some (FieldType.int), [])
def mX13_holds : zM := (yX13_holds, cX13_holds, 8, some (FieldType.boolean), [])
def mX13_goesOf : zM := (yX13_goesOf, cX13_goesOf, 4, some (FieldType.int), [])
def mX13_endOf : zM := (yX13_endOf, cX13_endOf, 4, some (FieldType.int), [])
def mX13_image : zM := (yX13_image, cX13_image, 3, some (FieldType.boolean), [])
def mX13_restore : zM := (yX13_restore, cX13_restore, 3, some (FieldType.boolean), [])
def mX13_count : zM := (yX13_count, cX13_count, 2, some (FieldType.int), [])
theorem zo_0 : zfo 0 = ("PanSlices", "tape", "[B", true) := by decide +kernel
theorem zo_1 : zfo 1 = ("PanSlices", "length", "I", false) := by decide +kernel
theorem zs_1 : zFs 1 (.int) := by unfold zFs; rw [zo_1]; exact ⟨by decide +kernel, rfl⟩
theorem zo_2 : zfo 2 = ("PanSlices", "size", "I", false) := by decide +kernel
theorem zs_2 : zFs 2 (.int) := by unfold zFs; rw [zo_2]; exact ⟨by decide +kernel, rfl⟩
theorem zo_3 : zfo 3 = ("PanSlices", "today", "I", false) := by decide +kernel
theorem zs_3 : zFs 3 (.int) := by unfold zFs; rw [zo_3]; exact ⟨by decide +kernel, rfl⟩
theorem zo_4 : zfo 4 = ("PanSlices", "broken", "LPanSlices$Fault;", true) := by decide +kernel
theorem zo_5 : zfo 5 = ("PanSlices", "lines", "[Ljava/lang/String;", true) := by decide +kernel
theorem zo_6 : zfo 6 = ("PanSlices", "words", "[Ljava/lang/String;", true) := by decide +kernel
theorem zo_7 : zfo 7 = ("PanSlices", "kitchen", "LPanSlices$Kitchen;", false) := by decide +kernel
theorem zs_7 : zFs 7 (.object "PanSlices$Kitchen") := by unfold zFs; rw [zo_7]; exact ⟨by decide +kernel, rfl⟩
theorem zo_8 : zfo 8 = ("PanSlices", "plan", "LPanSlices$Plan;", true) := by decide +kernel
theorem zo_9 : zfo 9 = ("PanSlices", "coming", "LPanSlices$Plan;", true) := by decide +kernel
theorem zo_10 : zfo 10 = ("PanSlices", "kitchenReader", "LPanSlices$KitchenReader;", true) := by decide +kernel
theorem zo_11 : zfo 11 = ("PanSlices", "planReader", "LPanSlices$PlanReader;", true) := by decide +kernel
theorem zo_12 : zfo 12 = ("PanSlices", "fault", "I", false) := by decide +kernel
theorem zs_12 : zFs 12 (.int) := by unfold zFs; rw [zo_12]; exact ⟨by decide +kernel, rfl⟩
theorem zo_13 : zfo 13 = ("PanSlices", "why", "I", false) := by decide +kernel
theorem zs_13 : zFs 13 (.int) := by unfold zFs; rw [zo_13]; exact ⟨by decide +kernel, rfl⟩
theorem zo_14 : zfo 14 = ("PanSlices", "text", "[B", true) := by decide +kernel
theorem zo_15 : zfo 15 = ("PanSlices", "textMany", "I", false) := by decide +kernel
theorem zs_15 : zFs 15 (.int) := by unfold zFs; rw [zo_15]; exact ⟨by decide +kernel, rfl⟩
theorem zo_16 : zfo 16 = ("PanSlices", "ahead", "[LPanSlices$Plan;", true) := by decide +kernel
theorem zo_17 : zfo 17 = ("PanSlices", "undoMany", "I", false) := by decide +kernel
theorem zs_17 : zFs 17 (.int) := by unfold zFs; rw [zo_17]; exact ⟨by decide +kernel, rfl⟩
theorem zo_18 : zfo 18 = ("PanSlices", "starts", "[I", true) := by decide +kernel
theorem zo_19 : zfo 19 = ("PanSlices", "order", "[I", true) := by decide +kernel
theorem zo_20 : zfo 20 = ("PanSlices", "bestStarts", "[I", true) := by decide +kernel
theorem zo_21 : zfo 21 = ("PanSlices", "bestOrder", "[I", true) := by decide +kernel
theorem zo_22 : zfo 22 = ("PanSlices", "taken", "[I", true) := by decide +kernel
theorem zo_23 : zfo 23 = ("PanSlices", "bestEnd", "I", false) := by decide +kernel
theorem zs_23 : zFs 23 (.int) := by unfold zFs; rw [zo_23]; exact ⟨by decide +kernel, rfl⟩
theorem zo_24 : zfo 24 = ("PanSlices", "cooks", "[LPanSlices$Cook;", true) := by decide +kernel
theorem zo_25 : zfo 25 = ("PanSlices", "lacks", "[I", true) := by decide +kernel
theorem zo_26 : zfo 26 = ("PanSlices", "offs", "[I", true) := by decide +kernel
theorem zo_27 : zfo 27 = ("PanSlices", "onNow", "[I", true) := by decide +kernel
theorem zo_28 : zfo 28 = ("PanSlices", "onWas", "[I", true) := by decide +kernel
theorem zo_29 : zfo 29 = ("PanSlices", "goNow", "[I", true) := by decide +kernel
theorem zo_30 : zfo 30 = ("PanSlices", "most", "[I", false) := by decide +kernel
theorem zs_30 : zFs 30 (.array .int) := by unfold zFs; rw [zo_30]; exact ⟨by decide +kernel, rfl⟩
theorem zo_31 : zfo 31 = ("PanSlices", "servedAt", "[I", true) := by decide +kernel
theorem zo_32 : zfo 32 = ("PanSlices", "servedMany", "I", false) := by decide +kernel
theorem zs_32 : zFs 32 (.int) := by unfold zFs; rw [zo_32]; exact ⟨by decide +kernel, rfl⟩
theorem zo_33 : zfo 33 = ("PanSlices", "hotelPans", "[I", true) := by decide +kernel
theorem zo_34 : zfo 34 = ("PanSlices", "costs", "[I", true) := by decide +kernel
theorem zo_35 : zfo 35 = ("PanSlices", "hotelMany", "I", false) := by decide +kernel
theorem zs_35 : zFs 35 (.int) := by unfold zFs; rw [zo_35]; exact ⟨by decide +kernel, rfl⟩
theorem zo_36 : zfo 36 = ("PanSlices", "seed", "I", false) := by decide +kernel
theorem zs_36 : zFs 36 (.int) := by unfold zFs; rw [zo_36]; exact ⟨by decide +kernel, rfl⟩
theorem zo_37 : zfo 37 = ("PanSlices", "sentenceReader", "LPanSlices$SentenceReader;", true) := by decide +kernel
theorem zo_38 : zfo 38 = ("PanSlices", "sentence", "LPanSlices$Cond;", false) := by decide +kernel
theorem zs_38 : zFs 38 (.object "PanSlices$Cond") := by unfold zFs; rw [zo_38]; exact ⟨by decide +kernel, rfl⟩
theorem zo_39 : zfo 39 = ("PanSlices", "kitchens", "[LPanSlices$Kitchen;", true) := by decide +kernel
theorem zo_40 : zfo 40 = ("PanSlices", "plans", "[LPanSlices$Plan;", true) := by decide +kernel
theorem zo_41 : zfo 41 = ("PanSlices", "sentences", "[LPanSlices$Cond;", true) := by decide +kernel
theorem zo_100 : zfo 100 = ("java/lang/Throwable", "cause", "Ljava/lang/Throwable;", false) := by decide +kernel
theorem zs_100 : zFs 100 (.object "java/lang/Throwable") := by unfold zFs; rw [zo_100]; exact ⟨by decide +kernel, rfl⟩
theorem zo_101 : zfo 101 = ("java/lang/Throwable", "stackTrace", "[Ljava/lang/StackTraceElement;", false) := by decide +kernel
theorem zs_101 : zFs 101 (.array (.object "java/lang/StackTraceElement")) := by unfold zFs; rw [zo_101]; exact ⟨by decide +kernel, rfl⟩
theorem zo_102 : zfo 102 = ("java/lang/Throwable", "suppressedExceptions", "Ljava/util/List;", false) := by decide +kernel
theorem zs_102 : zFs 102 (.object "java/util/List") := by unfold zFs; rw [zo_102]; exact ⟨by decide +kernel, rfl⟩
theorem zo_103 : zfo 103 = ("java/lang/Throwable", "detailMessage", "Ljava/lang/String;", false) := by decide +kernel
theorem zs_103 : zFs 103 (.object "java/lang/String") := by unfold zFs; rw [zo_103]; exact ⟨by decide +kernel, rfl⟩
theorem zo_104 : zfo 104 = ("java/lang/Throwable", "backtrace", "Ljava/lang/Object;", false) := by decide +kernel
theorem zs_104 : zFs 104 (.object "java/lang/Object") := by unfold zFs; rw [zo_104]; exact ⟨by decide +kernel, rfl⟩
theorem zo_105 : zfo 105 = ("java/lang/Throwable", "depth", "I", false) := by decide +kernel
theorem zs_105 : zFs 105 (.int) := by unfold zFs; rw [zo_105]; exact ⟨by decide +kernel, rfl⟩
theorem zo_106 : zfo 106 = ("PanSlices$Fault", "kind", "I", false) := by decide +kernel
theorem zs_106 : zFs 106 (.int) := by unfold zFs; rw [zo_106]; exact ⟨by decide +kernel, rfl⟩
theorem zo_107 : zfo 107 = ("PanSlices$Fault", "place", "I", false) := by decide +kernel
theorem zs_107 : zFs 107 (.int) := by unfold zFs; rw [zo_107]; exact ⟨by decide +kernel, rfl⟩
theorem zo_200 : zfo 200 = ("PanSlices$Kitchen", "names", "[J", true) := by decide +kernel
theorem zo_201 : zfo 201 = ("PanSlices$Kitchen", "guestNames", "[J", true) := by decide +kernel
theorem zo_202 : zfo 202 = ("PanSlices$Kitchen", "minutes", "[I", true) := by decide +kernel
theorem zo_203 : zfo 203 = ("PanSlices$Kitchen", "comes", "[I", true) := by decide +kernel
theorem zo_204 : zfo 204 = ("PanSlices$Kitchen", "worth", "[I", true) := by decide +kernel
theorem zo_205 : zfo 205 = ("PanSlices$Kitchen", "sortPlaces", "[I", true) := by decide +kernel
theorem zo_206 : zfo 206 = ("PanSlices$Kitchen", "cost", "[I", true) := by decide +kernel
theorem zo_207 : zfo 207 = ("PanSlices$Kitchen", "once", "[Z", true) := by decide +kernel
theorem zo_208 : zfo 208 = ("PanSlices$Kitchen", "slices", "I", false) := by decide +kernel
theorem zs_208 : zFs 208 (.int) := by unfold zFs; rw [zo_208]; exact ⟨by decide +kernel, rfl⟩
theorem zo_209 : zfo 209 = ("PanSlices$Kitchen", "guests", "I", false) := by decide +kernel
theorem zs_209 : zFs 209 (.int) := by unfold zFs; rw [zo_209]; exact ⟨by decide +kernel, rfl⟩
theorem zo_210 : zfo 210 = ("PanSlices$Kitchen", "sorts", "I", false) := by decide +kernel
theorem zs_210 : zFs 210 (.int) := by unfold zFs; rw [zo_210]; exact ⟨by decide +kernel, rfl⟩
theorem zo_211 : zfo 211 = ("PanSlices$Kitchen", "places", "I", false) := by decide +kernel
theorem zs_211 : zFs 211 (.int) := by unfold zFs; rw [zo_211]; exact ⟨by decide +kernel, rfl⟩
theorem zo_212 : zfo 212 = ("PanSlices$Kitchen", "rest", "I", false) := by decide +kernel
theorem zs_212 : zFs 212 (.int) := by unfold zFs; rw [zo_212]; exact ⟨by decide +kernel, rfl⟩
theorem zo_213 : zfo 213 = ("PanSlices$Kitchen", "cold", "I", false) := by decide +kernel
theorem zs_213 : zFs 213 (.int) := by unfold zFs; rw [zo_213]; exact ⟨by decide +kernel, rfl⟩
theorem zo_214 : zfo 214 = ("PanSlices$Kitchen", "burns", "I", false) := by decide +kernel
theorem zs_214 : zFs 214 (.int) := by unfold zFs; rw [zo_214]; exact ⟨by decide +kernel, rfl⟩
theorem zo_215 : zfo 215 = ("PanSlices$Kitchen", "by", "I", false) := by decide +kernel
theorem zs_215 : zFs 215 (.int) := by unfold zFs; rw [zo_215]; exact ⟨by decide +kernel, rfl⟩
theorem zo_300 : zfo 300 = ("PanSlices$Plan", "slice", "[I", true) := by decide +kernel
theorem zo_301 : zfo 301 = ("PanSlices$Plan", "side", "[I", true) := by decide +kernel
theorem zo_302 : zfo 302 = ("PanSlices$Plan", "from", "[I", true) := by decide +kernel
theorem zo_303 : zfo 303 = ("PanSlices$Plan", "place", "[I", true) := by decide +kernel
theorem zo_304 : zfo 304 = ("PanSlices$Plan", "many", "[I", true) := by decide +kernel
theorem zo_305 : zfo 305 = ("PanSlices$Plan", "goes", "I", false) := by decide +kernel
theorem zs_305 : zFs 305 (.int) := by unfold zFs; rw [zo_305]; exact ⟨by decide +kernel, rfl⟩
theorem zo_400 : zfo 400 = ("PanSlices$Reader", "most", "I", true) := by decide +kernel
theorem zo_401 : zfo 401 = ("PanSlices$Reader", "p", "I", false) := by decide +kernel
theorem zs_401 : zFs 401 (.int) := by unfold zFs; rw [zo_401]; exact ⟨by decide +kernel, rfl⟩
theorem zo_402 : zfo 402 = ("PanSlices$Reader", "at", "I", false) := by decide +kernel
theorem zs_402 : zFs 402 (.int) := by unfold zFs; rw [zo_402]; exact ⟨by decide +kernel, rfl⟩
theorem zo_403 : zfo 403 = ("PanSlices$Reader", "token", "I", false) := by decide +kernel
theorem zs_403 : zFs 403 (.int) := by unfold zFs; rw [zo_403]; exact ⟨by decide +kernel, rfl⟩
theorem zo_404 : zfo 404 = ("PanSlices$Reader", "value", "I", false) := by decide +kernel
theorem zs_404 : zFs 404 (.int) := by unfold zFs; rw [zo_404]; exact ⟨by decide +kernel, rfl⟩
theorem zo_405 : zfo 405 = ("PanSlices$Reader", "many", "I", false) := by decide +kernel
theorem zs_405 : zFs 405 (.int) := by unfold zFs; rw [zo_405]; exact ⟨by decide +kernel, rfl⟩
theorem zo_406 : zfo 406 = ("PanSlices$Reader", "name", "J", false) := by decide +kernel
theorem zs_406 : zFs 406 (.long) := by unfold zFs; rw [zo_406]; exact ⟨by decide +kernel, rfl⟩
theorem zo_407 : zfo 407 = ("PanSlices$Reader", "this$0", "LPanSlices;", true) := by decide +kernel
theorem zo_408 : zfo 408 = ("PanSlices$KitchenReader", "x", "LPanSlices$Kitchen;", false) := by decide +kernel
theorem zs_408 : zFs 408 (.object "PanSlices$Kitchen") := by unfold zFs; rw [zo_408]; exact ⟨by decide +kernel, rfl⟩
theorem zo_409 : zfo 409 = ("PanSlices$KitchenReader", "had", "I", false) := by decide +kernel
theorem zs_409 : zFs 409 (.int) := by unfold zFs; rw [zo_409]; exact ⟨by decide +kernel, rfl⟩
theorem zo_410 : zfo 410 = ("PanSlices$KitchenReader", "this$0", "LPanSlices;", true) := by decide +kernel
theorem zo_508 : zfo 508 = ("PanSlices$PlanReader", "this$0", "LPanSlices;", true) := by decide +kernel
theorem zo_908 : zfo 908 = ("PanSlices$SentenceReader", "marks", "[Ljava/lang/String;", true) := by decide +kernel
theorem zo_909 : zfo 909 = ("PanSlices$SentenceReader", "counts", "[Ljava/lang/String;", true) := by decide +kernel
theorem zo_910 : zfo 910 = ("PanSlices$SentenceReader", "ones", "I", false) := by decide +kernel
theorem zs_910 : zFs 910 (.int) := by unfold zFs; rw [zo_910]; exact ⟨by decide +kernel, rfl⟩
theorem zo_911 : zfo 911 = ("PanSlices$SentenceReader", "this$0", "LPanSlices;", true) := by decide +kernel
theorem zo_1000 : zfo 1000 = ("PanSlicesModel", "thrown", "I", false) := by decide +kernel
theorem zs_1000 : zFs 1000 (.int) := by unfold zFs; rw [zo_1000]; exact ⟨by decide +kernel, rfl⟩
theorem zo_1001 : zfo 1001 = ("PanSlicesModel", "tape", "[I", true) := by decide +kernel
theorem zo_1002 : zfo 1002 = ("PanSlicesModel", "taped", "I", false) := by decide +kernel
theorem zs_1002 : zFs 1002 (.int) := by unfold zFs; rw [zo_1002]; exact ⟨by decide +kernel, rfl⟩
theorem zo_1003 : zfo 1003 = ("PanSlicesModel", "size", "I", false) := by decide +kernel
theorem zs_1003 : zFs 1003 (.int) := by unfold zFs; rw [zo_1003]; exact ⟨by decide +kernel, rfl⟩
theorem zo_1004 : zfo 1004 = ("PanSlicesModel", "limit", "I", false) := by decide +kernel
theorem zs_1004 : zFs 1004 (.int) := by unfold zFs; rw [zo_1004]; exact ⟨by decide +kernel, rfl⟩
theorem zo_1005 : zfo 1005 = ("PanSlicesModel", "to", "I", false) := by decide +kernel
theorem zs_1005 : zFs 1005 (.int) := by unfold zFs; rw [zo_1005]; exact ⟨by decide +kernel, rfl⟩
theorem zo_1006 : zfo 1006 = ("PanSlicesModel", "from", "I", false) := by decide +kernel
theorem zs_1006 : zFs 1006 (.int) := by unfold zFs; rw [zo_1006]; exact ⟨by decide +kernel, rfl⟩
theorem zo_1007 : zfo 1007 = ("PanSlicesModel", "kind", "I", false) := by decide +kernel
theorem zs_1007 : zFs 1007 (.int) := by unfold zFs; rw [zo_1007]; exact ⟨by decide +kernel, rfl⟩
theorem zo_1008 : zfo 1008 = ("PanSlicesModel", "number", "I", false) := by decide +kernel
theorem zs_1008 : zFs 1008 (.int) := by unfold zFs; rw [zo_1008]; exact ⟨by decide +kernel, rfl⟩
theorem zo_1009 : zfo 1009 = ("PanSlicesModel", "sign", "I", false) := by decide +kernel
theorem zs_1009 : zFs 1009 (.int) := by unfold zFs; rw [zo_1009]; exact ⟨by decide +kernel, rfl⟩
theorem zo_1010 : zfo 1010 = ("PanSlicesModel", "fault", "I", false) := by decide +kernel
theorem zs_1010 : zFs 1010 (.int) := by unfold zFs; rw [zo_1010]; exact ⟨by decide +kernel, rfl⟩
theorem zo_1011 : zfo 1011 = ("PanSlicesModel", "place", "I", false) := by decide +kernel
theorem zs_1011 : zFs 1011 (.int) := by unfold zFs; rw [zo_1011]; exact ⟨by decide +kernel, rfl⟩
theorem zo_1012 : zfo 1012 = ("PanSlicesModel", "word", "J", false) := by decide +kernel
theorem zs_1012 : zFs 1012 (.long) := by unfold zFs; rw [zo_1012]; exact ⟨by decide +kernel, rfl⟩
theorem zo_1013 : zfo 1013 = ("PanSlicesModel", "told", "I", false) := by decide +kernel
theorem zs_1013 : zFs 1013 (.int) := by unfold zFs; rw [zo_1013]; exact ⟨by decide +kernel, rfl⟩
theorem zo_1014 : zfo 1014 = ("PanSlicesModel", "now", "[I", true) := by decide +kernel
theorem zo_1015 : zfo 1015 = ("PanSlicesModel", "read", "[I", true) := by decide +kernel
theorem zo_1016 : zfo 1016 = ("PanSlicesModel", "kept", "[I", true) := by decide +kernel
theorem zo_1017 : zfo 1017 = ("PanSlicesModel", "snaps", "[I", true) := by decide +kernel
theorem zo_1018 : zfo 1018 = ("PanSlicesModel", "name", "[J", true) := by decide +kernel
theorem zo_1019 : zfo 1019 = ("PanSlicesModel", "readName", "[J", true) := by decide +kernel
theorem zo_1020 : zfo 1020 = ("PanSlicesModel", "keptName", "[J", true) := by decide +kernel
theorem zo_1021 : zfo 1021 = ("PanSlicesModel", "isKept", "[Z", true) := by decide +kernel
theorem zo_1022 : zfo 1022 = ("PanSlicesModel", "snapMany", "I", false) := by decide +kernel
theorem zs_1022 : zFs 1022 (.int) := by unfold zFs; rw [zo_1022]; exact ⟨by decide +kernel, rfl⟩
theorem zo_1023 : zfo 1023 = ("PanSlicesModel", "isBegun", "Z", false) := by decide +kernel
theorem zs_1023 : zFs 1023 (.boolean) := by unfold zFs; rw [zo_1023]; exact ⟨by decide +kernel, rfl⟩
theorem zo_1024 : zfo 1024 = ("PanSlicesModel", "onces", "I", false) := by decide +kernel
theorem zs_1024 : zFs 1024 (.int) := by unfold zFs; rw [zo_1024]; exact ⟨by decide +kernel, rfl⟩
theorem zo_1025 : zfo 1025 = ("PanSlicesModel", "line", "[I", true) := by decide +kernel
theorem zo_1026 : zfo 1026 = ("PanSlicesModel", "whyNow", "I", false) := by decide +kernel
theorem zs_1026 : zFs 1026 (.int) := by unfold zFs; rw [zo_1026]; exact ⟨by decide +kernel, rfl⟩
theorem zo_1027 : zfo 1027 = ("PanSlicesModel", "text", "[I", true) := by decide +kernel
theorem zo_1028 : zfo 1028 = ("PanSlicesModel", "letters", "[I", true) := by decide +kernel
theorem zo_1029 : zfo 1029 = ("PanSlicesModel", "texted", "I", false) := by decide +kernel
theorem zs_1029 : zFs 1029 (.int) := by unfold zFs; rw [zo_1029]; exact ⟨by decide +kernel, rfl⟩
theorem zo_1030 : zfo 1030 = ("PanSlicesModel", "order", "[I", true) := by decide +kernel
theorem zo_1031 : zfo 1031 = ("PanSlicesModel", "bestOrder", "[I", true) := by decide +kernel
theorem zo_1032 : zfo 1032 = ("PanSlicesModel", "setAt", "[I", true) := by decide +kernel
theorem zo_1033 : zfo 1033 = ("PanSlicesModel", "bestAt", "[I", true) := by decide +kernel
theorem zo_1034 : zfo 1034 = ("PanSlicesModel", "busy", "[I", true) := by decide +kernel
theorem zo_1035 : zfo 1035 = ("PanSlicesModel", "bestEnd", "I", false) := by decide +kernel
theorem zs_1035 : zFs 1035 (.int) := by unfold zFs; rw [zo_1035]; exact ⟨by decide +kernel, rfl⟩
theorem zo_1036 : zfo 1036 = ("PanSlicesModel", "freeAt", "[I", true) := by decide +kernel
theorem zo_1037 : zfo 1037 = ("PanSlicesModel", "onPlace", "[I", true) := by decide +kernel
theorem zo_1038 : zfo 1038 = ("PanSlicesModel", "onSide", "[I", true) := by decide +kernel
theorem zo_1039 : zfo 1039 = ("PanSlicesModel", "sideLeft", "[I", true) := by decide +kernel
theorem zo_1040 : zfo 1040 = ("PanSlicesModel", "goAt", "[I", true) := by decide +kernel
theorem zo_1041 : zfo 1041 = ("PanSlicesModel", "minuteNow", "I", false) := by decide +kernel
theorem zs_1041 : zFs 1041 (.int) := by unfold zFs; rw [zo_1041]; exact ⟨by decide +kernel, rfl⟩
theorem zo_1042 : zfo 1042 = ("PanSlicesModel", "lastOn", "[I", true) := by decide +kernel
theorem zo_1043 : zfo 1043 = ("PanSlicesModel", "wasPlace", "[I", true) := by decide +kernel
theorem zo_1044 : zfo 1044 = ("PanSlicesModel", "wasSlice", "[I", true) := by decide +kernel
theorem zo_1045 : zfo 1045 = ("PanSlicesModel", "wasSide", "[I", true) := by decide +kernel
theorem zo_1046 : zfo 1046 = ("PanSlicesModel", "aside", "[I", true) := by decide +kernel
theorem zo_1047 : zfo 1047 = ("PanSlicesModel", "worth", "[I", true) := by decide +kernel
theorem zo_1048 : zfo 1048 = ("PanSlicesModel", "servedNow", "[I", true) := by decide +kernel
theorem zo_1049 : zfo 1049 = ("PanSlicesModel", "servedMany", "I", false) := by decide +kernel
theorem zs_1049 : zFs 1049 (.int) := by unfold zFs; rw [zo_1049]; exact ⟨by decide +kernel, rfl⟩
theorem zo_1050 : zfo 1050 = ("PanSlicesModel", "sums", "[I", true) := by decide +kernel
theorem zo_1051 : zfo 1051 = ("PanSlicesModel", "costs", "[I", true) := by decide +kernel
theorem zo_1052 : zfo 1052 = ("PanSlicesModel", "pansNow", "[I", true) := by decide +kernel
theorem zo_1053 : zfo 1053 = ("PanSlicesModel", "pansMany", "I", false) := by decide +kernel
theorem zs_1053 : zFs 1053 (.int) := by unfold zFs; rw [zo_1053]; exact ⟨by decide +kernel, rfl⟩
theorem zo_1054 : zfo 1054 = ("PanSlicesModel", "ways", "[J", true) := by decide +kernel
theorem zo_1055 : zfo 1055 = ("PanSlicesModel", "waysNext", "[J", true) := by decide +kernel
theorem zo_1056 : zfo 1056 = ("PanSlicesModel", "seed", "I", false) := by decide +kernel
theorem zs_1056 : zFs 1056 (.int) := by unfold zFs; rw [zo_1056]; exact ⟨by decide +kernel, rfl⟩
theorem zo_1057 : zfo 1057 = ("PanSlicesModel", "node", "[I", true) := by decide +kernel
theorem zo_1058 : zfo 1058 = ("PanSlicesModel", "nodes", "I", false) := by decide +kernel
theorem zs_1058 : zFs 1058 (.int) := by unfold zFs; rw [zo_1058]; exact ⟨by decide +kernel, rfl⟩
theorem zo_1059 : zfo 1059 = ("PanSlicesModel", "onesMany", "I", false) := by decide +kernel
theorem zs_1059 : zFs 1059 (.int) := by unfold zFs; rw [zo_1059]; exact ⟨by decide +kernel, rfl⟩
theorem zo_1060 : zfo 1060 = ("PanSlicesModel", "within", "I", false) := by decide +kernel
theorem zs_1060 : zFs 1060 (.int) := by unfold zFs; rw [zo_1060]; exact ⟨by decide +kernel, rfl⟩
theorem zo_1061 : zfo 1061 = ("PanSlicesModel", "top", "I", false) := by decide +kernel
theorem zs_1061 : zFs 1061 (.int) := by unfold zFs; rw [zo_1061]; exact ⟨by decide +kernel, rfl⟩
theorem zo_1100 : zfo 1100 = ("PanSlices$Not", "a", "LPanSlices$Cond;", true) := by decide +kernel
theorem zo_1200 : zfo 1200 = ("PanSlices$Marks", "what", "I", true) := by decide +kernel
theorem zo_1201 : zfo 1201 = ("PanSlices$Marks", "other", "I", true) := by decide +kernel
theorem zo_1300 : zfo 1300 = ("PanSlices$Counts", "what", "I", true) := by decide +kernel
theorem zo_1301 : zfo 1301 = ("PanSlices$Counts", "sign", "I", true) := by decide +kernel
theorem zo_1302 : zfo 1302 = ("PanSlices$Counts", "number", "I", true) := by decide +kernel
theorem zo_1400 : zfo 1400 = ("PanSlices$Both", "a", "LPanSlices$Cond;", true) := by decide +kernel
theorem zo_1401 : zfo 1401 = ("PanSlices$Both", "b", "LPanSlices$Cond;", true) := by decide +kernel
theorem zo_1500 : zfo 1500 = ("PanSlices$Any", "a", "LPanSlices$Cond;", true) := by decide +kernel
theorem zo_1501 : zfo 1501 = ("PanSlices$Any", "b", "LPanSlices$Cond;", true) := by decide +kernel
theorem fX1_9 : zFl RX1 9 0 := zFl.mk zo_0 q497
theorem fX1_9_f : zFf RX1 9 0 (.array .byte) := zFf.mk zo_0 (by decide +kernel) rfl q497
theorem fX1_16 : zFl RX1 16 4 := zFl.mk zo_4 q502
theorem fX1_16_f : zFf RX1 16 4 (.object "PanSlices$Fault") := zFf.mk zo_4 (by decide +kernel) rfl q502
theorem fX1_36 : zFl RX1 36 5 := zFl.mk zo_5 q504
theorem fX1_36_f : zFf RX1 36 5 (.array (.object "java/lang/String")) := zFf.mk zo_5 (by decide +kernel) rfl q504
theorem fX1_60 : zFl RX1 60 6 := zFl.mk zo_6 q507
theorem fX1_60_f : zFf RX1 60 6 (.array (.object "java/lang/String")) := zFf.mk zo_6 (by decide +kernel) rfl q507
theorem fX1_66 : zFl RX1 66 7 := zFl.mk zo_7 q509
theorem fX1_73 : zFl RX1 73 8 := zFl.mk zo_8 q512
theorem fX1_73_f : zFf RX1 73 8 (.object "PanSlices$Plan") := zFf.mk zo_8 (by decide +kernel) rfl q512
theorem fX1_77 : zFl RX1 77 9 := zFl.mk zo_9 q513
theorem fX1_77_f : zFf RX1 77 9 (.object "PanSlices$Plan") := zFf.mk zo_9 (by decide +kernel) rfl q513
theorem fX1_85 : zFl RX1 85 10 := zFl.mk zo_10 q514
theorem fX1_85_f : zFf RX1 85 10 (.object "PanSlices$KitchenReader") := zFf.mk zo_10 (by decide +kernel) rfl q514
theorem fX1_92 : zFl RX1 92 11 := zFl.mk zo_11 q515
theorem fX1_92_f : zFf RX1 92 11 (.object "PanSlices$PlanReader") := zFf.mk zo_11 (by decide +kernel) rfl q515
theorem fX1_96 : zFl RX1 96 13 := zFl.mk zo_13 q517
theorem fX1_100 : zFl RX1 100 14 := zFl.mk zo_14 q518
theorem fX1_100_f : zFf RX1 100 14 (.array .byte) := zFf.mk zo_14 (by decide +kernel) rfl q518
theorem fX1_103 : zFl RX1 103 16 := zFl.mk zo_16 q520
theorem fX1_103_f : zFf RX1 103 16 (.array (.object "PanSlices$Plan")) := zFf.mk zo_16 (by decide +kernel) rfl q520
theorem fX1_107 : zFl RX1 107 18 := zFl.mk zo_18 q522
theorem fX1_107_f : zFf RX1 107 18 (.array .int) := zFf.mk zo_18 (by decide +kernel) rfl q522
theorem fX1_111 : zFl RX1 111 19 := zFl.mk zo_19 q523
theorem fX1_111_f : zFf RX1 111 19 (.array .int) := zFf.mk zo_19 (by decide +kernel) rfl q523
theorem fX1_114 : zFl RX1 114 20 := zFl.mk zo_20 q524
theorem fX1_114_f : zFf RX1 114 20 (.array .int) := zFf.mk zo_20 (by decide +kernel) rfl q524
theorem fX1_117 : zFl RX1 117 21 := zFl.mk zo_21 q525
theorem fX1_117_f : zFf RX1 117 21 (.array .int) := zFf.mk zo_21 (by decide +kernel) rfl q525
theorem fX1_120 : zFl RX1 120 22 := zFl.mk zo_22 q526
theorem fX1_120_f : zFf RX1 120 22 (.array .int) := zFf.mk zo_22 (by decide +kernel) rfl q526
theorem fX1_134 : zFl RX1 134 24 := zFl.mk zo_24 q528
theorem fX1_134_f : zFf RX1 134 24 (.array (.object "PanSlices$Cook")) := zFf.mk zo_24 (by decide +kernel) rfl q528
theorem fX1_138 : zFl RX1 138 25 := zFl.mk zo_25 q529
theorem fX1_138_f : zFf RX1 138 25 (.array .int) := zFf.mk zo_25 (by decide +kernel) rfl q529
theorem fX1_141 : zFl RX1 141 26 := zFl.mk zo_26 q530
theorem fX1_141_f : zFf RX1 141 26 (.array .int) := zFf.mk zo_26 (by decide +kernel) rfl q530
theorem fX1_144 : zFl RX1 144 27 := zFl.mk zo_27 q531
theorem fX1_144_f : zFf RX1 144 27 (.array .int) := zFf.mk zo_27 (by decide +kernel) rfl q531
theorem fX1_147 : zFl RX1 147 28 := zFl.mk zo_28 q532
theorem fX1_147_f : zFf RX1 147 28 (.array .int) := zFf.mk zo_28 (by decide +kernel) rfl q532
theorem fX1_150 : zFl RX1 150 29 := zFl.mk zo_29 q533
theorem fX1_150_f : zFf RX1 150 29 (.array .int) := zFf.mk zo_29 (by decide +kernel) rfl q533
theorem fX1_153 : zFl RX1 153 30 := zFl.mk zo_30 q534
theorem fX1_156 : zFl RX1 156 31 := zFl.mk zo_31 q535
theorem fX1_156_f : zFf RX1 156 31 (.array .int) := zFf.mk zo_31 (by decide +kernel) rfl q535
theorem fX1_159 : zFl RX1 159 32 := zFl.mk zo_32 q536
theorem fX1_162 : zFl RX1 162 33 := zFl.mk zo_33 q537
theorem fX1_162_f : zFf RX1 162 33 (.array .int) := zFf.mk zo_33 (by decide +kernel) rfl q537
theorem fX1_165 : zFl RX1 165 34 := zFl.mk zo_34 q538
theorem fX1_165_f : zFf RX1 165 34 (.array .int) := zFf.mk zo_34 (by decide +kernel) rfl q538
theorem fX1_168 : zFl RX1 168 35 := zFl.mk zo_35 q539
theorem fX1_174 : zFl RX1 174 37 := zFl.mk zo_37 q541
theorem fX1_174_f : zFf RX1 174 37 (.object "PanSlices$SentenceReader") := zFf.mk zo_37 (by decide +kernel) rfl q541
theorem fX1_178 : zFl RX1 178 39 := zFl.mk zo_39 q543
theorem fX1_178_f : zFf RX1 178 39 (.array (.object "PanSlices$Kitchen")) := zFf.mk zo_39 (by decide +kernel) rfl q543
theorem fX1_182 : zFl RX1 182 40 := zFl.mk zo_40 q544
theorem fX1_182_f : zFf RX1 182 40 (.array (.object "PanSlices$Plan")) := zFf.mk zo_40 (by decide +kernel) rfl q544
theorem fX1_187 : zFl RX1 187 41 := zFl.mk zo_41 q545
theorem fX1_187_f : zFf RX1 187 41 (.array (.object "PanSlices$Cond")) := zFf.mk zo_41 (by decide +kernel) rfl q545
theorem fX1_191 : zFl RX1 191 1 := zFl.mk zo_1 q499
theorem fX1_198 : zFl RX1 198 2 := zFl.mk zo_2 q501
theorem fX1_206 : zFl RX1 206 12 := zFl.mk zo_12 q516
theorem fX1_213 : zFl RX1 213 305 := zFl.nest zo_305 q344
theorem fX1_215 : zFl RX1 215 17 := zFl.mk zo_17 q521
theorem fX1_218 : zFl RX1 218 38 := zFl.mk zo_38 q542
theorem fX1_222 : zFl RX1 222 106 := zFl.mk zo_106 q192
theorem fX1_225 : zFl RX1 225 107 := zFl.mk zo_107 q194
theorem fX1_228 : zFl RX1 228 208 := zFl.nest zo_208 q269
theorem fX1_243 : zFl RX1 243 202 := zFl.nest zo_202 q249
theorem fX1_246 : zFl RX1 246 207 := zFl.nest zo_207 q266
theorem fX1_249 : zFl RX1 249 209 := zFl.nest zo_209 q272
theorem fX1_252 : zFl RX1 252 203 := zFl.nest zo_203 q252
theorem fX1_255 : zFl RX1 255 204 := zFl.nest zo_204 q255
theorem fX1_258 : zFl RX1 258 210 := zFl.nest zo_210 q274
theorem fX1_261 : zFl RX1 261 205 := zFl.nest zo_205 q258
theorem fX1_264 : zFl RX1 264 206 := zFl.nest zo_206 q261
theorem fX1_279 : zFl RX1 279 300 := zFl.nest zo_300 q333
theorem fX1_281 : zFl RX1 281 301 := zFl.nest zo_301 q335
theorem fX1_284 : zFl RX1 284 302 := zFl.nest zo_302 q337
theorem fX1_287 : zFl RX1 287 303 := zFl.nest zo_303 q339
theorem fX1_289 : zFl RX1 289 304 := zFl.nest zo_304 q341
theorem fX1_307 : zFl RX1 307 15 := zFl.mk zo_15 q519
theorem fX1_315 : zFl RX1 315 200 := zFl.nest zo_200 q242
theorem fX1_332 : zFl RX1 332 211 := zFl.nest zo_211 q278
theorem fX1_370 : zFl RX1 370 212 := zFl.nest zo_212 q281
theorem fX1_372 : zFl RX1 372 23 := zFl.mk zo_23 q527
theorem fX1_422 : zFl RX1 422 213 := zFl.nest zo_213 q284
theorem fX1_442 : zFl RX1 442 215 := zFl.nest zo_215 q289
theorem fX1_445 : zFl RX1 445 214 := zFl.nest zo_214 q286
theorem fX1_456 : zFl RX1 456 36 := zFl.mk zo_36 q540
theorem fX1_472 : zFl RX1 472 910 := zFl.nest zo_910 q475
theorem fX19_7 : zFl RX19 7 1500 := zFl.mk zo_1500 q1284
theorem fX19_7_f : zFf RX19 7 1500 (.object "PanSlices$Cond") := zFf.mk zo_1500 (by decide +kernel) rfl q1284
theorem fX19_13 : zFl RX19 13 1501 := zFl.mk zo_1501 q1285
theorem fX19_13_f : zFf RX19 13 1501 (.object "PanSlices$Cond") := zFf.mk zo_1501 (by decide +kernel) rfl q1285
theorem fX18_7 : zFl RX18 7 1400 := zFl.mk zo_1400 q1270
theorem fX18_7_f : zFf RX18 7 1400 (.object "PanSlices$Cond") := zFf.mk zo_1400 (by decide +kernel) rfl q1270
theorem fX18_13 : zFl RX18 13 1401 := zFl.mk zo_1401 q1271
theorem fX18_13_f : zFf RX18 13 1401 (.object "PanSlices$Cond") := zFf.mk zo_1401 (by decide +kernel) rfl q1271
theorem fX17_7 : zFl RX17 7 1300 := zFl.mk zo_1300 q1253
theorem fX17_7_f : zFf RX17 7 1300 (.int) := zFf.mk zo_1300 (by decide +kernel) rfl q1253
theorem fX17_13 : zFl RX17 13 1301 := zFl.mk zo_1301 q1254
theorem fX17_13_f : zFf RX17 13 1301 (.int) := zFf.mk zo_1301 (by decide +kernel) rfl q1254
theorem fX17_16 : zFl RX17 16 1302 := zFl.mk zo_1302 q1255
theorem fX17_16_f : zFf RX17 16 1302 (.int) := zFf.mk zo_1302 (by decide +kernel) rfl q1255
theorem fX17_19 : zFl RX17 19 202 := zFl.nest zo_202 q246
theorem fX3_9 : zFl RX3 9 200 := zFl.mk zo_200 q239
theorem fX3_9_f : zFf RX3 9 200 (.array .long) := zFf.mk zo_200 (by decide +kernel) rfl q239
theorem fX3_15 : zFl RX3 15 201 := zFl.mk zo_201 q243
theorem fX3_15_f : zFf RX3 15 201 (.array .long) := zFf.mk zo_201 (by decide +kernel) rfl q243
theorem fX3_18 : zFl RX3 18 202 := zFl.mk zo_202 q245
theorem fX3_18_f : zFf RX3 18 202 (.array .int) := zFf.mk zo_202 (by decide +kernel) rfl q245
theorem fX3_22 : zFl RX3 22 203 := zFl.mk zo_203 q250
theorem fX3_22_f : zFf RX3 22 203 (.array .int) := zFf.mk zo_203 (by decide +kernel) rfl q250
theorem fX3_25 : zFl RX3 25 204 := zFl.mk zo_204 q253
theorem fX3_25_f : zFf RX3 25 204 (.array .int) := zFf.mk zo_204 (by decide +kernel) rfl q253
theorem fX3_28 : zFl RX3 28 205 := zFl.mk zo_205 q256
theorem fX3_28_f : zFf RX3 28 205 (.array .int) := zFf.mk zo_205 (by decide +kernel) rfl q256
theorem fX3_31 : zFl RX3 31 206 := zFl.mk zo_206 q259
theorem fX3_31_f : zFf RX3 31 206 (.array .int) := zFf.mk zo_206 (by decide +kernel) rfl q259
theorem fX3_34 : zFl RX3 34 207 := zFl.mk zo_207 q262
theorem fX3_34_f : zFf RX3 34 207 (.array .boolean) := zFf.mk zo_207 (by decide +kernel) rfl q262
theorem fX3_38 : zFl RX3 38 211 := zFl.mk zo_211 q275
theorem fX3_42 : zFl RX3 42 213 := zFl.mk zo_213 q282
theorem fX3_45 : zFl RX3 45 215 := zFl.mk zo_215 q287
theorem fX3_48 : zFl RX3 48 208 := zFl.mk zo_208 q268
theorem fX6_3 : zFl RX6 3 410 := zFl.mk zo_410 q369
theorem fX6_3_f : zFf RX6 3 410 (.object "PanSlices") := zFf.mk zo_410 (by decide +kernel) rfl q369
theorem fX6_15 : zFl RX6 15 408 := zFl.mk zo_408 q367
theorem fX6_19 : zFl RX6 19 409 := zFl.mk zo_409 q368
theorem fX6_27 : zFl RX6 27 403 := zFl.same zo_403 q375 q376
theorem fX6_30 : zFl RX6 30 5 := zFl.nest zo_5 q505
theorem fX6_46 : zFl RX6 46 208 := zFl.nest zo_208 q267
theorem fX6_51 : zFl RX6 51 209 := zFl.nest zo_209 q271
theorem fX6_54 : zFl RX6 54 210 := zFl.nest zo_210 q273
theorem fX6_71 : zFl RX6 71 200 := zFl.nest zo_200 q240
theorem fX6_79 : zFl RX6 79 201 := zFl.nest zo_201 q244
theorem fX6_82 : zFl RX6 82 406 := zFl.same zo_406 q386 q387
theorem fX6_90 : zFl RX6 90 211 := zFl.nest zo_211 q277
theorem fX6_93 : zFl RX6 93 212 := zFl.nest zo_212 q279
theorem fX6_96 : zFl RX6 96 213 := zFl.nest zo_213 q283
theorem fX6_99 : zFl RX6 99 404 := zFl.same zo_404 q380 q381
theorem fX6_102 : zFl RX6 102 214 := zFl.nest zo_214 q285
theorem fX6_105 : zFl RX6 105 215 := zFl.nest zo_215 q288
theorem fX6_112 : zFl RX6 112 202 := zFl.nest zo_202 q247
theorem fX6_122 : zFl RX6 122 207 := zFl.nest zo_207 q264
theorem fX6_125 : zFl RX6 125 203 := zFl.nest zo_203 q251
theorem fX6_128 : zFl RX6 128 204 := zFl.nest zo_204 q254
theorem fX6_131 : zFl RX6 131 205 := zFl.nest zo_205 q257
theorem fX6_134 : zFl RX6 134 206 := zFl.nest zo_206 q260
theorem fX16_7 : zFl RX16 7 1200 := zFl.mk zo_1200 q1240
theorem fX16_7_f : zFf RX16 7 1200 (.int) := zFf.mk zo_1200 (by decide +kernel) rfl q1240
theorem fX16_13 : zFl RX16 13 1201 := zFl.mk zo_1201 q1241
theorem fX16_13_f : zFf RX16 13 1201 (.int) := zFf.mk zo_1201 (by decide +kernel) rfl q1241
theorem fX16_16 : zFl RX16 16 207 := zFl.nest zo_207 q263
theorem fX15_7 : zFl RX15 7 1100 := zFl.mk zo_1100 q1224
theorem fX15_7_f : zFf RX15 7 1100 (.object "PanSlices$Cond") := zFf.mk zo_1100 (by decide +kernel) rfl q1224
theorem fX4_9 : zFl RX4 9 300 := zFl.mk zo_300 q332
theorem fX4_9_f : zFf RX4 9 300 (.array .int) := zFf.mk zo_300 (by decide +kernel) rfl q332
theorem fX4_15 : zFl RX4 15 301 := zFl.mk zo_301 q334
theorem fX4_15_f : zFf RX4 15 301 (.array .int) := zFf.mk zo_301 (by decide +kernel) rfl q334
theorem fX4_18 : zFl RX4 18 302 := zFl.mk zo_302 q336
theorem fX4_18_f : zFf RX4 18 302 (.array .int) := zFf.mk zo_302 (by decide +kernel) rfl q336
theorem fX4_21 : zFl RX4 21 303 := zFl.mk zo_303 q338
theorem fX4_21_f : zFf RX4 21 303 (.array .int) := zFf.mk zo_303 (by decide +kernel) rfl q338
theorem fX4_24 : zFl RX4 24 304 := zFl.mk zo_304 q340
theorem fX4_24_f : zFf RX4 24 304 (.array .int) := zFf.mk zo_304 (by decide +kernel) rfl q340
theorem fX4_27 : zFl RX4 27 305 := zFl.mk zo_305 q343
theorem fX4_55 : zFl RX4 55 202 := zFl.nest zo_202 q248
theorem fX4_60 : zFl RX4 60 207 := zFl.nest zo_207 q265
theorem fX4_64 : zFl RX4 64 212 := zFl.nest zo_212 q280
theorem fX7_3 : zFl RX7 3 508 := zFl.mk zo_508 q419
theorem fX7_3_f : zFf RX7 3 508 (.object "PanSlices") := zFf.mk zo_508 (by decide +kernel) rfl q419
theorem fX7_15 : zFl RX7 15 305 := zFl.nest zo_305 q342
theorem fX7_25 : zFl RX7 25 403 := zFl.same zo_403 q373 q374
theorem fX7_51 : zFl RX7 51 7 := zFl.nest zo_7 q510
theorem fX7_55 : zFl RX7 55 211 := zFl.nest zo_211 q276
theorem fX5_3 : zFl RX5 3 407 := zFl.mk zo_407 q389
theorem fX5_3_f : zFf RX5 3 407 (.object "PanSlices") := zFf.mk zo_407 (by decide +kernel) rfl q389
theorem fX5_15 : zFl RX5 15 400 := zFl.mk zo_400 q370
theorem fX5_15_f : zFf RX5 15 400 (.int) := zFf.mk zo_400 (by decide +kernel) rfl q370
theorem fX5_19 : zFl RX5 19 401 := zFl.mk zo_401 q371
theorem fX5_25 : zFl RX5 25 2 := zFl.nest zo_2 q500
theorem fX5_28 : zFl RX5 28 0 := zFl.nest zo_0 q498
theorem fX5_40 : zFl RX5 40 402 := zFl.mk zo_402 q372
theorem fX5_43 : zFl RX5 43 403 := zFl.mk zo_403 q379
theorem fX5_57 : zFl RX5 57 404 := zFl.mk zo_404 q384
theorem fX5_60 : zFl RX5 60 406 := zFl.mk zo_406 q388
theorem fX5_64 : zFl RX5 64 405 := zFl.mk zo_405 q385
theorem fX5_80 : zFl RX5 80 5 := zFl.nest zo_5 q506
theorem fX5_88 : zFl RX5 88 6 := zFl.nest zo_6 q508
theorem fX5_91 : zFl RX5 91 4 := zFl.nest zo_4 q503
theorem fX5_95 : zFl RX5 95 106 := zFl.mk zo_106 q193
theorem fX5_100 : zFl RX5 100 107 := zFl.mk zo_107 q195
theorem fX5_117 : zFl RX5 117 7 := zFl.nest zo_7 q511
theorem fX5_121 : zFl RX5 121 200 := zFl.nest zo_200 q241
theorem fX5_127 : zFl RX5 127 208 := zFl.nest zo_208 q270
theorem fX12_3 : zFl RX12 3 911 := zFl.mk zo_911 q476
theorem fX12_3_f : zFf RX12 3 911 (.object "PanSlices") := zFf.mk zo_911 (by decide +kernel) rfl q476
theorem fX12_23 : zFl RX12 23 908 := zFl.mk zo_908 q472
theorem fX12_23_f : zFf RX12 23 908 (.array (.object "java/lang/String")) := zFf.mk zo_908 (by decide +kernel) rfl q472
theorem fX12_35 : zFl RX12 35 909 := zFl.mk zo_909 q473
theorem fX12_35_f : zFf RX12 35 909 (.array (.object "java/lang/String")) := zFf.mk zo_909 (by decide +kernel) rfl q473
theorem fX12_38 : zFl RX12 38 910 := zFl.mk zo_910 q474
theorem fX12_50 : zFl RX12 50 403 := zFl.same zo_403 q377 q378
theorem fX12_109 : zFl RX12 109 404 := zFl.same zo_404 q382 q383
theorem fX13_7 : zFl RX13 7 1001 := zFl.mk zo_1001 q1412
theorem fX13_7_f : zFf RX13 7 1001 (.array .int) := zFf.mk zo_1001 (by decide +kernel) rfl q1412
theorem fX13_13 : zFl RX13 13 1014 := zFl.mk zo_1014 q1425
theorem fX13_13_f : zFf RX13 13 1014 (.array .int) := zFf.mk zo_1014 (by decide +kernel) rfl q1425
theorem fX13_16 : zFl RX13 16 1015 := zFl.mk zo_1015 q1426
theorem fX13_16_f : zFf RX13 16 1015 (.array .int) := zFf.mk zo_1015 (by decide +kernel) rfl q1426
theorem fX13_19 : zFl RX13 19 1016 := zFl.mk zo_1016 q1427
theorem fX13_19_f : zFf RX13 19 1016 (.array .int) := zFf.mk zo_1016 (by decide +kernel) rfl q1427
theorem fX13_22 : zFl RX13 22 1017 := zFl.mk zo_1017 q1428
theorem fX13_22_f : zFf RX13 22 1017 (.array .int) := zFf.mk zo_1017 (by decide +kernel) rfl q1428
theorem fX13_25 : zFl RX13 25 1018 := zFl.mk zo_1018 q1429
theorem fX13_25_f : zFf RX13 25 1018 (.array .long) := zFf.mk zo_1018 (by decide +kernel) rfl q1429
theorem fX13_29 : zFl RX13 29 1019 := zFl.mk zo_1019 q1430
theorem fX13_29_f : zFf RX13 29 1019 (.array .long) := zFf.mk zo_1019 (by decide +kernel) rfl q1430
theorem fX13_32 : zFl RX13 32 1020 := zFl.mk zo_1020 q1431
theorem fX13_32_f : zFf RX13 32 1020 (.array .long) := zFf.mk zo_1020 (by decide +kernel) rfl q1431
theorem fX13_35 : zFl RX13 35 1021 := zFl.mk zo_1021 q1432
theorem fX13_35_f : zFf RX13 35 1021 (.array .boolean) := zFf.mk zo_1021 (by decide +kernel) rfl q1432
theorem fX13_39 : zFl RX13 39 1025 := zFl.mk zo_1025 q1436
theorem fX13_39_f : zFf RX13 39 1025 (.array .int) := zFf.mk zo_1025 (by decide +kernel) rfl q1436
theorem fX13_42 : zFl RX13 42 1026 := zFl.mk zo_1026 q1437
theorem fX13_46 : zFl RX13 46 1027 := zFl.mk zo_1027 q1438
theorem fX13_46_f : zFf RX13 46 1027 (.array .int) := zFf.mk zo_1027 (by decide +kernel) rfl q1438
theorem fX13_49 : zFl RX13 49 1028 := zFl.mk zo_1028 q1439
theorem fX13_49_f : zFf RX13 49 1028 (.array .int) := zFf.mk zo_1028 (by decide +kernel) rfl q1439
theorem fX13_52 : zFl RX13 52 1030 := zFl.mk zo_1030 q1441
theorem fX13_52_f : zFf RX13 52 1030 (.array .int) := zFf.mk zo_1030 (by decide +kernel) rfl q1441
theorem fX13_55 : zFl RX13 55 1031 := zFl.mk zo_1031 q1442
theorem fX13_55_f : zFf RX13 55 1031 (.array .int) := zFf.mk zo_1031 (by decide +kernel) rfl q1442
theorem fX13_58 : zFl RX13 58 1032 := zFl.mk zo_1032 q1443
theorem fX13_58_f : zFf RX13 58 1032 (.array .int) := zFf.mk zo_1032 (by decide +kernel) rfl q1443
theorem fX13_61 : zFl RX13 61 1033 := zFl.mk zo_1033 q1444
theorem fX13_61_f : zFf RX13 61 1033 (.array .int) := zFf.mk zo_1033 (by decide +kernel) rfl q1444
theorem fX13_64 : zFl RX13 64 1034 := zFl.mk zo_1034 q1445
theorem fX13_64_f : zFf RX13 64 1034 (.array .int) := zFf.mk zo_1034 (by decide +kernel) rfl q1445
theorem fX13_67 : zFl RX13 67 1036 := zFl.mk zo_1036 q1447
theorem fX13_67_f : zFf RX13 67 1036 (.array .int) := zFf.mk zo_1036 (by decide +kernel) rfl q1447
theorem fX13_70 : zFl RX13 70 1037 := zFl.mk zo_1037 q1448
theorem fX13_70_f : zFf RX13 70 1037 (.array .int) := zFf.mk zo_1037 (by decide +kernel) rfl q1448
theorem fX13_73 : zFl RX13 73 1038 := zFl.mk zo_1038 q1449
theorem fX13_73_f : zFf RX13 73 1038 (.array .int) := zFf.mk zo_1038 (by decide +kernel) rfl q1449
theorem fX13_76 : zFl RX13 76 1039 := zFl.mk zo_1039 q1450
theorem fX13_76_f : zFf RX13 76 1039 (.array .int) := zFf.mk zo_1039 (by decide +kernel) rfl q1450
theorem fX13_79 : zFl RX13 79 1040 := zFl.mk zo_1040 q1451
theorem fX13_79_f : zFf RX13 79 1040 (.array .int) := zFf.mk zo_1040 (by decide +kernel) rfl q1451
theorem fX13_82 : zFl RX13 82 1042 := zFl.mk zo_1042 q1453
theorem fX13_82_f : zFf RX13 82 1042 (.array .int) := zFf.mk zo_1042 (by decide +kernel) rfl q1453
theorem fX13_85 : zFl RX13 85 1043 := zFl.mk zo_1043 q1454
theorem fX13_85_f : zFf RX13 85 1043 (.array .int) := zFf.mk zo_1043 (by decide +kernel) rfl q1454
theorem fX13_88 : zFl RX13 88 1044 := zFl.mk zo_1044 q1455
theorem fX13_88_f : zFf RX13 88 1044 (.array .int) := zFf.mk zo_1044 (by decide +kernel) rfl q1455
theorem fX13_91 : zFl RX13 91 1045 := zFl.mk zo_1045 q1456
theorem fX13_91_f : zFf RX13 91 1045 (.array .int) := zFf.mk zo_1045 (by decide +kernel) rfl q1456
theorem fX13_94 : zFl RX13 94 1046 := zFl.mk zo_1046 q1457
theorem fX13_94_f : zFf RX13 94 1046 (.array .int) := zFf.mk zo_1046 (by decide +kernel) rfl q1457
theorem fX13_98 : zFl RX13 98 1047 := zFl.mk zo_1047 q1458
theorem fX13_98_f : zFf RX13 98 1047 (.array .int) := zFf.mk zo_1047 (by decide +kernel) rfl q1458
theorem fX13_101 : zFl RX13 101 1048 := zFl.mk zo_1048 q1459
theorem fX13_101_f : zFf RX13 101 1048 (.array .int) := zFf.mk zo_1048 (by decide +kernel) rfl q1459
theorem fX13_104 : zFl RX13 104 1050 := zFl.mk zo_1050 q1461
theorem fX13_104_f : zFf RX13 104 1050 (.array .int) := zFf.mk zo_1050 (by decide +kernel) rfl q1461
theorem fX13_107 : zFl RX13 107 1051 := zFl.mk zo_1051 q1462
theorem fX13_107_f : zFf RX13 107 1051 (.array .int) := zFf.mk zo_1051 (by decide +kernel) rfl q1462
theorem fX13_110 : zFl RX13 110 1052 := zFl.mk zo_1052 q1463
theorem fX13_110_f : zFf RX13 110 1052 (.array .int) := zFf.mk zo_1052 (by decide +kernel) rfl q1463
theorem fX13_113 : zFl RX13 113 1054 := zFl.mk zo_1054 q1465
theorem fX13_113_f : zFf RX13 113 1054 (.array .long) := zFf.mk zo_1054 (by decide +kernel) rfl q1465
theorem fX13_116 : zFl RX13 116 1055 := zFl.mk zo_1055 q1466
theorem fX13_116_f : zFf RX13 116 1055 (.array .long) := zFf.mk zo_1055 (by decide +kernel) rfl q1466
theorem fX13_119 : zFl RX13 119 1057 := zFl.mk zo_1057 q1468
theorem fX13_119_f : zFf RX13 119 1057 (.array .int) := zFf.mk zo_1057 (by decide +kernel) rfl q1468
theorem fX13_122 : zFl RX13 122 1000 := zFl.mk zo_1000 q1411
theorem fX13_125 : zFl RX13 125 1002 := zFl.mk zo_1002 q1413
theorem fX13_132 : zFl RX13 132 1003 := zFl.mk zo_1003 q1414
theorem fX13_135 : zFl RX13 135 1005 := zFl.mk zo_1005 q1416
theorem fX13_138 : zFl RX13 138 1006 := zFl.mk zo_1006 q1417
theorem fX13_141 : zFl RX13 141 1004 := zFl.mk zo_1004 q1415
theorem fX13_144 : zFl RX13 144 1007 := zFl.mk zo_1007 q1418
theorem fX13_154 : zFl RX13 154 1009 := zFl.mk zo_1009 q1420
theorem fX13_157 : zFl RX13 157 1012 := zFl.mk zo_1012 q1423
theorem fX13_161 : zFl RX13 161 1008 := zFl.mk zo_1008 q1419
theorem fX13_180 : zFl RX13 180 1010 := zFl.mk zo_1010 q1421
theorem fX13_183 : zFl RX13 183 1011 := zFl.mk zo_1011 q1422
theorem fX13_193 : zFl RX13 193 1013 := zFl.mk zo_1013 q1424
theorem fX13_209 : zFl RX13 209 1023 := zFl.mk zo_1023 q1434
theorem fX13_217 : zFl RX13 217 1024 := zFl.mk zo_1024 q1435
theorem fX13_268 : zFl RX13 268 1022 := zFl.mk zo_1022 q1433
theorem fX13_327 : zFl RX13 327 1029 := zFl.mk zo_1029 q1440
theorem fX13_349 : zFl RX13 349 1035 := zFl.mk zo_1035 q1446
theorem fX13_359 : zFl RX13 359 1041 := zFl.mk zo_1041 q1452
theorem fX13_419 : zFl RX13 419 1049 := zFl.mk zo_1049 q1460
theorem fX13_431 : zFl RX13 431 1053 := zFl.mk zo_1053 q1464
theorem fX13_439 : zFl RX13 439 1056 := zFl.mk zo_1056 q1467
theorem fX13_452 : zFl RX13 452 1058 := zFl.mk zo_1058 q1469
theorem fX13_458 : zFl RX13 458 1061 := zFl.mk zo_1061 q1472
theorem fX13_471 : zFl RX13 471 1059 := zFl.mk zo_1059 q1470
theorem fX13_474 : zFl RX13 474 1060 := zFl.mk zo_1060 q1471
theorem fJ0_7 : zFl RJ0 7 100 := zFl.mk zo_100 q198
theorem fJ0_17 : zFl RJ0 17 101 := zFl.mk zo_101 q199
theorem fJ0_24 : zFl RJ0 24 102 := zFl.mk zo_102 q200
theorem fJ0_31 : zFl RJ0 31 103 := zFl.mk zo_103 q197
theorem fJ0_198 : zFl RJ0 198 104 := zFl.mk zo_104 q196
theorem kX1_15 : zLI RX1 15 0 mX2_init := ⟨q183, q184, q110, q185, rfl, rfl, (by decide +kernel), rfl, by decide⟩
theorem kX1_82 : zLI RX1 82 1 mX6_init := ⟨q360, q361, q114, q362, rfl, rfl, (by decide +kernel), rfl, by decide⟩
theorem kX1_91 : zLI RX1 91 1 mX7_init := ⟨q415, q416, q115, q417, rfl, rfl, (by decide +kernel), rfl, by decide⟩
theorem kX1_173 : zLI RX1 173 1 mX12_init := ⟨q460, q461, q120, q462, rfl, rfl, (by decide +kernel), rfl, by decide⟩
theorem kX1_194 : zLV RX1 194 1 RX1 mX1_four := ⟨q635, q637, qs1, q107, q638, (by decide +kernel), rfl, by decide⟩
theorem kX1_203 : zLI RX1 203 0 mJ7_init := ⟨q1361, q1362, q127, q1363, rfl, rfl, (by decide +kernel), rfl, by decide⟩
theorem kX1_204 : zLV RX1 204 0 RX1 mX1_taken := ⟨q647, q649, qs2, q107, q650, (by decide +kernel), rfl, by decide⟩
theorem kX1_209 : zLV RX1 209 1 RX6 mX6_read := ⟨q651, q652, q653, q114, q654, (by decide +kernel), rfl, by decide⟩
theorem kX1_231 : zLS RX1 231 3 mX1_isIn := ⟨q898, q677, q107, q678, (by decide +kernel), rfl, by decide⟩
theorem kX1_235 : zLV RX1 235 1 RX1 mX1_isSlice := ⟨q956, q958, qs9, q107, q959, (by decide +kernel), rfl, by decide⟩
theorem kX1_239 : zLS RX1 239 1 mX1_must := ⟨q1347, q1348, q107, q1349, (by decide +kernel), rfl, by decide⟩
theorem kX1_267 : zLV RX1 267 1 RX7 mX7_read := ⟨q822, q823, q824, q115, q825, (by decide +kernel), rfl, by decide⟩
theorem kX1_270 : zLV RX1 270 0 RX1 mX1_keep := ⟨q858, q860, qs5, q107, q861, (by decide +kernel), rfl, by decide⟩
theorem kX1_273 : zLV RX1 273 1 RX4 mX4_be := ⟨q865, q866, q867, q112, q868, (by decide +kernel), rfl, by decide⟩
theorem kX1_276 : zLV RX1 276 2 RX4 mX4_why := ⟨q874, q875, q876, q112, q877, (by decide +kernel), rfl, by decide⟩
theorem kX1_292 : zLV RX1 292 3 RX4 mX4_left := ⟨q997, q919, q920, q112, q921, (by decide +kernel), rfl, by decide⟩
theorem kX1_296 : zLV RX1 296 0 RX4 mX4_ends := ⟨q903, q904, q905, q112, q906, (by decide +kernel), rfl, by decide⟩
theorem kX1_299 : zLV RX1 299 2 RX4 mX4_isDone := ⟨q914, q915, q916, q112, q917, (by decide +kernel), rfl, by decide⟩
theorem kX1_303 : zLV RX1 303 1 RX4 mX4_end := ⟨q926, q883, q884, q112, q885, (by decide +kernel), rfl, by decide⟩
theorem kX1_310 : zLV RX1 310 1 RX1 mX1_put := ⟨q936, q938, qs7, q107, q939, (by decide +kernel), rfl, by decide⟩
theorem kX1_319 : zLV RX1 319 1 RX1 mX1_putName := ⟨q931, q933, qs6, q107, q934, (by decide +kernel), rfl, by decide⟩
theorem kX1_323 : zLV RX1 323 1 RX1 mX1_putNumber := ⟨q940, q942, qs8, q107, q943, (by decide +kernel), rfl, by decide⟩
theorem kX1_335 : zLV RX1 335 5 RX4 mX4_go := ⟨q960, q855, q856, q112, q857, (by decide +kernel), rfl, by decide⟩
theorem kX1_339 : zLV RX1 339 1 RX1 mX1_isGo := ⟨q965, q967, qs10, q107, q968, (by decide +kernel), rfl, by decide⟩
theorem kX1_342 : zLV RX1 342 1 RX4 mX4_drop := ⟨q969, q970, q971, q112, q972, (by decide +kernel), rfl, by decide⟩
theorem kX1_345 : zLV RX1 345 1 RX1 mX1_earliest := ⟨q981, q983, qs11, q107, q984, (by decide +kernel), rfl, by decide⟩
theorem kX1_348 : zLV RX1 348 2 RX4 mX4_isTaken := ⟨q989, q990, q991, q112, q992, (by decide +kernel), rfl, by decide⟩
theorem kX1_352 : zLV RX1 352 1 RX3 mX3_whole := ⟨q1006, q1007, q1008, q111, q1009, (by decide +kernel), rfl, by decide⟩
theorem kX1_355 : zLS RX1 355 2 mJ8_max := ⟨q1010, q908, q129, q909, (by decide +kernel), rfl, by decide⟩
theorem kX1_361 : zLV RX1 361 0 RX3 mX3_all := ⟨q1011, q1012, q1013, q111, q1014, (by decide +kernel), rfl, by decide⟩
theorem kX1_364 : zLV RX1 364 1 RX1 mX1_bound := ⟨q1020, q1003, q1004, q107, q1005, (by decide +kernel), rfl, by decide⟩
theorem kX1_367 : zLS RX1 367 2 mJ8_min := ⟨q1021, q1022, q129, q1023, (by decide +kernel), rfl, by decide⟩
theorem kX1_375 : zLV RX1 375 2 RX1 mX1_fits := ⟨q1033, q1035, qs13, q107, q1036, (by decide +kernel), rfl, by decide⟩
theorem kX1_378 : zLV RX1 378 2 RX1 mX1_takes := ⟨q1037, q1039, qs14, q107, q1040, (by decide +kernel), rfl, by decide⟩
theorem kX1_382 : zLV RX1 382 2 RX1 mX1_orders := ⟨q1029, q1031, qs12, q107, q1032, (by decide +kernel), rfl, by decide⟩
theorem kX1_386 : zLV RX1 386 3 RX1 mX1_pupil := ⟨q1045, q1047, qs15, q107, q1048, (by decide +kernel), rfl, by decide⟩
theorem kX1_390 : zLV RX1 390 1 RX1 mX1_isOn := ⟨q1073, q1075, qs21, q107, q1076, (by decide +kernel), rfl, by decide⟩
theorem kX1_393 : zLV RX1 393 1 RX1 mX1_sideOf := ⟨q1077, q1079, qs22, q107, q1080, (by decide +kernel), rfl, by decide⟩
theorem kX1_396 : zLV RX1 396 2 RX1 mX1_canGo := ⟨q1069, q1071, qs20, q107, q1072, (by decide +kernel), rfl, by decide⟩
theorem kX1_402 : zLV RX1 402 1 RX1 mX1_freePlace := ⟨q1061, q1063, qs18, q107, q1064, (by decide +kernel), rfl, by decide⟩
theorem kX1_405 : zLV RX1 405 2 RX1 mX1_chosen := ⟨q1065, q1067, qs19, q107, q1068, (by decide +kernel), rfl, by decide⟩
theorem kX1_409 : zLV RX1 409 1 RX1 mX1_toasts := ⟨q1053, q1055, qs16, q107, q1056, (by decide +kernel), rfl, by decide⟩
theorem kX1_412 : zLV RX1 412 2 RX1 mX1_minute := ⟨q1057, q1059, qs17, q107, q1060, (by decide +kernel), rfl, by decide⟩
theorem kX1_416 : zLS RX1 416 2 mX1_areAlike := ⟨q1101, q1102, q107, q1103, (by decide +kernel), rfl, by decide⟩
theorem kX1_419 : zLS RX1 419 2 mX1_alikeTime := ⟨q1104, q1105, q107, q1106, (by decide +kernel), rfl, by decide⟩
theorem kX1_424 : zLS RX1 424 2 mX1_has := ⟨q1125, q762, q107, q763, (by decide +kernel), rfl, by decide⟩
theorem kX1_427 : zLV RX1 427 2 RX1 mX1_worthOf_2 := ⟨q1126, q1128, qs24, q107, q1129, (by decide +kernel), rfl, by decide⟩
theorem kX1_430 : zLS RX1 430 1 mJ9_bitCount := ⟨q1115, q1116, q130, q1117, (by decide +kernel), rfl, by decide⟩
theorem kX1_435 : zLV RX1 435 3 RX1 mX1_worthOf := ⟨q1121, q1123, qs23, q107, q1124, (by decide +kernel), rfl, by decide⟩
theorem kX1_438 : zLS RX1 438 2 mX1_common := ⟨q1401, q1402, q107, q1403, (by decide +kernel), rfl, by decide⟩
theorem kX1_450 : zLV RX1 450 1 RX1 mX1_one_2 := ⟨q1147, q1149, qs25, q107, q1150, (by decide +kernel), rfl, by decide⟩
theorem kX1_453 : zLS RX1 453 2 mX1_isMinute := ⟨q1151, q1152, q107, q1153, (by decide +kernel), rfl, by decide⟩
theorem kX1_460 : zLV RX1 460 1 RX1 mX1_draw := ⟨q1166, q1168, qs28, q107, q1169, (by decide +kernel), rfl, by decide⟩
theorem kX1_463 : zLV RX1 463 1 RX1 mX1_drawn := ⟨q1162, q1164, qs27, q107, q1165, (by decide +kernel), rfl, by decide⟩
theorem kX1_466 : zLV RX1 466 1 RX1 mX1_morningOf := ⟨q1158, q1160, qs26, q107, q1161, (by decide +kernel), rfl, by decide⟩
theorem kX1_469 : zLV RX1 469 0 RX12 mX12_read := ⟨q1179, q1180, q1181, q120, q1182, (by decide +kernel), rfl, by decide⟩
theorem kX17_25 : zLV RX17 25 1 RX4 mX4_goesOf := ⟨q1307, q1308, q1309, q112, q1310, (by decide +kernel), rfl, by decide⟩
theorem kX17_31 : zLV RX17 31 1 RX4 mX4_ends_2 := ⟨q1311, q1312, q1313, q112, q1314, (by decide +kernel), rfl, by decide⟩
theorem kX2_1 : zLI RX2 1 4 mJ1_init := ⟨q186, q187, q109, q188, rfl, rfl, (by decide +kernel), rfl, by decide⟩
theorem kX3_51 : zLV RX3 51 1 RX3 mX3_whole := ⟨q1015, q1007, q1008, q111, q1009, (by decide +kernel), rfl, by decide⟩
theorem kX6_9 : zLI RX6 9 2 mX5_init := ⟨q363, q364, q113, q365, rfl, rfl, (by decide +kernel), rfl, by decide⟩
theorem kX6_60 : zLV RX6 60 1 RX6 mX6_line := ⟨q768, q770, qs3, q114, q771, (by decide +kernel), rfl, by decide⟩
theorem kX6_108 : zLV RX6 108 0 RX6 mX6_fresh := ⟨q779, q781, qs4, q114, q782, (by decide +kernel), rfl, by decide⟩
theorem kX16_22 : zLV RX16 22 2 RX4 mX4_isDone := ⟨q1317, q915, q916, q112, q917, (by decide +kernel), rfl, by decide⟩
theorem kX16_28 : zLV RX16 28 1 RX4 mX4_goesOf := ⟨q1318, q1308, q1309, q112, q1310, (by decide +kernel), rfl, by decide⟩
theorem kX16_32 : zLV RX16 32 1 RX4 mX4_ends_2 := ⟨q1319, q1312, q1313, q112, q1314, (by decide +kernel), rfl, by decide⟩
theorem kX4_37 : zLV RX4 37 1 RX4 mX4_end := ⟨q882, q883, q884, q112, q885, (by decide +kernel), rfl, by decide⟩
theorem kX4_41 : zLS RX4 41 2 mJ8_max := ⟨q907, q908, q129, q909, (by decide +kernel), rfl, by decide⟩
theorem kX4_47 : zLV RX4 47 2 RX4 mX4_areMet := ⟨q878, q879, q880, q112, q881, (by decide +kernel), rfl, by decide⟩
theorem kX4_51 : zLV RX4 51 3 RX4 mX4_had := ⟨q886, q887, q888, q112, q889, (by decide +kernel), rfl, by decide⟩
theorem kX4_67 : zLV RX4 67 3 RX4 mX4_left := ⟨q918, q919, q920, q112, q921, (by decide +kernel), rfl, by decide⟩
theorem kX7_9 : zLI RX7 9 2 mX5_init := ⟨q418, q364, q113, q365, rfl, rfl, (by decide +kernel), rfl, by decide⟩
theorem kX7_64 : zLV RX7 64 5 RX4 mX4_go := ⟨q854, q855, q856, q112, q857, (by decide +kernel), rfl, by decide⟩
theorem kX5_67 : zLV RX5 67 0 RJ2 mJ2_length := ⟨q700, q701, q702, q122, q703, (by decide +kernel), rfl, by decide⟩
theorem kX5_72 : zLV RX5 72 1 RJ2 mJ2_charAt := ⟨q710, q711, q712, q122, q713, (by decide +kernel), rfl, by decide⟩
theorem kX12_9 : zLI RX12 9 2 mX5_init := ⟨q463, q364, q113, q365, rfl, rfl, (by decide +kernel), rfl, by decide⟩
theorem kX12_46 : zLV RX12 46 1 RX12 mX12_any := ⟨q1186, q1188, qs29, q120, q1189, (by decide +kernel), rfl, by decide⟩
theorem kX12_57 : zLV RX12 57 1 RX12 mX12_both := ⟨q1190, q1192, qs30, q120, q1193, (by decide +kernel), rfl, by decide⟩
theorem kX12_71 : zLI RX12 71 2 mX19_init := ⟨q1280, q1281, q136, q1282, rfl, rfl, (by decide +kernel), rfl, by decide⟩
theorem kX12_74 : zLV RX12 74 1 RX12 mX12_single := ⟨q1194, q1196, qs31, q120, q1197, (by decide +kernel), rfl, by decide⟩
theorem kX12_81 : zLI RX12 81 2 mX18_init := ⟨q1266, q1267, q135, q1268, rfl, rfl, (by decide +kernel), rfl, by decide⟩
theorem kX12_93 : zLI RX12 93 1 mX15_init := ⟨q1217, q1218, q132, q1219, rfl, rfl, (by decide +kernel), rfl, by decide⟩
theorem kX12_106 : zLI RX12 106 2 mX16_init := ⟨q1236, q1237, q133, q1238, rfl, rfl, (by decide +kernel), rfl, by decide⟩
theorem kX12_114 : zLI RX12 114 3 mX17_init := ⟨q1249, q1250, q134, q1251, rfl, rfl, (by decide +kernel), rfl, by decide⟩
theorem kX0_7 : zLV RX0 7 2 RX1 mX1_slice := ⟨q1343, q1344, q1345, q107, q1346, (by decide +kernel), rfl, by decide⟩
theorem kX0_15 : zLV RX0 15 2 RX1 mX1_guest := ⟨q1376, q1377, q1378, q107, q1379, (by decide +kernel), rfl, by decide⟩
theorem kX0_18 : zLV RX0 18 2 RX1 mX1_sort := ⟨q1383, q1384, q1385, q107, q1386, (by decide +kernel), rfl, by decide⟩
theorem kX0_21 : zLV RX0 21 2 RX1 mX1_left := ⟨q1390, q1391, q1392, q107, q1393, (by decide +kernel), rfl, by decide⟩
theorem kX0_24 : zLV RX0 24 2 RX1 mX1_mean := ⟨q1397, q1398, q1399, q107, q1400, (by decide +kernel), rfl, by decide⟩
theorem kX0_28 : zLI RX0 28 0 mX1_init := ⟨q139, q140, q107, q141, rfl, rfl, (by decide +kernel), rfl, by decide⟩
theorem kX0_31 : zLI RX0 31 0 mX13_init := ⟨q1406, q1407, q121, q1408, rfl, rfl, (by decide +kernel), rfl, by decide⟩
theorem kX0_32 : zLV RX0 32 5 RX1 mX1_feed := ⟨q631, q632, q633, q107, q634, (by decide +kernel), rfl, by decide⟩
theorem kX0_36 : zLV RX0 36 5 RX13 mX13_feed := ⟨q1602, q1603, q1604, q121, q1605, (by decide +kernel), rfl, by decide⟩
theorem kX0_37 : zLV RX0 37 1 RX1 mX1_end := ⟨q639, q640, q641, q107, q642, (by decide +kernel), rfl, by decide⟩
theorem kX0_41 : zLV RX0 41 1 RX13 mX13_end := ⟨q1610, q1611, q1612, q121, q1613, (by decide +kernel), rfl, by decide⟩
theorem kX0_46 : zLV RX0 46 0 RX13 mX13_kitchen := ⟨q1614, q1615, q1616, q121, q1617, (by decide +kernel), rfl, by decide⟩
theorem kX0_47 : zLV RX0 47 0 RX1 mX1_fault := ⟨q814, q815, q816, q107, q817, (by decide +kernel), rfl, by decide⟩
theorem kX0_50 : zLV RX0 50 0 RX13 mX13_fault := ⟨q1720, q1721, q1722, q121, q1723, (by decide +kernel), rfl, by decide⟩
theorem kX0_56 : zLV RX0 56 2 RX13 mX13_slice := ⟨q1724, q1725, q1726, q121, q1727, (by decide +kernel), rfl, by decide⟩
theorem kX0_57 : zLV RX0 57 0 RX13 mX13_thrown := ⟨q1598, q1599, q1600, q121, q1601, (by decide +kernel), rfl, by decide⟩
theorem kX0_62 : zLV RX0 62 2 RX13 mX13_guest := ⟨q1740, q1741, q1742, q121, q1743, (by decide +kernel), rfl, by decide⟩
theorem kX0_65 : zLV RX0 65 2 RX13 mX13_sort := ⟨q1744, q1745, q1746, q121, q1747, (by decide +kernel), rfl, by decide⟩
theorem kX0_69 : zLV RX0 69 0 RX13 mX13_plan := ⟨q1752, q1753, q1754, q121, q1755, (by decide +kernel), rfl, by decide⟩
theorem kX0_70 : zLV RX0 70 0 RX1 mX1_judge := ⟨q870, q871, q872, q107, q873, (by decide +kernel), rfl, by decide⟩
theorem kX0_73 : zLV RX0 73 0 RX13 mX13_judge := ⟨q1772, q1773, q1774, q121, q1775, (by decide +kernel), rfl, by decide⟩
theorem kX0_74 : zLV RX0 74 0 RX1 mX1_why := ⟨q890, q891, q892, q107, q893, (by decide +kernel), rfl, by decide⟩
theorem kX0_77 : zLV RX0 77 0 RX13 mX13_why := ⟨q1803, q1804, q1805, q121, q1806, (by decide +kernel), rfl, by decide⟩
theorem kX0_78 : zLV RX0 78 2 RX1 mX1_go := ⟨q894, q895, q896, q107, q897, (by decide +kernel), rfl, by decide⟩
theorem kX0_81 : zLV RX0 81 2 RX13 mX13_go := ⟨q1807, q1808, q1809, q121, q1810, (by decide +kernel), rfl, by decide⟩
theorem kX0_84 : zLV RX0 84 2 RX13 mX13_left := ⟨q1811, q1812, q1813, q121, q1814, (by decide +kernel), rfl, by decide⟩
theorem kX0_85 : zLV RX0 85 0 RX1 mX1_ends := ⟨q899, q900, q901, q107, q902, (by decide +kernel), rfl, by decide⟩
theorem kX0_88 : zLV RX0 88 0 RX13 mX13_ends := ⟨q1819, q1820, q1821, q121, q1822, (by decide +kernel), rfl, by decide⟩
theorem kX0_89 : zLV RX0 89 0 RX1 mX1_done := ⟨q910, q911, q912, q107, q913, (by decide +kernel), rfl, by decide⟩
theorem kX0_92 : zLV RX0 92 0 RX13 mX13_done := ⟨q1830, q1831, q1832, q121, q1833, (by decide +kernel), rfl, by decide⟩
theorem kX0_93 : zLV RX0 93 1 RX1 mX1_on := ⟨q922, q923, q924, q107, q925, (by decide +kernel), rfl, by decide⟩
theorem kX0_97 : zLV RX0 97 1 RX13 mX13_on := ⟨q1838, q1839, q1840, q121, q1841, (by decide +kernel), rfl, by decide⟩
theorem kX0_98 : zLV RX0 98 0 RX1 mX1_write := ⟨q927, q928, q929, q107, q930, (by decide +kernel), rfl, by decide⟩
theorem kX0_101 : zLV RX0 101 0 RX13 mX13_write := ⟨q1842, q1843, q1844, q121, q1845, (by decide +kernel), rfl, by decide⟩
theorem kX0_102 : zLV RX0 102 1 RX1 mX1_byteAt := ⟨q944, q945, q946, q107, q947, (by decide +kernel), rfl, by decide⟩
theorem kX0_105 : zLV RX0 105 1 RX13 mX13_byteAt := ⟨q1858, q1859, q1860, q121, q1861, (by decide +kernel), rfl, by decide⟩
theorem kX0_106 : zLV RX0 106 0 RX1 mX1_several := ⟨q1016, q1017, q1018, q107, q1019, (by decide +kernel), rfl, by decide⟩
theorem kX0_109 : zLV RX0 109 0 RX13 mX13_several := ⟨q1862, q1863, q1864, q121, q1865, (by decide +kernel), rfl, by decide⟩
theorem kX0_110 : zLV RX0 110 0 RX1 mX1_one := ⟨q1024, q1025, q1026, q107, q1027, (by decide +kernel), rfl, by decide⟩
theorem kX0_113 : zLV RX0 113 0 RX13 mX13_one := ⟨q1881, q1882, q1883, q121, q1884, (by decide +kernel), rfl, by decide⟩
theorem kX0_114 : zLV RX0 114 0 RX1 mX1_masters := ⟨q1041, q1042, q1043, q107, q1044, (by decide +kernel), rfl, by decide⟩
theorem kX0_117 : zLV RX0 117 0 RX13 mX13_masters := ⟨q1893, q1894, q1895, q121, q1896, (by decide +kernel), rfl, by decide⟩
theorem kX0_118 : zLV RX0 118 1 RX1 mX1_cook := ⟨q1049, q1050, q1051, q107, q1052, (by decide +kernel), rfl, by decide⟩
theorem kX0_121 : zLV RX0 121 1 RX13 mX13_cook := ⟨q1901, q1902, q1903, q121, q1904, (by decide +kernel), rfl, by decide⟩
theorem kX0_122 : zLV RX0 122 0 RX1 mX1_best := ⟨q1093, q1094, q1095, q107, q1096, (by decide +kernel), rfl, by decide⟩
theorem kX0_125 : zLV RX0 125 0 RX13 mX13_best := ⟨q1945, q1946, q1947, q121, q1948, (by decide +kernel), rfl, by decide⟩
theorem kX0_126 : zLV RX0 126 1 RX1 mX1_bound := ⟨q1002, q1003, q1004, q107, q1005, (by decide +kernel), rfl, by decide⟩
theorem kX0_129 : zLV RX0 129 1 RX13 mX13_bound := ⟨q1877, q1878, q1879, q121, q1880, (by decide +kernel), rfl, by decide⟩
theorem kX0_130 : zLV RX0 130 5 RX1 mX1_add := ⟨q952, q953, q954, q107, q955, (by decide +kernel), rfl, by decide⟩
theorem kX0_133 : zLV RX0 133 5 RX13 mX13_add := ⟨q1949, q1950, q1951, q121, q1952, (by decide +kernel), rfl, by decide⟩
theorem kX0_134 : zLV RX0 134 1 RX1 mX1_drop := ⟨q961, q962, q963, q107, q964, (by decide +kernel), rfl, by decide⟩
theorem kX0_137 : zLV RX0 137 1 RX13 mX13_drop := ⟨q1953, q1954, q1955, q121, q1956, (by decide +kernel), rfl, by decide⟩
theorem kX0_138 : zLV RX0 138 2 RX1 mX1_later := ⟨q973, q974, q975, q107, q976, (by decide +kernel), rfl, by decide⟩
theorem kX0_142 : zLV RX0 142 2 RX13 mX13_later := ⟨q1957, q1958, q1959, q121, q1960, (by decide +kernel), rfl, by decide⟩
theorem kX0_143 : zLV RX0 143 0 RX1 mX1_early := ⟨q977, q978, q979, q107, q980, (by decide +kernel), rfl, by decide⟩
theorem kX0_146 : zLV RX0 146 0 RX13 mX13_early := ⟨q1961, q1962, q1963, q121, q1964, (by decide +kernel), rfl, by decide⟩
theorem kX0_147 : zLV RX0 147 0 RX1 mX1_undo := ⟨q948, q949, q950, q107, q951, (by decide +kernel), rfl, by decide⟩
theorem kX0_150 : zLV RX0 150 0 RX13 mX13_undo := ⟨q1748, q1749, q1750, q121, q1751, (by decide +kernel), rfl, by decide⟩
theorem kX0_151 : zLV RX0 151 1 RX1 mX1_idle := ⟨q985, q986, q987, q107, q988, (by decide +kernel), rfl, by decide⟩
theorem kX0_154 : zLV RX0 154 1 RX13 mX13_idle := ⟨q1973, q1974, q1975, q121, q1976, (by decide +kernel), rfl, by decide⟩
theorem kX0_155 : zLV RX0 155 0 RX1 mX1_forgotten := ⟨q993, q994, q995, q107, q996, (by decide +kernel), rfl, by decide⟩
theorem kX0_158 : zLV RX0 158 0 RX13 mX13_forgotten := ⟨q1977, q1978, q1979, q121, q1980, (by decide +kernel), rfl, by decide⟩
theorem kX0_159 : zLV RX0 159 3 RX1 mX1_fewest := ⟨q998, q999, q1000, q107, q1001, (by decide +kernel), rfl, by decide⟩
theorem kX0_163 : zLV RX0 163 3 RX13 mX13_fewest := ⟨q1981, q1982, q1983, q121, q1984, (by decide +kernel), rfl, by decide⟩
theorem kX0_164 : zLV RX0 164 2 RX1 mX1_alike := ⟨q1097, q1098, q1099, q107, q1100, (by decide +kernel), rfl, by decide⟩
theorem kX0_167 : zLV RX0 167 2 RX13 mX13_alike := ⟨q1988, q1989, q1990, q121, q1991, (by decide +kernel), rfl, by decide⟩
theorem kX0_168 : zLV RX0 168 4 RX1 mX1_alikeAt := ⟨q1107, q1108, q1109, q107, q1110, (by decide +kernel), rfl, by decide⟩
theorem kX0_172 : zLV RX0 172 4 RX13 mX13_alikeAt := ⟨q1995, q1996, q1997, q121, q1998, (by decide +kernel), rfl, by decide⟩
theorem kX0_173 : zLV RX0 173 1 RX1 mX1_served := ⟨q1111, q1112, q1113, q107, q1114, (by decide +kernel), rfl, by decide⟩
theorem kX0_176 : zLV RX0 176 1 RX13 mX13_served := ⟨q1999, q2000, q2001, q121, q2002, (by decide +kernel), rfl, by decide⟩
theorem kX0_177 : zLV RX0 177 1 RX1 mX1_servedAt := ⟨q1130, q1131, q1132, q107, q1133, (by decide +kernel), rfl, by decide⟩
theorem kX0_180 : zLV RX0 180 1 RX13 mX13_servedAt := ⟨q2014, q2015, q2016, q121, q2017, (by decide +kernel), rfl, by decide⟩
theorem kX0_183 : zLV RX0 183 2 RX13 mX13_mean := ⟨q2018, q2019, q2020, q121, q2021, (by decide +kernel), rfl, by decide⟩
theorem kX0_184 : zLV RX0 184 3 RX1 mX1_hotel := ⟨q1134, q1135, q1136, q107, q1137, (by decide +kernel), rfl, by decide⟩
theorem kX0_187 : zLV RX0 187 3 RX13 mX13_hotel := ⟨q2029, q2030, q2031, q121, q2032, (by decide +kernel), rfl, by decide⟩
theorem kX0_188 : zLV RX0 188 1 RX1 mX1_pans := ⟨q1138, q1139, q1140, q107, q1141, (by decide +kernel), rfl, by decide⟩
theorem kX0_191 : zLV RX0 191 1 RX13 mX13_pans := ⟨q2034, q2035, q2036, q121, q2037, (by decide +kernel), rfl, by decide⟩
theorem kX0_192 : zLV RX0 192 2 RX1 mX1_brown := ⟨q1142, q1143, q1144, q107, q1145, (by decide +kernel), rfl, by decide⟩
theorem kX0_195 : zLV RX0 195 2 RX13 mX13_brown := ⟨q2038, q2039, q2040, q121, q2041, (by decide +kernel), rfl, by decide⟩
theorem kX0_196 : zLV RX0 196 1 RX1 mX1_morning := ⟨q1154, q1155, q1156, q107, q1157, (by decide +kernel), rfl, by decide⟩
theorem kX0_199 : zLV RX0 199 1 RX13 mX13_morning := ⟨q2046, q2047, q2048, q121, q2049, (by decide +kernel), rfl, by decide⟩
theorem kX0_200 : zLV RX0 200 2 RX1 mX1_mornings := ⟨q1171, q1172, q1173, q107, q1174, (by decide +kernel), rfl, by decide⟩
theorem kX0_203 : zLV RX0 203 2 RX13 mX13_mornings := ⟨q2063, q2064, q2065, q121, q2066, (by decide +kernel), rfl, by decide⟩
theorem kX0_207 : zLV RX0 207 0 RX13 mX13_sentence := ⟨q2067, q2068, q2069, q121, q2070, (by decide +kernel), rfl, by decide⟩
theorem kX0_208 : zLV RX0 208 1 RX1 mX1_said := ⟨q1291, q1292, q1293, q107, q1294, (by decide +kernel), rfl, by decide⟩
theorem kX0_211 : zLV RX0 211 1 RX13 mX13_said := ⟨q2107, q2108, q2109, q121, q2110, (by decide +kernel), rfl, by decide⟩
theorem kX0_212 : zLV RX0 212 1 RX1 mX1_image := ⟨q1327, q1328, q1329, q107, q1330, (by decide +kernel), rfl, by decide⟩
theorem kX0_215 : zLV RX0 215 1 RX13 mX13_image := ⟨q2123, q2124, q2125, q121, q2126, (by decide +kernel), rfl, by decide⟩
theorem kX0_216 : zLV RX0 216 1 RX1 mX1_restore := ⟨q1331, q1332, q1333, q107, q1334, (by decide +kernel), rfl, by decide⟩
theorem kX0_219 : zLV RX0 219 1 RX13 mX13_restore := ⟨q2127, q2128, q2129, q121, q2130, (by decide +kernel), rfl, by decide⟩
theorem kX0_220 : zLV RX0 220 1 RX1 mX1_count := ⟨q1335, q1336, q1337, q107, q1338, (by decide +kernel), rfl, by decide⟩
theorem kX0_223 : zLV RX0 223 1 RX13 mX13_count := ⟨q2131, q2132, q2133, q121, q2134, (by decide +kernel), rfl, by decide⟩
theorem kX13_128 : zLV RX13 128 1 RX13 mX13_come := ⟨q1606, q1608, qs32, q121, q1609, (by decide +kernel), rfl, by decide⟩
theorem kX13_147 : zLS RX13 147 1 mX13_isLetter := ⟨q1637, q1638, q121, q1639, (by decide +kernel), rfl, by decide⟩
theorem kX13_151 : zLS RX13 151 1 mX13_isDigit := ⟨q1640, q1641, q121, q1642, (by decide +kernel), rfl, by decide⟩
theorem kX13_164 : zLV RX13 164 1 RX13 mX13_tapeAt := ⟨q1643, q1645, qs37, q121, q1646, (by decide +kernel), rfl, by decide⟩
theorem kX13_172 : zLS RX13 172 5 mX13_spelt := ⟨q1660, q1661, q121, q1662, (by decide +kernel), rfl, by decide⟩
theorem kX13_176 : zLS RX13 176 1 mX13_wordOf := ⟨q1657, q1658, q121, q1659, (by decide +kernel), rfl, by decide⟩
theorem kX13_186 : zLV RX13 186 1 RX13 mX13_bad := ⟨q1674, q1676, qs42, q121, q1677, (by decide +kernel), rfl, by decide⟩
theorem kX13_189 : zLS RX13 189 3 mX13_isIn := ⟨q1682, q1683, q121, q1684, (by decide +kernel), rfl, by decide⟩
theorem kX13_196 : zLV RX13 196 0 RX13 mX13_next := ⟨q1633, q1635, qs36, q121, q1636, (by decide +kernel), rfl, by decide⟩
theorem kX13_199 : zLV RX13 199 1 RX13 mX13_isSign := ⟨q1716, q1718, qs51, q121, q1719, (by decide +kernel), rfl, by decide⟩
theorem kX13_202 : zLV RX13 202 0 RX13 mX13_lay := ⟨q1622, q1624, qs34, q121, q1625, (by decide +kernel), rfl, by decide⟩
theorem kX13_205 : zLV RX13 205 0 RX13 mX13_take := ⟨q1629, q1631, qs35, q121, q1632, (by decide +kernel), rfl, by decide⟩
theorem kX13_213 : zLS RX13 213 1 mX13_plain := ⟨q1626, q1627, q121, q1628, (by decide +kernel), rfl, by decide⟩
theorem kX13_220 : zLS RX13 220 2 mX13_has := ⟨q1671, q1672, q121, q1673, (by decide +kernel), rfl, by decide⟩
theorem kX13_224 : zLV RX13 224 0 RX13 mX13_isName := ⟨q1697, q1699, qs47, q121, q1700, (by decide +kernel), rfl, by decide⟩
theorem kX13_228 : zLS RX13 228 4 mX13_findIn := ⟨q1701, q1702, q121, q1703, (by decide +kernel), rfl, by decide⟩
theorem kX13_232 : zLV RX13 232 1 RX13 mX13_readNew := ⟨q1693, q1695, qs46, q121, q1696, (by decide +kernel), rfl, by decide⟩
theorem kX13_235 : zLV RX13 235 2 RX13 mX13_readNumber := ⟨q1678, q1680, qs43, q121, q1681, (by decide +kernel), rfl, by decide⟩
theorem kX13_238 : zLV RX13 238 1 RX13 mX13_isWord := ⟨q1653, q1655, qs39, q121, q1656, (by decide +kernel), rfl, by decide⟩
theorem kX13_241 : zLV RX13 241 1 RX13 mX13_readOnce := ⟨q1667, q1669, qs41, q121, q1670, (by decide +kernel), rfl, by decide⟩
theorem kX13_244 : zLV RX13 244 3 RX13 mX13_readPlain := ⟨q1663, q1665, qs40, q121, q1666, (by decide +kernel), rfl, by decide⟩
theorem kX13_247 : zLV RX13 247 0 RX13 mX13_readBurn := ⟨q1685, q1687, qs44, q121, q1688, (by decide +kernel), rfl, by decide⟩
theorem kX13_250 : zLV RX13 250 0 RX13 mX13_readSlice := ⟨q1689, q1691, qs45, q121, q1692, (by decide +kernel), rfl, by decide⟩
theorem kX13_253 : zLV RX13 253 0 RX13 mX13_readGuest := ⟨q1704, q1706, qs48, q121, q1707, (by decide +kernel), rfl, by decide⟩
theorem kX13_256 : zLV RX13 256 0 RX13 mX13_readSort := ⟨q1708, q1710, qs49, q121, q1711, (by decide +kernel), rfl, by decide⟩
theorem kX13_259 : zLV RX13 259 0 RX13 mX13_readEnd := ⟨q1712, q1714, qs50, q121, q1715, (by decide +kernel), rfl, by decide⟩
theorem kX13_262 : zLV RX13 262 1 RX13 mX13_begin := ⟨q1618, q1620, qs33, q121, q1621, (by decide +kernel), rfl, by decide⟩
theorem kX13_265 : zLV RX13 265 0 RX13 mX13_readLine := ⟨q1649, q1651, qs38, q121, q1652, (by decide +kernel), rfl, by decide⟩
theorem kX13_271 : zLV RX13 271 0 RX13 mX13_slices := ⟨q1732, q1734, qs53, q121, q1735, (by decide +kernel), rfl, by decide⟩
theorem kX13_274 : zLV RX13 274 1 RX13 mX13_isSlice := ⟨q1728, q1730, qs52, q121, q1731, (by decide +kernel), rfl, by decide⟩
theorem kX13_277 : zLV RX13 277 0 RX13 mX13_refuse := ⟨q1736, q1738, qs54, q121, q1739, (by decide +kernel), rfl, by decide⟩
theorem kX13_280 : zLV RX13 280 2 RX13 mX13_go5 := ⟨q1780, q1782, qs60, q121, q1783, (by decide +kernel), rfl, by decide⟩
theorem kX13_284 : zLV RX13 284 0 RX13 mX13_goes := ⟨q1768, q1770, qs58, q121, q1771, (by decide +kernel), rfl, by decide⟩
theorem kX13_287 : zLV RX13 287 1 RX13 mX13_readGo := ⟨q1756, q1758, qs55, q121, q1759, (by decide +kernel), rfl, by decide⟩
theorem kX13_290 : zLV RX13 290 0 RX13 mX13_snap := ⟨q1760, q1762, qs56, q121, q1763, (by decide +kernel), rfl, by decide⟩
theorem kX13_293 : zLV RX13 293 5 RX13 mX13_lays := ⟨q1764, q1766, qs57, q121, q1767, (by decide +kernel), rfl, by decide⟩
theorem kX13_297 : zLV RX13 297 1 RX13 mX13_from := ⟨q1776, q1778, qs59, q121, q1779, (by decide +kernel), rfl, by decide⟩
theorem kX13_299 : zLS RX13 299 4 mX13_overlap := ⟨q1788, q1789, q121, q1790, (by decide +kernel), rfl, by decide⟩
theorem kX13_303 : zLV RX13 303 1 RX13 mX13_isOnce := ⟨q1791, q1793, qs62, q121, q1794, (by decide +kernel), rfl, by decide⟩
theorem kX13_306 : zLV RX13 306 1 RX13 mX13_behind := ⟨q1795, q1797, qs63, q121, q1798, (by decide +kernel), rfl, by decide⟩
theorem kX13_309 : zLV RX13 309 2 RX13 mX13_needs := ⟨q1799, q1801, qs64, q121, q1802, (by decide +kernel), rfl, by decide⟩
theorem kX13_312 : zLV RX13 312 2 RX13 mX13_wrong := ⟨q1784, q1786, qs61, q121, q1787, (by decide +kernel), rfl, by decide⟩
theorem kX13_315 : zLV RX13 315 2 RX13 mX13_leftOf := ⟨q1815, q1817, qs65, q121, q1818, (by decide +kernel), rfl, by decide⟩
theorem kX13_318 : zLS RX13 318 2 mX13_most := ⟨q1827, q1828, q121, q1829, (by decide +kernel), rfl, by decide⟩
theorem kX13_321 : zLV RX13 321 0 RX13 mX13_endsAt := ⟨q1823, q1825, qs66, q121, q1826, (by decide +kernel), rfl, by decide⟩
theorem kX13_324 : zLV RX13 324 1 RX13 mX13_isDone := ⟨q1834, q1836, qs67, q121, q1837, (by decide +kernel), rfl, by decide⟩
theorem kX13_330 : zLV RX13 330 1 RX13 mX13_put := ⟨q1850, q1852, qs69, q121, q1853, (by decide +kernel), rfl, by decide⟩
theorem kX13_333 : zLV RX13 333 1 RX13 mX13_putName := ⟨q1846, q1848, qs68, q121, q1849, (by decide +kernel), rfl, by decide⟩
theorem kX13_337 : zLV RX13 337 1 RX13 mX13_putNumber := ⟨q1854, q1856, qs70, q121, q1857, (by decide +kernel), rfl, by decide⟩
theorem kX13_340 : zLV RX13 340 0 RX13 mX13_longest := ⟨q1866, q1868, qs71, q121, q1869, (by decide +kernel), rfl, by decide⟩
theorem kX13_343 : zLV RX13 343 0 RX13 mX13_allMinutes := ⟨q1870, q1872, qs72, q121, q1873, (by decide +kernel), rfl, by decide⟩
theorem kX13_346 : zLS RX13 346 2 mX13_up := ⟨q1874, q1875, q121, q1876, (by decide +kernel), rfl, by decide⟩
theorem kX13_352 : zLV RX13 352 3 RX13 mX13_canStart := ⟨q1889, q1891, qs74, q121, q1892, (by decide +kernel), rfl, by decide⟩
theorem kX13_355 : zLV RX13 355 3 RX13 mX13_trySides := ⟨q1885, q1887, qs73, q121, q1888, (by decide +kernel), rfl, by decide⟩
theorem kX13_362 : zLV RX13 362 3 RX13 mX13_takes := ⟨q1897, q1899, qs75, q121, q1900, (by decide +kernel), rfl, by decide⟩
theorem kX13_366 : zLV RX13 366 1 RX13 mX13_sideOf := ⟨q1929, q1931, qs82, q121, q1932, (by decide +kernel), rfl, by decide⟩
theorem kX13_369 : zLV RX13 369 1 RX13 mX13_hasLeft := ⟨q1921, q1923, qs80, q121, q1924, (by decide +kernel), rfl, by decide⟩
theorem kX13_372 : zLV RX13 372 2 RX13 mX13_isRested := ⟨q1925, q1927, qs81, q121, q1928, (by decide +kernel), rfl, by decide⟩
theorem kX13_375 : zLV RX13 375 2 RX13 mX13_likes := ⟨q1933, q1935, qs83, q121, q1936, (by decide +kernel), rfl, by decide⟩
theorem kX13_378 : zLV RX13 378 4 RX13 mX13_isOn := ⟨q1913, q1915, qs78, q121, q1916, (by decide +kernel), rfl, by decide⟩
theorem kX13_382 : zLV RX13 382 3 RX13 mX13_takesCook := ⟨q1917, q1919, qs79, q121, q1920, (by decide +kernel), rfl, by decide⟩
theorem kX13_385 : zLV RX13 385 1 RX13 mX13_placeFor := ⟨q1937, q1939, qs84, q121, q1940, (by decide +kernel), rfl, by decide⟩
theorem kX13_388 : zLV RX13 388 2 RX13 mX13_tells := ⟨q1941, q1943, qs85, q121, q1944, (by decide +kernel), rfl, by decide⟩
theorem kX13_392 : zLV RX13 392 2 RX13 mX13_cookMinute := ⟨q1909, q1911, qs77, q121, q1912, (by decide +kernel), rfl, by decide⟩
theorem kX13_395 : zLV RX13 395 1 RX13 mX13_cookAll := ⟨q1905, q1907, qs76, q121, q1908, (by decide +kernel), rfl, by decide⟩
theorem kX13_398 : zLV RX13 398 1 RX13 mX13_earliest := ⟨q1969, q1971, qs87, q121, q1972, (by decide +kernel), rfl, by decide⟩
theorem kX13_401 : zLV RX13 401 0 RX13 mX13_canBeEarly := ⟨q1965, q1967, qs86, q121, q1968, (by decide +kernel), rfl, by decide⟩
theorem kX13_404 : zLS RX13 404 3 mX13_placesFor := ⟨q1985, q1986, q121, q1987, (by decide +kernel), rfl, by decide⟩
theorem kX13_407 : zLS RX13 407 2 mX13_areAlike := ⟨q1992, q1993, q121, q1994, (by decide +kernel), rfl, by decide⟩
theorem kX13_410 : zLV RX13 410 2 RX13 mX13_worthOf := ⟨q2010, q2012, qs89, q121, q2013, (by decide +kernel), rfl, by decide⟩
theorem kX13_413 : zLS RX13 413 1 mX13_bits := ⟨q2003, q2004, q121, q2005, (by decide +kernel), rfl, by decide⟩
theorem kX13_416 : zLV RX13 416 2 RX13 mX13_worthOfSet := ⟨q2006, q2008, qs88, q121, q2009, (by decide +kernel), rfl, by decide⟩
theorem kX13_422 : zLV RX13 422 0 RX13 mX13_refuseLong := ⟨q2022, q2024, qs90, q121, q2025, (by decide +kernel), rfl, by decide⟩
theorem kX13_426 : zLS RX13 426 2 mX13_common := ⟨q2026, q2027, q121, q2028, (by decide +kernel), rfl, by decide⟩
theorem kX13_436 : zLS RX13 436 2 mX13_mayBe := ⟨q2043, q2044, q121, q2045, (by decide +kernel), rfl, by decide⟩
theorem kX13_443 : zLV RX13 443 1 RX13 mX13_draw := ⟨q2058, q2060, qs93, q121, q2061, (by decide +kernel), rfl, by decide⟩
theorem kX13_446 : zLV RX13 446 2 RX13 mX13_drawn := ⟨q2054, q2056, qs92, q121, q2057, (by decide +kernel), rfl, by decide⟩
theorem kX13_449 : zLV RX13 449 1 RX13 mX13_morningBy := ⟨q2050, q2052, qs91, q121, q2053, (by decide +kernel), rfl, by decide⟩
theorem kX13_455 : zLV RX13 455 0 RX13 mX13_readAnd := ⟨q2075, q2077, qs95, q121, q2078, (by decide +kernel), rfl, by decide⟩
theorem kX13_461 : zLV RX13 461 4 RX13 mX13_saysOne := ⟨q2095, q2097, qs100, q121, q2098, (by decide +kernel), rfl, by decide⟩
theorem kX13_465 : zLV RX13 465 0 RX13 mX13_readOne := ⟨q2079, q2081, qs96, q121, q2082, (by decide +kernel), rfl, by decide⟩
theorem kX13_468 : zLV RX13 468 0 RX13 mX13_oneAtHand := ⟨q2083, q2085, qs97, q121, q2086, (by decide +kernel), rfl, by decide⟩
theorem kX13_477 : zLV RX13 477 0 RX13 mX13_readBracket := ⟨q2087, q2089, qs98, q121, q2090, (by decide +kernel), rfl, by decide⟩
theorem kX13_480 : zLV RX13 480 0 RX13 mX13_readNot := ⟨q2091, q2093, qs99, q121, q2094, (by decide +kernel), rfl, by decide⟩
theorem kX13_483 : zLV RX13 483 0 RX13 mX13_readAfter := ⟨q2099, q2101, qs101, q121, q2102, (by decide +kernel), rfl, by decide⟩
theorem kX13_486 : zLV RX13 486 1 RX13 mX13_readCompare := ⟨q2103, q2105, qs102, q121, q2106, (by decide +kernel), rfl, by decide⟩
theorem kX13_489 : zLV RX13 489 0 RX13 mX13_readOr := ⟨q2071, q2073, qs94, q121, q2074, (by decide +kernel), rfl, by decide⟩
theorem kX13_492 : zLV RX13 492 2 RX13 mX13_holds := ⟨q2111, q2113, qs103, q121, q2114, (by decide +kernel), rfl, by decide⟩
theorem kX13_495 : zLV RX13 495 1 RX13 mX13_goesOf := ⟨q2115, q2117, qs104, q121, q2118, (by decide +kernel), rfl, by decide⟩
theorem kX13_498 : zLV RX13 498 1 RX13 mX13_endOf := ⟨q2119, q2121, qs105, q121, q2122, (by decide +kernel), rfl, by decide⟩
theorem kJ1_1 : zLI RJ1 1 0 mJ0_init := ⟨q1370, q166, q108, q167, rfl, rfl, (by decide +kernel), rfl, by decide⟩
theorem kJ1_16 : zLI RJ1 16 4 mJ0_init_2 := ⟨q189, q190, q108, q191, rfl, rfl, (by decide +kernel), rfl, by decide⟩
theorem kJ6_1 : zLI RJ6 1 0 mJ1_init_2 := ⟨q1367, q1368, q109, q1369, rfl, rfl, (by decide +kernel), rfl, by decide⟩
theorem kJ2_335 : zLV RJ2 335 0 RJ2 mJ2_coder := ⟨q704, q705, q706, q122, q707, (by decide +kernel), rfl, by decide⟩
theorem kJ2_492 : zLV RJ2 492 0 RJ2 mJ2_isLatin1 := ⟨q714, q715, q716, q122, q717, (by decide +kernel), rfl, by decide⟩
theorem kJ2_495 : zLS RJ2 495 2 mJ3_charAt := ⟨q718, q719, q123, q720, (by decide +kernel), rfl, by decide⟩
theorem kJ2_498 : zLS RJ2 498 2 mJ5_charAt := ⟨q729, q730, q125, q731, (by decide +kernel), rfl, by decide⟩
theorem kJ2_1059 : zLS RJ2 1059 3 mJ4_checkIndex := ⟨q726, q727, q124, q728, (by decide +kernel), rfl, by decide⟩
theorem kJ3_9 : zLS RJ3 9 2 mJ2_checkIndex := ⟨q721, q722, q122, q723, (by decide +kernel), rfl, by decide⟩
theorem kJ5_48 : zLS RJ5 48 1 mJ5_length := ⟨q735, q736, q125, q737, (by decide +kernel), rfl, by decide⟩
theorem kJ5_67 : zLS RJ5 67 2 mJ5_checkIndex := ⟨q732, q733, q125, q734, (by decide +kernel), rfl, by decide⟩
theorem kJ5_71 : zLS RJ5 71 2 mJ5_getChar := ⟨q739, q740, q125, q741, (by decide +kernel), rfl, by decide⟩
theorem kJ5_414 : zLS RJ5 414 2 mJ2_checkIndex := ⟨q738, q722, q122, q723, (by decide +kernel), rfl, by decide⟩
theorem kJ7_1 : zLI RJ7 1 0 mJ6_init := ⟨q1364, q1365, q126, q1366, rfl, rfl, (by decide +kernel), rfl, by decide⟩
theorem kX1_65 : zLIN RX1 65 0 "PanSlices" mX3_init := ⟨q235, q236, q111, q237, rfl, rfl, (by decide +kernel), rfl, by decide⟩
theorem kX1_72 : zLIN RX1 72 0 "PanSlices" mX4_init := ⟨q328, q329, q112, q330, rfl, rfl, (by decide +kernel), rfl, by decide⟩
theorem kX1_127 : zLIN RX1 127 0 "PanSlices" mX9_init := ⟨q436, q437, q117, q438, rfl, rfl, (by decide +kernel), rfl, by decide⟩
theorem kX1_130 : zLIN RX1 130 0 "PanSlices" mX10_init := ⟨q446, q447, q118, q448, rfl, rfl, (by decide +kernel), rfl, by decide⟩
theorem kX1_133 : zLIN RX1 133 0 "PanSlices" mX11_init := ⟨q453, q454, q119, q455, rfl, rfl, (by decide +kernel), rfl, by decide⟩
theorem kX19_1 : zLIN RX19 1 0 "PanSlices" mX14_init := ⟨q1283, q1221, q131, q1222, rfl, rfl, (by decide +kernel), rfl, by decide⟩
theorem kX18_1 : zLIN RX18 1 0 "PanSlices" mX14_init := ⟨q1269, q1221, q131, q1222, rfl, rfl, (by decide +kernel), rfl, by decide⟩
theorem kX17_1 : zLIN RX17 1 0 "PanSlices" mX14_init := ⟨q1252, q1221, q131, q1222, rfl, rfl, (by decide +kernel), rfl, by decide⟩
theorem kX11_1 : zLIN RX11 1 0 "PanSlices" mX8_init := ⟨q456, q440, q116, q441, rfl, rfl, (by decide +kernel), rfl, by decide⟩
theorem kX6_42 : zLSN RX6 42 2 "PanSlices" mX1_has := ⟨q761, q762, q107, q763, (by decide +kernel), rfl, by decide⟩
theorem kX10_1 : zLIN RX10 1 0 "PanSlices" mX8_init := ⟨q449, q440, q116, q441, rfl, rfl, (by decide +kernel), rfl, by decide⟩
theorem kX16_1 : zLIN RX16 1 0 "PanSlices" mX14_init := ⟨q1239, q1221, q131, q1222, rfl, rfl, (by decide +kernel), rfl, by decide⟩
theorem kX9_1 : zLIN RX9 1 0 "PanSlices" mX8_init := ⟨q439, q440, q116, q441, rfl, rfl, (by decide +kernel), rfl, by decide⟩
theorem kX15_1 : zLIN RX15 1 0 "PanSlices" mX14_init := ⟨q1220, q1221, q131, q1222, rfl, rfl, (by decide +kernel), rfl, by decide⟩
theorem kX5_32 : zLSN RX5 32 3 "PanSlices" mX1_isIn := ⟨q676, q677, q107, q678, (by decide +kernel), rfl, by decide⟩
