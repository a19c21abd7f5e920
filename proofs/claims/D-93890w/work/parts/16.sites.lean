/-! THE METHODS AND WHAT POOL ENTRIES NAME (printed by gen/mk_sites.py) -/
set_option maxRecDepth 100000
abbrev YJ0_init : YT := (yJ0_init, Cond.code yJ0_init cJ0_init 2 none, cJ0_init, 2, none, [])
abbrev YJ0_init_2 : YT := (yJ0_init_2, Cond.code yJ0_init_2 cJ0_init_2 1 none, cJ0_init_2, 1, none, [])
abbrev YJ0_init_3 : YT := (yJ0_init_3, Cond.code yJ0_init_3 cJ0_init_3 5 none, cJ0_init_3, 5, none, [])
abbrev YJ1_init : YT := (yJ1_init, Cond.code yJ1_init cJ1_init 2 none, cJ1_init, 2, none, [])
abbrev YJ1_init_2 : YT := (yJ1_init_2, Cond.code yJ1_init_2 cJ1_init_2 5 none, cJ1_init_2, 5, none, [])
abbrev YJ10_checkIndex : YT := (yJ10_checkIndex, Cond.code yJ10_checkIndex cJ10_checkIndex 3 (some FieldType.int), cJ10_checkIndex, 3, (some FieldType.int), [])
abbrev YJ11_charAt : YT := (yJ11_charAt, Cond.code yJ11_charAt cJ11_charAt 2 (some FieldType.char), cJ11_charAt, 2, (some FieldType.char), [])
abbrev YJ11_checkIndex : YT := (yJ11_checkIndex, Cond.code yJ11_checkIndex cJ11_checkIndex 2 none, cJ11_checkIndex, 2, none, [])
abbrev YJ11_length : YT := (yJ11_length, Cond.code yJ11_length cJ11_length 1 (some FieldType.int), cJ11_length, 1, (some FieldType.int), [])
abbrev YJ11_getChar : YT := (yJ11_getChar, Cond.code yJ11_getChar cJ11_getChar 2 (some FieldType.char), cJ11_getChar, 2, (some FieldType.char), [])
abbrev YJ12_bitCount : YT := (yJ12_bitCount, Cond.code yJ12_bitCount cJ12_bitCount 1 (some FieldType.int), cJ12_bitCount, 1, (some FieldType.int), [])
abbrev YJ13_init : YT := (yJ13_init, Cond.code yJ13_init cJ13_init 1 none, cJ13_init, 1, none, [])
abbrev YJ2_init : YT := (yJ2_init, Cond.code yJ2_init cJ2_init 2 none, cJ2_init, 2, none, [])
abbrev YJ3_init : YT := (yJ3_init, Cond.code yJ3_init cJ3_init 2 none, cJ3_init, 2, none, [])
abbrev YJ4_init : YT := (yJ4_init, Cond.code yJ4_init cJ4_init 2 none, cJ4_init, 2, none, [])
abbrev YJ5_length : YT := (yJ5_length, Cond.code yJ5_length cJ5_length 1 (some FieldType.int), cJ5_length, 1, (some FieldType.int), [])
abbrev YJ5_coder : YT := (yJ5_coder, Cond.code yJ5_coder cJ5_coder 1 (some FieldType.byte), cJ5_coder, 1, (some FieldType.byte), [])
abbrev YJ5_charAt : YT := (yJ5_charAt, Cond.code yJ5_charAt cJ5_charAt 2 (some FieldType.char), cJ5_charAt, 2, (some FieldType.char), [])
abbrev YJ5_isLatin1 : YT := (yJ5_isLatin1, Cond.code yJ5_isLatin1 cJ5_isLatin1 1 (some FieldType.boolean), cJ5_isLatin1, 1, (some FieldType.boolean), [])
abbrev YJ5_checkIndex : YT := (yJ5_checkIndex, Cond.code yJ5_checkIndex cJ5_checkIndex 2 none, cJ5_checkIndex, 2, none, [])
abbrev YJ6_init : YT := (yJ6_init, Cond.code yJ6_init cJ6_init 2 none, cJ6_init, 2, none, [])
abbrev YJ7_init : YT := (yJ7_init, Cond.code yJ7_init cJ7_init 2 none, cJ7_init, 2, none, [])
abbrev YJ8_max : YT := (yJ8_max, Cond.code yJ8_max cJ8_max 2 (some FieldType.int), cJ8_max, 2, (some FieldType.int), [])
abbrev YJ8_min : YT := (yJ8_min, Cond.code yJ8_min cJ8_min 2 (some FieldType.int), cJ8_min, 2, (some FieldType.int), [])
abbrev YJ8_abs : YT := (yJ8_abs, Cond.code yJ8_abs cJ8_abs 1 (some FieldType.int), cJ8_abs, 1, (some FieldType.int), [])
abbrev YJ9_charAt : YT := (yJ9_charAt, Cond.code yJ9_charAt cJ9_charAt 2 (some FieldType.char), cJ9_charAt, 2, (some FieldType.char), [])
abbrev YX0_init : YT := (yX0_init, Cond.code yX0_init cX0_init 2 none, cX0_init, 2, none, [])
abbrev YX0_row : YT := (yX0_row, Cond.codeWith yX0_row cX0_row 5 (some FieldType.int) [(0, 63, 64, 21)], cX0_row, 5, (some FieldType.int), [(0, 63, 64, 21)])
abbrev YX0_shelf : YT := (yX0_shelf, Cond.codeWith yX0_shelf cX0_shelf 3 (some (FieldType.object "NoFartherThanAThrow$Shelf")) [(0, 6, 7, 102)], cX0_shelf, 3, (some (FieldType.object "NoFartherThanAThrow$Shelf")), [(0, 6, 7, 102)])
abbrev YX0_need : YT := (yX0_need, Cond.code yX0_need cX0_need 2 none, cX0_need, 2, none, [])
abbrev YX0_in : YT := (yX0_in, Cond.code yX0_in cX0_in 6 (some FieldType.boolean), cX0_in, 6, (some FieldType.boolean), [])
abbrev YX0_newRow : YT := (yX0_newRow, Cond.codeWith yX0_newRow cX0_newRow 3 (some (FieldType.object "NoFartherThanAThrow$Row")) [(0, 40, 78, 161), (41, 49, 78, 161), (50, 58, 78, 161), (59, 67, 78, 161), (68, 78, 78, 161)], cX0_newRow, 3, (some (FieldType.object "NoFartherThanAThrow$Row")), [(0, 40, 78, 161), (41, 49, 78, 161), (50, 58, 78, 161), (59, 67, 78, 161), (68, 78, 78, 161)])
abbrev YX0_refused : YT := (yX0_refused, Cond.code yX0_refused cX0_refused 2 (some FieldType.int), cX0_refused, 2, (some FieldType.int), [])
abbrev YX0_set : YT := (yX0_set, Cond.codeWith yX0_set cX0_set 7 (some FieldType.int) [(10, 17, 20, 102), (0, 33, 34, 21)], cX0_set, 7, (some FieldType.int), [(10, 17, 20, 102), (0, 33, 34, 21)])
abbrev YX0_copy : YT := (yX0_copy, Cond.codeWith yX0_copy cX0_copy 11 (some FieldType.int) [(114, 132, 135, 187), (0, 148, 149, 21)], cX0_copy, 11, (some FieldType.int), [(114, 132, 135, 187), (0, 148, 149, 21)])
abbrev YX0_element : YT := (yX0_element, Cond.codeWith yX0_element cX0_element 4 (some FieldType.long) [(0, 12, 13, 21), (0, 12, 16, 102)], cX0_element, 4, (some FieldType.long), [(0, 12, 13, 21), (0, 12, 16, 102)])
abbrev YX0_show : YT := (yX0_show, Cond.codeWith yX0_show cX0_show 4 (some FieldType.int) [(0, 17, 29, 21), (18, 28, 29, 21)], cX0_show, 4, (some FieldType.int), [(0, 17, 29, 21), (18, 28, 29, 21)])
abbrev YX0_thingAt : YT := (yX0_thingAt, Cond.code yX0_thingAt cX0_thingAt 2 (some (FieldType.object "NoFartherThanAThrow$Thing")), cX0_thingAt, 2, (some (FieldType.object "NoFartherThanAThrow$Thing")), [])
abbrev YX0_isThing : YT := (yX0_isThing, Cond.code yX0_isThing cX0_isThing 2 (some FieldType.boolean), cX0_isThing, 2, (some FieldType.boolean), [])
abbrev YX0_holds : YT := (yX0_holds, Cond.code yX0_holds cX0_holds 3 (some FieldType.int), cX0_holds, 3, (some FieldType.int), [])
abbrev YX0_says : YT := (yX0_says, Cond.codeWith yX0_says cX0_says 4 (some FieldType.int) [(0, 28, 29, 21)], cX0_says, 4, (some FieldType.int), [(0, 28, 29, 21)])
abbrev YX0_thing : YT := (yX0_thing, Cond.codeWith yX0_thing cX0_thing 6 (some FieldType.int) [(0, 103, 104, 21)], cX0_thing, 6, (some FieldType.int), [(0, 103, 104, 21)])
abbrev YX0_thingOfKind : YT := (yX0_thingOfKind, Cond.code yX0_thingOfKind cX0_thingOfKind 4 (some (FieldType.object "NoFartherThanAThrow$Thing")), cX0_thingOfKind, 4, (some (FieldType.object "NoFartherThanAThrow$Thing")), [])
abbrev YX0_man : YT := (yX0_man, Cond.codeWith yX0_man cX0_man 3 (some FieldType.int) [(0, 14, 15, 21)], cX0_man, 3, (some FieldType.int), [(0, 14, 15, 21)])
abbrev YX0_addMan : YT := (yX0_addMan, Cond.code yX0_addMan cX0_addMan 2 none, cX0_addMan, 2, none, [])
abbrev YX0_men : YT := (yX0_men, Cond.codeWith yX0_men cX0_men 7 (some FieldType.int) [(61, 92, 95, 21), (0, 99, 103, 21), (100, 102, 103, 21)], cX0_men, 7, (some FieldType.int), [(61, 92, 95, 21), (0, 99, 103, 21), (100, 102, 103, 21)])
abbrev YX0_want : YT := (yX0_want, Cond.codeWith yX0_want cX0_want 5 (some FieldType.int) [(0, 79, 80, 21)], cX0_want, 5, (some FieldType.int), [(0, 79, 80, 21)])
abbrev YX0_ask : YT := (yX0_ask, Cond.codeWith yX0_ask cX0_ask 4 (some FieldType.int) [(0, 91, 92, 21)], cX0_ask, 4, (some FieldType.int), [(0, 91, 92, 21)])
abbrev YX0_river : YT := (yX0_river, Cond.codeWith yX0_river cX0_river 4 (some FieldType.int) [(0, 31, 32, 21)], cX0_river, 4, (some FieldType.int), [(0, 31, 32, 21)])
abbrev YX0_thingOf : YT := (yX0_thingOf, Cond.code yX0_thingOf cX0_thingOf 4 (some FieldType.int), cX0_thingOf, 4, (some FieldType.int), [])
abbrev YX0_beyond : YT := (yX0_beyond, Cond.code yX0_beyond cX0_beyond 1 (some FieldType.int), cX0_beyond, 1, (some FieldType.int), [])
abbrev YX0_manOf : YT := (yX0_manOf, Cond.code yX0_manOf cX0_manOf 3 (some FieldType.int), cX0_manOf, 3, (some FieldType.int), [])
abbrev YX0_isMan : YT := (yX0_isMan, Cond.code yX0_isMan cX0_isMan 2 (some FieldType.boolean), cX0_isMan, 2, (some FieldType.boolean), [])
abbrev YX0_wantOf : YT := (yX0_wantOf, Cond.code yX0_wantOf cX0_wantOf 3 (some FieldType.int), cX0_wantOf, 3, (some FieldType.int), [])
abbrev YX0_valley : YT := (yX0_valley, Cond.codeWith yX0_valley cX0_valley 5 (some FieldType.int) [(22, 43, 44, 295), (0, 43, 65, 21), (44, 65, 65, 21)], cX0_valley, 5, (some FieldType.int), [(22, 43, 44, 295), (0, 43, 65, 21), (44, 65, 65, 21)])
abbrev YX0_fault : YT := (yX0_fault, Cond.code yX0_fault cX0_fault 1 (some FieldType.int), cX0_fault, 1, (some FieldType.int), [])
abbrev YX0_far : YT := (yX0_far, Cond.codeWith yX0_far cX0_far 4 (some FieldType.int) [(0, 15, 16, 21)], cX0_far, 4, (some FieldType.int), [(0, 15, 16, 21)])
abbrev YX0_must : YT := (yX0_must, Cond.code yX0_must cX0_must 3 none, cX0_must, 3, none, [])
abbrev YX0_wrong : YT := (yX0_wrong, Cond.codeWith yX0_wrong cX0_wrong 5 (some FieldType.int) [(0, 16, 17, 21)], cX0_wrong, 5, (some FieldType.int), [(0, 16, 17, 21)])
abbrev YX0_carry : YT := (yX0_carry, Cond.codeWith yX0_carry cX0_carry 5 (some FieldType.int) [(0, 61, 62, 21)], cX0_carry, 5, (some FieldType.int), [(0, 61, 62, 21)])
abbrev YX0_judge : YT := (yX0_judge, Cond.codeWith yX0_judge cX0_judge 10 (some FieldType.int) [(0, 137, 156, 21), (138, 155, 156, 21)], cX0_judge, 10, (some FieldType.int), [(0, 137, 156, 21), (138, 155, 156, 21)])
abbrev YX0_end : YT := (yX0_end, Cond.codeWith yX0_end cX0_end 4 (some FieldType.int) [(0, 29, 30, 21)], cX0_end, 4, (some FieldType.int), [(0, 29, 30, 21)])
abbrev YX0_isSet : YT := (yX0_isSet, Cond.code yX0_isSet cX0_isSet 2 (some FieldType.boolean), cX0_isSet, 2, (some FieldType.boolean), [])
abbrev YX0_reachOf : YT := (yX0_reachOf, Cond.code yX0_reachOf cX0_reachOf 3 (some (FieldType.array FieldType.int)), cX0_reachOf, 3, (some (FieldType.array FieldType.int)), [])
abbrev YX0_does : YT := (yX0_does, Cond.codeWith yX0_does cX0_does 5 (some FieldType.int) [(0, 15, 16, 21)], cX0_does, 5, (some FieldType.int), [(0, 15, 16, 21)])
abbrev YX0_isDone : YT := (yX0_isDone, Cond.code yX0_isDone cX0_isDone 4 (some FieldType.boolean), cX0_isDone, 4, (some FieldType.boolean), [])
abbrev YX0_mustEnd : YT := (yX0_mustEnd, Cond.code yX0_mustEnd cX0_mustEnd 3 none, cX0_mustEnd, 3, none, [])
abbrev YX0_fewest : YT := (yX0_fewest, Cond.codeWith yX0_fewest cX0_fewest 8 (some FieldType.int) [(0, 159, 160, 21)], cX0_fewest, 8, (some FieldType.int), [(0, 159, 160, 21)])
abbrev YX0_order : YT := (yX0_order, Cond.codeWith yX0_order cX0_order 10 (some FieldType.int) [(0, 177, 178, 21)], cX0_order, 10, (some FieldType.int), [(0, 177, 178, 21)])
abbrev YX0_nextOf : YT := (yX0_nextOf, Cond.code yX0_nextOf cX0_nextOf 7 (some FieldType.int), cX0_nextOf, 7, (some FieldType.int), [])
abbrev YX0_handovers : YT := (yX0_handovers, Cond.codeWith yX0_handovers cX0_handovers 7 (some FieldType.int) [(0, 136, 165, 21), (137, 164, 165, 21)], cX0_handovers, 7, (some FieldType.int), [(0, 136, 165, 21), (137, 164, 165, 21)])
abbrev YX0_goesOn : YT := (yX0_goesOn, Cond.code yX0_goesOn cX0_goesOn 7 (some FieldType.int), cX0_goesOn, 7, (some FieldType.int), [])
abbrev YX0_shared : YT := (yX0_shared, Cond.code yX0_shared cX0_shared 1 (some FieldType.int), cX0_shared, 1, (some FieldType.int), [])
abbrev YX0_given : YT := (yX0_given, Cond.codeWith yX0_given cX0_given 3 (some FieldType.int) [(0, 29, 30, 21)], cX0_given, 3, (some FieldType.int), [(0, 29, 30, 21)])
abbrev YX0_mill : YT := (yX0_mill, Cond.codeWith yX0_mill cX0_mill 9 (some FieldType.int) [(0, 84, 98, 21), (85, 97, 98, 21)], cX0_mill, 9, (some FieldType.int), [(0, 84, 98, 21), (85, 97, 98, 21)])
abbrev YX0_weakest : YT := (yX0_weakest, Cond.codeWith yX0_weakest cX0_weakest 7 (some FieldType.int) [(0, 127, 128, 21)], cX0_weakest, 7, (some FieldType.int), [(0, 127, 128, 21)])
abbrev YX0_helps : YT := (yX0_helps, Cond.codeWith yX0_helps cX0_helps 9 (some FieldType.int) [(25, 117, 174, 21), (141, 150, 174, 21), (25, 117, 211, 0), (141, 150, 211, 0), (174, 187, 211, 0), (211, 213, 211, 0)], cX0_helps, 9, (some FieldType.int), [(25, 117, 174, 21), (141, 150, 174, 21), (25, 117, 211, 0), (141, 150, 211, 0), (174, 187, 211, 0), (211, 213, 211, 0)])
abbrev YX0_caught : YT := (yX0_caught, Cond.codeWith yX0_caught cX0_caught 5 (some FieldType.int) [(0, 43, 44, 21)], cX0_caught, 5, (some FieldType.int), [(0, 43, 44, 21)])
abbrev YX0_caughtBy : YT := (yX0_caughtBy, Cond.code yX0_caughtBy cX0_caughtBy 1 (some FieldType.int), cX0_caughtBy, 1, (some FieldType.int), [])
abbrev YX0_mean : YT := (yX0_mean, Cond.codeWith yX0_mean cX0_mean 5 (some FieldType.int) [(0, 27, 28, 21)], cX0_mean, 5, (some FieldType.int), [(0, 27, 28, 21)])
abbrev YX0_meanOf : YT := (yX0_meanOf, Cond.code yX0_meanOf cX0_meanOf 6 (some FieldType.int), cX0_meanOf, 6, (some FieldType.int), [])
abbrev YX0_cast : YT := (yX0_cast, Cond.codeWith yX0_cast cX0_cast 7 (some FieldType.int) [(0, 52, 53, 21)], cX0_cast, 7, (some FieldType.int), [(0, 52, 53, 21)])
abbrev YX0_toss : YT := (yX0_toss, Cond.codeWith yX0_toss cX0_toss 5 (some FieldType.int) [(0, 165, 166, 21)], cX0_toss, 5, (some FieldType.int), [(0, 165, 166, 21)])
abbrev YX0_part : YT := (yX0_part, Cond.codeWith yX0_part cX0_part 7 (some FieldType.int) [(0, 129, 130, 21)], cX0_part, 7, (some FieldType.int), [(0, 129, 130, 21)])
abbrev YX0_shelvesFollow : YT := (yX0_shelvesFollow, Cond.code yX0_shelvesFollow cX0_shelvesFollow 6 none, cX0_shelvesFollow, 6, none, [])
abbrev YX0_night : YT := (yX0_night, Cond.code yX0_night cX0_night 3 (some FieldType.int), cX0_night, 3, (some FieldType.int), [])
abbrev YX0_seed : YT := (yX0_seed, Cond.code yX0_seed cX0_seed 3 (some FieldType.int), cX0_seed, 3, (some FieldType.int), [])
abbrev YX0_act : YT := (yX0_act, Cond.code yX0_act cX0_act 5 (some FieldType.int), cX0_act, 5, (some FieldType.int), [])
abbrev YX0_trace : YT := (yX0_trace, Cond.code yX0_trace cX0_trace 2 (some FieldType.int), cX0_trace, 2, (some FieldType.int), [])
abbrev YX0_image : YT := (yX0_image, Cond.code yX0_image cX0_image 1 (some FieldType.int), cX0_image, 1, (some FieldType.int), [])
abbrev YX0_restore : YT := (yX0_restore, Cond.codeWith yX0_restore cX0_restore 2 (some FieldType.int) [(0, 39, 40, 21)], cX0_restore, 2, (some FieldType.int), [(0, 39, 40, 21)])
abbrev YX0_status : YT := (yX0_status, Cond.code yX0_status cX0_status 2 (some FieldType.int), cX0_status, 2, (some FieldType.int), [])
abbrev YX1_init : YT := (yX1_init, Cond.code yX1_init cX1_init 1 none, cX1_init, 1, none, [])
abbrev YX1_runs : YT := (yX1_runs, Cond.code yX1_runs cX1_runs 2 none, cX1_runs, 2, none, [])
abbrev YX10_init : YT := (yX10_init, Cond.code yX10_init cX10_init 2 none, cX10_init, 2, none, [])
abbrev YX10_put : YT := (yX10_put, Cond.code yX10_put cX10_put 4 none, cX10_put, 4, none, [])
abbrev YX10_sort : YT := (yX10_sort, Cond.code yX10_sort cX10_sort 1 (some FieldType.int), cX10_sort, 1, (some FieldType.int), [])
abbrev YX10_held : YT := (yX10_held, Cond.code yX10_held cX10_held 1 (some (FieldType.object "java/lang/Object")), cX10_held, 1, (some (FieldType.object "java/lang/Object")), [])
abbrev YX10_get : YT := (yX10_get, Cond.code yX10_get cX10_get 2 (some FieldType.long), cX10_get, 2, (some FieldType.long), [])
abbrev YX10_length : YT := (yX10_length, Cond.code yX10_length cX10_length 1 (some FieldType.int), cX10_length, 1, (some FieldType.int), [])
abbrev YX11_init : YT := (yX11_init, Cond.code yX11_init cX11_init 2 none, cX11_init, 2, none, [])
abbrev YX11_put : YT := (yX11_put, Cond.code yX11_put cX11_put 4 none, cX11_put, 4, none, [])
abbrev YX11_sort : YT := (yX11_sort, Cond.code yX11_sort cX11_sort 1 (some FieldType.int), cX11_sort, 1, (some FieldType.int), [])
abbrev YX11_held : YT := (yX11_held, Cond.code yX11_held cX11_held 1 (some (FieldType.object "java/lang/Object")), cX11_held, 1, (some (FieldType.object "java/lang/Object")), [])
abbrev YX11_get : YT := (yX11_get, Cond.code yX11_get cX11_get 2 (some FieldType.long), cX11_get, 2, (some FieldType.long), [])
abbrev YX11_length : YT := (yX11_length, Cond.code yX11_length cX11_length 1 (some FieldType.int), cX11_length, 1, (some FieldType.int), [])
abbrev YX12_far : YT := (yX12_far, Cond.code yX12_far cX12_far 3 (some FieldType.int), cX12_far, 3, (some FieldType.int), [])
abbrev YX12_can : YT := (yX12_can, Cond.code yX12_can cX12_can 2 (some FieldType.int), cX12_can, 2, (some FieldType.int), [])
abbrev YX12_counts : YT := (yX12_counts, Cond.code yX12_counts cX12_counts 1 (some FieldType.int), cX12_counts, 1, (some FieldType.int), [])
abbrev YX12_said : YT := (yX12_said, Cond.code yX12_said cX12_said 1 (some FieldType.int), cX12_said, 1, (some FieldType.int), [])
abbrev YX12_init : YT := (yX12_init, Cond.code yX12_init cX12_init 4 none, cX12_init, 4, none, [])
abbrev YX12_kind : YT := (yX12_kind, Cond.code yX12_kind cX12_kind 1 (some FieldType.int), cX12_kind, 1, (some FieldType.int), [])
abbrev YX12_breaks : YT := (yX12_breaks, Cond.code yX12_breaks cX12_breaks 1 (some FieldType.boolean), cX12_breaks, 1, (some FieldType.boolean), [])
abbrev YX12_going : YT := (yX12_going, Cond.code yX12_going cX12_going 3 (some FieldType.int), cX12_going, 3, (some FieldType.int), [])
abbrev YX12_resting : YT := (yX12_resting, Cond.code yX12_resting cX12_resting 3 (some FieldType.int), cX12_resting, 3, (some FieldType.int), [])
abbrev YX12_falling : YT := (yX12_falling, Cond.code yX12_falling cX12_falling 4 (some FieldType.int), cX12_falling, 4, (some FieldType.int), [])
abbrev YX13_more : YT := (yX13_more, Cond.code yX13_more cX13_more 1 (some FieldType.int), cX13_more, 1, (some FieldType.int), [])
abbrev YX13_init : YT := (yX13_init, Cond.code yX13_init cX13_init 4 none, cX13_init, 4, none, [])
abbrev YX13_kind : YT := (yX13_kind, Cond.code yX13_kind cX13_kind 1 (some FieldType.int), cX13_kind, 1, (some FieldType.int), [])
abbrev YX13_far : YT := (yX13_far, Cond.code yX13_far cX13_far 3 (some FieldType.int), cX13_far, 3, (some FieldType.int), [])
abbrev YX13_going : YT := (yX13_going, Cond.code yX13_going cX13_going 3 (some FieldType.int), cX13_going, 3, (some FieldType.int), [])
abbrev YX14_far : YT := (yX14_far, Cond.code yX14_far cX14_far 3 (some FieldType.int), cX14_far, 3, (some FieldType.int), [])
abbrev YX14_init : YT := (yX14_init, Cond.code yX14_init cX14_init 4 none, cX14_init, 4, none, [])
abbrev YX14_kind : YT := (yX14_kind, Cond.code yX14_kind cX14_kind 1 (some FieldType.int), cX14_kind, 1, (some FieldType.int), [])
abbrev YX14_resting : YT := (yX14_resting, Cond.code yX14_resting cX14_resting 3 (some FieldType.int), cX14_resting, 3, (some FieldType.int), [])
abbrev YX15_far : YT := (yX15_far, Cond.code yX15_far cX15_far 3 (some FieldType.int), cX15_far, 3, (some FieldType.int), [])
abbrev YX15_init : YT := (yX15_init, Cond.code yX15_init cX15_init 4 none, cX15_init, 4, none, [])
abbrev YX15_kind : YT := (yX15_kind, Cond.code yX15_kind cX15_kind 1 (some FieldType.int), cX15_kind, 1, (some FieldType.int), [])
abbrev YX15_resting : YT := (yX15_resting, Cond.code yX15_resting cX15_resting 3 (some FieldType.int), cX15_resting, 3, (some FieldType.int), [])
abbrev YX16_broken : YT := (yX16_broken, Cond.code yX16_broken cX16_broken 2 (some FieldType.int), cX16_broken, 2, (some FieldType.int), [])
abbrev YX16_init : YT := (yX16_init, Cond.code yX16_init cX16_init 4 none, cX16_init, 4, none, [])
abbrev YX16_kind : YT := (yX16_kind, Cond.code yX16_kind cX16_kind 1 (some FieldType.int), cX16_kind, 1, (some FieldType.int), [])
abbrev YX16_far : YT := (yX16_far, Cond.code yX16_far cX16_far 3 (some FieldType.int), cX16_far, 3, (some FieldType.int), [])
abbrev YX16_breaks : YT := (yX16_breaks, Cond.code yX16_breaks cX16_breaks 1 (some FieldType.boolean), cX16_breaks, 1, (some FieldType.boolean), [])
abbrev YX16_going : YT := (yX16_going, Cond.code yX16_going cX16_going 3 (some FieldType.int), cX16_going, 3, (some FieldType.int), [])
abbrev YX16_falling : YT := (yX16_falling, Cond.code yX16_falling cX16_falling 3 (some FieldType.int), cX16_falling, 3, (some FieldType.int), [])
abbrev YX17_counts : YT := (yX17_counts, Cond.code yX17_counts cX17_counts 1 (some FieldType.int), cX17_counts, 1, (some FieldType.int), [])
abbrev YX17_init : YT := (yX17_init, Cond.code yX17_init cX17_init 4 none, cX17_init, 4, none, [])
abbrev YX17_kind : YT := (yX17_kind, Cond.code yX17_kind cX17_kind 1 (some FieldType.int), cX17_kind, 1, (some FieldType.int), [])
abbrev YX17_resting : YT := (yX17_resting, Cond.code yX17_resting cX17_resting 3 (some FieldType.int), cX17_resting, 3, (some FieldType.int), [])
abbrev YX18_init : YT := (yX18_init, Cond.code yX18_init cX18_init 4 none, cX18_init, 4, none, [])
abbrev YX18_kind : YT := (yX18_kind, Cond.code yX18_kind cX18_kind 1 (some FieldType.int), cX18_kind, 1, (some FieldType.int), [])
abbrev YX18_far : YT := (yX18_far, Cond.code yX18_far cX18_far 3 (some FieldType.int), cX18_far, 3, (some FieldType.int), [])
abbrev YX18_going : YT := (yX18_going, Cond.code yX18_going cX18_going 3 (some FieldType.int), cX18_going, 3, (some FieldType.int), [])
abbrev YX18_falling : YT := (yX18_falling, Cond.code yX18_falling cX18_falling 3 (some FieldType.int), cX18_falling, 3, (some FieldType.int), [])
abbrev YX19_init : YT := (yX19_init, Cond.code yX19_init cX19_init 3 none, cX19_init, 3, none, [])
abbrev YX19_items : YT := (yX19_items, Cond.code yX19_items cX19_items 2 (some FieldType.int), cX19_items, 2, (some FieldType.int), [])
abbrev YX19_item : YT := (yX19_item, Cond.code yX19_item cX19_item 5 none, cX19_item, 5, none, [])
abbrev YX19_sees : YT := (yX19_sees, Cond.code yX19_sees cX19_sees 2 (some FieldType.boolean), cX19_sees, 2, (some FieldType.boolean), [])
abbrev YX19_ends : YT := (yX19_ends, Cond.code yX19_ends cX19_ends 1 (some FieldType.boolean), cX19_ends, 1, (some FieldType.boolean), [])
abbrev YX19_word : YT := (yX19_word, Cond.code yX19_word cX19_word 3 none, cX19_word, 3, none, [])
abbrev YX19_must : YT := (yX19_must, Cond.code yX19_must cX19_must 2 none, cX19_must, 2, none, [])
abbrev YX19_hasRoom : YT := (yX19_hasRoom, Cond.code yX19_hasRoom cX19_hasRoom 3 none, cX19_hasRoom, 3, none, [])
abbrev YX19_number : YT := (yX19_number, Cond.code yX19_number cX19_number 5 (some FieldType.int), cX19_number, 5, (some FieldType.int), [])
abbrev YX19_digit : YT := (yX19_digit, Cond.code yX19_digit cX19_digit 1 (some FieldType.boolean), cX19_digit, 1, (some FieldType.boolean), [])
abbrev YX19_step : YT := (yX19_step, Cond.code yX19_step cX19_step 3 (some FieldType.int), cX19_step, 3, (some FieldType.int), [])
abbrev YX19_withW : YT := (yX19_withW, Cond.code yX19_withW cX19_withW 4 none, cX19_withW, 4, none, [])
abbrev YX2_init : YT := (yX2_init, Cond.code yX2_init cX2_init 1 none, cX2_init, 1, none, [])
abbrev YX2_find : YT := (yX2_find, Cond.code yX2_find cX2_find 9 (some (FieldType.array FieldType.int)), cX2_find, 9, (some (FieldType.array FieldType.int)), [])
abbrev YX2_share : YT := (yX2_share, Cond.code yX2_share cX2_share 3 none, cX2_share, 3, none, [])
abbrev YX2_gives : YT := (yX2_gives, Cond.code yX2_gives cX2_gives 5 none, cX2_gives, 5, none, [])
abbrev YX2_isMet : YT := (yX2_isMet, Cond.code yX2_isMet cX2_isMet 4 (some FieldType.boolean), cX2_isMet, 4, (some FieldType.boolean), [])
abbrev YX20_init : YT := (yX20_init, Cond.code yX20_init cX20_init 2 none, cX20_init, 2, none, [])
abbrev YX3_init : YT := (yX3_init, Cond.code yX3_init cX3_init 1 none, cX3_init, 1, none, [])
abbrev YX3_isStep : YT := (yX3_isStep, Cond.code yX3_isStep cX3_isStep 2 (some FieldType.boolean), cX3_isStep, 2, (some FieldType.boolean), [])
abbrev YX3_isWet : YT := (yX3_isWet, Cond.code yX3_isWet cX3_isWet 2 (some FieldType.boolean), cX3_isWet, 2, (some FieldType.boolean), [])
abbrev YX3_addThing : YT := (yX3_addThing, Cond.code yX3_addThing cX3_addThing 6 none, cX3_addThing, 6, none, [])
abbrev YX3_putThing : YT := (yX3_putThing, Cond.code yX3_putThing cX3_putThing 7 none, cX3_putThing, 7, none, [])
abbrev YX3_addMan : YT := (yX3_addMan, Cond.code yX3_addMan cX3_addMan 2 none, cX3_addMan, 2, none, [])
abbrev YX3_addWant : YT := (yX3_addWant, Cond.code yX3_addWant cX3_addWant 4 none, cX3_addWant, 4, none, [])
abbrev YX3_farthest : YT := (yX3_farthest, Cond.code yX3_farthest cX3_farthest 3 (some FieldType.int), cX3_farthest, 3, (some FieldType.int), [])
abbrev YX3_mayFlow : YT := (yX3_mayFlow, Cond.code yX3_mayFlow cX3_mayFlow 5 (some FieldType.boolean), cX3_mayFlow, 5, (some FieldType.boolean), [])
abbrev YX3_again : YT := (yX3_again, Cond.code yX3_again cX3_again 2 (some (FieldType.object "NoFartherThanAThrow$World")), cX3_again, 2, (some (FieldType.object "NoFartherThanAThrow$World")), [])
abbrev YX3_far : YT := (yX3_far, Cond.code yX3_far cX3_far 3 (some FieldType.int), cX3_far, 3, (some FieldType.int), [])
abbrev YX3_wrong : YT := (yX3_wrong, Cond.code yX3_wrong cX3_wrong 4 (some FieldType.int), cX3_wrong, 4, (some FieldType.int), [])
abbrev YX3_carry : YT := (yX3_carry, Cond.code yX3_carry cX3_carry 4 none, cX3_carry, 4, none, [])
abbrev YX3_tires : YT := (yX3_tires, Cond.code yX3_tires cX3_tires 3 none, cX3_tires, 3, none, [])
abbrev YX3_brings : YT := (yX3_brings, Cond.code yX3_brings cX3_brings 5 (some FieldType.int), cX3_brings, 5, (some FieldType.int), [])
abbrev YX3_mayThrow : YT := (yX3_mayThrow, Cond.code yX3_mayThrow cX3_mayThrow 4 (some FieldType.boolean), cX3_mayThrow, 4, (some FieldType.boolean), [])
abbrev YX3_draw : YT := (yX3_draw, Cond.code yX3_draw cX3_draw 2 (some FieldType.int), cX3_draw, 2, (some FieldType.int), [])
abbrev YX4_init : YT := (yX4_init, Cond.code yX4_init cX4_init 1 none, cX4_init, 1, none, [])
abbrev YX4_row : YT := (yX4_row, Cond.codeWith yX4_row cX4_row 2 (some (FieldType.object "NoFartherThanAThrow$Row")) [(0, 23, 24, 21)], cX4_row, 2, (some (FieldType.object "NoFartherThanAThrow$Row")), [(0, 23, 24, 21)])
abbrev YX4_holdsThing : YT := (yX4_holdsThing, Cond.code yX4_holdsThing cX4_holdsThing 1 (some FieldType.boolean), cX4_holdsThing, 1, (some FieldType.boolean), [])
abbrev YX4_says : YT := (yX4_says, Cond.codeWith yX4_says cX4_says 4 (some FieldType.int) [(0, 243, 244, 21)], cX4_says, 4, (some FieldType.int), [(0, 243, 244, 21)])
abbrev YX5_init : YT := (yX5_init, Cond.code yX5_init cX5_init 1 none, cX5_init, 1, none, [])
abbrev YX5_row : YT := (yX5_row, Cond.code yX5_row cX5_row 5 (some FieldType.int), cX5_row, 5, (some FieldType.int), [])
abbrev YX5_isShelf : YT := (yX5_isShelf, Cond.code yX5_isShelf cX5_isShelf 2 (some FieldType.boolean), cX5_isShelf, 2, (some FieldType.boolean), [])
abbrev YX5_no : YT := (yX5_no, Cond.code yX5_no cX5_no 2 (some FieldType.int), cX5_no, 2, (some FieldType.int), [])
abbrev YX5_set : YT := (yX5_set, Cond.code yX5_set cX5_set 5 (some FieldType.int), cX5_set, 5, (some FieldType.int), [])
abbrev YX5_copy : YT := (yX5_copy, Cond.code yX5_copy cX5_copy 7 (some FieldType.int), cX5_copy, 7, (some FieldType.int), [])
abbrev YX5_element : YT := (yX5_element, Cond.code yX5_element cX5_element 3 (some FieldType.long), cX5_element, 3, (some FieldType.long), [])
abbrev YX5_show : YT := (yX5_show, Cond.code yX5_show cX5_show 3 (some FieldType.int), cX5_show, 3, (some FieldType.int), [])
abbrev YX5_isThing : YT := (yX5_isThing, Cond.code yX5_isThing cX5_isThing 2 (some FieldType.boolean), cX5_isThing, 2, (some FieldType.boolean), [])
abbrev YX5_holds : YT := (yX5_holds, Cond.code yX5_holds cX5_holds 2 (some FieldType.int), cX5_holds, 2, (some FieldType.int), [])
abbrev YX5_says : YT := (yX5_says, Cond.code yX5_says cX5_says 5 (some FieldType.int), cX5_says, 5, (some FieldType.int), [])
abbrev YX5_farBy : YT := (yX5_farBy, Cond.code yX5_farBy cX5_farBy 6 (some FieldType.int), cX5_farBy, 6, (some FieldType.int), [])
abbrev YX5_low : YT := (yX5_low, Cond.code yX5_low cX5_low 3 (some FieldType.int), cX5_low, 3, (some FieldType.int), [])
abbrev YX5_thing : YT := (yX5_thing, Cond.code yX5_thing cX5_thing 5 (some FieldType.int), cX5_thing, 5, (some FieldType.int), [])
abbrev YX5_isStep : YT := (yX5_isStep, Cond.code yX5_isStep cX5_isStep 2 (some FieldType.boolean), cX5_isStep, 2, (some FieldType.boolean), [])
abbrev YX5_isWet : YT := (yX5_isWet, Cond.code yX5_isWet cX5_isWet 2 (some FieldType.boolean), cX5_isWet, 2, (some FieldType.boolean), [])
abbrev YX5_things : YT := (yX5_things, Cond.code yX5_things cX5_things 5 (some FieldType.int), cX5_things, 5, (some FieldType.int), [])
abbrev YX5_man : YT := (yX5_man, Cond.code yX5_man cX5_man 2 (some FieldType.int), cX5_man, 2, (some FieldType.int), [])
abbrev YX5_men : YT := (yX5_men, Cond.code yX5_men cX5_men 2 (some FieldType.int), cX5_men, 2, (some FieldType.int), [])
abbrev YX5_men_2 : YT := (yX5_men_2, Cond.code yX5_men_2 cX5_men_2 7 (some FieldType.int), cX5_men_2, 7, (some FieldType.int), [])
abbrev YX5_wants : YT := (yX5_wants, Cond.code yX5_wants cX5_wants 2 (some FieldType.int), cX5_wants, 2, (some FieldType.int), [])
abbrev YX5_intAt : YT := (yX5_intAt, Cond.code yX5_intAt cX5_intAt 3 (some FieldType.int), cX5_intAt, 3, (some FieldType.int), [])
abbrev YX5_want : YT := (yX5_want, Cond.code yX5_want cX5_want 4 (some FieldType.int), cX5_want, 4, (some FieldType.int), [])
abbrev YX5_wanted : YT := (yX5_wanted, Cond.code yX5_wanted cX5_wanted 4 (some FieldType.int), cX5_wanted, 4, (some FieldType.int), [])
abbrev YX5_ask : YT := (yX5_ask, Cond.code yX5_ask cX5_ask 4 (some FieldType.int), cX5_ask, 4, (some FieldType.int), [])
abbrev YX5_isLong : YT := (yX5_isLong, Cond.code yX5_isLong cX5_isLong 3 (some FieldType.boolean), cX5_isLong, 3, (some FieldType.boolean), [])
abbrev YX5_river : YT := (yX5_river, Cond.code yX5_river cX5_river 3 (some FieldType.int), cX5_river, 3, (some FieldType.int), [])
abbrev YX5_isRiver : YT := (yX5_isRiver, Cond.code yX5_isRiver cX5_isRiver 4 (some FieldType.boolean), cX5_isRiver, 4, (some FieldType.boolean), [])
abbrev YX5_thingOf : YT := (yX5_thingOf, Cond.code yX5_thingOf cX5_thingOf 3 (some FieldType.int), cX5_thingOf, 3, (some FieldType.int), [])
abbrev YX5_manOf : YT := (yX5_manOf, Cond.code yX5_manOf cX5_manOf 3 (some FieldType.int), cX5_manOf, 3, (some FieldType.int), [])
abbrev YX5_isMan : YT := (yX5_isMan, Cond.code yX5_isMan cX5_isMan 2 (some FieldType.boolean), cX5_isMan, 2, (some FieldType.boolean), [])
abbrev YX5_wantOf : YT := (yX5_wantOf, Cond.code yX5_wantOf cX5_wantOf 3 (some FieldType.int), cX5_wantOf, 3, (some FieldType.int), [])
abbrev YX5_valley : YT := (yX5_valley, Cond.code yX5_valley cX5_valley 5 (some FieldType.int), cX5_valley, 5, (some FieldType.int), [])
abbrev YX5_all : YT := (yX5_all, Cond.code yX5_all cX5_all 4 none, cX5_all, 4, none, [])
abbrev YX5_keeps : YT := (yX5_keeps, Cond.code yX5_keeps cX5_keeps 7 (some FieldType.int), cX5_keeps, 7, (some FieldType.int), [])
abbrev YX5_item : YT := (yX5_item, Cond.code yX5_item cX5_item 6 (some FieldType.boolean), cX5_item, 6, (some FieldType.boolean), [])
abbrev YX5_isWordAt : YT := (yX5_isWordAt, Cond.code yX5_isWordAt cX5_isWordAt 4 (some FieldType.boolean), cX5_isWordAt, 4, (some FieldType.boolean), [])
abbrev YX5_isFull : YT := (yX5_isFull, Cond.code yX5_isFull cX5_isFull 2 (some FieldType.boolean), cX5_isFull, 2, (some FieldType.boolean), [])
abbrev YX5_wrong : YT := (yX5_wrong, Cond.code yX5_wrong cX5_wrong 2 (some FieldType.boolean), cX5_wrong, 2, (some FieldType.boolean), [])
abbrev YX5_word : YT := (yX5_word, Cond.code yX5_word cX5_word 6 (some FieldType.int), cX5_word, 6, (some FieldType.int), [])
abbrev YX5_number : YT := (yX5_number, Cond.code yX5_number cX5_number 4 (some FieldType.boolean), cX5_number, 4, (some FieldType.boolean), [])
abbrev YX5_isDigit : YT := (yX5_isDigit, Cond.code yX5_isDigit cX5_isDigit 1 (some FieldType.boolean), cX5_isDigit, 1, (some FieldType.boolean), [])
abbrev YX5_isFit : YT := (yX5_isFit, Cond.code yX5_isFit cX5_isFit 3 (some FieldType.boolean), cX5_isFit, 3, (some FieldType.boolean), [])
abbrev YX5_fault : YT := (yX5_fault, Cond.code yX5_fault cX5_fault 1 (some FieldType.int), cX5_fault, 1, (some FieldType.int), [])
abbrev YX5_far : YT := (yX5_far, Cond.code yX5_far cX5_far 3 (some FieldType.int), cX5_far, 3, (some FieldType.int), [])
abbrev YX5_farOf : YT := (yX5_farOf, Cond.code yX5_farOf cX5_farOf 3 (some FieldType.int), cX5_farOf, 3, (some FieldType.int), [])
abbrev YX5_wrong_2 : YT := (yX5_wrong_2, Cond.code yX5_wrong_2 cX5_wrong_2 4 (some FieldType.int), cX5_wrong_2, 4, (some FieldType.int), [])
abbrev YX5_near : YT := (yX5_near, Cond.code yX5_near cX5_near 2 (some FieldType.int), cX5_near, 2, (some FieldType.int), [])
abbrev YX5_wrongBy : YT := (yX5_wrongBy, Cond.code yX5_wrongBy cX5_wrongBy 5 (some FieldType.int), cX5_wrongBy, 5, (some FieldType.int), [])
abbrev YX5_carry : YT := (yX5_carry, Cond.code yX5_carry cX5_carry 4 (some FieldType.int), cX5_carry, 4, (some FieldType.int), [])
abbrev YX5_carries : YT := (yX5_carries, Cond.code yX5_carries cX5_carries 4 none, cX5_carries, 4, none, [])
abbrev YX5_tires : YT := (yX5_tires, Cond.code yX5_tires cX5_tires 3 none, cX5_tires, 3, none, [])
abbrev YX5_judge : YT := (yX5_judge, Cond.code yX5_judge cX5_judge 9 (some FieldType.int), cX5_judge, 9, (some FieldType.int), [])
abbrev YX5_end : YT := (yX5_end, Cond.code yX5_end cX5_end 3 (some FieldType.int), cX5_end, 3, (some FieldType.int), [])
abbrev YX5_isSet : YT := (yX5_isSet, Cond.code yX5_isSet cX5_isSet 2 (some FieldType.boolean), cX5_isSet, 2, (some FieldType.boolean), [])
abbrev YX5_rowsFor : YT := (yX5_rowsFor, Cond.code yX5_rowsFor cX5_rowsFor 4 none, cX5_rowsFor, 4, none, [])
abbrev YX5_rows : YT := (yX5_rows, Cond.code yX5_rows cX5_rows 8 none, cX5_rows, 8, none, [])
abbrev YX5_goes : YT := (yX5_goes, Cond.code yX5_goes cX5_goes 5 (some FieldType.int), cX5_goes, 5, (some FieldType.int), [])
abbrev YX5_does : YT := (yX5_does, Cond.code yX5_does cX5_does 4 (some FieldType.int), cX5_does, 4, (some FieldType.int), [])
abbrev YX5_isOnward : YT := (yX5_isOnward, Cond.code yX5_isOnward cX5_isOnward 3 (some FieldType.boolean), cX5_isOnward, 3, (some FieldType.boolean), [])
abbrev YX5_fewest : YT := (yX5_fewest, Cond.code yX5_fewest cX5_fewest 5 (some FieldType.int), cX5_fewest, 5, (some FieldType.int), [])
abbrev YX5_count : YT := (yX5_count, Cond.code yX5_count cX5_count 4 (some FieldType.int), cX5_count, 4, (some FieldType.int), [])
abbrev YX5_order : YT := (yX5_order, Cond.code yX5_order cX5_order 10 (some FieldType.int), cX5_order, 10, (some FieldType.int), [])
abbrev YX5_handovers : YT := (yX5_handovers, Cond.code yX5_handovers cX5_handovers 7 (some FieldType.int), cX5_handovers, 7, (some FieldType.int), [])
abbrev YX5_noTen : YT := (yX5_noTen, Cond.code yX5_noTen cX5_noTen 2 (some FieldType.int), cX5_noTen, 2, (some FieldType.int), [])
abbrev YX5_shared : YT := (yX5_shared, Cond.code yX5_shared cX5_shared 1 (some FieldType.int), cX5_shared, 1, (some FieldType.int), [])
abbrev YX5_shareAll : YT := (yX5_shareAll, Cond.code yX5_shareAll cX5_shareAll 6 none, cX5_shareAll, 6, none, [])
abbrev YX5_shares : YT := (yX5_shares, Cond.code yX5_shares cX5_shares 4 none, cX5_shares, 4, none, [])
abbrev YX5_worthOf : YT := (yX5_worthOf, Cond.code yX5_worthOf cX5_worthOf 3 (some FieldType.int), cX5_worthOf, 3, (some FieldType.int), [])
abbrev YX5_given : YT := (yX5_given, Cond.code yX5_given cX5_given 2 (some FieldType.int), cX5_given, 2, (some FieldType.int), [])
abbrev YX5_mill : YT := (yX5_mill, Cond.code yX5_mill cX5_mill 8 (some FieldType.int), cX5_mill, 8, (some FieldType.int), [])
abbrev YX5_weakest : YT := (yX5_weakest, Cond.code yX5_weakest cX5_weakest 7 (some FieldType.int), cX5_weakest, 7, (some FieldType.int), [])
abbrev YX5_helps : YT := (yX5_helps, Cond.code yX5_helps cX5_helps 8 (some FieldType.int), cX5_helps, 8, (some FieldType.int), [])
abbrev YX5_caught : YT := (yX5_caught, Cond.code yX5_caught cX5_caught 4 (some FieldType.int), cX5_caught, 4, (some FieldType.int), [])
abbrev YX5_isFar : YT := (yX5_isFar, Cond.code yX5_isFar cX5_isFar 2 (some FieldType.boolean), cX5_isFar, 2, (some FieldType.boolean), [])
abbrev YX5_caughtBy : YT := (yX5_caughtBy, Cond.code yX5_caughtBy cX5_caughtBy 5 (some FieldType.int), cX5_caughtBy, 5, (some FieldType.int), [])
abbrev YX5_mean : YT := (yX5_mean, Cond.code yX5_mean cX5_mean 4 (some FieldType.int), cX5_mean, 4, (some FieldType.int), [])
abbrev YX5_meanOf : YT := (yX5_meanOf, Cond.code yX5_meanOf cX5_meanOf 6 (some FieldType.int), cX5_meanOf, 6, (some FieldType.int), [])
abbrev YX5_isThrow : YT := (yX5_isThrow, Cond.code yX5_isThrow cX5_isThrow 4 (some FieldType.boolean), cX5_isThrow, 4, (some FieldType.boolean), [])
abbrev YX5_cast : YT := (yX5_cast, Cond.code yX5_cast cX5_cast 7 (some FieldType.int), cX5_cast, 7, (some FieldType.int), [])
abbrev YX5_toss : YT := (yX5_toss, Cond.code yX5_toss cX5_toss 5 (some FieldType.int), cX5_toss, 5, (some FieldType.int), [])
abbrev YX5_draw : YT := (yX5_draw, Cond.code yX5_draw cX5_draw 2 (some FieldType.int), cX5_draw, 2, (some FieldType.int), [])
abbrev YX5_part : YT := (yX5_part, Cond.code yX5_part cX5_part 6 (some FieldType.int), cX5_part, 6, (some FieldType.int), [])
abbrev YX5_night : YT := (yX5_night, Cond.code yX5_night cX5_night 3 (some FieldType.int), cX5_night, 3, (some FieldType.int), [])
abbrev YX5_seed : YT := (yX5_seed, Cond.code yX5_seed cX5_seed 3 (some FieldType.int), cX5_seed, 3, (some FieldType.int), [])
abbrev YX5_act : YT := (yX5_act, Cond.code yX5_act cX5_act 4 (some FieldType.int), cX5_act, 4, (some FieldType.int), [])
abbrev YX5_going : YT := (yX5_going, Cond.code yX5_going cX5_going 7 (some FieldType.int), cX5_going, 7, (some FieldType.int), [])
abbrev YX5_body : YT := (yX5_body, Cond.code yX5_body cX5_body 2 none, cX5_body, 2, none, [])
abbrev YX5_resting : YT := (yX5_resting, Cond.code yX5_resting cX5_resting 5 (some FieldType.int), cX5_resting, 5, (some FieldType.int), [])
abbrev YX5_falling : YT := (yX5_falling, Cond.code yX5_falling cX5_falling 6 (some FieldType.int), cX5_falling, 6, (some FieldType.int), [])
abbrev YX5_trace : YT := (yX5_trace, Cond.code yX5_trace cX5_trace 2 (some FieldType.int), cX5_trace, 2, (some FieldType.int), [])
abbrev YX5_image : YT := (yX5_image, Cond.code yX5_image cX5_image 1 (some FieldType.int), cX5_image, 1, (some FieldType.int), [])
abbrev YX5_restore : YT := (yX5_restore, Cond.code yX5_restore cX5_restore 2 (some FieldType.int), cX5_restore, 2, (some FieldType.int), [])
abbrev YX5_status : YT := (yX5_status, Cond.code yX5_status cX5_status 2 (some FieldType.int), cX5_status, 2, (some FieldType.int), [])
abbrev YX6_init : YT := (yX6_init, Cond.code yX6_init cX6_init 2 none, cX6_init, 2, none, [])
abbrev YX7_init : YT := (yX7_init, Cond.code yX7_init cX7_init 1 none, cX7_init, 1, none, [])
abbrev YX7_asInt : YT := (yX7_asInt, Cond.code yX7_asInt cX7_asInt 2 (some FieldType.int), cX7_asInt, 2, (some FieldType.int), [])
abbrev YX8_init : YT := (yX8_init, Cond.code yX8_init cX8_init 2 none, cX8_init, 2, none, [])
abbrev YX8_put : YT := (yX8_put, Cond.code yX8_put cX8_put 4 none, cX8_put, 4, none, [])
abbrev YX8_sort : YT := (yX8_sort, Cond.code yX8_sort cX8_sort 1 (some FieldType.int), cX8_sort, 1, (some FieldType.int), [])
abbrev YX8_held : YT := (yX8_held, Cond.code yX8_held cX8_held 1 (some (FieldType.object "java/lang/Object")), cX8_held, 1, (some (FieldType.object "java/lang/Object")), [])
abbrev YX8_get : YT := (yX8_get, Cond.code yX8_get cX8_get 2 (some FieldType.long), cX8_get, 2, (some FieldType.long), [])
abbrev YX8_length : YT := (yX8_length, Cond.code yX8_length cX8_length 1 (some FieldType.int), cX8_length, 1, (some FieldType.int), [])
abbrev YX9_init : YT := (yX9_init, Cond.code yX9_init cX9_init 2 none, cX9_init, 2, none, [])
abbrev YX9_put : YT := (yX9_put, Cond.code yX9_put cX9_put 4 none, cX9_put, 4, none, [])
abbrev YX9_sort : YT := (yX9_sort, Cond.code yX9_sort cX9_sort 1 (some FieldType.int), cX9_sort, 1, (some FieldType.int), [])
abbrev YX9_held : YT := (yX9_held, Cond.code yX9_held cX9_held 1 (some (FieldType.object "java/lang/Object")), cX9_held, 1, (some (FieldType.object "java/lang/Object")), [])
abbrev YX9_get : YT := (yX9_get, Cond.code yX9_get cX9_get 2 (some FieldType.long), cX9_get, 2, (some FieldType.long), [])
abbrev YX9_length : YT := (yX9_length, Cond.code yX9_length cX9_length 1 (some FieldType.int), cX9_length, 1, (some FieldType.int), [])
theorem fl_X0_59_0 : FL "NoFartherThanAThrow" 59 0 0 := fl_own (RX0, TX0, 9) rfl (by decide) q273
theorem fl_X0_63_0 : FL "NoFartherThanAThrow" 63 0 1 := fl_own (RX0, TX0, 9) rfl (by decide) q274
theorem fl_X0_70_0 : FL "NoFartherThanAThrow" 70 0 2 := fl_own (RX0, TX0, 9) rfl (by decide) q275
theorem fl_X0_77_0 : FL "NoFartherThanAThrow" 77 0 3 := fl_own (RX0, TX0, 9) rfl (by decide) q276
theorem fl_X0_81_0 : FL "NoFartherThanAThrow" 81 0 4 := fl_own (RX0, TX0, 9) rfl (by decide) q277
theorem fl_X0_84_0 : FL "NoFartherThanAThrow" 84 0 5 := fl_own (RX0, TX0, 9) rfl (by decide) q278
theorem fl_X0_90_0 : FL "NoFartherThanAThrow" 90 0 6 := fl_own (RX0, TX0, 9) rfl (by decide) q279
theorem fl_X0_94_0 : FL "NoFartherThanAThrow" 94 0 8 := fl_own (RX0, TX0, 9) rfl (by decide) q281
theorem fl_X0_99_6 : FL "NoFartherThanAThrow" 99 6 6 := fl_own (RX6, TX6, 7) rfl (by decide) q406
theorem fl_X0_104_3 : FL "NoFartherThanAThrow" 104 3 4 := fl_own (RX3, TX3, 18) rfl (by decide) q188
theorem fl_X0_119_3 : FL "NoFartherThanAThrow" 119 3 9 := fl_own (RX3, TX3, 18) rfl (by decide) q203
theorem fl_X0_123_3 : FL "NoFartherThanAThrow" 123 3 5 := fl_own (RX3, TX3, 18) rfl (by decide) q192
theorem fl_X0_132_3 : FL "NoFartherThanAThrow" 132 3 10 := fl_own (RX3, TX3, 18) rfl (by decide) q206
theorem fl_X0_143_4 : FL "NoFartherThanAThrow" 143 4 0 := fl_own (RX4, TX4, 1) rfl (by decide) q269
theorem fl_X0_146_12 : FL "NoFartherThanAThrow" 146 12 0 := fl_own (RX12, TX12, 3) rfl (by decide) q739
theorem fl_X0_146_13 : FL "NoFartherThanAThrow" 146 13 0 := fl_own (RX13, TX13, 3) rfl (by decide) q739
theorem fl_X0_146_14 : FL "NoFartherThanAThrow" 146 14 0 := fl_own (RX14, TX14, 3) rfl (by decide) q739
theorem fl_X0_146_15 : FL "NoFartherThanAThrow" 146 15 0 := fl_own (RX15, TX15, 3) rfl (by decide) q739
theorem fl_X0_146_16 : FL "NoFartherThanAThrow" 146 16 0 := fl_own (RX16, TX16, 3) rfl (by decide) q739
theorem fl_X0_146_17 : FL "NoFartherThanAThrow" 146 17 0 := fl_own (RX17, TX17, 3) rfl (by decide) q739
theorem fl_X0_146_18 : FL "NoFartherThanAThrow" 146 18 0 := fl_own (RX18, TX18, 3) rfl (by decide) q739
theorem fl_X0_219_3 : FL "NoFartherThanAThrow" 219 3 6 := fl_own (RX3, TX3, 18) rfl (by decide) q197
theorem fl_X0_234_3 : FL "NoFartherThanAThrow" 234 3 0 := fl_own (RX3, TX3, 18) rfl (by decide) q176
theorem fl_X0_237_3 : FL "NoFartherThanAThrow" 237 3 3 := fl_own (RX3, TX3, 18) rfl (by decide) q186
theorem fl_X0_244_3 : FL "NoFartherThanAThrow" 244 3 1 := fl_own (RX3, TX3, 18) rfl (by decide) q179
theorem fl_X0_247_3 : FL "NoFartherThanAThrow" 247 3 2 := fl_own (RX3, TX3, 18) rfl (by decide) q182
theorem fl_X0_256_12 : FL "NoFartherThanAThrow" 256 12 1 := fl_own (RX12, TX12, 3) rfl (by decide) q746
theorem fl_X0_256_13 : FL "NoFartherThanAThrow" 256 13 1 := fl_own (RX13, TX13, 3) rfl (by decide) q746
theorem fl_X0_256_14 : FL "NoFartherThanAThrow" 256 14 1 := fl_own (RX14, TX14, 3) rfl (by decide) q746
theorem fl_X0_256_15 : FL "NoFartherThanAThrow" 256 15 1 := fl_own (RX15, TX15, 3) rfl (by decide) q746
theorem fl_X0_256_16 : FL "NoFartherThanAThrow" 256 16 1 := fl_own (RX16, TX16, 3) rfl (by decide) q746
theorem fl_X0_256_17 : FL "NoFartherThanAThrow" 256 17 1 := fl_own (RX17, TX17, 3) rfl (by decide) q746
theorem fl_X0_256_18 : FL "NoFartherThanAThrow" 256 18 1 := fl_own (RX18, TX18, 3) rfl (by decide) q746
theorem fl_X0_259_12 : FL "NoFartherThanAThrow" 259 12 2 := fl_own (RX12, TX12, 3) rfl (by decide) q754
theorem fl_X0_259_13 : FL "NoFartherThanAThrow" 259 13 2 := fl_own (RX13, TX13, 3) rfl (by decide) q754
theorem fl_X0_259_14 : FL "NoFartherThanAThrow" 259 14 2 := fl_own (RX14, TX14, 3) rfl (by decide) q754
theorem fl_X0_259_15 : FL "NoFartherThanAThrow" 259 15 2 := fl_own (RX15, TX15, 3) rfl (by decide) q754
theorem fl_X0_259_16 : FL "NoFartherThanAThrow" 259 16 2 := fl_own (RX16, TX16, 3) rfl (by decide) q754
theorem fl_X0_259_17 : FL "NoFartherThanAThrow" 259 17 2 := fl_own (RX17, TX17, 3) rfl (by decide) q754
theorem fl_X0_259_18 : FL "NoFartherThanAThrow" 259 18 2 := fl_own (RX18, TX18, 3) rfl (by decide) q754
theorem fl_X0_262_3 : FL "NoFartherThanAThrow" 262 3 11 := fl_own (RX3, TX3, 18) rfl (by decide) q208
theorem fl_X0_265_3 : FL "NoFartherThanAThrow" 265 3 12 := fl_own (RX3, TX3, 18) rfl (by decide) q211
theorem fl_X0_269_3 : FL "NoFartherThanAThrow" 269 3 13 := fl_own (RX3, TX3, 18) rfl (by decide) q213
theorem fl_X0_272_3 : FL "NoFartherThanAThrow" 272 3 14 := fl_own (RX3, TX3, 18) rfl (by decide) q215
theorem fl_X0_275_3 : FL "NoFartherThanAThrow" 275 3 15 := fl_own (RX3, TX3, 18) rfl (by decide) q218
theorem fl_X0_278_3 : FL "NoFartherThanAThrow" 278 3 16 := fl_own (RX3, TX3, 18) rfl (by decide) q221
theorem fl_X0_281_3 : FL "NoFartherThanAThrow" 281 3 17 := fl_own (RX3, TX3, 18) rfl (by decide) q224
theorem fl_X0_297_20 : FL "NoFartherThanAThrow" 297 20 6 := fl_own (RX20, TX20, 7) rfl (by decide) q1040
theorem fl_X0_314_3 : FL "NoFartherThanAThrow" 314 3 7 := fl_own (RX3, TX3, 18) rfl (by decide) q199
theorem fl_X0_351_2 : FL "NoFartherThanAThrow" 351 2 4 := fl_own (RX2, TX2, 5) rfl (by decide) q154
theorem fl_X0_354_2 : FL "NoFartherThanAThrow" 354 2 2 := fl_own (RX2, TX2, 5) rfl (by decide) q151
theorem fl_X0_388_3 : FL "NoFartherThanAThrow" 388 3 8 := fl_own (RX3, TX3, 18) rfl (by decide) q201
theorem fl_X0_391_1 : FL "NoFartherThanAThrow" 391 1 1 := fl_own (RX1, TX1, 2) rfl (by decide) q133
theorem fl_X0_407_1 : FL "NoFartherThanAThrow" 407 1 0 := fl_own (RX1, TX1, 2) rfl (by decide) q131
theorem fl_X0_410_0 : FL "NoFartherThanAThrow" 410 0 7 := fl_own (RX0, TX0, 9) rfl (by decide) q280
theorem fl_X8_7_8 : FL "NoFartherThanAThrow$Bytes" 7 8 0 := fl_own (RX8, TX8, 1) rfl (by decide) q444
theorem fl_X20_7_20 : FL "NoFartherThanAThrow$Faulty" 7 20 6 := fl_own (RX20, TX20, 7) rfl (by decide) q1039
theorem fl_X16_22_3 : FL "NoFartherThanAThrow$Glass" 22 3 12 := fl_own (RX3, TX3, 18) rfl (by decide) q210
theorem fl_X16_28_16 : FL "NoFartherThanAThrow$Glass" 28 16 0 := fl_same (RX16, TX16, 3) "NoFartherThanAThrow$Glass" rfl (by decide) q735 q736
theorem fl_X16_44_16 : FL "NoFartherThanAThrow$Glass" 44 16 1 := fl_same (RX16, TX16, 3) "NoFartherThanAThrow$Glass" rfl (by decide) q743 q744
theorem fl_X13_21_13 : FL "NoFartherThanAThrow$Heavy" 21 13 2 := fl_same (RX13, TX13, 3) "NoFartherThanAThrow$Heavy" rfl (by decide) q752 q753
theorem fl_X13_21_17 : FL "NoFartherThanAThrow$Heavy" 21 17 2 := fl_same (RX17, TX17, 3) "NoFartherThanAThrow$Heavy" rfl (by decide) q752 q753
theorem fl_X13_21_18 : FL "NoFartherThanAThrow$Heavy" 21 18 2 := fl_same (RX18, TX18, 3) "NoFartherThanAThrow$Heavy" rfl (by decide) q752 q753
theorem fl_X13_35_13 : FL "NoFartherThanAThrow$Heavy" 35 13 1 := fl_same (RX13, TX13, 3) "NoFartherThanAThrow$Heavy" rfl (by decide) q741 q742
theorem fl_X13_35_17 : FL "NoFartherThanAThrow$Heavy" 35 17 1 := fl_same (RX17, TX17, 3) "NoFartherThanAThrow$Heavy" rfl (by decide) q741 q742
theorem fl_X13_35_18 : FL "NoFartherThanAThrow$Heavy" 35 18 1 := fl_same (RX18, TX18, 3) "NoFartherThanAThrow$Heavy" rfl (by decide) q741 q742
theorem fl_X10_7_10 : FL "NoFartherThanAThrow$Ints" 7 10 0 := fl_own (RX10, TX10, 1) rfl (by decide) q465
theorem fl_X11_7_11 : FL "NoFartherThanAThrow$Longs" 7 11 0 := fl_own (RX11, TX11, 1) rfl (by decide) q475
theorem fl_X17_13_17 : FL "NoFartherThanAThrow$Parted" 13 17 2 := fl_same (RX17, TX17, 3) "NoFartherThanAThrow$Parted" rfl (by decide) q748 q749
theorem fl_X19_9_19 : FL "NoFartherThanAThrow$Reader" 9 19 0 := fl_own (RX19, TX19, 3) rfl (by decide) q941
theorem fl_X19_15_19 : FL "NoFartherThanAThrow$Reader" 15 19 1 := fl_own (RX19, TX19, 3) rfl (by decide) q942
theorem fl_X19_19_19 : FL "NoFartherThanAThrow$Reader" 19 19 2 := fl_own (RX19, TX19, 3) rfl (by decide) q943
theorem fl_X19_67_3 : FL "NoFartherThanAThrow$Reader" 67 3 0 := fl_own (RX3, TX3, 18) rfl (by decide) q175
theorem fl_X19_88_3 : FL "NoFartherThanAThrow$Reader" 88 3 4 := fl_own (RX3, TX3, 18) rfl (by decide) q189
theorem fl_X19_100_3 : FL "NoFartherThanAThrow$Reader" 100 3 5 := fl_own (RX3, TX3, 18) rfl (by decide) q193
theorem fl_X19_125_3 : FL "NoFartherThanAThrow$Reader" 125 3 1 := fl_own (RX3, TX3, 18) rfl (by decide) q178
theorem fl_X19_128_3 : FL "NoFartherThanAThrow$Reader" 128 3 2 := fl_own (RX3, TX3, 18) rfl (by decide) q181
theorem fl_X19_133_3 : FL "NoFartherThanAThrow$Reader" 133 3 3 := fl_own (RX3, TX3, 18) rfl (by decide) q185
theorem fl_X19_138_3 : FL "NoFartherThanAThrow$Reader" 138 3 6 := fl_own (RX3, TX3, 18) rfl (by decide) q196
theorem fl_X6_7_6 : FL "NoFartherThanAThrow$Refused" 7 6 6 := fl_own (RX6, TX6, 7) rfl (by decide) q405
theorem fl_X18_13_18 : FL "NoFartherThanAThrow$Round" 13 18 2 := fl_same (RX18, TX18, 3) "NoFartherThanAThrow$Round" rfl (by decide) q750 q751
theorem fl_X18_32_18 : FL "NoFartherThanAThrow$Round" 32 18 0 := fl_same (RX18, TX18, 3) "NoFartherThanAThrow$Round" rfl (by decide) q737 q738
theorem fl_X2_11_2 : FL "NoFartherThanAThrow$Seeker" 11 2 0 := fl_own (RX2, TX2, 5) rfl (by decide) q148
theorem fl_X2_16_2 : FL "NoFartherThanAThrow$Seeker" 16 2 1 := fl_own (RX2, TX2, 5) rfl (by decide) q149
theorem fl_X2_20_2 : FL "NoFartherThanAThrow$Seeker" 20 2 2 := fl_own (RX2, TX2, 5) rfl (by decide) q150
theorem fl_X2_23_2 : FL "NoFartherThanAThrow$Seeker" 23 2 3 := fl_own (RX2, TX2, 5) rfl (by decide) q152
theorem fl_X2_26_3 : FL "NoFartherThanAThrow$Seeker" 26 3 5 := fl_own (RX3, TX3, 18) rfl (by decide) q190
theorem fl_X2_48_3 : FL "NoFartherThanAThrow$Seeker" 48 3 6 := fl_own (RX3, TX3, 18) rfl (by decide) q195
theorem fl_X2_51_3 : FL "NoFartherThanAThrow$Seeker" 51 3 15 := fl_own (RX3, TX3, 18) rfl (by decide) q217
theorem fl_X2_54_3 : FL "NoFartherThanAThrow$Seeker" 54 3 10 := fl_own (RX3, TX3, 18) rfl (by decide) q205
theorem fl_X2_57_3 : FL "NoFartherThanAThrow$Seeker" 57 3 16 := fl_own (RX3, TX3, 18) rfl (by decide) q220
theorem fl_X2_64_2 : FL "NoFartherThanAThrow$Seeker" 64 2 4 := fl_own (RX2, TX2, 5) rfl (by decide) q153
theorem fl_X2_75_3 : FL "NoFartherThanAThrow$Seeker" 75 3 17 := fl_own (RX3, TX3, 18) rfl (by decide) q223
theorem fl_X4_9_4 : FL "NoFartherThanAThrow$Shelf" 9 4 0 := fl_own (RX4, TX4, 1) rfl (by decide) q268
theorem fl_X4_38_3 : FL "NoFartherThanAThrow$Shelf" 38 3 3 := fl_own (RX3, TX3, 18) rfl (by decide) q184
theorem fl_X9_7_9 : FL "NoFartherThanAThrow$Shorts" 7 9 0 := fl_own (RX9, TX9, 1) rfl (by decide) q454
theorem fl_X12_9_12 : FL "NoFartherThanAThrow$Thing" 9 12 0 := fl_own (RX12, TX12, 3) rfl (by decide) q734
theorem fl_X12_9_13 : FL "NoFartherThanAThrow$Thing" 9 13 0 := fl_own (RX13, TX13, 3) rfl (by decide) q734
theorem fl_X12_9_14 : FL "NoFartherThanAThrow$Thing" 9 14 0 := fl_own (RX14, TX14, 3) rfl (by decide) q734
theorem fl_X12_9_15 : FL "NoFartherThanAThrow$Thing" 9 15 0 := fl_own (RX15, TX15, 3) rfl (by decide) q734
theorem fl_X12_9_16 : FL "NoFartherThanAThrow$Thing" 9 16 0 := fl_own (RX16, TX16, 3) rfl (by decide) q734
theorem fl_X12_9_17 : FL "NoFartherThanAThrow$Thing" 9 17 0 := fl_own (RX17, TX17, 3) rfl (by decide) q734
theorem fl_X12_9_18 : FL "NoFartherThanAThrow$Thing" 9 18 0 := fl_own (RX18, TX18, 3) rfl (by decide) q734
theorem fl_X12_15_12 : FL "NoFartherThanAThrow$Thing" 15 12 1 := fl_own (RX12, TX12, 3) rfl (by decide) q740
theorem fl_X12_15_13 : FL "NoFartherThanAThrow$Thing" 15 13 1 := fl_own (RX13, TX13, 3) rfl (by decide) q740
theorem fl_X12_15_14 : FL "NoFartherThanAThrow$Thing" 15 14 1 := fl_own (RX14, TX14, 3) rfl (by decide) q740
theorem fl_X12_15_15 : FL "NoFartherThanAThrow$Thing" 15 15 1 := fl_own (RX15, TX15, 3) rfl (by decide) q740
theorem fl_X12_15_16 : FL "NoFartherThanAThrow$Thing" 15 16 1 := fl_own (RX16, TX16, 3) rfl (by decide) q740
theorem fl_X12_15_17 : FL "NoFartherThanAThrow$Thing" 15 17 1 := fl_own (RX17, TX17, 3) rfl (by decide) q740
theorem fl_X12_15_18 : FL "NoFartherThanAThrow$Thing" 15 18 1 := fl_own (RX18, TX18, 3) rfl (by decide) q740
theorem fl_X12_18_12 : FL "NoFartherThanAThrow$Thing" 18 12 2 := fl_own (RX12, TX12, 3) rfl (by decide) q747
theorem fl_X12_18_13 : FL "NoFartherThanAThrow$Thing" 18 13 2 := fl_own (RX13, TX13, 3) rfl (by decide) q747
theorem fl_X12_18_14 : FL "NoFartherThanAThrow$Thing" 18 14 2 := fl_own (RX14, TX14, 3) rfl (by decide) q747
theorem fl_X12_18_15 : FL "NoFartherThanAThrow$Thing" 18 15 2 := fl_own (RX15, TX15, 3) rfl (by decide) q747
theorem fl_X12_18_16 : FL "NoFartherThanAThrow$Thing" 18 16 2 := fl_own (RX16, TX16, 3) rfl (by decide) q747
theorem fl_X12_18_17 : FL "NoFartherThanAThrow$Thing" 18 17 2 := fl_own (RX17, TX17, 3) rfl (by decide) q747
theorem fl_X12_18_18 : FL "NoFartherThanAThrow$Thing" 18 18 2 := fl_own (RX18, TX18, 3) rfl (by decide) q747
theorem fl_X1_9_1 : FL "NoFartherThanAThrow$Trace" 9 1 0 := fl_own (RX1, TX1, 2) rfl (by decide) q130
theorem fl_X1_15_1 : FL "NoFartherThanAThrow$Trace" 15 1 1 := fl_own (RX1, TX1, 2) rfl (by decide) q132
theorem fl_X3_9_3 : FL "NoFartherThanAThrow$World" 9 3 0 := fl_own (RX3, TX3, 18) rfl (by decide) q174
theorem fl_X3_15_3 : FL "NoFartherThanAThrow$World" 15 3 8 := fl_own (RX3, TX3, 18) rfl (by decide) q200
theorem fl_X3_20_3 : FL "NoFartherThanAThrow$World" 20 3 9 := fl_own (RX3, TX3, 18) rfl (by decide) q202
theorem fl_X3_24_3 : FL "NoFartherThanAThrow$World" 24 3 10 := fl_own (RX3, TX3, 18) rfl (by decide) q204
theorem fl_X3_28_3 : FL "NoFartherThanAThrow$World" 28 3 11 := fl_own (RX3, TX3, 18) rfl (by decide) q207
theorem fl_X3_31_3 : FL "NoFartherThanAThrow$World" 31 3 12 := fl_own (RX3, TX3, 18) rfl (by decide) q209
theorem fl_X3_35_3 : FL "NoFartherThanAThrow$World" 35 3 13 := fl_own (RX3, TX3, 18) rfl (by decide) q212
theorem fl_X3_38_3 : FL "NoFartherThanAThrow$World" 38 3 14 := fl_own (RX3, TX3, 18) rfl (by decide) q214
theorem fl_X3_41_3 : FL "NoFartherThanAThrow$World" 41 3 15 := fl_own (RX3, TX3, 18) rfl (by decide) q216
theorem fl_X3_44_3 : FL "NoFartherThanAThrow$World" 44 3 16 := fl_own (RX3, TX3, 18) rfl (by decide) q219
theorem fl_X3_47_3 : FL "NoFartherThanAThrow$World" 47 3 17 := fl_own (RX3, TX3, 18) rfl (by decide) q222
theorem fl_X3_51_3 : FL "NoFartherThanAThrow$World" 51 3 1 := fl_own (RX3, TX3, 18) rfl (by decide) q177
theorem fl_X3_54_3 : FL "NoFartherThanAThrow$World" 54 3 2 := fl_own (RX3, TX3, 18) rfl (by decide) q180
theorem fl_X3_57_3 : FL "NoFartherThanAThrow$World" 57 3 3 := fl_own (RX3, TX3, 18) rfl (by decide) q183
theorem fl_X3_60_3 : FL "NoFartherThanAThrow$World" 60 3 4 := fl_own (RX3, TX3, 18) rfl (by decide) q187
theorem fl_X3_63_3 : FL "NoFartherThanAThrow$World" 63 3 5 := fl_own (RX3, TX3, 18) rfl (by decide) q191
theorem fl_X3_66_3 : FL "NoFartherThanAThrow$World" 66 3 6 := fl_own (RX3, TX3, 18) rfl (by decide) q194
theorem fl_X3_69_3 : FL "NoFartherThanAThrow$World" 69 3 7 := fl_own (RX3, TX3, 18) rfl (by decide) q198
theorem fl_X3_108_12 : FL "NoFartherThanAThrow$World" 108 12 1 := fl_own (RX12, TX12, 3) rfl (by decide) q745
theorem fl_X3_108_13 : FL "NoFartherThanAThrow$World" 108 13 1 := fl_own (RX13, TX13, 3) rfl (by decide) q745
theorem fl_X3_108_14 : FL "NoFartherThanAThrow$World" 108 14 1 := fl_own (RX14, TX14, 3) rfl (by decide) q745
theorem fl_X3_108_15 : FL "NoFartherThanAThrow$World" 108 15 1 := fl_own (RX15, TX15, 3) rfl (by decide) q745
theorem fl_X3_108_16 : FL "NoFartherThanAThrow$World" 108 16 1 := fl_own (RX16, TX16, 3) rfl (by decide) q745
theorem fl_X3_108_17 : FL "NoFartherThanAThrow$World" 108 17 1 := fl_own (RX17, TX17, 3) rfl (by decide) q745
theorem fl_X3_108_18 : FL "NoFartherThanAThrow$World" 108 18 1 := fl_own (RX18, TX18, 3) rfl (by decide) q745
theorem fl_X5_7_5 : FL "NoFartherThanAThrowModel" 7 5 3 := fl_own (RX5, TX5, 50) rfl (by decide) q1409
theorem fl_X5_13_5 : FL "NoFartherThanAThrowModel" 13 5 7 := fl_own (RX5, TX5, 50) rfl (by decide) q1413
theorem fl_X5_16_5 : FL "NoFartherThanAThrowModel" 16 5 9 := fl_own (RX5, TX5, 50) rfl (by decide) q1415
theorem fl_X5_19_5 : FL "NoFartherThanAThrowModel" 19 5 10 := fl_own (RX5, TX5, 50) rfl (by decide) q1416
theorem fl_X5_23_5 : FL "NoFartherThanAThrowModel" 23 5 11 := fl_own (RX5, TX5, 50) rfl (by decide) q1417
theorem fl_X5_26_5 : FL "NoFartherThanAThrowModel" 26 5 12 := fl_own (RX5, TX5, 50) rfl (by decide) q1418
theorem fl_X5_29_5 : FL "NoFartherThanAThrowModel" 29 5 13 := fl_own (RX5, TX5, 50) rfl (by decide) q1419
theorem fl_X5_32_5 : FL "NoFartherThanAThrowModel" 32 5 14 := fl_own (RX5, TX5, 50) rfl (by decide) q1420
theorem fl_X5_35_5 : FL "NoFartherThanAThrowModel" 35 5 15 := fl_own (RX5, TX5, 50) rfl (by decide) q1421
theorem fl_X5_38_5 : FL "NoFartherThanAThrowModel" 38 5 16 := fl_own (RX5, TX5, 50) rfl (by decide) q1422
theorem fl_X5_41_5 : FL "NoFartherThanAThrowModel" 41 5 17 := fl_own (RX5, TX5, 50) rfl (by decide) q1423
theorem fl_X5_44_5 : FL "NoFartherThanAThrowModel" 44 5 18 := fl_own (RX5, TX5, 50) rfl (by decide) q1424
theorem fl_X5_47_5 : FL "NoFartherThanAThrowModel" 47 5 19 := fl_own (RX5, TX5, 50) rfl (by decide) q1425
theorem fl_X5_50_5 : FL "NoFartherThanAThrowModel" 50 5 20 := fl_own (RX5, TX5, 50) rfl (by decide) q1426
theorem fl_X5_53_5 : FL "NoFartherThanAThrowModel" 53 5 21 := fl_own (RX5, TX5, 50) rfl (by decide) q1427
theorem fl_X5_56_5 : FL "NoFartherThanAThrowModel" 56 5 22 := fl_own (RX5, TX5, 50) rfl (by decide) q1428
theorem fl_X5_59_5 : FL "NoFartherThanAThrowModel" 59 5 23 := fl_own (RX5, TX5, 50) rfl (by decide) q1429
theorem fl_X5_62_5 : FL "NoFartherThanAThrowModel" 62 5 24 := fl_own (RX5, TX5, 50) rfl (by decide) q1430
theorem fl_X5_65_5 : FL "NoFartherThanAThrowModel" 65 5 25 := fl_own (RX5, TX5, 50) rfl (by decide) q1431
theorem fl_X5_68_5 : FL "NoFartherThanAThrowModel" 68 5 26 := fl_own (RX5, TX5, 50) rfl (by decide) q1432
theorem fl_X5_72_5 : FL "NoFartherThanAThrowModel" 72 5 27 := fl_own (RX5, TX5, 50) rfl (by decide) q1433
theorem fl_X5_75_5 : FL "NoFartherThanAThrowModel" 75 5 28 := fl_own (RX5, TX5, 50) rfl (by decide) q1434
theorem fl_X5_78_5 : FL "NoFartherThanAThrowModel" 78 5 29 := fl_own (RX5, TX5, 50) rfl (by decide) q1435
theorem fl_X5_81_5 : FL "NoFartherThanAThrowModel" 81 5 35 := fl_own (RX5, TX5, 50) rfl (by decide) q1441
theorem fl_X5_84_5 : FL "NoFartherThanAThrowModel" 84 5 36 := fl_own (RX5, TX5, 50) rfl (by decide) q1442
theorem fl_X5_87_5 : FL "NoFartherThanAThrowModel" 87 5 37 := fl_own (RX5, TX5, 50) rfl (by decide) q1443
theorem fl_X5_90_5 : FL "NoFartherThanAThrowModel" 90 5 38 := fl_own (RX5, TX5, 50) rfl (by decide) q1444
theorem fl_X5_93_5 : FL "NoFartherThanAThrowModel" 93 5 39 := fl_own (RX5, TX5, 50) rfl (by decide) q1445
theorem fl_X5_96_5 : FL "NoFartherThanAThrowModel" 96 5 40 := fl_own (RX5, TX5, 50) rfl (by decide) q1446
theorem fl_X5_99_5 : FL "NoFartherThanAThrowModel" 99 5 41 := fl_own (RX5, TX5, 50) rfl (by decide) q1447
theorem fl_X5_102_5 : FL "NoFartherThanAThrowModel" 102 5 42 := fl_own (RX5, TX5, 50) rfl (by decide) q1448
theorem fl_X5_105_5 : FL "NoFartherThanAThrowModel" 105 5 43 := fl_own (RX5, TX5, 50) rfl (by decide) q1449
theorem fl_X5_108_5 : FL "NoFartherThanAThrowModel" 108 5 44 := fl_own (RX5, TX5, 50) rfl (by decide) q1450
theorem fl_X5_111_5 : FL "NoFartherThanAThrowModel" 111 5 45 := fl_own (RX5, TX5, 50) rfl (by decide) q1451
theorem fl_X5_114_5 : FL "NoFartherThanAThrowModel" 114 5 47 := fl_own (RX5, TX5, 50) rfl (by decide) q1453
theorem fl_X5_117_5 : FL "NoFartherThanAThrowModel" 117 5 0 := fl_own (RX5, TX5, 50) rfl (by decide) q1406
theorem fl_X5_120_5 : FL "NoFartherThanAThrowModel" 120 5 1 := fl_own (RX5, TX5, 50) rfl (by decide) q1407
theorem fl_X5_123_5 : FL "NoFartherThanAThrowModel" 123 5 4 := fl_own (RX5, TX5, 50) rfl (by decide) q1410
theorem fl_X5_126_5 : FL "NoFartherThanAThrowModel" 126 5 5 := fl_own (RX5, TX5, 50) rfl (by decide) q1411
theorem fl_X5_162_5 : FL "NoFartherThanAThrowModel" 162 5 2 := fl_own (RX5, TX5, 50) rfl (by decide) q1408
theorem fl_X5_171_5 : FL "NoFartherThanAThrowModel" 171 5 6 := fl_own (RX5, TX5, 50) rfl (by decide) q1412
theorem fl_X5_181_5 : FL "NoFartherThanAThrowModel" 181 5 34 := fl_own (RX5, TX5, 50) rfl (by decide) q1440
theorem fl_X5_184_5 : FL "NoFartherThanAThrowModel" 184 5 31 := fl_own (RX5, TX5, 50) rfl (by decide) q1437
theorem fl_X5_187_5 : FL "NoFartherThanAThrowModel" 187 5 32 := fl_own (RX5, TX5, 50) rfl (by decide) q1438
theorem fl_X5_190_5 : FL "NoFartherThanAThrowModel" 190 5 30 := fl_own (RX5, TX5, 50) rfl (by decide) q1436
theorem fl_X5_200_5 : FL "NoFartherThanAThrowModel" 200 5 33 := fl_own (RX5, TX5, 50) rfl (by decide) q1439
theorem fl_X5_223_5 : FL "NoFartherThanAThrowModel" 223 5 8 := fl_own (RX5, TX5, 50) rfl (by decide) q1414
theorem fl_X5_277_5 : FL "NoFartherThanAThrowModel" 277 5 46 := fl_own (RX5, TX5, 50) rfl (by decide) q1452
theorem fl_X5_304_5 : FL "NoFartherThanAThrowModel" 304 5 48 := fl_own (RX5, TX5, 50) rfl (by decide) q1454
theorem fl_X5_319_5 : FL "NoFartherThanAThrowModel" 319 5 49 := fl_own (RX5, TX5, 50) rfl (by decide) q1455
theorem k_X0_7_10 : Cs "NoFartherThanAThrow" (.invokevirtual 7) 1 (some 10) YX10_held := cs_U (Y := YX10_held) (RX10, TX10, 1) "NoFartherThanAThrow$Row" ⟨"NoFartherThanAThrow$Row", "held", "()Ljava/lang/Object;"⟩ rfl rfl q550 q552 (Or.inl q551) q556 q557 q96 q558 ⟨by decide +kernel, by decide +kernel, by decide +kernel⟩
theorem k_X0_7_11 : Cs "NoFartherThanAThrow" (.invokevirtual 7) 1 (some 11) YX11_held := cs_U (Y := YX11_held) (RX11, TX11, 1) "NoFartherThanAThrow$Row" ⟨"NoFartherThanAThrow$Row", "held", "()Ljava/lang/Object;"⟩ rfl rfl q550 q552 (Or.inl q551) q559 q560 q97 q561 ⟨by decide +kernel, by decide +kernel, by decide +kernel⟩
theorem k_X0_7_8 : Cs "NoFartherThanAThrow" (.invokevirtual 7) 1 (some 8) YX8_held := cs_U (Y := YX8_held) (RX8, TX8, 1) "NoFartherThanAThrow$Row" ⟨"NoFartherThanAThrow$Row", "held", "()Ljava/lang/Object;"⟩ rfl rfl q550 q552 (Or.inl q551) q553 q554 q94 q555 ⟨by decide +kernel, by decide +kernel, by decide +kernel⟩
theorem k_X0_7_9 : Cs "NoFartherThanAThrow" (.invokevirtual 7) 1 (some 9) YX9_held := cs_U (Y := YX9_held) (RX9, TX9, 1) "NoFartherThanAThrow$Row" ⟨"NoFartherThanAThrow$Row", "held", "()Ljava/lang/Object;"⟩ rfl rfl q550 q552 (Or.inl q551) q562 q563 q95 q564 ⟨by decide +kernel, by decide +kernel, by decide +kernel⟩
theorem k_X0_11_10 : Cs "NoFartherThanAThrow" (.invokevirtual 11) 1 (some 10) YX10_length := cs_U (Y := YX10_length) (RX10, TX10, 1) "NoFartherThanAThrow$Row" ⟨"NoFartherThanAThrow$Row", "length", "()I"⟩ rfl rfl q830 q832 (Or.inl q831) q836 q837 q96 q838 ⟨by decide +kernel, by decide +kernel, by decide +kernel⟩
theorem k_X0_11_11 : Cs "NoFartherThanAThrow" (.invokevirtual 11) 1 (some 11) YX11_length := cs_U (Y := YX11_length) (RX11, TX11, 1) "NoFartherThanAThrow$Row" ⟨"NoFartherThanAThrow$Row", "length", "()I"⟩ rfl rfl q830 q832 (Or.inl q831) q839 q840 q97 q841 ⟨by decide +kernel, by decide +kernel, by decide +kernel⟩
theorem k_X0_11_8 : Cs "NoFartherThanAThrow" (.invokevirtual 11) 1 (some 8) YX8_length := cs_U (Y := YX8_length) (RX8, TX8, 1) "NoFartherThanAThrow$Row" ⟨"NoFartherThanAThrow$Row", "length", "()I"⟩ rfl rfl q830 q832 (Or.inl q831) q833 q834 q94 q835 ⟨by decide +kernel, by decide +kernel, by decide +kernel⟩
theorem k_X0_11_9 : Cs "NoFartherThanAThrow" (.invokevirtual 11) 1 (some 9) YX9_length := cs_U (Y := YX9_length) (RX9, TX9, 1) "NoFartherThanAThrow$Row" ⟨"NoFartherThanAThrow$Row", "length", "()I"⟩ rfl rfl q830 q832 (Or.inl q831) q842 q843 q95 q844 ⟨by decide +kernel, by decide +kernel, by decide +kernel⟩
theorem k_X0_23_6 : Cs "NoFartherThanAThrow" (.invokespecial 23) 2 (some 6) YX6_init := cs_I (Y := YX6_init) rfl q398 q91 q396 q397 ⟨by decide +kernel, by decide +kernel, by decide +kernel, by decide +kernel⟩
theorem k_X0_29_13 : Cs "NoFartherThanAThrow" (.invokespecial 29) 4 (some 13) YX13_init := cs_I (Y := YX13_init) rfl q729 q102 q727 q728 ⟨by decide +kernel, by decide +kernel, by decide +kernel, by decide +kernel⟩
theorem k_X0_29_17 : Cs "NoFartherThanAThrow" (.invokespecial 29) 4 (some 17) YX13_init := cs_I (Y := YX13_init) rfl q729 q102 q727 q728 ⟨by decide +kernel, by decide +kernel, by decide +kernel, by decide +kernel⟩
theorem k_X0_29_18 : Cs "NoFartherThanAThrow" (.invokespecial 29) 4 (some 18) YX13_init := cs_I (Y := YX13_init) rfl q729 q102 q727 q728 ⟨by decide +kernel, by decide +kernel, by decide +kernel, by decide +kernel⟩
theorem k_X0_34_14 : Cs "NoFartherThanAThrow" (.invokespecial 34) 4 (some 14) YX14_init := cs_I (Y := YX14_init) rfl q765 q103 q763 q764 ⟨by decide +kernel, by decide +kernel, by decide +kernel, by decide +kernel⟩
theorem k_X0_34_15 : Cs "NoFartherThanAThrow" (.invokespecial 34) 4 (some 15) YX14_init := cs_I (Y := YX14_init) rfl q765 q103 q763 q764 ⟨by decide +kernel, by decide +kernel, by decide +kernel, by decide +kernel⟩
theorem k_X0_37_15 : Cs "NoFartherThanAThrow" (.invokespecial 37) 4 (some 15) YX15_init := cs_I (Y := YX15_init) rfl q774 q104 q772 q773 ⟨by decide +kernel, by decide +kernel, by decide +kernel, by decide +kernel⟩
theorem k_X0_40_16 : Cs "NoFartherThanAThrow" (.invokespecial 40) 4 (some 16) YX16_init := cs_I (Y := YX16_init) rfl q783 q105 q781 q782 ⟨by decide +kernel, by decide +kernel, by decide +kernel, by decide +kernel⟩
theorem k_X0_43_17 : Cs "NoFartherThanAThrow" (.invokespecial 43) 4 (some 17) YX17_init := cs_I (Y := YX17_init) rfl q793 q106 q791 q792 ⟨by decide +kernel, by decide +kernel, by decide +kernel, by decide +kernel⟩
theorem k_X0_46_18 : Cs "NoFartherThanAThrow" (.invokespecial 46) 4 (some 18) YX18_init := cs_I (Y := YX18_init) rfl q802 q107 q800 q801 ⟨by decide +kernel, by decide +kernel, by decide +kernel, by decide +kernel⟩
theorem k_X0_49_12 : Cs "NoFartherThanAThrow" (.invokespecial 49) 4 (some 12) YX12_init := cs_I (Y := YX12_init) rfl q732 q101 q809 q731 ⟨by decide +kernel, by decide +kernel, by decide +kernel, by decide +kernel⟩
theorem k_X0_49_13 : Cs "NoFartherThanAThrow" (.invokespecial 49) 4 (some 13) YX12_init := cs_I (Y := YX12_init) rfl q732 q101 q809 q731 ⟨by decide +kernel, by decide +kernel, by decide +kernel, by decide +kernel⟩
theorem k_X0_49_14 : Cs "NoFartherThanAThrow" (.invokespecial 49) 4 (some 14) YX12_init := cs_I (Y := YX12_init) rfl q732 q101 q809 q731 ⟨by decide +kernel, by decide +kernel, by decide +kernel, by decide +kernel⟩
theorem k_X0_49_15 : Cs "NoFartherThanAThrow" (.invokespecial 49) 4 (some 15) YX12_init := cs_I (Y := YX12_init) rfl q732 q101 q809 q731 ⟨by decide +kernel, by decide +kernel, by decide +kernel, by decide +kernel⟩
theorem k_X0_49_16 : Cs "NoFartherThanAThrow" (.invokespecial 49) 4 (some 16) YX12_init := cs_I (Y := YX12_init) rfl q732 q101 q809 q731 ⟨by decide +kernel, by decide +kernel, by decide +kernel, by decide +kernel⟩
theorem k_X0_49_17 : Cs "NoFartherThanAThrow" (.invokespecial 49) 4 (some 17) YX12_init := cs_I (Y := YX12_init) rfl q732 q101 q809 q731 ⟨by decide +kernel, by decide +kernel, by decide +kernel, by decide +kernel⟩
theorem k_X0_49_18 : Cs "NoFartherThanAThrow" (.invokespecial 49) 4 (some 18) YX12_init := cs_I (Y := YX12_init) rfl q732 q101 q809 q731 ⟨by decide +kernel, by decide +kernel, by decide +kernel, by decide +kernel⟩
theorem k_X0_69_1 : Cs "NoFartherThanAThrow" (.invokespecial 69) 1 (some 1) YX1_init := cs_I (Y := YX1_init) rfl q128 q80 q126 q127 ⟨by decide +kernel, by decide +kernel, by decide +kernel, by decide +kernel⟩
theorem k_X0_89_3 : Cs "NoFartherThanAThrow" (.invokespecial 89) 1 (some 3) YX3_init := cs_I (Y := YX3_init) rfl q170 q82 q168 q169 ⟨by decide +kernel, by decide +kernel, by decide +kernel, by decide +kernel⟩
theorem k_X0_98_4 : Cs "NoFartherThanAThrow" (.invokespecial 98) 1 (some 4) YX4_init := cs_I (Y := YX4_init) rfl q266 q83 q264 q265 ⟨by decide +kernel, by decide +kernel, by decide +kernel, by decide +kernel⟩
theorem k_X0_107 : Cs "NoFartherThanAThrow" (.invokestatic 107) 3 none YX0_in := cs_S (Y := YX0_in) rfl (lw_S q415 q416 q79 q417) ⟨by decide +kernel, by decide +kernel, by decide +kernel⟩
theorem k_X0_111_0 : Cs "NoFartherThanAThrow" (.invokevirtual 111) 2 (some 0) YX0_isThing := cs_V (Y := YX0_isThing) (RX0, TX0, 9) rfl rfl (lw_V q595 q597 qs4 q79 q598) ⟨by decide +kernel, by decide +kernel, by decide +kernel, by decide +kernel⟩
theorem k_X0_115 : Cs "NoFartherThanAThrow" (.invokestatic 115) 2 none YX0_need := cs_S (Y := YX0_need) rfl (lw_S q411 q412 q79 q413) ⟨by decide +kernel, by decide +kernel, by decide +kernel⟩
theorem k_X0_126_0 : Cs "NoFartherThanAThrow" (.invokevirtual 126) 2 (some 0) YX0_isMan := cs_V (Y := YX0_isMan) (RX0, TX0, 9) rfl rfl (lw_V q915 q917 qs7 q79 q918) ⟨by decide +kernel, by decide +kernel, by decide +kernel, by decide +kernel⟩
theorem k_X0_129_3 : Cs "NoFartherThanAThrow" (.invokevirtual 129) 2 (some 3) YX3_isStep := cs_V (Y := YX3_isStep) (RX3, TX3, 18) rfl rfl (lw_V q705 q706 q707 q82 q708) ⟨by decide +kernel, by decide +kernel, by decide +kernel, by decide +kernel⟩
theorem k_X0_135_2 : Cs "NoFartherThanAThrow" (.invokevirtual 135) 6 (some 2) YX2_find := cs_V (Y := YX2_find) (RX2, TX2, 5) rfl rfl (lw_V q1152 q1153 q1154 q81 q1155) ⟨by decide +kernel, by decide +kernel, by decide +kernel, by decide +kernel⟩
theorem k_X0_139_4 : Cs "NoFartherThanAThrow" (.invokevirtual 139) 1 (some 4) YX4_holdsThing := cs_V (Y := YX4_holdsThing) (RX4, TX4, 1) rfl rfl (lw_V q530 q531 q532 q83 q533) ⟨by decide +kernel, by decide +kernel, by decide +kernel, by decide +kernel⟩
theorem k_X0_151_8 : Cs "NoFartherThanAThrow" (.invokespecial 151) 2 (some 8) YX8_init := cs_I (Y := YX8_init) rfl q439 q94 q437 q438 ⟨by decide +kernel, by decide +kernel, by decide +kernel, by decide +kernel⟩
theorem k_X0_154_9 : Cs "NoFartherThanAThrow" (.invokespecial 154) 2 (some 9) YX9_init := cs_I (Y := YX9_init) rfl q452 q95 q450 q451 ⟨by decide +kernel, by decide +kernel, by decide +kernel, by decide +kernel⟩
theorem k_X0_157_10 : Cs "NoFartherThanAThrow" (.invokespecial 157) 2 (some 10) YX10_init := cs_I (Y := YX10_init) rfl q463 q96 q461 q462 ⟨by decide +kernel, by decide +kernel, by decide +kernel, by decide +kernel⟩
theorem k_X0_160_11 : Cs "NoFartherThanAThrow" (.invokespecial 160) 2 (some 11) YX11_init := cs_I (Y := YX11_init) rfl q473 q97 q471 q472 ⟨by decide +kernel, by decide +kernel, by decide +kernel, by decide +kernel⟩
theorem k_X0_163_0 : Cs "NoFartherThanAThrow" (.invokevirtual 163) 2 (some 0) YX0_shelf := cs_VW (Y := YX0_shelf) (RX0, TX0, 9) rfl rfl (lw_VW q306 q308 qs0 q79 q309) ⟨by decide +kernel, by decide +kernel, by decide +kernel, by decide +kernel⟩
theorem k_X0_169 : Cs "NoFartherThanAThrow" (.invokestatic 169) 2 none YX0_newRow := cs_SW (Y := YX0_newRow) rfl (lw_SW q418 q419 q79 q420) ⟨by decide +kernel, by decide +kernel, by decide +kernel⟩
theorem k_X0_173_0 : Cs "NoFartherThanAThrow" (.invokevirtual 173) 2 (some 0) YX0_refused := cs_V (Y := YX0_refused) (RX0, TX0, 9) rfl rfl (lw_V q480 q482 qs2 q79 q483) ⟨by decide +kernel, by decide +kernel, by decide +kernel, by decide +kernel⟩
theorem k_X0_177_4 : Cs "NoFartherThanAThrow" (.invokevirtual 177) 1 (some 4) YX4_row := cs_VW (Y := YX4_row) (RX4, TX4, 1) rfl rfl (lw_VW q488 q489 q490 q83 q491) ⟨by decide +kernel, by decide +kernel, by decide +kernel, by decide +kernel⟩
theorem k_X0_180_10 : Cs "NoFartherThanAThrow" (.invokevirtual 180) 3 (some 10) YX10_put := cs_U (Y := YX10_put) (RX10, TX10, 1) "NoFartherThanAThrow$Row" ⟨"NoFartherThanAThrow$Row", "put", "(IJ)V"⟩ rfl rfl q510 q512 (Or.inl q511) q516 q517 q96 q518 ⟨by decide +kernel, by decide +kernel, by decide +kernel⟩
theorem k_X0_180_11 : Cs "NoFartherThanAThrow" (.invokevirtual 180) 3 (some 11) YX11_put := cs_U (Y := YX11_put) (RX11, TX11, 1) "NoFartherThanAThrow$Row" ⟨"NoFartherThanAThrow$Row", "put", "(IJ)V"⟩ rfl rfl q510 q512 (Or.inl q511) q519 q520 q97 q521 ⟨by decide +kernel, by decide +kernel, by decide +kernel⟩
theorem k_X0_180_8 : Cs "NoFartherThanAThrow" (.invokevirtual 180) 3 (some 8) YX8_put := cs_U (Y := YX8_put) (RX8, TX8, 1) "NoFartherThanAThrow$Row" ⟨"NoFartherThanAThrow$Row", "put", "(IJ)V"⟩ rfl rfl q510 q512 (Or.inl q511) q513 q514 q94 q515 ⟨by decide +kernel, by decide +kernel, by decide +kernel⟩
theorem k_X0_180_9 : Cs "NoFartherThanAThrow" (.invokevirtual 180) 3 (some 9) YX9_put := cs_U (Y := YX9_put) (RX9, TX9, 1) "NoFartherThanAThrow$Row" ⟨"NoFartherThanAThrow$Row", "put", "(IJ)V"⟩ rfl rfl q510 q512 (Or.inl q511) q522 q523 q95 q524 ⟨by decide +kernel, by decide +kernel, by decide +kernel⟩
theorem k_X0_184_10 : Cs "NoFartherThanAThrow" (.invokevirtual 184) 1 (some 10) YX10_sort := cs_U (Y := YX10_sort) (RX10, TX10, 1) "NoFartherThanAThrow$Row" ⟨"NoFartherThanAThrow$Row", "sort", "()I"⟩ rfl rfl q535 q537 (Or.inl q536) q541 q542 q96 q543 ⟨by decide +kernel, by decide +kernel, by decide +kernel⟩
theorem k_X0_184_11 : Cs "NoFartherThanAThrow" (.invokevirtual 184) 1 (some 11) YX11_sort := cs_U (Y := YX11_sort) (RX11, TX11, 1) "NoFartherThanAThrow$Row" ⟨"NoFartherThanAThrow$Row", "sort", "()I"⟩ rfl rfl q535 q537 (Or.inl q536) q544 q545 q97 q546 ⟨by decide +kernel, by decide +kernel, by decide +kernel⟩
theorem k_X0_184_8 : Cs "NoFartherThanAThrow" (.invokevirtual 184) 1 (some 8) YX8_sort := cs_U (Y := YX8_sort) (RX8, TX8, 1) "NoFartherThanAThrow$Row" ⟨"NoFartherThanAThrow$Row", "sort", "()I"⟩ rfl rfl q535 q537 (Or.inl q536) q538 q539 q94 q540 ⟨by decide +kernel, by decide +kernel, by decide +kernel⟩
theorem k_X0_184_9 : Cs "NoFartherThanAThrow" (.invokevirtual 184) 1 (some 9) YX9_sort := cs_U (Y := YX9_sort) (RX9, TX9, 1) "NoFartherThanAThrow$Row" ⟨"NoFartherThanAThrow$Row", "sort", "()I"⟩ rfl rfl q535 q537 (Or.inl q536) q547 q548 q95 q549 ⟨by decide +kernel, by decide +kernel, by decide +kernel⟩
theorem k_X0_189_10 : Cs "NoFartherThanAThrow" (.invokevirtual 189) 2 (some 10) YX10_get := cs_U (Y := YX10_get) (RX10, TX10, 1) "NoFartherThanAThrow$Row" ⟨"NoFartherThanAThrow$Row", "get", "(I)J"⟩ rfl rfl q572 q574 (Or.inl q573) q578 q579 q96 q580 ⟨by decide +kernel, by decide +kernel, by decide +kernel⟩
theorem k_X0_189_11 : Cs "NoFartherThanAThrow" (.invokevirtual 189) 2 (some 11) YX11_get := cs_U (Y := YX11_get) (RX11, TX11, 1) "NoFartherThanAThrow$Row" ⟨"NoFartherThanAThrow$Row", "get", "(I)J"⟩ rfl rfl q572 q574 (Or.inl q573) q581 q582 q97 q583 ⟨by decide +kernel, by decide +kernel, by decide +kernel⟩
theorem k_X0_189_8 : Cs "NoFartherThanAThrow" (.invokevirtual 189) 2 (some 8) YX8_get := cs_U (Y := YX8_get) (RX8, TX8, 1) "NoFartherThanAThrow$Row" ⟨"NoFartherThanAThrow$Row", "get", "(I)J"⟩ rfl rfl q572 q574 (Or.inl q573) q575 q576 q94 q577 ⟨by decide +kernel, by decide +kernel, by decide +kernel⟩
theorem k_X0_189_9 : Cs "NoFartherThanAThrow" (.invokevirtual 189) 2 (some 9) YX9_get := cs_U (Y := YX9_get) (RX9, TX9, 1) "NoFartherThanAThrow$Row" ⟨"NoFartherThanAThrow$Row", "get", "(I)J"⟩ rfl rfl q572 q574 (Or.inl q573) q584 q585 q95 q586 ⟨by decide +kernel, by decide +kernel, by decide +kernel⟩
theorem k_X0_193_0 : Cs "NoFartherThanAThrow" (.invokevirtual 193) 2 (some 0) YX0_thingAt := cs_V (Y := YX0_thingAt) (RX0, TX0, 9) rfl rfl (lw_V q591 q593 qs3 q79 q594) ⟨by decide +kernel, by decide +kernel, by decide +kernel, by decide +kernel⟩
theorem k_X0_199_4 : Cs "NoFartherThanAThrow" (.invokevirtual 199) 3 (some 4) YX4_says := cs_VW (Y := YX4_says) (RX4, TX4, 1) rfl rfl (lw_VW q610 q611 q612 q83 q613) ⟨by decide +kernel, by decide +kernel, by decide +kernel, by decide +kernel⟩
theorem k_X0_207_3 : Cs "NoFartherThanAThrow" (.invokevirtual 207) 6 (some 3) YX3_addThing := cs_V (Y := YX3_addThing) (RX3, TX3, 18) rfl rfl (lw_V q714 q715 q716 q82 q717) ⟨by decide +kernel, by decide +kernel, by decide +kernel, by decide +kernel⟩
theorem k_X0_211_3 : Cs "NoFartherThanAThrow" (.invokevirtual 211) 2 (some 3) YX3_addMan := cs_V (Y := YX3_addMan) (RX3, TX3, 18) rfl rfl (lw_V q822 q823 q824 q82 q825) ⟨by decide +kernel, by decide +kernel, by decide +kernel, by decide +kernel⟩
theorem k_X0_214_0 : Cs "NoFartherThanAThrow" (.invokevirtual 214) 2 (some 0) YX0_addMan := cs_V (Y := YX0_addMan) (RX0, TX0, 9) rfl rfl (lw_V q818 q820 qs5 q79 q821) ⟨by decide +kernel, by decide +kernel, by decide +kernel, by decide +kernel⟩
theorem k_X0_215_10 : Cs "NoFartherThanAThrow" (.invokevirtual 215) 2 (some 10) YX7_asInt := cs_U (Y := YX7_asInt) (RX10, TX10, 1) "NoFartherThanAThrow$Row" ⟨"NoFartherThanAThrow$Row", "asInt", "(I)I"⟩ rfl rfl q845 q847 (Or.inr ⟨_, _, _, q846, q852⟩) q849 q846 q93 q852 ⟨by decide +kernel, by decide +kernel, by decide +kernel⟩
theorem k_X0_215_11 : Cs "NoFartherThanAThrow" (.invokevirtual 215) 2 (some 11) YX7_asInt := cs_U (Y := YX7_asInt) (RX11, TX11, 1) "NoFartherThanAThrow$Row" ⟨"NoFartherThanAThrow$Row", "asInt", "(I)I"⟩ rfl rfl q845 q847 (Or.inr ⟨_, _, _, q846, q852⟩) q850 q846 q93 q852 ⟨by decide +kernel, by decide +kernel, by decide +kernel⟩
theorem k_X0_215_8 : Cs "NoFartherThanAThrow" (.invokevirtual 215) 2 (some 8) YX7_asInt := cs_U (Y := YX7_asInt) (RX8, TX8, 1) "NoFartherThanAThrow$Row" ⟨"NoFartherThanAThrow$Row", "asInt", "(I)I"⟩ rfl rfl q845 q847 (Or.inr ⟨_, _, _, q846, q852⟩) q848 q846 q93 q852 ⟨by decide +kernel, by decide +kernel, by decide +kernel⟩
theorem k_X0_215_9 : Cs "NoFartherThanAThrow" (.invokevirtual 215) 2 (some 9) YX7_asInt := cs_U (Y := YX7_asInt) (RX9, TX9, 1) "NoFartherThanAThrow$Row" ⟨"NoFartherThanAThrow$Row", "asInt", "(I)I"⟩ rfl rfl q845 q847 (Or.inr ⟨_, _, _, q846, q852⟩) q851 q846 q93 q852 ⟨by decide +kernel, by decide +kernel, by decide +kernel⟩
theorem k_X0_222_3 : Cs "NoFartherThanAThrow" (.invokevirtual 222) 4 (some 3) YX3_addWant := cs_V (Y := YX3_addWant) (RX3, TX3, 18) rfl rfl (lw_V q858 q859 q860 q82 q861) ⟨by decide +kernel, by decide +kernel, by decide +kernel, by decide +kernel⟩
theorem k_X0_225_3 : Cs "NoFartherThanAThrow" (.invokevirtual 225) 1 (some 3) YX3_farthest := cs_V (Y := YX3_farthest) (RX3, TX3, 18) rfl rfl (lw_V q866 q867 q868 q82 q869) ⟨by decide +kernel, by decide +kernel, by decide +kernel, by decide +kernel⟩
theorem k_X0_228 : Cs "NoFartherThanAThrow" (.invokestatic 228) 2 none YJ8_max := cs_S (Y := YJ8_max) rfl (lw_S q871 q649 q100 q650) ⟨by decide +kernel, by decide +kernel, by decide +kernel⟩
theorem k_X0_240_3 : Cs "NoFartherThanAThrow" (.invokevirtual 240) 3 (some 3) YX3_mayFlow := cs_V (Y := YX3_mayFlow) (RX3, TX3, 18) rfl rfl (lw_V q876 q877 q878 q82 q879) ⟨by decide +kernel, by decide +kernel, by decide +kernel, by decide +kernel⟩
theorem k_X0_250_0 : Cs "NoFartherThanAThrow" (.invokevirtual 250) 1 (some 0) YX0_beyond := cs_V (Y := YX0_beyond) (RX0, TX0, 9) rfl rfl (lw_V q884 q886 qs6 q79 q887) ⟨by decide +kernel, by decide +kernel, by decide +kernel, by decide +kernel⟩
theorem k_X0_253_12 : Cs "NoFartherThanAThrow" (.invokevirtual 253) 1 (some 12) YX12_kind := cs_V (Y := YX12_kind) (RX12, TX12, 3) rfl rfl (lw_V q888 q889 q890 q101 q910) ⟨by decide +kernel, by decide +kernel, by decide +kernel, by decide +kernel⟩
theorem k_X0_253_13 : Cs "NoFartherThanAThrow" (.invokevirtual 253) 1 (some 13) YX13_kind := cs_U (Y := YX13_kind) (RX13, TX13, 3) "NoFartherThanAThrow$Thing" ⟨"NoFartherThanAThrow$Thing", "kind", "()I"⟩ rfl rfl q888 q891 (Or.inr ⟨_, _, _, q889, q910⟩) q898 q899 q102 q900 ⟨by decide +kernel, by decide +kernel, by decide +kernel⟩
theorem k_X0_253_14 : Cs "NoFartherThanAThrow" (.invokevirtual 253) 1 (some 14) YX14_kind := cs_U (Y := YX14_kind) (RX14, TX14, 3) "NoFartherThanAThrow$Thing" ⟨"NoFartherThanAThrow$Thing", "kind", "()I"⟩ rfl rfl q888 q891 (Or.inr ⟨_, _, _, q889, q910⟩) q901 q902 q103 q903 ⟨by decide +kernel, by decide +kernel, by decide +kernel⟩
theorem k_X0_253_15 : Cs "NoFartherThanAThrow" (.invokevirtual 253) 1 (some 15) YX15_kind := cs_U (Y := YX15_kind) (RX15, TX15, 3) "NoFartherThanAThrow$Thing" ⟨"NoFartherThanAThrow$Thing", "kind", "()I"⟩ rfl rfl q888 q891 (Or.inr ⟨_, _, _, q889, q910⟩) q892 q893 q104 q894 ⟨by decide +kernel, by decide +kernel, by decide +kernel⟩
theorem k_X0_253_16 : Cs "NoFartherThanAThrow" (.invokevirtual 253) 1 (some 16) YX16_kind := cs_U (Y := YX16_kind) (RX16, TX16, 3) "NoFartherThanAThrow$Thing" ⟨"NoFartherThanAThrow$Thing", "kind", "()I"⟩ rfl rfl q888 q891 (Or.inr ⟨_, _, _, q889, q910⟩) q895 q896 q105 q897 ⟨by decide +kernel, by decide +kernel, by decide +kernel⟩
theorem k_X0_253_17 : Cs "NoFartherThanAThrow" (.invokevirtual 253) 1 (some 17) YX17_kind := cs_U (Y := YX17_kind) (RX17, TX17, 3) "NoFartherThanAThrow$Thing" ⟨"NoFartherThanAThrow$Thing", "kind", "()I"⟩ rfl rfl q888 q891 (Or.inr ⟨_, _, _, q889, q910⟩) q904 q905 q106 q906 ⟨by decide +kernel, by decide +kernel, by decide +kernel⟩
theorem k_X0_253_18 : Cs "NoFartherThanAThrow" (.invokevirtual 253) 1 (some 18) YX18_kind := cs_U (Y := YX18_kind) (RX18, TX18, 3) "NoFartherThanAThrow$Thing" ⟨"NoFartherThanAThrow$Thing", "kind", "()I"⟩ rfl rfl q888 q891 (Or.inr ⟨_, _, _, q889, q910⟩) q907 q908 q107 q909 ⟨by decide +kernel, by decide +kernel, by decide +kernel⟩
theorem k_X0_284_3 : Cs "NoFartherThanAThrow" (.invokevirtual 284) 1 (some 3) YX3_again := cs_V (Y := YX3_again) (RX3, TX3, 18) rfl rfl (lw_V q928 q929 q930 q82 q931) ⟨by decide +kernel, by decide +kernel, by decide +kernel, by decide +kernel⟩
theorem k_X0_289_19 : Cs "NoFartherThanAThrow" (.invokespecial 289) 3 (some 19) YX19_init := cs_I (Y := YX19_init) rfl q939 q108 q937 q938 ⟨by decide +kernel, by decide +kernel, by decide +kernel, by decide +kernel⟩
theorem k_X0_292_19 : Cs "NoFartherThanAThrow" (.invokevirtual 292) 1 (some 19) YX19_items := cs_V (Y := YX19_items) (RX19, TX19, 3) rfl rfl (lw_V q951 q952 q953 q108 q954) ⟨by decide +kernel, by decide +kernel, by decide +kernel, by decide +kernel⟩
theorem k_X0_300_0 : Cs "NoFartherThanAThrow" (.invokevirtual 300) 3 (some 0) YX0_must := cs_V (Y := YX0_must) (RX0, TX0, 9) rfl rfl (lw_V q1086 q1088 qs18 q79 q1089) ⟨by decide +kernel, by decide +kernel, by decide +kernel, by decide +kernel⟩
theorem k_X0_304_3 : Cs "NoFartherThanAThrow" (.invokevirtual 304) 3 (some 3) YX3_far := cs_V (Y := YX3_far) (RX3, TX3, 18) rfl rfl (lw_V q1090 q1091 q1092 q82 q1093) ⟨by decide +kernel, by decide +kernel, by decide +kernel, by decide +kernel⟩
theorem k_X0_307_3 : Cs "NoFartherThanAThrow" (.invokevirtual 307) 4 (some 3) YX3_wrong := cs_V (Y := YX3_wrong) (RX3, TX3, 18) rfl rfl (lw_V q1115 q1116 q1117 q82 q1118) ⟨by decide +kernel, by decide +kernel, by decide +kernel, by decide +kernel⟩
theorem k_X0_311_3 : Cs "NoFartherThanAThrow" (.invokevirtual 311) 4 (some 3) YX3_carry := cs_V (Y := YX3_carry) (RX3, TX3, 18) rfl rfl (lw_V q1127 q1128 q1129 q82 q1130) ⟨by decide +kernel, by decide +kernel, by decide +kernel, by decide +kernel⟩
theorem k_X0_317_0 : Cs "NoFartherThanAThrow" (.invokevirtual 317) 2 (some 0) YX0_isSet := cs_V (Y := YX0_isSet) (RX0, TX0, 9) rfl rfl (lw_V q1144 q1146 qs19 q79 q1147) ⟨by decide +kernel, by decide +kernel, by decide +kernel, by decide +kernel⟩
theorem k_X0_320_0 : Cs "NoFartherThanAThrow" (.invokevirtual 320) 3 (some 0) YX0_reachOf := cs_V (Y := YX0_reachOf) (RX0, TX0, 9) rfl rfl (lw_V q1148 q1150 qs20 q79 q1151) ⟨by decide +kernel, by decide +kernel, by decide +kernel, by decide +kernel⟩
theorem k_X0_324_0 : Cs "NoFartherThanAThrow" (.invokevirtual 324) 3 (some 0) YX0_mustEnd := cs_V (Y := YX0_mustEnd) (RX0, TX0, 9) rfl rfl (lw_V q1171 q1173 qs22 q79 q1174) ⟨by decide +kernel, by decide +kernel, by decide +kernel, by decide +kernel⟩
theorem k_X0_327_0 : Cs "NoFartherThanAThrow" (.invokevirtual 327) 4 (some 0) YX0_isDone := cs_V (Y := YX0_isDone) (RX0, TX0, 9) rfl rfl (lw_V q1167 q1169 qs21 q79 q1170) ⟨by decide +kernel, by decide +kernel, by decide +kernel, by decide +kernel⟩
theorem k_X0_331 : Cs "NoFartherThanAThrow" (.invokestatic 331) 1 none YJ12_bitCount := cs_S (Y := YJ12_bitCount) rfl (lw_S q1179 q1180 q113 q1181) ⟨by decide +kernel, by decide +kernel, by decide +kernel⟩
theorem k_X0_336_0 : Cs "NoFartherThanAThrow" (.invokevirtual 336) 5 (some 0) YX0_nextOf := cs_V (Y := YX0_nextOf) (RX0, TX0, 9) rfl rfl (lw_V q1189 q1191 qs23 q79 q1192) ⟨by decide +kernel, by decide +kernel, by decide +kernel, by decide +kernel⟩
theorem k_X0_340_3 : Cs "NoFartherThanAThrow" (.invokevirtual 340) 4 (some 3) YX3_brings := cs_V (Y := YX3_brings) (RX3, TX3, 18) rfl rfl (lw_V q1193 q1159 q1160 q82 q1161) ⟨by decide +kernel, by decide +kernel, by decide +kernel, by decide +kernel⟩
theorem k_X0_343_0 : Cs "NoFartherThanAThrow" (.invokevirtual 343) 3 (some 0) YX0_goesOn := cs_V (Y := YX0_goesOn) (RX0, TX0, 9) rfl rfl (lw_V q1198 q1200 qs24 q79 q1201) ⟨by decide +kernel, by decide +kernel, by decide +kernel, by decide +kernel⟩
theorem k_X0_347_2 : Cs "NoFartherThanAThrow" (.invokevirtual 347) 2 (some 2) YX2_share := cs_V (Y := YX2_share) (RX2, TX2, 5) rfl rfl (lw_V q1206 q1207 q1208 q81 q1209) ⟨by decide +kernel, by decide +kernel, by decide +kernel, by decide +kernel⟩
theorem k_X0_357_12 : Cs "NoFartherThanAThrow" (.invokevirtual 357) 3 (some 12) YX12_far := cs_V (Y := YX12_far) (RX12, TX12, 3) rfl rfl (lw_V q1228 q635 q1941 q101 q636) ⟨by decide +kernel, by decide +kernel, by decide +kernel, by decide +kernel⟩
theorem k_X0_357_13 : Cs "NoFartherThanAThrow" (.invokevirtual 357) 3 (some 13) YX13_far := cs_U (Y := YX13_far) (RX13, TX13, 3) "NoFartherThanAThrow$Thing" ⟨"NoFartherThanAThrow$Thing", "far", "(II)I"⟩ rfl rfl q1228 q1932 (Or.inr ⟨_, _, _, q635, q636⟩) q1936 q1099 q102 q1100 ⟨by decide +kernel, by decide +kernel, by decide +kernel⟩
theorem k_X0_357_14 : Cs "NoFartherThanAThrow" (.invokevirtual 357) 3 (some 14) YX14_far := cs_U (Y := YX14_far) (RX14, TX14, 3) "NoFartherThanAThrow$Thing" ⟨"NoFartherThanAThrow$Thing", "far", "(II)I"⟩ rfl rfl q1228 q1932 (Or.inr ⟨_, _, _, q635, q636⟩) q1937 q624 q103 q632 ⟨by decide +kernel, by decide +kernel, by decide +kernel⟩
theorem k_X0_357_15 : Cs "NoFartherThanAThrow" (.invokevirtual 357) 3 (some 15) YX15_far := cs_U (Y := YX15_far) (RX15, TX15, 3) "NoFartherThanAThrow$Thing" ⟨"NoFartherThanAThrow$Thing", "far", "(II)I"⟩ rfl rfl q1228 q1932 (Or.inr ⟨_, _, _, q635, q636⟩) q1934 q628 q104 q629 ⟨by decide +kernel, by decide +kernel, by decide +kernel⟩
theorem k_X0_357_16 : Cs "NoFartherThanAThrow" (.invokevirtual 357) 3 (some 16) YX16_far := cs_U (Y := YX16_far) (RX16, TX16, 3) "NoFartherThanAThrow$Thing" ⟨"NoFartherThanAThrow$Thing", "far", "(II)I"⟩ rfl rfl q1228 q1932 (Or.inr ⟨_, _, _, q635, q636⟩) q1935 q1095 q105 q1096 ⟨by decide +kernel, by decide +kernel, by decide +kernel⟩
theorem k_X0_357_17 : Cs "NoFartherThanAThrow" (.invokevirtual 357) 3 (some 17) YX13_far := cs_U (Y := YX13_far) (RX17, TX17, 3) "NoFartherThanAThrow$Thing" ⟨"NoFartherThanAThrow$Thing", "far", "(II)I"⟩ rfl rfl q1228 q1932 (Or.inr ⟨_, _, _, q635, q636⟩) q1938 q1099 q102 q1100 ⟨by decide +kernel, by decide +kernel, by decide +kernel⟩
theorem k_X0_357_18 : Cs "NoFartherThanAThrow" (.invokevirtual 357) 3 (some 18) YX18_far := cs_U (Y := YX18_far) (RX18, TX18, 3) "NoFartherThanAThrow$Thing" ⟨"NoFartherThanAThrow$Thing", "far", "(II)I"⟩ rfl rfl q1228 q1932 (Or.inr ⟨_, _, _, q635, q636⟩) q1939 q1108 q107 q1109 ⟨by decide +kernel, by decide +kernel, by decide +kernel⟩
theorem k_X0_360 : Cs "NoFartherThanAThrow" (.invokestatic 360) 1 none YX0_caughtBy := cs_S (Y := YX0_caughtBy) rfl (lw_S q1242 q1243 q79 q1244) ⟨by decide +kernel, by decide +kernel, by decide +kernel⟩
theorem k_X0_363_3 : Cs "NoFartherThanAThrow" (.invokevirtual 363) 4 (some 3) YX3_mayThrow := cs_V (Y := YX3_mayThrow) (RX3, TX3, 18) rfl rfl (lw_V q1253 q1254 q1255 q82 q1256) ⟨by decide +kernel, by decide +kernel, by decide +kernel, by decide +kernel⟩
theorem k_X0_366_0 : Cs "NoFartherThanAThrow" (.invokevirtual 366) 4 (some 0) YX0_meanOf := cs_V (Y := YX0_meanOf) (RX0, TX0, 9) rfl rfl (lw_V q1249 q1251 qs27 q79 q1252) ⟨by decide +kernel, by decide +kernel, by decide +kernel, by decide +kernel⟩
theorem k_X0_369_3 : Cs "NoFartherThanAThrow" (.invokevirtual 369) 2 (some 3) YX3_draw := cs_V (Y := YX3_draw) (RX3, TX3, 18) rfl rfl (lw_V q1266 q1267 q1268 q82 q1269) ⟨by decide +kernel, by decide +kernel, by decide +kernel, by decide +kernel⟩
theorem k_X0_372_12 : Cs "NoFartherThanAThrow" (.invokevirtual 372) 1 (some 12) YX12_breaks := cs_V (Y := YX12_breaks) (RX12, TX12, 3) rfl rfl (lw_V q1271 q1272 q1273 q101 q1284) ⟨by decide +kernel, by decide +kernel, by decide +kernel, by decide +kernel⟩
theorem k_X0_372_13 : Cs "NoFartherThanAThrow" (.invokevirtual 372) 1 (some 13) YX12_breaks := cs_U (Y := YX12_breaks) (RX13, TX13, 3) "NoFartherThanAThrow$Thing" ⟨"NoFartherThanAThrow$Thing", "breaks", "()Z"⟩ rfl rfl q1271 q1274 (Or.inr ⟨_, _, _, q1272, q1284⟩) q1280 q1272 q101 q1284 ⟨by decide +kernel, by decide +kernel, by decide +kernel⟩
theorem k_X0_372_14 : Cs "NoFartherThanAThrow" (.invokevirtual 372) 1 (some 14) YX12_breaks := cs_U (Y := YX12_breaks) (RX14, TX14, 3) "NoFartherThanAThrow$Thing" ⟨"NoFartherThanAThrow$Thing", "breaks", "()Z"⟩ rfl rfl q1271 q1274 (Or.inr ⟨_, _, _, q1272, q1284⟩) q1281 q1272 q101 q1284 ⟨by decide +kernel, by decide +kernel, by decide +kernel⟩
theorem k_X0_372_15 : Cs "NoFartherThanAThrow" (.invokevirtual 372) 1 (some 15) YX12_breaks := cs_U (Y := YX12_breaks) (RX15, TX15, 3) "NoFartherThanAThrow$Thing" ⟨"NoFartherThanAThrow$Thing", "breaks", "()Z"⟩ rfl rfl q1271 q1274 (Or.inr ⟨_, _, _, q1272, q1284⟩) q1275 q1272 q101 q1284 ⟨by decide +kernel, by decide +kernel, by decide +kernel⟩
theorem k_X0_372_16 : Cs "NoFartherThanAThrow" (.invokevirtual 372) 1 (some 16) YX16_breaks := cs_U (Y := YX16_breaks) (RX16, TX16, 3) "NoFartherThanAThrow$Thing" ⟨"NoFartherThanAThrow$Thing", "breaks", "()Z"⟩ rfl rfl q1271 q1274 (Or.inr ⟨_, _, _, q1272, q1284⟩) q1276 q1277 q105 q1278 ⟨by decide +kernel, by decide +kernel, by decide +kernel⟩
theorem k_X0_372_17 : Cs "NoFartherThanAThrow" (.invokevirtual 372) 1 (some 17) YX12_breaks := cs_U (Y := YX12_breaks) (RX17, TX17, 3) "NoFartherThanAThrow$Thing" ⟨"NoFartherThanAThrow$Thing", "breaks", "()Z"⟩ rfl rfl q1271 q1274 (Or.inr ⟨_, _, _, q1272, q1284⟩) q1282 q1272 q101 q1284 ⟨by decide +kernel, by decide +kernel, by decide +kernel⟩
theorem k_X0_372_18 : Cs "NoFartherThanAThrow" (.invokevirtual 372) 1 (some 18) YX12_breaks := cs_U (Y := YX12_breaks) (RX18, TX18, 3) "NoFartherThanAThrow$Thing" ⟨"NoFartherThanAThrow$Thing", "breaks", "()Z"⟩ rfl rfl q1271 q1274 (Or.inr ⟨_, _, _, q1272, q1284⟩) q1283 q1272 q101 q1284 ⟨by decide +kernel, by decide +kernel, by decide +kernel⟩
theorem k_X0_375_3 : Cs "NoFartherThanAThrow" (.invokevirtual 375) 3 (some 3) YX3_tires := cs_V (Y := YX3_tires) (RX3, TX3, 18) rfl rfl (lw_V q1285 q1132 q1133 q82 q1134) ⟨by decide +kernel, by decide +kernel, by decide +kernel, by decide +kernel⟩
theorem k_X0_378_12 : Cs "NoFartherThanAThrow" (.invokevirtual 378) 1 (some 12) YX12_counts := cs_V (Y := YX12_counts) (RX12, TX12, 3) rfl rfl (lw_V q1290 q652 q653 q101 q668) ⟨by decide +kernel, by decide +kernel, by decide +kernel, by decide +kernel⟩
theorem k_X0_378_13 : Cs "NoFartherThanAThrow" (.invokevirtual 378) 1 (some 13) YX12_counts := cs_U (Y := YX12_counts) (RX13, TX13, 3) "NoFartherThanAThrow$Thing" ⟨"NoFartherThanAThrow$Thing", "counts", "()I"⟩ rfl rfl q1290 q654 (Or.inl q664) q657 q652 q101 q668 ⟨by decide +kernel, by decide +kernel, by decide +kernel⟩
theorem k_X0_378_14 : Cs "NoFartherThanAThrow" (.invokevirtual 378) 1 (some 14) YX12_counts := cs_U (Y := YX12_counts) (RX14, TX14, 3) "NoFartherThanAThrow$Thing" ⟨"NoFartherThanAThrow$Thing", "counts", "()I"⟩ rfl rfl q1290 q654 (Or.inl q664) q658 q652 q101 q668 ⟨by decide +kernel, by decide +kernel, by decide +kernel⟩
theorem k_X0_378_15 : Cs "NoFartherThanAThrow" (.invokevirtual 378) 1 (some 15) YX12_counts := cs_U (Y := YX12_counts) (RX15, TX15, 3) "NoFartherThanAThrow$Thing" ⟨"NoFartherThanAThrow$Thing", "counts", "()I"⟩ rfl rfl q1290 q654 (Or.inl q664) q655 q652 q101 q668 ⟨by decide +kernel, by decide +kernel, by decide +kernel⟩
theorem k_X0_378_16 : Cs "NoFartherThanAThrow" (.invokevirtual 378) 1 (some 16) YX12_counts := cs_U (Y := YX12_counts) (RX16, TX16, 3) "NoFartherThanAThrow$Thing" ⟨"NoFartherThanAThrow$Thing", "counts", "()I"⟩ rfl rfl q1290 q654 (Or.inl q664) q656 q652 q101 q668 ⟨by decide +kernel, by decide +kernel, by decide +kernel⟩
theorem k_X0_378_17 : Cs "NoFartherThanAThrow" (.invokevirtual 378) 1 (some 17) YX17_counts := cs_U (Y := YX17_counts) (RX17, TX17, 3) "NoFartherThanAThrow$Thing" ⟨"NoFartherThanAThrow$Thing", "counts", "()I"⟩ rfl rfl q1290 q654 (Or.inl q664) q659 q660 q106 q661 ⟨by decide +kernel, by decide +kernel, by decide +kernel⟩
theorem k_X0_378_18 : Cs "NoFartherThanAThrow" (.invokevirtual 378) 1 (some 18) YX12_counts := cs_U (Y := YX12_counts) (RX18, TX18, 3) "NoFartherThanAThrow$Thing" ⟨"NoFartherThanAThrow$Thing", "counts", "()I"⟩ rfl rfl q1290 q654 (Or.inl q664) q667 q652 q101 q668 ⟨by decide +kernel, by decide +kernel, by decide +kernel⟩
theorem k_X0_381_3 : Cs "NoFartherThanAThrow" (.invokevirtual 381) 7 (some 3) YX3_putThing := cs_V (Y := YX3_putThing) (RX3, TX3, 18) rfl rfl (lw_V q1291 q719 q720 q82 q721) ⟨by decide +kernel, by decide +kernel, by decide +kernel, by decide +kernel⟩
theorem k_X0_385_0 : Cs "NoFartherThanAThrow" (.invokevirtual 385) 1 (some 0) YX0_shelvesFollow := cs_V (Y := YX0_shelvesFollow) (RX0, TX0, 9) rfl rfl (lw_V q1292 q1294 qs28 q79 q1295) ⟨by decide +kernel, by decide +kernel, by decide +kernel, by decide +kernel⟩
theorem k_X0_394_12 : Cs "NoFartherThanAThrow" (.invokevirtual 394) 3 (some 12) YX12_going := cs_V (Y := YX12_going) (RX12, TX12, 3) rfl rfl (lw_V q1308 q1309 q1310 q101 q1333) ⟨by decide +kernel, by decide +kernel, by decide +kernel, by decide +kernel⟩
theorem k_X0_394_13 : Cs "NoFartherThanAThrow" (.invokevirtual 394) 3 (some 13) YX13_going := cs_U (Y := YX13_going) (RX13, TX13, 3) "NoFartherThanAThrow$Thing" ⟨"NoFartherThanAThrow$Thing", "going", "(ILNoFartherThanAThrow$Trace;)I"⟩ rfl rfl q1308 q1311 (Or.inr ⟨_, _, _, q1309, q1333⟩) q1321 q1322 q102 q1323 ⟨by decide +kernel, by decide +kernel, by decide +kernel⟩
theorem k_X0_394_14 : Cs "NoFartherThanAThrow" (.invokevirtual 394) 3 (some 14) YX12_going := cs_U (Y := YX12_going) (RX14, TX14, 3) "NoFartherThanAThrow$Thing" ⟨"NoFartherThanAThrow$Thing", "going", "(ILNoFartherThanAThrow$Trace;)I"⟩ rfl rfl q1308 q1311 (Or.inr ⟨_, _, _, q1309, q1333⟩) q1326 q1309 q101 q1333 ⟨by decide +kernel, by decide +kernel, by decide +kernel⟩
theorem k_X0_394_15 : Cs "NoFartherThanAThrow" (.invokevirtual 394) 3 (some 15) YX12_going := cs_U (Y := YX12_going) (RX15, TX15, 3) "NoFartherThanAThrow$Thing" ⟨"NoFartherThanAThrow$Thing", "going", "(ILNoFartherThanAThrow$Trace;)I"⟩ rfl rfl q1308 q1311 (Or.inr ⟨_, _, _, q1309, q1333⟩) q1312 q1309 q101 q1333 ⟨by decide +kernel, by decide +kernel, by decide +kernel⟩
theorem k_X0_394_16 : Cs "NoFartherThanAThrow" (.invokevirtual 394) 3 (some 16) YX16_going := cs_U (Y := YX16_going) (RX16, TX16, 3) "NoFartherThanAThrow$Thing" ⟨"NoFartherThanAThrow$Thing", "going", "(ILNoFartherThanAThrow$Trace;)I"⟩ rfl rfl q1308 q1311 (Or.inr ⟨_, _, _, q1309, q1333⟩) q1313 q1314 q105 q1315 ⟨by decide +kernel, by decide +kernel, by decide +kernel⟩
theorem k_X0_394_17 : Cs "NoFartherThanAThrow" (.invokevirtual 394) 3 (some 17) YX13_going := cs_U (Y := YX13_going) (RX17, TX17, 3) "NoFartherThanAThrow$Thing" ⟨"NoFartherThanAThrow$Thing", "going", "(ILNoFartherThanAThrow$Trace;)I"⟩ rfl rfl q1308 q1311 (Or.inr ⟨_, _, _, q1309, q1333⟩) q1327 q1322 q102 q1323 ⟨by decide +kernel, by decide +kernel, by decide +kernel⟩
theorem k_X0_394_18 : Cs "NoFartherThanAThrow" (.invokevirtual 394) 3 (some 18) YX18_going := cs_U (Y := YX18_going) (RX18, TX18, 3) "NoFartherThanAThrow$Thing" ⟨"NoFartherThanAThrow$Thing", "going", "(ILNoFartherThanAThrow$Trace;)I"⟩ rfl rfl q1308 q1311 (Or.inr ⟨_, _, _, q1309, q1333⟩) q1328 q1329 q107 q1330 ⟨by decide +kernel, by decide +kernel, by decide +kernel⟩
theorem k_X0_398_12 : Cs "NoFartherThanAThrow" (.invokevirtual 398) 3 (some 12) YX12_resting := cs_V (Y := YX12_resting) (RX12, TX12, 3) rfl rfl (lw_V q1335 q1336 q1337 q101 q1359) ⟨by decide +kernel, by decide +kernel, by decide +kernel, by decide +kernel⟩
theorem k_X0_398_13 : Cs "NoFartherThanAThrow" (.invokevirtual 398) 3 (some 13) YX12_resting := cs_U (Y := YX12_resting) (RX13, TX13, 3) "NoFartherThanAThrow$Thing" ⟨"NoFartherThanAThrow$Thing", "resting", "(ILNoFartherThanAThrow$Trace;)I"⟩ rfl rfl q1335 q1338 (Or.inl q1357) q1349 q1336 q101 q1359 ⟨by decide +kernel, by decide +kernel, by decide +kernel⟩
theorem k_X0_398_14 : Cs "NoFartherThanAThrow" (.invokevirtual 398) 3 (some 14) YX14_resting := cs_U (Y := YX14_resting) (RX14, TX14, 3) "NoFartherThanAThrow$Thing" ⟨"NoFartherThanAThrow$Thing", "resting", "(ILNoFartherThanAThrow$Trace;)I"⟩ rfl rfl q1335 q1338 (Or.inl q1357) q1350 q1344 q103 q1345 ⟨by decide +kernel, by decide +kernel, by decide +kernel⟩
theorem k_X0_398_15 : Cs "NoFartherThanAThrow" (.invokevirtual 398) 3 (some 15) YX15_resting := cs_U (Y := YX15_resting) (RX15, TX15, 3) "NoFartherThanAThrow$Thing" ⟨"NoFartherThanAThrow$Thing", "resting", "(ILNoFartherThanAThrow$Trace;)I"⟩ rfl rfl q1335 q1338 (Or.inl q1357) q1339 q1340 q104 q1341 ⟨by decide +kernel, by decide +kernel, by decide +kernel⟩
theorem k_X0_398_16 : Cs "NoFartherThanAThrow" (.invokevirtual 398) 3 (some 16) YX12_resting := cs_U (Y := YX12_resting) (RX16, TX16, 3) "NoFartherThanAThrow$Thing" ⟨"NoFartherThanAThrow$Thing", "resting", "(ILNoFartherThanAThrow$Trace;)I"⟩ rfl rfl q1335 q1338 (Or.inl q1357) q1348 q1336 q101 q1359 ⟨by decide +kernel, by decide +kernel, by decide +kernel⟩
theorem k_X0_398_17 : Cs "NoFartherThanAThrow" (.invokevirtual 398) 3 (some 17) YX17_resting := cs_U (Y := YX17_resting) (RX17, TX17, 3) "NoFartherThanAThrow$Thing" ⟨"NoFartherThanAThrow$Thing", "resting", "(ILNoFartherThanAThrow$Trace;)I"⟩ rfl rfl q1335 q1338 (Or.inl q1357) q1351 q1352 q106 q1353 ⟨by decide +kernel, by decide +kernel, by decide +kernel⟩
theorem k_X0_398_18 : Cs "NoFartherThanAThrow" (.invokevirtual 398) 3 (some 18) YX12_resting := cs_U (Y := YX12_resting) (RX18, TX18, 3) "NoFartherThanAThrow$Thing" ⟨"NoFartherThanAThrow$Thing", "resting", "(ILNoFartherThanAThrow$Trace;)I"⟩ rfl rfl q1335 q1338 (Or.inl q1357) q1358 q1336 q101 q1359 ⟨by decide +kernel, by decide +kernel, by decide +kernel⟩
theorem k_X0_401_12 : Cs "NoFartherThanAThrow" (.invokevirtual 401) 3 (some 12) YX12_falling := cs_V (Y := YX12_falling) (RX12, TX12, 3) rfl rfl (lw_V q1361 q1362 q1363 q101 q1379) ⟨by decide +kernel, by decide +kernel, by decide +kernel, by decide +kernel⟩
theorem k_X0_401_13 : Cs "NoFartherThanAThrow" (.invokevirtual 401) 3 (some 13) YX12_falling := cs_U (Y := YX12_falling) (RX13, TX13, 3) "NoFartherThanAThrow$Thing" ⟨"NoFartherThanAThrow$Thing", "falling", "(ILNoFartherThanAThrow$Trace;)I"⟩ rfl rfl q1361 q1364 (Or.inl q1378) q1370 q1362 q101 q1379 ⟨by decide +kernel, by decide +kernel, by decide +kernel⟩
theorem k_X0_401_14 : Cs "NoFartherThanAThrow" (.invokevirtual 401) 3 (some 14) YX12_falling := cs_U (Y := YX12_falling) (RX14, TX14, 3) "NoFartherThanAThrow$Thing" ⟨"NoFartherThanAThrow$Thing", "falling", "(ILNoFartherThanAThrow$Trace;)I"⟩ rfl rfl q1361 q1364 (Or.inl q1378) q1371 q1362 q101 q1379 ⟨by decide +kernel, by decide +kernel, by decide +kernel⟩
theorem k_X0_401_15 : Cs "NoFartherThanAThrow" (.invokevirtual 401) 3 (some 15) YX12_falling := cs_U (Y := YX12_falling) (RX15, TX15, 3) "NoFartherThanAThrow$Thing" ⟨"NoFartherThanAThrow$Thing", "falling", "(ILNoFartherThanAThrow$Trace;)I"⟩ rfl rfl q1361 q1364 (Or.inl q1378) q1365 q1362 q101 q1379 ⟨by decide +kernel, by decide +kernel, by decide +kernel⟩
theorem k_X0_401_16 : Cs "NoFartherThanAThrow" (.invokevirtual 401) 3 (some 16) YX16_falling := cs_U (Y := YX16_falling) (RX16, TX16, 3) "NoFartherThanAThrow$Thing" ⟨"NoFartherThanAThrow$Thing", "falling", "(ILNoFartherThanAThrow$Trace;)I"⟩ rfl rfl q1361 q1364 (Or.inl q1378) q1366 q1367 q105 q1368 ⟨by decide +kernel, by decide +kernel, by decide +kernel⟩
theorem k_X0_401_17 : Cs "NoFartherThanAThrow" (.invokevirtual 401) 3 (some 17) YX12_falling := cs_U (Y := YX12_falling) (RX17, TX17, 3) "NoFartherThanAThrow$Thing" ⟨"NoFartherThanAThrow$Thing", "falling", "(ILNoFartherThanAThrow$Trace;)I"⟩ rfl rfl q1361 q1364 (Or.inl q1378) q1372 q1362 q101 q1379 ⟨by decide +kernel, by decide +kernel, by decide +kernel⟩
theorem k_X0_401_18 : Cs "NoFartherThanAThrow" (.invokevirtual 401) 3 (some 18) YX18_falling := cs_U (Y := YX18_falling) (RX18, TX18, 3) "NoFartherThanAThrow$Thing" ⟨"NoFartherThanAThrow$Thing", "falling", "(ILNoFartherThanAThrow$Trace;)I"⟩ rfl rfl q1361 q1364 (Or.inl q1378) q1373 q1374 q107 q1375 ⟨by decide +kernel, by decide +kernel, by decide +kernel⟩
theorem k_X0_404 : Cs "NoFartherThanAThrow" (.invokestatic 404) 2 none YJ8_min := cs_S (Y := YJ8_min) rfl (lw_S q1385 q670 q100 q671) ⟨by decide +kernel, by decide +kernel, by decide +kernel⟩
theorem k_X8_1_10 : Cs "NoFartherThanAThrow$Bytes" (.invokespecial 1) 1 (some 10) YX7_init := cs_I (Y := YX7_init) rfl q442 q93 q440 q441 ⟨by decide +kernel, by decide +kernel, by decide +kernel, by decide +kernel⟩
theorem k_X8_1_11 : Cs "NoFartherThanAThrow$Bytes" (.invokespecial 1) 1 (some 11) YX7_init := cs_I (Y := YX7_init) rfl q442 q93 q440 q441 ⟨by decide +kernel, by decide +kernel, by decide +kernel, by decide +kernel⟩
theorem k_X8_1_8 : Cs "NoFartherThanAThrow$Bytes" (.invokespecial 1) 1 (some 8) YX7_init := cs_I (Y := YX7_init) rfl q442 q93 q440 q441 ⟨by decide +kernel, by decide +kernel, by decide +kernel, by decide +kernel⟩
theorem k_X8_1_9 : Cs "NoFartherThanAThrow$Bytes" (.invokespecial 1) 1 (some 9) YX7_init := cs_I (Y := YX7_init) rfl q442 q93 q440 q441 ⟨by decide +kernel, by decide +kernel, by decide +kernel, by decide +kernel⟩
theorem k_X20_1_20 : Cs "NoFartherThanAThrow$Faulty" (.invokespecial 1) 5 (some 20) YJ1_init_2 := cs_I (Y := YJ1_init_2) rfl q401 q86 q1038 q400 ⟨by decide +kernel, by decide +kernel, by decide +kernel, by decide +kernel⟩
theorem k_X20_1_6 : Cs "NoFartherThanAThrow$Faulty" (.invokespecial 1) 5 (some 6) YJ1_init_2 := cs_I (Y := YJ1_init_2) rfl q401 q86 q1038 q400 ⟨by decide +kernel, by decide +kernel, by decide +kernel, by decide +kernel⟩
theorem k_X15_3_14 : Cs "NoFartherThanAThrow$Feather" (.invokespecial 3) 4 (some 14) YX14_init := cs_I (Y := YX14_init) rfl q765 q103 q775 q764 ⟨by decide +kernel, by decide +kernel, by decide +kernel, by decide +kernel⟩
theorem k_X15_3_15 : Cs "NoFartherThanAThrow$Feather" (.invokespecial 3) 4 (some 15) YX14_init := cs_I (Y := YX14_init) rfl q765 q103 q775 q764 ⟨by decide +kernel, by decide +kernel, by decide +kernel, by decide +kernel⟩
theorem k_X15_9_15 : Cs "NoFartherThanAThrow$Feather" (.invokespecial 9) 3 (some 15) YX14_far := cs_SU (Y := YX14_far) (RX15, TX15, 3) rfl rfl (lw_app (by intro w hw; simp only [List.mem_cons, List.not_mem_nil, or_false] at hw; rcases hw with e | e | e | e | e <;> rw [e] <;> first | exact q630 | exact q626 | exact q631 | exact q624 | exact q103) (lw_meth q632)) ⟨by decide +kernel, by decide +kernel⟩
theorem k_X15_13_1 : Cs "NoFartherThanAThrow$Feather" (.invokevirtual 13) 2 (some 1) YX1_runs := cs_V (Y := YX1_runs) (RX1, TX1, 2) rfl rfl (lw_V q1342 q1317 q1318 q80 q1319) ⟨by decide +kernel, by decide +kernel, by decide +kernel, by decide +kernel⟩
theorem k_X15_19_15 : Cs "NoFartherThanAThrow$Feather" (.invokespecial 19) 3 (some 15) YX14_resting := cs_SU (Y := YX14_resting) (RX15, TX15, 3) rfl rfl (lw_app (by intro w hw; simp only [List.mem_cons, List.not_mem_nil, or_false] at hw; rcases hw with e | e | e | e | e <;> rw [e] <;> first | exact q1343 | exact q1943 | exact q631 | exact q1344 | exact q103) (lw_meth q1345)) ⟨by decide +kernel, by decide +kernel⟩
theorem k_X16_3_12 : Cs "NoFartherThanAThrow$Glass" (.invokespecial 3) 4 (some 12) YX12_init := cs_I (Y := YX12_init) rfl q732 q101 q784 q731 ⟨by decide +kernel, by decide +kernel, by decide +kernel, by decide +kernel⟩
theorem k_X16_3_13 : Cs "NoFartherThanAThrow$Glass" (.invokespecial 3) 4 (some 13) YX12_init := cs_I (Y := YX12_init) rfl q732 q101 q784 q731 ⟨by decide +kernel, by decide +kernel, by decide +kernel, by decide +kernel⟩
theorem k_X16_3_14 : Cs "NoFartherThanAThrow$Glass" (.invokespecial 3) 4 (some 14) YX12_init := cs_I (Y := YX12_init) rfl q732 q101 q784 q731 ⟨by decide +kernel, by decide +kernel, by decide +kernel, by decide +kernel⟩
theorem k_X16_3_15 : Cs "NoFartherThanAThrow$Glass" (.invokespecial 3) 4 (some 15) YX12_init := cs_I (Y := YX12_init) rfl q732 q101 q784 q731 ⟨by decide +kernel, by decide +kernel, by decide +kernel, by decide +kernel⟩
theorem k_X16_3_16 : Cs "NoFartherThanAThrow$Glass" (.invokespecial 3) 4 (some 16) YX12_init := cs_I (Y := YX12_init) rfl q732 q101 q784 q731 ⟨by decide +kernel, by decide +kernel, by decide +kernel, by decide +kernel⟩
theorem k_X16_3_17 : Cs "NoFartherThanAThrow$Glass" (.invokespecial 3) 4 (some 17) YX12_init := cs_I (Y := YX12_init) rfl q732 q101 q784 q731 ⟨by decide +kernel, by decide +kernel, by decide +kernel, by decide +kernel⟩
theorem k_X16_3_18 : Cs "NoFartherThanAThrow$Glass" (.invokespecial 3) 4 (some 18) YX12_init := cs_I (Y := YX12_init) rfl q732 q101 q784 q731 ⟨by decide +kernel, by decide +kernel, by decide +kernel, by decide +kernel⟩
theorem k_X16_9_16 : Cs "NoFartherThanAThrow$Glass" (.invokespecial 9) 3 (some 16) YX12_far := cs_SU (Y := YX12_far) (RX16, TX16, 3) rfl rfl (lw_app (by intro w hw; simp only [List.mem_cons, List.not_mem_nil, or_false] at hw; rcases hw with e | e | e | e | e <;> rw [e] <;> first | exact q1097 | exact q1932 | exact q788 | exact q635 | exact q101) (lw_meth q636)) ⟨by decide +kernel, by decide +kernel⟩
theorem k_X16_13 : Cs "NoFartherThanAThrow$Glass" (.invokestatic 13) 2 none YJ8_min := cs_S (Y := YJ8_min) rfl (lw_S q1098 q670 q100 q671) ⟨by decide +kernel, by decide +kernel, by decide +kernel⟩
theorem k_X16_18_16 : Cs "NoFartherThanAThrow$Glass" (.invokespecial 18) 1 (some 16) YX12_breaks := cs_SU (Y := YX12_breaks) (RX16, TX16, 3) rfl rfl (lw_app (by intro w hw; simp only [List.mem_cons, List.not_mem_nil, or_false] at hw; rcases hw with e | e | e | e | e <;> rw [e] <;> first | exact q1279 | exact q1274 | exact q788 | exact q1272 | exact q101) (lw_meth q1284)) ⟨by decide +kernel, by decide +kernel⟩
theorem k_X16_34_1 : Cs "NoFartherThanAThrow$Glass" (.invokevirtual 34) 2 (some 1) YX1_runs := cs_V (Y := YX1_runs) (RX1, TX1, 2) rfl rfl (lw_V q1316 q1317 q1318 q80 q1319) ⟨by decide +kernel, by decide +kernel, by decide +kernel, by decide +kernel⟩
theorem k_X16_40_16 : Cs "NoFartherThanAThrow$Glass" (.invokespecial 40) 3 (some 16) YX12_going := cs_SU (Y := YX12_going) (RX16, TX16, 3) rfl rfl (lw_app (by intro w hw; simp only [List.mem_cons, List.not_mem_nil, or_false] at hw; rcases hw with e | e | e | e | e <;> rw [e] <;> first | exact q1320 | exact q1311 | exact q788 | exact q1309 | exact q101) (lw_meth q1333)) ⟨by decide +kernel, by decide +kernel⟩
theorem k_X16_47_16 : Cs "NoFartherThanAThrow$Glass" (.invokespecial 47) 3 (some 16) YX12_falling := cs_SU (Y := YX12_falling) (RX16, TX16, 3) rfl rfl (lw_app (by intro w hw; simp only [List.mem_cons, List.not_mem_nil, or_false] at hw; rcases hw with e | e | e | e | e <;> rw [e] <;> first | exact q1369 | exact q1364 | exact q788 | exact q1362 | exact q101) (lw_meth q1379)) ⟨by decide +kernel, by decide +kernel⟩
theorem k_X13_3_12 : Cs "NoFartherThanAThrow$Heavy" (.invokespecial 3) 4 (some 12) YX12_init := cs_I (Y := YX12_init) rfl q732 q101 q730 q731 ⟨by decide +kernel, by decide +kernel, by decide +kernel, by decide +kernel⟩
theorem k_X13_3_13 : Cs "NoFartherThanAThrow$Heavy" (.invokespecial 3) 4 (some 13) YX12_init := cs_I (Y := YX12_init) rfl q732 q101 q730 q731 ⟨by decide +kernel, by decide +kernel, by decide +kernel, by decide +kernel⟩
theorem k_X13_3_14 : Cs "NoFartherThanAThrow$Heavy" (.invokespecial 3) 4 (some 14) YX12_init := cs_I (Y := YX12_init) rfl q732 q101 q730 q731 ⟨by decide +kernel, by decide +kernel, by decide +kernel, by decide +kernel⟩
theorem k_X13_3_15 : Cs "NoFartherThanAThrow$Heavy" (.invokespecial 3) 4 (some 15) YX12_init := cs_I (Y := YX12_init) rfl q732 q101 q730 q731 ⟨by decide +kernel, by decide +kernel, by decide +kernel, by decide +kernel⟩
theorem k_X13_3_16 : Cs "NoFartherThanAThrow$Heavy" (.invokespecial 3) 4 (some 16) YX12_init := cs_I (Y := YX12_init) rfl q732 q101 q730 q731 ⟨by decide +kernel, by decide +kernel, by decide +kernel, by decide +kernel⟩
theorem k_X13_3_17 : Cs "NoFartherThanAThrow$Heavy" (.invokespecial 3) 4 (some 17) YX12_init := cs_I (Y := YX12_init) rfl q732 q101 q730 q731 ⟨by decide +kernel, by decide +kernel, by decide +kernel, by decide +kernel⟩
theorem k_X13_3_18 : Cs "NoFartherThanAThrow$Heavy" (.invokespecial 3) 4 (some 18) YX12_init := cs_I (Y := YX12_init) rfl q732 q101 q730 q731 ⟨by decide +kernel, by decide +kernel, by decide +kernel, by decide +kernel⟩
theorem k_X13_9_13 : Cs "NoFartherThanAThrow$Heavy" (.invokevirtual 9) 2 (some 13) YX12_can := cs_U (Y := YX12_can) (RX13, TX13, 3) "NoFartherThanAThrow$Thing" ⟨"NoFartherThanAThrow$Heavy", "can", "(I)I"⟩ rfl rfl q1101 q1102 (Or.inl q1103) q1104 q638 q101 q647 ⟨by decide +kernel, by decide +kernel, by decide +kernel⟩
theorem k_X13_9_17 : Cs "NoFartherThanAThrow$Heavy" (.invokevirtual 9) 2 (some 17) YX12_can := cs_U (Y := YX12_can) (RX17, TX17, 3) "NoFartherThanAThrow$Thing" ⟨"NoFartherThanAThrow$Heavy", "can", "(I)I"⟩ rfl rfl q1101 q1102 (Or.inl q1103) q1105 q638 q101 q647 ⟨by decide +kernel, by decide +kernel, by decide +kernel⟩
theorem k_X13_9_18 : Cs "NoFartherThanAThrow$Heavy" (.invokevirtual 9) 2 (some 18) YX12_can := cs_U (Y := YX12_can) (RX18, TX18, 3) "NoFartherThanAThrow$Thing" ⟨"NoFartherThanAThrow$Heavy", "can", "(I)I"⟩ rfl rfl q1101 q1102 (Or.inl q1103) q1106 q638 q101 q647 ⟨by decide +kernel, by decide +kernel, by decide +kernel⟩
theorem k_X13_15 : Cs "NoFartherThanAThrow$Heavy" (.invokestatic 15) 2 none YJ8_min := cs_S (Y := YJ8_min) rfl (lw_S q1107 q670 q100 q671) ⟨by decide +kernel, by decide +kernel, by decide +kernel⟩
theorem k_X13_25_1 : Cs "NoFartherThanAThrow$Heavy" (.invokevirtual 25) 2 (some 1) YX1_runs := cs_V (Y := YX1_runs) (RX1, TX1, 2) rfl rfl (lw_V q1324 q1317 q1318 q80 q1319) ⟨by decide +kernel, by decide +kernel, by decide +kernel, by decide +kernel⟩
theorem k_X13_31_13 : Cs "NoFartherThanAThrow$Heavy" (.invokespecial 31) 3 (some 13) YX12_going := cs_SU (Y := YX12_going) (RX13, TX13, 3) rfl rfl (lw_app (by intro w hw; simp only [List.mem_cons, List.not_mem_nil, or_false] at hw; rcases hw with e | e | e | e | e <;> rw [e] <;> first | exact q1325 | exact q1311 | exact q666 | exact q1309 | exact q101) (lw_meth q1333)) ⟨by decide +kernel, by decide +kernel⟩
theorem k_X13_31_17 : Cs "NoFartherThanAThrow$Heavy" (.invokespecial 31) 3 (some 17) YX12_going := cs_SU (Y := YX12_going) (RX17, TX17, 3) rfl rfl (lw_app (by intro w hw; simp only [List.mem_cons, List.not_mem_nil, or_false] at hw; rcases hw with e | e | e | e | e <;> rw [e] <;> first | exact q1325 | exact q1311 | exact q666 | exact q1309 | exact q101) (lw_meth q1333)) ⟨by decide +kernel, by decide +kernel⟩
theorem k_X13_31_18 : Cs "NoFartherThanAThrow$Heavy" (.invokespecial 31) 3 (some 18) YX12_going := cs_SU (Y := YX12_going) (RX18, TX18, 3) rfl rfl (lw_app (by intro w hw; simp only [List.mem_cons, List.not_mem_nil, or_false] at hw; rcases hw with e | e | e | e | e <;> rw [e] <;> first | exact q1325 | exact q1311 | exact q666 | exact q1309 | exact q101) (lw_meth q1333)) ⟨by decide +kernel, by decide +kernel⟩
theorem k_X10_1_10 : Cs "NoFartherThanAThrow$Ints" (.invokespecial 1) 1 (some 10) YX7_init := cs_I (Y := YX7_init) rfl q442 q93 q464 q441 ⟨by decide +kernel, by decide +kernel, by decide +kernel, by decide +kernel⟩
theorem k_X10_1_11 : Cs "NoFartherThanAThrow$Ints" (.invokespecial 1) 1 (some 11) YX7_init := cs_I (Y := YX7_init) rfl q442 q93 q464 q441 ⟨by decide +kernel, by decide +kernel, by decide +kernel, by decide +kernel⟩
theorem k_X10_1_8 : Cs "NoFartherThanAThrow$Ints" (.invokespecial 1) 1 (some 8) YX7_init := cs_I (Y := YX7_init) rfl q442 q93 q464 q441 ⟨by decide +kernel, by decide +kernel, by decide +kernel, by decide +kernel⟩
theorem k_X10_1_9 : Cs "NoFartherThanAThrow$Ints" (.invokespecial 1) 1 (some 9) YX7_init := cs_I (Y := YX7_init) rfl q442 q93 q464 q441 ⟨by decide +kernel, by decide +kernel, by decide +kernel, by decide +kernel⟩
theorem k_X14_3_12 : Cs "NoFartherThanAThrow$Light" (.invokespecial 3) 4 (some 12) YX12_init := cs_I (Y := YX12_init) rfl q732 q101 q766 q731 ⟨by decide +kernel, by decide +kernel, by decide +kernel, by decide +kernel⟩
theorem k_X14_3_13 : Cs "NoFartherThanAThrow$Light" (.invokespecial 3) 4 (some 13) YX12_init := cs_I (Y := YX12_init) rfl q732 q101 q766 q731 ⟨by decide +kernel, by decide +kernel, by decide +kernel, by decide +kernel⟩
theorem k_X14_3_14 : Cs "NoFartherThanAThrow$Light" (.invokespecial 3) 4 (some 14) YX12_init := cs_I (Y := YX12_init) rfl q732 q101 q766 q731 ⟨by decide +kernel, by decide +kernel, by decide +kernel, by decide +kernel⟩
theorem k_X14_3_15 : Cs "NoFartherThanAThrow$Light" (.invokespecial 3) 4 (some 15) YX12_init := cs_I (Y := YX12_init) rfl q732 q101 q766 q731 ⟨by decide +kernel, by decide +kernel, by decide +kernel, by decide +kernel⟩
theorem k_X14_3_16 : Cs "NoFartherThanAThrow$Light" (.invokespecial 3) 4 (some 16) YX12_init := cs_I (Y := YX12_init) rfl q732 q101 q766 q731 ⟨by decide +kernel, by decide +kernel, by decide +kernel, by decide +kernel⟩
theorem k_X14_3_17 : Cs "NoFartherThanAThrow$Light" (.invokespecial 3) 4 (some 17) YX12_init := cs_I (Y := YX12_init) rfl q732 q101 q766 q731 ⟨by decide +kernel, by decide +kernel, by decide +kernel, by decide +kernel⟩
theorem k_X14_3_18 : Cs "NoFartherThanAThrow$Light" (.invokespecial 3) 4 (some 18) YX12_init := cs_I (Y := YX12_init) rfl q732 q101 q766 q731 ⟨by decide +kernel, by decide +kernel, by decide +kernel, by decide +kernel⟩
theorem k_X14_9_14 : Cs "NoFartherThanAThrow$Light" (.invokespecial 9) 3 (some 14) YX12_far := cs_SU (Y := YX12_far) (RX14, TX14, 3) rfl rfl (lw_app (by intro w hw; simp only [List.mem_cons, List.not_mem_nil, or_false] at hw; rcases hw with e | e | e | e | e <;> rw [e] <;> first | exact q633 | exact q1932 | exact q634 | exact q635 | exact q101) (lw_meth q636)) ⟨by decide +kernel, by decide +kernel⟩
theorem k_X14_9_15 : Cs "NoFartherThanAThrow$Light" (.invokespecial 9) 3 (some 15) YX12_far := cs_SU (Y := YX12_far) (RX15, TX15, 3) rfl rfl (lw_app (by intro w hw; simp only [List.mem_cons, List.not_mem_nil, or_false] at hw; rcases hw with e | e | e | e | e <;> rw [e] <;> first | exact q633 | exact q1932 | exact q634 | exact q635 | exact q101) (lw_meth q636)) ⟨by decide +kernel, by decide +kernel⟩
theorem k_X14_13_1 : Cs "NoFartherThanAThrow$Light" (.invokevirtual 13) 2 (some 1) YX1_runs := cs_V (Y := YX1_runs) (RX1, TX1, 2) rfl rfl (lw_V q1346 q1317 q1318 q80 q1319) ⟨by decide +kernel, by decide +kernel, by decide +kernel, by decide +kernel⟩
theorem k_X14_19_14 : Cs "NoFartherThanAThrow$Light" (.invokespecial 19) 3 (some 14) YX12_resting := cs_SU (Y := YX12_resting) (RX14, TX14, 3) rfl rfl (lw_app (by intro w hw; simp only [List.mem_cons, List.not_mem_nil, or_false] at hw; rcases hw with e | e | e | e | e <;> rw [e] <;> first | exact q1347 | exact q1338 | exact q634 | exact q1336 | exact q101) (lw_meth q1359)) ⟨by decide +kernel, by decide +kernel⟩
theorem k_X14_19_15 : Cs "NoFartherThanAThrow$Light" (.invokespecial 19) 3 (some 15) YX12_resting := cs_SU (Y := YX12_resting) (RX15, TX15, 3) rfl rfl (lw_app (by intro w hw; simp only [List.mem_cons, List.not_mem_nil, or_false] at hw; rcases hw with e | e | e | e | e <;> rw [e] <;> first | exact q1347 | exact q1338 | exact q634 | exact q1336 | exact q101) (lw_meth q1359)) ⟨by decide +kernel, by decide +kernel⟩
theorem k_X11_1_10 : Cs "NoFartherThanAThrow$Longs" (.invokespecial 1) 1 (some 10) YX7_init := cs_I (Y := YX7_init) rfl q442 q93 q474 q441 ⟨by decide +kernel, by decide +kernel, by decide +kernel, by decide +kernel⟩
theorem k_X11_1_11 : Cs "NoFartherThanAThrow$Longs" (.invokespecial 1) 1 (some 11) YX7_init := cs_I (Y := YX7_init) rfl q442 q93 q474 q441 ⟨by decide +kernel, by decide +kernel, by decide +kernel, by decide +kernel⟩
theorem k_X11_1_8 : Cs "NoFartherThanAThrow$Longs" (.invokespecial 1) 1 (some 8) YX7_init := cs_I (Y := YX7_init) rfl q442 q93 q474 q441 ⟨by decide +kernel, by decide +kernel, by decide +kernel, by decide +kernel⟩
theorem k_X11_1_9 : Cs "NoFartherThanAThrow$Longs" (.invokespecial 1) 1 (some 9) YX7_init := cs_I (Y := YX7_init) rfl q442 q93 q474 q441 ⟨by decide +kernel, by decide +kernel, by decide +kernel, by decide +kernel⟩
theorem k_X17_3_13 : Cs "NoFartherThanAThrow$Parted" (.invokespecial 3) 4 (some 13) YX13_init := cs_I (Y := YX13_init) rfl q729 q102 q794 q728 ⟨by decide +kernel, by decide +kernel, by decide +kernel, by decide +kernel⟩
theorem k_X17_3_17 : Cs "NoFartherThanAThrow$Parted" (.invokespecial 3) 4 (some 17) YX13_init := cs_I (Y := YX13_init) rfl q729 q102 q794 q728 ⟨by decide +kernel, by decide +kernel, by decide +kernel, by decide +kernel⟩
theorem k_X17_3_18 : Cs "NoFartherThanAThrow$Parted" (.invokespecial 3) 4 (some 18) YX13_init := cs_I (Y := YX13_init) rfl q729 q102 q794 q728 ⟨by decide +kernel, by decide +kernel, by decide +kernel, by decide +kernel⟩
theorem k_X17_19_1 : Cs "NoFartherThanAThrow$Parted" (.invokevirtual 19) 2 (some 1) YX1_runs := cs_V (Y := YX1_runs) (RX1, TX1, 2) rfl rfl (lw_V q1354 q1317 q1318 q80 q1319) ⟨by decide +kernel, by decide +kernel, by decide +kernel, by decide +kernel⟩
theorem k_X19_23_10 : Cs "NoFartherThanAThrow$Reader" (.invokevirtual 23) 1 (some 10) YX10_length := cs_U (Y := YX10_length) (RX10, TX10, 1) "NoFartherThanAThrow$Row" ⟨"NoFartherThanAThrow$Row", "length", "()I"⟩ rfl rfl q967 q832 (Or.inl q831) q836 q837 q96 q838 ⟨by decide +kernel, by decide +kernel, by decide +kernel⟩
theorem k_X19_23_11 : Cs "NoFartherThanAThrow$Reader" (.invokevirtual 23) 1 (some 11) YX11_length := cs_U (Y := YX11_length) (RX11, TX11, 1) "NoFartherThanAThrow$Row" ⟨"NoFartherThanAThrow$Row", "length", "()I"⟩ rfl rfl q967 q832 (Or.inl q831) q839 q840 q97 q841 ⟨by decide +kernel, by decide +kernel, by decide +kernel⟩
theorem k_X19_23_8 : Cs "NoFartherThanAThrow$Reader" (.invokevirtual 23) 1 (some 8) YX8_length := cs_U (Y := YX8_length) (RX8, TX8, 1) "NoFartherThanAThrow$Row" ⟨"NoFartherThanAThrow$Row", "length", "()I"⟩ rfl rfl q967 q832 (Or.inl q831) q833 q834 q94 q835 ⟨by decide +kernel, by decide +kernel, by decide +kernel⟩
theorem k_X19_23_9 : Cs "NoFartherThanAThrow$Reader" (.invokevirtual 23) 1 (some 9) YX9_length := cs_U (Y := YX9_length) (RX9, TX9, 1) "NoFartherThanAThrow$Row" ⟨"NoFartherThanAThrow$Row", "length", "()I"⟩ rfl rfl q967 q832 (Or.inl q831) q842 q843 q95 q844 ⟨by decide +kernel, by decide +kernel, by decide +kernel⟩
theorem k_X19_29_19 : Cs "NoFartherThanAThrow$Reader" (.invokevirtual 29) 1 (some 19) YX19_ends := cs_V (Y := YX19_ends) (RX19, TX19, 3) rfl rfl (lw_V q963 q965 qs10 q108 q966) ⟨by decide +kernel, by decide +kernel, by decide +kernel, by decide +kernel⟩
theorem k_X19_33_10 : Cs "NoFartherThanAThrow$Reader" (.invokevirtual 33) 2 (some 10) YX7_asInt := cs_U (Y := YX7_asInt) (RX10, TX10, 1) "NoFartherThanAThrow$Row" ⟨"NoFartherThanAThrow$Row", "asInt", "(I)I"⟩ rfl rfl q968 q847 (Or.inr ⟨_, _, _, q846, q852⟩) q849 q846 q93 q852 ⟨by decide +kernel, by decide +kernel, by decide +kernel⟩
theorem k_X19_33_11 : Cs "NoFartherThanAThrow$Reader" (.invokevirtual 33) 2 (some 11) YX7_asInt := cs_U (Y := YX7_asInt) (RX11, TX11, 1) "NoFartherThanAThrow$Row" ⟨"NoFartherThanAThrow$Row", "asInt", "(I)I"⟩ rfl rfl q968 q847 (Or.inr ⟨_, _, _, q846, q852⟩) q850 q846 q93 q852 ⟨by decide +kernel, by decide +kernel, by decide +kernel⟩
theorem k_X19_33_8 : Cs "NoFartherThanAThrow$Reader" (.invokevirtual 33) 2 (some 8) YX7_asInt := cs_U (Y := YX7_asInt) (RX8, TX8, 1) "NoFartherThanAThrow$Row" ⟨"NoFartherThanAThrow$Row", "asInt", "(I)I"⟩ rfl rfl q968 q847 (Or.inr ⟨_, _, _, q846, q852⟩) q848 q846 q93 q852 ⟨by decide +kernel, by decide +kernel, by decide +kernel⟩
theorem k_X19_33_9 : Cs "NoFartherThanAThrow$Reader" (.invokevirtual 33) 2 (some 9) YX7_asInt := cs_U (Y := YX7_asInt) (RX9, TX9, 1) "NoFartherThanAThrow$Row" ⟨"NoFartherThanAThrow$Row", "asInt", "(I)I"⟩ rfl rfl q968 q847 (Or.inr ⟨_, _, _, q846, q852⟩) q851 q846 q93 q852 ⟨by decide +kernel, by decide +kernel, by decide +kernel⟩
theorem k_X19_37_19 : Cs "NoFartherThanAThrow$Reader" (.invokevirtual 37) 2 (some 19) YX19_sees := cs_V (Y := YX19_sees) (RX19, TX19, 3) rfl rfl (lw_V q959 q961 qs9 q108 q962) ⟨by decide +kernel, by decide +kernel, by decide +kernel, by decide +kernel⟩
theorem k_X19_43_20 : Cs "NoFartherThanAThrow$Reader" (.invokespecial 43) 2 (some 20) YX20_init := cs_I (Y := YX20_init) rfl q1037 q112 q1035 q1036 ⟨by decide +kernel, by decide +kernel, by decide +kernel, by decide +kernel⟩
theorem k_X19_53_19 : Cs "NoFartherThanAThrow$Reader" (.invokevirtual 53) 2 (some 19) YX19_must := cs_V (Y := YX19_must) (RX19, TX19, 3) rfl rfl (lw_V q1022 q1024 qs12 q108 q1025) ⟨by decide +kernel, by decide +kernel, by decide +kernel, by decide +kernel⟩
theorem k_X19_56_19 : Cs "NoFartherThanAThrow$Reader" (.invokevirtual 56) 1 (some 19) YX19_digit := cs_V (Y := YX19_digit) (RX19, TX19, 3) rfl rfl (lw_V q1053 q1055 qs15 q108 q1056) ⟨by decide +kernel, by decide +kernel, by decide +kernel, by decide +kernel⟩
theorem k_X19_59 : Cs "NoFartherThanAThrow$Reader" (.invokestatic 59) 3 none YX0_in := cs_S (Y := YX0_in) rfl (lw_S q1057 q416 q79 q417) ⟨by decide +kernel, by decide +kernel, by decide +kernel⟩
theorem k_X19_63_19 : Cs "NoFartherThanAThrow$Reader" (.invokevirtual 63) 3 (some 19) YX19_hasRoom := cs_V (Y := YX19_hasRoom) (RX19, TX19, 3) rfl rfl (lw_V q1045 q1047 qs13 q108 q1048) ⟨by decide +kernel, by decide +kernel, by decide +kernel, by decide +kernel⟩
theorem k_X19_72_19 : Cs "NoFartherThanAThrow$Reader" (.invokevirtual 72) 3 (some 19) YX19_number := cs_V (Y := YX19_number) (RX19, TX19, 3) rfl rfl (lw_V q1049 q1051 qs14 q108 q1052) ⟨by decide +kernel, by decide +kernel, by decide +kernel, by decide +kernel⟩
theorem k_X19_76_3 : Cs "NoFartherThanAThrow$Reader" (.invokevirtual 76) 2 (some 3) YX3_isStep := cs_V (Y := YX3_isStep) (RX3, TX3, 18) rfl rfl (lw_V q1062 q706 q707 q82 q708) ⟨by decide +kernel, by decide +kernel, by decide +kernel, by decide +kernel⟩
theorem k_X19_79_19 : Cs "NoFartherThanAThrow$Reader" (.invokevirtual 79) 1 (some 19) YX19_item := cs_V (Y := YX19_item) (RX19, TX19, 3) rfl rfl (lw_V q955 q957 qs8 q108 q958) ⟨by decide +kernel, by decide +kernel, by decide +kernel, by decide +kernel⟩
theorem k_X19_84_19 : Cs "NoFartherThanAThrow$Reader" (.invokevirtual 84) 2 (some 19) YX19_word := cs_V (Y := YX19_word) (RX19, TX19, 3) rfl rfl (lw_V q970 q972 qs11 q108 q973) ⟨by decide +kernel, by decide +kernel, by decide +kernel, by decide +kernel⟩
theorem k_X19_91_19 : Cs "NoFartherThanAThrow$Reader" (.invokevirtual 91) 1 (some 19) YX19_step := cs_V (Y := YX19_step) (RX19, TX19, 3) rfl rfl (lw_V q1058 q1060 qs16 q108 q1061) ⟨by decide +kernel, by decide +kernel, by decide +kernel, by decide +kernel⟩
theorem k_X19_94_3 : Cs "NoFartherThanAThrow$Reader" (.invokevirtual 94) 6 (some 3) YX3_addThing := cs_V (Y := YX3_addThing) (RX3, TX3, 18) rfl rfl (lw_V q1063 q715 q716 q82 q717) ⟨by decide +kernel, by decide +kernel, by decide +kernel, by decide +kernel⟩
theorem k_X19_103_3 : Cs "NoFartherThanAThrow$Reader" (.invokevirtual 103) 2 (some 3) YX3_addMan := cs_V (Y := YX3_addMan) (RX3, TX3, 18) rfl rfl (lw_V q1065 q823 q824 q82 q825) ⟨by decide +kernel, by decide +kernel, by decide +kernel, by decide +kernel⟩
theorem k_X19_106_19 : Cs "NoFartherThanAThrow$Reader" (.invokevirtual 106) 2 (some 19) YX19_withW := cs_V (Y := YX19_withW) (RX19, TX19, 3) rfl rfl (lw_V q1066 q1068 qs17 q108 q1069) ⟨by decide +kernel, by decide +kernel, by decide +kernel, by decide +kernel⟩
theorem k_X19_111_3 : Cs "NoFartherThanAThrow$Reader" (.invokevirtual 111) 1 (some 3) YX3_farthest := cs_V (Y := YX3_farthest) (RX3, TX3, 18) rfl rfl (lw_V q1074 q867 q868 q82 q869) ⟨by decide +kernel, by decide +kernel, by decide +kernel, by decide +kernel⟩
theorem k_X19_114 : Cs "NoFartherThanAThrow$Reader" (.invokestatic 114) 2 none YJ8_max := cs_S (Y := YJ8_max) rfl (lw_S q1075 q649 q100 q650) ⟨by decide +kernel, by decide +kernel, by decide +kernel⟩
theorem k_X19_121_3 : Cs "NoFartherThanAThrow$Reader" (.invokevirtual 121) 3 (some 3) YX3_mayFlow := cs_V (Y := YX3_mayFlow) (RX3, TX3, 18) rfl rfl (lw_V q1077 q877 q878 q82 q879) ⟨by decide +kernel, by decide +kernel, by decide +kernel, by decide +kernel⟩
theorem k_X19_141_3 : Cs "NoFartherThanAThrow$Reader" (.invokevirtual 141) 4 (some 3) YX3_addWant := cs_V (Y := YX3_addWant) (RX3, TX3, 18) rfl rfl (lw_V q1072 q859 q860 q82 q861) ⟨by decide +kernel, by decide +kernel, by decide +kernel, by decide +kernel⟩
theorem k_X6_1_20 : Cs "NoFartherThanAThrow$Refused" (.invokespecial 1) 5 (some 20) YJ1_init_2 := cs_I (Y := YJ1_init_2) rfl q401 q86 q399 q400 ⟨by decide +kernel, by decide +kernel, by decide +kernel, by decide +kernel⟩
theorem k_X6_1_6 : Cs "NoFartherThanAThrow$Refused" (.invokespecial 1) 5 (some 6) YJ1_init_2 := cs_I (Y := YJ1_init_2) rfl q401 q86 q399 q400 ⟨by decide +kernel, by decide +kernel, by decide +kernel, by decide +kernel⟩
theorem k_X18_3_13 : Cs "NoFartherThanAThrow$Round" (.invokespecial 3) 4 (some 13) YX13_init := cs_I (Y := YX13_init) rfl q729 q102 q803 q728 ⟨by decide +kernel, by decide +kernel, by decide +kernel, by decide +kernel⟩
theorem k_X18_3_17 : Cs "NoFartherThanAThrow$Round" (.invokespecial 3) 4 (some 17) YX13_init := cs_I (Y := YX13_init) rfl q729 q102 q803 q728 ⟨by decide +kernel, by decide +kernel, by decide +kernel, by decide +kernel⟩
theorem k_X18_3_18 : Cs "NoFartherThanAThrow$Round" (.invokespecial 3) 4 (some 18) YX13_init := cs_I (Y := YX13_init) rfl q729 q102 q803 q728 ⟨by decide +kernel, by decide +kernel, by decide +kernel, by decide +kernel⟩
theorem k_X18_9_18 : Cs "NoFartherThanAThrow$Round" (.invokespecial 9) 3 (some 18) YX13_far := cs_SU (Y := YX13_far) (RX18, TX18, 3) rfl rfl (lw_app (by intro w hw; simp only [List.mem_cons, List.not_mem_nil, or_false] at hw; rcases hw with e | e | e | e | e <;> rw [e] <;> first | exact q1110 | exact q1940 | exact q807 | exact q1099 | exact q102) (lw_meth q1100)) ⟨by decide +kernel, by decide +kernel⟩
theorem k_X18_19_1 : Cs "NoFartherThanAThrow$Round" (.invokevirtual 19) 2 (some 1) YX1_runs := cs_V (Y := YX1_runs) (RX1, TX1, 2) rfl rfl (lw_V q1331 q1317 q1318 q80 q1319) ⟨by decide +kernel, by decide +kernel, by decide +kernel, by decide +kernel⟩
theorem k_X18_25_18 : Cs "NoFartherThanAThrow$Round" (.invokespecial 25) 3 (some 18) YX13_going := cs_SU (Y := YX13_going) (RX18, TX18, 3) rfl rfl (lw_app (by intro w hw; simp only [List.mem_cons, List.not_mem_nil, or_false] at hw; rcases hw with e | e | e | e | e <;> rw [e] <;> first | exact q1332 | exact q1942 | exact q807 | exact q1322 | exact q102) (lw_meth q1323)) ⟨by decide +kernel, by decide +kernel⟩
theorem k_X7_7_10 : Cs "NoFartherThanAThrow$Row" (.invokevirtual 7) 2 (some 10) YX10_get := cs_U (Y := YX10_get) (RX10, TX10, 1) "NoFartherThanAThrow$Row" ⟨"NoFartherThanAThrow$Row", "get", "(I)J"⟩ rfl rfl q853 q574 (Or.inl q573) q578 q579 q96 q580 ⟨by decide +kernel, by decide +kernel, by decide +kernel⟩
theorem k_X7_7_11 : Cs "NoFartherThanAThrow$Row" (.invokevirtual 7) 2 (some 11) YX11_get := cs_U (Y := YX11_get) (RX11, TX11, 1) "NoFartherThanAThrow$Row" ⟨"NoFartherThanAThrow$Row", "get", "(I)J"⟩ rfl rfl q853 q574 (Or.inl q573) q581 q582 q97 q583 ⟨by decide +kernel, by decide +kernel, by decide +kernel⟩
theorem k_X7_7_8 : Cs "NoFartherThanAThrow$Row" (.invokevirtual 7) 2 (some 8) YX8_get := cs_U (Y := YX8_get) (RX8, TX8, 1) "NoFartherThanAThrow$Row" ⟨"NoFartherThanAThrow$Row", "get", "(I)J"⟩ rfl rfl q853 q574 (Or.inl q573) q575 q576 q94 q577 ⟨by decide +kernel, by decide +kernel, by decide +kernel⟩
theorem k_X7_7_9 : Cs "NoFartherThanAThrow$Row" (.invokevirtual 7) 2 (some 9) YX9_get := cs_U (Y := YX9_get) (RX9, TX9, 1) "NoFartherThanAThrow$Row" ⟨"NoFartherThanAThrow$Row", "get", "(I)J"⟩ rfl rfl q853 q574 (Or.inl q573) q584 q585 q95 q586 ⟨by decide +kernel, by decide +kernel, by decide +kernel⟩
theorem k_X2_32 : Cs "NoFartherThanAThrow$Seeker" (.invokestatic 32) 2 none YJ8_min := cs_S (Y := YJ8_min) rfl (lw_S q1156 q670 q100 q671) ⟨by decide +kernel, by decide +kernel, by decide +kernel⟩
theorem k_X2_38_3 : Cs "NoFartherThanAThrow$Seeker" (.invokevirtual 38) 3 (some 3) YX3_far := cs_V (Y := YX3_far) (RX3, TX3, 18) rfl rfl (lw_V q1157 q1091 q1092 q82 q1093) ⟨by decide +kernel, by decide +kernel, by decide +kernel, by decide +kernel⟩
theorem k_X2_41_3 : Cs "NoFartherThanAThrow$Seeker" (.invokevirtual 41) 4 (some 3) YX3_brings := cs_V (Y := YX3_brings) (RX3, TX3, 18) rfl rfl (lw_V q1158 q1159 q1160 q82 q1161) ⟨by decide +kernel, by decide +kernel, by decide +kernel, by decide +kernel⟩
theorem k_X2_45 : Cs "NoFartherThanAThrow$Seeker" (.invokestatic 45) 2 none YJ8_max := cs_S (Y := YJ8_max) rfl (lw_S q1162 q649 q100 q650) ⟨by decide +kernel, by decide +kernel, by decide +kernel⟩
theorem k_X2_60_2 : Cs "NoFartherThanAThrow$Seeker" (.invokevirtual 60) 6 (some 2) YX2_find := cs_V (Y := YX2_find) (RX2, TX2, 5) rfl rfl (lw_V q1210 q1153 q1154 q81 q1155) ⟨by decide +kernel, by decide +kernel, by decide +kernel, by decide +kernel⟩
theorem k_X2_67_2 : Cs "NoFartherThanAThrow$Seeker" (.invokevirtual 67) 3 (some 2) YX2_gives := cs_V (Y := YX2_gives) (RX2, TX2, 5) rfl rfl (lw_V q1211 q1213 qs25 q81 q1214) ⟨by decide +kernel, by decide +kernel, by decide +kernel, by decide +kernel⟩
theorem k_X2_71_2 : Cs "NoFartherThanAThrow$Seeker" (.invokevirtual 71) 3 (some 2) YX2_isMet := cs_V (Y := YX2_isMet) (RX2, TX2, 5) rfl rfl (lw_V q1215 q1217 qs26 q81 q1218) ⟨by decide +kernel, by decide +kernel, by decide +kernel, by decide +kernel⟩
theorem k_X4_17 : Cs "NoFartherThanAThrow$Shelf" (.invokestatic 17) 2 none YX0_need := cs_S (Y := YX0_need) rfl (lw_S q507 q412 q79 q413) ⟨by decide +kernel, by decide +kernel, by decide +kernel⟩
theorem k_X4_25_6 : Cs "NoFartherThanAThrow$Shelf" (.invokespecial 25) 2 (some 6) YX6_init := cs_I (Y := YX6_init) rfl q398 q91 q509 q397 ⟨by decide +kernel, by decide +kernel, by decide +kernel, by decide +kernel⟩
theorem k_X4_32_13 : Cs "NoFartherThanAThrow$Shelf" (.invokevirtual 32) 1 (some 13) YX13_more := cs_V (Y := YX13_more) (RX13, TX13, 3) rfl rfl (lw_V q615 q616 q617 q102 q621) ⟨by decide +kernel, by decide +kernel, by decide +kernel, by decide +kernel⟩
theorem k_X4_32_17 : Cs "NoFartherThanAThrow$Shelf" (.invokevirtual 32) 1 (some 17) YX13_more := cs_U (Y := YX13_more) (RX17, TX17, 3) "NoFartherThanAThrow$Heavy" ⟨"NoFartherThanAThrow$Heavy", "more", "()I"⟩ rfl rfl q615 q618 (Or.inl q682) q619 q616 q102 q621 ⟨by decide +kernel, by decide +kernel, by decide +kernel⟩
theorem k_X4_32_18 : Cs "NoFartherThanAThrow$Shelf" (.invokevirtual 32) 1 (some 18) YX13_more := cs_U (Y := YX13_more) (RX18, TX18, 3) "NoFartherThanAThrow$Heavy" ⟨"NoFartherThanAThrow$Heavy", "more", "()I"⟩ rfl rfl q615 q618 (Or.inl q682) q620 q616 q102 q621 ⟨by decide +kernel, by decide +kernel, by decide +kernel⟩
theorem k_X4_44_14 : Cs "NoFartherThanAThrow$Shelf" (.invokevirtual 44) 3 (some 14) YX14_far := cs_V (Y := YX14_far) (RX14, TX14, 3) rfl rfl (lw_V q623 q624 q625 q103 q632) ⟨by decide +kernel, by decide +kernel, by decide +kernel, by decide +kernel⟩
theorem k_X4_44_15 : Cs "NoFartherThanAThrow$Shelf" (.invokevirtual 44) 3 (some 15) YX15_far := cs_U (Y := YX15_far) (RX15, TX15, 3) "NoFartherThanAThrow$Light" ⟨"NoFartherThanAThrow$Light", "far", "(II)I"⟩ rfl rfl q623 q626 (Or.inr ⟨_, _, _, q624, q632⟩) q627 q628 q104 q629 ⟨by decide +kernel, by decide +kernel, by decide +kernel⟩
theorem k_X4_50_15 : Cs "NoFartherThanAThrow$Shelf" (.invokevirtual 50) 3 (some 15) YX15_far := cs_V (Y := YX15_far) (RX15, TX15, 3) rfl rfl (lw_V q673 q628 q1933 q104 q629) ⟨by decide +kernel, by decide +kernel, by decide +kernel, by decide +kernel⟩
theorem k_X4_53_16 : Cs "NoFartherThanAThrow$Shelf" (.invokevirtual 53) 2 (some 16) YX16_broken := cs_V (Y := YX16_broken) (RX16, TX16, 3) rfl rfl (lw_V q675 q676 q677 q105 q678) ⟨by decide +kernel, by decide +kernel, by decide +kernel, by decide +kernel⟩
theorem k_X4_59_17 : Cs "NoFartherThanAThrow$Shelf" (.invokevirtual 59) 1 (some 17) YX13_more := cs_U (Y := YX13_more) (RX17, TX17, 3) "NoFartherThanAThrow$Heavy" ⟨"NoFartherThanAThrow$Parted", "more", "()I"⟩ rfl rfl q680 q681 (Or.inl q682) q683 q616 q102 q621 ⟨by decide +kernel, by decide +kernel, by decide +kernel⟩
theorem k_X4_62_18 : Cs "NoFartherThanAThrow$Shelf" (.invokevirtual 62) 1 (some 18) YX13_more := cs_U (Y := YX13_more) (RX18, TX18, 3) "NoFartherThanAThrow$Heavy" ⟨"NoFartherThanAThrow$Round", "more", "()I"⟩ rfl rfl q685 q686 (Or.inl q682) q687 q616 q102 q621 ⟨by decide +kernel, by decide +kernel, by decide +kernel⟩
theorem k_X4_63_12 : Cs "NoFartherThanAThrow$Shelf" (.invokevirtual 63) 1 (some 12) YX12_said := cs_V (Y := YX12_said) (RX12, TX12, 3) rfl rfl (lw_V q688 q689 q690 q101 q698) ⟨by decide +kernel, by decide +kernel, by decide +kernel, by decide +kernel⟩
theorem k_X4_63_13 : Cs "NoFartherThanAThrow$Shelf" (.invokevirtual 63) 1 (some 13) YX12_said := cs_U (Y := YX12_said) (RX13, TX13, 3) "NoFartherThanAThrow$Thing" ⟨"NoFartherThanAThrow$Thing", "said", "()I"⟩ rfl rfl q688 q691 (Or.inr ⟨_, _, _, q689, q698⟩) q694 q689 q101 q698 ⟨by decide +kernel, by decide +kernel, by decide +kernel⟩
theorem k_X4_63_14 : Cs "NoFartherThanAThrow$Shelf" (.invokevirtual 63) 1 (some 14) YX12_said := cs_U (Y := YX12_said) (RX14, TX14, 3) "NoFartherThanAThrow$Thing" ⟨"NoFartherThanAThrow$Thing", "said", "()I"⟩ rfl rfl q688 q691 (Or.inr ⟨_, _, _, q689, q698⟩) q695 q689 q101 q698 ⟨by decide +kernel, by decide +kernel, by decide +kernel⟩
theorem k_X4_63_15 : Cs "NoFartherThanAThrow$Shelf" (.invokevirtual 63) 1 (some 15) YX12_said := cs_U (Y := YX12_said) (RX15, TX15, 3) "NoFartherThanAThrow$Thing" ⟨"NoFartherThanAThrow$Thing", "said", "()I"⟩ rfl rfl q688 q691 (Or.inr ⟨_, _, _, q689, q698⟩) q692 q689 q101 q698 ⟨by decide +kernel, by decide +kernel, by decide +kernel⟩
theorem k_X4_63_16 : Cs "NoFartherThanAThrow$Shelf" (.invokevirtual 63) 1 (some 16) YX12_said := cs_U (Y := YX12_said) (RX16, TX16, 3) "NoFartherThanAThrow$Thing" ⟨"NoFartherThanAThrow$Thing", "said", "()I"⟩ rfl rfl q688 q691 (Or.inr ⟨_, _, _, q689, q698⟩) q693 q689 q101 q698 ⟨by decide +kernel, by decide +kernel, by decide +kernel⟩
theorem k_X4_63_17 : Cs "NoFartherThanAThrow$Shelf" (.invokevirtual 63) 1 (some 17) YX12_said := cs_U (Y := YX12_said) (RX17, TX17, 3) "NoFartherThanAThrow$Thing" ⟨"NoFartherThanAThrow$Thing", "said", "()I"⟩ rfl rfl q688 q691 (Or.inr ⟨_, _, _, q689, q698⟩) q696 q689 q101 q698 ⟨by decide +kernel, by decide +kernel, by decide +kernel⟩
theorem k_X4_63_18 : Cs "NoFartherThanAThrow$Shelf" (.invokevirtual 63) 1 (some 18) YX12_said := cs_U (Y := YX12_said) (RX18, TX18, 3) "NoFartherThanAThrow$Thing" ⟨"NoFartherThanAThrow$Thing", "said", "()I"⟩ rfl rfl q688 q691 (Or.inr ⟨_, _, _, q689, q698⟩) q697 q689 q101 q698 ⟨by decide +kernel, by decide +kernel, by decide +kernel⟩
theorem k_X9_1_10 : Cs "NoFartherThanAThrow$Shorts" (.invokespecial 1) 1 (some 10) YX7_init := cs_I (Y := YX7_init) rfl q442 q93 q453 q441 ⟨by decide +kernel, by decide +kernel, by decide +kernel, by decide +kernel⟩
theorem k_X9_1_11 : Cs "NoFartherThanAThrow$Shorts" (.invokespecial 1) 1 (some 11) YX7_init := cs_I (Y := YX7_init) rfl q442 q93 q453 q441 ⟨by decide +kernel, by decide +kernel, by decide +kernel, by decide +kernel⟩
theorem k_X9_1_8 : Cs "NoFartherThanAThrow$Shorts" (.invokespecial 1) 1 (some 8) YX7_init := cs_I (Y := YX7_init) rfl q442 q93 q453 q441 ⟨by decide +kernel, by decide +kernel, by decide +kernel, by decide +kernel⟩
theorem k_X9_1_9 : Cs "NoFartherThanAThrow$Shorts" (.invokespecial 1) 1 (some 9) YX7_init := cs_I (Y := YX7_init) rfl q442 q93 q453 q441 ⟨by decide +kernel, by decide +kernel, by decide +kernel, by decide +kernel⟩
theorem k_X12_21 : Cs "NoFartherThanAThrow$Thing" (.invokestatic 21) 2 none YJ8_max := cs_S (Y := YJ8_max) rfl (lw_S q648 q649 q100 q650) ⟨by decide +kernel, by decide +kernel, by decide +kernel⟩
theorem k_X12_27_12 : Cs "NoFartherThanAThrow$Thing" (.invokevirtual 27) 1 (some 12) YX12_counts := cs_V (Y := YX12_counts) (RX12, TX12, 3) rfl rfl (lw_V q651 q652 q653 q101 q668) ⟨by decide +kernel, by decide +kernel, by decide +kernel, by decide +kernel⟩
theorem k_X12_27_13 : Cs "NoFartherThanAThrow$Thing" (.invokevirtual 27) 1 (some 13) YX12_counts := cs_U (Y := YX12_counts) (RX13, TX13, 3) "NoFartherThanAThrow$Thing" ⟨"NoFartherThanAThrow$Thing", "counts", "()I"⟩ rfl rfl q651 q654 (Or.inl q664) q657 q652 q101 q668 ⟨by decide +kernel, by decide +kernel, by decide +kernel⟩
theorem k_X12_27_14 : Cs "NoFartherThanAThrow$Thing" (.invokevirtual 27) 1 (some 14) YX12_counts := cs_U (Y := YX12_counts) (RX14, TX14, 3) "NoFartherThanAThrow$Thing" ⟨"NoFartherThanAThrow$Thing", "counts", "()I"⟩ rfl rfl q651 q654 (Or.inl q664) q658 q652 q101 q668 ⟨by decide +kernel, by decide +kernel, by decide +kernel⟩
theorem k_X12_27_15 : Cs "NoFartherThanAThrow$Thing" (.invokevirtual 27) 1 (some 15) YX12_counts := cs_U (Y := YX12_counts) (RX15, TX15, 3) "NoFartherThanAThrow$Thing" ⟨"NoFartherThanAThrow$Thing", "counts", "()I"⟩ rfl rfl q651 q654 (Or.inl q664) q655 q652 q101 q668 ⟨by decide +kernel, by decide +kernel, by decide +kernel⟩
theorem k_X12_27_16 : Cs "NoFartherThanAThrow$Thing" (.invokevirtual 27) 1 (some 16) YX12_counts := cs_U (Y := YX12_counts) (RX16, TX16, 3) "NoFartherThanAThrow$Thing" ⟨"NoFartherThanAThrow$Thing", "counts", "()I"⟩ rfl rfl q651 q654 (Or.inl q664) q656 q652 q101 q668 ⟨by decide +kernel, by decide +kernel, by decide +kernel⟩
theorem k_X12_27_17 : Cs "NoFartherThanAThrow$Thing" (.invokevirtual 27) 1 (some 17) YX17_counts := cs_U (Y := YX17_counts) (RX17, TX17, 3) "NoFartherThanAThrow$Thing" ⟨"NoFartherThanAThrow$Thing", "counts", "()I"⟩ rfl rfl q651 q654 (Or.inl q664) q659 q660 q106 q661 ⟨by decide +kernel, by decide +kernel, by decide +kernel⟩
theorem k_X12_27_18 : Cs "NoFartherThanAThrow$Thing" (.invokevirtual 27) 1 (some 18) YX12_counts := cs_U (Y := YX12_counts) (RX18, TX18, 3) "NoFartherThanAThrow$Thing" ⟨"NoFartherThanAThrow$Thing", "counts", "()I"⟩ rfl rfl q651 q654 (Or.inl q664) q667 q652 q101 q668 ⟨by decide +kernel, by decide +kernel, by decide +kernel⟩
theorem k_X12_31_12 : Cs "NoFartherThanAThrow$Thing" (.invokevirtual 31) 2 (some 12) YX12_can := cs_V (Y := YX12_can) (RX12, TX12, 3) rfl rfl (lw_V q637 q638 q639 q101 q647) ⟨by decide +kernel, by decide +kernel, by decide +kernel, by decide +kernel⟩
theorem k_X12_31_13 : Cs "NoFartherThanAThrow$Thing" (.invokevirtual 31) 2 (some 13) YX12_can := cs_U (Y := YX12_can) (RX13, TX13, 3) "NoFartherThanAThrow$Thing" ⟨"NoFartherThanAThrow$Thing", "can", "(I)I"⟩ rfl rfl q637 q640 (Or.inl q1103) q643 q638 q101 q647 ⟨by decide +kernel, by decide +kernel, by decide +kernel⟩
theorem k_X12_31_14 : Cs "NoFartherThanAThrow$Thing" (.invokevirtual 31) 2 (some 14) YX12_can := cs_U (Y := YX12_can) (RX14, TX14, 3) "NoFartherThanAThrow$Thing" ⟨"NoFartherThanAThrow$Thing", "can", "(I)I"⟩ rfl rfl q637 q640 (Or.inl q1103) q644 q638 q101 q647 ⟨by decide +kernel, by decide +kernel, by decide +kernel⟩
theorem k_X12_31_15 : Cs "NoFartherThanAThrow$Thing" (.invokevirtual 31) 2 (some 15) YX12_can := cs_U (Y := YX12_can) (RX15, TX15, 3) "NoFartherThanAThrow$Thing" ⟨"NoFartherThanAThrow$Thing", "can", "(I)I"⟩ rfl rfl q637 q640 (Or.inl q1103) q641 q638 q101 q647 ⟨by decide +kernel, by decide +kernel, by decide +kernel⟩
theorem k_X12_31_16 : Cs "NoFartherThanAThrow$Thing" (.invokevirtual 31) 2 (some 16) YX12_can := cs_U (Y := YX12_can) (RX16, TX16, 3) "NoFartherThanAThrow$Thing" ⟨"NoFartherThanAThrow$Thing", "can", "(I)I"⟩ rfl rfl q637 q640 (Or.inl q1103) q642 q638 q101 q647 ⟨by decide +kernel, by decide +kernel, by decide +kernel⟩
theorem k_X12_31_17 : Cs "NoFartherThanAThrow$Thing" (.invokevirtual 31) 2 (some 17) YX12_can := cs_U (Y := YX12_can) (RX17, TX17, 3) "NoFartherThanAThrow$Thing" ⟨"NoFartherThanAThrow$Thing", "can", "(I)I"⟩ rfl rfl q637 q640 (Or.inl q1103) q645 q638 q101 q647 ⟨by decide +kernel, by decide +kernel, by decide +kernel⟩
theorem k_X12_31_18 : Cs "NoFartherThanAThrow$Thing" (.invokevirtual 31) 2 (some 18) YX12_can := cs_U (Y := YX12_can) (RX18, TX18, 3) "NoFartherThanAThrow$Thing" ⟨"NoFartherThanAThrow$Thing", "can", "(I)I"⟩ rfl rfl q637 q640 (Or.inl q1103) q646 q638 q101 q647 ⟨by decide +kernel, by decide +kernel, by decide +kernel⟩
theorem k_X12_35 : Cs "NoFartherThanAThrow$Thing" (.invokestatic 35) 2 none YJ8_min := cs_S (Y := YJ8_min) rfl (lw_S q669 q670 q100 q671) ⟨by decide +kernel, by decide +kernel, by decide +kernel⟩
theorem k_X12_38_1 : Cs "NoFartherThanAThrow$Thing" (.invokevirtual 38) 2 (some 1) YX1_runs := cs_V (Y := YX1_runs) (RX1, TX1, 2) rfl rfl (lw_V q1334 q1317 q1318 q80 q1319) ⟨by decide +kernel, by decide +kernel, by decide +kernel, by decide +kernel⟩
theorem k_X12_44_12 : Cs "NoFartherThanAThrow$Thing" (.invokevirtual 44) 3 (some 12) YX12_going := cs_V (Y := YX12_going) (RX12, TX12, 3) rfl rfl (lw_V q1360 q1309 q1310 q101 q1333) ⟨by decide +kernel, by decide +kernel, by decide +kernel, by decide +kernel⟩
theorem k_X12_44_13 : Cs "NoFartherThanAThrow$Thing" (.invokevirtual 44) 3 (some 13) YX13_going := cs_U (Y := YX13_going) (RX13, TX13, 3) "NoFartherThanAThrow$Thing" ⟨"NoFartherThanAThrow$Thing", "going", "(ILNoFartherThanAThrow$Trace;)I"⟩ rfl rfl q1360 q1311 (Or.inr ⟨_, _, _, q1309, q1333⟩) q1321 q1322 q102 q1323 ⟨by decide +kernel, by decide +kernel, by decide +kernel⟩
theorem k_X12_44_14 : Cs "NoFartherThanAThrow$Thing" (.invokevirtual 44) 3 (some 14) YX12_going := cs_U (Y := YX12_going) (RX14, TX14, 3) "NoFartherThanAThrow$Thing" ⟨"NoFartherThanAThrow$Thing", "going", "(ILNoFartherThanAThrow$Trace;)I"⟩ rfl rfl q1360 q1311 (Or.inr ⟨_, _, _, q1309, q1333⟩) q1326 q1309 q101 q1333 ⟨by decide +kernel, by decide +kernel, by decide +kernel⟩
theorem k_X12_44_15 : Cs "NoFartherThanAThrow$Thing" (.invokevirtual 44) 3 (some 15) YX12_going := cs_U (Y := YX12_going) (RX15, TX15, 3) "NoFartherThanAThrow$Thing" ⟨"NoFartherThanAThrow$Thing", "going", "(ILNoFartherThanAThrow$Trace;)I"⟩ rfl rfl q1360 q1311 (Or.inr ⟨_, _, _, q1309, q1333⟩) q1312 q1309 q101 q1333 ⟨by decide +kernel, by decide +kernel, by decide +kernel⟩
theorem k_X12_44_16 : Cs "NoFartherThanAThrow$Thing" (.invokevirtual 44) 3 (some 16) YX16_going := cs_U (Y := YX16_going) (RX16, TX16, 3) "NoFartherThanAThrow$Thing" ⟨"NoFartherThanAThrow$Thing", "going", "(ILNoFartherThanAThrow$Trace;)I"⟩ rfl rfl q1360 q1311 (Or.inr ⟨_, _, _, q1309, q1333⟩) q1313 q1314 q105 q1315 ⟨by decide +kernel, by decide +kernel, by decide +kernel⟩
theorem k_X12_44_17 : Cs "NoFartherThanAThrow$Thing" (.invokevirtual 44) 3 (some 17) YX13_going := cs_U (Y := YX13_going) (RX17, TX17, 3) "NoFartherThanAThrow$Thing" ⟨"NoFartherThanAThrow$Thing", "going", "(ILNoFartherThanAThrow$Trace;)I"⟩ rfl rfl q1360 q1311 (Or.inr ⟨_, _, _, q1309, q1333⟩) q1327 q1322 q102 q1323 ⟨by decide +kernel, by decide +kernel, by decide +kernel⟩
theorem k_X12_44_18 : Cs "NoFartherThanAThrow$Thing" (.invokevirtual 44) 3 (some 18) YX18_going := cs_U (Y := YX18_going) (RX18, TX18, 3) "NoFartherThanAThrow$Thing" ⟨"NoFartherThanAThrow$Thing", "going", "(ILNoFartherThanAThrow$Trace;)I"⟩ rfl rfl q1360 q1311 (Or.inr ⟨_, _, _, q1309, q1333⟩) q1328 q1329 q107 q1330 ⟨by decide +kernel, by decide +kernel, by decide +kernel⟩
theorem k_X12_48_12 : Cs "NoFartherThanAThrow$Thing" (.invokevirtual 48) 3 (some 12) YX12_resting := cs_V (Y := YX12_resting) (RX12, TX12, 3) rfl rfl (lw_V q1380 q1336 q1337 q101 q1359) ⟨by decide +kernel, by decide +kernel, by decide +kernel, by decide +kernel⟩
theorem k_X12_48_13 : Cs "NoFartherThanAThrow$Thing" (.invokevirtual 48) 3 (some 13) YX12_resting := cs_U (Y := YX12_resting) (RX13, TX13, 3) "NoFartherThanAThrow$Thing" ⟨"NoFartherThanAThrow$Thing", "resting", "(ILNoFartherThanAThrow$Trace;)I"⟩ rfl rfl q1380 q1338 (Or.inl q1357) q1349 q1336 q101 q1359 ⟨by decide +kernel, by decide +kernel, by decide +kernel⟩
theorem k_X12_48_14 : Cs "NoFartherThanAThrow$Thing" (.invokevirtual 48) 3 (some 14) YX14_resting := cs_U (Y := YX14_resting) (RX14, TX14, 3) "NoFartherThanAThrow$Thing" ⟨"NoFartherThanAThrow$Thing", "resting", "(ILNoFartherThanAThrow$Trace;)I"⟩ rfl rfl q1380 q1338 (Or.inl q1357) q1350 q1344 q103 q1345 ⟨by decide +kernel, by decide +kernel, by decide +kernel⟩
theorem k_X12_48_15 : Cs "NoFartherThanAThrow$Thing" (.invokevirtual 48) 3 (some 15) YX15_resting := cs_U (Y := YX15_resting) (RX15, TX15, 3) "NoFartherThanAThrow$Thing" ⟨"NoFartherThanAThrow$Thing", "resting", "(ILNoFartherThanAThrow$Trace;)I"⟩ rfl rfl q1380 q1338 (Or.inl q1357) q1339 q1340 q104 q1341 ⟨by decide +kernel, by decide +kernel, by decide +kernel⟩
theorem k_X12_48_16 : Cs "NoFartherThanAThrow$Thing" (.invokevirtual 48) 3 (some 16) YX12_resting := cs_U (Y := YX12_resting) (RX16, TX16, 3) "NoFartherThanAThrow$Thing" ⟨"NoFartherThanAThrow$Thing", "resting", "(ILNoFartherThanAThrow$Trace;)I"⟩ rfl rfl q1380 q1338 (Or.inl q1357) q1348 q1336 q101 q1359 ⟨by decide +kernel, by decide +kernel, by decide +kernel⟩
theorem k_X12_48_17 : Cs "NoFartherThanAThrow$Thing" (.invokevirtual 48) 3 (some 17) YX17_resting := cs_U (Y := YX17_resting) (RX17, TX17, 3) "NoFartherThanAThrow$Thing" ⟨"NoFartherThanAThrow$Thing", "resting", "(ILNoFartherThanAThrow$Trace;)I"⟩ rfl rfl q1380 q1338 (Or.inl q1357) q1351 q1352 q106 q1353 ⟨by decide +kernel, by decide +kernel, by decide +kernel⟩
theorem k_X12_48_18 : Cs "NoFartherThanAThrow$Thing" (.invokevirtual 48) 3 (some 18) YX12_resting := cs_U (Y := YX12_resting) (RX18, TX18, 3) "NoFartherThanAThrow$Thing" ⟨"NoFartherThanAThrow$Thing", "resting", "(ILNoFartherThanAThrow$Trace;)I"⟩ rfl rfl q1380 q1338 (Or.inl q1357) q1358 q1336 q101 q1359 ⟨by decide +kernel, by decide +kernel, by decide +kernel⟩
theorem k_X3_50_3 : Cs "NoFartherThanAThrow$World" (.invokespecial 50) 1 (some 3) YX3_init := cs_I (Y := YX3_init) rfl q170 q82 q933 q169 ⟨by decide +kernel, by decide +kernel, by decide +kernel, by decide +kernel⟩
theorem k_X3_78 : Cs "NoFartherThanAThrow$World" (.invokestatic 78) 3 none YX0_in := cs_S (Y := YX0_in) rfl (lw_S q709 q416 q79 q417) ⟨by decide +kernel, by decide +kernel, by decide +kernel⟩
theorem k_X3_82_3 : Cs "NoFartherThanAThrow$World" (.invokevirtual 82) 2 (some 3) YX3_isWet := cs_V (Y := YX3_isWet) (RX3, TX3, 18) rfl rfl (lw_V q710 q711 q712 q82 q713) ⟨by decide +kernel, by decide +kernel, by decide +kernel, by decide +kernel⟩
theorem k_X3_86 : Cs "NoFartherThanAThrow$World" (.invokestatic 86) 2 none YJ8_max := cs_S (Y := YJ8_max) rfl (lw_S q870 q649 q100 q650) ⟨by decide +kernel, by decide +kernel, by decide +kernel⟩
theorem k_X3_92 : Cs "NoFartherThanAThrow$World" (.invokestatic 92) 4 none YX0_thingOfKind := cs_S (Y := YX0_thingOfKind) rfl (lw_S q722 q723 q79 q724) ⟨by decide +kernel, by decide +kernel, by decide +kernel⟩
theorem k_X3_96_3 : Cs "NoFartherThanAThrow$World" (.invokevirtual 96) 7 (some 3) YX3_putThing := cs_V (Y := YX3_putThing) (RX3, TX3, 18) rfl rfl (lw_V q718 q719 q720 q82 q721) ⟨by decide +kernel, by decide +kernel, by decide +kernel, by decide +kernel⟩
theorem k_X3_100_12 : Cs "NoFartherThanAThrow$World" (.invokevirtual 100) 3 (some 12) YX12_far := cs_V (Y := YX12_far) (RX12, TX12, 3) rfl rfl (lw_V q1094 q635 q1941 q101 q636) ⟨by decide +kernel, by decide +kernel, by decide +kernel, by decide +kernel⟩
theorem k_X3_100_13 : Cs "NoFartherThanAThrow$World" (.invokevirtual 100) 3 (some 13) YX13_far := cs_U (Y := YX13_far) (RX13, TX13, 3) "NoFartherThanAThrow$Thing" ⟨"NoFartherThanAThrow$Thing", "far", "(II)I"⟩ rfl rfl q1094 q1932 (Or.inr ⟨_, _, _, q635, q636⟩) q1936 q1099 q102 q1100 ⟨by decide +kernel, by decide +kernel, by decide +kernel⟩
theorem k_X3_100_14 : Cs "NoFartherThanAThrow$World" (.invokevirtual 100) 3 (some 14) YX14_far := cs_U (Y := YX14_far) (RX14, TX14, 3) "NoFartherThanAThrow$Thing" ⟨"NoFartherThanAThrow$Thing", "far", "(II)I"⟩ rfl rfl q1094 q1932 (Or.inr ⟨_, _, _, q635, q636⟩) q1937 q624 q103 q632 ⟨by decide +kernel, by decide +kernel, by decide +kernel⟩
theorem k_X3_100_15 : Cs "NoFartherThanAThrow$World" (.invokevirtual 100) 3 (some 15) YX15_far := cs_U (Y := YX15_far) (RX15, TX15, 3) "NoFartherThanAThrow$Thing" ⟨"NoFartherThanAThrow$Thing", "far", "(II)I"⟩ rfl rfl q1094 q1932 (Or.inr ⟨_, _, _, q635, q636⟩) q1934 q628 q104 q629 ⟨by decide +kernel, by decide +kernel, by decide +kernel⟩
theorem k_X3_100_16 : Cs "NoFartherThanAThrow$World" (.invokevirtual 100) 3 (some 16) YX16_far := cs_U (Y := YX16_far) (RX16, TX16, 3) "NoFartherThanAThrow$Thing" ⟨"NoFartherThanAThrow$Thing", "far", "(II)I"⟩ rfl rfl q1094 q1932 (Or.inr ⟨_, _, _, q635, q636⟩) q1935 q1095 q105 q1096 ⟨by decide +kernel, by decide +kernel, by decide +kernel⟩
theorem k_X3_100_17 : Cs "NoFartherThanAThrow$World" (.invokevirtual 100) 3 (some 17) YX13_far := cs_U (Y := YX13_far) (RX17, TX17, 3) "NoFartherThanAThrow$Thing" ⟨"NoFartherThanAThrow$Thing", "far", "(II)I"⟩ rfl rfl q1094 q1932 (Or.inr ⟨_, _, _, q635, q636⟩) q1938 q1099 q102 q1100 ⟨by decide +kernel, by decide +kernel, by decide +kernel⟩
theorem k_X3_100_18 : Cs "NoFartherThanAThrow$World" (.invokevirtual 100) 3 (some 18) YX18_far := cs_U (Y := YX18_far) (RX18, TX18, 3) "NoFartherThanAThrow$Thing" ⟨"NoFartherThanAThrow$Thing", "far", "(II)I"⟩ rfl rfl q1094 q1932 (Or.inr ⟨_, _, _, q635, q636⟩) q1939 q1108 q107 q1109 ⟨by decide +kernel, by decide +kernel, by decide +kernel⟩
theorem k_X3_103 : Cs "NoFartherThanAThrow$World" (.invokestatic 103) 1 none YJ8_abs := cs_S (Y := YJ8_abs) rfl (lw_S q1119 q1120 q100 q1121) ⟨by decide +kernel, by decide +kernel, by decide +kernel⟩
theorem k_X3_107_3 : Cs "NoFartherThanAThrow$World" (.invokevirtual 107) 3 (some 3) YX3_far := cs_V (Y := YX3_far) (RX3, TX3, 18) rfl rfl (lw_V q1122 q1091 q1092 q82 q1093) ⟨by decide +kernel, by decide +kernel, by decide +kernel, by decide +kernel⟩
theorem k_X3_111 : Cs "NoFartherThanAThrow$World" (.invokestatic 111) 2 none YJ8_min := cs_S (Y := YJ8_min) rfl (lw_S q1135 q670 q100 q671) ⟨by decide +kernel, by decide +kernel, by decide +kernel⟩
theorem k_X3_114_3 : Cs "NoFartherThanAThrow$World" (.invokevirtual 114) 3 (some 3) YX3_tires := cs_V (Y := YX3_tires) (RX3, TX3, 18) rfl rfl (lw_V q1131 q1132 q1133 q82 q1134) ⟨by decide +kernel, by decide +kernel, by decide +kernel, by decide +kernel⟩
theorem k_X3_118_3 : Cs "NoFartherThanAThrow$World" (.invokevirtual 118) 2 (some 3) YX3_isStep := cs_V (Y := YX3_isStep) (RX3, TX3, 18) rfl rfl (lw_V q1257 q706 q707 q82 q708) ⟨by decide +kernel, by decide +kernel, by decide +kernel, by decide +kernel⟩
theorem k_L_9_0 : Cs "NoFartherThanAThrowLaw" (.invokespecial 9) 1 (some 0) YX0_init := cs_I (Y := YX0_init) rfl q118 q79 q116 q117 ⟨by decide +kernel, by decide +kernel, by decide +kernel, by decide +kernel⟩
theorem k_L_12_5 : Cs "NoFartherThanAThrowLaw" (.invokespecial 12) 1 (some 5) YX5_init := cs_I (Y := YX5_init) rfl q1404 q84 q1402 q1403 ⟨by decide +kernel, by decide +kernel, by decide +kernel, by decide +kernel⟩
theorem k_L_13_0 : Cs "NoFartherThanAThrowLaw" (.invokevirtual 13) 4 (some 0) YX0_row := cs_VW (Y := YX0_row) (RX0, TX0, 9) rfl rfl (lw_VW q301 q302 q303 q79 q304) ⟨by decide +kernel, by decide +kernel, by decide +kernel, by decide +kernel⟩
theorem k_L_17_5 : Cs "NoFartherThanAThrowLaw" (.invokevirtual 17) 4 (some 5) YX5_row := cs_V (Y := YX5_row) (RX5, TX5, 50) rfl rfl (lw_V q1557 q1558 q1559 q84 q1560) ⟨by decide +kernel, by decide +kernel, by decide +kernel, by decide +kernel⟩
theorem k_L_20_0 : Cs "NoFartherThanAThrowLaw" (.invokevirtual 20) 4 (some 0) YX0_set := cs_VW (Y := YX0_set) (RX0, TX0, 9) rfl rfl (lw_VW q484 q485 q486 q79 q487) ⟨by decide +kernel, by decide +kernel, by decide +kernel, by decide +kernel⟩
theorem k_L_24_5 : Cs "NoFartherThanAThrowLaw" (.invokevirtual 24) 4 (some 5) YX5_set := cs_V (Y := YX5_set) (RX5, TX5, 50) rfl rfl (lw_V q1569 q1570 q1571 q84 q1572) ⟨by decide +kernel, by decide +kernel, by decide +kernel, by decide +kernel⟩
theorem k_L_25_0 : Cs "NoFartherThanAThrowLaw" (.invokevirtual 25) 6 (some 0) YX0_copy := cs_VW (Y := YX0_copy) (RX0, TX0, 9) rfl rfl (lw_VW q525 q526 q527 q79 q528) ⟨by decide +kernel, by decide +kernel, by decide +kernel, by decide +kernel⟩
theorem k_L_29_5 : Cs "NoFartherThanAThrowLaw" (.invokevirtual 29) 6 (some 5) YX5_copy := cs_V (Y := YX5_copy) (RX5, TX5, 50) rfl rfl (lw_V q1573 q1574 q1575 q84 q1576) ⟨by decide +kernel, by decide +kernel, by decide +kernel, by decide +kernel⟩
theorem k_L_30_0 : Cs "NoFartherThanAThrowLaw" (.invokevirtual 30) 3 (some 0) YX0_element := cs_VW (Y := YX0_element) (RX0, TX0, 9) rfl rfl (lw_VW q568 q569 q570 q79 q571) ⟨by decide +kernel, by decide +kernel, by decide +kernel, by decide +kernel⟩
theorem k_L_34_5 : Cs "NoFartherThanAThrowLaw" (.invokevirtual 34) 3 (some 5) YX5_element := cs_V (Y := YX5_element) (RX5, TX5, 50) rfl rfl (lw_V q1577 q1578 q1579 q84 q1580) ⟨by decide +kernel, by decide +kernel, by decide +kernel, by decide +kernel⟩
theorem k_L_35_0 : Cs "NoFartherThanAThrowLaw" (.invokevirtual 35) 3 (some 0) YX0_show := cs_VW (Y := YX0_show) (RX0, TX0, 9) rfl rfl (lw_VW q587 q588 q589 q79 q590) ⟨by decide +kernel, by decide +kernel, by decide +kernel, by decide +kernel⟩
theorem k_L_39_5 : Cs "NoFartherThanAThrowLaw" (.invokevirtual 39) 3 (some 5) YX5_show := cs_V (Y := YX5_show) (RX5, TX5, 50) rfl rfl (lw_V q1581 q1582 q1583 q84 q1584) ⟨by decide +kernel, by decide +kernel, by decide +kernel, by decide +kernel⟩
theorem k_L_40_0 : Cs "NoFartherThanAThrowLaw" (.invokevirtual 40) 2 (some 0) YX0_holds := cs_V (Y := YX0_holds) (RX0, TX0, 9) rfl rfl (lw_V q599 q600 q601 q79 q602) ⟨by decide +kernel, by decide +kernel, by decide +kernel, by decide +kernel⟩
theorem k_L_44_5 : Cs "NoFartherThanAThrowLaw" (.invokevirtual 44) 2 (some 5) YX5_holds := cs_V (Y := YX5_holds) (RX5, TX5, 50) rfl rfl (lw_V q1589 q1590 q1591 q84 q1592) ⟨by decide +kernel, by decide +kernel, by decide +kernel, by decide +kernel⟩
theorem k_L_45_0 : Cs "NoFartherThanAThrowLaw" (.invokevirtual 45) 3 (some 0) YX0_says := cs_VW (Y := YX0_says) (RX0, TX0, 9) rfl rfl (lw_VW q605 q606 q607 q79 q608) ⟨by decide +kernel, by decide +kernel, by decide +kernel, by decide +kernel⟩
theorem k_L_48_5 : Cs "NoFartherThanAThrowLaw" (.invokevirtual 48) 3 (some 5) YX5_says := cs_V (Y := YX5_says) (RX5, TX5, 50) rfl rfl (lw_V q1593 q1594 q1595 q84 q1596) ⟨by decide +kernel, by decide +kernel, by decide +kernel, by decide +kernel⟩
theorem k_L_49_0 : Cs "NoFartherThanAThrowLaw" (.invokevirtual 49) 5 (some 0) YX0_thing := cs_VW (Y := YX0_thing) (RX0, TX0, 9) rfl rfl (lw_VW q699 q700 q701 q79 q702) ⟨by decide +kernel, by decide +kernel, by decide +kernel, by decide +kernel⟩
theorem k_L_53_5 : Cs "NoFartherThanAThrowLaw" (.invokevirtual 53) 5 (some 5) YX5_thing := cs_V (Y := YX5_thing) (RX5, TX5, 50) rfl rfl (lw_V q1605 q1606 q1607 q84 q1608) ⟨by decide +kernel, by decide +kernel, by decide +kernel, by decide +kernel⟩
theorem k_L_54_0 : Cs "NoFartherThanAThrowLaw" (.invokevirtual 54) 2 (some 0) YX0_man := cs_VW (Y := YX0_man) (RX0, TX0, 9) rfl rfl (lw_VW q814 q815 q816 q79 q817) ⟨by decide +kernel, by decide +kernel, by decide +kernel, by decide +kernel⟩
theorem k_L_57_5 : Cs "NoFartherThanAThrowLaw" (.invokevirtual 57) 2 (some 5) YX5_man := cs_V (Y := YX5_man) (RX5, TX5, 50) rfl rfl (lw_V q1621 q1622 q1623 q84 q1624) ⟨by decide +kernel, by decide +kernel, by decide +kernel, by decide +kernel⟩
theorem k_L_58_0 : Cs "NoFartherThanAThrowLaw" (.invokevirtual 58) 4 (some 0) YX0_men := cs_VW (Y := YX0_men) (RX0, TX0, 9) rfl rfl (lw_VW q826 q827 q828 q79 q829) ⟨by decide +kernel, by decide +kernel, by decide +kernel, by decide +kernel⟩
theorem k_L_61_5 : Cs "NoFartherThanAThrowLaw" (.invokevirtual 61) 4 (some 5) YX5_men_2 := cs_V (Y := YX5_men_2) (RX5, TX5, 50) rfl rfl (lw_V q1629 q1630 q1631 q84 q1632) ⟨by decide +kernel, by decide +kernel, by decide +kernel, by decide +kernel⟩
theorem k_L_62_0 : Cs "NoFartherThanAThrowLaw" (.invokevirtual 62) 4 (some 0) YX0_want := cs_VW (Y := YX0_want) (RX0, TX0, 9) rfl rfl (lw_VW q854 q855 q856 q79 q857) ⟨by decide +kernel, by decide +kernel, by decide +kernel, by decide +kernel⟩
theorem k_L_65_5 : Cs "NoFartherThanAThrowLaw" (.invokevirtual 65) 4 (some 5) YX5_want := cs_V (Y := YX5_want) (RX5, TX5, 50) rfl rfl (lw_V q1641 q1642 q1643 q84 q1644) ⟨by decide +kernel, by decide +kernel, by decide +kernel, by decide +kernel⟩
theorem k_L_66_0 : Cs "NoFartherThanAThrowLaw" (.invokevirtual 66) 3 (some 0) YX0_ask := cs_VW (Y := YX0_ask) (RX0, TX0, 9) rfl rfl (lw_VW q862 q863 q864 q79 q865) ⟨by decide +kernel, by decide +kernel, by decide +kernel, by decide +kernel⟩
theorem k_L_69_5 : Cs "NoFartherThanAThrowLaw" (.invokevirtual 69) 3 (some 5) YX5_ask := cs_V (Y := YX5_ask) (RX5, TX5, 50) rfl rfl (lw_V q1649 q1650 q1651 q84 q1652) ⟨by decide +kernel, by decide +kernel, by decide +kernel, by decide +kernel⟩
theorem k_L_70_0 : Cs "NoFartherThanAThrowLaw" (.invokevirtual 70) 3 (some 0) YX0_river := cs_VW (Y := YX0_river) (RX0, TX0, 9) rfl rfl (lw_VW q872 q873 q874 q79 q875) ⟨by decide +kernel, by decide +kernel, by decide +kernel, by decide +kernel⟩
theorem k_L_73_5 : Cs "NoFartherThanAThrowLaw" (.invokevirtual 73) 3 (some 5) YX5_river := cs_V (Y := YX5_river) (RX5, TX5, 50) rfl rfl (lw_V q1657 q1658 q1659 q84 q1660) ⟨by decide +kernel, by decide +kernel, by decide +kernel, by decide +kernel⟩
theorem k_L_74_0 : Cs "NoFartherThanAThrowLaw" (.invokevirtual 74) 3 (some 0) YX0_thingOf := cs_V (Y := YX0_thingOf) (RX0, TX0, 9) rfl rfl (lw_V q880 q881 q882 q79 q883) ⟨by decide +kernel, by decide +kernel, by decide +kernel, by decide +kernel⟩
theorem k_L_77_5 : Cs "NoFartherThanAThrowLaw" (.invokevirtual 77) 3 (some 5) YX5_thingOf := cs_V (Y := YX5_thingOf) (RX5, TX5, 50) rfl rfl (lw_V q1665 q1666 q1667 q84 q1668) ⟨by decide +kernel, by decide +kernel, by decide +kernel, by decide +kernel⟩
theorem k_L_78_0 : Cs "NoFartherThanAThrowLaw" (.invokevirtual 78) 3 (some 0) YX0_manOf := cs_V (Y := YX0_manOf) (RX0, TX0, 9) rfl rfl (lw_V q911 q912 q913 q79 q914) ⟨by decide +kernel, by decide +kernel, by decide +kernel, by decide +kernel⟩
theorem k_L_81_5 : Cs "NoFartherThanAThrowLaw" (.invokevirtual 81) 3 (some 5) YX5_manOf := cs_V (Y := YX5_manOf) (RX5, TX5, 50) rfl rfl (lw_V q1669 q1670 q1671 q84 q1672) ⟨by decide +kernel, by decide +kernel, by decide +kernel, by decide +kernel⟩
theorem k_L_82_0 : Cs "NoFartherThanAThrowLaw" (.invokevirtual 82) 3 (some 0) YX0_wantOf := cs_V (Y := YX0_wantOf) (RX0, TX0, 9) rfl rfl (lw_V q919 q920 q921 q79 q922) ⟨by decide +kernel, by decide +kernel, by decide +kernel, by decide +kernel⟩
theorem k_L_85_5 : Cs "NoFartherThanAThrowLaw" (.invokevirtual 85) 3 (some 5) YX5_wantOf := cs_V (Y := YX5_wantOf) (RX5, TX5, 50) rfl rfl (lw_V q1677 q1678 q1679 q84 q1680) ⟨by decide +kernel, by decide +kernel, by decide +kernel, by decide +kernel⟩
theorem k_L_86_0 : Cs "NoFartherThanAThrowLaw" (.invokevirtual 86) 2 (some 0) YX0_valley := cs_VW (Y := YX0_valley) (RX0, TX0, 9) rfl rfl (lw_VW q923 q924 q925 q79 q926) ⟨by decide +kernel, by decide +kernel, by decide +kernel, by decide +kernel⟩
theorem k_L_89_5 : Cs "NoFartherThanAThrowLaw" (.invokevirtual 89) 2 (some 5) YX5_valley := cs_V (Y := YX5_valley) (RX5, TX5, 50) rfl rfl (lw_V q1681 q1682 q1683 q84 q1684) ⟨by decide +kernel, by decide +kernel, by decide +kernel, by decide +kernel⟩
theorem k_L_90_0 : Cs "NoFartherThanAThrowLaw" (.invokevirtual 90) 1 (some 0) YX0_fault := cs_V (Y := YX0_fault) (RX0, TX0, 9) rfl rfl (lw_V q1078 q1079 q1080 q79 q1081) ⟨by decide +kernel, by decide +kernel, by decide +kernel, by decide +kernel⟩
theorem k_L_94_5 : Cs "NoFartherThanAThrowLaw" (.invokevirtual 94) 1 (some 5) YX5_fault := cs_V (Y := YX5_fault) (RX5, TX5, 50) rfl rfl (lw_V q1725 q1726 q1727 q84 q1728) ⟨by decide +kernel, by decide +kernel, by decide +kernel, by decide +kernel⟩
theorem k_L_95_0 : Cs "NoFartherThanAThrowLaw" (.invokevirtual 95) 3 (some 0) YX0_far := cs_VW (Y := YX0_far) (RX0, TX0, 9) rfl rfl (lw_VW q1082 q1083 q1084 q79 q1085) ⟨by decide +kernel, by decide +kernel, by decide +kernel, by decide +kernel⟩
theorem k_L_98_5 : Cs "NoFartherThanAThrowLaw" (.invokevirtual 98) 3 (some 5) YX5_far := cs_V (Y := YX5_far) (RX5, TX5, 50) rfl rfl (lw_V q1729 q1730 q1731 q84 q1732) ⟨by decide +kernel, by decide +kernel, by decide +kernel, by decide +kernel⟩
theorem k_L_99_0 : Cs "NoFartherThanAThrowLaw" (.invokevirtual 99) 4 (some 0) YX0_wrong := cs_VW (Y := YX0_wrong) (RX0, TX0, 9) rfl rfl (lw_VW q1111 q1112 q1113 q79 q1114) ⟨by decide +kernel, by decide +kernel, by decide +kernel, by decide +kernel⟩
theorem k_L_102_5 : Cs "NoFartherThanAThrowLaw" (.invokevirtual 102) 4 (some 5) YX5_wrong_2 := cs_V (Y := YX5_wrong_2) (RX5, TX5, 50) rfl rfl (lw_V q1737 q1738 q1739 q84 q1740) ⟨by decide +kernel, by decide +kernel, by decide +kernel, by decide +kernel⟩
theorem k_L_103_0 : Cs "NoFartherThanAThrowLaw" (.invokevirtual 103) 4 (some 0) YX0_carry := cs_VW (Y := YX0_carry) (RX0, TX0, 9) rfl rfl (lw_VW q1123 q1124 q1125 q79 q1126) ⟨by decide +kernel, by decide +kernel, by decide +kernel, by decide +kernel⟩
theorem k_L_106_5 : Cs "NoFartherThanAThrowLaw" (.invokevirtual 106) 4 (some 5) YX5_carry := cs_V (Y := YX5_carry) (RX5, TX5, 50) rfl rfl (lw_V q1749 q1750 q1751 q84 q1752) ⟨by decide +kernel, by decide +kernel, by decide +kernel, by decide +kernel⟩
theorem k_L_107_0 : Cs "NoFartherThanAThrowLaw" (.invokevirtual 107) 4 (some 0) YX0_judge := cs_VW (Y := YX0_judge) (RX0, TX0, 9) rfl rfl (lw_VW q1136 q1137 q1138 q79 q1139) ⟨by decide +kernel, by decide +kernel, by decide +kernel, by decide +kernel⟩
theorem k_L_110_5 : Cs "NoFartherThanAThrowLaw" (.invokevirtual 110) 4 (some 5) YX5_judge := cs_V (Y := YX5_judge) (RX5, TX5, 50) rfl rfl (lw_V q1761 q1762 q1763 q84 q1764) ⟨by decide +kernel, by decide +kernel, by decide +kernel, by decide +kernel⟩
theorem k_L_111_0 : Cs "NoFartherThanAThrowLaw" (.invokevirtual 111) 3 (some 0) YX0_end := cs_VW (Y := YX0_end) (RX0, TX0, 9) rfl rfl (lw_VW q1140 q1141 q1142 q79 q1143) ⟨by decide +kernel, by decide +kernel, by decide +kernel, by decide +kernel⟩
theorem k_L_114_5 : Cs "NoFartherThanAThrowLaw" (.invokevirtual 114) 3 (some 5) YX5_end := cs_V (Y := YX5_end) (RX5, TX5, 50) rfl rfl (lw_V q1765 q1766 q1767 q84 q1768) ⟨by decide +kernel, by decide +kernel, by decide +kernel, by decide +kernel⟩
theorem k_L_115_0 : Cs "NoFartherThanAThrowLaw" (.invokevirtual 115) 4 (some 0) YX0_does := cs_VW (Y := YX0_does) (RX0, TX0, 9) rfl rfl (lw_VW q1163 q1164 q1165 q79 q1166) ⟨by decide +kernel, by decide +kernel, by decide +kernel, by decide +kernel⟩
theorem k_L_118_5 : Cs "NoFartherThanAThrowLaw" (.invokevirtual 118) 4 (some 5) YX5_does := cs_V (Y := YX5_does) (RX5, TX5, 50) rfl rfl (lw_V q1785 q1786 q1787 q84 q1788) ⟨by decide +kernel, by decide +kernel, by decide +kernel, by decide +kernel⟩
theorem k_L_119_0 : Cs "NoFartherThanAThrowLaw" (.invokevirtual 119) 3 (some 0) YX0_fewest := cs_VW (Y := YX0_fewest) (RX0, TX0, 9) rfl rfl (lw_VW q1175 q1176 q1177 q79 q1178) ⟨by decide +kernel, by decide +kernel, by decide +kernel, by decide +kernel⟩
theorem k_L_122_5 : Cs "NoFartherThanAThrowLaw" (.invokevirtual 122) 3 (some 5) YX5_fewest := cs_V (Y := YX5_fewest) (RX5, TX5, 50) rfl rfl (lw_V q1793 q1794 q1795 q84 q1796) ⟨by decide +kernel, by decide +kernel, by decide +kernel, by decide +kernel⟩
theorem k_L_123_0 : Cs "NoFartherThanAThrowLaw" (.invokevirtual 123) 5 (some 0) YX0_order := cs_VW (Y := YX0_order) (RX0, TX0, 9) rfl rfl (lw_VW q1185 q1186 q1187 q79 q1188) ⟨by decide +kernel, by decide +kernel, by decide +kernel, by decide +kernel⟩
theorem k_L_126_5 : Cs "NoFartherThanAThrowLaw" (.invokevirtual 126) 5 (some 5) YX5_order := cs_V (Y := YX5_order) (RX5, TX5, 50) rfl rfl (lw_V q1801 q1802 q1803 q84 q1804) ⟨by decide +kernel, by decide +kernel, by decide +kernel, by decide +kernel⟩
theorem k_L_127_0 : Cs "NoFartherThanAThrowLaw" (.invokevirtual 127) 3 (some 0) YX0_handovers := cs_VW (Y := YX0_handovers) (RX0, TX0, 9) rfl rfl (lw_VW q1194 q1195 q1196 q79 q1197) ⟨by decide +kernel, by decide +kernel, by decide +kernel, by decide +kernel⟩
theorem k_L_130_5 : Cs "NoFartherThanAThrowLaw" (.invokevirtual 130) 3 (some 5) YX5_handovers := cs_V (Y := YX5_handovers) (RX5, TX5, 50) rfl rfl (lw_V q1805 q1806 q1807 q84 q1808) ⟨by decide +kernel, by decide +kernel, by decide +kernel, by decide +kernel⟩
theorem k_L_131_0 : Cs "NoFartherThanAThrowLaw" (.invokevirtual 131) 1 (some 0) YX0_shared := cs_V (Y := YX0_shared) (RX0, TX0, 9) rfl rfl (lw_V q1202 q1203 q1204 q79 q1205) ⟨by decide +kernel, by decide +kernel, by decide +kernel, by decide +kernel⟩
theorem k_L_134_5 : Cs "NoFartherThanAThrowLaw" (.invokevirtual 134) 1 (some 5) YX5_shared := cs_V (Y := YX5_shared) (RX5, TX5, 50) rfl rfl (lw_V q1813 q1814 q1815 q84 q1816) ⟨by decide +kernel, by decide +kernel, by decide +kernel, by decide +kernel⟩
theorem k_L_135_0 : Cs "NoFartherThanAThrowLaw" (.invokevirtual 135) 2 (some 0) YX0_given := cs_VW (Y := YX0_given) (RX0, TX0, 9) rfl rfl (lw_VW q1220 q1221 q1222 q79 q1223) ⟨by decide +kernel, by decide +kernel, by decide +kernel, by decide +kernel⟩
theorem k_L_138_5 : Cs "NoFartherThanAThrowLaw" (.invokevirtual 138) 2 (some 5) YX5_given := cs_V (Y := YX5_given) (RX5, TX5, 50) rfl rfl (lw_V q1829 q1830 q1831 q84 q1832) ⟨by decide +kernel, by decide +kernel, by decide +kernel, by decide +kernel⟩
theorem k_L_139_0 : Cs "NoFartherThanAThrowLaw" (.invokevirtual 139) 4 (some 0) YX0_mill := cs_VW (Y := YX0_mill) (RX0, TX0, 9) rfl rfl (lw_VW q1224 q1225 q1226 q79 q1227) ⟨by decide +kernel, by decide +kernel, by decide +kernel, by decide +kernel⟩
theorem k_L_142_5 : Cs "NoFartherThanAThrowLaw" (.invokevirtual 142) 4 (some 5) YX5_mill := cs_V (Y := YX5_mill) (RX5, TX5, 50) rfl rfl (lw_V q1833 q1834 q1835 q84 q1836) ⟨by decide +kernel, by decide +kernel, by decide +kernel, by decide +kernel⟩
theorem k_L_143_0 : Cs "NoFartherThanAThrowLaw" (.invokevirtual 143) 3 (some 0) YX0_weakest := cs_VW (Y := YX0_weakest) (RX0, TX0, 9) rfl rfl (lw_VW q1229 q1230 q1231 q79 q1232) ⟨by decide +kernel, by decide +kernel, by decide +kernel, by decide +kernel⟩
theorem k_L_146_5 : Cs "NoFartherThanAThrowLaw" (.invokevirtual 146) 3 (some 5) YX5_weakest := cs_V (Y := YX5_weakest) (RX5, TX5, 50) rfl rfl (lw_V q1837 q1838 q1839 q84 q1840) ⟨by decide +kernel, by decide +kernel, by decide +kernel, by decide +kernel⟩
theorem k_L_147_0 : Cs "NoFartherThanAThrowLaw" (.invokevirtual 147) 5 (some 0) YX0_helps := cs_VW (Y := YX0_helps) (RX0, TX0, 9) rfl rfl (lw_VW q1233 q1234 q1235 q79 q1236) ⟨by decide +kernel, by decide +kernel, by decide +kernel, by decide +kernel⟩
theorem k_L_150_5 : Cs "NoFartherThanAThrowLaw" (.invokevirtual 150) 5 (some 5) YX5_helps := cs_V (Y := YX5_helps) (RX5, TX5, 50) rfl rfl (lw_V q1841 q1842 q1843 q84 q1844) ⟨by decide +kernel, by decide +kernel, by decide +kernel, by decide +kernel⟩
theorem k_L_151_0 : Cs "NoFartherThanAThrowLaw" (.invokevirtual 151) 4 (some 0) YX0_caught := cs_VW (Y := YX0_caught) (RX0, TX0, 9) rfl rfl (lw_VW q1237 q1238 q1239 q79 q1240) ⟨by decide +kernel, by decide +kernel, by decide +kernel, by decide +kernel⟩
theorem k_L_154_5 : Cs "NoFartherThanAThrowLaw" (.invokevirtual 154) 4 (some 5) YX5_caught := cs_V (Y := YX5_caught) (RX5, TX5, 50) rfl rfl (lw_V q1845 q1846 q1847 q84 q1848) ⟨by decide +kernel, by decide +kernel, by decide +kernel, by decide +kernel⟩
theorem k_L_155_0 : Cs "NoFartherThanAThrowLaw" (.invokevirtual 155) 4 (some 0) YX0_mean := cs_VW (Y := YX0_mean) (RX0, TX0, 9) rfl rfl (lw_VW q1245 q1246 q1247 q79 q1248) ⟨by decide +kernel, by decide +kernel, by decide +kernel, by decide +kernel⟩
theorem k_L_158_5 : Cs "NoFartherThanAThrowLaw" (.invokevirtual 158) 4 (some 5) YX5_mean := cs_V (Y := YX5_mean) (RX5, TX5, 50) rfl rfl (lw_V q1857 q1858 q1859 q84 q1860) ⟨by decide +kernel, by decide +kernel, by decide +kernel, by decide +kernel⟩
theorem k_L_159_0 : Cs "NoFartherThanAThrowLaw" (.invokevirtual 159) 3 (some 0) YX0_cast := cs_VW (Y := YX0_cast) (RX0, TX0, 9) rfl rfl (lw_VW q1258 q1259 q1260 q79 q1261) ⟨by decide +kernel, by decide +kernel, by decide +kernel, by decide +kernel⟩
theorem k_L_162_5 : Cs "NoFartherThanAThrowLaw" (.invokevirtual 162) 3 (some 5) YX5_cast := cs_V (Y := YX5_cast) (RX5, TX5, 50) rfl rfl (lw_V q1869 q1870 q1871 q84 q1872) ⟨by decide +kernel, by decide +kernel, by decide +kernel, by decide +kernel⟩
theorem k_L_163_0 : Cs "NoFartherThanAThrowLaw" (.invokevirtual 163) 4 (some 0) YX0_toss := cs_VW (Y := YX0_toss) (RX0, TX0, 9) rfl rfl (lw_VW q1262 q1263 q1264 q79 q1265) ⟨by decide +kernel, by decide +kernel, by decide +kernel, by decide +kernel⟩
theorem k_L_166_5 : Cs "NoFartherThanAThrowLaw" (.invokevirtual 166) 4 (some 5) YX5_toss := cs_V (Y := YX5_toss) (RX5, TX5, 50) rfl rfl (lw_V q1873 q1874 q1875 q84 q1876) ⟨by decide +kernel, by decide +kernel, by decide +kernel, by decide +kernel⟩
theorem k_L_167_0 : Cs "NoFartherThanAThrowLaw" (.invokevirtual 167) 2 (some 0) YX0_part := cs_VW (Y := YX0_part) (RX0, TX0, 9) rfl rfl (lw_VW q1286 q1287 q1288 q79 q1289) ⟨by decide +kernel, by decide +kernel, by decide +kernel, by decide +kernel⟩
theorem k_L_170_5 : Cs "NoFartherThanAThrowLaw" (.invokevirtual 170) 2 (some 5) YX5_part := cs_V (Y := YX5_part) (RX5, TX5, 50) rfl rfl (lw_V q1882 q1883 q1884 q84 q1885) ⟨by decide +kernel, by decide +kernel, by decide +kernel, by decide +kernel⟩
theorem k_L_171_0 : Cs "NoFartherThanAThrowLaw" (.invokevirtual 171) 1 (some 0) YX0_night := cs_V (Y := YX0_night) (RX0, TX0, 9) rfl rfl (lw_V q1296 q1297 q1298 q79 q1299) ⟨by decide +kernel, by decide +kernel, by decide +kernel, by decide +kernel⟩
theorem k_L_174_5 : Cs "NoFartherThanAThrowLaw" (.invokevirtual 174) 1 (some 5) YX5_night := cs_V (Y := YX5_night) (RX5, TX5, 50) rfl rfl (lw_V q1886 q1887 q1888 q84 q1889) ⟨by decide +kernel, by decide +kernel, by decide +kernel, by decide +kernel⟩
theorem k_L_175_0 : Cs "NoFartherThanAThrowLaw" (.invokevirtual 175) 2 (some 0) YX0_seed := cs_V (Y := YX0_seed) (RX0, TX0, 9) rfl rfl (lw_V q1300 q1301 q1302 q79 q1303) ⟨by decide +kernel, by decide +kernel, by decide +kernel, by decide +kernel⟩
theorem k_L_178_5 : Cs "NoFartherThanAThrowLaw" (.invokevirtual 178) 2 (some 5) YX5_seed := cs_V (Y := YX5_seed) (RX5, TX5, 50) rfl rfl (lw_V q1890 q1891 q1892 q84 q1893) ⟨by decide +kernel, by decide +kernel, by decide +kernel, by decide +kernel⟩
theorem k_L_179_0 : Cs "NoFartherThanAThrowLaw" (.invokevirtual 179) 4 (some 0) YX0_act := cs_V (Y := YX0_act) (RX0, TX0, 9) rfl rfl (lw_V q1304 q1305 q1306 q79 q1307) ⟨by decide +kernel, by decide +kernel, by decide +kernel, by decide +kernel⟩
theorem k_L_182_5 : Cs "NoFartherThanAThrowLaw" (.invokevirtual 182) 4 (some 5) YX5_act := cs_V (Y := YX5_act) (RX5, TX5, 50) rfl rfl (lw_V q1894 q1895 q1896 q84 q1897) ⟨by decide +kernel, by decide +kernel, by decide +kernel, by decide +kernel⟩
theorem k_L_183_0 : Cs "NoFartherThanAThrowLaw" (.invokevirtual 183) 2 (some 0) YX0_trace := cs_V (Y := YX0_trace) (RX0, TX0, 9) rfl rfl (lw_V q1381 q1382 q1383 q79 q1384) ⟨by decide +kernel, by decide +kernel, by decide +kernel, by decide +kernel⟩
theorem k_L_186_5 : Cs "NoFartherThanAThrowLaw" (.invokevirtual 186) 2 (some 5) YX5_trace := cs_V (Y := YX5_trace) (RX5, TX5, 50) rfl rfl (lw_V q1914 q1915 q1916 q84 q1917) ⟨by decide +kernel, by decide +kernel, by decide +kernel, by decide +kernel⟩
theorem k_L_187_0 : Cs "NoFartherThanAThrowLaw" (.invokevirtual 187) 1 (some 0) YX0_image := cs_V (Y := YX0_image) (RX0, TX0, 9) rfl rfl (lw_V q1386 q1387 q1388 q79 q1389) ⟨by decide +kernel, by decide +kernel, by decide +kernel, by decide +kernel⟩
theorem k_L_190_5 : Cs "NoFartherThanAThrowLaw" (.invokevirtual 190) 1 (some 5) YX5_image := cs_V (Y := YX5_image) (RX5, TX5, 50) rfl rfl (lw_V q1918 q1919 q1920 q84 q1921) ⟨by decide +kernel, by decide +kernel, by decide +kernel, by decide +kernel⟩
theorem k_L_191_0 : Cs "NoFartherThanAThrowLaw" (.invokevirtual 191) 1 (some 0) YX0_restore := cs_VW (Y := YX0_restore) (RX0, TX0, 9) rfl rfl (lw_VW q1390 q1391 q1392 q79 q1393) ⟨by decide +kernel, by decide +kernel, by decide +kernel, by decide +kernel⟩
theorem k_L_194_5 : Cs "NoFartherThanAThrowLaw" (.invokevirtual 194) 1 (some 5) YX5_restore := cs_V (Y := YX5_restore) (RX5, TX5, 50) rfl rfl (lw_V q1922 q1923 q1924 q84 q1925) ⟨by decide +kernel, by decide +kernel, by decide +kernel, by decide +kernel⟩
theorem k_L_195_0 : Cs "NoFartherThanAThrowLaw" (.invokevirtual 195) 2 (some 0) YX0_status := cs_V (Y := YX0_status) (RX0, TX0, 9) rfl rfl (lw_V q1394 q1395 q1396 q79 q1397) ⟨by decide +kernel, by decide +kernel, by decide +kernel, by decide +kernel⟩
theorem k_L_198_5 : Cs "NoFartherThanAThrowLaw" (.invokevirtual 198) 2 (some 5) YX5_status := cs_V (Y := YX5_status) (RX5, TX5, 50) rfl rfl (lw_V q1926 q1927 q1928 q84 q1929) ⟨by decide +kernel, by decide +kernel, by decide +kernel, by decide +kernel⟩
theorem k_X5_129_5 : Cs "NoFartherThanAThrowModel" (.invokevirtual 129) 2 (some 5) YX5_isWet := cs_V (Y := YX5_isWet) (RX5, TX5, 50) rfl rfl (lw_V q1613 q1615 qs35 q84 q1616) ⟨by decide +kernel, by decide +kernel, by decide +kernel, by decide +kernel⟩
theorem k_X5_133_5 : Cs "NoFartherThanAThrowModel" (.invokevirtual 133) 2 (some 5) YX5_isShelf := cs_V (Y := YX5_isShelf) (RX5, TX5, 50) rfl rfl (lw_V q1561 q1563 qs29 q84 q1564) ⟨by decide +kernel, by decide +kernel, by decide +kernel, by decide +kernel⟩
theorem k_X5_136_5 : Cs "NoFartherThanAThrowModel" (.invokevirtual 136) 2 (some 5) YX5_no := cs_V (Y := YX5_no) (RX5, TX5, 50) rfl rfl (lw_V q1565 q1567 qs30 q84 q1568) ⟨by decide +kernel, by decide +kernel, by decide +kernel, by decide +kernel⟩
theorem k_X5_140_5 : Cs "NoFartherThanAThrowModel" (.invokevirtual 140) 2 (some 5) YX5_isThing := cs_V (Y := YX5_isThing) (RX5, TX5, 50) rfl rfl (lw_V q1585 q1587 qs31 q84 q1588) ⟨by decide +kernel, by decide +kernel, by decide +kernel, by decide +kernel⟩
theorem k_X5_143_5 : Cs "NoFartherThanAThrowModel" (.invokevirtual 143) 3 (some 5) YX5_farBy := cs_V (Y := YX5_farBy) (RX5, TX5, 50) rfl rfl (lw_V q1597 q1599 qs32 q84 q1600) ⟨by decide +kernel, by decide +kernel, by decide +kernel, by decide +kernel⟩
theorem k_X5_147_5 : Cs "NoFartherThanAThrowModel" (.invokevirtual 147) 2 (some 5) YX5_isStep := cs_V (Y := YX5_isStep) (RX5, TX5, 50) rfl rfl (lw_V q1609 q1611 qs34 q84 q1612) ⟨by decide +kernel, by decide +kernel, by decide +kernel, by decide +kernel⟩
theorem k_X5_150_5 : Cs "NoFartherThanAThrowModel" (.invokevirtual 150) 5 (some 5) YX5_things := cs_V (Y := YX5_things) (RX5, TX5, 50) rfl rfl (lw_V q1617 q1619 qs36 q84 q1620) ⟨by decide +kernel, by decide +kernel, by decide +kernel, by decide +kernel⟩
theorem k_X5_153_5 : Cs "NoFartherThanAThrowModel" (.invokevirtual 153) 2 (some 5) YX5_men := cs_V (Y := YX5_men) (RX5, TX5, 50) rfl rfl (lw_V q1625 q1627 qs37 q84 q1628) ⟨by decide +kernel, by decide +kernel, by decide +kernel, by decide +kernel⟩
theorem k_X5_156_5 : Cs "NoFartherThanAThrowModel" (.invokevirtual 156) 2 (some 5) YX5_wants := cs_V (Y := YX5_wants) (RX5, TX5, 50) rfl rfl (lw_V q1633 q1635 qs38 q84 q1636) ⟨by decide +kernel, by decide +kernel, by decide +kernel, by decide +kernel⟩
theorem k_X5_159_5 : Cs "NoFartherThanAThrowModel" (.invokevirtual 159) 3 (some 5) YX5_intAt := cs_V (Y := YX5_intAt) (RX5, TX5, 50) rfl rfl (lw_V q1637 q1639 qs39 q84 q1640) ⟨by decide +kernel, by decide +kernel, by decide +kernel, by decide +kernel⟩
theorem k_X5_164_5 : Cs "NoFartherThanAThrowModel" (.invokevirtual 164) 4 (some 5) YX5_wanted := cs_V (Y := YX5_wanted) (RX5, TX5, 50) rfl rfl (lw_V q1645 q1647 qs40 q84 q1648) ⟨by decide +kernel, by decide +kernel, by decide +kernel, by decide +kernel⟩
theorem k_X5_168_5 : Cs "NoFartherThanAThrowModel" (.invokevirtual 168) 2 (some 5) YX5_isLong := cs_V (Y := YX5_isLong) (RX5, TX5, 50) rfl rfl (lw_V q1653 q1655 qs41 q84 q1656) ⟨by decide +kernel, by decide +kernel, by decide +kernel, by decide +kernel⟩
theorem k_X5_174_5 : Cs "NoFartherThanAThrowModel" (.invokevirtual 174) 3 (some 5) YX5_isRiver := cs_V (Y := YX5_isRiver) (RX5, TX5, 50) rfl rfl (lw_V q1661 q1663 qs42 q84 q1664) ⟨by decide +kernel, by decide +kernel, by decide +kernel, by decide +kernel⟩
theorem k_X5_178_5 : Cs "NoFartherThanAThrowModel" (.invokevirtual 178) 2 (some 5) YX5_isMan := cs_V (Y := YX5_isMan) (RX5, TX5, 50) rfl rfl (lw_V q1673 q1675 qs43 q84 q1676) ⟨by decide +kernel, by decide +kernel, by decide +kernel, by decide +kernel⟩
theorem k_X5_193_5 : Cs "NoFartherThanAThrowModel" (.invokevirtual 193) 1 (some 5) YX5_isDigit := cs_V (Y := YX5_isDigit) (RX5, TX5, 50) rfl rfl (lw_V q1717 q1719 qs52 q84 q1720) ⟨by decide +kernel, by decide +kernel, by decide +kernel, by decide +kernel⟩
theorem k_X5_197_5 : Cs "NoFartherThanAThrowModel" (.invokevirtual 197) 2 (some 5) YX5_wrong := cs_V (Y := YX5_wrong) (RX5, TX5, 50) rfl rfl (lw_V q1705 q1707 qs49 q84 q1708) ⟨by decide +kernel, by decide +kernel, by decide +kernel, by decide +kernel⟩
theorem k_X5_203_5 : Cs "NoFartherThanAThrowModel" (.invokevirtual 203) 2 (some 5) YX5_isWordAt := cs_V (Y := YX5_isWordAt) (RX5, TX5, 50) rfl rfl (lw_V q1697 q1699 qs47 q84 q1700) ⟨by decide +kernel, by decide +kernel, by decide +kernel, by decide +kernel⟩
theorem k_X5_206_5 : Cs "NoFartherThanAThrowModel" (.invokevirtual 206) 2 (some 5) YX5_isFull := cs_V (Y := YX5_isFull) (RX5, TX5, 50) rfl rfl (lw_V q1701 q1703 qs48 q84 q1704) ⟨by decide +kernel, by decide +kernel, by decide +kernel, by decide +kernel⟩
theorem k_X5_209_5 : Cs "NoFartherThanAThrowModel" (.invokevirtual 209) 1 (some 5) YX5_word := cs_V (Y := YX5_word) (RX5, TX5, 50) rfl rfl (lw_V q1709 q1711 qs50 q84 q1712) ⟨by decide +kernel, by decide +kernel, by decide +kernel, by decide +kernel⟩
theorem k_X5_213_5 : Cs "NoFartherThanAThrowModel" (.invokevirtual 213) 3 (some 5) YX5_number := cs_V (Y := YX5_number) (RX5, TX5, 50) rfl rfl (lw_V q1713 q1715 qs51 q84 q1716) ⟨by decide +kernel, by decide +kernel, by decide +kernel, by decide +kernel⟩
theorem k_X5_216_5 : Cs "NoFartherThanAThrowModel" (.invokevirtual 216) 3 (some 5) YX5_isFit := cs_V (Y := YX5_isFit) (RX5, TX5, 50) rfl rfl (lw_V q1721 q1723 qs53 q84 q1724) ⟨by decide +kernel, by decide +kernel, by decide +kernel, by decide +kernel⟩
theorem k_X5_219_5 : Cs "NoFartherThanAThrowModel" (.invokevirtual 219) 6 (some 5) YX5_keeps := cs_V (Y := YX5_keeps) (RX5, TX5, 50) rfl rfl (lw_V q1689 q1691 qs45 q84 q1692) ⟨by decide +kernel, by decide +kernel, by decide +kernel, by decide +kernel⟩
theorem k_X5_226_5 : Cs "NoFartherThanAThrowModel" (.invokevirtual 226) 3 (some 5) YX5_all := cs_V (Y := YX5_all) (RX5, TX5, 50) rfl rfl (lw_V q1685 q1687 qs44 q84 q1688) ⟨by decide +kernel, by decide +kernel, by decide +kernel, by decide +kernel⟩
theorem k_X5_230_5 : Cs "NoFartherThanAThrowModel" (.invokevirtual 230) 1 (some 5) YX5_item := cs_V (Y := YX5_item) (RX5, TX5, 50) rfl rfl (lw_V q1693 q1695 qs46 q84 q1696) ⟨by decide +kernel, by decide +kernel, by decide +kernel, by decide +kernel⟩
theorem k_X5_233_5 : Cs "NoFartherThanAThrowModel" (.invokevirtual 233) 3 (some 5) YX5_low := cs_V (Y := YX5_low) (RX5, TX5, 50) rfl rfl (lw_V q1601 q1603 qs33 q84 q1604) ⟨by decide +kernel, by decide +kernel, by decide +kernel, by decide +kernel⟩
theorem k_X5_236_5 : Cs "NoFartherThanAThrowModel" (.invokevirtual 236) 3 (some 5) YX5_farOf := cs_V (Y := YX5_farOf) (RX5, TX5, 50) rfl rfl (lw_V q1733 q1735 qs54 q84 q1736) ⟨by decide +kernel, by decide +kernel, by decide +kernel, by decide +kernel⟩
theorem k_X5_239_5 : Cs "NoFartherThanAThrowModel" (.invokevirtual 239) 2 (some 5) YX5_near := cs_V (Y := YX5_near) (RX5, TX5, 50) rfl rfl (lw_V q1741 q1743 qs55 q84 q1744) ⟨by decide +kernel, by decide +kernel, by decide +kernel, by decide +kernel⟩
theorem k_X5_242_5 : Cs "NoFartherThanAThrowModel" (.invokevirtual 242) 4 (some 5) YX5_wrongBy := cs_V (Y := YX5_wrongBy) (RX5, TX5, 50) rfl rfl (lw_V q1745 q1747 qs56 q84 q1748) ⟨by decide +kernel, by decide +kernel, by decide +kernel, by decide +kernel⟩
theorem k_X5_245_5 : Cs "NoFartherThanAThrowModel" (.invokevirtual 245) 3 (some 5) YX5_tires := cs_V (Y := YX5_tires) (RX5, TX5, 50) rfl rfl (lw_V q1757 q1759 qs58 q84 q1760) ⟨by decide +kernel, by decide +kernel, by decide +kernel, by decide +kernel⟩
theorem k_X5_249_5 : Cs "NoFartherThanAThrowModel" (.invokevirtual 249) 4 (some 5) YX5_carries := cs_V (Y := YX5_carries) (RX5, TX5, 50) rfl rfl (lw_V q1753 q1755 qs57 q84 q1756) ⟨by decide +kernel, by decide +kernel, by decide +kernel, by decide +kernel⟩
theorem k_X5_253_5 : Cs "NoFartherThanAThrowModel" (.invokevirtual 253) 4 (some 5) YX5_goes := cs_V (Y := YX5_goes) (RX5, TX5, 50) rfl rfl (lw_V q1781 q1783 qs62 q84 q1784) ⟨by decide +kernel, by decide +kernel, by decide +kernel, by decide +kernel⟩
theorem k_X5_256_5 : Cs "NoFartherThanAThrowModel" (.invokevirtual 256) 4 (some 5) YX5_rows := cs_V (Y := YX5_rows) (RX5, TX5, 50) rfl rfl (lw_V q1777 q1779 qs61 q84 q1780) ⟨by decide +kernel, by decide +kernel, by decide +kernel, by decide +kernel⟩
theorem k_X5_259_5 : Cs "NoFartherThanAThrowModel" (.invokevirtual 259) 2 (some 5) YX5_isSet := cs_V (Y := YX5_isSet) (RX5, TX5, 50) rfl rfl (lw_V q1769 q1771 qs59 q84 q1772) ⟨by decide +kernel, by decide +kernel, by decide +kernel, by decide +kernel⟩
theorem k_X5_262_5 : Cs "NoFartherThanAThrowModel" (.invokevirtual 262) 3 (some 5) YX5_rowsFor := cs_V (Y := YX5_rowsFor) (RX5, TX5, 50) rfl rfl (lw_V q1773 q1775 qs60 q84 q1776) ⟨by decide +kernel, by decide +kernel, by decide +kernel, by decide +kernel⟩
theorem k_X5_265_5 : Cs "NoFartherThanAThrowModel" (.invokevirtual 265) 3 (some 5) YX5_isOnward := cs_V (Y := YX5_isOnward) (RX5, TX5, 50) rfl rfl (lw_V q1789 q1791 qs63 q84 q1792) ⟨by decide +kernel, by decide +kernel, by decide +kernel, by decide +kernel⟩
theorem k_X5_268_5 : Cs "NoFartherThanAThrowModel" (.invokevirtual 268) 2 (some 5) YX5_count := cs_V (Y := YX5_count) (RX5, TX5, 50) rfl rfl (lw_V q1797 q1799 qs64 q84 q1800) ⟨by decide +kernel, by decide +kernel, by decide +kernel, by decide +kernel⟩
theorem k_X5_271_5 : Cs "NoFartherThanAThrowModel" (.invokevirtual 271) 2 (some 5) YX5_noTen := cs_V (Y := YX5_noTen) (RX5, TX5, 50) rfl rfl (lw_V q1809 q1811 qs65 q84 q1812) ⟨by decide +kernel, by decide +kernel, by decide +kernel, by decide +kernel⟩
theorem k_X5_274_5 : Cs "NoFartherThanAThrowModel" (.invokevirtual 274) 1 (some 5) YX5_worthOf := cs_V (Y := YX5_worthOf) (RX5, TX5, 50) rfl rfl (lw_V q1825 q1827 qs68 q84 q1828) ⟨by decide +kernel, by decide +kernel, by decide +kernel, by decide +kernel⟩
theorem k_X5_280_5 : Cs "NoFartherThanAThrowModel" (.invokevirtual 280) 2 (some 5) YX5_shares := cs_V (Y := YX5_shares) (RX5, TX5, 50) rfl rfl (lw_V q1821 q1823 qs67 q84 q1824) ⟨by decide +kernel, by decide +kernel, by decide +kernel, by decide +kernel⟩
theorem k_X5_284_5 : Cs "NoFartherThanAThrowModel" (.invokevirtual 284) 1 (some 5) YX5_shareAll := cs_V (Y := YX5_shareAll) (RX5, TX5, 50) rfl rfl (lw_V q1817 q1819 qs66 q84 q1820) ⟨by decide +kernel, by decide +kernel, by decide +kernel, by decide +kernel⟩
theorem k_X5_287_5 : Cs "NoFartherThanAThrowModel" (.invokevirtual 287) 2 (some 5) YX5_isFar := cs_V (Y := YX5_isFar) (RX5, TX5, 50) rfl rfl (lw_V q1849 q1851 qs69 q84 q1852) ⟨by decide +kernel, by decide +kernel, by decide +kernel, by decide +kernel⟩
theorem k_X5_290_5 : Cs "NoFartherThanAThrowModel" (.invokevirtual 290) 4 (some 5) YX5_caughtBy := cs_V (Y := YX5_caughtBy) (RX5, TX5, 50) rfl rfl (lw_V q1853 q1855 qs70 q84 q1856) ⟨by decide +kernel, by decide +kernel, by decide +kernel, by decide +kernel⟩
theorem k_X5_293_5 : Cs "NoFartherThanAThrowModel" (.invokevirtual 293) 4 (some 5) YX5_isThrow := cs_V (Y := YX5_isThrow) (RX5, TX5, 50) rfl rfl (lw_V q1865 q1867 qs72 q84 q1868) ⟨by decide +kernel, by decide +kernel, by decide +kernel, by decide +kernel⟩
theorem k_X5_297_5 : Cs "NoFartherThanAThrowModel" (.invokevirtual 297) 4 (some 5) YX5_meanOf := cs_V (Y := YX5_meanOf) (RX5, TX5, 50) rfl rfl (lw_V q1861 q1863 qs71 q84 q1864) ⟨by decide +kernel, by decide +kernel, by decide +kernel, by decide +kernel⟩
theorem k_X5_301_5 : Cs "NoFartherThanAThrowModel" (.invokevirtual 301) 2 (some 5) YX5_draw := cs_V (Y := YX5_draw) (RX5, TX5, 50) rfl rfl (lw_V q1877 q1879 qs73 q84 q1880) ⟨by decide +kernel, by decide +kernel, by decide +kernel, by decide +kernel⟩
theorem k_X5_307_5 : Cs "NoFartherThanAThrowModel" (.invokevirtual 307) 2 (some 5) YX5_body := cs_V (Y := YX5_body) (RX5, TX5, 50) rfl rfl (lw_V q1902 q1904 qs75 q84 q1905) ⟨by decide +kernel, by decide +kernel, by decide +kernel, by decide +kernel⟩
theorem k_X5_310_5 : Cs "NoFartherThanAThrowModel" (.invokevirtual 310) 3 (some 5) YX5_going := cs_V (Y := YX5_going) (RX5, TX5, 50) rfl rfl (lw_V q1898 q1900 qs74 q84 q1901) ⟨by decide +kernel, by decide +kernel, by decide +kernel, by decide +kernel⟩
theorem k_X5_313_5 : Cs "NoFartherThanAThrowModel" (.invokevirtual 313) 3 (some 5) YX5_resting := cs_V (Y := YX5_resting) (RX5, TX5, 50) rfl rfl (lw_V q1906 q1908 qs76 q84 q1909) ⟨by decide +kernel, by decide +kernel, by decide +kernel, by decide +kernel⟩
theorem k_X5_316_5 : Cs "NoFartherThanAThrowModel" (.invokevirtual 316) 3 (some 5) YX5_falling := cs_V (Y := YX5_falling) (RX5, TX5, 50) rfl rfl (lw_V q1910 q1912 qs77 q84 q1913) ⟨by decide +kernel, by decide +kernel, by decide +kernel, by decide +kernel⟩
theorem k_X0_76_2 : Cs "NoFartherThanAThrow" (.invokespecial 76) 1 (some 2) YX2_init := cs_IN (Y := YX2_init) "NoFartherThanAThrow" rfl q144 q81 q142 q143 ⟨by decide +kernel, by decide +kernel, by decide +kernel, by decide +kernel⟩
