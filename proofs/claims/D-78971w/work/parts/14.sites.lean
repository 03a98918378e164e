/-! SITES: what the entries of the constant pools stand for, out of the tables' words; methods as records -/
set_option maxRecDepth 100000
theorem ok_0 : ClsOK 0 RX1 TX1 5 tyX1 := ⟨rfl, in_X1, tyX1_ok, nmX1⟩
theorem ok_1 : ClsOK 1 RX2 TX2 14 tyX2 := ⟨rfl, in_X2, tyX2_ok, nmX2⟩
theorem ok_2 : ClsOK 2 RX3 TX3 13 tyX3 := ⟨rfl, in_X3, tyX3_ok, nmX3⟩
theorem ok_3 : ClsOK 3 RX4 TX4 4 tyX4 := ⟨rfl, in_X4, tyX4_ok, nmX4⟩
theorem ok_4 : ClsOK 4 RX6 TX6 4 tyX6 := ⟨rfl, in_X6, tyX6_ok, nmX6⟩
theorem ok_5 : ClsOK 5 RX7 TX7 4 tyX7 := ⟨rfl, in_X7, tyX7_ok, nmX7⟩
theorem ok_6 : ClsOK 6 RX5 TX5 15 tyX5 := ⟨rfl, in_X5, tyX5_ok, nmX5⟩
theorem ok_7 : ClsOK 7 RJ8 TJ8 9 tyJ8 := ⟨rfl, in_J8, tyJ8_ok, nmJ8⟩
theorem ok_8 : ClsOK 8 RJ33 TJ33 6 tyJ33 := ⟨rfl, in_J33, tyJ33_ok, nmJ33⟩
theorem ok_9 : ClsOK 9 RJ22 TJ22 1 tyJ22 := ⟨rfl, in_J22, tyJ22_ok, nmJ22⟩
theorem ok_10 : ClsOK 10 RJ25 TJ25 4 tyJ25 := ⟨rfl, in_J25, tyJ25_ok, nmJ25⟩
theorem ok_11 : ClsOK 11 RJ10 TJ10 1 tyJ10 := ⟨rfl, in_J10, tyJ10_ok, nmJ10⟩
theorem ok_12 : ClsOK 12 RJ2 TJ2 4 tyJ2 := ⟨rfl, in_J2, tyJ2_ok, nmJ2⟩
theorem ok_13 : ClsOK 13 RJ12 TJ12 3 tyJ12 := ⟨rfl, in_J12, tyJ12_ok, nmJ12⟩
theorem ok_14 : ClsOK 14 RJ14 TJ14 4 tyJ14 := ⟨rfl, in_J14, tyJ14_ok, nmJ14⟩
theorem ok_15 : ClsOK 15 RJ27 TJ27 1 tyJ27 := ⟨rfl, in_J27, tyJ27_ok, nmJ27⟩
theorem mh_yJ38_init : MhOk yJ38_init 0 := ⟨by decide +kernel, by decide +kernel⟩
theorem mh_yX2_init : MhOk yX2_init 0 := ⟨by decide +kernel, by decide +kernel⟩
theorem mh_yJ12_init : MhOk yJ12_init 0 := ⟨by decide +kernel, by decide +kernel⟩
theorem mh_yJ14_init : MhOk yJ14_init 1 := ⟨by decide +kernel, by decide +kernel⟩
theorem mh_yJ14_length : MhOk yJ14_length 0 := ⟨by decide +kernel, by decide +kernel⟩
theorem mh_yJ14_setLength : MhOk yJ14_setLength 1 := ⟨by decide +kernel, by decide +kernel⟩
theorem mh_yX7_areOutings : MhOk yX7_areOutings 0 := ⟨by decide +kernel, by decide +kernel⟩
theorem mh_yX1_in : MhOk yX1_in 3 := ⟨by decide +kernel, by decide +kernel⟩
theorem mh_yX1_fedTold : MhOk yX1_fedTold 0 := ⟨by decide +kernel, by decide +kernel⟩
theorem mh_yX1_countTold : MhOk yX1_countTold 1 := ⟨by decide +kernel, by decide +kernel⟩
theorem mh_yX2_many : MhOk yX2_many 1 := ⟨by decide +kernel, by decide +kernel⟩
theorem mh_yX2_jobs : MhOk yX2_jobs 0 := ⟨by decide +kernel, by decide +kernel⟩
theorem mh_yJ10_size : MhOk yJ10_size 0 := ⟨by decide +kernel, by decide +kernel⟩
theorem mh_yJ12_size : MhOk yJ12_size 0 := ⟨by decide +kernel, by decide +kernel⟩
theorem mh_yX1_mix : MhOk yX1_mix 1 := ⟨by decide +kernel, by decide +kernel⟩
theorem mh_yX1_fountainTold : MhOk yX1_fountainTold 2 := ⟨by decide +kernel, by decide +kernel⟩
theorem mh_yX2_why : MhOk yX2_why 1 := ⟨by decide +kernel, by decide +kernel⟩
theorem mh_yX1_daysTold : MhOk yX1_daysTold 1 := ⟨by decide +kernel, by decide +kernel⟩
theorem mh_yX2_become : MhOk yX2_become 1 := ⟨by decide +kernel, by decide +kernel⟩
theorem mh_yX3_isUsedUp : MhOk yX3_isUsedUp 0 := ⟨by decide +kernel, by decide +kernel⟩
theorem mh_yX2_pass : MhOk yX2_pass 0 := ⟨by decide +kernel, by decide +kernel⟩
theorem mh_yX1_mixRows : MhOk yX1_mixRows 0 := ⟨by decide +kernel, by decide +kernel⟩
theorem mh_yX1_jobTold : MhOk yX1_jobTold 2 := ⟨by decide +kernel, by decide +kernel⟩
theorem mh_yX2_layJobs : MhOk yX2_layJobs 0 := ⟨by decide +kernel, by decide +kernel⟩
theorem mh_yJ2_poll : MhOk yJ2_poll 0 := ⟨by decide +kernel, by decide +kernel⟩
theorem mh_yJ8_size : MhOk yJ8_size 0 := ⟨by decide +kernel, by decide +kernel⟩
theorem mh_yX1_frostTold : MhOk yX1_frostTold 2 := ⟨by decide +kernel, by decide +kernel⟩
theorem mh_yJ8_keySet : MhOk yJ8_keySet 0 := ⟨by decide +kernel, by decide +kernel⟩
theorem mh_yJ8_get : MhOk yJ8_get 1 := ⟨by decide +kernel, by decide +kernel⟩
theorem mh_yJ27_intValue : MhOk yJ27_intValue 0 := ⟨by decide +kernel, by decide +kernel⟩
theorem mh_yX1_outingTold : MhOk yX1_outingTold 2 := ⟨by decide +kernel, by decide +kernel⟩
theorem mh_yJ10_iterator : MhOk yJ10_iterator 0 := ⟨by decide +kernel, by decide +kernel⟩
theorem mh_yX1_mixTries : MhOk yX1_mixTries 0 := ⟨by decide +kernel, by decide +kernel⟩
theorem mh_yX1_passedTold : MhOk yX1_passedTold 2 := ⟨by decide +kernel, by decide +kernel⟩
theorem mh_yX2_pass_2 : MhOk yX2_pass_2 1 := ⟨by decide +kernel, by decide +kernel⟩
theorem mh_yX1_outingMore : MhOk yX1_outingMore 2 := ⟨by decide +kernel, by decide +kernel⟩
theorem mh_yX2_plan : MhOk yX2_plan 3 := ⟨by decide +kernel, by decide +kernel⟩
theorem mh_yX1_gateTold : MhOk yX1_gateTold 1 := ⟨by decide +kernel, by decide +kernel⟩
theorem mh_yX1_orderTold : MhOk yX1_orderTold 1 := ⟨by decide +kernel, by decide +kernel⟩
theorem mh_yJ37_doubleToLongBits : MhOk yJ37_doubleToLongBits 1 := ⟨by decide +kernel, by decide +kernel⟩
theorem mh_yJ14_charAt : MhOk yJ14_charAt 1 := ⟨by decide +kernel, by decide +kernel⟩
theorem mh_yX1_isPlace : MhOk yX1_isPlace 1 := ⟨by decide +kernel, by decide +kernel⟩
theorem mh_yX1_needIndex : MhOk yX1_needIndex 1 := ⟨by decide +kernel, by decide +kernel⟩
theorem mh_yX1_need : MhOk yX1_need 1 := ⟨by decide +kernel, by decide +kernel⟩
theorem mh_yJ6_init : MhOk yJ6_init 0 := ⟨by decide +kernel, by decide +kernel⟩
theorem mh_yX1_needState : MhOk yX1_needState 1 := ⟨by decide +kernel, by decide +kernel⟩
theorem mh_yJ19_init : MhOk yJ19_init 0 := ⟨by decide +kernel, by decide +kernel⟩
theorem mh_yX1_save : MhOk yX1_save 0 := ⟨by decide +kernel, by decide +kernel⟩
theorem mh_yJ12_remove : MhOk yJ12_remove 1 := ⟨by decide +kernel, by decide +kernel⟩
theorem mh_yJ12_add : MhOk yJ12_add 1 := ⟨by decide +kernel, by decide +kernel⟩
theorem mh_yX3_build : MhOk yX3_build 3 := ⟨by decide +kernel, by decide +kernel⟩
theorem mh_yX1_there : MhOk yX1_there 1 := ⟨by decide +kernel, by decide +kernel⟩
theorem mh_yX3_jobs : MhOk yX3_jobs 0 := ⟨by decide +kernel, by decide +kernel⟩
theorem mh_yX3_become : MhOk yX3_become 1 := ⟨by decide +kernel, by decide +kernel⟩
theorem mh_yX2_meets : MhOk yX2_meets 2 := ⟨by decide +kernel, by decide +kernel⟩
theorem mh_yJ27_valueOf : MhOk yJ27_valueOf 1 := ⟨by decide +kernel, by decide +kernel⟩
theorem mh_yJ8_put : MhOk yJ8_put 2 := ⟨by decide +kernel, by decide +kernel⟩
theorem mh_yX2_lookOut : MhOk yX2_lookOut 0 := ⟨by decide +kernel, by decide +kernel⟩
theorem mh_yJ8_containsKey : MhOk yJ8_containsKey 1 := ⟨by decide +kernel, by decide +kernel⟩
theorem mh_yJ8_remove : MhOk yJ8_remove 1 := ⟨by decide +kernel, by decide +kernel⟩
theorem mh_yX1_areChildren : MhOk yX1_areChildren 1 := ⟨by decide +kernel, by decide +kernel⟩
theorem mh_yJ12_get : MhOk yJ12_get 1 := ⟨by decide +kernel, by decide +kernel⟩
theorem mh_yJ10_remove : MhOk yJ10_remove 1 := ⟨by decide +kernel, by decide +kernel⟩
theorem mh_yX1_isSetting : MhOk yX1_isSetting 1 := ⟨by decide +kernel, by decide +kernel⟩
theorem mh_yJ14_append_3 : MhOk yJ14_append_3 1 := ⟨by decide +kernel, by decide +kernel⟩
theorem mh_yJ12_isEmpty : MhOk yJ12_isEmpty 0 := ⟨by decide +kernel, by decide +kernel⟩
theorem mh_yX7_init : MhOk yX7_init 1 := ⟨by decide +kernel, by decide +kernel⟩
theorem mh_yX3_init : MhOk yX3_init 0 := ⟨by decide +kernel, by decide +kernel⟩
theorem mh_yJ2_init : MhOk yJ2_init 0 := ⟨by decide +kernel, by decide +kernel⟩
theorem mh_yJ8_init : MhOk yJ8_init 0 := ⟨by decide +kernel, by decide +kernel⟩
theorem mh_yJ10_init : MhOk yJ10_init 0 := ⟨by decide +kernel, by decide +kernel⟩
theorem mh_yX4_init : MhOk yX4_init 2 := ⟨by decide +kernel, by decide +kernel⟩
theorem mh_yJ8_clear : MhOk yJ8_clear 0 := ⟨by decide +kernel, by decide +kernel⟩
theorem mh_yJ10_clear : MhOk yJ10_clear 0 := ⟨by decide +kernel, by decide +kernel⟩
theorem mh_yJ10_add : MhOk yJ10_add 1 := ⟨by decide +kernel, by decide +kernel⟩
theorem mh_yJ8_floorKey : MhOk yJ8_floorKey 1 := ⟨by decide +kernel, by decide +kernel⟩
theorem mh_yX2_freeze : MhOk yX2_freeze 0 := ⟨by decide +kernel, by decide +kernel⟩
theorem mh_yX3_burst : MhOk yX3_burst 1 := ⟨by decide +kernel, by decide +kernel⟩
theorem mh_yX2_work : MhOk yX2_work 0 := ⟨by decide +kernel, by decide +kernel⟩
theorem mh_yJ2_clear : MhOk yJ2_clear 0 := ⟨by decide +kernel, by decide +kernel⟩
theorem mh_yX4_lay : MhOk yX4_lay 2 := ⟨by decide +kernel, by decide +kernel⟩
theorem mh_yJ2_add : MhOk yJ2_add 1 := ⟨by decide +kernel, by decide +kernel⟩
theorem mh_yJ29_min : MhOk yJ29_min 2 := ⟨by decide +kernel, by decide +kernel⟩
theorem mh_yX3_done : MhOk yX3_done 1 := ⟨by decide +kernel, by decide +kernel⟩
theorem mh_yX2_serveAll : MhOk yX2_serveAll 0 := ⟨by decide +kernel, by decide +kernel⟩
theorem mh_yJ10_isEmpty : MhOk yJ10_isEmpty 0 := ⟨by decide +kernel, by decide +kernel⟩
theorem mh_yJ10_first : MhOk yJ10_first 0 := ⟨by decide +kernel, by decide +kernel⟩
theorem mh_yX2_serve : MhOk yX2_serve 1 := ⟨by decide +kernel, by decide +kernel⟩
theorem mh_yX2_give : MhOk yX2_give 2 := ⟨by decide +kernel, by decide +kernel⟩
theorem mh_yX3_give : MhOk yX3_give 2 := ⟨by decide +kernel, by decide +kernel⟩
theorem mh_yX6_init : MhOk yX6_init 4 := ⟨by decide +kernel, by decide +kernel⟩
theorem mh_yX3_report : MhOk yX3_report 2 := ⟨by decide +kernel, by decide +kernel⟩
theorem mh_yX4_compareTo_2 : MhOk yX4_compareTo_2 1 := ⟨by decide +kernel, by decide +kernel⟩
theorem mh_yX6_compareTo_2 : MhOk yX6_compareTo_2 1 := ⟨by decide +kernel, by decide +kernel⟩
theorem mh_yX7_part : MhOk yX7_part 0 := ⟨by decide +kernel, by decide +kernel⟩
theorem mh_yX7_number : MhOk yX7_number 2 := ⟨by decide +kernel, by decide +kernel⟩
theorem mh_yX7_next : MhOk yX7_next 0 := ⟨by decide +kernel, by decide +kernel⟩
theorem mh_yJ29_max : MhOk yJ29_max 2 := ⟨by decide +kernel, by decide +kernel⟩
theorem mh_yX7_takes : MhOk yX7_takes 1 := ⟨by decide +kernel, by decide +kernel⟩
theorem mh_yX7_group : MhOk yX7_group 1 := ⟨by decide +kernel, by decide +kernel⟩
theorem mh_yJ0_init : MhOk yJ0_init 0 := ⟨by decide +kernel, by decide +kernel⟩
theorem mh_yJ2_init_2 : MhOk yJ2_init_2 2 := ⟨by decide +kernel, by decide +kernel⟩
theorem mh_yJ1_init : MhOk yJ1_init 0 := ⟨by decide +kernel, by decide +kernel⟩
theorem mh_yJ2_offer : MhOk yJ2_offer 1 := ⟨by decide +kernel, by decide +kernel⟩
theorem mh_yJ2_grow : MhOk yJ2_grow 1 := ⟨by decide +kernel, by decide +kernel⟩
theorem mh_yJ30_newLength : MhOk yJ30_newLength 3 := ⟨by decide +kernel, by decide +kernel⟩
theorem mh_yJ34_copyOf_2 : MhOk yJ34_copyOf_2 2 := ⟨by decide +kernel, by decide +kernel⟩
theorem mh_yJ2_siftUp : MhOk yJ2_siftUp 2 := ⟨by decide +kernel, by decide +kernel⟩
theorem mh_yJ2_siftUpUsingComparator : MhOk yJ2_siftUpUsingComparator 4 := ⟨by decide +kernel, by decide +kernel⟩
theorem mh_yJ2_siftUpComparable : MhOk yJ2_siftUpComparable 3 := ⟨by decide +kernel, by decide +kernel⟩
theorem mh_yJ2_siftDownComparable : MhOk yJ2_siftDownComparable 4 := ⟨by decide +kernel, by decide +kernel⟩
theorem mh_yJ2_siftDownUsingComparator : MhOk yJ2_siftDownUsingComparator 5 := ⟨by decide +kernel, by decide +kernel⟩
theorem mh_yJ7_init : MhOk yJ7_init 0 := ⟨by decide +kernel, by decide +kernel⟩
theorem mh_yJ8_navigableKeySet : MhOk yJ8_navigableKeySet 0 := ⟨by decide +kernel, by decide +kernel⟩
theorem mh_yJ22_init : MhOk yJ22_init 1 := ⟨by decide +kernel, by decide +kernel⟩
theorem mh_yJ8_getFirstEntry : MhOk yJ8_getFirstEntry 0 := ⟨by decide +kernel, by decide +kernel⟩
theorem mh_yJ25_init : MhOk yJ25_init 2 := ⟨by decide +kernel, by decide +kernel⟩
theorem mh_yJ8_getEntry : MhOk yJ8_getEntry 1 := ⟨by decide +kernel, by decide +kernel⟩
theorem mh_yJ8_getEntryUsingComparator : MhOk yJ8_getEntryUsingComparator 1 := ⟨by decide +kernel, by decide +kernel⟩
theorem mh_yJ20_requireNonNull : MhOk yJ20_requireNonNull 1 := ⟨by decide +kernel, by decide +kernel⟩
theorem mh_yJ8_put_2 : MhOk yJ8_put_2 3 := ⟨by decide +kernel, by decide +kernel⟩
theorem mh_yJ8_addEntryToEmptyMap : MhOk yJ8_addEntryToEmptyMap 2 := ⟨by decide +kernel, by decide +kernel⟩
theorem mh_yJ8_compare : MhOk yJ8_compare 2 := ⟨by decide +kernel, by decide +kernel⟩
theorem mh_yJ33_init : MhOk yJ33_init 3 := ⟨by decide +kernel, by decide +kernel⟩
theorem mh_yJ8_addEntry : MhOk yJ8_addEntry 4 := ⟨by decide +kernel, by decide +kernel⟩
theorem mh_yJ8_fixAfterInsertion : MhOk yJ8_fixAfterInsertion 1 := ⟨by decide +kernel, by decide +kernel⟩
theorem mh_yJ8_parentOf : MhOk yJ8_parentOf 1 := ⟨by decide +kernel, by decide +kernel⟩
theorem mh_yJ8_leftOf : MhOk yJ8_leftOf 1 := ⟨by decide +kernel, by decide +kernel⟩
theorem mh_yJ8_rightOf : MhOk yJ8_rightOf 1 := ⟨by decide +kernel, by decide +kernel⟩
theorem mh_yJ8_colorOf : MhOk yJ8_colorOf 1 := ⟨by decide +kernel, by decide +kernel⟩
theorem mh_yJ8_setColor : MhOk yJ8_setColor 2 := ⟨by decide +kernel, by decide +kernel⟩
theorem mh_yJ8_rotateLeft : MhOk yJ8_rotateLeft 1 := ⟨by decide +kernel, by decide +kernel⟩
theorem mh_yJ8_rotateRight : MhOk yJ8_rotateRight 1 := ⟨by decide +kernel, by decide +kernel⟩
theorem mh_yJ8_getFloorEntry : MhOk yJ8_getFloorEntry 1 := ⟨by decide +kernel, by decide +kernel⟩
theorem mh_yJ8_keyOrNull : MhOk yJ8_keyOrNull 1 := ⟨by decide +kernel, by decide +kernel⟩
theorem mh_yJ8_key : MhOk yJ8_key 1 := ⟨by decide +kernel, by decide +kernel⟩
theorem mh_yJ8_deleteEntry : MhOk yJ8_deleteEntry 1 := ⟨by decide +kernel, by decide +kernel⟩
theorem mh_yJ8_successor : MhOk yJ8_successor 1 := ⟨by decide +kernel, by decide +kernel⟩
theorem mh_yJ8_fixAfterDeletion : MhOk yJ8_fixAfterDeletion 1 := ⟨by decide +kernel, by decide +kernel⟩
theorem mh_yJ10_init_2 : MhOk yJ10_init_2 1 := ⟨by decide +kernel, by decide +kernel⟩
theorem mh_yJ9_init : MhOk yJ9_init 0 := ⟨by decide +kernel, by decide +kernel⟩
theorem mh_yJ11_init : MhOk yJ11_init 0 := ⟨by decide +kernel, by decide +kernel⟩
theorem mh_yJ20_checkIndex : MhOk yJ20_checkIndex 2 := ⟨by decide +kernel, by decide +kernel⟩
theorem mh_yJ12_fastRemove : MhOk yJ12_fastRemove 2 := ⟨by decide +kernel, by decide +kernel⟩
theorem mh_yJ12_add_2 : MhOk yJ12_add_2 3 := ⟨by decide +kernel, by decide +kernel⟩
theorem mh_yJ12_grow : MhOk yJ12_grow 0 := ⟨by decide +kernel, by decide +kernel⟩
theorem mh_yJ12_grow_2 : MhOk yJ12_grow_2 1 := ⟨by decide +kernel, by decide +kernel⟩
theorem mh_yJ12_elementData : MhOk yJ12_elementData 1 := ⟨by decide +kernel, by decide +kernel⟩
theorem mh_yJ13_ensureCapacityInternal : MhOk yJ13_ensureCapacityInternal 1 := ⟨by decide +kernel, by decide +kernel⟩
theorem mh_yJ13_isLatin1 : MhOk yJ13_isLatin1 0 := ⟨by decide +kernel, by decide +kernel⟩
theorem mh_yJ15_checkIndex : MhOk yJ15_checkIndex 2 := ⟨by decide +kernel, by decide +kernel⟩
theorem mh_yJ28_canEncode : MhOk yJ28_canEncode 1 := ⟨by decide +kernel, by decide +kernel⟩
theorem mh_yJ13_init : MhOk yJ13_init 1 := ⟨by decide +kernel, by decide +kernel⟩
theorem mh_yJ13_length : MhOk yJ13_length 0 := ⟨by decide +kernel, by decide +kernel⟩
theorem mh_yJ13_setLength : MhOk yJ13_setLength 1 := ⟨by decide +kernel, by decide +kernel⟩
theorem mh_yJ13_charAt : MhOk yJ13_charAt 1 := ⟨by decide +kernel, by decide +kernel⟩
theorem mh_yJ14_compareTo_2 : MhOk yJ14_compareTo_2 1 := ⟨by decide +kernel, by decide +kernel⟩
theorem mh_yJ13_append_3 : MhOk yJ13_append_3 1 := ⟨by decide +kernel, by decide +kernel⟩
theorem mh_yJ21_checkIndex : MhOk yJ21_checkIndex 3 := ⟨by decide +kernel, by decide +kernel⟩
theorem mh_yJ8_keyIterator : MhOk yJ8_keyIterator 0 := ⟨by decide +kernel, by decide +kernel⟩
theorem mh_yJ23_init : MhOk yJ23_init 2 := ⟨by decide +kernel, by decide +kernel⟩
theorem mh_yJ27_compareTo_2 : MhOk yJ27_compareTo_2 1 := ⟨by decide +kernel, by decide +kernel⟩
theorem mh_yJ27_compare : MhOk yJ27_compare 2 := ⟨by decide +kernel, by decide +kernel⟩
theorem mh_yJ27_init : MhOk yJ27_init 1 := ⟨by decide +kernel, by decide +kernel⟩
theorem mh_yJ26_init : MhOk yJ26_init 0 := ⟨by decide +kernel, by decide +kernel⟩
theorem mh_yJ14_init_2 : MhOk yJ14_init_2 0 := ⟨by decide +kernel, by decide +kernel⟩
theorem mh_yJ14_append_2 : MhOk yJ14_append_2 1 := ⟨by decide +kernel, by decide +kernel⟩
theorem mh_yJ14_append : MhOk yJ14_append 1 := ⟨by decide +kernel, by decide +kernel⟩
theorem mh_yJ14_toString : MhOk yJ14_toString 0 := ⟨by decide +kernel, by decide +kernel⟩
theorem mh_yJ6_init_2 : MhOk yJ6_init_2 1 := ⟨by decide +kernel, by decide +kernel⟩
theorem mh_yJ34_rangeCheck : MhOk yJ34_rangeCheck 3 := ⟨by decide +kernel, by decide +kernel⟩
theorem mh_yJ34_copyOf_3 : MhOk yJ34_copyOf_3 3 := ⟨by decide +kernel, by decide +kernel⟩
theorem mh_yJ37_isNaN : MhOk yJ37_isNaN 1 := ⟨by decide +kernel, by decide +kernel⟩
theorem gX1_10 : SiteG RX1 10 0 0 := ⟨_, _, _, _, ok_0, by decide, FLink.a q506⟩
theorem pX1_10 : SiteP RX1 10 0 0 (.object "FountainPark$Park") true := ⟨_, _, _, _, ok_0, by decide, FLink.a q506, rfl, rfl, (fun _ => rfl)⟩
theorem gX1_16 : SiteG RX1 16 0 1 := ⟨_, _, _, _, ok_0, by decide, FLink.a q507⟩
theorem pX1_16 : SiteP RX1 16 0 1 (.object "FountainPark$Park") true := ⟨_, _, _, _, ok_0, by decide, FLink.a q507, rfl, rfl, (fun _ => rfl)⟩
theorem gX1_22 : SiteG RX1 22 0 2 := ⟨_, _, _, _, ok_0, by decide, FLink.a q508⟩
theorem pX1_22 : SiteP RX1 22 0 2 (.object "java/util/ArrayList") true := ⟨_, _, _, _, ok_0, by decide, FLink.a q508, rfl, rfl, (fun _ => rfl)⟩
theorem gX1_31 : SiteG RX1 31 0 3 := ⟨_, _, _, _, ok_0, by decide, FLink.a q510⟩
theorem pX1_31 : SiteP RX1 31 0 3 (.object "java/lang/StringBuilder") true := ⟨_, _, _, _, ok_0, by decide, FLink.a q510, rfl, rfl, (fun _ => rfl)⟩
theorem gX1_355 : SiteG RX1 355 0 4 := ⟨_, _, _, _, ok_0, by decide, FLink.a q511⟩
theorem pX1_355 : SiteP RX1 355 0 4 (.long) false := ⟨_, _, _, _, ok_0, by decide, FLink.a q511, rfl, rfl, (fun h => by cases h)⟩
theorem gX1_76 : SiteG RX1 76 2 0 := ⟨_, _, _, _, ok_2, by decide, FLink.n q315⟩
theorem gX1_241 : SiteG RX1 241 2 1 := ⟨_, _, _, _, ok_2, by decide, FLink.n q317⟩
theorem gX1_244 : SiteG RX1 244 2 2 := ⟨_, _, _, _, ok_2, by decide, FLink.n q319⟩
theorem gX1_247 : SiteG RX1 247 2 3 := ⟨_, _, _, _, ok_2, by decide, FLink.n q321⟩
theorem gX1_113 : SiteG RX1 113 2 4 := ⟨_, _, _, _, ok_2, by decide, FLink.n q324⟩
theorem pX1_113 : SiteP RX1 113 2 4 (.boolean) false := ⟨_, _, _, _, ok_2, by decide, FLink.n q324, rfl, rfl, (fun h => by cases h)⟩
theorem gX1_110 : SiteG RX1 110 2 5 := ⟨_, _, _, _, ok_2, by decide, FLink.n q327⟩
theorem pX1_110 : SiteP RX1 110 2 5 (.boolean) false := ⟨_, _, _, _, ok_2, by decide, FLink.n q327, rfl, rfl, (fun h => by cases h)⟩
theorem gX1_250 : SiteG RX1 250 2 6 := ⟨_, _, _, _, ok_2, by decide, FLink.n q330⟩
theorem gX1_253 : SiteG RX1 253 2 7 := ⟨_, _, _, _, ok_2, by decide, FLink.n q332⟩
theorem gX1_256 : SiteG RX1 256 2 8 := ⟨_, _, _, _, ok_2, by decide, FLink.n q334⟩
theorem gX1_259 : SiteG RX1 259 2 9 := ⟨_, _, _, _, ok_2, by decide, FLink.n q336⟩
theorem gX1_289 : SiteG RX1 289 2 12 := ⟨_, _, _, _, ok_2, by decide, FLink.n q343⟩
theorem gX1_281 : SiteG RX1 281 3 0 := ⟨_, _, _, _, ok_3, by decide, FLink.n q379⟩
theorem gX1_282 : SiteG RX1 282 3 1 := ⟨_, _, _, _, ok_3, by decide, FLink.n q382⟩
theorem gX1_285 : SiteG RX1 285 3 3 := ⟨_, _, _, _, ok_3, by decide, FLink.n q385⟩
theorem gX1_72 : SiteG RX1 72 1 0 := ⟨_, _, _, _, ok_1, by decide, FLink.n q396⟩
theorem gX1_270 : SiteG RX1 270 1 2 := ⟨_, _, _, _, ok_1, by decide, FLink.n q399⟩
theorem gX1_124 : SiteG RX1 124 1 3 := ⟨_, _, _, _, ok_1, by decide, FLink.n q401⟩
theorem gX1_156 : SiteG RX1 156 1 4 := ⟨_, _, _, _, ok_1, by decide, FLink.n q403⟩
theorem gX1_202 : SiteG RX1 202 1 5 := ⟨_, _, _, _, ok_1, by decide, FLink.n q405⟩
theorem gX1_116 : SiteG RX1 116 1 6 := ⟨_, _, _, _, ok_1, by decide, FLink.n q407⟩
theorem gX1_313 : SiteG RX1 313 1 8 := ⟨_, _, _, _, ok_1, by decide, FLink.n q410⟩
theorem gX1_316 : SiteG RX1 316 1 9 := ⟨_, _, _, _, ok_1, by decide, FLink.n q412⟩
theorem gX1_317 : SiteG RX1 317 1 10 := ⟨_, _, _, _, ok_1, by decide, FLink.n q414⟩
theorem gX1_320 : SiteG RX1 320 1 11 := ⟨_, _, _, _, ok_1, by decide, FLink.n q416⟩
theorem gX1_322 : SiteG RX1 322 1 12 := ⟨_, _, _, _, ok_1, by decide, FLink.n q418⟩
theorem gX1_323 : SiteG RX1 323 1 13 := ⟨_, _, _, _, ok_1, by decide, FLink.n q420⟩
theorem gX1_232 : SiteG RX1 232 5 0 := ⟨_, _, _, _, ok_5, by decide, FLink.n q829⟩
theorem gX1_230 : SiteG RX1 230 5 1 := ⟨_, _, _, _, ok_5, by decide, FLink.n q831⟩
theorem gX1_227 : SiteG RX1 227 5 2 := ⟨_, _, _, _, ok_5, by decide, FLink.n q833⟩
theorem gX1_183 : SiteG RX1 183 4 0 := ⟨_, _, _, _, ok_4, by decide, FLink.n q1766⟩
theorem gX1_184 : SiteG RX1 184 4 1 := ⟨_, _, _, _, ok_4, by decide, FLink.n q1769⟩
theorem gX1_307 : SiteG RX1 307 4 2 := ⟨_, _, _, _, ok_4, by decide, FLink.n q1772⟩
theorem iX1_9 : SiteI RX1 9 yX2_init 0 := ⟨q151, q152, q94, rfl, ⟨_, _, q153⟩, mh_yX2_init⟩
theorem iX1_21 : SiteI RX1 21 yJ12_init 0 := ⟨q452, q453, q109, rfl, ⟨_, _, q454⟩, mh_yJ12_init⟩
theorem iX1_28 : SiteI RX1 28 yJ14_init 1 := ⟨q475, q476, q111, rfl, ⟨_, _, q477⟩, mh_yJ14_init⟩
theorem vX1_209 : SiteV RX1 209 yJ14_length 14 0 := ⟨q527, q528, q529, q111, ⟨_, _, ok_14.1⟩, mh_yJ14_length⟩
theorem vX1_216 : SiteV RX1 216 yJ14_setLength 14 1 := ⟨q534, q535, q536, q111, ⟨_, _, ok_14.1⟩, mh_yJ14_setLength⟩
theorem vX1_224 : SiteV RX1 224 yX7_areOutings 5 0 := ⟨q844, q845, q846, q139, ⟨_, _, ok_5.1⟩, mh_yX7_areOutings⟩
theorem sX1_60 : SiteS RX1 60 yX1_in 3 := ⟨q891, q877, q93, mh_yX1_in⟩
theorem vX1_349 : SiteV RX1 349 yX1_fedTold 0 0 := ⟨q896, q898, qs6, q93, ⟨_, _, ok_0.1⟩, mh_yX1_fedTold⟩
theorem vX1_326 : SiteV RX1 326 yX1_countTold 0 1 := ⟨q905, q907, qs7, q93, ⟨_, _, ok_0.1⟩, mh_yX1_countTold⟩
theorem vX1_95 : SiteV RX1 95 yX2_many 1 1 := ⟨q909, q910, q911, q94, ⟨_, _, ok_1.1⟩, mh_yX2_many⟩
theorem vX1_266 : SiteV RX1 266 yX2_jobs 1 0 := ⟨q921, q922, q923, q94, ⟨_, _, ok_1.1⟩, mh_yX2_jobs⟩
theorem vX1_160 : SiteV RX1 160 yJ10_size 11 0 := ⟨q929, q930, q931, q105, ⟨_, _, ok_11.1⟩, mh_yJ10_size⟩
theorem vX1_35 : SiteV RX1 35 yJ12_size 13 0 := ⟨q942, q943, q944, q109, ⟨_, _, ok_13.1⟩, mh_yJ12_size⟩
theorem vX1_359 : SiteV RX1 359 yX1_mix 0 1 := ⟨q946, q948, qs8, q93, ⟨_, _, ok_0.1⟩, mh_yX1_mix⟩
theorem vX1_262 : SiteV RX1 262 yX1_fountainTold 0 2 := ⟨q951, q953, qs9, q93, ⟨_, _, ok_0.1⟩, mh_yX1_fountainTold⟩
theorem vX1_238 : SiteV RX1 238 yX2_why 1 1 := ⟨q955, q914, q915, q94, ⟨_, _, ok_1.1⟩, mh_yX2_why⟩
theorem vX1_343 : SiteV RX1 343 yX1_daysTold 0 1 := ⟨q956, q958, qs10, q93, ⟨_, _, ok_0.1⟩, mh_yX1_daysTold⟩
theorem vX1_43 : SiteV RX1 43 yX2_become 1 1 := ⟨q960, q961, q962, q94, ⟨_, _, ok_1.1⟩, mh_yX2_become⟩
theorem vX1_338 : SiteV RX1 338 yX3_isUsedUp 2 0 := ⟨q1459, q918, q919, q106, ⟨_, _, ok_2.1⟩, mh_yX3_isUsedUp⟩
theorem vX1_341 : SiteV RX1 341 yX2_pass 1 0 := ⟨q1460, q1461, q1462, q94, ⟨_, _, ok_1.1⟩, mh_yX2_pass⟩
theorem vX1_365 : SiteV RX1 365 yX1_mixRows 0 0 := ⟨q1705, q1707, qs26, q93, ⟨_, _, ok_0.1⟩, mh_yX1_mixRows⟩
theorem vX1_292 : SiteV RX1 292 yX1_jobTold 0 2 := ⟨q1709, q1711, qs27, q93, ⟨_, _, ok_0.1⟩, mh_yX1_jobTold⟩
theorem vX1_267 : SiteV RX1 267 yX2_layJobs 1 0 := ⟨q1713, q1519, q1520, q94, ⟨_, _, ok_1.1⟩, mh_yX2_layJobs⟩
theorem vX1_274 : SiteV RX1 274 yJ2_poll 12 0 := ⟨q1714, q1618, q1619, q97, ⟨_, _, ok_12.1⟩, mh_yJ2_poll⟩
theorem vX1_128 : SiteV RX1 128 yJ8_size 7 0 := ⟨q1717, q939, q2526, q103, ⟨_, _, ok_7.1⟩, mh_yJ8_size⟩
theorem vX1_304 : SiteV RX1 304 yX1_frostTold 0 2 := ⟨q1718, q1720, qs28, q93, ⟨_, _, ok_0.1⟩, mh_yX1_frostTold⟩
theorem vX1_295 : SiteV RX1 295 yJ8_keySet 7 0 := ⟨q1722, q973, q974, q103, ⟨_, _, ok_7.1⟩, mh_yJ8_keySet⟩
theorem vX1_302 : SiteV RX1 302 yJ8_get 7 1 := ⟨q1730, q1119, q1120, q103, ⟨_, _, ok_7.1⟩, mh_yJ8_get⟩
theorem vX1_150 : SiteV RX1 150 yJ27_intValue 15 0 := ⟨q1731, q1499, q1500, q126, ⟨_, _, ok_15.1⟩, mh_yJ27_intValue⟩
theorem vX1_310 : SiteV RX1 310 yX1_outingTold 0 2 := ⟨q1732, q1734, qs29, q93, ⟨_, _, ok_0.1⟩, mh_yX1_outingTold⟩
theorem vX1_167 : SiteV RX1 167 yJ10_iterator 11 0 := ⟨q1736, q1056, q2525, q105, ⟨_, _, ok_11.1⟩, mh_yJ10_iterator⟩
theorem vX1_368 : SiteV RX1 368 yX1_mixTries 0 0 := ⟨q1738, q1740, qs30, q93, ⟨_, _, ok_0.1⟩, mh_yX1_mixTries⟩
theorem vX1_329 : SiteV RX1 329 yX1_passedTold 0 2 := ⟨q1742, q1744, qs31, q93, ⟨_, _, ok_0.1⟩, mh_yX1_passedTold⟩
theorem vX1_205 : SiteV RX1 205 yX2_pass_2 1 1 := ⟨q1746, q1747, q1748, q94, ⟨_, _, ok_1.1⟩, mh_yX2_pass_2⟩
theorem vX1_332 : SiteV RX1 332 yX1_outingMore 0 2 := ⟨q1751, q1753, qs32, q93, ⟨_, _, ok_0.1⟩, mh_yX1_outingMore⟩
theorem vX1_163 : SiteV RX1 163 yX2_plan 1 3 := ⟨q1755, q1756, q1757, q94, ⟨_, _, ok_1.1⟩, mh_yX2_plan⟩
theorem vX1_335 : SiteV RX1 335 yX1_gateTold 0 1 := ⟨q1783, q1785, qs33, q93, ⟨_, _, ok_0.1⟩, mh_yX1_gateTold⟩
theorem vX1_346 : SiteV RX1 346 yX1_orderTold 0 1 := ⟨q1787, q1789, qs34, q93, ⟨_, _, ok_0.1⟩, mh_yX1_orderTold⟩
theorem sX1_371 : SiteS RX1 371 yJ37_doubleToLongBits 1 := ⟨q1791, q1792, q140, mh_yJ37_doubleToLongBits⟩
theorem vX1_377 : SiteV RX1 377 yJ14_charAt 14 1 := ⟨q1801, q862, q863, q111, ⟨_, _, ok_14.1⟩, mh_yJ14_charAt⟩
theorem sX1_64 : SiteS RX1 64 yX1_isPlace 1 := ⟨q1814, q889, q93, mh_yX1_isPlace⟩
theorem sX1_68 : SiteS RX1 68 yX1_needIndex 1 := ⟨q1815, q1816, q93, mh_yX1_needIndex⟩
theorem sX1_85 : SiteS RX1 85 yX1_need 1 := ⟨q1833, q1834, q93, mh_yX1_need⟩
theorem iX1_53 : SiteI RX1 53 yJ6_init 0 := ⟨q1837, q218, q101, rfl, ⟨_, _, q219⟩, mh_yJ6_init⟩
theorem sX1_82 : SiteS RX1 82 yX1_needState 1 := ⟨q1838, q1839, q93, mh_yX1_needState⟩
theorem iX1_59 : SiteI RX1 59 yJ19_init 0 := ⟨q1850, q1851, q117, rfl, ⟨_, _, q1852⟩, mh_yJ19_init⟩
theorem vX1_88 : SiteV RX1 88 yX1_save 0 0 := ⟨q1856, q1858, qs35, q93, ⟨_, _, ok_0.1⟩, mh_yX1_save⟩
theorem vX1_39 : SiteV RX1 39 yJ12_remove 13 1 := ⟨q1860, q1861, q1862, q109, ⟨_, _, ok_13.1⟩, mh_yJ12_remove⟩
theorem vX1_47 : SiteV RX1 47 yJ12_add 13 1 := ⟨q1873, q1874, q1875, q109, ⟨_, _, ok_13.1⟩, mh_yJ12_add⟩
theorem vX1_91 : SiteV RX1 91 yX3_build 2 3 := ⟨q1893, q1894, q1895, q106, ⟨_, _, ok_2.1⟩, mh_yX3_build⟩
theorem vX1_99 : SiteV RX1 99 yX1_there 0 1 := ⟨q1907, q1909, qs40, q93, ⟨_, _, ok_0.1⟩, mh_yX1_there⟩
theorem vX1_103 : SiteV RX1 103 yX3_jobs 2 0 := ⟨q1911, q926, q927, q106, ⟨_, _, ok_2.1⟩, mh_yX3_jobs⟩
theorem vX1_107 : SiteV RX1 107 yX3_become 2 1 := ⟨q1914, q965, q966, q106, ⟨_, _, ok_2.1⟩, mh_yX3_become⟩
theorem vX1_120 : SiteV RX1 120 yX2_meets 1 2 := ⟨q1936, q1937, q1938, q94, ⟨_, _, ok_1.1⟩, mh_yX2_meets⟩
theorem sX1_131 : SiteS RX1 131 yJ27_valueOf 1 := ⟨q1940, q1469, q126, mh_yJ27_valueOf⟩
theorem vX1_137 : SiteV RX1 137 yJ8_put 7 2 := ⟨q1941, q1358, q1359, q103, ⟨_, _, ok_7.1⟩, mh_yJ8_put⟩
theorem vX1_141 : SiteV RX1 141 yX2_lookOut 1 0 := ⟨q1942, q1465, q1466, q94, ⟨_, _, ok_1.1⟩, mh_yX2_lookOut⟩
theorem vX1_144 : SiteV RX1 144 yJ8_containsKey 7 1 := ⟨q1950, q1951, q1952, q103, ⟨_, _, ok_7.1⟩, mh_yJ8_containsKey⟩
theorem vX1_147 : SiteV RX1 147 yJ8_remove 7 1 := ⟨q1954, q1679, q2527, q103, ⟨_, _, ok_7.1⟩, mh_yJ8_remove⟩
theorem sX1_153 : SiteS RX1 153 yX1_areChildren 1 := ⟨q1962, q1963, q93, mh_yX1_areChildren⟩
theorem vX1_187 : SiteV RX1 187 yJ12_get 13 1 := ⟨q1972, q1973, q1974, q109, ⟨_, _, ok_13.1⟩, mh_yJ12_get⟩
theorem vX1_190 : SiteV RX1 190 yJ10_remove 11 1 := ⟨q1980, q1671, q1672, q105, ⟨_, _, ok_11.1⟩, mh_yJ10_remove⟩
theorem sX1_192 : SiteS RX1 192 yX1_isSetting 1 := ⟨q1988, q1989, q93, mh_yX1_isSetting⟩
theorem vX1_212 : SiteV RX1 212 yJ14_append_3 14 1 := ⟨q2009, q2010, q2011, q111, ⟨_, _, ok_14.1⟩, mh_yJ14_append_3⟩
theorem vX1_235 : SiteV RX1 235 yJ12_isEmpty 13 0 := ⟨q2040, q2041, q2042, q109, ⟨_, _, ok_13.1⟩, mh_yJ12_isEmpty⟩
theorem iX1_221 : SiteIN RX1 221 yX7_init 1 := ⟨⟨_, q824⟩, q825, q139, rfl, ⟨_, _, q826⟩, mh_yX7_init⟩
theorem iX1_106 : SiteIN RX1 106 yX3_init 0 := ⟨⟨_, q1913⟩, q310, q106, rfl, ⟨_, _, q311⟩, mh_yX3_init⟩
theorem gX2_11 : SiteG RX2 11 1 0 := ⟨_, _, _, _, ok_1, by decide, FLink.a q395⟩
theorem pX2_11 : SiteP RX2 11 1 0 (.array (.object "FountainPark$Fountain")) true := ⟨_, _, _, _, ok_1, by decide, FLink.a q395, rfl, rfl, (fun _ => rfl)⟩
theorem gX2_19 : SiteG RX2 19 1 1 := ⟨_, _, _, _, ok_1, by decide, FLink.a q397⟩
theorem pX2_19 : SiteP RX2 19 1 1 (.array (.object "FountainPark$Job")) true := ⟨_, _, _, _, ok_1, by decide, FLink.a q397, rfl, rfl, (fun _ => rfl)⟩
theorem gX2_26 : SiteG RX2 26 1 2 := ⟨_, _, _, _, ok_1, by decide, FLink.a q398⟩
theorem pX2_26 : SiteP RX2 26 1 2 (.object "java/util/PriorityQueue") true := ⟨_, _, _, _, ok_1, by decide, FLink.a q398, rfl, rfl, (fun _ => rfl)⟩
theorem gX2_33 : SiteG RX2 33 1 3 := ⟨_, _, _, _, ok_1, by decide, FLink.a q400⟩
theorem pX2_33 : SiteP RX2 33 1 3 (.object "java/util/TreeMap") true := ⟨_, _, _, _, ok_1, by decide, FLink.a q400, rfl, rfl, (fun _ => rfl)⟩
theorem gX2_40 : SiteG RX2 40 1 4 := ⟨_, _, _, _, ok_1, by decide, FLink.a q402⟩
theorem pX2_40 : SiteP RX2 40 1 4 (.object "java/util/TreeSet") true := ⟨_, _, _, _, ok_1, by decide, FLink.a q402, rfl, rfl, (fun _ => rfl)⟩
theorem gX2_44 : SiteG RX2 44 1 5 := ⟨_, _, _, _, ok_1, by decide, FLink.a q404⟩
theorem pX2_44 : SiteP RX2 44 1 5 (.array .int) true := ⟨_, _, _, _, ok_1, by decide, FLink.a q404, rfl, rfl, (fun _ => rfl)⟩
theorem gX2_103 : SiteG RX2 103 1 6 := ⟨_, _, _, _, ok_1, by decide, FLink.a q406⟩
theorem pX2_103 : SiteP RX2 103 1 6 (.int) false := ⟨_, _, _, _, ok_1, by decide, FLink.a q406, rfl, rfl, (fun h => by cases h)⟩
theorem gX2_107 : SiteG RX2 107 1 7 := ⟨_, _, _, _, ok_1, by decide, FLink.a q408⟩
theorem pX2_107 : SiteP RX2 107 1 7 (.int) false := ⟨_, _, _, _, ok_1, by decide, FLink.a q408, rfl, rfl, (fun h => by cases h)⟩
theorem gX2_110 : SiteG RX2 110 1 8 := ⟨_, _, _, _, ok_1, by decide, FLink.a q409⟩
theorem pX2_110 : SiteP RX2 110 1 8 (.int) false := ⟨_, _, _, _, ok_1, by decide, FLink.a q409, rfl, rfl, (fun h => by cases h)⟩
theorem gX2_113 : SiteG RX2 113 1 9 := ⟨_, _, _, _, ok_1, by decide, FLink.a q411⟩
theorem pX2_113 : SiteP RX2 113 1 9 (.int) false := ⟨_, _, _, _, ok_1, by decide, FLink.a q411, rfl, rfl, (fun h => by cases h)⟩
theorem gX2_116 : SiteG RX2 116 1 10 := ⟨_, _, _, _, ok_1, by decide, FLink.a q413⟩
theorem pX2_116 : SiteP RX2 116 1 10 (.int) false := ⟨_, _, _, _, ok_1, by decide, FLink.a q413, rfl, rfl, (fun h => by cases h)⟩
theorem gX2_119 : SiteG RX2 119 1 11 := ⟨_, _, _, _, ok_1, by decide, FLink.a q415⟩
theorem pX2_119 : SiteP RX2 119 1 11 (.int) false := ⟨_, _, _, _, ok_1, by decide, FLink.a q415, rfl, rfl, (fun h => by cases h)⟩
theorem gX2_122 : SiteG RX2 122 1 12 := ⟨_, _, _, _, ok_1, by decide, FLink.a q417⟩
theorem pX2_122 : SiteP RX2 122 1 12 (.int) false := ⟨_, _, _, _, ok_1, by decide, FLink.a q417, rfl, rfl, (fun h => by cases h)⟩
theorem gX2_125 : SiteG RX2 125 1 13 := ⟨_, _, _, _, ok_1, by decide, FLink.a q419⟩
theorem pX2_125 : SiteP RX2 125 1 13 (.boolean) false := ⟨_, _, _, _, ok_1, by decide, FLink.a q419, rfl, rfl, (fun h => by cases h)⟩
theorem gX2_140 : SiteG RX2 140 2 0 := ⟨_, _, _, _, ok_2, by decide, FLink.n q314⟩
theorem gX2_149 : SiteG RX2 149 2 4 := ⟨_, _, _, _, ok_2, by decide, FLink.n q323⟩
theorem gX2_146 : SiteG RX2 146 2 5 := ⟨_, _, _, _, ok_2, by decide, FLink.n q326⟩
theorem gX2_143 : SiteG RX2 143 2 6 := ⟨_, _, _, _, ok_2, by decide, FLink.n q329⟩
theorem pX2_226 : SiteP RX2 226 2 10 (.int) false := ⟨_, _, _, _, ok_2, by decide, FLink.n q338, rfl, rfl, (fun h => by cases h)⟩
theorem gX2_165 : SiteG RX2 165 2 11 := ⟨_, _, _, _, ok_2, by decide, FLink.n q340⟩
theorem gX2_192 : SiteG RX2 192 2 12 := ⟨_, _, _, _, ok_2, by decide, FLink.n q342⟩
theorem gX2_162 : SiteG RX2 162 3 0 := ⟨_, _, _, _, ok_3, by decide, FLink.n q378⟩
theorem gX2_168 : SiteG RX2 168 3 1 := ⟨_, _, _, _, ok_3, by decide, FLink.n q381⟩
theorem gX2_215 : SiteG RX2 215 4 0 := ⟨_, _, _, _, ok_4, by decide, FLink.n q1765⟩
theorem gX2_206 : SiteG RX2 206 4 1 := ⟨_, _, _, _, ok_4, by decide, FLink.n q1768⟩
theorem gX2_207 : SiteG RX2 207 4 2 := ⟨_, _, _, _, ok_4, by decide, FLink.n q1771⟩
theorem iX2_25 : SiteI RX2 25 yJ2_init 0 := ⟨q161, q162, q97, rfl, ⟨_, _, q163⟩, mh_yJ2_init⟩
theorem iX2_32 : SiteI RX2 32 yJ8_init 0 := ⟨q257, q258, q103, rfl, ⟨_, _, q259⟩, mh_yJ8_init⟩
theorem iX2_39 : SiteI RX2 39 yJ10_init 0 := ⟨q292, q293, q105, rfl, ⟨_, _, q294⟩, mh_yJ10_init⟩
theorem iX2_49 : SiteI RX2 49 yX4_init 2 := ⟨q373, q374, q107, rfl, ⟨_, _, q375⟩, mh_yX4_init⟩
theorem vX2_155 : SiteV RX2 155 yX2_why 1 1 := ⟨q913, q914, q915, q94, ⟨_, _, ok_1.1⟩, mh_yX2_why⟩
theorem vX2_152 : SiteV RX2 152 yX3_isUsedUp 2 0 := ⟨q917, q918, q919, q106, ⟨_, _, ok_2.1⟩, mh_yX3_isUsedUp⟩
theorem vX2_159 : SiteV RX2 159 yX3_jobs 2 0 := ⟨q925, q926, q927, q106, ⟨_, _, ok_2.1⟩, mh_yX3_jobs⟩
theorem vX2_52 : SiteV RX2 52 yX3_become 2 1 := ⟨q964, q965, q966, q106, ⟨_, _, ok_2.1⟩, mh_yX3_become⟩
theorem vX2_56 : SiteV RX2 56 yJ8_clear 7 0 := ⟨q968, q969, q970, q103, ⟨_, _, ok_7.1⟩, mh_yJ8_clear⟩
theorem vX2_59 : SiteV RX2 59 yJ8_keySet 7 0 := ⟨q972, q973, q974, q103, ⟨_, _, ok_7.1⟩, mh_yJ8_keySet⟩
theorem vX2_81 : SiteV RX2 81 yJ8_get 7 1 := ⟨q1118, q1119, q1120, q103, ⟨_, _, ok_7.1⟩, mh_yJ8_get⟩
theorem vX2_85 : SiteV RX2 85 yJ8_put 7 2 := ⟨q1357, q1358, q1359, q103, ⟨_, _, ok_7.1⟩, mh_yJ8_put⟩
theorem vX2_89 : SiteV RX2 89 yJ10_clear 11 0 := ⟨q1434, q1435, q1436, q105, ⟨_, _, ok_11.1⟩, mh_yJ10_clear⟩
theorem vX2_90 : SiteV RX2 90 yJ10_iterator 11 0 := ⟨q1444, q1056, q2525, q105, ⟨_, _, ok_11.1⟩, mh_yJ10_iterator⟩
theorem vX2_93 : SiteV RX2 93 yJ10_add 11 1 := ⟨q1446, q1447, q1448, q105, ⟨_, _, ok_11.1⟩, mh_yJ10_add⟩
theorem vX2_223 : SiteV RX2 223 yX2_lookOut 1 0 := ⟨q1464, q1465, q1466, q94, ⟨_, _, ok_1.1⟩, mh_yX2_lookOut⟩
theorem sX2_129 : SiteS RX2 129 yJ27_valueOf 1 := ⟨q1468, q1469, q126, mh_yJ27_valueOf⟩
theorem vX2_133 : SiteV RX2 133 yJ8_floorKey 7 1 := ⟨q1487, q1488, q1489, q103, ⟨_, _, ok_7.1⟩, mh_yJ8_floorKey⟩
theorem vX2_136 : SiteV RX2 136 yJ27_intValue 15 0 := ⟨q1498, q1499, q1500, q126, ⟨_, _, ok_15.1⟩, mh_yJ27_intValue⟩
theorem vX2_229 : SiteV RX2 229 yX2_freeze 1 0 := ⟨q1502, q1504, qs17, q94, ⟨_, _, ok_1.1⟩, mh_yX2_freeze⟩
theorem vX2_176 : SiteV RX2 176 yX3_burst 2 1 := ⟨q1506, q1507, q1508, q106, ⟨_, _, ok_2.1⟩, mh_yX3_burst⟩
theorem vX2_232 : SiteV RX2 232 yX2_work 1 0 := ⟨q1514, q1516, qs18, q94, ⟨_, _, ok_1.1⟩, mh_yX2_work⟩
theorem vX2_180 : SiteV RX2 180 yX2_layJobs 1 0 := ⟨q1518, q1519, q1520, q94, ⟨_, _, ok_1.1⟩, mh_yX2_layJobs⟩
theorem vX2_161 : SiteV RX2 161 yJ2_clear 12 0 := ⟨q1522, q1523, q1524, q97, ⟨_, _, ok_12.1⟩, mh_yJ2_clear⟩
theorem vX2_171 : SiteV RX2 171 yX4_lay 3 2 := ⟨q1526, q1527, q1528, q107, ⟨_, _, ok_3.1⟩, mh_yX4_lay⟩
theorem vX2_175 : SiteV RX2 175 yJ2_add 12 1 := ⟨q1530, q1531, q1532, q97, ⟨_, _, ok_12.1⟩, mh_yJ2_add⟩
theorem vX2_186 : SiteV RX2 186 yJ2_poll 12 0 := ⟨q1617, q1618, q1619, q97, ⟨_, _, ok_12.1⟩, mh_yJ2_poll⟩
theorem sX2_194 : SiteS RX2 194 yJ29_min 2 := ⟨q1629, q592, q128, mh_yJ29_min⟩
theorem vX2_200 : SiteV RX2 200 yX3_done 2 1 := ⟨q1630, q1631, q1632, q106, ⟨_, _, ok_2.1⟩, mh_yX3_done⟩
theorem vX2_235 : SiteV RX2 235 yX2_serveAll 1 0 := ⟨q1634, q1636, qs21, q94, ⟨_, _, ok_1.1⟩, mh_yX2_serveAll⟩
theorem vX2_211 : SiteV RX2 211 yJ10_isEmpty 11 0 := ⟨q1638, q1639, q1640, q105, ⟨_, _, ok_11.1⟩, mh_yJ10_isEmpty⟩
theorem vX2_212 : SiteV RX2 212 yJ10_first 11 0 := ⟨q1655, q1656, q1657, q105, ⟨_, _, ok_11.1⟩, mh_yJ10_first⟩
theorem vX2_216 : SiteV RX2 216 yJ10_remove 11 1 := ⟨q1670, q1671, q1672, q105, ⟨_, _, ok_11.1⟩, mh_yJ10_remove⟩
theorem vX2_219 : SiteV RX2 219 yX2_serve 1 1 := ⟨q1691, q1693, qs24, q94, ⟨_, _, ok_1.1⟩, mh_yX2_serve⟩
theorem vX2_210 : SiteV RX2 210 yX2_give 1 2 := ⟨q1695, q1697, qs25, q94, ⟨_, _, ok_1.1⟩, mh_yX2_give⟩
theorem vX2_203 : SiteV RX2 203 yX3_give 2 2 := ⟨q1699, q1700, q1701, q106, ⟨_, _, ok_2.1⟩, mh_yX3_give⟩
theorem vX2_238 : SiteV RX2 238 yX2_pass 1 0 := ⟨q1750, q1461, q1462, q94, ⟨_, _, ok_1.1⟩, mh_yX2_pass⟩
theorem iX2_241 : SiteI RX2 241 yX6_init 4 := ⟨q1760, q1761, q136, rfl, ⟨_, _, q1762⟩, mh_yX6_init⟩
theorem iX2_48 : SiteIN RX2 48 yX3_init 0 := ⟨⟨_, q309⟩, q310, q106, rfl, ⟨_, _, q311⟩, mh_yX3_init⟩
theorem gX3_18 : SiteG RX3 18 2 0 := ⟨_, _, _, _, ok_2, by decide, FLink.a q313⟩
theorem pX3_18 : SiteP RX3 18 2 0 (.boolean) false := ⟨_, _, _, _, ok_2, by decide, FLink.a q313, rfl, rfl, (fun h => by cases h)⟩
theorem gX3_22 : SiteG RX3 22 2 1 := ⟨_, _, _, _, ok_2, by decide, FLink.a q316⟩
theorem pX3_22 : SiteP RX3 22 2 1 (.int) false := ⟨_, _, _, _, ok_2, by decide, FLink.a q316, rfl, rfl, (fun h => by cases h)⟩
theorem gX3_26 : SiteG RX3 26 2 2 := ⟨_, _, _, _, ok_2, by decide, FLink.a q318⟩
theorem pX3_26 : SiteP RX3 26 2 2 (.int) false := ⟨_, _, _, _, ok_2, by decide, FLink.a q318, rfl, rfl, (fun h => by cases h)⟩
theorem gX3_29 : SiteG RX3 29 2 3 := ⟨_, _, _, _, ok_2, by decide, FLink.a q320⟩
theorem pX3_29 : SiteP RX3 29 2 3 (.int) false := ⟨_, _, _, _, ok_2, by decide, FLink.a q320, rfl, rfl, (fun h => by cases h)⟩
theorem gX3_32 : SiteG RX3 32 2 4 := ⟨_, _, _, _, ok_2, by decide, FLink.a q322⟩
theorem pX3_32 : SiteP RX3 32 2 4 (.boolean) false := ⟨_, _, _, _, ok_2, by decide, FLink.a q322, rfl, rfl, (fun h => by cases h)⟩
theorem gX3_35 : SiteG RX3 35 2 5 := ⟨_, _, _, _, ok_2, by decide, FLink.a q325⟩
theorem pX3_35 : SiteP RX3 35 2 5 (.boolean) false := ⟨_, _, _, _, ok_2, by decide, FLink.a q325, rfl, rfl, (fun h => by cases h)⟩
theorem gX3_38 : SiteG RX3 38 2 6 := ⟨_, _, _, _, ok_2, by decide, FLink.a q328⟩
theorem pX3_38 : SiteP RX3 38 2 6 (.boolean) false := ⟨_, _, _, _, ok_2, by decide, FLink.a q328, rfl, rfl, (fun h => by cases h)⟩
theorem gX3_41 : SiteG RX3 41 2 7 := ⟨_, _, _, _, ok_2, by decide, FLink.a q331⟩
theorem pX3_41 : SiteP RX3 41 2 7 (.int) false := ⟨_, _, _, _, ok_2, by decide, FLink.a q331, rfl, rfl, (fun h => by cases h)⟩
theorem gX3_44 : SiteG RX3 44 2 8 := ⟨_, _, _, _, ok_2, by decide, FLink.a q333⟩
theorem pX3_44 : SiteP RX3 44 2 8 (.int) false := ⟨_, _, _, _, ok_2, by decide, FLink.a q333, rfl, rfl, (fun h => by cases h)⟩
theorem gX3_47 : SiteG RX3 47 2 9 := ⟨_, _, _, _, ok_2, by decide, FLink.a q335⟩
theorem pX3_47 : SiteP RX3 47 2 9 (.int) false := ⟨_, _, _, _, ok_2, by decide, FLink.a q335, rfl, rfl, (fun h => by cases h)⟩
theorem gX3_50 : SiteG RX3 50 2 10 := ⟨_, _, _, _, ok_2, by decide, FLink.a q337⟩
theorem pX3_50 : SiteP RX3 50 2 10 (.int) false := ⟨_, _, _, _, ok_2, by decide, FLink.a q337, rfl, rfl, (fun h => by cases h)⟩
theorem gX3_9 : SiteG RX3 9 2 11 := ⟨_, _, _, _, ok_2, by decide, FLink.a q339⟩
theorem pX3_9 : SiteP RX3 9 2 11 (.array .int) true := ⟨_, _, _, _, ok_2, by decide, FLink.a q339, rfl, rfl, (fun _ => rfl)⟩
theorem gX3_15 : SiteG RX3 15 2 12 := ⟨_, _, _, _, ok_2, by decide, FLink.a q341⟩
theorem pX3_15 : SiteP RX3 15 2 12 (.array .int) true := ⟨_, _, _, _, ok_2, by decide, FLink.a q341, rfl, rfl, (fun _ => rfl)⟩
theorem vX3_58 : SiteV RX3 58 yX3_report 2 2 := ⟨q1510, q1511, q1512, q106, ⟨_, _, ok_2.1⟩, mh_yX3_report⟩
theorem sX3_62 : SiteS RX3 62 yJ29_min 2 := ⟨q1703, q592, q128, mh_yJ29_min⟩
theorem vX3_68 : SiteV RX3 68 yX3_isUsedUp 2 0 := ⟨q1704, q918, q919, q106, ⟨_, _, ok_2.1⟩, mh_yX3_isUsedUp⟩
theorem iX3_53 : SiteI RX3 53 yX3_init 0 := ⟨q1898, q310, q106, rfl, ⟨_, _, q311⟩, mh_yX3_init⟩
theorem vX3_54 : SiteV RX3 54 yX3_become 2 1 := ⟨q1899, q965, q966, q106, ⟨_, _, ok_2.1⟩, mh_yX3_become⟩
theorem gX4_7 : SiteG RX4 7 3 0 := ⟨_, _, _, _, ok_3, by decide, FLink.a q377⟩
theorem pX4_7 : SiteP RX4 7 3 0 (.int) true := ⟨_, _, _, _, ok_3, by decide, FLink.a q377, rfl, rfl, (fun _ => rfl)⟩
theorem gX4_13 : SiteG RX4 13 3 1 := ⟨_, _, _, _, ok_3, by decide, FLink.a q380⟩
theorem pX4_13 : SiteP RX4 13 3 1 (.int) true := ⟨_, _, _, _, ok_3, by decide, FLink.a q380, rfl, rfl, (fun _ => rfl)⟩
theorem gX4_16 : SiteG RX4 16 3 2 := ⟨_, _, _, _, ok_3, by decide, FLink.a q383⟩
theorem pX4_16 : SiteP RX4 16 3 2 (.int) false := ⟨_, _, _, _, ok_3, by decide, FLink.a q383, rfl, rfl, (fun h => by cases h)⟩
theorem gX4_19 : SiteG RX4 19 3 3 := ⟨_, _, _, _, ok_3, by decide, FLink.a q384⟩
theorem pX4_19 : SiteP RX4 19 3 3 (.int) false := ⟨_, _, _, _, ok_3, by decide, FLink.a q384, rfl, rfl, (fun h => by cases h)⟩
theorem vX4_22 : SiteV RX4 22 yX4_compareTo_2 3 1 := ⟨q1149, q1150, q1151, q107, ⟨_, _, ok_3.1⟩, mh_yX4_compareTo_2⟩
theorem gX6_7 : SiteG RX6 7 4 0 := ⟨_, _, _, _, ok_4, by decide, FLink.a q1764⟩
theorem pX6_7 : SiteP RX6 7 4 0 (.int) true := ⟨_, _, _, _, ok_4, by decide, FLink.a q1764, rfl, rfl, (fun _ => rfl)⟩
theorem gX6_13 : SiteG RX6 13 4 1 := ⟨_, _, _, _, ok_4, by decide, FLink.a q1767⟩
theorem pX6_13 : SiteP RX6 13 4 1 (.int) true := ⟨_, _, _, _, ok_4, by decide, FLink.a q1767, rfl, rfl, (fun _ => rfl)⟩
theorem pX6_16 : SiteP RX6 16 4 2 (.int) true := ⟨_, _, _, _, ok_4, by decide, FLink.a q1770, rfl, rfl, (fun _ => rfl)⟩
theorem gX6_19 : SiteG RX6 19 4 3 := ⟨_, _, _, _, ok_4, by decide, FLink.a q1773⟩
theorem pX6_19 : SiteP RX6 19 4 3 (.int) true := ⟨_, _, _, _, ok_4, by decide, FLink.a q1773, rfl, rfl, (fun _ => rfl)⟩
theorem vX6_22 : SiteV RX6 22 yX6_compareTo_2 4 1 := ⟨q1160, q1161, q1162, q136, ⟨_, _, ok_4.1⟩, mh_yX6_compareTo_2⟩
theorem gX7_15 : SiteG RX7 15 5 0 := ⟨_, _, _, _, ok_5, by decide, FLink.a q828⟩
theorem pX7_15 : SiteP RX7 15 5 0 (.array .int) true := ⟨_, _, _, _, ok_5, by decide, FLink.a q828, rfl, rfl, (fun _ => rfl)⟩
theorem gX7_50 : SiteG RX7 50 5 1 := ⟨_, _, _, _, ok_5, by decide, FLink.a q830⟩
theorem pX7_50 : SiteP RX7 50 5 1 (.int) false := ⟨_, _, _, _, ok_5, by decide, FLink.a q830, rfl, rfl, (fun h => by cases h)⟩
theorem gX7_19 : SiteG RX7 19 5 2 := ⟨_, _, _, _, ok_5, by decide, FLink.a q832⟩
theorem pX7_19 : SiteP RX7 19 5 2 (.int) false := ⟨_, _, _, _, ok_5, by decide, FLink.a q832, rfl, rfl, (fun h => by cases h)⟩
theorem gX7_3 : SiteG RX7 3 5 3 := ⟨_, _, _, _, ok_5, by decide, FLink.a q834⟩
theorem pX7_3 : SiteP RX7 3 5 3 (.object "FountainPark") true := ⟨_, _, _, _, ok_5, by decide, FLink.a q834, rfl, rfl, (fun _ => rfl)⟩
theorem gX7_23 : SiteG RX7 23 0 3 := ⟨_, _, _, _, ok_0, by decide, FLink.n q509⟩
theorem vX7_66 : SiteV RX7 66 yX7_part 5 0 := ⟨q848, q850, qs1, q139, ⟨_, _, ok_5.1⟩, mh_yX7_part⟩
theorem vX7_53 : SiteV RX7 53 yX7_number 5 2 := ⟨q852, q854, qs2, q139, ⟨_, _, ok_5.1⟩, mh_yX7_number⟩
theorem vX7_37 : SiteV RX7 37 yX7_next 5 0 := ⟨q856, q858, qs3, q139, ⟨_, _, ok_5.1⟩, mh_yX7_next⟩
theorem vX7_27 : SiteV RX7 27 yJ14_length 14 0 := ⟨q860, q528, q529, q111, ⟨_, _, ok_14.1⟩, mh_yJ14_length⟩
theorem vX7_33 : SiteV RX7 33 yJ14_charAt 14 1 := ⟨q861, q862, q863, q111, ⟨_, _, ok_14.1⟩, mh_yJ14_charAt⟩
theorem sX7_44 : SiteS RX7 44 yJ29_max 2 := ⟨q879, q574, q128, mh_yJ29_max⟩
theorem vX7_56 : SiteV RX7 56 yX7_takes 5 1 := ⟨q880, q882, qs4, q139, ⟨_, _, ok_5.1⟩, mh_yX7_takes⟩
theorem vX7_63 : SiteV RX7 63 yX7_group 5 1 := ⟨q884, q886, qs5, q139, ⟨_, _, ok_5.1⟩, mh_yX7_group⟩
theorem sX7_40 : SiteSN RX7 40 yX1_in 3 := ⟨⟨_, q876⟩, q877, q93, mh_yX1_in⟩
theorem sX7_60 : SiteSN RX7 60 yX1_isPlace 1 := ⟨⟨_, q888⟩, q889, q93, mh_yX1_isPlace⟩
theorem iJ1_1 : SiteI RJ1 1 yJ0_init 0 := ⟨q170, q171, q95, rfl, ⟨_, _, q172⟩, mh_yJ0_init⟩
theorem gJ2_17 : SiteG RJ2 17 12 0 := ⟨_, _, _, _, ok_12, by decide, FLink.a q242⟩
theorem pJ2_17 : SiteP RJ2 17 12 0 (.array (.object "java/lang/Object")) false := ⟨_, _, _, _, ok_12, by decide, FLink.a q242, rfl, rfl, (fun h => by cases h)⟩
theorem gJ2_58 : SiteG RJ2 58 12 1 := ⟨_, _, _, _, ok_12, by decide, FLink.a q243⟩
theorem pJ2_58 : SiteP RJ2 58 12 1 (.int) false := ⟨_, _, _, _, ok_12, by decide, FLink.a q243, rfl, rfl, (fun h => by cases h)⟩
theorem gJ2_21 : SiteG RJ2 21 12 2 := ⟨_, _, _, _, ok_12, by decide, FLink.a q244⟩
theorem pJ2_21 : SiteP RJ2 21 12 2 (.object "java/util/Comparator") true := ⟨_, _, _, _, ok_12, by decide, FLink.a q244, rfl, rfl, (fun _ => rfl)⟩
theorem gJ2_93 : SiteG RJ2 93 12 3 := ⟨_, _, _, _, ok_12, by decide, FLink.a q245⟩
theorem pJ2_93 : SiteP RJ2 93 12 3 (.int) false := ⟨_, _, _, _, ok_12, by decide, FLink.a q245, rfl, rfl, (fun h => by cases h)⟩
theorem iJ2_3 : SiteI RJ2 3 yJ2_init_2 2 := ⟨q164, q165, q97, rfl, ⟨_, _, q166⟩, mh_yJ2_init_2⟩
theorem iJ2_7 : SiteI RJ2 7 yJ1_init 0 := ⟨q167, q168, q96, rfl, ⟨_, _, q169⟩, mh_yJ1_init⟩
theorem iJ2_14 : SiteI RJ2 14 yJ6_init 0 := ⟨q217, q218, q101, rfl, ⟨_, _, q219⟩, mh_yJ6_init⟩
theorem vJ2_89 : SiteV RJ2 89 yJ2_offer 12 1 := ⟨q1534, q1535, q1536, q97, ⟨_, _, ok_12.1⟩, mh_yJ2_offer⟩
theorem vJ2_96 : SiteV RJ2 96 yJ2_grow 12 1 := ⟨q1538, q1540, qs19, q97, ⟨_, _, ok_12.1⟩, mh_yJ2_grow⟩
theorem sJ2_80 : SiteS RJ2 80 yJ30_newLength 3 := ⟨q1542, q571, q129, mh_yJ30_newLength⟩
theorem sJ2_86 : SiteS RJ2 86 yJ34_copyOf_2 2 := ⟨q1543, q1544, q134, mh_yJ34_copyOf_2⟩
theorem vJ2_100 : SiteV RJ2 100 yJ2_siftUp 12 2 := ⟨q1580, q1582, qs20, q97, ⟨_, _, ok_12.1⟩, mh_yJ2_siftUp⟩
theorem sJ2_136 : SiteS RJ2 136 yJ2_siftUpUsingComparator 4 := ⟨q1584, q1585, q97, mh_yJ2_siftUpUsingComparator⟩
theorem sJ2_140 : SiteS RJ2 140 yJ2_siftUpComparable 3 := ⟨q1589, q1590, q97, mh_yJ2_siftUpComparable⟩
theorem sJ2_125 : SiteS RJ2 125 yJ2_siftDownComparable 4 := ⟨q1621, q1622, q97, mh_yJ2_siftDownComparable⟩
theorem sJ2_129 : SiteS RJ2 129 yJ2_siftDownUsingComparator 5 := ⟨q1624, q1625, q97, mh_yJ2_siftDownUsingComparator⟩
theorem gJ8_16 : SiteG RJ8 16 7 2 := ⟨_, _, _, _, ok_7, by decide, FLink.a q264⟩
theorem pJ8_16 : SiteP RJ8 16 7 2 (.object "java/util/Comparator") true := ⟨_, _, _, _, ok_7, by decide, FLink.a q264, rfl, rfl, (fun _ => rfl)⟩
theorem gJ8_101 : SiteG RJ8 101 7 3 := ⟨_, _, _, _, ok_7, by decide, FLink.a q265⟩
theorem pJ8_101 : SiteP RJ8 101 7 3 (.object "java/util/TreeMap$Entry") false := ⟨_, _, _, _, ok_7, by decide, FLink.a q265, rfl, rfl, (fun h => by cases h)⟩
theorem gJ8_7 : SiteG RJ8 7 7 4 := ⟨_, _, _, _, ok_7, by decide, FLink.a q266⟩
theorem pJ8_7 : SiteP RJ8 7 7 4 (.int) false := ⟨_, _, _, _, ok_7, by decide, FLink.a q266, rfl, rfl, (fun h => by cases h)⟩
theorem gJ8_13 : SiteG RJ8 13 7 5 := ⟨_, _, _, _, ok_7, by decide, FLink.a q267⟩
theorem pJ8_13 : SiteP RJ8 13 7 5 (.int) false := ⟨_, _, _, _, ok_7, by decide, FLink.a q267, rfl, rfl, (fun h => by cases h)⟩
theorem gJ8_191 : SiteG RJ8 191 7 7 := ⟨_, _, _, _, ok_7, by decide, FLink.a q270⟩
theorem pJ8_191 : SiteP RJ8 191 7 7 (.object "java/util/TreeMap$KeySet") false := ⟨_, _, _, _, ok_7, by decide, FLink.a q270, rfl, rfl, (fun h => by cases h)⟩
theorem gJ8_105 : SiteG RJ8 105 8 0 := ⟨_, _, _, _, ok_8, by decide, FLink.a q1381⟩
theorem pJ8_105 : SiteP RJ8 105 8 0 (.object "java/lang/Object") false := ⟨_, _, _, _, ok_8, by decide, FLink.a q1381, rfl, rfl, (fun h => by cases h)⟩
theorem gJ8_58 : SiteG RJ8 58 8 1 := ⟨_, _, _, _, ok_8, by decide, FLink.a q1383⟩
theorem pJ8_58 : SiteP RJ8 58 8 1 (.object "java/lang/Object") false := ⟨_, _, _, _, ok_8, by decide, FLink.a q1383, rfl, rfl, (fun h => by cases h)⟩
theorem gJ8_111 : SiteG RJ8 111 8 2 := ⟨_, _, _, _, ok_8, by decide, FLink.a q1384⟩
theorem pJ8_111 : SiteP RJ8 111 8 2 (.object "java/util/TreeMap$Entry") false := ⟨_, _, _, _, ok_8, by decide, FLink.a q1384, rfl, rfl, (fun h => by cases h)⟩
theorem gJ8_114 : SiteG RJ8 114 8 3 := ⟨_, _, _, _, ok_8, by decide, FLink.a q1385⟩
theorem pJ8_114 : SiteP RJ8 114 8 3 (.object "java/util/TreeMap$Entry") false := ⟨_, _, _, _, ok_8, by decide, FLink.a q1385, rfl, rfl, (fun h => by cases h)⟩
theorem gJ8_124 : SiteG RJ8 124 8 4 := ⟨_, _, _, _, ok_8, by decide, FLink.a q1387⟩
theorem pJ8_124 : SiteP RJ8 124 8 4 (.object "java/util/TreeMap$Entry") false := ⟨_, _, _, _, ok_8, by decide, FLink.a q1387, rfl, rfl, (fun h => by cases h)⟩
theorem gJ8_290 : SiteG RJ8 290 8 5 := ⟨_, _, _, _, ok_8, by decide, FLink.a q1389⟩
theorem pJ8_290 : SiteP RJ8 290 8 5 (.boolean) false := ⟨_, _, _, _, ok_8, by decide, FLink.a q1389, rfl, rfl, (fun h => by cases h)⟩
theorem iJ8_1 : SiteI RJ8 1 yJ7_init 0 := ⟨q260, q261, q102, rfl, ⟨_, _, q262⟩, mh_yJ7_init⟩
theorem vJ8_219 : SiteV RJ8 219 yJ8_navigableKeySet 7 0 := ⟨q976, q977, q978, q103, ⟨_, _, ok_7.1⟩, mh_yJ8_navigableKeySet⟩
theorem iJ8_224 : SiteI RJ8 224 yJ22_init 1 := ⟨q982, q983, q121, rfl, ⟨_, _, q984⟩, mh_yJ22_init⟩
theorem vJ8_54 : SiteV RJ8 54 yJ8_getFirstEntry 7 0 := ⟨q1039, q1003, q1004, q103, ⟨_, _, ok_7.1⟩, mh_yJ8_getFirstEntry⟩
theorem iJ8_271 : SiteI RJ8 271 yJ25_init 2 := ⟨q1040, q1041, q124, rfl, ⟨_, _, q1042⟩, mh_yJ25_init⟩
theorem vJ8_50 : SiteV RJ8 50 yJ8_getEntry 7 1 := ⟨q1122, q1123, q1124, q103, ⟨_, _, ok_7.1⟩, mh_yJ8_getEntry⟩
theorem vJ8_92 : SiteV RJ8 92 yJ8_getEntryUsingComparator 7 1 := ⟨q1126, q1127, q1128, q103, ⟨_, _, ok_7.1⟩, mh_yJ8_getEntryUsingComparator⟩
theorem sJ8_95 : SiteS RJ8 95 yJ20_requireNonNull 1 := ⟨q1134, q1135, q118, mh_yJ20_requireNonNull⟩
theorem vJ8_127 : SiteV RJ8 127 yJ8_put_2 7 3 := ⟨q1361, q1363, qs11, q103, ⟨_, _, ok_7.1⟩, mh_yJ8_put_2⟩
theorem vJ8_135 : SiteV RJ8 135 yJ8_addEntryToEmptyMap 7 2 := ⟨q1365, q1367, qs12, q103, ⟨_, _, ok_7.1⟩, mh_yJ8_addEntryToEmptyMap⟩
theorem vJ8_123 : SiteV RJ8 123 yJ8_compare 7 2 := ⟨q1369, q1370, q1371, q103, ⟨_, _, ok_7.1⟩, mh_yJ8_compare⟩
theorem iJ8_167 : SiteI RJ8 167 yJ33_init 3 := ⟨q1375, q1376, q133, rfl, ⟨_, _, q1377⟩, mh_yJ33_init⟩
theorem vJ8_139 : SiteV RJ8 139 yJ8_addEntry 7 4 := ⟨q1403, q1405, qs13, q103, ⟨_, _, ok_7.1⟩, mh_yJ8_addEntry⟩
theorem vJ8_170 : SiteV RJ8 170 yJ8_fixAfterInsertion 7 1 := ⟨q1407, q1409, qs14, q103, ⟨_, _, ok_7.1⟩, mh_yJ8_fixAfterInsertion⟩
theorem sJ8_294 : SiteS RJ8 294 yJ8_parentOf 1 := ⟨q1411, q1412, q103, mh_yJ8_parentOf⟩
theorem sJ8_297 : SiteS RJ8 297 yJ8_leftOf 1 := ⟨q1414, q1415, q103, mh_yJ8_leftOf⟩
theorem sJ8_300 : SiteS RJ8 300 yJ8_rightOf 1 := ⟨q1417, q1418, q103, mh_yJ8_rightOf⟩
theorem sJ8_303 : SiteS RJ8 303 yJ8_colorOf 1 := ⟨q1420, q1421, q103, mh_yJ8_colorOf⟩
theorem sJ8_307 : SiteS RJ8 307 yJ8_setColor 2 := ⟨q1423, q1424, q103, mh_yJ8_setColor⟩
theorem vJ8_311 : SiteV RJ8 311 yJ8_rotateLeft 7 1 := ⟨q1426, q1428, qs15, q103, ⟨_, _, ok_7.1⟩, mh_yJ8_rotateLeft⟩
theorem vJ8_314 : SiteV RJ8 314 yJ8_rotateRight 7 1 := ⟨q1430, q1432, qs16, q103, ⟨_, _, ok_7.1⟩, mh_yJ8_rotateRight⟩
theorem vJ8_210 : SiteV RJ8 210 yJ8_getFloorEntry 7 1 := ⟨q1491, q1492, q1493, q103, ⟨_, _, ok_7.1⟩, mh_yJ8_getFloorEntry⟩
theorem sJ8_207 : SiteS RJ8 207 yJ8_keyOrNull 1 := ⟨q1495, q1496, q103, mh_yJ8_keyOrNull⟩
theorem sJ8_72 : SiteS RJ8 72 yJ8_key 1 := ⟨q1667, q1668, q103, mh_yJ8_key⟩
theorem vJ8_174 : SiteV RJ8 174 yJ8_deleteEntry 7 1 := ⟨q1682, q1684, qs22, q103, ⟨_, _, ok_7.1⟩, mh_yJ8_deleteEntry⟩
theorem sJ8_68 : SiteS RJ8 68 yJ8_successor 1 := ⟨q1686, q1107, q103, mh_yJ8_successor⟩
theorem vJ8_317 : SiteV RJ8 317 yJ8_fixAfterDeletion 7 1 := ⟨q1687, q1689, qs23, q103, ⟨_, _, ok_7.1⟩, mh_yJ8_fixAfterDeletion⟩
theorem iJ9_1 : SiteI RJ9 1 yJ0_init 0 := ⟨q303, q171, q95, rfl, ⟨_, _, q172⟩, mh_yJ0_init⟩
theorem gJ10_7 : SiteG RJ10 7 11 0 := ⟨_, _, _, _, ok_11, by decide, FLink.a q304⟩
theorem pJ10_7 : SiteP RJ10 7 11 0 (.object "java/util/NavigableMap") false := ⟨_, _, _, _, ok_11, by decide, FLink.a q304, rfl, rfl, (fun h => by cases h)⟩
theorem iJ10_15 : SiteI RJ10 15 yJ8_init 0 := ⟨q296, q258, q103, rfl, ⟨_, _, q259⟩, mh_yJ8_init⟩
theorem iJ10_16 : SiteI RJ10 16 yJ10_init_2 1 := ⟨q297, q298, q105, rfl, ⟨_, _, q299⟩, mh_yJ10_init_2⟩
theorem iJ10_1 : SiteI RJ10 1 yJ9_init 0 := ⟨q300, q301, q104, rfl, ⟨_, _, q302⟩, mh_yJ9_init⟩
theorem pJ11_7 : SiteP RJ11 7 13 0 (.int) false := ⟨_, _, _, _, ok_13, by decide, FLink.a q463, rfl, rfl, (fun h => by cases h)⟩
theorem iJ11_1 : SiteI RJ11 1 yJ0_init 0 := ⟨q458, q171, q95, rfl, ⟨_, _, q172⟩, mh_yJ0_init⟩
theorem gJ12_9 : SiteG RJ12 9 13 1 := ⟨_, _, _, _, ok_13, by decide, FLink.a q461⟩
theorem pJ12_9 : SiteP RJ12 9 13 1 (.array (.object "java/lang/Object")) false := ⟨_, _, _, _, ok_13, by decide, FLink.a q461, rfl, rfl, (fun h => by cases h)⟩
theorem gJ12_48 : SiteG RJ12 48 13 2 := ⟨_, _, _, _, ok_13, by decide, FLink.a q462⟩
theorem pJ12_48 : SiteP RJ12 48 13 2 (.int) false := ⟨_, _, _, _, ok_13, by decide, FLink.a q462, rfl, rfl, (fun h => by cases h)⟩
theorem gJ12_63 : SiteG RJ12 63 13 0 := ⟨_, _, _, _, ok_13, by decide, FLink.s q464 q465⟩
theorem pJ12_63 : SiteP RJ12 63 13 0 (.int) false := ⟨_, _, _, _, ok_13, by decide, FLink.s q464 q465, rfl, rfl, (fun h => by cases h)⟩
theorem iJ12_1 : SiteI RJ12 1 yJ11_init 0 := ⟨q455, q456, q108, rfl, ⟨_, _, q457⟩, mh_yJ11_init⟩
theorem sJ12_118 : SiteS RJ12 118 yJ20_checkIndex 2 := ⟨q1864, q1865, q118, mh_yJ20_checkIndex⟩
theorem vJ12_144 : SiteV RJ12 144 yJ12_fastRemove 13 2 := ⟨q1868, q1870, qs36, q109, ⟨_, _, ok_13.1⟩, mh_yJ12_fastRemove⟩
theorem vJ12_131 : SiteV RJ12 131 yJ12_add_2 13 3 := ⟨q1877, q1879, qs37, q109, ⟨_, _, ok_13.1⟩, mh_yJ12_add_2⟩
theorem vJ12_129 : SiteV RJ12 129 yJ12_grow 13 0 := ⟨q1881, q1883, qs38, q109, ⟨_, _, ok_13.1⟩, mh_yJ12_grow⟩
theorem vJ12_69 : SiteV RJ12 69 yJ12_grow_2 13 1 := ⟨q1885, q1887, qs39, q109, ⟨_, _, ok_13.1⟩, mh_yJ12_grow_2⟩
theorem sJ12_73 : SiteS RJ12 73 yJ30_newLength 3 := ⟨q1889, q571, q129, mh_yJ30_newLength⟩
theorem sJ12_66 : SiteS RJ12 66 yJ34_copyOf_2 2 := ⟨q1890, q1544, q134, mh_yJ34_copyOf_2⟩
theorem sJ12_79 : SiteS RJ12 79 yJ29_max 2 := ⟨q1891, q574, q128, mh_yJ29_max⟩
theorem vJ12_123 : SiteV RJ12 123 yJ12_elementData 13 1 := ⟨q1976, q1977, q1978, q109, ⟨_, _, ok_13.1⟩, mh_yJ12_elementData⟩
theorem gJ13_15 : SiteG RJ13 15 14 0 := ⟨_, _, _, _, ok_14, by decide, FLink.a q491⟩
theorem pJ13_15 : SiteP RJ13 15 14 0 (.array .byte) false := ⟨_, _, _, _, ok_14, by decide, FLink.a q491, rfl, rfl, (fun h => by cases h)⟩
theorem gJ13_22 : SiteG RJ13 22 14 1 := ⟨_, _, _, _, ok_14, by decide, FLink.a q492⟩
theorem pJ13_22 : SiteP RJ13 22 14 1 (.byte) false := ⟨_, _, _, _, ok_14, by decide, FLink.a q492, rfl, rfl, (fun h => by cases h)⟩
theorem pJ13_73 : SiteP RJ13 73 14 2 (.boolean) false := ⟨_, _, _, _, ok_14, by decide, FLink.a q493, rfl, rfl, (fun h => by cases h)⟩
theorem gJ13_79 : SiteG RJ13 79 14 3 := ⟨_, _, _, _, ok_14, by decide, FLink.a q495⟩
theorem pJ13_79 : SiteP RJ13 79 14 3 (.int) false := ⟨_, _, _, _, ok_14, by decide, FLink.a q495, rfl, rfl, (fun h => by cases h)⟩
theorem sJ13_138 : SiteS RJ13 138 yJ29_min 2 := ⟨q868, q592, q128, mh_yJ29_min⟩
theorem sJ13_144 : SiteS RJ13 144 yJ15_checkIndex 2 := ⟨q869, q870, q112, mh_yJ15_checkIndex⟩
theorem sJ13_191 : SiteS RJ13 191 yJ28_canEncode 1 := ⟨q2016, q2017, q127, mh_yJ28_canEncode⟩
theorem iJ14_1 : SiteI RJ14 1 yJ13_init 1 := ⟨q478, q479, q110, rfl, ⟨_, _, q480⟩, mh_yJ13_init⟩
theorem uJ14_343 : SiteSU RJ14 343 yJ13_length 14 0 := ⟨⟨_, _, _, ok_14.1⟩, q531, q2512, q504, q532, q110, by decide +kernel, mh_yJ13_length⟩
theorem uJ14_333 : SiteSU RJ14 333 yJ13_setLength 14 1 := ⟨⟨_, _, _, ok_14.1⟩, q538, q2513, q504, q539, q110, by decide +kernel, mh_yJ13_setLength⟩
theorem uJ14_329 : SiteSU RJ14 329 yJ13_charAt 14 1 := ⟨⟨_, _, _, ok_14.1⟩, q865, q2523, q504, q866, q110, by decide +kernel, mh_yJ13_charAt⟩
theorem vJ14_346 : SiteV RJ14 346 yJ14_compareTo_2 14 1 := ⟨q1332, q1333, q1334, q111, ⟨_, _, ok_14.1⟩, mh_yJ14_compareTo_2⟩
theorem uJ14_50 : SiteSU RJ14 50 yJ13_append_3 14 1 := ⟨⟨_, _, _, ok_14.1⟩, q2013, q2528, q504, q2014, q110, by decide +kernel, mh_yJ13_append_3⟩
theorem sJ15_1059 : SiteS RJ15 1059 yJ21_checkIndex 3 := ⟨q872, q873, q119, mh_yJ21_checkIndex⟩
theorem sJ20_105 : SiteS RJ20 105 yJ21_checkIndex 3 := ⟨q1867, q873, q119, mh_yJ21_checkIndex⟩
theorem gJ22_7 : SiteG RJ22 7 9 0 := ⟨_, _, _, _, ok_9, by decide, FLink.a q986⟩
theorem pJ22_7 : SiteP RJ22 7 9 0 (.object "java/util/NavigableMap") true := ⟨_, _, _, _, ok_9, by decide, FLink.a q986, rfl, rfl, (fun _ => rfl)⟩
theorem iJ22_1 : SiteI RJ22 1 yJ9_init 0 := ⟨q985, q301, q104, rfl, ⟨_, _, q302⟩, mh_yJ9_init⟩
theorem vJ22_15 : SiteV RJ22 15 yJ8_keyIterator 7 0 := ⟨q1033, q1034, q1035, q103, ⟨_, _, ok_7.1⟩, mh_yJ8_keyIterator⟩
theorem gJ23_26 : SiteG RJ23 26 10 0 := ⟨_, _, _, _, ok_10, by decide, FLink.a q1013⟩
theorem pJ23_26 : SiteP RJ23 26 10 0 (.object "java/util/TreeMap$Entry") false := ⟨_, _, _, _, ok_10, by decide, FLink.a q1013, rfl, rfl, (fun h => by cases h)⟩
theorem pJ23_22 : SiteP RJ23 22 10 1 (.object "java/util/TreeMap$Entry") false := ⟨_, _, _, _, ok_10, by decide, FLink.a q1014, rfl, rfl, (fun h => by cases h)⟩
theorem gJ23_19 : SiteG RJ23 19 10 2 := ⟨_, _, _, _, ok_10, by decide, FLink.a q1015⟩
theorem pJ23_19 : SiteP RJ23 19 10 2 (.int) false := ⟨_, _, _, _, ok_10, by decide, FLink.a q1015, rfl, rfl, (fun h => by cases h)⟩
theorem gJ23_1 : SiteG RJ23 1 10 3 := ⟨_, _, _, _, ok_10, by decide, FLink.a q1016⟩
theorem pJ23_1 : SiteP RJ23 1 10 3 (.object "java/util/TreeMap") true := ⟨_, _, _, _, ok_10, by decide, FLink.a q1016, rfl, rfl, (fun _ => rfl)⟩
theorem gJ23_13 : SiteG RJ23 13 7 5 := ⟨_, _, _, _, ok_7, by decide, FLink.n q268⟩
theorem sJ23_35 : SiteS RJ23 35 yJ8_successor 1 := ⟨q1106, q1107, q103, mh_yJ8_successor⟩
theorem gJ25_13 : SiteG RJ25 13 8 0 := ⟨_, _, _, _, ok_8, by decide, FLink.a q1380⟩
theorem iJ25_1 : SiteI RJ25 1 yJ23_init 2 := ⟨q1043, q1010, q122, rfl, ⟨_, _, q1011⟩, mh_yJ23_init⟩
theorem gJ27_205 : SiteG RJ27 205 15 0 := ⟨_, _, _, _, ok_15, by decide, FLink.a q1483⟩
theorem pJ27_205 : SiteP RJ27 205 15 0 (.int) true := ⟨_, _, _, _, ok_15, by decide, FLink.a q1483, rfl, rfl, (fun _ => rfl)⟩
theorem vJ27_284 : SiteV RJ27 284 yJ27_compareTo_2 15 1 := ⟨q1171, q1172, q1173, q126, ⟨_, _, ok_15.1⟩, mh_yJ27_compareTo_2⟩
theorem sJ27_259 : SiteS RJ27 259 yJ27_compare 2 := ⟨q1175, q1176, q126, mh_yJ27_compare⟩
theorem iJ27_199 : SiteI RJ27 199 yJ27_init 1 := ⟨q1476, q1477, q126, rfl, ⟨_, _, q1478⟩, mh_yJ27_init⟩
theorem iJ27_202 : SiteI RJ27 202 yJ26_init 0 := ⟨q1479, q1480, q125, rfl, ⟨_, _, q1481⟩, mh_yJ26_init⟩
theorem sJ30_194 : SiteS RJ30 194 yJ29_max 2 := ⟨q573, q574, q128, mh_yJ29_max⟩
theorem pJ33_15 : SiteP RJ33 15 8 0 (.object "java/lang/Object") false := ⟨_, _, _, _, ok_8, by decide, FLink.a q1379, rfl, rfl, (fun h => by cases h)⟩
theorem pJ33_19 : SiteP RJ33 19 8 1 (.object "java/lang/Object") false := ⟨_, _, _, _, ok_8, by decide, FLink.a q1382, rfl, rfl, (fun h => by cases h)⟩
theorem pJ33_22 : SiteP RJ33 22 8 4 (.object "java/util/TreeMap$Entry") false := ⟨_, _, _, _, ok_8, by decide, FLink.a q1386, rfl, rfl, (fun h => by cases h)⟩
theorem pJ33_9 : SiteP RJ33 9 8 5 (.boolean) false := ⟨_, _, _, _, ok_8, by decide, FLink.a q1388, rfl, rfl, (fun h => by cases h)⟩
theorem sJ34_304 : SiteS RJ34 304 yJ29_min 2 := ⟨q591, q592, q128, mh_yJ29_min⟩
theorem iJ34_47 : SiteI RJ34 47 yJ14_init_2 0 := ⟨q727, q548, q111, rfl, ⟨_, _, q549⟩, mh_yJ14_init_2⟩
theorem vJ34_54 : SiteV RJ34 54 yJ14_append_2 14 1 := ⟨q728, q672, q673, q111, ⟨_, _, ok_14.1⟩, mh_yJ14_append_2⟩
theorem vJ34_50 : SiteV RJ34 50 yJ14_append 14 1 := ⟨q730, q552, q553, q111, ⟨_, _, ok_14.1⟩, mh_yJ14_append⟩
theorem vJ34_61 : SiteV RJ34 61 yJ14_toString 14 0 := ⟨q731, q697, q698, q111, ⟨_, _, ok_14.1⟩, mh_yJ14_toString⟩
theorem iJ34_65 : SiteI RJ34 65 yJ6_init_2 1 := ⟨q732, q733, q101, rfl, ⟨_, _, q734⟩, mh_yJ6_init_2⟩
theorem sJ34_13 : SiteS RJ34 13 yJ34_rangeCheck 3 := ⟨q785, q786, q134, mh_yJ34_rangeCheck⟩
theorem sJ34_300 : SiteS RJ34 300 yJ34_copyOf_3 3 := ⟨q1575, q1576, q134, mh_yJ34_copyOf_3⟩
theorem sJ37_122 : SiteS RJ37 122 yJ37_isNaN 1 := ⟨q1794, q1795, q140, mh_yJ37_isNaN⟩
theorem wJ13_83_14 : SiteU RJ13 83 ⟨"java/lang/AbstractStringBuilder", "isLatin1", "()Z"⟩ yJ13_isLatin1 "java/lang/AbstractStringBuilder" 14 0 := ⟨_, _, _, ok_14.1, q597, q599, q600, q598, q110, Or.inr ⟨q598, _, _, _, q601⟩, by decide +kernel, ⟨by decide +kernel, by decide +kernel⟩⟩
theorem fxX2_63_9 : SiteF RX2 63 ⟨"java/util/Set", "iterator", "()Ljava/util/Iterator;"⟩ yJ22_iterator 9 0 := ⟨_, _, _, ok_9.1, q991, q1027, q1029, q121, q993, q992, q1030, q1028, q1026, ⟨by decide +kernel, by decide +kernel⟩⟩
theorem fxX1_299_9 : SiteF RX1 299 ⟨"java/util/Set", "iterator", "()Ljava/util/Iterator;"⟩ yJ22_iterator 9 0 := ⟨_, _, _, ok_9.1, q1724, q1027, q1029, q121, q993, q992, q1030, q1028, q1026, ⟨by decide +kernel, by decide +kernel⟩⟩
theorem fxX2_63_11 : SiteF RX2 63 ⟨"java/util/Set", "iterator", "()Ljava/util/Iterator;"⟩ yJ10_iterator 11 0 := ⟨_, _, _, ok_11.1, q991, q1054, q1056, q105, q993, q992, q1057, q1055, q1053, ⟨by decide +kernel, by decide +kernel⟩⟩
theorem fxX1_299_11 : SiteF RX1 299 ⟨"java/util/Set", "iterator", "()Ljava/util/Iterator;"⟩ yJ10_iterator 11 0 := ⟨_, _, _, ok_11.1, q1724, q1054, q1056, q105, q993, q992, q1057, q1055, q1053, ⟨by decide +kernel, by decide +kernel⟩⟩
theorem fxJ10_34_7 : SiteF RJ10 34 ⟨"java/util/NavigableMap", "navigableKeySet", "()Ljava/util/NavigableSet;"⟩ yJ8_navigableKeySet 7 0 := ⟨_, _, _, ok_7.1, q1060, q1063, q977, q103, q1062, q1061, q1065, q1064, q936, ⟨by decide +kernel, by decide +kernel⟩⟩
theorem fxJ10_40_9 : SiteF RJ10 40 ⟨"java/util/NavigableSet", "iterator", "()Ljava/util/Iterator;"⟩ yJ22_iterator 9 0 := ⟨_, _, _, ok_9.1, q1067, q1071, q1029, q121, q1069, q1068, q1030, q1028, q1070, ⟨by decide +kernel, by decide +kernel⟩⟩
theorem fxJ10_40_11 : SiteF RJ10 40 ⟨"java/util/NavigableSet", "iterator", "()Ljava/util/Iterator;"⟩ yJ10_iterator 11 0 := ⟨_, _, _, ok_11.1, q1067, q1073, q1056, q105, q1069, q1068, q1057, q1055, q1072, ⟨by decide +kernel, by decide +kernel⟩⟩
theorem fxX2_69_10 : SiteF RX2 69 ⟨"java/util/Iterator", "hasNext", "()Z"⟩ yJ23_hasNext 10 0 := ⟨_, _, _, ok_10.1, q1075, q1085, q1081, q122, q1077, q1076, q1082, q1086, q1084, ⟨by decide +kernel, by decide +kernel⟩⟩
theorem fxX1_171_10 : SiteF RX1 171 ⟨"java/util/Iterator", "hasNext", "()Z"⟩ yJ23_hasNext 10 0 := ⟨_, _, _, ok_10.1, q1726, q1085, q1081, q122, q1077, q1076, q1082, q1086, q1084, ⟨by decide +kernel, by decide +kernel⟩⟩
theorem fxX2_75_10 : SiteF RX2 75 ⟨"java/util/Iterator", "next", "()Ljava/lang/Object;"⟩ yJ25_next 10 0 := ⟨_, _, _, ok_10.1, q1088, q1109, q1111, q124, q1090, q1089, q1112, q1110, q1084, ⟨by decide +kernel, by decide +kernel⟩⟩
theorem fxX1_177_10 : SiteF RX1 177 ⟨"java/util/Iterator", "next", "()Ljava/lang/Object;"⟩ yJ25_next 10 0 := ⟨_, _, _, ok_10.1, q1728, q1109, q1111, q124, q1090, q1089, q1112, q1110, q1084, ⟨by decide +kernel, by decide +kernel⟩⟩
theorem wJ25_7_10 : SiteU RJ25 7 ⟨"java/util/TreeMap$KeyIterator", "nextEntry", "()Ljava/util/TreeMap$Entry;"⟩ yJ23_nextEntry "java/util/TreeMap$PrivateEntryIterator" 10 0 := ⟨_, _, _, ok_10.1, q1114, q1115, q1116, q1104, q122, Or.inr ⟨q1104, _, _, _, q1105⟩, by decide +kernel, ⟨by decide +kernel, by decide +kernel⟩⟩
theorem fxJ8_107_3 : SiteF RJ8 107 ⟨"java/lang/Comparable", "compareTo", "(Ljava/lang/Object;)I"⟩ yX4_compareTo 3 1 := ⟨_, _, _, ok_3.1, q1139, q1143, q1145, q107, q1141, q1140, q1146, q1144, q1142, ⟨by decide +kernel, by decide +kernel⟩⟩
theorem fxJ2_146_3 : SiteF RJ2 146 ⟨"java/lang/Comparable", "compareTo", "(Ljava/lang/Object;)I"⟩ yX4_compareTo 3 1 := ⟨_, _, _, ok_3.1, q1594, q1143, q1145, q107, q1141, q1140, q1146, q1144, q1142, ⟨by decide +kernel, by decide +kernel⟩⟩
theorem fxJ8_107_4 : SiteF RJ8 107 ⟨"java/lang/Comparable", "compareTo", "(Ljava/lang/Object;)I"⟩ yX6_compareTo 4 1 := ⟨_, _, _, ok_4.1, q1139, q1154, q1156, q136, q1141, q1140, q1157, q1155, q1153, ⟨by decide +kernel, by decide +kernel⟩⟩
theorem fxJ2_146_4 : SiteF RJ2 146 ⟨"java/lang/Comparable", "compareTo", "(Ljava/lang/Object;)I"⟩ yX6_compareTo 4 1 := ⟨_, _, _, ok_4.1, q1594, q1154, q1156, q136, q1141, q1140, q1157, q1155, q1153, ⟨by decide +kernel, by decide +kernel⟩⟩
theorem fxJ8_107_15 : SiteF RJ8 107 ⟨"java/lang/Comparable", "compareTo", "(Ljava/lang/Object;)I"⟩ yJ27_compareTo 15 1 := ⟨_, _, _, ok_15.1, q1139, q1165, q1167, q126, q1141, q1140, q1168, q1166, q1164, ⟨by decide +kernel, by decide +kernel⟩⟩
theorem fxJ2_146_15 : SiteF RJ2 146 ⟨"java/lang/Comparable", "compareTo", "(Ljava/lang/Object;)I"⟩ yJ27_compareTo 15 1 := ⟨_, _, _, ok_15.1, q1594, q1165, q1167, q126, q1141, q1140, q1168, q1166, q1164, ⟨by decide +kernel, by decide +kernel⟩⟩
theorem fxJ8_107_14 : SiteF RJ8 107 ⟨"java/lang/Comparable", "compareTo", "(Ljava/lang/Object;)I"⟩ yJ14_compareTo 14 1 := ⟨_, _, _, ok_14.1, q1139, q1326, q1328, q111, q1141, q1140, q1329, q1327, q1325, ⟨by decide +kernel, by decide +kernel⟩⟩
theorem fxJ2_146_14 : SiteF RJ2 146 ⟨"java/lang/Comparable", "compareTo", "(Ljava/lang/Object;)I"⟩ yJ14_compareTo 14 1 := ⟨_, _, _, ok_14.1, q1594, q1326, q1328, q111, q1141, q1140, q1329, q1327, q1325, ⟨by decide +kernel, by decide +kernel⟩⟩
theorem wX2_183_12 : SiteU RX2 183 ⟨"java/util/PriorityQueue", "isEmpty", "()Z"⟩ yJ0_isEmpty "java/util/AbstractCollection" 12 0 := ⟨_, _, _, ok_12.1, q1595, q1596, q1598, q1599, q95, Or.inr ⟨q1599, _, _, _, q1600⟩, by decide +kernel, ⟨by decide +kernel, by decide +kernel⟩⟩
theorem wJ0_7_13 : SiteU RJ0 7 ⟨"java/util/AbstractCollection", "size", "()I"⟩ yJ12_size "java/util/AbstractCollection" 13 0 := ⟨_, _, _, ok_13.1, q1601, q1603, q1604, q943, q109, Or.inl q1602, by decide +kernel, ⟨by decide +kernel, by decide +kernel⟩⟩
theorem wJ0_7_12 : SiteU RJ0 7 ⟨"java/util/AbstractCollection", "size", "()I"⟩ yJ2_size "java/util/AbstractCollection" 12 0 := ⟨_, _, _, ok_12.1, q1601, q1603, q1605, q1606, q97, Or.inl q1602, by decide +kernel, ⟨by decide +kernel, by decide +kernel⟩⟩
theorem wJ0_7_9 : SiteU RJ0 7 ⟨"java/util/AbstractCollection", "size", "()I"⟩ yJ22_size "java/util/AbstractCollection" 9 0 := ⟨_, _, _, ok_9.1, q1601, q1603, q1612, q1613, q121, Or.inl q1602, by decide +kernel, ⟨by decide +kernel, by decide +kernel⟩⟩
theorem wJ0_7_11 : SiteU RJ0 7 ⟨"java/util/AbstractCollection", "size", "()I"⟩ yJ10_size "java/util/AbstractCollection" 11 0 := ⟨_, _, _, ok_11.1, q1601, q1603, q1616, q930, q105, Or.inl q1602, by decide +kernel, ⟨by decide +kernel, by decide +kernel⟩⟩
theorem wJ7_19_7 : SiteU RJ7 19 ⟨"java/util/AbstractMap", "size", "()I"⟩ yJ8_size "java/util/AbstractMap" 7 0 := ⟨_, _, _, ok_7.1, q1650, q1652, q1653, q939, q103, Or.inl q1654, by decide +kernel, ⟨by decide +kernel, by decide +kernel⟩⟩
theorem pn_X1 : plainName RX1 = true := by decide +kernel
abbrev mX1_init : Mth := (yX1_init, cX1_init, 1, none, [])
abbrev mX1_clearBuffer : Mth := (yX1_clearBuffer, cX1_clearBuffer, 2, some .int, [])
abbrev mX1_firstError : Mth := (yX1_firstError, cX1_firstError, 2, some .int, [])
abbrev mX1_in : Mth := (yX1_in, cX1_in, 3, some .boolean, [])
abbrev mX1_isPlace : Mth := (yX1_isPlace, cX1_isPlace, 1, some .boolean, [])
abbrev mX1_fed : Mth := (yX1_fed, cX1_fed, 1, some .double, [])
abbrev mX1_fedTold : Mth := (yX1_fedTold, cX1_fedTold, 1, some .double, [])
abbrev mX1_digest : Mth := (yX1_digest, cX1_digest, 3, some .long, [])
abbrev mX1_countTold : Mth := (yX1_countTold, cX1_countTold, 2, some .int, [])
abbrev mX1_mix : Mth := (yX1_mix, cX1_mix, 3, none, [])
abbrev mX1_fountainTold : Mth := (yX1_fountainTold, cX1_fountainTold, 4, some .int, [])
abbrev mX1_daysTold : Mth := (yX1_daysTold, cX1_daysTold, 3, some .int, [])
abbrev mX1_mixRows : Mth := (yX1_mixRows, cX1_mixRows, 2, none, [])
abbrev mX1_jobTold : Mth := (yX1_jobTold, cX1_jobTold, 4, some .int, [])
abbrev mX1_frostTold : Mth := (yX1_frostTold, cX1_frostTold, 6, some .int, [])
abbrev mX1_outingTold : Mth := (yX1_outingTold, cX1_outingTold, 6, some .int, [])
abbrev mX1_mixTries : Mth := (yX1_mixTries, cX1_mixTries, 2, none, [])
abbrev mX1_passedTold : Mth := (yX1_passedTold, cX1_passedTold, 4, some .int, [])
abbrev mX1_outingMore : Mth := (yX1_outingMore, cX1_outingMore, 4, some .int, [])
abbrev mX1_gateTold : Mth := (yX1_gateTold, cX1_gateTold, 6, some .int, [])
abbrev mX1_orderTold : Mth := (yX1_orderTold, cX1_orderTold, 8, some .int, [])
abbrev mX1_build : Mth := (yX1_build, cX1_build, 5, some .int, [])
abbrev mX1_needIndex : Mth := (yX1_needIndex, cX1_needIndex, 1, none, [])
abbrev mX1_need : Mth := (yX1_need, cX1_need, 1, none, [])
abbrev mX1_needState : Mth := (yX1_needState, cX1_needState, 1, none, [])
abbrev mX1_save : Mth := (yX1_save, cX1_save, 2, none, [])
abbrev mX1_remove : Mth := (yX1_remove, cX1_remove, 4, some .int, [])
abbrev mX1_there : Mth := (yX1_there, cX1_there, 2, some (.object "FountainPark$Fountain"), [])
abbrev mX1_drain : Mth := (yX1_drain, cX1_drain, 5, some .int, [])
abbrev mX1_heat : Mth := (yX1_heat, cX1_heat, 5, some .int, [])
abbrev mX1_frost : Mth := (yX1_frost, cX1_frost, 3, some .int, [])
abbrev mX1_thaw : Mth := (yX1_thaw, cX1_thaw, 3, some .int, [])
abbrev mX1_plan : Mth := (yX1_plan, cX1_plan, 4, some .int, [])
abbrev mX1_areChildren : Mth := (yX1_areChildren, cX1_areChildren, 1, some .boolean, [])
abbrev mX1_callOff : Mth := (yX1_callOff, cX1_callOff, 6, some .int, [])
abbrev mX1_set : Mth := (yX1_set, cX1_set, 4, some .int, [])
abbrev mX1_isSetting : Mth := (yX1_isSetting, cX1_isSetting, 1, some .boolean, [])
abbrev mX1_pass : Mth := (yX1_pass, cX1_pass, 2, some .int, [])
abbrev mX1_append : Mth := (yX1_append, cX1_append, 2, some .int, [])
abbrev mX1_planAll : Mth := (yX1_planAll, cX1_planAll, 4, some .int, [])
abbrev mX1_undo : Mth := (yX1_undo, cX1_undo, 1, some .int, [])
abbrev mX1_fountain : Mth := (yX1_fountain, cX1_fountain, 3, some .int, [])
abbrev mX1_job : Mth := (yX1_job, cX1_job, 3, some .int, [])
abbrev mX1_frostOf : Mth := (yX1_frostOf, cX1_frostOf, 3, some .int, [])
abbrev mX1_outing : Mth := (yX1_outing, cX1_outing, 3, some .int, [])
abbrev mX1_count : Mth := (yX1_count, cX1_count, 2, some .int, [])
abbrev mX1_setting : Mth := (yX1_setting, cX1_setting, 2, some .int, [])
abbrev mX1_ifPassed : Mth := (yX1_ifPassed, cX1_ifPassed, 3, some .int, [])
abbrev mX1_ifOuting : Mth := (yX1_ifOuting, cX1_ifOuting, 3, some .int, [])
abbrev mX1_bestGate : Mth := (yX1_bestGate, cX1_bestGate, 2, some .int, [])
abbrev mX1_daysToFilter : Mth := (yX1_daysToFilter, cX1_daysToFilter, 2, some .int, [])
abbrev mX1_bestOrder : Mth := (yX1_bestOrder, cX1_bestOrder, 2, some .int, [])
theorem pn_X2 : plainName RX2 = true := by decide +kernel
abbrev mX2_init : Mth := (yX2_init, cX2_init, 2, none, [])
abbrev mX2_many : Mth := (yX2_many, cX2_many, 4, some .int, [])
abbrev mX2_why : Mth := (yX2_why, cX2_why, 3, some .int, [])
abbrev mX2_jobs : Mth := (yX2_jobs, cX2_jobs, 6, some .int, [])
abbrev mX2_become : Mth := (yX2_become, cX2_become, 4, none, [])
abbrev mX2_pass : Mth := (yX2_pass, cX2_pass, 5, none, [])
abbrev mX2_lookOut : Mth := (yX2_lookOut, cX2_lookOut, 2, none, [])
abbrev mX2_freeze : Mth := (yX2_freeze, cX2_freeze, 5, none, [])
abbrev mX2_work : Mth := (yX2_work, cX2_work, 5, none, [])
abbrev mX2_layJobs : Mth := (yX2_layJobs, cX2_layJobs, 6, none, [])
abbrev mX2_serveAll : Mth := (yX2_serveAll, cX2_serveAll, 2, none, [])
abbrev mX2_serve : Mth := (yX2_serve, cX2_serve, 4, none, [])
abbrev mX2_give : Mth := (yX2_give, cX2_give, 4, some .int, [])
abbrev mX2_pass_2 : Mth := (yX2_pass_2, cX2_pass_2, 4, some .int, [])
abbrev mX2_plan : Mth := (yX2_plan, cX2_plan, 4, none, [])
abbrev mX2_meets : Mth := (yX2_meets, cX2_meets, 4, some .boolean, [])
theorem pn_X3 : plainName RX3 = true := by decide +kernel
abbrev mX3_init : Mth := (yX3_init, cX3_init, 1, none, [])
abbrev mX3_isUsedUp : Mth := (yX3_isUsedUp, cX3_isUsedUp, 1, some .boolean, [])
abbrev mX3_jobs : Mth := (yX3_jobs, cX3_jobs, 1, some .int, [])
abbrev mX3_become : Mth := (yX3_become, cX3_become, 3, none, [])
abbrev mX3_burst : Mth := (yX3_burst, cX3_burst, 2, none, [])
abbrev mX3_report : Mth := (yX3_report, cX3_report, 3, none, [])
abbrev mX3_done : Mth := (yX3_done, cX3_done, 2, none, [])
abbrev mX3_give : Mth := (yX3_give, cX3_give, 4, some .int, [])
abbrev mX3_build : Mth := (yX3_build, cX3_build, 4, none, [])
theorem pn_X4 : plainName RX4 = true := by decide +kernel
abbrev mX4_init : Mth := (yX4_init, cX4_init, 3, none, [])
abbrev mX4_compareTo : Mth := (yX4_compareTo, cX4_compareTo, 2, some .int, [])
abbrev mX4_compareTo_2 : Mth := (yX4_compareTo_2, cX4_compareTo_2, 3, some .int, [])
abbrev mX4_lay : Mth := (yX4_lay, cX4_lay, 3, some (.object "FountainPark$Job"), [])
theorem pn_X6 : plainName RX6 = true := by decide +kernel
abbrev mX6_compareTo : Mth := (yX6_compareTo, cX6_compareTo, 2, some .int, [])
abbrev mX6_compareTo_2 : Mth := (yX6_compareTo_2, cX6_compareTo_2, 3, some .int, [])
abbrev mX6_init : Mth := (yX6_init, cX6_init, 5, none, [])
theorem pn_X7 : plainName RX7 = true := by decide +kernel
abbrev mX7_init : Mth := (yX7_init, cX7_init, 2, none, [])
abbrev mX7_areOutings : Mth := (yX7_areOutings, cX7_areOutings, 2, some .boolean, [])
abbrev mX7_part : Mth := (yX7_part, cX7_part, 3, some .boolean, [])
abbrev mX7_number : Mth := (yX7_number, cX7_number, 4, some .int, [])
abbrev mX7_next : Mth := (yX7_next, cX7_next, 1, some .int, [])
abbrev mX7_takes : Mth := (yX7_takes, cX7_takes, 3, some .boolean, [])
abbrev mX7_group : Mth := (yX7_group, cX7_group, 4, some .boolean, [])
theorem pn_J0 : plainName RJ0 = true := by decide +kernel
abbrev mJ0_init : Mth := (yJ0_init, cJ0_init, 1, none, [])
abbrev mJ0_isEmpty : Mth := (yJ0_isEmpty, cJ0_isEmpty, 1, some .boolean, [])
theorem pn_J1 : plainName RJ1 = true := by decide +kernel
abbrev mJ1_init : Mth := (yJ1_init, cJ1_init, 1, none, [])
theorem pn_J2 : plainName RJ2 = true := by decide +kernel
abbrev mJ2_init : Mth := (yJ2_init, cJ2_init, 1, none, [])
abbrev mJ2_init_2 : Mth := (yJ2_init_2, cJ2_init_2, 3, none, [])
abbrev mJ2_clear : Mth := (yJ2_clear, cJ2_clear, 4, none, [])
abbrev mJ2_add : Mth := (yJ2_add, cJ2_add, 2, some .boolean, [])
abbrev mJ2_offer : Mth := (yJ2_offer, cJ2_offer, 3, some .boolean, [])
abbrev mJ2_grow : Mth := (yJ2_grow, cJ2_grow, 4, none, [])
abbrev mJ2_siftUp : Mth := (yJ2_siftUp, cJ2_siftUp, 3, none, [])
abbrev mJ2_siftUpUsingComparator : Mth := (yJ2_siftUpUsingComparator, cJ2_siftUpUsingComparator, 6, none, [])
abbrev mJ2_siftUpComparable : Mth := (yJ2_siftUpComparable, cJ2_siftUpComparable, 6, none, [])
abbrev mJ2_size : Mth := (yJ2_size, cJ2_size, 1, some .int, [])
abbrev mJ2_poll : Mth := (yJ2_poll, cJ2_poll, 6, some (.object "java/lang/Object"), [])
abbrev mJ2_siftDownComparable : Mth := (yJ2_siftDownComparable, cJ2_siftDownComparable, 9, none, [])
abbrev mJ2_siftDownUsingComparator : Mth := (yJ2_siftDownUsingComparator, cJ2_siftDownUsingComparator, 9, none, [])
theorem pn_J7 : plainName RJ7 = true := by decide +kernel
abbrev mJ7_init : Mth := (yJ7_init, cJ7_init, 1, none, [])
abbrev mJ7_isEmpty : Mth := (yJ7_isEmpty, cJ7_isEmpty, 1, some .boolean, [])
theorem pn_J8 : plainName RJ8 = true := by decide +kernel
abbrev mJ8_init : Mth := (yJ8_init, cJ8_init, 1, none, [])
abbrev mJ8_size : Mth := (yJ8_size, cJ8_size, 1, some .int, [])
abbrev mJ8_clear : Mth := (yJ8_clear, cJ8_clear, 1, none, [])
abbrev mJ8_keySet : Mth := (yJ8_keySet, cJ8_keySet, 1, some (.object "java/util/Set"), [])
abbrev mJ8_navigableKeySet : Mth := (yJ8_navigableKeySet, cJ8_navigableKeySet, 2, some (.object "java/util/NavigableSet"), [])
abbrev mJ8_getFirstEntry : Mth := (yJ8_getFirstEntry, cJ8_getFirstEntry, 2, some (.object "java/util/TreeMap$Entry"), [])
abbrev mJ8_keyIterator : Mth := (yJ8_keyIterator, cJ8_keyIterator, 1, some (.object "java/util/Iterator"), [])
abbrev mJ8_successor : Mth := (yJ8_successor, cJ8_successor, 3, some (.object "java/util/TreeMap$Entry"), [])
abbrev mJ8_get : Mth := (yJ8_get, cJ8_get, 3, some (.object "java/lang/Object"), [])
abbrev mJ8_getEntry : Mth := (yJ8_getEntry, cJ8_getEntry, 5, some (.object "java/util/TreeMap$Entry"), [])
abbrev mJ8_getEntryUsingComparator : Mth := (yJ8_getEntryUsingComparator, cJ8_getEntryUsingComparator, 6, some (.object "java/util/TreeMap$Entry"), [])
abbrev mJ8_put : Mth := (yJ8_put, cJ8_put, 3, some (.object "java/lang/Object"), [])
abbrev mJ8_put_2 : Mth := (yJ8_put_2, cJ8_put_2, 10, some (.object "java/lang/Object"), [])
abbrev mJ8_addEntryToEmptyMap : Mth := (yJ8_addEntryToEmptyMap, cJ8_addEntryToEmptyMap, 3, none, [])
abbrev mJ8_compare : Mth := (yJ8_compare, cJ8_compare, 3, some .int, [])
abbrev mJ8_addEntry : Mth := (yJ8_addEntry, cJ8_addEntry, 6, none, [])
abbrev mJ8_fixAfterInsertion : Mth := (yJ8_fixAfterInsertion, cJ8_fixAfterInsertion, 3, none, [])
abbrev mJ8_parentOf : Mth := (yJ8_parentOf, cJ8_parentOf, 1, some (.object "java/util/TreeMap$Entry"), [])
abbrev mJ8_leftOf : Mth := (yJ8_leftOf, cJ8_leftOf, 1, some (.object "java/util/TreeMap$Entry"), [])
abbrev mJ8_rightOf : Mth := (yJ8_rightOf, cJ8_rightOf, 1, some (.object "java/util/TreeMap$Entry"), [])
abbrev mJ8_colorOf : Mth := (yJ8_colorOf, cJ8_colorOf, 1, some .boolean, [])
abbrev mJ8_setColor : Mth := (yJ8_setColor, cJ8_setColor, 2, none, [])
abbrev mJ8_rotateLeft : Mth := (yJ8_rotateLeft, cJ8_rotateLeft, 3, none, [])
abbrev mJ8_rotateRight : Mth := (yJ8_rotateRight, cJ8_rotateRight, 3, none, [])
abbrev mJ8_floorKey : Mth := (yJ8_floorKey, cJ8_floorKey, 2, some (.object "java/lang/Object"), [])
abbrev mJ8_getFloorEntry : Mth := (yJ8_getFloorEntry, cJ8_getFloorEntry, 6, some (.object "java/util/TreeMap$Entry"), [])
abbrev mJ8_keyOrNull : Mth := (yJ8_keyOrNull, cJ8_keyOrNull, 1, some (.object "java/lang/Object"), [])
abbrev mJ8_firstKey : Mth := (yJ8_firstKey, cJ8_firstKey, 1, some (.object "java/lang/Object"), [])
abbrev mJ8_key : Mth := (yJ8_key, cJ8_key, 1, some (.object "java/lang/Object"), [])
abbrev mJ8_remove : Mth := (yJ8_remove, cJ8_remove, 4, some (.object "java/lang/Object"), [])
abbrev mJ8_deleteEntry : Mth := (yJ8_deleteEntry, cJ8_deleteEntry, 3, none, [])
abbrev mJ8_fixAfterDeletion : Mth := (yJ8_fixAfterDeletion, cJ8_fixAfterDeletion, 3, none, [])
abbrev mJ8_containsKey : Mth := (yJ8_containsKey, cJ8_containsKey, 2, some .boolean, [])
theorem pn_J9 : plainName RJ9 = true := by decide +kernel
abbrev mJ9_init : Mth := (yJ9_init, cJ9_init, 1, none, [])
theorem pn_J10 : plainName RJ10 = true := by decide +kernel
abbrev mJ10_init : Mth := (yJ10_init, cJ10_init, 1, none, [])
abbrev mJ10_init_2 : Mth := (yJ10_init_2, cJ10_init_2, 2, none, [])
abbrev mJ10_size : Mth := (yJ10_size, cJ10_size, 1, some .int, [])
abbrev mJ10_iterator : Mth := (yJ10_iterator, cJ10_iterator, 1, some (.object "java/util/Iterator"), [])
abbrev mJ10_clear : Mth := (yJ10_clear, cJ10_clear, 1, none, [])
abbrev mJ10_add : Mth := (yJ10_add, cJ10_add, 2, some .boolean, [])
abbrev mJ10_isEmpty : Mth := (yJ10_isEmpty, cJ10_isEmpty, 1, some .boolean, [])
abbrev mJ10_first : Mth := (yJ10_first, cJ10_first, 1, some (.object "java/lang/Object"), [])
abbrev mJ10_remove : Mth := (yJ10_remove, cJ10_remove, 2, some .boolean, [])
theorem pn_J11 : plainName RJ11 = true := by decide +kernel
abbrev mJ11_init : Mth := (yJ11_init, cJ11_init, 1, none, [])
theorem pn_J12 : plainName RJ12 = true := by decide +kernel
abbrev mJ12_init : Mth := (yJ12_init, cJ12_init, 1, none, [])
abbrev mJ12_size : Mth := (yJ12_size, cJ12_size, 1, some .int, [])
abbrev mJ12_remove : Mth := (yJ12_remove, cJ12_remove, 4, some (.object "java/lang/Object"), [])
abbrev mJ12_fastRemove : Mth := (yJ12_fastRemove, cJ12_fastRemove, 4, none, [])
abbrev mJ12_add : Mth := (yJ12_add, cJ12_add, 2, some .boolean, [])
abbrev mJ12_add_2 : Mth := (yJ12_add_2, cJ12_add_2, 4, none, [])
abbrev mJ12_grow : Mth := (yJ12_grow, cJ12_grow, 1, some (.array (.object "java/lang/Object")), [])
abbrev mJ12_grow_2 : Mth := (yJ12_grow_2, cJ12_grow_2, 4, some (.array (.object "java/lang/Object")), [])
abbrev mJ12_get : Mth := (yJ12_get, cJ12_get, 2, some (.object "java/lang/Object"), [])
abbrev mJ12_elementData : Mth := (yJ12_elementData, cJ12_elementData, 2, some (.object "java/lang/Object"), [])
abbrev mJ12_isEmpty : Mth := (yJ12_isEmpty, cJ12_isEmpty, 1, some .boolean, [])
theorem pn_J13 : plainName RJ13 = true := by decide +kernel
abbrev mJ13_init : Mth := (yJ13_init, cJ13_init, 2, none, [])
abbrev mJ13_length : Mth := (yJ13_length, cJ13_length, 1, some .int, [])
abbrev mJ13_setLength : Mth := (yJ13_setLength, cJ13_setLength, 2, none, [])
abbrev mJ13_ensureCapacityInternal : Mth := (yJ13_ensureCapacityInternal, cJ13_ensureCapacityInternal, 3, none, [])
abbrev mJ13_isLatin1 : Mth := (yJ13_isLatin1, cJ13_isLatin1, 1, some .boolean, [])
abbrev mJ13_charAt : Mth := (yJ13_charAt, cJ13_charAt, 5, some .char, [])
abbrev mJ13_append_3 : Mth := (yJ13_append_3, cJ13_append_3, 2, some (.object "java/lang/AbstractStringBuilder"), [])
theorem pn_J14 : plainName RJ14 = true := by decide +kernel
abbrev mJ14_init : Mth := (yJ14_init, cJ14_init, 2, none, [])
abbrev mJ14_length : Mth := (yJ14_length, cJ14_length, 1, some .int, [])
abbrev mJ14_setLength : Mth := (yJ14_setLength, cJ14_setLength, 2, none, [])
abbrev mJ14_init_2 : Mth := (yJ14_init_2, cJ14_init_2, 1, none, [])
abbrev mJ14_append : Mth := (yJ14_append, cJ14_append, 2, some (.object "java/lang/StringBuilder"), [])
abbrev mJ14_append_2 : Mth := (yJ14_append_2, cJ14_append_2, 2, some (.object "java/lang/StringBuilder"), [])
abbrev mJ14_toString : Mth := (yJ14_toString, cJ14_toString, 1, some (.object "java/lang/String"), [])
abbrev mJ14_charAt : Mth := (yJ14_charAt, cJ14_charAt, 2, some .char, [])
abbrev mJ14_compareTo : Mth := (yJ14_compareTo, cJ14_compareTo, 2, some .int, [])
abbrev mJ14_compareTo_2 : Mth := (yJ14_compareTo_2, cJ14_compareTo_2, 2, some .int, [])
abbrev mJ14_append_3 : Mth := (yJ14_append_3, cJ14_append_3, 2, some (.object "java/lang/StringBuilder"), [])
theorem pn_J15 : plainName RJ15 = true := by decide +kernel
abbrev mJ15_checkIndex : Mth := (yJ15_checkIndex, cJ15_checkIndex, 2, none, [])
theorem pn_J20 : plainName RJ20 = true := by decide +kernel
abbrev mJ20_requireNonNull : Mth := (yJ20_requireNonNull, cJ20_requireNonNull, 1, some (.object "java/lang/Object"), [])
abbrev mJ20_checkIndex : Mth := (yJ20_checkIndex, cJ20_checkIndex, 2, some .int, [])
theorem pn_J21 : plainName RJ21 = true := by decide +kernel
abbrev mJ21_checkIndex : Mth := (yJ21_checkIndex, cJ21_checkIndex, 3, some .int, [])
theorem pn_J22 : plainName RJ22 = true := by decide +kernel
abbrev mJ22_init : Mth := (yJ22_init, cJ22_init, 2, none, [])
abbrev mJ22_iterator : Mth := (yJ22_iterator, cJ22_iterator, 1, some (.object "java/util/Iterator"), [])
abbrev mJ22_size : Mth := (yJ22_size, cJ22_size, 1, some .int, [])
theorem pn_J23 : plainName RJ23 = true := by decide +kernel
abbrev mJ23_init : Mth := (yJ23_init, cJ23_init, 3, none, [])
abbrev mJ23_hasNext : Mth := (yJ23_hasNext, cJ23_hasNext, 1, some .boolean, [])
abbrev mJ23_nextEntry : Mth := (yJ23_nextEntry, cJ23_nextEntry, 2, some (.object "java/util/TreeMap$Entry"), [])
theorem pn_J25 : plainName RJ25 = true := by decide +kernel
abbrev mJ25_init : Mth := (yJ25_init, cJ25_init, 3, none, [])
abbrev mJ25_next : Mth := (yJ25_next, cJ25_next, 1, some (.object "java/lang/Object"), [])
theorem pn_J26 : plainName RJ26 = true := by decide +kernel
abbrev mJ26_init : Mth := (yJ26_init, cJ26_init, 1, none, [])
theorem pn_J27 : plainName RJ27 = true := by decide +kernel
abbrev mJ27_compareTo : Mth := (yJ27_compareTo, cJ27_compareTo, 2, some .int, [])
abbrev mJ27_compareTo_2 : Mth := (yJ27_compareTo_2, cJ27_compareTo_2, 2, some .int, [])
abbrev mJ27_compare : Mth := (yJ27_compare, cJ27_compare, 2, some .int, [])
abbrev mJ27_valueOf : Mth := (yJ27_valueOf, cJ27_valueOf, 1, some (.object "java/lang/Integer"), [])
abbrev mJ27_init : Mth := (yJ27_init, cJ27_init, 2, none, [])
abbrev mJ27_intValue : Mth := (yJ27_intValue, cJ27_intValue, 1, some .int, [])
theorem pn_J28 : plainName RJ28 = true := by decide +kernel
abbrev mJ28_getChar : Mth := (yJ28_getChar, cJ28_getChar, 2, some .char, [])
abbrev mJ28_canEncode : Mth := (yJ28_canEncode, cJ28_canEncode, 1, some .boolean, [])
abbrev mJ29_max : Mth := (yJ29_max, cJ29_max, 2, some .int, [])
abbrev mJ29_min : Mth := (yJ29_min, cJ29_min, 2, some .int, [])
theorem pn_J30 : plainName RJ30 = true := by decide +kernel
abbrev mJ30_newLength : Mth := (yJ30_newLength, cJ30_newLength, 4, some .int, [])
theorem pn_J33 : plainName RJ33 = true := by decide +kernel
abbrev mJ33_init : Mth := (yJ33_init, cJ33_init, 4, none, [])
theorem pn_J34 : plainName RJ34 = true := by decide +kernel
abbrev mJ34_fill : Mth := (yJ34_fill, cJ34_fill, 5, none, [])
abbrev mJ34_rangeCheck : Mth := (yJ34_rangeCheck, cJ34_rangeCheck, 3, none, [])
abbrev mJ34_copyOf_2 : Mth := (yJ34_copyOf_2, cJ34_copyOf_2, 2, some (.array (.object "java/lang/Object")), [])
abbrev mJ34_copyOf_3 : Mth := (yJ34_copyOf_3, cJ34_copyOf_3, 4, some (.array (.object "java/lang/Object")), [])
theorem pn_J37 : plainName RJ37 = true := by decide +kernel
abbrev mJ37_doubleToLongBits : Mth := (yJ37_doubleToLongBits, cJ37_doubleToLongBits, 2, some .long, [])
abbrev mJ37_isNaN : Mth := (yJ37_isNaN, cJ37_isNaN, 2, some .boolean, [])
