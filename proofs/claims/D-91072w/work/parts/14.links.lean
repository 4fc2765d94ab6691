/-! links: fields and methods by their entries, printed by tools/info.py -/
theorem lk_J1_1 : MI RJ1 1 yJ0_init cJ0_init 1 0 := ⟨Or.inl q406, lw_meth q408, q407, q91, ⟨by decide, by decide, by decide +kernel⟩, rfl, by decide⟩
theorem lk_J11_16 : MI RJ11 16 yJ10_init_2 cJ10_init_2 5 4 := ⟨Or.inl q814, lw_meth q816, q815, q103, ⟨by decide, by decide, by decide +kernel⟩, rfl, by decide⟩
theorem lk_J11_1 : MI RJ11 1 yJ10_init cJ10_init 1 0 := ⟨Or.inl q1198, lw_meth q789, q788, q103, ⟨by decide, by decide, by decide +kernel⟩, rfl, by decide⟩
theorem lk_J12_16 : MI RJ12 16 yJ11_init cJ11_init 5 4 := ⟨Or.inl q811, lw_meth q813, q812, q104, ⟨by decide, by decide, by decide +kernel⟩, rfl, by decide⟩
theorem lk_J12_1 : MI RJ12 1 yJ11_init_2 cJ11_init_2 1 0 := ⟨Or.inl q1195, lw_meth q1197, q1196, q104, ⟨by decide, by decide, by decide +kernel⟩, rfl, by decide⟩
theorem lk_J13_194 : MS RJ13 194 yJ4_max_2 cJ4_max_2 2 ((some .int)) 2 := ⟨Or.inl (lw_S q966 q684 q96 q685), ⟨by decide, by decide, by decide +kernel⟩, by decide⟩
theorem lk_J13_201 : MS RJ13 201 yJ13_hugeLength cJ13_hugeLength 3 ((some .int)) 2 := ⟨Or.inl (lw_S q968 q969 q115 q970), ⟨by decide, by decide, by decide +kernel⟩, by decide⟩
theorem lk_J14_300 : MS RJ14 300 yJ14_copyOf_2 cJ14_copyOf_2 4 ((some (.array (.object "java/lang/Object")))) 3 := ⟨Or.inl (lw_S q994 q995 q116 q996), ⟨by decide, by decide, by decide +kernel⟩, by decide⟩
theorem lk_J14_304 : MS RJ14 304 yJ4_min_2 cJ4_min_2 2 ((some .int)) 2 := ⟨Or.inl (lw_S q999 q687 q96 q688), ⟨by decide, by decide, by decide +kernel⟩, by decide⟩
theorem lk_J15_105 : MS RJ15 105 yJ8_checkIndex cJ8_checkIndex 3 ((some .int)) 3 := ⟨Or.inl (lw_S q1036 q752 q101 q753), ⟨by decide, by decide, by decide +kernel⟩, by decide⟩
theorem lk_J16_1 : MI RJ16 1 yJ12_init_2 cJ12_init_2 1 0 := ⟨Or.inl q1192, lw_meth q1194, q1193, q105, ⟨by decide, by decide, by decide +kernel⟩, rfl, by decide⟩
theorem lk_J2_1 : MI RJ2 1 yJ1_init cJ1_init 1 0 := ⟨Or.inl q403, lw_meth q405, q404, q92, ⟨by decide, by decide, by decide +kernel⟩, rfl, by decide⟩
theorem fl_J2_9 : FL RJ2 9 14 1 (.array (.object "java/lang/Object")) false := ⟨RJ2, TJ2, 3, tyJ2, rfl, by decide, by decide, in_J2, tyJ2_ok, nmJ2, rfl, rfl, Or.inl ⟨RJ2, q414, Or.inl rfl⟩, by decide +kernel⟩
theorem fl_J2_48 : FL RJ2 48 14 2 .int false := ⟨RJ2, TJ2, 3, tyJ2, rfl, by decide, by decide, in_J2, tyJ2_ok, nmJ2, rfl, rfl, Or.inl ⟨RJ2, q415, Or.inl rfl⟩, by decide +kernel⟩
theorem fl_J2_63 : FL RJ2 63 14 0 .int false := ⟨RJ2, TJ2, 3, tyJ2, rfl, by decide, by decide, in_J2, tyJ2_ok, nmJ2, rfl, rfl, Or.inl ⟨RJ2, q417, Or.inr q418⟩, by decide +kernel⟩
theorem lk_J2_131 : MV RJ2 131 14 yJ2_add_2 cJ2_add_2 4 none 3 := ⟨lw_V q951 q953 qs28 q93 q954, ⟨by decide, by decide, by decide +kernel⟩, by decide, ⟨_, rfl, rfl⟩, by decide⟩
theorem lk_J2_129 : MV RJ2 129 14 yJ2_grow cJ2_grow 1 ((some (.array (.object "java/lang/Object")))) 0 := ⟨lw_V q955 q957 qs29 q93 q958, ⟨by decide, by decide, by decide +kernel⟩, by decide, ⟨_, rfl, rfl⟩, by decide⟩
theorem lk_J2_69 : MV RJ2 69 14 yJ2_grow_2 cJ2_grow_2 4 ((some (.array (.object "java/lang/Object")))) 1 := ⟨lw_V q959 q961 qs30 q93 q962, ⟨by decide, by decide, by decide +kernel⟩, by decide, ⟨_, rfl, rfl⟩, by decide⟩
theorem lk_J2_73 : MS RJ2 73 yJ13_newLength cJ13_newLength 4 ((some .int)) 3 := ⟨Or.inl (lw_S q963 q964 q115 q965), ⟨by decide, by decide, by decide +kernel⟩, by decide⟩
theorem lk_J2_66 : MS RJ2 66 yJ14_copyOf cJ14_copyOf 2 ((some (.array (.object "java/lang/Object")))) 2 := ⟨Or.inl (lw_S q971 q972 q116 q973), ⟨by decide, by decide, by decide +kernel⟩, by decide⟩
theorem lk_J2_79 : MS RJ2 79 yJ4_max_2 cJ4_max_2 2 ((some .int)) 2 := ⟨Or.inl (lw_S q1003 q684 q96 q685), ⟨by decide, by decide, by decide +kernel⟩, by decide⟩
theorem lk_J2_118 : MS RJ2 118 yJ15_checkIndex cJ15_checkIndex 2 ((some .int)) 2 := ⟨Or.inl (lw_S q1033 q1034 q118 q1035), ⟨by decide, by decide, by decide +kernel⟩, by decide⟩
theorem lk_J2_123 : MV RJ2 123 14 yJ2_elementData cJ2_elementData 2 ((some (.object "java/lang/Object"))) 1 := ⟨lw_V q1037 q1038 q1039 q93 q1040, ⟨by decide, by decide, by decide +kernel⟩, by decide, ⟨_, rfl, rfl⟩, by decide⟩
theorem lk_J5_637 : MS RJ5 637 yJ6_indexOf cJ6_indexOf 4 ((some .int)) 4 := ⟨Or.inl (lw_S q677 q678 q99 q679), ⟨by decide, by decide, by decide +kernel⟩, by decide⟩
theorem lk_J5_640 : MS RJ5 640 yJ7_indexOf cJ7_indexOf 4 ((some .int)) 4 := ⟨Or.inl (lw_S q692 q693 q100 q694), ⟨by decide, by decide, by decide +kernel⟩, by decide⟩
theorem lk_J5_1062 : MS RJ5 1062 yJ8_checkFromToIndex cJ8_checkFromToIndex 4 ((some .int)) 4 := ⟨Or.inl (lw_S q712 q713 q101 q714), ⟨by decide, by decide, by decide +kernel⟩, by decide⟩
theorem lk_J5_495 : MS RJ5 495 yJ6_charAt cJ6_charAt 2 ((some .char)) 2 := ⟨Or.inl (lw_S q745 q746 q99 q747), ⟨by decide, by decide, by decide +kernel⟩, by decide⟩
theorem lk_J5_1059 : MS RJ5 1059 yJ8_checkIndex cJ8_checkIndex 3 ((some .int)) 3 := ⟨Or.inl (lw_S q751 q752 q101 q753), ⟨by decide, by decide, by decide +kernel⟩, by decide⟩
theorem lk_J5_498 : MS RJ5 498 yJ7_charAt cJ7_charAt 2 ((some .char)) 2 := ⟨Or.inl (lw_S q754 q755 q100 q756), ⟨by decide, by decide, by decide +kernel⟩, by decide⟩
theorem lk_J6_88 : MS RJ6 88 yJ6_canEncode cJ6_canEncode 1 ((some .boolean)) 1 := ⟨Or.inl (lw_S q680 q681 q99 q682), ⟨by decide, by decide, by decide +kernel⟩, by decide⟩
theorem lk_J6_92 : MS RJ6 92 yJ4_max_2 cJ4_max_2 2 ((some .int)) 2 := ⟨Or.inl (lw_S q683 q684 q96 q685), ⟨by decide, by decide, by decide +kernel⟩, by decide⟩
theorem lk_J6_38 : MS RJ6 38 yJ4_min_2 cJ4_min_2 2 ((some .int)) 2 := ⟨Or.inl (lw_S q686 q687 q96 q688), ⟨by decide, by decide, by decide +kernel⟩, by decide⟩
theorem lk_J6_95 : MS RJ6 95 yJ6_indexOfChar cJ6_indexOfChar 6 ((some .int)) 4 := ⟨Or.inl (lw_S q689 q690 q99 q691), ⟨by decide, by decide, by decide +kernel⟩, by decide⟩
theorem lk_J6_9 : MS RJ6 9 yJ5_checkIndex cJ5_checkIndex 2 none 2 := ⟨Or.inl (lw_S q748 q749 q98 q750), ⟨by decide, by decide, by decide +kernel⟩, by decide⟩
theorem lk_J7_224 : MS RJ7 224 yJ4_max_2 cJ4_max_2 2 ((some .int)) 2 := ⟨Or.inl (lw_S q695 q684 q96 q685), ⟨by decide, by decide, by decide +kernel⟩, by decide⟩
theorem lk_J7_183 : MS RJ7 183 yJ4_min_2 cJ4_min_2 2 ((some .int)) 2 := ⟨Or.inl (lw_S q696 q687 q96 q688), ⟨by decide, by decide, by decide +kernel⟩, by decide⟩
theorem lk_J7_228 : MS RJ7 228 yJ7_indexOfChar cJ7_indexOfChar 4 ((some .int)) 4 := ⟨Or.inl (lw_S q698 q699 q100 q700), ⟨by decide, by decide, by decide +kernel⟩, by decide⟩
theorem lk_J7_96 : MS RJ7 96 yJ7_checkBoundsBeginEnd cJ7_checkBoundsBeginEnd 3 none 3 := ⟨Or.inl (lw_S q701 q702 q100 q703), ⟨by decide, by decide, by decide +kernel⟩, by decide⟩
theorem lk_J7_48 : MS RJ7 48 yJ7_length cJ7_length 1 ((some .int)) 1 := ⟨Or.inl (lw_S q704 q705 q100 q706), ⟨by decide, by decide, by decide +kernel⟩, by decide⟩
theorem lk_J7_241 : MS RJ7 241 yJ5_checkBoundsBeginEnd cJ5_checkBoundsBeginEnd 3 none 3 := ⟨Or.inl (lw_S q707 q708 q98 q709), ⟨by decide, by decide, by decide +kernel⟩, by decide⟩
theorem lk_J7_244 : MS RJ7 244 yJ7_indexOfCharUnsafe cJ7_indexOfCharUnsafe 5 ((some .int)) 4 := ⟨Or.inl (lw_S q715 q716 q100 q717), ⟨by decide, by decide, by decide +kernel⟩, by decide⟩
theorem lk_J7_71 : MS RJ7 71 yJ7_getChar cJ7_getChar 2 ((some .char)) 2 := ⟨Or.inl (lw_S q718 q719 q100 q720), ⟨by decide, by decide, by decide +kernel⟩, by decide⟩
theorem lk_J7_232 : MS RJ7 232 yJ7_indexOfSupplementary cJ7_indexOfSupplementary 7 ((some .int)) 4 := ⟨Or.inl (lw_S q727 q728 q100 q729), ⟨by decide, by decide, by decide +kernel⟩, by decide⟩
theorem lk_J7_164 : MS RJ7 164 yJ9_isValidCodePoint cJ9_isValidCodePoint 2 ((some .boolean)) 1 := ⟨Or.inl (lw_S q730 q731 q102 q732), ⟨by decide, by decide, by decide +kernel⟩, by decide⟩
theorem lk_J7_157 : MS RJ7 157 yJ9_highSurrogate cJ9_highSurrogate 1 ((some .char)) 1 := ⟨Or.inl (lw_S q733 q734 q102 q735), ⟨by decide, by decide, by decide +kernel⟩, by decide⟩
theorem lk_J7_161 : MS RJ7 161 yJ9_lowSurrogate cJ9_lowSurrogate 1 ((some .char)) 1 := ⟨Or.inl (lw_S q737 q738 q102 q739), ⟨by decide, by decide, by decide +kernel⟩, by decide⟩
theorem lk_J7_67 : MS RJ7 67 yJ7_checkIndex cJ7_checkIndex 2 none 2 := ⟨Or.inl (lw_S q757 q758 q100 q759), ⟨by decide, by decide, by decide +kernel⟩, by decide⟩
theorem lk_J7_414 : MS RJ7 414 yJ5_checkIndex cJ5_checkIndex 2 none 2 := ⟨Or.inl (lw_S q760 q749 q98 q750), ⟨by decide, by decide, by decide +kernel⟩, by decide⟩
theorem nl_X0_8 : NL RX0 8 0 39 := ⟨RX1, TX1, tyX1, rfl, by decide, in_X1, tyX1_ok, by decide +kernel, q120, q121, q86⟩
theorem lk_X0_18 : MI RX0 18 yX1_init cX1_init 3 0 := ⟨Or.inl q122, lw_meth q124, q123, q86, ⟨by decide, by decide, by decide +kernel⟩, rfl, by decide⟩
theorem lk_X0_22 : MV RX0 22 0 yX1_person cX1_person 7 ((some .int)) 6 := ⟨lw_V q291 q292 q293 q86 q294, ⟨by decide, by decide, by decide +kernel⟩, by decide, ⟨_, rfl, rfl⟩, by decide⟩
theorem lk_X0_27 : MV RX0 27 0 yX1_friends cX1_friends 6 ((some .boolean)) 3 := ⟨lw_V q347 q348 q349 q86 q350, ⟨by decide, by decide, by decide +kernel⟩, by decide, ⟨_, rfl, rfl⟩, by decide⟩
theorem lk_X0_32 : MV RX0 32 0 yX1_bar cX1_bar 4 ((some .boolean)) 3 := ⟨lw_V q355 q356 q357 q86 q358, ⟨by decide, by decide, by decide +kernel⟩, by decide, ⟨_, rfl, rfl⟩, by decide⟩
theorem lk_X0_36 : MV RX0 36 0 yX1_stays cX1_stays 4 ((some .boolean)) 3 := ⟨lw_V q359 q360 q361 q86 q362, ⟨by decide, by decide, by decide +kernel⟩, by decide, ⟨_, rfl, rfl⟩, by decide⟩
theorem lk_X0_41 : MV RX0 41 0 yX1_gone cX1_gone 3 ((some .boolean)) 1 := ⟨lw_V q379 q380 q381 q86 q382, ⟨by decide, by decide, by decide +kernel⟩, by decide, ⟨_, rfl, rfl⟩, by decide⟩
theorem lk_X0_46 : MV RX0 46 0 yX1_absent cX1_absent 4 ((some .boolean)) 3 := ⟨lw_V q383 q384 q385 q86 q386, ⟨by decide, by decide, by decide +kernel⟩, by decide, ⟨_, rfl, rfl⟩, by decide⟩
theorem lk_X0_50 : MV RX0 50 0 yX1_town cX1_town 2 ((some .int)) 1 := ⟨lw_V q387 q388 q389 q86 q390, ⟨by decide, by decide, by decide +kernel⟩, by decide, ⟨_, rfl, rfl⟩, by decide⟩
theorem lk_X0_54 : MV RX0 54 0 yX1_start cX1_start 2 ((some .boolean)) 1 := ⟨lw_V q451 q452 q453 q86 q454, ⟨by decide, by decide, by decide +kernel⟩, by decide, ⟨_, rfl, rfl⟩, by decide⟩
theorem lk_X0_58 : MV RX0 58 0 yX1_season cX1_season 2 ((some .boolean)) 1 := ⟨lw_V q455 q456 q457 q86 q458, ⟨by decide, by decide, by decide +kernel⟩, by decide, ⟨_, rfl, rfl⟩, by decide⟩
theorem lk_X0_62 : MV RX0 62 0 yX1_day cX1_day 2 ((some .int)) 1 := ⟨lw_V q459 q460 q461 q86 q462, ⟨by decide, by decide, by decide +kernel⟩, by decide, ⟨_, rfl, rfl⟩, by decide⟩
theorem lk_X0_66 : MV RX0 66 0 yX1_room cX1_room 6 ((some .int)) 4 := ⟨lw_V q463 q464 q465 q86 q466, ⟨by decide, by decide, by decide +kernel⟩, by decide, ⟨_, rfl, rfl⟩, by decide⟩
theorem lk_X0_71 : MV RX0 71 0 yX1_put cX1_put 5 ((some .boolean)) 3 := ⟨lw_V q496 q497 q498 q86 q499, ⟨by decide, by decide, by decide +kernel⟩, by decide, ⟨_, rfl, rfl⟩, by decide⟩
theorem lk_X0_75 : MV RX0 75 0 yX1_settle cX1_settle 10 ((some .int)) 2 := ⟨lw_V q531 q532 q533 q86 q534, ⟨by decide, by decide, by decide +kernel⟩, by decide, ⟨_, rfl, rfl⟩, by decide⟩
theorem lk_X0_80 : MV RX0 80 0 yX1_moved cX1_moved 1 ((some .int)) 0 := ⟨lw_V q566 q567 q568 q86 q569, ⟨by decide, by decide, by decide +kernel⟩, by decide, ⟨_, rfl, rfl⟩, by decide⟩
theorem lk_X0_85 : MV RX0 85 0 yX1_most cX1_most 6 ((some .int)) 1 := ⟨lw_V q570 q571 q572 q86 q573, ⟨by decide, by decide, by decide +kernel⟩, by decide, ⟨_, rfl, rfl⟩, by decide⟩
theorem lk_X0_89 : MV RX0 89 0 yX1_right cX1_right 2 ((some .boolean)) 1 := ⟨lw_V q581 q582 q583 q86 q584, ⟨by decide, by decide, by decide +kernel⟩, by decide, ⟨_, rfl, rfl⟩, by decide⟩
theorem lk_X0_93 : MV RX0 93 0 yX1_listed cX1_listed 5 ((some .int)) 3 := ⟨lw_V q589 q590 q591 q86 q592, ⟨by decide, by decide, by decide +kernel⟩, by decide, ⟨_, rfl, rfl⟩, by decide⟩
theorem lk_X0_100 : MV RX0 100 0 yX1_feed cX1_feed 9 ((some .int)) 3 := ⟨lw_V q593 q594 q595 q86 q596, ⟨by decide, by decide, by decide +kernel⟩, by decide, ⟨_, rfl, rfl⟩, by decide⟩
theorem lk_X0_109 : MV RX0 109 0 yX1_worth cX1_worth 3 ((some .int)) 2 := ⟨lw_V q1004 q1005 q1006 q86 q1007, ⟨by decide, by decide, by decide +kernel⟩, by decide, ⟨_, rfl, rfl⟩, by decide⟩
theorem lk_X0_113 : MV RX0 113 0 yX1_give cX1_give 4 ((some .int)) 2 := ⟨lw_V q1071 q1072 q1073 q86 q1074, ⟨by decide, by decide, by decide +kernel⟩, by decide, ⟨_, rfl, rfl⟩, by decide⟩
theorem lk_X0_117 : MV RX0 117 0 yX1_buy cX1_buy 4 ((some .int)) 2 := ⟨lw_V q1079 q1080 q1081 q86 q1082, ⟨by decide, by decide, by decide +kernel⟩, by decide, ⟨_, rfl, rfl⟩, by decide⟩
theorem lk_X0_121 : MV RX0 121 0 yX1_loss cX1_loss 12 ((some .int)) 5 := ⟨lw_V q1083 q1084 q1085 q86 q1086, ⟨by decide, by decide, by decide +kernel⟩, by decide, ⟨_, rfl, rfl⟩, by decide⟩
theorem lk_X0_126 : MV RX0 126 0 yX1_gives cX1_gives 6 ((some .int)) 5 := ⟨lw_V q1099 q1100 q1101 q86 q1102, ⟨by decide, by decide, by decide +kernel⟩, by decide, ⟨_, rfl, rfl⟩, by decide⟩
theorem lk_X0_130 : MV RX0 130 0 yX1_sight cX1_sight 4 ((some .int)) 3 := ⟨lw_V q1104 q1105 q1106 q86 q1107, ⟨by decide, by decide, by decide +kernel⟩, by decide, ⟨_, rfl, rfl⟩, by decide⟩
theorem lk_X0_134 : MV RX0 134 0 yX1_way cX1_way 4 ((some .boolean)) 3 := ⟨lw_V q1108 q1109 q1110 q86 q1111, ⟨by decide, by decide, by decide +kernel⟩, by decide, ⟨_, rfl, rfl⟩, by decide⟩
theorem lk_X0_138 : MV RX0 138 0 yX1_clear cX1_clear 4 ((some .int)) 0 := ⟨lw_V q1112 q1113 q1114 q86 q1115, ⟨by decide, by decide, by decide +kernel⟩, by decide, ⟨_, rfl, rfl⟩, by decide⟩
theorem lk_X0_142 : MV RX0 142 0 yX1_trip cX1_trip 2 ((some .int)) 1 := ⟨lw_V q1116 q1117 q1118 q86 q1119, ⟨by decide, by decide, by decide +kernel⟩, by decide, ⟨_, rfl, rfl⟩, by decide⟩
theorem lk_X0_146 : MV RX0 146 0 yX1_tripOf cX1_tripOf 2 ((some .int)) 1 := ⟨lw_V q1132 q1133 q1134 q86 q1135, ⟨by decide, by decide, by decide +kernel⟩, by decide, ⟨_, rfl, rfl⟩, by decide⟩
theorem lk_X0_150 : MV RX0 150 0 yX1_night cX1_night 10 ((some .int)) 0 := ⟨lw_V q1136 q1137 q1138 q86 q1139, ⟨by decide, by decide, by decide +kernel⟩, by decide, ⟨_, rfl, rfl⟩, by decide⟩
theorem lk_X0_154 : MV RX0 154 0 yX1_lay cX1_lay 3 ((some .int)) 2 := ⟨lw_V q1148 q1149 q1150 q86 q1151, ⟨by decide, by decide, by decide +kernel⟩, by decide, ⟨_, rfl, rfl⟩, by decide⟩
theorem lk_X0_170 : MV RX0 170 0 yX1_meals cX1_meals 5 ((some .int)) 2 := ⟨lw_V q1152 q1153 q1154 q86 q1155, ⟨by decide, by decide, by decide +kernel⟩, by decide, ⟨_, rfl, rfl⟩, by decide⟩
theorem lk_X0_174 : MV RX0 174 0 yX1_townOf cX1_townOf 4 ((some .int)) 2 := ⟨lw_V q1156 q1157 q1158 q86 q1159, ⟨by decide, by decide, by decide +kernel⟩, by decide, ⟨_, rfl, rfl⟩, by decide⟩
theorem lk_X0_178 : MV RX0 178 0 yX1_roomOf cX1_roomOf 5 ((some .int)) 3 := ⟨lw_V q1160 q1161 q1162 q86 q1163, ⟨by decide, by decide, by decide +kernel⟩, by decide, ⟨_, rfl, rfl⟩, by decide⟩
theorem lk_X0_182 : MV RX0 182 0 yX1_personOf cX1_personOf 6 ((some .int)) 2 := ⟨lw_V q1164 q1165 q1166 q86 q1167, ⟨by decide, by decide, by decide +kernel⟩, by decide, ⟨_, rfl, rfl⟩, by decide⟩
theorem lk_X0_186 : MV RX0 186 0 yX1_count cX1_count 2 ((some .int)) 1 := ⟨lw_V q1168 q1169 q1170 q86 q1171, ⟨by decide, by decide, by decide +kernel⟩, by decide, ⟨_, rfl, rfl⟩, by decide⟩
theorem nl_X0_13 : NL RX0 13 15 6 := ⟨RJ16, TJ16, tyJ16, rfl, by decide, in_J16, tyJ16_ok, by decide +kernel, q1175, q1181, q119⟩
theorem lk_X0_7 : MV RX0 7 0 yX1_bill cX1_bill 2 ((some .int)) 1 := ⟨lw_V q1176 q1177 q1178 q86 q1179, ⟨by decide, by decide, by decide +kernel⟩, by decide, ⟨_, rfl, rfl⟩, by decide⟩
theorem lk_X0_15 : MV RX0 15 0 yX1_owes cX1_owes 2 ((some .int)) 1 := ⟨lw_V q1204 q1205 q1206 q86 q1207, ⟨by decide, by decide, by decide +kernel⟩, by decide, ⟨_, rfl, rfl⟩, by decide⟩
theorem lk_X0_164 : MV RX0 164 1 yX3_thrown cX3_thrown 1 ((some .int)) 0 := ⟨lw_V q1208 q1209 q1210 q88 q1211, ⟨by decide, by decide, by decide +kernel⟩, by decide, ⟨_, rfl, rfl⟩, by decide⟩
theorem nl_X0_19 : NL RX0 19 1 78 := ⟨RX3, TX3, tyX3, rfl, by decide, in_X3, tyX3_ok, by decide +kernel, q1212, q1213, q88⟩
theorem lk_X0_21 : MI RX0 21 yX3_init cX3_init 2 0 := ⟨Or.inl q1214, lw_meth q1216, q1215, q88, ⟨by decide, by decide, by decide +kernel⟩, rfl, by decide⟩
theorem lk_X0_26 : MV RX0 26 1 yX3_person cX3_person 7 ((some .int)) 6 := ⟨lw_V q1453 q1454 q1455 q88 q1456, ⟨by decide, by decide, by decide +kernel⟩, by decide, ⟨_, rfl, rfl⟩, by decide⟩
theorem lk_X0_31 : MV RX0 31 1 yX3_friends cX3_friends 4 ((some .boolean)) 3 := ⟨lw_V q1460 q1461 q1462 q88 q1463, ⟨by decide, by decide, by decide +kernel⟩, by decide, ⟨_, rfl, rfl⟩, by decide⟩
theorem lk_X0_35 : MV RX0 35 1 yX3_bar cX3_bar 4 ((some .boolean)) 3 := ⟨lw_V q1468 q1469 q1470 q88 q1471, ⟨by decide, by decide, by decide +kernel⟩, by decide, ⟨_, rfl, rfl⟩, by decide⟩
theorem lk_X0_40 : MV RX0 40 1 yX3_stays cX3_stays 4 ((some .boolean)) 3 := ⟨lw_V q1472 q1473 q1474 q88 q1475, ⟨by decide, by decide, by decide +kernel⟩, by decide, ⟨_, rfl, rfl⟩, by decide⟩
theorem lk_X0_45 : MV RX0 45 1 yX3_gone cX3_gone 2 ((some .boolean)) 1 := ⟨lw_V q1488 q1489 q1490 q88 q1491, ⟨by decide, by decide, by decide +kernel⟩, by decide, ⟨_, rfl, rfl⟩, by decide⟩
theorem lk_X0_49 : MV RX0 49 1 yX3_absent cX3_absent 4 ((some .boolean)) 3 := ⟨lw_V q1492 q1493 q1494 q88 q1495, ⟨by decide, by decide, by decide +kernel⟩, by decide, ⟨_, rfl, rfl⟩, by decide⟩
theorem lk_X0_53 : MV RX0 53 1 yX3_town cX3_town 2 ((some .int)) 1 := ⟨lw_V q1496 q1497 q1498 q88 q1499, ⟨by decide, by decide, by decide +kernel⟩, by decide, ⟨_, rfl, rfl⟩, by decide⟩
theorem lk_X0_57 : MV RX0 57 1 yX3_start cX3_start 2 ((some .boolean)) 1 := ⟨lw_V q1500 q1501 q1502 q88 q1503, ⟨by decide, by decide, by decide +kernel⟩, by decide, ⟨_, rfl, rfl⟩, by decide⟩
theorem lk_X0_61 : MV RX0 61 1 yX3_season cX3_season 2 ((some .boolean)) 1 := ⟨lw_V q1504 q1505 q1506 q88 q1507, ⟨by decide, by decide, by decide +kernel⟩, by decide, ⟨_, rfl, rfl⟩, by decide⟩
theorem lk_X0_65 : MV RX0 65 1 yX3_day cX3_day 2 ((some .int)) 1 := ⟨lw_V q1508 q1509 q1510 q88 q1511, ⟨by decide, by decide, by decide +kernel⟩, by decide, ⟨_, rfl, rfl⟩, by decide⟩
theorem lk_X0_70 : MV RX0 70 1 yX3_room cX3_room 6 ((some .int)) 4 := ⟨lw_V q1512 q1513 q1514 q88 q1515, ⟨by decide, by decide, by decide +kernel⟩, by decide, ⟨_, rfl, rfl⟩, by decide⟩
theorem lk_X0_74 : MV RX0 74 1 yX3_put cX3_put 9 ((some .boolean)) 3 := ⟨lw_V q1524 q1525 q1526 q88 q1527, ⟨by decide, by decide, by decide +kernel⟩, by decide, ⟨_, rfl, rfl⟩, by decide⟩
theorem lk_X0_79 : MV RX0 79 1 yX3_settle cX3_settle 12 ((some .int)) 2 := ⟨lw_V q1544 q1545 q1546 q88 q1547, ⟨by decide, by decide, by decide +kernel⟩, by decide, ⟨_, rfl, rfl⟩, by decide⟩
theorem lk_X0_84 : MV RX0 84 1 yX3_moved cX3_moved 1 ((some .int)) 0 := ⟨lw_V q1578 q1579 q1580 q88 q1581, ⟨by decide, by decide, by decide +kernel⟩, by decide, ⟨_, rfl, rfl⟩, by decide⟩
theorem lk_X0_88 : MV RX0 88 1 yX3_most cX3_most 6 ((some .int)) 1 := ⟨lw_V q1582 q1583 q1584 q88 q1585, ⟨by decide, by decide, by decide +kernel⟩, by decide, ⟨_, rfl, rfl⟩, by decide⟩
theorem lk_X0_92 : MV RX0 92 1 yX3_right cX3_right 3 ((some .boolean)) 1 := ⟨lw_V q1589 q1590 q1591 q88 q1592, ⟨by decide, by decide, by decide +kernel⟩, by decide, ⟨_, rfl, rfl⟩, by decide⟩
theorem lk_X0_97 : MV RX0 97 1 yX3_listed cX3_listed 6 ((some .int)) 3 := ⟨lw_V q1593 q1594 q1595 q88 q1596, ⟨by decide, by decide, by decide +kernel⟩, by decide, ⟨_, rfl, rfl⟩, by decide⟩
theorem lk_X0_104 : MV RX0 104 1 yX3_feed cX3_feed 11 ((some .int)) 3 := ⟨lw_V q1597 q1598 q1599 q88 q1600, ⟨by decide, by decide, by decide +kernel⟩, by decide, ⟨_, rfl, rfl⟩, by decide⟩
theorem lk_X0_108 : MV RX0 108 1 yX3_read cX3_read 3 ((some .int)) 1 := ⟨lw_V q1601 q1602 q1603 q88 q1604, ⟨by decide, by decide, by decide +kernel⟩, by decide, ⟨_, rfl, rfl⟩, by decide⟩
theorem lk_X0_112 : MV RX0 112 1 yX3_worth cX3_worth 3 ((some .int)) 2 := ⟨lw_V q1675 q1676 q1677 q88 q1678, ⟨by decide, by decide, by decide +kernel⟩, by decide, ⟨_, rfl, rfl⟩, by decide⟩
theorem lk_X0_116 : MV RX0 116 1 yX3_give cX3_give 4 ((some .int)) 2 := ⟨lw_V q1699 q1700 q1701 q88 q1702, ⟨by decide, by decide, by decide +kernel⟩, by decide, ⟨_, rfl, rfl⟩, by decide⟩
theorem lk_X0_120 : MV RX0 120 1 yX3_buy cX3_buy 4 ((some .int)) 2 := ⟨lw_V q1707 q1708 q1709 q88 q1710, ⟨by decide, by decide, by decide +kernel⟩, by decide, ⟨_, rfl, rfl⟩, by decide⟩
theorem lk_X0_125 : MV RX0 125 1 yX3_loss cX3_loss 6 ((some .int)) 5 := ⟨lw_V q1711 q1712 q1713 q88 q1714, ⟨by decide, by decide, by decide +kernel⟩, by decide, ⟨_, rfl, rfl⟩, by decide⟩
theorem lk_X0_129 : MV RX0 129 1 yX3_gives cX3_gives 6 ((some .int)) 5 := ⟨lw_V q1723 q1724 q1725 q88 q1726, ⟨by decide, by decide, by decide +kernel⟩, by decide, ⟨_, rfl, rfl⟩, by decide⟩
theorem lk_X0_133 : MV RX0 133 1 yX3_sight cX3_sight 4 ((some .int)) 3 := ⟨lw_V q1727 q1728 q1729 q88 q1730, ⟨by decide, by decide, by decide +kernel⟩, by decide, ⟨_, rfl, rfl⟩, by decide⟩
theorem lk_X0_137 : MV RX0 137 1 yX3_way cX3_way 4 ((some .boolean)) 3 := ⟨lw_V q1731 q1732 q1733 q88 q1734, ⟨by decide, by decide, by decide +kernel⟩, by decide, ⟨_, rfl, rfl⟩, by decide⟩
theorem lk_X0_141 : MV RX0 141 1 yX3_clear cX3_clear 3 ((some .int)) 0 := ⟨lw_V q1735 q1736 q1737 q88 q1738, ⟨by decide, by decide, by decide +kernel⟩, by decide, ⟨_, rfl, rfl⟩, by decide⟩
theorem lk_X0_145 : MV RX0 145 1 yX3_trip cX3_trip 2 ((some .int)) 1 := ⟨lw_V q1739 q1740 q1741 q88 q1742, ⟨by decide, by decide, by decide +kernel⟩, by decide, ⟨_, rfl, rfl⟩, by decide⟩
theorem lk_X0_149 : MV RX0 149 1 yX3_tripOf cX3_tripOf 2 ((some .int)) 1 := ⟨lw_V q1751 q1752 q1753 q88 q1754, ⟨by decide, by decide, by decide +kernel⟩, by decide, ⟨_, rfl, rfl⟩, by decide⟩
theorem lk_X0_153 : MV RX0 153 1 yX3_night cX3_night 10 ((some .int)) 0 := ⟨lw_V q1755 q1756 q1757 q88 q1758, ⟨by decide, by decide, by decide +kernel⟩, by decide, ⟨_, rfl, rfl⟩, by decide⟩
theorem lk_X0_157 : MV RX0 157 1 yX3_lay cX3_lay 3 ((some .int)) 2 := ⟨lw_V q1772 q1773 q1774 q88 q1775, ⟨by decide, by decide, by decide +kernel⟩, by decide, ⟨_, rfl, rfl⟩, by decide⟩
theorem lk_X0_163 : MV RX0 163 1 yX3_bill cX3_bill 2 ((some .int)) 1 := ⟨lw_V q1776 q1777 q1778 q88 q1779, ⟨by decide, by decide, by decide +kernel⟩, by decide, ⟨_, rfl, rfl⟩, by decide⟩
theorem lk_X0_169 : MV RX0 169 1 yX3_owes_2 cX3_owes_2 2 ((some .int)) 1 := ⟨lw_V q1780 q1781 q1782 q88 q1783, ⟨by decide, by decide, by decide +kernel⟩, by decide, ⟨_, rfl, rfl⟩, by decide⟩
theorem lk_X0_173 : MV RX0 173 1 yX3_meals cX3_meals 5 ((some .int)) 2 := ⟨lw_V q1784 q1785 q1786 q88 q1787, ⟨by decide, by decide, by decide +kernel⟩, by decide, ⟨_, rfl, rfl⟩, by decide⟩
theorem lk_X0_177 : MV RX0 177 1 yX3_townOf cX3_townOf 3 ((some .int)) 2 := ⟨lw_V q1788 q1789 q1790 q88 q1791, ⟨by decide, by decide, by decide +kernel⟩, by decide, ⟨_, rfl, rfl⟩, by decide⟩
theorem lk_X0_181 : MV RX0 181 1 yX3_roomOf cX3_roomOf 5 ((some .int)) 3 := ⟨lw_V q1796 q1797 q1798 q88 q1799, ⟨by decide, by decide, by decide +kernel⟩, by decide, ⟨_, rfl, rfl⟩, by decide⟩
theorem lk_X0_185 : MV RX0 185 1 yX3_personOf cX3_personOf 5 ((some .int)) 2 := ⟨lw_V q1800 q1801 q1802 q88 q1803, ⟨by decide, by decide, by decide +kernel⟩, by decide, ⟨_, rfl, rfl⟩, by decide⟩
theorem lk_X0_189 : MV RX0 189 1 yX3_count cX3_count 2 ((some .int)) 1 := ⟨lw_V q1804 q1805 q1806 q88 q1807, ⟨by decide, by decide, by decide +kernel⟩, by decide, ⟨_, rfl, rfl⟩, by decide⟩
theorem nl_X1_9 : NL RX1 9 3 11 := ⟨RX4, TX4, tyX4, rfl, by decide, in_X4, tyX4_ok, by decide +kernel, q128, q298, q89⟩
theorem nl_X1_15 : NL RX1 15 4 6 := ⟨RX5, TX5, tyX5, rfl, by decide, in_X5, tyX5_ok, by decide +kernel, q130, q391, q90⟩
theorem nl_X1_45 : NL RX1 45 2 5 := ⟨RX2, TX2, tyX2, rfl, by decide, in_X2, tyX2_ok, by decide +kernel, q132, q133, q87⟩
theorem lk_X1_47 : MI RX1 47 yX2_init cX2_init 1 0 := ⟨Or.inr ⟨"TourRooms", List.mem_of_getElem? (i := 0) rfl⟩, lw_meth q136, q135, q87, ⟨by decide, by decide, by decide +kernel⟩, rfl, by decide⟩
theorem fl_X1_332 : FL RX1 332 2 0 .int false := ⟨RX2, TX2, 5, tyX2, rfl, by decide, by decide, in_X2, tyX2_ok, nmX2, rfl, rfl, Or.inr ⟨"TourRooms", List.mem_of_getElem? (i := 0) rfl⟩, by decide +kernel⟩
theorem fl_X1_337 : FL RX1 337 2 1 .int false := ⟨RX2, TX2, 5, tyX2, rfl, by decide, by decide, in_X2, tyX2_ok, nmX2, rfl, rfl, Or.inr ⟨"TourRooms", List.mem_of_getElem? (i := 1) rfl⟩, by decide +kernel⟩
theorem fl_X1_342 : FL RX1 342 2 2 .int false := ⟨RX2, TX2, 5, tyX2, rfl, by decide, by decide, in_X2, tyX2_ok, nmX2, rfl, rfl, Or.inr ⟨"TourRooms", List.mem_of_getElem? (i := 2) rfl⟩, by decide +kernel⟩
theorem fl_X1_346 : FL RX1 346 2 3 .int false := ⟨RX2, TX2, 5, tyX2, rfl, by decide, by decide, in_X2, tyX2_ok, nmX2, rfl, rfl, Or.inr ⟨"TourRooms", List.mem_of_getElem? (i := 3) rfl⟩, by decide +kernel⟩
theorem fl_X1_348 : FL RX1 348 2 4 .int false := ⟨RX2, TX2, 5, tyX2, rfl, by decide, by decide, in_X2, tyX2_ok, nmX2, rfl, rfl, Or.inr ⟨"TourRooms", List.mem_of_getElem? (i := 4) rfl⟩, by decide +kernel⟩
theorem fl_X1_11 : FL RX1 11 0 0 (.array (.object "TourRooms$Person")) true := ⟨RX1, TX1, 39, tyX1, rfl, by decide, by decide, in_X1, tyX1_ok, nmX1, rfl, rfl, Or.inl ⟨RX1, q169, Or.inl rfl⟩, by decide +kernel⟩
theorem fl_X1_17 : FL RX1 17 0 1 (.array (.object "TourRooms$Town")) true := ⟨RX1, TX1, 39, tyX1, rfl, by decide, by decide, in_X1, tyX1_ok, nmX1, rfl, rfl, Or.inl ⟨RX1, q170, Or.inl rfl⟩, by decide +kernel⟩
theorem fl_X1_105 : FL RX1 105 0 2 .int false := ⟨RX1, TX1, 39, tyX1, rfl, by decide, by decide, in_X1, tyX1_ok, nmX1, rfl, rfl, Or.inl ⟨RX1, q171, Or.inl rfl⟩, by decide +kernel⟩
theorem fl_X1_112 : FL RX1 112 0 3 .int false := ⟨RX1, TX1, 39, tyX1, rfl, by decide, by decide, in_X1, tyX1_ok, nmX1, rfl, rfl, Or.inl ⟨RX1, q172, Or.inl rfl⟩, by decide +kernel⟩
theorem fl_X1_178 : FL RX1 178 0 4 .int false := ⟨RX1, TX1, 39, tyX1, rfl, by decide, by decide, in_X1, tyX1_ok, nmX1, rfl, rfl, Or.inl ⟨RX1, q173, Or.inl rfl⟩, by decide +kernel⟩
theorem fl_X1_115 : FL RX1 115 0 5 .int false := ⟨RX1, TX1, 39, tyX1, rfl, by decide, by decide, in_X1, tyX1_ok, nmX1, rfl, rfl, Or.inl ⟨RX1, q174, Or.inl rfl⟩, by decide +kernel⟩
theorem fl_X1_154 : FL RX1 154 0 6 .int false := ⟨RX1, TX1, 39, tyX1, rfl, by decide, by decide, in_X1, tyX1_ok, nmX1, rfl, rfl, Or.inl ⟨RX1, q175, Or.inl rfl⟩, by decide +kernel⟩
theorem fl_X1_21 : FL RX1 21 0 7 .int false := ⟨RX1, TX1, 39, tyX1, rfl, by decide, by decide, in_X1, tyX1_ok, nmX1, rfl, rfl, Or.inl ⟨RX1, q176, Or.inl rfl⟩, by decide +kernel⟩
theorem fl_X1_184 : FL RX1 184 0 8 .int false := ⟨RX1, TX1, 39, tyX1, rfl, by decide, by decide, in_X1, tyX1_ok, nmX1, rfl, rfl, Or.inl ⟨RX1, q177, Or.inl rfl⟩, by decide +kernel⟩
theorem fl_X1_357 : FL RX1 357 0 9 .int false := ⟨RX1, TX1, 39, tyX1, rfl, by decide, by decide, in_X1, tyX1_ok, nmX1, rfl, rfl, Or.inl ⟨RX1, q178, Or.inl rfl⟩, by decide +kernel⟩
theorem fl_X1_151 : FL RX1 151 0 10 .int false := ⟨RX1, TX1, 39, tyX1, rfl, by decide, by decide, in_X1, tyX1_ok, nmX1, rfl, rfl, Or.inl ⟨RX1, q179, Or.inl rfl⟩, by decide +kernel⟩
theorem fl_X1_25 : FL RX1 25 0 11 .int false := ⟨RX1, TX1, 39, tyX1, rfl, by decide, by decide, in_X1, tyX1_ok, nmX1, rfl, rfl, Or.inl ⟨RX1, q180, Or.inl rfl⟩, by decide +kernel⟩
theorem fl_X1_28 : FL RX1 28 0 12 (.array .int) true := ⟨RX1, TX1, 39, tyX1, rfl, by decide, by decide, in_X1, tyX1_ok, nmX1, rfl, rfl, Or.inl ⟨RX1, q181, Or.inl rfl⟩, by decide +kernel⟩
theorem fl_X1_32 : FL RX1 32 0 13 (.array .int) true := ⟨RX1, TX1, 39, tyX1, rfl, by decide, by decide, in_X1, tyX1_ok, nmX1, rfl, rfl, Or.inl ⟨RX1, q182, Or.inl rfl⟩, by decide +kernel⟩
theorem fl_X1_35 : FL RX1 35 0 14 (.array .int) true := ⟨RX1, TX1, 39, tyX1, rfl, by decide, by decide, in_X1, tyX1_ok, nmX1, rfl, rfl, Or.inl ⟨RX1, q183, Or.inl rfl⟩, by decide +kernel⟩
theorem fl_X1_38 : FL RX1 38 0 15 (.array .int) true := ⟨RX1, TX1, 39, tyX1, rfl, by decide, by decide, in_X1, tyX1_ok, nmX1, rfl, rfl, Or.inl ⟨RX1, q184, Or.inl rfl⟩, by decide +kernel⟩
theorem fl_X1_41 : FL RX1 41 0 16 (.array .byte) true := ⟨RX1, TX1, 39, tyX1, rfl, by decide, by decide, in_X1, tyX1_ok, nmX1, rfl, rfl, Or.inl ⟨RX1, q186, Or.inl rfl⟩, by decide +kernel⟩
theorem fl_X1_279 : FL RX1 279 0 17 .int false := ⟨RX1, TX1, 39, tyX1, rfl, by decide, by decide, in_X1, tyX1_ok, nmX1, rfl, rfl, Or.inl ⟨RX1, q188, Or.inl rfl⟩, by decide +kernel⟩
theorem fl_X1_48 : FL RX1 48 0 18 (.object "TourRooms$State") true := ⟨RX1, TX1, 39, tyX1, rfl, by decide, by decide, in_X1, tyX1_ok, nmX1, rfl, rfl, Or.inl ⟨RX1, q189, Or.inl rfl⟩, by decide +kernel⟩
theorem fl_X1_54 : FL RX1 54 0 19 (.array (.array .boolean)) true := ⟨RX1, TX1, 39, tyX1, rfl, by decide, by decide, in_X1, tyX1_ok, nmX1, rfl, rfl, Or.inl ⟨RX1, q190, Or.inl rfl⟩, by decide +kernel⟩
theorem fl_X1_59 : FL RX1 59 0 20 (.array (.array .int)) true := ⟨RX1, TX1, 39, tyX1, rfl, by decide, by decide, in_X1, tyX1_ok, nmX1, rfl, rfl, Or.inl ⟨RX1, q191, Or.inl rfl⟩, by decide +kernel⟩
theorem fl_X1_62 : FL RX1 62 0 21 (.array .int) true := ⟨RX1, TX1, 39, tyX1, rfl, by decide, by decide, in_X1, tyX1_ok, nmX1, rfl, rfl, Or.inl ⟨RX1, q192, Or.inl rfl⟩, by decide +kernel⟩
theorem fl_X1_67 : FL RX1 67 0 22 (.array (.array .long)) true := ⟨RX1, TX1, 39, tyX1, rfl, by decide, by decide, in_X1, tyX1_ok, nmX1, rfl, rfl, Or.inl ⟨RX1, q193, Or.inl rfl⟩, by decide +kernel⟩
theorem fl_X1_70 : FL RX1 70 0 23 (.array .int) true := ⟨RX1, TX1, 39, tyX1, rfl, by decide, by decide, in_X1, tyX1_ok, nmX1, rfl, rfl, Or.inl ⟨RX1, q194, Or.inl rfl⟩, by decide +kernel⟩
theorem fl_X1_75 : FL RX1 75 0 24 (.array (.array (.array .int))) true := ⟨RX1, TX1, 39, tyX1, rfl, by decide, by decide, in_X1, tyX1_ok, nmX1, rfl, rfl, Or.inl ⟨RX1, q195, Or.inl rfl⟩, by decide +kernel⟩
theorem fl_X1_368 : FL RX1 368 0 25 .int false := ⟨RX1, TX1, 39, tyX1, rfl, by decide, by decide, in_X1, tyX1_ok, nmX1, rfl, rfl, Or.inl ⟨RX1, q196, Or.inl rfl⟩, by decide +kernel⟩
theorem fl_X1_78 : FL RX1 78 0 26 (.array .int) true := ⟨RX1, TX1, 39, tyX1, rfl, by decide, by decide, in_X1, tyX1_ok, nmX1, rfl, rfl, Or.inl ⟨RX1, q197, Or.inl rfl⟩, by decide +kernel⟩
theorem fl_X1_81 : FL RX1 81 0 27 (.array .int) true := ⟨RX1, TX1, 39, tyX1, rfl, by decide, by decide, in_X1, tyX1_ok, nmX1, rfl, rfl, Or.inl ⟨RX1, q198, Or.inl rfl⟩, by decide +kernel⟩
theorem fl_X1_84 : FL RX1 84 0 28 (.array .int) true := ⟨RX1, TX1, 39, tyX1, rfl, by decide, by decide, in_X1, tyX1_ok, nmX1, rfl, rfl, Or.inl ⟨RX1, q199, Or.inl rfl⟩, by decide +kernel⟩
theorem fl_X1_87 : FL RX1 87 0 29 (.array (.array .int)) true := ⟨RX1, TX1, 39, tyX1, rfl, by decide, by decide, in_X1, tyX1_ok, nmX1, rfl, rfl, Or.inl ⟨RX1, q200, Or.inl rfl⟩, by decide +kernel⟩
theorem fl_X1_382 : FL RX1 382 0 30 .int false := ⟨RX1, TX1, 39, tyX1, rfl, by decide, by decide, in_X1, tyX1_ok, nmX1, rfl, rfl, Or.inl ⟨RX1, q201, Or.inl rfl⟩, by decide +kernel⟩
theorem fl_X1_90 : FL RX1 90 0 31 (.array .int) true := ⟨RX1, TX1, 39, tyX1, rfl, by decide, by decide, in_X1, tyX1_ok, nmX1, rfl, rfl, Or.inl ⟨RX1, q202, Or.inl rfl⟩, by decide +kernel⟩
theorem fl_X1_93 : FL RX1 93 0 32 (.array .int) true := ⟨RX1, TX1, 39, tyX1, rfl, by decide, by decide, in_X1, tyX1_ok, nmX1, rfl, rfl, Or.inl ⟨RX1, q203, Or.inl rfl⟩, by decide +kernel⟩
theorem fl_X1_96 : FL RX1 96 0 33 (.array .int) true := ⟨RX1, TX1, 39, tyX1, rfl, by decide, by decide, in_X1, tyX1_ok, nmX1, rfl, rfl, Or.inl ⟨RX1, q204, Or.inl rfl⟩, by decide +kernel⟩
theorem fl_X1_99 : FL RX1 99 0 34 (.array .int) true := ⟨RX1, TX1, 39, tyX1, rfl, by decide, by decide, in_X1, tyX1_ok, nmX1, rfl, rfl, Or.inl ⟨RX1, q205, Or.inl rfl⟩, by decide +kernel⟩
theorem fl_X1_102 : FL RX1 102 0 35 .int false := ⟨RX1, TX1, 39, tyX1, rfl, by decide, by decide, in_X1, tyX1_ok, nmX1, rfl, rfl, Or.inl ⟨RX1, q206, Or.inl rfl⟩, by decide +kernel⟩
theorem fl_X1_385 : FL RX1 385 0 36 .int false := ⟨RX1, TX1, 39, tyX1, rfl, by decide, by decide, in_X1, tyX1_ok, nmX1, rfl, rfl, Or.inl ⟨RX1, q207, Or.inl rfl⟩, by decide +kernel⟩
theorem fl_X1_388 : FL RX1 388 0 37 .int false := ⟨RX1, TX1, 39, tyX1, rfl, by decide, by decide, in_X1, tyX1_ok, nmX1, rfl, rfl, Or.inl ⟨RX1, q208, Or.inl rfl⟩, by decide +kernel⟩
theorem fl_X1_401 : FL RX1 401 0 38 .int false := ⟨RX1, TX1, 39, tyX1, rfl, by decide, by decide, in_X1, tyX1_ok, nmX1, rfl, rfl, Or.inl ⟨RX1, q209, Or.inl rfl⟩, by decide +kernel⟩
theorem lk_X1_108 : MS RX1 108 yX1_in cX1_in 3 ((some .boolean)) 3 := ⟨Or.inl (lw_S q295 q296 q86 q297), ⟨by decide, by decide, by decide +kernel⟩, by decide⟩
theorem lk_X1_131 : MI RX1 131 yX4_init cX4_init 8 7 := ⟨Or.inl q299, lw_meth q301, q300, q89, ⟨by decide, by decide, by decide +kernel⟩, rfl, by decide⟩
theorem fl_X1_425 : FL RX1 425 3 0 .int true := ⟨RX4, TX4, 11, tyX4, rfl, by decide, by decide, in_X4, tyX4_ok, nmX4, rfl, rfl, Or.inr ⟨"TourRooms", List.mem_of_getElem? (i := 5) rfl⟩, by decide +kernel⟩
theorem fl_X1_422 : FL RX1 422 3 1 .int true := ⟨RX4, TX4, 11, tyX4, rfl, by decide, by decide, in_X4, tyX4_ok, nmX4, rfl, rfl, Or.inr ⟨"TourRooms", List.mem_of_getElem? (i := 6) rfl⟩, by decide +kernel⟩
theorem fl_X1_416 : FL RX1 416 3 2 .int true := ⟨RX4, TX4, 11, tyX4, rfl, by decide, by decide, in_X4, tyX4_ok, nmX4, rfl, rfl, Or.inr ⟨"TourRooms", List.mem_of_getElem? (i := 7) rfl⟩, by decide +kernel⟩
theorem fl_X1_419 : FL RX1 419 3 3 .boolean true := ⟨RX4, TX4, 11, tyX4, rfl, by decide, by decide, in_X4, tyX4_ok, nmX4, rfl, rfl, Or.inr ⟨"TourRooms", List.mem_of_getElem? (i := 8) rfl⟩, by decide +kernel⟩
theorem fl_X1_211 : FL RX1 211 3 4 .boolean true := ⟨RX4, TX4, 11, tyX4, rfl, by decide, by decide, in_X4, tyX4_ok, nmX4, rfl, rfl, Or.inr ⟨"TourRooms", List.mem_of_getElem? (i := 9) rfl⟩, by decide +kernel⟩
theorem fl_X1_172 : FL RX1 172 3 5 .int false := ⟨RX4, TX4, 11, tyX4, rfl, by decide, by decide, in_X4, tyX4_ok, nmX4, rfl, rfl, Or.inr ⟨"TourRooms", List.mem_of_getElem? (i := 10) rfl⟩, by decide +kernel⟩
theorem fl_X1_175 : FL RX1 175 3 6 .int false := ⟨RX4, TX4, 11, tyX4, rfl, by decide, by decide, in_X4, tyX4_ok, nmX4, rfl, rfl, Or.inr ⟨"TourRooms", List.mem_of_getElem? (i := 11) rfl⟩, by decide +kernel⟩
theorem fl_X1_145 : FL RX1 145 3 7 .int false := ⟨RX4, TX4, 11, tyX4, rfl, by decide, by decide, in_X4, tyX4_ok, nmX4, rfl, rfl, Or.inr ⟨"TourRooms", List.mem_of_getElem? (i := 12) rfl⟩, by decide +kernel⟩
theorem fl_X1_410 : FL RX1 410 3 8 .int false := ⟨RX4, TX4, 11, tyX4, rfl, by decide, by decide, in_X4, tyX4_ok, nmX4, rfl, rfl, Or.inr ⟨"TourRooms", List.mem_of_getElem? (i := 13) rfl⟩, by decide +kernel⟩
theorem fl_X1_137 : FL RX1 137 3 9 .boolean false := ⟨RX4, TX4, 11, tyX4, rfl, by decide, by decide, in_X4, tyX4_ok, nmX4, rfl, rfl, Or.inr ⟨"TourRooms", List.mem_of_getElem? (i := 14) rfl⟩, by decide +kernel⟩
theorem fl_X1_141 : FL RX1 141 3 10 (.object "TourRooms$Person") false := ⟨RX4, TX4, 11, tyX4, rfl, by decide, by decide, in_X4, tyX4_ok, nmX4, rfl, rfl, Or.inr ⟨"TourRooms", List.mem_of_getElem? (i := 15) rfl⟩, by decide +kernel⟩
theorem lk_X1_134 : MV RX1 134 0 yX1_isPerson cX1_isPerson 2 ((some .boolean)) 1 := ⟨lw_V q351 q353 qs0 q86 q354, ⟨by decide, by decide, by decide +kernel⟩, by decide, ⟨_, rfl, rfl⟩, by decide⟩
theorem lk_X1_168 : MV RX1 168 0 yX1_leaves cX1_leaves 7 ((some .boolean)) 4 := ⟨lw_V q363 q365 qs1 q86 q366, ⟨by decide, by decide, by decide +kernel⟩, by decide, ⟨_, rfl, rfl⟩, by decide⟩
theorem lk_X1_160 : MV RX1 160 0 yX1_falls cX1_falls 6 ((some .boolean)) 5 := ⟨lw_V q367 q369 qs2 q86 q370, ⟨by decide, by decide, by decide +kernel⟩, by decide, ⟨_, rfl, rfl⟩, by decide⟩
theorem lk_X1_157 : MV RX1 157 0 yX1_isOver cX1_isOver 2 ((some .boolean)) 1 := ⟨lw_V q371 q373 qs3 q86 q374, ⟨by decide, by decide, by decide +kernel⟩, by decide, ⟨_, rfl, rfl⟩, by decide⟩
theorem lk_X1_164 : MV RX1 164 0 yX1_note cX1_note 4 none 3 := ⟨lw_V q375 q377 qs4 q86 q378, ⟨by decide, by decide, by decide +kernel⟩, by decide, ⟨_, rfl, rfl⟩, by decide⟩
theorem lk_X1_181 : MI RX1 181 yX5_init cX5_init 4 2 := ⟨Or.inl q392, lw_meth q394, q393, q90, ⟨by decide, by decide, by decide +kernel⟩, rfl, by decide⟩
theorem fl_X1_121 : FL RX1 121 4 0 .int true := ⟨RX5, TX5, 6, tyX5, rfl, by decide, by decide, in_X5, tyX5_ok, nmX5, rfl, rfl, Or.inr ⟨"TourRooms", List.mem_of_getElem? (i := 16) rfl⟩, by decide +kernel⟩
theorem fl_X1_118 : FL RX1 118 4 1 .int true := ⟨RX5, TX5, 6, tyX5, rfl, by decide, by decide, in_X5, tyX5_ok, nmX5, rfl, rfl, Or.inr ⟨"TourRooms", List.mem_of_getElem? (i := 17) rfl⟩, by decide +kernel⟩
theorem fl_X1_187 : FL RX1 187 4 2 (.array (.object "TourRooms$Room")) true := ⟨RX5, TX5, 6, tyX5, rfl, by decide, by decide, in_X5, tyX5_ok, nmX5, rfl, rfl, Or.inr ⟨"TourRooms", List.mem_of_getElem? (i := 18) rfl⟩, by decide +kernel⟩
theorem fl_X1_128 : FL RX1 128 4 3 .int false := ⟨RX5, TX5, 6, tyX5, rfl, by decide, by decide, in_X5, tyX5_ok, nmX5, rfl, rfl, Or.inr ⟨"TourRooms", List.mem_of_getElem? (i := 19) rfl⟩, by decide +kernel⟩
theorem fl_X1_148 : FL RX1 148 4 4 (.array .int) true := ⟨RX5, TX5, 6, tyX5, rfl, by decide, by decide, in_X5, tyX5_ok, nmX5, rfl, rfl, Or.inr ⟨"TourRooms", List.mem_of_getElem? (i := 20) rfl⟩, by decide +kernel⟩
theorem fl_X1_291 : FL RX1 291 4 5 (.object "java/util/ArrayList") false := ⟨RX5, TX5, 6, tyX5, rfl, by decide, by decide, in_X5, tyX5_ok, nmX5, rfl, rfl, Or.inr ⟨"TourRooms", List.mem_of_getElem? (i := 21) rfl⟩, by decide +kernel⟩
theorem lk_X1_124 : MV RX1 124 0 yX1_isTown cX1_isTown 2 ((some .boolean)) 1 := ⟨lw_V q467 q469 qs5 q86 q470, ⟨by decide, by decide, by decide +kernel⟩, by decide, ⟨_, rfl, rfl⟩, by decide⟩
theorem nl_X1_191 : NL RX1 191 5 4 := ⟨RX6, TX6, tyX6, rfl, by decide, in_X6, tyX6_ok, by decide +kernel, q471, q472, q94⟩
theorem lk_X1_193 : MI RX1 193 yX6_init cX6_init 4 3 := ⟨Or.inl q473, lw_meth q475, q474, q94, ⟨by decide, by decide, by decide +kernel⟩, rfl, by decide⟩
theorem fl_X1_205 : FL RX1 205 5 0 .int true := ⟨RX6, TX6, 4, tyX6, rfl, by decide, by decide, in_X6, tyX6_ok, nmX6, rfl, rfl, Or.inr ⟨"TourRooms", List.mem_of_getElem? (i := 22) rfl⟩, by decide +kernel⟩
theorem fl_X1_235 : FL RX1 235 5 1 .int true := ⟨RX6, TX6, 4, tyX6, rfl, by decide, by decide, in_X6, tyX6_ok, nmX6, rfl, rfl, Or.inr ⟨"TourRooms", List.mem_of_getElem? (i := 23) rfl⟩, by decide +kernel⟩
theorem fl_X1_214 : FL RX1 214 5 2 .boolean true := ⟨RX6, TX6, 4, tyX6, rfl, by decide, by decide, in_X6, tyX6_ok, nmX6, rfl, rfl, Or.inr ⟨"TourRooms", List.mem_of_getElem? (i := 24) rfl⟩, by decide +kernel⟩
theorem fl_X1_196 : FL RX1 196 5 3 .boolean false := ⟨RX6, TX6, 4, tyX6, rfl, by decide, by decide, in_X6, tyX6_ok, nmX6, rfl, rfl, Or.inr ⟨"TourRooms", List.mem_of_getElem? (i := 25) rfl⟩, by decide +kernel⟩
theorem lk_X1_219 : MV RX1 219 3 yX4_isThere cX4_isThere 2 ((some .boolean)) 1 := ⟨lw_V q500 q501 q502 q89 q503, ⟨by decide, by decide, by decide +kernel⟩, by decide, ⟨_, rfl, rfl⟩, by decide⟩
theorem lk_X1_222 : MV RX1 222 0 yX1_isRoom cX1_isRoom 3 ((some .boolean)) 2 := ⟨lw_V q505 q507 qs6 q86 q508, ⟨by decide, by decide, by decide +kernel⟩, by decide, ⟨_, rfl, rfl⟩, by decide⟩
theorem lk_X1_226 : MV RX1 226 4 yX5_inside cX5_inside 4 ((some .int)) 1 := ⟨lw_V q509 q510 q511 q90 q512, ⟨by decide, by decide, by decide +kernel⟩, by decide, ⟨_, rfl, rfl⟩, by decide⟩
theorem lk_X1_229 : MV RX1 229 0 yX1_joins cX1_joins 4 ((some .boolean)) 3 := ⟨lw_V q513 q515 qs7 q86 q516, ⟨by decide, by decide, by decide +kernel⟩, by decide, ⟨_, rfl, rfl⟩, by decide⟩
theorem lk_X1_199 : MS RX1 199 yJ3_bitCount cJ3_bitCount 1 ((some .int)) 1 := ⟨Or.inl (lw_S q517 q518 q95 q519), ⟨by decide, by decide, by decide +kernel⟩, by decide⟩
theorem lk_X1_208 : MS RX1 208 yJ3_numberOfTrailingZeros cJ3_numberOfTrailingZeros 2 ((some .int)) 1 := ⟨Or.inl (lw_S q523 q524 q95 q525), ⟨by decide, by decide, by decide +kernel⟩, by decide⟩
theorem lk_X1_215 : MV RX1 215 3 yX4_mayShare cX4_mayShare 2 ((some .boolean)) 1 := ⟨lw_V q527 q528 q529 q89 q530, ⟨by decide, by decide, by decide +kernel⟩, by decide, ⟨_, rfl, rfl⟩, by decide⟩
theorem lk_X1_255 : MV RX1 255 0 yX1_there cX1_there 4 ((some .int)) 1 := ⟨lw_V q535 q537 qs8 q86 q538, ⟨by decide, by decide, by decide +kernel⟩, by decide, ⟨_, rfl, rfl⟩, by decide⟩
theorem lk_X1_258 : MV RX1 258 0 yX1_best cX1_best 10 ((some .long)) 4 := ⟨lw_V q540 q542 qs9 q86 q543, ⟨by decide, by decide, by decide +kernel⟩, by decide, ⟨_, rfl, rfl⟩, by decide⟩
theorem lk_X1_242 : MV RX1 242 0 yX1_fits cX1_fits 6 ((some .boolean)) 2 := ⟨lw_V q544 q546 qs10 q86 q547, ⟨by decide, by decide, by decide +kernel⟩, by decide, ⟨_, rfl, rfl⟩, by decide⟩
theorem lk_X1_246 : MV RX1 246 0 yX1_price cX1_price 7 ((some .long)) 4 := ⟨lw_V q548 q550 qs11 q86 q551, ⟨by decide, by decide, by decide +kernel⟩, by decide, ⟨_, rfl, rfl⟩, by decide⟩
theorem lk_X1_249 : MS RX1 249 yJ4_min cJ4_min 4 ((some .long)) 2 := ⟨Or.inl (lw_S q554 q555 q96 q556), ⟨by decide, by decide, by decide +kernel⟩, by decide⟩
theorem lk_X1_261 : MV RX1 261 0 yX1_isBest cX1_isBest 6 ((some .boolean)) 5 := ⟨lw_V q557 q559 qs12 q86 q560, ⟨by decide, by decide, by decide +kernel⟩, by decide, ⟨_, rfl, rfl⟩, by decide⟩
theorem lk_X1_265 : MV RX1 265 4 yX5_cost cX5_cost 3 ((some .int)) 0 := ⟨lw_V q561 q562 q563 q90 q564, ⟨by decide, by decide, by decide +kernel⟩, by decide, ⟨_, rfl, rfl⟩, by decide⟩
theorem lk_X1_269 : MV RX1 269 0 yX1_mostOf cX1_mostOf 9 ((some .long)) 3 := ⟨lw_V q574 q576 qs13 q86 q577, ⟨by decide, by decide, by decide +kernel⟩, by decide, ⟨_, rfl, rfl⟩, by decide⟩
theorem lk_X1_273 : MS RX1 273 yJ4_max cJ4_max 4 ((some .long)) 2 := ⟨Or.inl (lw_S q578 q579 q96 q580), ⟨by decide, by decide, by decide +kernel⟩, by decide⟩
theorem lk_X1_276 : MV RX1 276 0 yX1_isRight cX1_isRight 5 ((some .boolean)) 1 := ⟨lw_V q585 q587 qs14 q86 q588, ⟨by decide, by decide, by decide +kernel⟩, by decide, ⟨_, rfl, rfl⟩, by decide⟩
theorem nl_X1_295 : NL RX1 295 7 7 := ⟨RX8, TX8, tyX8, rfl, by decide, in_X8, tyX8_ok, by decide +kernel, q601, q766, q106⟩
theorem nl_X1_282 : NL RX1 282 6 6 := ⟨RX7, TX7, tyX7, rfl, by decide, in_X7, tyX7_ok, by decide +kernel, q602, q603, q97⟩
theorem lk_X1_284 : MI RX1 284 yX7_init cX7_init 2 1 := ⟨Or.inr ⟨"TourRooms", List.mem_of_getElem? (i := 1) rfl⟩, lw_meth q606, q605, q97, ⟨by decide, by decide, by decide +kernel⟩, rfl, by decide⟩
theorem lk_X1_287 : MV RX1 287 6 yX7_whole cX7_whole 5 ((some (.object "java/util/ArrayList"))) 0 := ⟨lw_V q627 q628 q629 q97 q630, ⟨by decide, by decide, by decide +kernel⟩, by decide, ⟨_, rfl, rfl⟩, by decide⟩
theorem fl_X1_297 : FL RX1 297 7 6 .int true := ⟨RX8, TX8, 7, tyX8, rfl, by decide, by decide, in_X8, tyX8_ok, nmX8, rfl, rfl, Or.inr ⟨"TourRooms", List.mem_of_getElem? (i := 26) rfl⟩, by decide +kernel⟩
theorem fl_X1_311 : FL RX1 311 13 0 .int true := ⟨RX16, TX16, 3, tyX16, rfl, by decide, by decide, in_X16, tyX16_ok, nmX16, rfl, rfl, Or.inr ⟨"TourRooms", List.mem_of_getElem? (i := 27) rfl⟩, by decide +kernel⟩
theorem fl_X1_324 : FL RX1 324 13 1 (.object "TourRooms$Exp") true := ⟨RX16, TX16, 3, tyX16, rfl, by decide, by decide, in_X16, tyX16_ok, nmX16, rfl, rfl, Or.inr ⟨"TourRooms", List.mem_of_getElem? (i := 28) rfl⟩, by decide +kernel⟩
theorem fl_X1_314 : FL RX1 314 13 2 (.object "TourRooms$Exp") true := ⟨RX16, TX16, 3, tyX16, rfl, by decide, by decide, in_X16, tyX16_ok, nmX16, rfl, rfl, Or.inr ⟨"TourRooms", List.mem_of_getElem? (i := 29) rfl⟩, by decide +kernel⟩
theorem lk_X1_349 : MV RX1 349 0 yX1_lays cX1_lays 3 ((some (.object "TourRooms$Town"))) 1 := ⟨lw_V q1008 q1010 qs31 q86 q1011, ⟨by decide, by decide, by decide +kernel⟩, by decide, ⟨_, rfl, rfl⟩, by decide⟩
theorem lk_X1_335 : MV RX1 335 4 yX5_held cX5_held 3 ((some .int)) 0 := ⟨lw_V q1012 q1013 q1014 q90 q1015, ⟨by decide, by decide, by decide +kernel⟩, by decide, ⟨_, rfl, rfl⟩, by decide⟩
theorem lk_X1_339 : MV RX1 339 4 yX5_used cX5_used 3 ((some .int)) 0 := ⟨lw_V q1016 q1017 q1018 q90 q1019, ⟨by decide, by decide, by decide +kernel⟩, by decide, ⟨_, rfl, rfl⟩, by decide⟩
theorem lk_X1_344 : MV RX1 344 4 yX5_people cX5_people 3 ((some .int)) 0 := ⟨lw_V q1020 q1021 q1022 q90 q1023, ⟨by decide, by decide, by decide +kernel⟩, by decide, ⟨_, rfl, rfl⟩, by decide⟩
theorem lk_X1_353 : MV RX1 353 0 yX1_worthOf cX1_worthOf 5 ((some .int)) 2 := ⟨lw_V q1024 q1026 qs32 q86 q1027, ⟨by decide, by decide, by decide +kernel⟩, by decide, ⟨_, rfl, rfl⟩, by decide⟩
theorem lk_X1_300 : MV RX1 300 14 yJ2_size cJ2_size 1 ((some .int)) 0 := ⟨lw_V q1028 q835 q836 q93 q837, ⟨by decide, by decide, by decide +kernel⟩, by decide, ⟨_, rfl, rfl⟩, by decide⟩
theorem lk_X1_305 : MV RX1 305 14 yJ2_get cJ2_get 2 ((some (.object "java/lang/Object"))) 1 := ⟨lw_V q1029 q1030 q1031 q93 q1032, ⟨by decide, by decide, by decide +kernel⟩, by decide, ⟨_, rfl, rfl⟩, by decide⟩
theorem nl_X1_309 : NL RX1 309 13 3 := ⟨RX16, TX16, tyX16, rfl, by decide, in_X16, tyX16_ok, by decide +kernel, q1041, q929, q114⟩
theorem lk_X1_327 : MS RX1 327 yJ4_min_2 cJ4_min_2 2 ((some .int)) 2 := ⟨Or.inl (lw_S q1069 q687 q96 q688), ⟨by decide, by decide, by decide +kernel⟩, by decide⟩
theorem lk_X1_330 : MS RX1 330 yJ4_max_2 cJ4_max_2 2 ((some .int)) 2 := ⟨Or.inl (lw_S q1070 q684 q96 q685), ⟨by decide, by decide, by decide +kernel⟩, by decide⟩
theorem lk_X1_360 : MV RX1 360 0 yX1_costs cX1_costs 6 ((some .int)) 3 := ⟨lw_V q1075 q1077 qs33 q86 q1078, ⟨by decide, by decide, by decide +kernel⟩, by decide, ⟨_, rfl, rfl⟩, by decide⟩
theorem lk_X1_371 : MV RX1 371 0 yX1_isLoss cX1_isLoss 6 ((some .boolean)) 5 := ⟨lw_V q1087 q1089 qs34 q86 q1090, ⟨by decide, by decide, by decide +kernel⟩, by decide, ⟨_, rfl, rfl⟩, by decide⟩
theorem lk_X1_375 : MV RX1 375 0 yX1_lossOf cX1_lossOf 11 ((some .int)) 6 := ⟨lw_V q1091 q1093 qs35 q86 q1094, ⟨by decide, by decide, by decide +kernel⟩, by decide, ⟨_, rfl, rfl⟩, by decide⟩
theorem lk_X1_364 : MV RX1 364 0 yX1_worstOf cX1_worstOf 8 ((some .int)) 5 := ⟨lw_V q1095 q1097 qs36 q86 q1098, ⟨by decide, by decide, by decide +kernel⟩, by decide, ⟨_, rfl, rfl⟩, by decide⟩
theorem lk_X1_379 : MV RX1 379 0 yX1_loss cX1_loss 12 ((some .int)) 5 := ⟨lw_V q1103 q1084 q1085 q86 q1086, ⟨by decide, by decide, by decide +kernel⟩, by decide, ⟨_, rfl, rfl⟩, by decide⟩
theorem lk_X1_395 : MV RX1 395 0 yX1_goes cX1_goes 14 none 6 := ⟨lw_V q1120 q1122 qs37 q86 q1123, ⟨by decide, by decide, by decide +kernel⟩, by decide, ⟨_, rfl, rfl⟩, by decide⟩
theorem lk_X1_391 : MV RX1 391 0 yX1_home cX1_home 11 none 6 := ⟨lw_V q1124 q1126 qs38 q86 q1127, ⟨by decide, by decide, by decide +kernel⟩, by decide, ⟨_, rfl, rfl⟩, by decide⟩
theorem lk_X1_398 : MV RX1 398 0 yX1_isBetter cX1_isBetter 4 ((some .boolean)) 3 := ⟨lw_V q1128 q1130 qs39 q86 q1131, ⟨by decide, by decide, by decide +kernel⟩, by decide, ⟨_, rfl, rfl⟩, by decide⟩
theorem lk_X1_404 : MV RX1 404 0 yX1_townOfNight cX1_townOfNight 3 ((some .int)) 1 := ⟨lw_V q1140 q1142 qs40 q86 q1143, ⟨by decide, by decide, by decide +kernel⟩, by decide, ⟨_, rfl, rfl⟩, by decide⟩
theorem lk_X1_407 : MV RX1 407 0 yX1_billOf cX1_billOf 8 ((some .int)) 2 := ⟨lw_V q1144 q1146 qs41 q86 q1147, ⟨by decide, by decide, by decide +kernel⟩, by decide, ⟨_, rfl, rfl⟩, by decide⟩
theorem nl_X1_413 : NL RX1 413 15 6 := ⟨RJ16, TJ16, tyJ16, rfl, by decide, in_J16, tyJ16_ok, by decide +kernel, q1180, q1181, q119⟩
theorem lk_X1_415 : MI RX1 415 yJ16_init cJ16_init 1 0 := ⟨Or.inl q1189, lw_meth q1191, q1190, q119, ⟨by decide, by decide, by decide +kernel⟩, rfl, by decide⟩
theorem lk_X10_1 : MI RX10 1 yX9_init cX9_init 1 0 := ⟨Or.inr ⟨"TourRooms", List.mem_of_getElem? (i := 2) rfl⟩, lw_meth q861, q860, q107, ⟨by decide, by decide, by decide +kernel⟩, rfl, by decide⟩
theorem fl_X10_7 : FL RX10 7 8 0 .int true := ⟨RX10, TX10, 1, tyX10, rfl, by decide, by decide, in_X10, tyX10_ok, nmX10, rfl, rfl, Or.inl ⟨RX10, q863, Or.inl rfl⟩, by decide +kernel⟩
theorem fl_X11_13 : FL RX11 13 2 0 .int false := ⟨RX2, TX2, 5, tyX2, rfl, by decide, by decide, in_X2, tyX2_ok, nmX2, rfl, rfl, Or.inr ⟨"TourRooms", List.mem_of_getElem? (i := 30) rfl⟩, by decide +kernel⟩
theorem fl_X11_18 : FL RX11 18 2 1 .int false := ⟨RX2, TX2, 5, tyX2, rfl, by decide, by decide, in_X2, tyX2_ok, nmX2, rfl, rfl, Or.inr ⟨"TourRooms", List.mem_of_getElem? (i := 31) rfl⟩, by decide +kernel⟩
theorem fl_X11_21 : FL RX11 21 2 2 .int false := ⟨RX2, TX2, 5, tyX2, rfl, by decide, by decide, in_X2, tyX2_ok, nmX2, rfl, rfl, Or.inr ⟨"TourRooms", List.mem_of_getElem? (i := 32) rfl⟩, by decide +kernel⟩
theorem fl_X11_24 : FL RX11 24 2 3 .int false := ⟨RX2, TX2, 5, tyX2, rfl, by decide, by decide, in_X2, tyX2_ok, nmX2, rfl, rfl, Or.inr ⟨"TourRooms", List.mem_of_getElem? (i := 33) rfl⟩, by decide +kernel⟩
theorem fl_X11_27 : FL RX11 27 2 4 .int false := ⟨RX2, TX2, 5, tyX2, rfl, by decide, by decide, in_X2, tyX2_ok, nmX2, rfl, rfl, Or.inr ⟨"TourRooms", List.mem_of_getElem? (i := 34) rfl⟩, by decide +kernel⟩
theorem lk_X11_1 : MI RX11 1 yX9_init cX9_init 1 0 := ⟨Or.inr ⟨"TourRooms", List.mem_of_getElem? (i := 3) rfl⟩, lw_meth q861, q860, q107, ⟨by decide, by decide, by decide +kernel⟩, rfl, by decide⟩
theorem fl_X11_7 : FL RX11 7 9 0 .int true := ⟨RX11, TX11, 1, tyX11, rfl, by decide, by decide, in_X11, tyX11_ok, nmX11, rfl, rfl, Or.inl ⟨RX11, q874, Or.inl rfl⟩, by decide +kernel⟩
theorem lk_X12_1 : MI RX12 1 yX9_init cX9_init 1 0 := ⟨Or.inr ⟨"TourRooms", List.mem_of_getElem? (i := 4) rfl⟩, lw_meth q861, q860, q107, ⟨by decide, by decide, by decide +kernel⟩, rfl, by decide⟩
theorem lk_X13_1 : MI RX13 1 yX12_init cX12_init 3 2 := ⟨Or.inl q891, lw_meth q893, q892, q110, ⟨by decide, by decide, by decide +kernel⟩, rfl, by decide⟩
theorem fl_X13_7 : FL RX13 7 10 2 .boolean true := ⟨RX13, TX13, 3, tyX13, rfl, by decide, by decide, in_X13, tyX13_ok, nmX13, rfl, rfl, Or.inl ⟨RX13, q895, Or.inl rfl⟩, by decide +kernel⟩
theorem lk_X14_1 : MI RX14 1 yX12_init cX12_init 3 2 := ⟨Or.inl q910, lw_meth q893, q892, q110, ⟨by decide, by decide, by decide +kernel⟩, rfl, by decide⟩
theorem fl_X14_7 : FL RX14 7 11 2 .boolean true := ⟨RX14, TX14, 3, tyX14, rfl, by decide, by decide, in_X14, tyX14_ok, nmX14, rfl, rfl, Or.inl ⟨RX14, q911, Or.inl rfl⟩, by decide +kernel⟩
theorem lk_X15_1 : MI RX15 1 yX12_init cX12_init 3 2 := ⟨Or.inl q923, lw_meth q893, q892, q110, ⟨by decide, by decide, by decide +kernel⟩, rfl, by decide⟩
theorem fl_X16_7 : FL RX16 7 13 0 .int true := ⟨RX16, TX16, 3, tyX16, rfl, by decide, by decide, in_X16, tyX16_ok, nmX16, rfl, rfl, Or.inl ⟨RX16, q934, Or.inl rfl⟩, by decide +kernel⟩
theorem fl_X16_13 : FL RX16 13 13 1 (.object "TourRooms$Exp") true := ⟨RX16, TX16, 3, tyX16, rfl, by decide, by decide, in_X16, tyX16_ok, nmX16, rfl, rfl, Or.inl ⟨RX16, q936, Or.inl rfl⟩, by decide +kernel⟩
theorem fl_X16_17 : FL RX16 17 13 2 (.object "TourRooms$Exp") true := ⟨RX16, TX16, 3, tyX16, rfl, by decide, by decide, in_X16, tyX16_ok, nmX16, rfl, rfl, Or.inl ⟨RX16, q938, Or.inl rfl⟩, by decide +kernel⟩
theorem fl_X3_1 : FL RX3 1 1 0 .int false := ⟨RX3, TX3, 78, tyX3, rfl, by decide, by decide, in_X3, tyX3_ok, nmX3, rfl, rfl, Or.inl ⟨RX3, q1218, Or.inl rfl⟩, by decide +kernel⟩
theorem fl_X3_157 : FL RX3 157 1 1 .int false := ⟨RX3, TX3, 78, tyX3, rfl, by decide, by decide, in_X3, tyX3_ok, nmX3, rfl, rfl, Or.inl ⟨RX3, q1219, Or.inl rfl⟩, by decide +kernel⟩
theorem fl_X3_13 : FL RX3 13 1 2 (.array .boolean) true := ⟨RX3, TX3, 78, tyX3, rfl, by decide, by decide, in_X3, tyX3_ok, nmX3, rfl, rfl, Or.inl ⟨RX3, q1220, Or.inl rfl⟩, by decide +kernel⟩
theorem fl_X3_17 : FL RX3 17 1 3 (.array .int) true := ⟨RX3, TX3, 78, tyX3, rfl, by decide, by decide, in_X3, tyX3_ok, nmX3, rfl, rfl, Or.inl ⟨RX3, q1221, Or.inl rfl⟩, by decide +kernel⟩
theorem fl_X3_21 : FL RX3 21 1 4 (.array .boolean) true := ⟨RX3, TX3, 78, tyX3, rfl, by decide, by decide, in_X3, tyX3_ok, nmX3, rfl, rfl, Or.inl ⟨RX3, q1222, Or.inl rfl⟩, by decide +kernel⟩
theorem fl_X3_24 : FL RX3 24 1 5 (.array .int) true := ⟨RX3, TX3, 78, tyX3, rfl, by decide, by decide, in_X3, tyX3_ok, nmX3, rfl, rfl, Or.inl ⟨RX3, q1223, Or.inl rfl⟩, by decide +kernel⟩
theorem fl_X3_27 : FL RX3 27 1 6 (.array .int) true := ⟨RX3, TX3, 78, tyX3, rfl, by decide, by decide, in_X3, tyX3_ok, nmX3, rfl, rfl, Or.inl ⟨RX3, q1224, Or.inl rfl⟩, by decide +kernel⟩
theorem fl_X3_30 : FL RX3 30 1 7 (.array .int) true := ⟨RX3, TX3, 78, tyX3, rfl, by decide, by decide, in_X3, tyX3_ok, nmX3, rfl, rfl, Or.inl ⟨RX3, q1225, Or.inl rfl⟩, by decide +kernel⟩
theorem fl_X3_33 : FL RX3 33 1 8 (.array .boolean) true := ⟨RX3, TX3, 78, tyX3, rfl, by decide, by decide, in_X3, tyX3_ok, nmX3, rfl, rfl, Or.inl ⟨RX3, q1226, Or.inl rfl⟩, by decide +kernel⟩
theorem fl_X3_36 : FL RX3 36 1 9 (.array .int) true := ⟨RX3, TX3, 78, tyX3, rfl, by decide, by decide, in_X3, tyX3_ok, nmX3, rfl, rfl, Or.inl ⟨RX3, q1227, Or.inl rfl⟩, by decide +kernel⟩
theorem fl_X3_39 : FL RX3 39 1 10 (.array .boolean) true := ⟨RX3, TX3, 78, tyX3, rfl, by decide, by decide, in_X3, tyX3_ok, nmX3, rfl, rfl, Or.inl ⟨RX3, q1228, Or.inl rfl⟩, by decide +kernel⟩
theorem fl_X3_164 : FL RX3 164 1 11 .int false := ⟨RX3, TX3, 78, tyX3, rfl, by decide, by decide, in_X3, tyX3_ok, nmX3, rfl, rfl, Or.inl ⟨RX3, q1229, Or.inl rfl⟩, by decide +kernel⟩
theorem fl_X3_192 : FL RX3 192 1 12 .int false := ⟨RX3, TX3, 78, tyX3, rfl, by decide, by decide, in_X3, tyX3_ok, nmX3, rfl, rfl, Or.inl ⟨RX3, q1230, Or.inl rfl⟩, by decide +kernel⟩
theorem fl_X3_167 : FL RX3 167 1 13 .int false := ⟨RX3, TX3, 78, tyX3, rfl, by decide, by decide, in_X3, tyX3_ok, nmX3, rfl, rfl, Or.inl ⟨RX3, q1231, Or.inl rfl⟩, by decide +kernel⟩
theorem fl_X3_183 : FL RX3 183 1 14 .int false := ⟨RX3, TX3, 78, tyX3, rfl, by decide, by decide, in_X3, tyX3_ok, nmX3, rfl, rfl, Or.inl ⟨RX3, q1232, Or.inl rfl⟩, by decide +kernel⟩
theorem fl_X3_42 : FL RX3 42 1 15 .int false := ⟨RX3, TX3, 78, tyX3, rfl, by decide, by decide, in_X3, tyX3_ok, nmX3, rfl, rfl, Or.inl ⟨RX3, q1233, Or.inl rfl⟩, by decide +kernel⟩
theorem fl_X3_195 : FL RX3 195 1 16 .int false := ⟨RX3, TX3, 78, tyX3, rfl, by decide, by decide, in_X3, tyX3_ok, nmX3, rfl, rfl, Or.inl ⟨RX3, q1234, Or.inl rfl⟩, by decide +kernel⟩
theorem fl_X3_392 : FL RX3 392 1 17 .int false := ⟨RX3, TX3, 78, tyX3, rfl, by decide, by decide, in_X3, tyX3_ok, nmX3, rfl, rfl, Or.inl ⟨RX3, q1235, Or.inl rfl⟩, by decide +kernel⟩
theorem fl_X3_45 : FL RX3 45 1 18 (.array .int) true := ⟨RX3, TX3, 78, tyX3, rfl, by decide, by decide, in_X3, tyX3_ok, nmX3, rfl, rfl, Or.inl ⟨RX3, q1236, Or.inl rfl⟩, by decide +kernel⟩
theorem fl_X3_48 : FL RX3 48 1 19 (.array .int) true := ⟨RX3, TX3, 78, tyX3, rfl, by decide, by decide, in_X3, tyX3_ok, nmX3, rfl, rfl, Or.inl ⟨RX3, q1237, Or.inl rfl⟩, by decide +kernel⟩
theorem fl_X3_51 : FL RX3 51 1 20 (.array .int) true := ⟨RX3, TX3, 78, tyX3, rfl, by decide, by decide, in_X3, tyX3_ok, nmX3, rfl, rfl, Or.inl ⟨RX3, q1238, Or.inl rfl⟩, by decide +kernel⟩
theorem fl_X3_54 : FL RX3 54 1 21 (.array .int) true := ⟨RX3, TX3, 78, tyX3, rfl, by decide, by decide, in_X3, tyX3_ok, nmX3, rfl, rfl, Or.inl ⟨RX3, q1239, Or.inl rfl⟩, by decide +kernel⟩
theorem fl_X3_57 : FL RX3 57 1 22 (.array .boolean) true := ⟨RX3, TX3, 78, tyX3, rfl, by decide, by decide, in_X3, tyX3_ok, nmX3, rfl, rfl, Or.inl ⟨RX3, q1240, Or.inl rfl⟩, by decide +kernel⟩
theorem fl_X3_60 : FL RX3 60 1 23 (.array .int) true := ⟨RX3, TX3, 78, tyX3, rfl, by decide, by decide, in_X3, tyX3_ok, nmX3, rfl, rfl, Or.inl ⟨RX3, q1241, Or.inl rfl⟩, by decide +kernel⟩
theorem fl_X3_63 : FL RX3 63 1 24 (.array .boolean) true := ⟨RX3, TX3, 78, tyX3, rfl, by decide, by decide, in_X3, tyX3_ok, nmX3, rfl, rfl, Or.inl ⟨RX3, q1242, Or.inl rfl⟩, by decide +kernel⟩
theorem fl_X3_66 : FL RX3 66 1 25 (.array .int) true := ⟨RX3, TX3, 78, tyX3, rfl, by decide, by decide, in_X3, tyX3_ok, nmX3, rfl, rfl, Or.inl ⟨RX3, q1243, Or.inl rfl⟩, by decide +kernel⟩
theorem fl_X3_180 : FL RX3 180 1 26 .int false := ⟨RX3, TX3, 78, tyX3, rfl, by decide, by decide, in_X3, tyX3_ok, nmX3, rfl, rfl, Or.inl ⟨RX3, q1244, Or.inl rfl⟩, by decide +kernel⟩
theorem fl_X3_69 : FL RX3 69 1 27 (.array .int) true := ⟨RX3, TX3, 78, tyX3, rfl, by decide, by decide, in_X3, tyX3_ok, nmX3, rfl, rfl, Or.inl ⟨RX3, q1245, Or.inl rfl⟩, by decide +kernel⟩
theorem fl_X3_72 : FL RX3 72 1 28 (.array .int) true := ⟨RX3, TX3, 78, tyX3, rfl, by decide, by decide, in_X3, tyX3_ok, nmX3, rfl, rfl, Or.inl ⟨RX3, q1246, Or.inl rfl⟩, by decide +kernel⟩
theorem fl_X3_75 : FL RX3 75 1 29 (.array .int) true := ⟨RX3, TX3, 78, tyX3, rfl, by decide, by decide, in_X3, tyX3_ok, nmX3, rfl, rfl, Or.inl ⟨RX3, q1247, Or.inl rfl⟩, by decide +kernel⟩
theorem fl_X3_78 : FL RX3 78 1 30 (.array .boolean) true := ⟨RX3, TX3, 78, tyX3, rfl, by decide, by decide, in_X3, tyX3_ok, nmX3, rfl, rfl, Or.inl ⟨RX3, q1248, Or.inl rfl⟩, by decide +kernel⟩
theorem fl_X3_81 : FL RX3 81 1 31 (.array .int) true := ⟨RX3, TX3, 78, tyX3, rfl, by decide, by decide, in_X3, tyX3_ok, nmX3, rfl, rfl, Or.inl ⟨RX3, q1249, Or.inl rfl⟩, by decide +kernel⟩
theorem fl_X3_84 : FL RX3 84 1 32 (.array .int) true := ⟨RX3, TX3, 78, tyX3, rfl, by decide, by decide, in_X3, tyX3_ok, nmX3, rfl, rfl, Or.inl ⟨RX3, q1250, Or.inl rfl⟩, by decide +kernel⟩
theorem fl_X3_87 : FL RX3 87 1 33 (.array .int) true := ⟨RX3, TX3, 78, tyX3, rfl, by decide, by decide, in_X3, tyX3_ok, nmX3, rfl, rfl, Or.inl ⟨RX3, q1251, Or.inl rfl⟩, by decide +kernel⟩
theorem fl_X3_90 : FL RX3 90 1 34 (.array .int) true := ⟨RX3, TX3, 78, tyX3, rfl, by decide, by decide, in_X3, tyX3_ok, nmX3, rfl, rfl, Or.inl ⟨RX3, q1252, Or.inl rfl⟩, by decide +kernel⟩
theorem fl_X3_93 : FL RX3 93 1 35 (.array .int) true := ⟨RX3, TX3, 78, tyX3, rfl, by decide, by decide, in_X3, tyX3_ok, nmX3, rfl, rfl, Or.inl ⟨RX3, q1253, Or.inl rfl⟩, by decide +kernel⟩
theorem fl_X3_96 : FL RX3 96 1 36 (.array .int) true := ⟨RX3, TX3, 78, tyX3, rfl, by decide, by decide, in_X3, tyX3_ok, nmX3, rfl, rfl, Or.inl ⟨RX3, q1254, Or.inl rfl⟩, by decide +kernel⟩
theorem fl_X3_99 : FL RX3 99 1 37 .int false := ⟨RX3, TX3, 78, tyX3, rfl, by decide, by decide, in_X3, tyX3_ok, nmX3, rfl, rfl, Or.inl ⟨RX3, q1255, Or.inl rfl⟩, by decide +kernel⟩
theorem fl_X3_102 : FL RX3 102 1 38 (.array .int) true := ⟨RX3, TX3, 78, tyX3, rfl, by decide, by decide, in_X3, tyX3_ok, nmX3, rfl, rfl, Or.inl ⟨RX3, q1256, Or.inl rfl⟩, by decide +kernel⟩
theorem fl_X3_105 : FL RX3 105 1 39 (.array .boolean) true := ⟨RX3, TX3, 78, tyX3, rfl, by decide, by decide, in_X3, tyX3_ok, nmX3, rfl, rfl, Or.inl ⟨RX3, q1257, Or.inl rfl⟩, by decide +kernel⟩
theorem fl_X3_108 : FL RX3 108 1 40 (.array .byte) true := ⟨RX3, TX3, 78, tyX3, rfl, by decide, by decide, in_X3, tyX3_ok, nmX3, rfl, rfl, Or.inl ⟨RX3, q1258, Or.inl rfl⟩, by decide +kernel⟩
theorem fl_X3_246 : FL RX3 246 1 41 .int false := ⟨RX3, TX3, 78, tyX3, rfl, by decide, by decide, in_X3, tyX3_ok, nmX3, rfl, rfl, Or.inl ⟨RX3, q1259, Or.inl rfl⟩, by decide +kernel⟩
theorem fl_X3_112 : FL RX3 112 1 42 (.array .byte) true := ⟨RX3, TX3, 78, tyX3, rfl, by decide, by decide, in_X3, tyX3_ok, nmX3, rfl, rfl, Or.inl ⟨RX3, q1260, Or.inl rfl⟩, by decide +kernel⟩
theorem fl_X3_115 : FL RX3 115 1 43 (.array .int) true := ⟨RX3, TX3, 78, tyX3, rfl, by decide, by decide, in_X3, tyX3_ok, nmX3, rfl, rfl, Or.inl ⟨RX3, q1261, Or.inl rfl⟩, by decide +kernel⟩
theorem fl_X3_118 : FL RX3 118 1 44 (.array .int) true := ⟨RX3, TX3, 78, tyX3, rfl, by decide, by decide, in_X3, tyX3_ok, nmX3, rfl, rfl, Or.inl ⟨RX3, q1262, Or.inl rfl⟩, by decide +kernel⟩
theorem fl_X3_121 : FL RX3 121 1 45 (.array .byte) true := ⟨RX3, TX3, 78, tyX3, rfl, by decide, by decide, in_X3, tyX3_ok, nmX3, rfl, rfl, Or.inl ⟨RX3, q1263, Or.inl rfl⟩, by decide +kernel⟩
theorem fl_X3_252 : FL RX3 252 1 46 .int false := ⟨RX3, TX3, 78, tyX3, rfl, by decide, by decide, in_X3, tyX3_ok, nmX3, rfl, rfl, Or.inl ⟨RX3, q1264, Or.inl rfl⟩, by decide +kernel⟩
theorem fl_X3_249 : FL RX3 249 1 47 .int false := ⟨RX3, TX3, 78, tyX3, rfl, by decide, by decide, in_X3, tyX3_ok, nmX3, rfl, rfl, Or.inl ⟨RX3, q1265, Or.inl rfl⟩, by decide +kernel⟩
theorem fl_X3_255 : FL RX3 255 1 48 .int false := ⟨RX3, TX3, 78, tyX3, rfl, by decide, by decide, in_X3, tyX3_ok, nmX3, rfl, rfl, Or.inl ⟨RX3, q1266, Or.inl rfl⟩, by decide +kernel⟩
theorem fl_X3_262 : FL RX3 262 1 49 .int false := ⟨RX3, TX3, 78, tyX3, rfl, by decide, by decide, in_X3, tyX3_ok, nmX3, rfl, rfl, Or.inl ⟨RX3, q1267, Or.inl rfl⟩, by decide +kernel⟩
theorem fl_X3_303 : FL RX3 303 1 50 .int false := ⟨RX3, TX3, 78, tyX3, rfl, by decide, by decide, in_X3, tyX3_ok, nmX3, rfl, rfl, Or.inl ⟨RX3, q1268, Or.inl rfl⟩, by decide +kernel⟩
theorem fl_X3_294 : FL RX3 294 1 51 .int false := ⟨RX3, TX3, 78, tyX3, rfl, by decide, by decide, in_X3, tyX3_ok, nmX3, rfl, rfl, Or.inl ⟨RX3, q1269, Or.inl rfl⟩, by decide +kernel⟩
theorem fl_X3_297 : FL RX3 297 1 52 .int false := ⟨RX3, TX3, 78, tyX3, rfl, by decide, by decide, in_X3, tyX3_ok, nmX3, rfl, rfl, Or.inl ⟨RX3, q1270, Or.inl rfl⟩, by decide +kernel⟩
theorem fl_X3_258 : FL RX3 258 1 53 .long false := ⟨RX3, TX3, 78, tyX3, rfl, by decide, by decide, in_X3, tyX3_ok, nmX3, rfl, rfl, Or.inl ⟨RX3, q1271, Or.inl rfl⟩, by decide +kernel⟩
theorem fl_X3_322 : FL RX3 322 1 54 .int false := ⟨RX3, TX3, 78, tyX3, rfl, by decide, by decide, in_X3, tyX3_ok, nmX3, rfl, rfl, Or.inl ⟨RX3, q1272, Or.inl rfl⟩, by decide +kernel⟩
theorem fl_X3_327 : FL RX3 327 1 55 .int false := ⟨RX3, TX3, 78, tyX3, rfl, by decide, by decide, in_X3, tyX3_ok, nmX3, rfl, rfl, Or.inl ⟨RX3, q1273, Or.inl rfl⟩, by decide +kernel⟩
theorem fl_X3_332 : FL RX3 332 1 56 .int false := ⟨RX3, TX3, 78, tyX3, rfl, by decide, by decide, in_X3, tyX3_ok, nmX3, rfl, rfl, Or.inl ⟨RX3, q1274, Or.inl rfl⟩, by decide +kernel⟩
theorem fl_X3_337 : FL RX3 337 1 57 .int false := ⟨RX3, TX3, 78, tyX3, rfl, by decide, by decide, in_X3, tyX3_ok, nmX3, rfl, rfl, Or.inl ⟨RX3, q1275, Or.inl rfl⟩, by decide +kernel⟩
theorem fl_X3_361 : FL RX3 361 1 58 .int false := ⟨RX3, TX3, 78, tyX3, rfl, by decide, by decide, in_X3, tyX3_ok, nmX3, rfl, rfl, Or.inl ⟨RX3, q1276, Or.inl rfl⟩, by decide +kernel⟩
theorem fl_X3_364 : FL RX3 364 1 59 .int false := ⟨RX3, TX3, 78, tyX3, rfl, by decide, by decide, in_X3, tyX3_ok, nmX3, rfl, rfl, Or.inl ⟨RX3, q1277, Or.inl rfl⟩, by decide +kernel⟩
theorem fl_X3_124 : FL RX3 124 1 60 (.array .int) true := ⟨RX3, TX3, 78, tyX3, rfl, by decide, by decide, in_X3, tyX3_ok, nmX3, rfl, rfl, Or.inl ⟨RX3, q1278, Or.inl rfl⟩, by decide +kernel⟩
theorem fl_X3_127 : FL RX3 127 1 61 (.array .int) true := ⟨RX3, TX3, 78, tyX3, rfl, by decide, by decide, in_X3, tyX3_ok, nmX3, rfl, rfl, Or.inl ⟨RX3, q1279, Or.inl rfl⟩, by decide +kernel⟩
theorem fl_X3_395 : FL RX3 395 1 62 .int false := ⟨RX3, TX3, 78, tyX3, rfl, by decide, by decide, in_X3, tyX3_ok, nmX3, rfl, rfl, Or.inl ⟨RX3, q1280, Or.inl rfl⟩, by decide +kernel⟩
theorem fl_X3_405 : FL RX3 405 1 63 .int false := ⟨RX3, TX3, 78, tyX3, rfl, by decide, by decide, in_X3, tyX3_ok, nmX3, rfl, rfl, Or.inl ⟨RX3, q1281, Or.inl rfl⟩, by decide +kernel⟩
theorem fl_X3_130 : FL RX3 130 1 64 (.array .int) true := ⟨RX3, TX3, 78, tyX3, rfl, by decide, by decide, in_X3, tyX3_ok, nmX3, rfl, rfl, Or.inl ⟨RX3, q1282, Or.inl rfl⟩, by decide +kernel⟩
theorem fl_X3_133 : FL RX3 133 1 65 (.array .int) true := ⟨RX3, TX3, 78, tyX3, rfl, by decide, by decide, in_X3, tyX3_ok, nmX3, rfl, rfl, Or.inl ⟨RX3, q1283, Or.inl rfl⟩, by decide +kernel⟩
theorem fl_X3_136 : FL RX3 136 1 66 (.array .int) true := ⟨RX3, TX3, 78, tyX3, rfl, by decide, by decide, in_X3, tyX3_ok, nmX3, rfl, rfl, Or.inl ⟨RX3, q1284, Or.inl rfl⟩, by decide +kernel⟩
theorem fl_X3_139 : FL RX3 139 1 67 (.array .int) true := ⟨RX3, TX3, 78, tyX3, rfl, by decide, by decide, in_X3, tyX3_ok, nmX3, rfl, rfl, Or.inl ⟨RX3, q1285, Or.inl rfl⟩, by decide +kernel⟩
theorem fl_X3_142 : FL RX3 142 1 68 (.array .int) true := ⟨RX3, TX3, 78, tyX3, rfl, by decide, by decide, in_X3, tyX3_ok, nmX3, rfl, rfl, Or.inl ⟨RX3, q1286, Or.inl rfl⟩, by decide +kernel⟩
theorem fl_X3_145 : FL RX3 145 1 69 (.array .int) true := ⟨RX3, TX3, 78, tyX3, rfl, by decide, by decide, in_X3, tyX3_ok, nmX3, rfl, rfl, Or.inl ⟨RX3, q1287, Or.inl rfl⟩, by decide +kernel⟩
theorem fl_X3_428 : FL RX3 428 1 70 .boolean false := ⟨RX3, TX3, 78, tyX3, rfl, by decide, by decide, in_X3, tyX3_ok, nmX3, rfl, rfl, Or.inl ⟨RX3, q1288, Or.inl rfl⟩, by decide +kernel⟩
theorem fl_X3_416 : FL RX3 416 1 71 .int false := ⟨RX3, TX3, 78, tyX3, rfl, by decide, by decide, in_X3, tyX3_ok, nmX3, rfl, rfl, Or.inl ⟨RX3, q1289, Or.inl rfl⟩, by decide +kernel⟩
theorem fl_X3_419 : FL RX3 419 1 72 .int false := ⟨RX3, TX3, 78, tyX3, rfl, by decide, by decide, in_X3, tyX3_ok, nmX3, rfl, rfl, Or.inl ⟨RX3, q1290, Or.inl rfl⟩, by decide +kernel⟩
theorem fl_X3_422 : FL RX3 422 1 73 .int false := ⟨RX3, TX3, 78, tyX3, rfl, by decide, by decide, in_X3, tyX3_ok, nmX3, rfl, rfl, Or.inl ⟨RX3, q1291, Or.inl rfl⟩, by decide +kernel⟩
theorem fl_X3_425 : FL RX3 425 1 74 .int false := ⟨RX3, TX3, 78, tyX3, rfl, by decide, by decide, in_X3, tyX3_ok, nmX3, rfl, rfl, Or.inl ⟨RX3, q1292, Or.inl rfl⟩, by decide +kernel⟩
theorem fl_X3_148 : FL RX3 148 1 75 (.array .int) true := ⟨RX3, TX3, 78, tyX3, rfl, by decide, by decide, in_X3, tyX3_ok, nmX3, rfl, rfl, Or.inl ⟨RX3, q1293, Or.inl rfl⟩, by decide +kernel⟩
theorem fl_X3_151 : FL RX3 151 1 76 (.array .int) true := ⟨RX3, TX3, 78, tyX3, rfl, by decide, by decide, in_X3, tyX3_ok, nmX3, rfl, rfl, Or.inl ⟨RX3, q1294, Or.inl rfl⟩, by decide +kernel⟩
theorem fl_X3_154 : FL RX3 154 1 77 (.array .boolean) true := ⟨RX3, TX3, 78, tyX3, rfl, by decide, by decide, in_X3, tyX3_ok, nmX3, rfl, rfl, Or.inl ⟨RX3, q1295, Or.inl rfl⟩, by decide +kernel⟩
theorem lk_X3_160 : MS RX3 160 yX3_in cX3_in 3 ((some .boolean)) 3 := ⟨Or.inl (lw_S q1457 q1458 q88 q1459), ⟨by decide, by decide, by decide +kernel⟩, by decide⟩
theorem lk_X3_177 : MV RX3 177 1 yX3_isPerson cX3_isPerson 2 ((some .boolean)) 1 := ⟨lw_V q1464 q1466 qs42 q88 q1467, ⟨by decide, by decide, by decide +kernel⟩, by decide, ⟨_, rfl, rfl⟩, by decide⟩
theorem lk_X3_189 : MV RX3 189 1 yX3_leaves cX3_leaves 6 ((some .boolean)) 3 := ⟨lw_V q1476 q1478 qs43 q88 q1479, ⟨by decide, by decide, by decide +kernel⟩, by decide, ⟨_, rfl, rfl⟩, by decide⟩
theorem lk_X3_174 : MV RX3 174 1 yX3_isOver cX3_isOver 2 ((some .boolean)) 1 := ⟨lw_V q1480 q1482 qs44 q88 q1483, ⟨by decide, by decide, by decide +kernel⟩, by decide, ⟨_, rfl, rfl⟩, by decide⟩
theorem lk_X3_186 : MV RX3 186 1 yX3_notes cX3_notes 5 none 3 := ⟨lw_V q1484 q1486 qs45 q88 q1487, ⟨by decide, by decide, by decide +kernel⟩, by decide, ⟨_, rfl, rfl⟩, by decide⟩
theorem lk_X3_198 : MV RX3 198 1 yX3_isOpen cX3_isOpen 2 ((some .boolean)) 1 := ⟨lw_V q1516 q1518 qs46 q88 q1519, ⟨by decide, by decide, by decide +kernel⟩, by decide, ⟨_, rfl, rfl⟩, by decide⟩
theorem lk_X3_170 : MV RX3 170 1 yX3_isTown cX3_isTown 2 ((some .boolean)) 1 := ⟨lw_V q1520 q1522 qs47 q88 q1523, ⟨by decide, by decide, by decide +kernel⟩, by decide, ⟨_, rfl, rfl⟩, by decide⟩
theorem lk_X3_205 : MV RX3 205 1 yX3_isThere cX3_isThere 3 ((some .boolean)) 2 := ⟨lw_V q1528 q1530 qs48 q88 q1531, ⟨by decide, by decide, by decide +kernel⟩, by decide, ⟨_, rfl, rfl⟩, by decide⟩
theorem lk_X3_208 : MV RX3 208 1 yX3_isRoom cX3_isRoom 3 ((some .boolean)) 2 := ⟨lw_V q1532 q1534 qs49 q88 q1535, ⟨by decide, by decide, by decide +kernel⟩, by decide, ⟨_, rfl, rfl⟩, by decide⟩
theorem lk_X3_211 : MV RX3 211 1 yX3_setIn cX3_setIn 5 ((some .int)) 2 := ⟨lw_V q1536 q1538 qs50 q88 q1539, ⟨by decide, by decide, by decide +kernel⟩, by decide, ⟨_, rfl, rfl⟩, by decide⟩
theorem lk_X3_201 : MV RX3 201 1 yX3_mayShare cX3_mayShare 3 ((some .boolean)) 2 := ⟨lw_V q1540 q1542 qs51 q88 q1543, ⟨by decide, by decide, by decide +kernel⟩, by decide, ⟨_, rfl, rfl⟩, by decide⟩
theorem lk_X3_227 : MV RX3 227 1 yX3_findSets cX3_findSets 5 none 1 := ⟨lw_V q1548 q1550 qs52 q88 q1551, ⟨by decide, by decide, by decide +kernel⟩, by decide, ⟨_, rfl, rfl⟩, by decide⟩
theorem lk_X3_215 : MV RX3 215 1 yX3_there cX3_there 4 ((some .int)) 1 := ⟨lw_V q1552 q1554 qs53 q88 q1555, ⟨by decide, by decide, by decide +kernel⟩, by decide, ⟨_, rfl, rfl⟩, by decide⟩
theorem lk_X3_219 : MV RX3 219 1 yX3_mayBe cX3_mayBe 8 ((some .boolean)) 3 := ⟨lw_V q1556 q1558 qs54 q88 q1559, ⟨by decide, by decide, by decide +kernel⟩, by decide, ⟨_, rfl, rfl⟩, by decide⟩
theorem lk_X3_232 : MV RX3 232 1 yX3_weight cX3_weight 7 ((some .int)) 4 := ⟨lw_V q1561 q1563 qs55 q88 q1564, ⟨by decide, by decide, by decide +kernel⟩, by decide, ⟨_, rfl, rfl⟩, by decide⟩
theorem lk_X3_222 : MV RX3 222 1 yX3_movedBy cX3_movedBy 6 ((some .int)) 3 := ⟨lw_V q1565 q1567 qs56 q88 q1568, ⟨by decide, by decide, by decide +kernel⟩, by decide, ⟨_, rfl, rfl⟩, by decide⟩
theorem lk_X3_236 : MV RX3 236 1 yX3_takes cX3_takes 11 ((some .int)) 3 := ⟨lw_V q1570 q1572 qs57 q88 q1573, ⟨by decide, by decide, by decide +kernel⟩, by decide, ⟨_, rfl, rfl⟩, by decide⟩
theorem lk_X3_239 : MV RX3 239 1 yX3_isLeast cX3_isLeast 7 ((some .boolean)) 5 := ⟨lw_V q1574 q1576 qs58 q88 q1577, ⟨by decide, by decide, by decide +kernel⟩, by decide, ⟨_, rfl, rfl⟩, by decide⟩
theorem lk_X3_243 : MS RX3 243 yX3_sizeOf cX3_sizeOf 3 ((some .int)) 1 := ⟨Or.inl (lw_S q1586 q1587 q88 q1588), ⟨by decide, by decide, by decide +kernel⟩, by decide⟩
theorem lk_X3_372 : MV RX3 372 1 yX3_goes cX3_goes 5 none 1 := ⟨lw_V q1605 q1607 qs59 q88 q1608, ⟨by decide, by decide, by decide +kernel⟩, by decide, ⟨_, rfl, rfl⟩, by decide⟩
theorem lk_X3_309 : MV RX3 309 1 yX3_next cX3_next 1 none 0 := ⟨lw_V q1609 q1611 qs60 q88 q1612, ⟨by decide, by decide, by decide +kernel⟩, by decide, ⟨_, rfl, rfl⟩, by decide⟩
theorem lk_X3_265 : MV RX3 265 1 yX3_isSmall cX3_isSmall 1 ((some .boolean)) 0 := ⟨lw_V q1613 q1615 qs61 q88 q1616, ⟨by decide, by decide, by decide +kernel⟩, by decide, ⟨_, rfl, rfl⟩, by decide⟩
theorem lk_X3_273 : MV RX3 273 1 yX3_isDigit cX3_isDigit 1 ((some .boolean)) 0 := ⟨lw_V q1619 q1621 qs62 q88 q1622, ⟨by decide, by decide, by decide +kernel⟩, by decide, ⟨_, rfl, rfl⟩, by decide⟩
theorem lk_X3_367 : MV RX3 367 1 yX3_kindHere cX3_kindHere 1 ((some .int)) 0 := ⟨lw_V q1632 q1634 qs63 q88 q1635, ⟨by decide, by decide, by decide +kernel⟩, by decide, ⟨_, rfl, rfl⟩, by decide⟩
theorem lk_X3_318 : MV RX3 318 1 yX3_isWord cX3_isWord 3 ((some .boolean)) 1 := ⟨lw_V q1637 q1639 qs64 q88 q1640, ⟨by decide, by decide, by decide +kernel⟩, by decide, ⟨_, rfl, rfl⟩, by decide⟩
theorem lk_X3_306 : MV RX3 306 1 yX3_wrong cX3_wrong 2 none 1 := ⟨lw_V q1644 q1646 qs65 q88 q1647, ⟨by decide, by decide, by decide +kernel⟩, by decide, ⟨_, rfl, rfl⟩, by decide⟩
theorem lk_X3_312 : MV RX3 312 1 yX3_whole cX3_whole 3 ((some .int)) 0 := ⟨lw_V q1648 q1650 qs66 q88 q1651, ⟨by decide, by decide, by decide +kernel⟩, by decide, ⟨_, rfl, rfl⟩, by decide⟩
theorem lk_X3_348 : MV RX3 348 1 yX3_test cX3_test 4 ((some .int)) 0 := ⟨lw_V q1652 q1654 qs67 q88 q1655, ⟨by decide, by decide, by decide +kernel⟩, by decide, ⟨_, rfl, rfl⟩, by decide⟩
theorem lk_X3_345 : MV RX3 345 1 yX3_sum cX3_sum 4 ((some .int)) 0 := ⟨lw_V q1656 q1658 qs68 q88 q1659, ⟨by decide, by decide, by decide +kernel⟩, by decide, ⟨_, rfl, rfl⟩, by decide⟩
theorem lk_X3_342 : MV RX3 342 1 yX3_part cX3_part 2 ((some .int)) 0 := ⟨lw_V q1660 q1662 qs69 q88 q1663, ⟨by decide, by decide, by decide +kernel⟩, by decide, ⟨_, rfl, rfl⟩, by decide⟩
theorem lk_X3_300 : MV RX3 300 1 yX3_isSign cX3_isSign 2 ((some .boolean)) 1 := ⟨lw_V q1664 q1666 qs70 q88 q1667, ⟨by decide, by decide, by decide +kernel⟩, by decide, ⟨_, rfl, rfl⟩, by decide⟩
theorem lk_X3_387 : MV RX3 387 1 yX3_now cX3_now 3 ((some .int)) 2 := ⟨lw_V q1679 q1681 qs71 q88 q1682, ⟨by decide, by decide, by decide +kernel⟩, by decide, ⟨_, rfl, rfl⟩, by decide⟩
theorem lk_X3_375 : MV RX3 375 1 yX3_heldIn cX3_heldIn 4 ((some .int)) 1 := ⟨lw_V q1683 q1685 qs72 q88 q1686, ⟨by decide, by decide, by decide +kernel⟩, by decide, ⟨_, rfl, rfl⟩, by decide⟩
theorem lk_X3_378 : MV RX3 378 1 yX3_usedIn cX3_usedIn 4 ((some .int)) 1 := ⟨lw_V q1687 q1689 qs73 q88 q1690, ⟨by decide, by decide, by decide +kernel⟩, by decide, ⟨_, rfl, rfl⟩, by decide⟩
theorem lk_X3_381 : MV RX3 381 1 yX3_peopleIn cX3_peopleIn 4 ((some .int)) 1 := ⟨lw_V q1691 q1693 qs74 q88 q1694, ⟨by decide, by decide, by decide +kernel⟩, by decide, ⟨_, rfl, rfl⟩, by decide⟩
theorem lk_X3_384 : MV RX3 384 1 yX3_told cX3_told 4 ((some .int)) 2 := ⟨lw_V q1695 q1697 qs75 q88 q1698, ⟨by decide, by decide, by decide +kernel⟩, by decide, ⟨_, rfl, rfl⟩, by decide⟩
theorem lk_X3_390 : MV RX3 390 1 yX3_part_2 cX3_part_2 4 ((some .int)) 3 := ⟨lw_V q1703 q1705 qs76 q88 q1706, ⟨by decide, by decide, by decide +kernel⟩, by decide, ⟨_, rfl, rfl⟩, by decide⟩
theorem lk_X3_398 : MV RX3 398 1 yX3_isLoss cX3_isLoss 6 ((some .boolean)) 5 := ⟨lw_V q1715 q1717 qs77 q88 q1718, ⟨by decide, by decide, by decide +kernel⟩, by decide, ⟨_, rfl, rfl⟩, by decide⟩
theorem lk_X3_401 : MV RX3 401 1 yX3_losses cX3_losses 16 none 5 := ⟨lw_V q1719 q1721 qs78 q88 q1722, ⟨by decide, by decide, by decide +kernel⟩, by decide, ⟨_, rfl, rfl⟩, by decide⟩
theorem lk_X3_412 : MV RX3 412 1 yX3_goesOn cX3_goesOn 15 none 7 := ⟨lw_V q1743 q1745 qs79 q88 q1746, ⟨by decide, by decide, by decide +kernel⟩, by decide, ⟨_, rfl, rfl⟩, by decide⟩
theorem lk_X3_408 : MV RX3 408 1 yX3_home cX3_home 11 none 6 := ⟨lw_V q1747 q1749 qs80 q88 q1750, ⟨by decide, by decide, by decide +kernel⟩, by decide, ⟨_, rfl, rfl⟩, by decide⟩
theorem lk_X3_432 : MV RX3 432 1 yX3_townAt cX3_townAt 3 ((some .int)) 1 := ⟨lw_V q1759 q1761 qs81 q88 q1762, ⟨by decide, by decide, by decide +kernel⟩, by decide, ⟨_, rfl, rfl⟩, by decide⟩
theorem lk_X3_435 : MV RX3 435 1 yX3_right cX3_right 3 ((some .boolean)) 1 := ⟨lw_V q1763 q1590 q1591 q88 q1592, ⟨by decide, by decide, by decide +kernel⟩, by decide, ⟨_, rfl, rfl⟩, by decide⟩
theorem lk_X3_438 : MV RX3 438 1 yX3_billOf cX3_billOf 7 ((some .int)) 1 := ⟨lw_V q1764 q1766 qs82 q88 q1767, ⟨by decide, by decide, by decide +kernel⟩, by decide, ⟨_, rfl, rfl⟩, by decide⟩
theorem lk_X3_441 : MV RX3 441 1 yX3_owes cX3_owes 5 none 4 := ⟨lw_V q1768 q1770 qs83 q88 q1771, ⟨by decide, by decide, by decide +kernel⟩, by decide, ⟨_, rfl, rfl⟩, by decide⟩
theorem lk_X3_445 : MV RX3 445 1 yX3_costOf cX3_costOf 4 ((some .int)) 1 := ⟨lw_V q1792 q1794 qs84 q88 q1795, ⟨by decide, by decide, by decide +kernel⟩, by decide, ⟨_, rfl, rfl⟩, by decide⟩
theorem fl_X4_7 : FL RX4 7 3 0 .int true := ⟨RX4, TX4, 11, tyX4, rfl, by decide, by decide, in_X4, tyX4_ok, nmX4, rfl, rfl, Or.inl ⟨RX4, q303, Or.inl rfl⟩, by decide +kernel⟩
theorem fl_X4_17 : FL RX4 17 3 1 .int true := ⟨RX4, TX4, 11, tyX4, rfl, by decide, by decide, in_X4, tyX4_ok, nmX4, rfl, rfl, Or.inl ⟨RX4, q305, Or.inl rfl⟩, by decide +kernel⟩
theorem fl_X4_23 : FL RX4 23 3 2 .int true := ⟨RX4, TX4, 11, tyX4, rfl, by decide, by decide, in_X4, tyX4_ok, nmX4, rfl, rfl, Or.inl ⟨RX4, q307, Or.inl rfl⟩, by decide +kernel⟩
theorem fl_X4_13 : FL RX4 13 3 3 .boolean true := ⟨RX4, TX4, 11, tyX4, rfl, by decide, by decide, in_X4, tyX4_ok, nmX4, rfl, rfl, Or.inl ⟨RX4, q309, Or.inl rfl⟩, by decide +kernel⟩
theorem fl_X4_20 : FL RX4 20 3 4 .boolean true := ⟨RX4, TX4, 11, tyX4, rfl, by decide, by decide, in_X4, tyX4_ok, nmX4, rfl, rfl, Or.inl ⟨RX4, q311, Or.inl rfl⟩, by decide +kernel⟩
theorem fl_X4_26 : FL RX4 26 3 5 .int false := ⟨RX4, TX4, 11, tyX4, rfl, by decide, by decide, in_X4, tyX4_ok, nmX4, rfl, rfl, Or.inl ⟨RX4, q313, Or.inl rfl⟩, by decide +kernel⟩
theorem fl_X4_29 : FL RX4 29 3 6 .int false := ⟨RX4, TX4, 11, tyX4, rfl, by decide, by decide, in_X4, tyX4_ok, nmX4, rfl, rfl, Or.inl ⟨RX4, q315, Or.inl rfl⟩, by decide +kernel⟩
theorem fl_X4_45 : FL RX4 45 3 7 .int false := ⟨RX4, TX4, 11, tyX4, rfl, by decide, by decide, in_X4, tyX4_ok, nmX4, rfl, rfl, Or.inl ⟨RX4, q317, Or.inl rfl⟩, by decide +kernel⟩
theorem fl_X4_32 : FL RX4 32 3 9 .boolean false := ⟨RX4, TX4, 11, tyX4, rfl, by decide, by decide, in_X4, tyX4_ok, nmX4, rfl, rfl, Or.inl ⟨RX4, q320, Or.inl rfl⟩, by decide +kernel⟩
theorem fl_X4_41 : FL RX4 41 3 10 (.object "TourRooms$Person") false := ⟨RX4, TX4, 11, tyX4, rfl, by decide, by decide, in_X4, tyX4_ok, nmX4, rfl, rfl, Or.inl ⟨RX4, q322, Or.inl rfl⟩, by decide +kernel⟩
theorem lk_X4_35 : MS RX4 35 yX1_in cX1_in 3 ((some .boolean)) 3 := ⟨Or.inr ⟨lw_meth q297, ⟨"TourRooms", List.mem_of_getElem? (i := 5) rfl⟩, q296, q86⟩, ⟨by decide, by decide, by decide +kernel⟩, by decide⟩
theorem nl_X5_9 : NL RX5 9 5 4 := ⟨RX6, TX6, tyX6, rfl, by decide, in_X6, tyX6_ok, by decide +kernel, q396, q472, q94⟩
theorem nl_X5_21 : NL RX5 21 14 3 := ⟨RJ2, TJ2, tyJ2, rfl, by decide, in_J2, tyJ2_ok, by decide +kernel, q398, q399, q93⟩
theorem lk_X5_23 : MI RX5 23 yJ2_init cJ2_init 2 1 := ⟨Or.inl q400, lw_meth q402, q401, q93, ⟨by decide, by decide, by decide +kernel⟩, rfl, by decide⟩
theorem fl_X5_30 : FL RX5 30 4 0 .int true := ⟨RX5, TX5, 6, tyX5, rfl, by decide, by decide, in_X5, tyX5_ok, nmX5, rfl, rfl, Or.inl ⟨RX5, q426, Or.inl rfl⟩, by decide +kernel⟩
theorem fl_X5_34 : FL RX5 34 4 1 .int true := ⟨RX5, TX5, 6, tyX5, rfl, by decide, by decide, in_X5, tyX5_ok, nmX5, rfl, rfl, Or.inl ⟨RX5, q428, Or.inl rfl⟩, by decide +kernel⟩
theorem fl_X5_11 : FL RX5 11 4 2 (.array (.object "TourRooms$Room")) true := ⟨RX5, TX5, 6, tyX5, rfl, by decide, by decide, in_X5, tyX5_ok, nmX5, rfl, rfl, Or.inl ⟨RX5, q430, Or.inl rfl⟩, by decide +kernel⟩
theorem fl_X5_37 : FL RX5 37 4 3 .int false := ⟨RX5, TX5, 6, tyX5, rfl, by decide, by decide, in_X5, tyX5_ok, nmX5, rfl, rfl, Or.inl ⟨RX5, q432, Or.inl rfl⟩, by decide +kernel⟩
theorem fl_X5_17 : FL RX5 17 4 4 (.array .int) true := ⟨RX5, TX5, 6, tyX5, rfl, by decide, by decide, in_X5, tyX5_ok, nmX5, rfl, rfl, Or.inl ⟨RX5, q434, Or.inl rfl⟩, by decide +kernel⟩
theorem fl_X5_26 : FL RX5 26 4 5 (.object "java/util/ArrayList") false := ⟨RX5, TX5, 6, tyX5, rfl, by decide, by decide, in_X5, tyX5_ok, nmX5, rfl, rfl, Or.inl ⟨RX5, q436, Or.inl rfl⟩, by decide +kernel⟩
theorem fl_X5_48 : FL RX5 48 5 1 .int true := ⟨RX6, TX6, 4, tyX6, rfl, by decide, by decide, in_X6, tyX6_ok, nmX6, rfl, rfl, Or.inr ⟨"TourRooms", List.mem_of_getElem? (i := 35) rfl⟩, by decide +kernel⟩
theorem fl_X5_40 : FL RX5 40 5 3 .boolean false := ⟨RX6, TX6, 4, tyX6, rfl, by decide, by decide, in_X6, tyX6_ok, nmX6, rfl, rfl, Or.inr ⟨"TourRooms", List.mem_of_getElem? (i := 36) rfl⟩, by decide +kernel⟩
theorem lk_X5_44 : MV RX5 44 4 yX5_inside cX5_inside 4 ((some .int)) 1 := ⟨lw_V q565 q510 q511 q90 q512, ⟨by decide, by decide, by decide +kernel⟩, by decide, ⟨_, rfl, rfl⟩, by decide⟩
theorem fl_X6_13 : FL RX6 13 5 0 .int true := ⟨RX6, TX6, 4, tyX6, rfl, by decide, by decide, in_X6, tyX6_ok, nmX6, rfl, rfl, Or.inl ⟨RX6, q477, Or.inl rfl⟩, by decide +kernel⟩
theorem fl_X6_20 : FL RX6 20 5 1 .int true := ⟨RX6, TX6, 4, tyX6, rfl, by decide, by decide, in_X6, tyX6_ok, nmX6, rfl, rfl, Or.inl ⟨RX6, q479, Or.inl rfl⟩, by decide +kernel⟩
theorem fl_X6_17 : FL RX6 17 5 2 .boolean true := ⟨RX6, TX6, 4, tyX6, rfl, by decide, by decide, in_X6, tyX6_ok, nmX6, rfl, rfl, Or.inl ⟨RX6, q482, Or.inl rfl⟩, by decide +kernel⟩
theorem fl_X6_7 : FL RX6 7 5 3 .boolean false := ⟨RX6, TX6, 4, tyX6, rfl, by decide, by decide, in_X6, tyX6_ok, nmX6, rfl, rfl, Or.inl ⟨RX6, q484, Or.inl rfl⟩, by decide +kernel⟩
theorem fl_X7_19 : FL RX7 19 0 16 (.array .byte) true := ⟨RX1, TX1, 39, tyX1, rfl, by decide, by decide, in_X1, tyX1_ok, nmX1, rfl, rfl, Or.inr ⟨"TourRooms", List.mem_of_getElem? (i := 37) rfl⟩, by decide +kernel⟩
theorem fl_X7_15 : FL RX7 15 0 17 .int false := ⟨RX1, TX1, 39, tyX1, rfl, by decide, by decide, in_X1, tyX1_ok, nmX1, rfl, rfl, Or.inr ⟨"TourRooms", List.mem_of_getElem? (i := 38) rfl⟩, by decide +kernel⟩
theorem fl_X7_23 : FL RX7 23 6 0 .int false := ⟨RX7, TX7, 6, tyX7, rfl, by decide, by decide, in_X7, tyX7_ok, nmX7, rfl, rfl, Or.inl ⟨RX7, q608, Or.inl rfl⟩, by decide +kernel⟩
theorem fl_X7_30 : FL RX7 30 6 1 .int false := ⟨RX7, TX7, 6, tyX7, rfl, by decide, by decide, in_X7, tyX7_ok, nmX7, rfl, rfl, Or.inl ⟨RX7, q609, Or.inl rfl⟩, by decide +kernel⟩
theorem fl_X7_33 : FL RX7 33 6 2 .int false := ⟨RX7, TX7, 6, tyX7, rfl, by decide, by decide, in_X7, tyX7_ok, nmX7, rfl, rfl, Or.inl ⟨RX7, q610, Or.inl rfl⟩, by decide +kernel⟩
theorem fl_X7_43 : FL RX7 43 6 3 .int false := ⟨RX7, TX7, 6, tyX7, rfl, by decide, by decide, in_X7, tyX7_ok, nmX7, rfl, rfl, Or.inl ⟨RX7, q611, Or.inl rfl⟩, by decide +kernel⟩
theorem fl_X7_141 : FL RX7 141 6 4 .int false := ⟨RX7, TX7, 6, tyX7, rfl, by decide, by decide, in_X7, tyX7_ok, nmX7, rfl, rfl, Or.inl ⟨RX7, q612, Or.inl rfl⟩, by decide +kernel⟩
theorem fl_X7_3 : FL RX7 3 6 5 (.object "TourRooms") true := ⟨RX7, TX7, 6, tyX7, rfl, by decide, by decide, in_X7, tyX7_ok, nmX7, rfl, rfl, Or.inl ⟨RX7, q613, Or.inl rfl⟩, by decide +kernel⟩
theorem nl_X7_76 : NL RX7 76 14 3 := ⟨RJ2, TJ2, tyJ2, rfl, by decide, in_J2, tyJ2_ok, by decide +kernel, q631, q399, q93⟩
theorem lk_X7_78 : MI RX7 78 yJ2_init_2 cJ2_init_2 1 0 := ⟨Or.inl q632, lw_meth q634, q633, q93, ⟨by decide, by decide, by decide +kernel⟩, rfl, by decide⟩
theorem lk_X7_73 : MV RX7 73 6 yX7_next cX7_next 2 none 0 := ⟨lw_V q637 q639 qs15 q97 q640, ⟨by decide, by decide, by decide +kernel⟩, by decide, ⟨_, rfl, rfl⟩, by decide⟩
theorem lk_X7_26 : MV RX7 26 6 yX7_at cX7_at 2 ((some .int)) 1 := ⟨lw_V q641 q643 qs16 q97 q644, ⟨by decide, by decide, by decide +kernel⟩, by decide, ⟨_, rfl, rfl⟩, by decide⟩
theorem lk_X7_36 : MV RX7 36 6 yX7_isLetter cX7_isLetter 2 ((some .boolean)) 1 := ⟨lw_V q645 q647 qs17 q97 q648, ⟨by decide, by decide, by decide +kernel⟩, by decide, ⟨_, rfl, rfl⟩, by decide⟩
theorem lk_X7_40 : MV RX7 40 6 yX7_isDigit cX7_isDigit 2 ((some .boolean)) 1 := ⟨lw_V q649 q651 qs18 q97 q652, ⟨by decide, by decide, by decide +kernel⟩, by decide, ⟨_, rfl, rfl⟩, by decide⟩
theorem lk_X7_81 : MV RX7 81 6 yX7_which cX7_which 7 ((some .int)) 1 := ⟨lw_V q654 q656 qs19 q97 q657, ⟨by decide, by decide, by decide +kernel⟩, by decide, ⟨_, rfl, rfl⟩, by decide⟩
theorem lk_X7_69 : MV RX7 69 6 yX7_wrong cX7_wrong 2 ((some (.object "TourRooms$Wrong"))) 1 := ⟨lw_V q761 q763 qs20 q97 q764, ⟨by decide, by decide, by decide +kernel⟩, by decide, ⟨_, rfl, rfl⟩, by decide⟩
theorem nl_X7_60 : NL RX7 60 7 7 := ⟨RX8, TX8, tyX8, rfl, by decide, in_X8, tyX8_ok, by decide +kernel, q765, q766, q106⟩
theorem lk_X7_62 : MI RX7 62 yX8_init cX8_init 3 2 := ⟨Or.inl q805, lw_meth q807, q806, q106, ⟨by decide, by decide, by decide +kernel⟩, rfl, by decide⟩
theorem lk_X7_85 : MV RX7 85 14 yJ2_size cJ2_size 1 ((some .int)) 0 := ⟨lw_V q834 q835 q836 q93 q837, ⟨by decide, by decide, by decide +kernel⟩, by decide, ⟨_, rfl, rfl⟩, by decide⟩
theorem lk_X7_88 : MV RX7 88 6 yX7_e cX7_e 2 ((some (.object "TourRooms$Exp"))) 0 := ⟨lw_V q838 q840 qs22 q97 q841, ⟨by decide, by decide, by decide +kernel⟩, by decide, ⟨_, rfl, rfl⟩, by decide⟩
theorem lk_X7_107 : MV RX7 107 6 yX7_test cX7_test 3 ((some (.object "TourRooms$Exp"))) 0 := ⟨lw_V q842 q844 qs23 q97 q845, ⟨by decide, by decide, by decide +kernel⟩, by decide, ⟨_, rfl, rfl⟩, by decide⟩
theorem lk_X7_117 : MV RX7 117 6 yX7_sum cX7_sum 3 ((some (.object "TourRooms$Exp"))) 0 := ⟨lw_V q846 q848 qs24 q97 q849, ⟨by decide, by decide, by decide +kernel⟩, by decide, ⟨_, rfl, rfl⟩, by decide⟩
theorem lk_X7_125 : MV RX7 125 6 yX7_part cX7_part 3 ((some (.object "TourRooms$Exp"))) 0 := ⟨lw_V q850 q852 qs25 q97 q853, ⟨by decide, by decide, by decide +kernel⟩, by decide, ⟨_, rfl, rfl⟩, by decide⟩
theorem nl_X7_131 : NL RX7 131 8 1 := ⟨RX10, TX10, tyX10, rfl, by decide, in_X10, tyX10_ok, by decide +kernel, q854, q855, q108⟩
theorem lk_X7_133 : MI RX7 133 yX10_init cX10_init 2 1 := ⟨Or.inl q856, lw_meth q858, q857, q108, ⟨by decide, by decide, by decide +kernel⟩, rfl, by decide⟩
theorem nl_X7_138 : NL RX7 138 9 1 := ⟨RX11, TX11, tyX11, rfl, by decide, in_X11, tyX11_ok, by decide +kernel, q868, q869, q109⟩
theorem lk_X7_140 : MI RX7 140 yX11_init cX11_init 2 1 := ⟨Or.inl q870, lw_meth q872, q871, q109, ⟨by decide, by decide, by decide +kernel⟩, rfl, by decide⟩
theorem lk_X7_65 : MV RX7 65 6 yX7_isSign cX7_isSign 2 ((some .boolean)) 1 := ⟨lw_V q878 q880 qs26 q97 q881, ⟨by decide, by decide, by decide +kernel⟩, by decide, ⟨_, rfl, rfl⟩, by decide⟩
theorem lk_X7_94 : MV RX7 94 6 yX7_need cX7_need 2 none 1 := ⟨lw_V q882 q884 qs27 q97 q885, ⟨by decide, by decide, by decide +kernel⟩, by decide, ⟨_, rfl, rfl⟩, by decide⟩
theorem nl_X7_128 : NL RX7 128 10 3 := ⟨RX13, TX13, tyX13, rfl, by decide, in_X13, tyX13_ok, by decide +kernel, q886, q887, q111⟩
theorem lk_X7_130 : MI RX7 130 yX13_init cX13_init 4 3 := ⟨Or.inl q888, lw_meth q890, q889, q111, ⟨by decide, by decide, by decide +kernel⟩, rfl, by decide⟩
theorem nl_X7_120 : NL RX7 120 11 3 := ⟨RX14, TX14, tyX14, rfl, by decide, in_X14, tyX14_ok, by decide +kernel, q905, q906, q112⟩
theorem lk_X7_122 : MI RX7 122 yX14_init cX14_init 4 3 := ⟨Or.inl q907, lw_meth q909, q908, q112, ⟨by decide, by decide, by decide +kernel⟩, rfl, by decide⟩
theorem nl_X7_112 : NL RX7 112 12 2 := ⟨RX15, TX15, tyX15, rfl, by decide, in_X15, tyX15_ok, by decide +kernel, q918, q919, q113⟩
theorem lk_X7_114 : MI RX7 114 yX15_init cX15_init 3 2 := ⟨Or.inl q920, lw_meth q922, q921, q113, ⟨by decide, by decide, by decide +kernel⟩, rfl, by decide⟩
theorem nl_X7_98 : NL RX7 98 13 3 := ⟨RX16, TX16, tyX16, rfl, by decide, in_X16, tyX16_ok, by decide +kernel, q928, q929, q114⟩
theorem lk_X7_100 : MI RX7 100 yX16_init cX16_init 4 3 := ⟨Or.inl q930, lw_meth q932, q931, q114, ⟨by decide, by decide, by decide +kernel⟩, rfl, by decide⟩
theorem lk_X7_103 : MV RX7 103 14 yJ2_add cJ2_add 2 ((some .boolean)) 1 := ⟨lw_V q947 q948 q949 q93 q950, ⟨by decide, by decide, by decide +kernel⟩, by decide, ⟨_, rfl, rfl⟩, by decide⟩
theorem lk_X8_1 : MI RX8 1 yJ12_init cJ12_init 5 4 := ⟨Or.inl q808, lw_meth q810, q809, q105, ⟨by decide, by decide, by decide +kernel⟩, rfl, by decide⟩
theorem fl_X8_7 : FL RX8 7 7 6 .int true := ⟨RX8, TX8, 7, tyX8, rfl, by decide, by decide, in_X8, tyX8_ok, nmX8, rfl, rfl, Or.inl ⟨RX8, q817, Or.inl rfl⟩, by decide +kernel⟩
