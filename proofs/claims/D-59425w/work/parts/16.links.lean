/-! printed by gen_links.py: the fields, classes and methods that the code names -/
theorem lo_J0_1 : Cond.methodLink RJ0 1 Lib.objectInit ∈ lw_all := q149
theorem ar_J0_init : gAr yJ0_init 0 := ⟨by decide +kernel, by decide +kernel, by decide +kernel⟩
theorem lk_J1_1 : (GoodIn lw_all (ws_ yJ0_init cJ0_init 1 none) ∧ Cond.initialized (yJ0_init).cls ∈ lw_all ∧ Cond.methodLink RJ1 1 yJ0_init ∈ lw_all ∧ Cond.instanceMethod yJ0_init ∈ lw_all ∧ (yJ0_init).name = "<init>") ∧ gAr yJ0_init 0 := ⟨⟨lw_meth q148, q83, q146, q147, rfl⟩, ar_J0_init⟩
theorem fp_J1_7_J2 : gPut RJ1 7 12 0 (.int) false := gPut.of (T := TJ2) (N := 3) tyJ2 rfl (by decide) in_J2 q156 tyJ2_ok nmJ2 rfl rfl
theorem fp_J1_7_J4 : gPut RJ1 7 13 0 (.int) false := gPut.of (T := TJ4) (N := 4) tyJ4 rfl (by decide) in_J4 q156 tyJ4_ok nmJ4 rfl rfl
theorem ar_J9_init_2 : gAr yJ9_init_2 1 := ⟨by decide +kernel, by decide +kernel, by decide +kernel⟩
theorem lk_J10_7 : (GoodIn lw_all (ws_ yJ9_init_2 cJ9_init_2 2 none) ∧ Cond.initialized (yJ9_init_2).cls ∈ lw_all ∧ Cond.methodLink RJ10 7 yJ9_init_2 ∈ lw_all ∧ Cond.instanceMethod yJ9_init_2 ∈ lw_all ∧ (yJ9_init_2).name = "<init>") ∧ gAr yJ9_init_2 1 := ⟨⟨lw_meth q571, q94, q569, q570, rfl⟩, ar_J9_init_2⟩
theorem ar_J9_init : gAr yJ9_init 0 := ⟨by decide +kernel, by decide +kernel, by decide +kernel⟩
theorem lk_J10_1 : (GoodIn lw_all (ws_ yJ9_init cJ9_init 1 none) ∧ Cond.initialized (yJ9_init).cls ∈ lw_all ∧ Cond.methodLink RJ10 1 yJ9_init ∈ lw_all ∧ Cond.instanceMethod yJ9_init ∈ lw_all ∧ (yJ9_init).name = "<init>") ∧ gAr yJ9_init 0 := ⟨⟨lw_meth q532, q94, q727, q531, rfl⟩, ar_J9_init⟩
theorem ar_J9_init_3 : gAr yJ9_init_3 2 := ⟨by decide +kernel, by decide +kernel, by decide +kernel⟩
theorem lk_J10_10 : (GoodIn lw_all (ws_ yJ9_init_3 cJ9_init_3 3 none) ∧ Cond.initialized (yJ9_init_3).cls ∈ lw_all ∧ Cond.methodLink RJ10 10 yJ9_init_3 ∈ lw_all ∧ Cond.instanceMethod yJ9_init_3 ∈ lw_all ∧ (yJ9_init_3).name = "<init>") ∧ gAr yJ9_init_3 2 := ⟨⟨lw_meth q1703, q94, q1701, q1702, rfl⟩, ar_J9_init_3⟩
theorem ar_J10_init : gAr yJ10_init 1 := ⟨by decide +kernel, by decide +kernel, by decide +kernel⟩
theorem lk_J11_7 : (GoodIn lw_all (ws_ yJ10_init cJ10_init 2 none) ∧ Cond.initialized (yJ10_init).cls ∈ lw_all ∧ Cond.methodLink RJ11 7 yJ10_init ∈ lw_all ∧ Cond.instanceMethod yJ10_init ∈ lw_all ∧ (yJ10_init).name = "<init>") ∧ gAr yJ10_init 1 := ⟨⟨lw_meth q568, q95, q566, q567, rfl⟩, ar_J10_init⟩
theorem ar_J10_init_2 : gAr yJ10_init_2 0 := ⟨by decide +kernel, by decide +kernel, by decide +kernel⟩
theorem lk_J11_1 : (GoodIn lw_all (ws_ yJ10_init_2 cJ10_init_2 1 none) ∧ Cond.initialized (yJ10_init_2).cls ∈ lw_all ∧ Cond.methodLink RJ11 1 yJ10_init_2 ∈ lw_all ∧ Cond.instanceMethod yJ10_init_2 ∈ lw_all ∧ (yJ10_init_2).name = "<init>") ∧ gAr yJ10_init_2 0 := ⟨⟨lw_meth q726, q95, q1013, q725, rfl⟩, ar_J10_init_2⟩
theorem ar_J10_init_3 : gAr yJ10_init_3 2 := ⟨by decide +kernel, by decide +kernel, by decide +kernel⟩
theorem lk_J11_10 : (GoodIn lw_all (ws_ yJ10_init_3 cJ10_init_3 3 none) ∧ Cond.initialized (yJ10_init_3).cls ∈ lw_all ∧ Cond.methodLink RJ11 10 yJ10_init_3 ∈ lw_all ∧ Cond.instanceMethod yJ10_init_3 ∈ lw_all ∧ (yJ10_init_3).name = "<init>") ∧ gAr yJ10_init_3 2 := ⟨⟨lw_meth q1700, q95, q1698, q1699, rfl⟩, ar_J10_init_3⟩
theorem ar_J11_init_2 : gAr yJ11_init_2 0 := ⟨by decide +kernel, by decide +kernel, by decide +kernel⟩
theorem lk_J12_1 : (GoodIn lw_all (ws_ yJ11_init_2 cJ11_init_2 1 none) ∧ Cond.initialized (yJ11_init_2).cls ∈ lw_all ∧ Cond.methodLink RJ12 1 yJ11_init_2 ∈ lw_all ∧ Cond.instanceMethod yJ11_init_2 ∈ lw_all ∧ (yJ11_init_2).name = "<init>") ∧ gAr yJ11_init_2 0 := ⟨⟨lw_meth q1012, q96, q1010, q1011, rfl⟩, ar_J11_init_2⟩
theorem ar_J11_init_3 : gAr yJ11_init_3 2 := ⟨by decide +kernel, by decide +kernel, by decide +kernel⟩
theorem lk_J12_10 : (GoodIn lw_all (ws_ yJ11_init_3 cJ11_init_3 3 none) ∧ Cond.initialized (yJ11_init_3).cls ∈ lw_all ∧ Cond.methodLink RJ12 10 yJ11_init_3 ∈ lw_all ∧ Cond.instanceMethod yJ11_init_3 ∈ lw_all ∧ (yJ11_init_3).name = "<init>") ∧ gAr yJ11_init_3 2 := ⟨⟨lw_meth q1697, q96, q1695, q1696, rfl⟩, ar_J11_init_3⟩
theorem ar_J11_init : gAr yJ11_init 1 := ⟨by decide +kernel, by decide +kernel, by decide +kernel⟩
theorem lk_J12_7 : (GoodIn lw_all (ws_ yJ11_init cJ11_init 2 none) ∧ Cond.initialized (yJ11_init).cls ∈ lw_all ∧ Cond.methodLink RJ12 7 yJ11_init ∈ lw_all ∧ Cond.instanceMethod yJ11_init ∈ lw_all ∧ (yJ11_init).name = "<init>") ∧ gAr yJ11_init 1 := ⟨⟨lw_meth q565, q96, q1727, q564, rfl⟩, ar_J11_init⟩
theorem fp_J13_1 : gPut RJ13 1 15 3 (.object "java/util/ArrayList") true := gPut.ofF (T := TJ13) (N := 4) tyJ13 rfl (by decide) in_J13 q1033 tyJ13_ok nmJ13 rfl rfl rfl
theorem lo_J13_7 : Cond.methodLink RJ13 7 Lib.objectInit ∈ lw_all := q1029
theorem fp_J13_13 : gPut RJ13 13 15 1 (.int) false := gPut.of (T := TJ13) (N := 4) tyJ13 rfl (by decide) in_J13 q1031 tyJ13_ok nmJ13 rfl rfl
theorem fg_J13_1 : gFld RJ13 1 15 3 := gFld.of (T := TJ13) (N := 4) rfl (by decide) in_J13 q1033
theorem fg_J13_17 : gFld RJ13 17 12 0 := gFld.ofS (T := TJ2) (N := 3) rfl (by decide) in_J2 q157 q158
theorem fp_J13_22 : gPut RJ13 22 15 2 (.int) false := gPut.of (T := TJ13) (N := 4) tyJ13 rfl (by decide) in_J13 q1032 tyJ13_ok nmJ13 rfl rfl
theorem fg_J13_25 : gFld RJ13 25 15 0 := gFld.of (T := TJ13) (N := 4) rfl (by decide) in_J13 q1030
theorem fg_J13_28 : gFld RJ13 28 12 2 := gFld.ofN (T := TJ2) (N := 3) rfl (by decide) in_J2 q154
theorem ar_J13_checkForComodification : gAr yJ13_checkForComodification 0 := ⟨by decide +kernel, by decide +kernel, by decide +kernel⟩
theorem lk_J13_31 : GoodIn lw_all (wsV RJ13 31 (yJ13_checkForComodification).cls yJ13_checkForComodification (ws_ yJ13_checkForComodification cJ13_checkForComodification 1 none)) ∧ gAr yJ13_checkForComodification 0 := ⟨lw_V q1062 q1063 q1064 q98 q1065, ar_J13_checkForComodification⟩
theorem fg_J13_37 : gFld RJ13 37 12 1 := gFld.of (T := TJ2) (N := 3) rfl (by decide) in_J2 q153
theorem fp_J13_25 : gPut RJ13 25 15 0 (.int) false := gPut.of (T := TJ13) (N := 4) tyJ13 rfl (by decide) in_J13 q1030 tyJ13_ok nmJ13 rfl rfl
theorem fg_J13_22 : gFld RJ13 22 15 2 := gFld.of (T := TJ13) (N := 4) rfl (by decide) in_J13 q1032
theorem ar_J15_max : gAr yJ15_max 2 := ⟨by decide +kernel, by decide +kernel, by decide +kernel⟩
theorem lk_J14_194 : GoodIn lw_all (va_wsS RJ14 194 yJ15_max (ws_ yJ15_max cJ15_max 2 (some .int))) ∧ gAr yJ15_max 2 := ⟨lw_S q356 q357 q101 q358, ar_J15_max⟩
theorem ar_J14_hugeLength : gAr yJ14_hugeLength 2 := ⟨by decide +kernel, by decide +kernel, by decide +kernel⟩
theorem lk_J14_201 : GoodIn lw_all (va_wsS RJ14 201 yJ14_hugeLength (ws_ yJ14_hugeLength cJ14_hugeLength 3 (some .int))) ∧ gAr yJ14_hugeLength 2 := ⟨lw_S q360 q361 q100 q362, ar_J14_hugeLength⟩
theorem ar_J15_min : gAr yJ15_min 2 := ⟨by decide +kernel, by decide +kernel, by decide +kernel⟩
theorem lk_J16_304 : GoodIn lw_all (va_wsS RJ16 304 yJ15_min (ws_ yJ15_min cJ15_min 2 (some .int))) ∧ gAr yJ15_min 2 := ⟨lw_S q374 q375 q101 q376, ar_J15_min⟩
theorem ar_J16_copyOfRangeByte : gAr yJ16_copyOfRangeByte 3 := ⟨by decide +kernel, by decide +kernel, by decide +kernel⟩
theorem lk_J16_339 : GoodIn lw_all (va_wsS RJ16 339 yJ16_copyOfRangeByte (ws_ yJ16_copyOfRangeByte cJ16_copyOfRangeByte 5 (some (.array .byte)))) ∧ gAr yJ16_copyOfRangeByte 3 := ⟨lw_S q502 q503 q102 q504, ar_J16_copyOfRangeByte⟩
theorem ar_J16_checkLength : gAr yJ16_checkLength 2 := ⟨by decide +kernel, by decide +kernel, by decide +kernel⟩
theorem lk_J16_343 : GoodIn lw_all (va_wsS RJ16 343 yJ16_checkLength (ws_ yJ16_checkLength cJ16_checkLength 2 none)) ∧ gAr yJ16_checkLength 2 := ⟨lw_S q505 q506 q102 q507, ar_J16_checkLength⟩
theorem nw_J16_45 : gNew RJ16 45 16 [.null, .int 0, .int 0, .int 0] := ⟨RJ6, TJ6, tyJ6, rfl, in_J6, tyJ6_ok, q554, q263, q90, by decide +kernel⟩
theorem ar_J6_init : gAr yJ6_init 0 := ⟨by decide +kernel, by decide +kernel, by decide +kernel⟩
theorem lk_J16_47 : (GoodIn lw_all (ws_ yJ6_init cJ6_init 1 none) ∧ Cond.initialized (yJ6_init).cls ∈ lw_all ∧ Cond.methodLink RJ16 47 yJ6_init ∈ lw_all ∧ Cond.instanceMethod yJ6_init ∈ lw_all ∧ (yJ6_init).name = "<init>") ∧ gAr yJ6_init 0 := ⟨⟨lw_meth q266, q90, q555, q265, rfl⟩, ar_J6_init⟩
theorem ar_J6_append_2 : gAr yJ6_append_2 1 := ⟨by decide +kernel, by decide +kernel, by decide +kernel⟩
theorem lk_J16_54 : GoodIn lw_all (wsV RJ16 54 (yJ6_append_2).cls yJ6_append_2 (ws_ yJ6_append_2 cJ6_append_2 2 (some (.object "java/lang/StringBuilder")))) ∧ gAr yJ6_append_2 1 := ⟨lw_V q556 q455 q456 q90 q457, ar_J6_append_2⟩
theorem ar_J6_append : gAr yJ6_append 1 := ⟨by decide +kernel, by decide +kernel, by decide +kernel⟩
theorem lk_J16_50 : GoodIn lw_all (wsV RJ16 50 (yJ6_append).cls yJ6_append (ws_ yJ6_append cJ6_append 2 (some (.object "java/lang/StringBuilder")))) ∧ gAr yJ6_append 1 := ⟨lw_V q558 q335 q336 q90 q337, ar_J6_append⟩
theorem ar_J6_toString : gAr yJ6_toString 0 := ⟨by decide +kernel, by decide +kernel, by decide +kernel⟩
theorem lk_J16_61 : GoodIn lw_all (wsV RJ16 61 (yJ6_toString).cls yJ6_toString (ws_ yJ6_toString cJ6_toString 1 (some (.object "java/lang/String")))) ∧ gAr yJ6_toString 0 := ⟨lw_V q559 q480 q481 q90 q482, ar_J6_toString⟩
theorem ar_J21_init : gAr yJ21_init 1 := ⟨by decide +kernel, by decide +kernel, by decide +kernel⟩
theorem lk_J16_65 : (GoodIn lw_all (ws_ yJ21_init cJ21_init 2 none) ∧ Cond.initialized (yJ21_init).cls ∈ lw_all ∧ Cond.methodLink RJ16 65 yJ21_init ∈ lw_all ∧ Cond.instanceMethod yJ21_init ∈ lw_all ∧ (yJ21_init).name = "<init>") ∧ gAr yJ21_init 1 := ⟨⟨lw_meth q562, q109, q560, q561, rfl⟩, ar_J21_init⟩
theorem ar_J16_rangeCheck : gAr yJ16_rangeCheck 3 := ⟨by decide +kernel, by decide +kernel, by decide +kernel⟩
theorem lk_J16_13 : GoodIn lw_all (va_wsS RJ16 13 yJ16_rangeCheck (ws_ yJ16_rangeCheck cJ16_rangeCheck 3 none)) ∧ gAr yJ16_rangeCheck 3 := ⟨lw_S q628 q629 q102 q630, ar_J16_rangeCheck⟩
theorem ar_J23_init : gAr yJ23_init 1 := ⟨by decide +kernel, by decide +kernel, by decide +kernel⟩
theorem lk_J16_70 : (GoodIn lw_all (ws_ yJ23_init cJ23_init 2 none) ∧ Cond.initialized (yJ23_init).cls ∈ lw_all ∧ Cond.methodLink RJ16 70 yJ23_init ∈ lw_all ∧ Cond.instanceMethod yJ23_init ∈ lw_all ∧ (yJ23_init).name = "<init>") ∧ gAr yJ23_init 1 := ⟨⟨lw_meth q647, q111, q645, q646, rfl⟩, ar_J23_init⟩
theorem ar_J16_copyOf_3 : gAr yJ16_copyOf_3 3 := ⟨by decide +kernel, by decide +kernel, by decide +kernel⟩
theorem lk_J16_300 : GoodIn lw_all (va_wsS RJ16 300 yJ16_copyOf_3 (ws_ yJ16_copyOf_3 cJ16_copyOf_3 4 (some (.array (.object "java/lang/Object"))))) ∧ gAr yJ16_copyOf_3 3 := ⟨lw_S q886 q887 q102 q888, ar_J16_copyOf_3⟩
theorem lk_J17_7 : (GoodIn lw_all (ws_ yJ11_init cJ11_init 2 none) ∧ Cond.initialized (yJ11_init).cls ∈ lw_all ∧ Cond.methodLink RJ17 7 yJ11_init ∈ lw_all ∧ Cond.instanceMethod yJ11_init ∈ lw_all ∧ (yJ11_init).name = "<init>") ∧ gAr yJ11_init 1 := ⟨⟨lw_meth q565, q96, q614, q564, rfl⟩, ar_J11_init⟩
theorem lk_J17_1 : (GoodIn lw_all (ws_ yJ11_init_2 cJ11_init_2 1 none) ∧ Cond.initialized (yJ11_init_2).cls ∈ lw_all ∧ Cond.methodLink RJ17 1 yJ11_init_2 ∈ lw_all ∧ Cond.instanceMethod yJ11_init_2 ∈ lw_all ∧ (yJ11_init_2).name = "<init>") ∧ gAr yJ11_init_2 0 := ⟨⟨lw_meth q1012, q96, q1238, q1011, rfl⟩, ar_J11_init_2⟩
theorem ar_J8_inflate : gAr yJ8_inflate 5 := ⟨by decide +kernel, by decide +kernel, by decide +kernel⟩
theorem lk_J19_240 : GoodIn lw_all (va_wsS RJ19 240 yJ8_inflate (ws_ yJ8_inflate cJ8_inflate 6 none)) ∧ gAr yJ8_inflate 5 := ⟨lw_S q436 q437 q92 q438, ar_J8_inflate⟩
theorem ar_J16_fill : gAr yJ16_fill 4 := ⟨by decide +kernel, by decide +kernel, by decide +kernel⟩
theorem lk_J19_236 : GoodIn lw_all (va_wsS RJ19 236 yJ16_fill (ws_ yJ16_fill cJ16_fill 5 none)) ∧ gAr yJ16_fill 4 := ⟨lw_S q625 q626 q102 q627, ar_J16_fill⟩
theorem ar_J1_init : gAr yJ1_init 0 := ⟨by decide +kernel, by decide +kernel, by decide +kernel⟩
theorem lk_J2_1 : (GoodIn lw_all (ws_ yJ1_init cJ1_init 1 none) ∧ Cond.initialized (yJ1_init).cls ∈ lw_all ∧ Cond.methodLink RJ2 1 yJ1_init ∈ lw_all ∧ Cond.instanceMethod yJ1_init ∈ lw_all ∧ (yJ1_init).name = "<init>") ∧ gAr yJ1_init 0 := ⟨⟨lw_meth q145, q84, q143, q144, rfl⟩, ar_J1_init⟩
theorem fp_J2_9 : gPut RJ2 9 12 1 (.array (.object "java/lang/Object")) false := gPut.of (T := TJ2) (N := 3) tyJ2 rfl (by decide) in_J2 q152 tyJ2_ok nmJ2 rfl rfl
theorem fg_J2_48 : gFld RJ2 48 12 2 := gFld.of (T := TJ2) (N := 3) rfl (by decide) in_J2 q155
theorem ar_J24_checkIndex : gAr yJ24_checkIndex 2 := ⟨by decide +kernel, by decide +kernel, by decide +kernel⟩
theorem lk_J2_118 : GoodIn lw_all (va_wsS RJ2 118 yJ24_checkIndex (ws_ yJ24_checkIndex cJ24_checkIndex 2 (some .int))) ∧ gAr yJ24_checkIndex 2 := ⟨lw_S q798 q799 q112 q800, ar_J24_checkIndex⟩
theorem ar_J2_elementData : gAr yJ2_elementData 1 := ⟨by decide +kernel, by decide +kernel, by decide +kernel⟩
theorem lk_J2_123 : GoodIn lw_all (wsV RJ2 123 (yJ2_elementData).cls yJ2_elementData (ws_ yJ2_elementData cJ2_elementData 2 (some (.object "java/lang/Object")))) ∧ gAr yJ2_elementData 1 := ⟨lw_V q802 q803 q804 q85 q805, ar_J2_elementData⟩
theorem fg_J2_9 : gFld RJ2 9 12 1 := gFld.of (T := TJ2) (N := 3) rfl (by decide) in_J2 q152
theorem fg_J2_63 : gFld RJ2 63 12 0 := gFld.ofS (T := TJ2) (N := 3) rfl (by decide) in_J2 q161 q158
theorem fp_J2_63 : gPut RJ2 63 12 0 (.int) false := gPut.ofS (T := TJ2) (N := 3) tyJ2 rfl (by decide) in_J2 q161 q158 tyJ2_ok nmJ2 rfl rfl
theorem ar_J2_add_2 : gAr yJ2_add_2 3 := ⟨by decide +kernel, by decide +kernel, by decide +kernel⟩
theorem lk_J2_131 : GoodIn lw_all (wsV RJ2 131 (yJ2_add_2).cls yJ2_add_2 (ws_ yJ2_add_2 cJ2_add_2 4 none)) ∧ gAr yJ2_add_2 3 := ⟨lw_V q843 q845 qs8 q85 q846, ar_J2_add_2⟩
theorem ar_J2_grow : gAr yJ2_grow 0 := ⟨by decide +kernel, by decide +kernel, by decide +kernel⟩
theorem lk_J2_129 : GoodIn lw_all (wsV RJ2 129 (yJ2_grow).cls yJ2_grow (ws_ yJ2_grow cJ2_grow 1 (some (.array (.object "java/lang/Object"))))) ∧ gAr yJ2_grow 0 := ⟨lw_V q847 q849 qs9 q85 q850, ar_J2_grow⟩
theorem fp_J2_48 : gPut RJ2 48 12 2 (.int) false := gPut.of (T := TJ2) (N := 3) tyJ2 rfl (by decide) in_J2 q155 tyJ2_ok nmJ2 rfl rfl
theorem ar_J2_grow_2 : gAr yJ2_grow_2 1 := ⟨by decide +kernel, by decide +kernel, by decide +kernel⟩
theorem lk_J2_69 : GoodIn lw_all (wsV RJ2 69 (yJ2_grow_2).cls yJ2_grow_2 (ws_ yJ2_grow_2 cJ2_grow_2 4 (some (.array (.object "java/lang/Object"))))) ∧ gAr yJ2_grow_2 1 := ⟨lw_V q851 q853 qs10 q85 q854, ar_J2_grow_2⟩
theorem ar_J14_newLength : gAr yJ14_newLength 3 := ⟨by decide +kernel, by decide +kernel, by decide +kernel⟩
theorem lk_J2_73 : GoodIn lw_all (va_wsS RJ2 73 yJ14_newLength (ws_ yJ14_newLength cJ14_newLength 4 (some .int))) ∧ gAr yJ14_newLength 3 := ⟨lw_S q855 q354 q100 q355, ar_J14_newLength⟩
theorem ar_J16_copyOf_2 : gAr yJ16_copyOf_2 2 := ⟨by decide +kernel, by decide +kernel, by decide +kernel⟩
theorem lk_J2_66 : GoodIn lw_all (va_wsS RJ2 66 yJ16_copyOf_2 (ws_ yJ16_copyOf_2 cJ16_copyOf_2 2 (some (.array (.object "java/lang/Object"))))) ∧ gAr yJ16_copyOf_2 2 := ⟨lw_S q856 q857 q102 q858, ar_J16_copyOf_2⟩
theorem lk_J2_79 : GoodIn lw_all (va_wsS RJ2 79 yJ15_max (ws_ yJ15_max cJ15_max 2 (some .int))) ∧ gAr yJ15_max 2 := ⟨lw_S q892 q357 q101 q358, ar_J15_max⟩
theorem nw_J2_267 : gNew RJ2 267 15 [.int 0, .int 0, .int 0, .null] := ⟨RJ13, TJ13, tyJ13, rfl, in_J13, tyJ13_ok, q1024, q1025, q98, by decide +kernel⟩
theorem ar_J13_init : gAr yJ13_init 1 := ⟨by decide +kernel, by decide +kernel, by decide +kernel⟩
theorem lk_J2_269 : (GoodIn lw_all (ws_ yJ13_init cJ13_init 2 none) ∧ Cond.initialized (yJ13_init).cls ∈ lw_all ∧ Cond.methodLink RJ2 269 yJ13_init ∈ lw_all ∧ Cond.instanceMethod yJ13_init ∈ lw_all ∧ (yJ13_init).name = "<init>") ∧ gAr yJ13_init 1 := ⟨⟨lw_meth q1028, q98, q1026, q1027, rfl⟩, ar_J13_init⟩
theorem ar_J2_rangeCheckForAdd : gAr yJ2_rangeCheckForAdd 1 := ⟨by decide +kernel, by decide +kernel, by decide +kernel⟩
theorem lk_J2_135 : GoodIn lw_all (wsV RJ2 135 (yJ2_rangeCheckForAdd).cls yJ2_rangeCheckForAdd (ws_ yJ2_rangeCheckForAdd cJ2_rangeCheckForAdd 2 none)) ∧ gAr yJ2_rangeCheckForAdd 1 := ⟨lw_V q1385 q1387 qs19 q85 q1388, ar_J2_rangeCheckForAdd⟩
theorem ar_J2_outOfBoundsMsg : gAr yJ2_outOfBoundsMsg 1 := ⟨by decide +kernel, by decide +kernel, by decide +kernel⟩
theorem lk_J2_198 : GoodIn lw_all (wsV RJ2 198 (yJ2_outOfBoundsMsg).cls yJ2_outOfBoundsMsg (ws_ yJ2_outOfBoundsMsg cJ2_outOfBoundsMsg 2 (some (.object "java/lang/String")))) ∧ gAr yJ2_outOfBoundsMsg 1 := ⟨lw_V q1390 q1392 qs20 q85 q1393, ar_J2_outOfBoundsMsg⟩
theorem ar_J17_init : gAr yJ17_init 1 := ⟨by decide +kernel, by decide +kernel, by decide +kernel⟩
theorem lk_J2_193 : (GoodIn lw_all (ws_ yJ17_init cJ17_init 2 none) ∧ Cond.initialized (yJ17_init).cls ∈ lw_all ∧ Cond.methodLink RJ2 193 yJ17_init ∈ lw_all ∧ Cond.instanceMethod yJ17_init ∈ lw_all ∧ (yJ17_init).name = "<init>") ∧ gAr yJ17_init 1 := ⟨⟨lw_meth q613, q104, q1401, q612, rfl⟩, ar_J17_init⟩
theorem nw_J2_20 : gNew RJ2 20 16 [.null, .int 0, .int 0, .int 0] := ⟨RJ6, TJ6, tyJ6, rfl, in_J6, tyJ6_ok, q1394, q263, q90, by decide +kernel⟩
theorem lk_J2_22 : (GoodIn lw_all (ws_ yJ6_init cJ6_init 1 none) ∧ Cond.initialized (yJ6_init).cls ∈ lw_all ∧ Cond.methodLink RJ2 22 yJ6_init ∈ lw_all ∧ Cond.instanceMethod yJ6_init ∈ lw_all ∧ (yJ6_init).name = "<init>") ∧ gAr yJ6_init 0 := ⟨⟨lw_meth q266, q90, q1395, q265, rfl⟩, ar_J6_init⟩
theorem lk_J2_25 : GoodIn lw_all (wsV RJ2 25 (yJ6_append).cls yJ6_append (ws_ yJ6_append cJ6_append 2 (some (.object "java/lang/StringBuilder")))) ∧ gAr yJ6_append 1 := ⟨lw_V q1397 q335 q336 q90 q337, ar_J6_append⟩
theorem lk_J2_29 : GoodIn lw_all (wsV RJ2 29 (yJ6_append_2).cls yJ6_append_2 (ws_ yJ6_append_2 cJ6_append_2 2 (some (.object "java/lang/StringBuilder")))) ∧ gAr yJ6_append_2 1 := ⟨lw_V q1398 q455 q456 q90 q457, ar_J6_append_2⟩
theorem lk_J2_32 : GoodIn lw_all (wsV RJ2 32 (yJ6_toString).cls yJ6_toString (ws_ yJ6_toString cJ6_toString 1 (some (.object "java/lang/String")))) ∧ gAr yJ6_toString 0 := ⟨lw_V q1400 q480 q481 q90 q482, ar_J6_toString⟩
theorem ar_J2_fastRemove : gAr yJ2_fastRemove 2 := ⟨by decide +kernel, by decide +kernel, by decide +kernel⟩
theorem lk_J2_144 : GoodIn lw_all (wsV RJ2 144 (yJ2_fastRemove).cls yJ2_fastRemove (ws_ yJ2_fastRemove cJ2_fastRemove 4 none)) ∧ gAr yJ2_fastRemove 2 := ⟨lw_V q1452 q1454 qs22 q85 q1455, ar_J2_fastRemove⟩
theorem lk_J21_7 : (GoodIn lw_all (ws_ yJ11_init cJ11_init 2 none) ∧ Cond.initialized (yJ11_init).cls ∈ lw_all ∧ Cond.methodLink RJ21 7 yJ11_init ∈ lw_all ∧ Cond.instanceMethod yJ11_init ∈ lw_all ∧ (yJ11_init).name = "<init>") ∧ gAr yJ11_init 1 := ⟨⟨lw_meth q565, q96, q563, q564, rfl⟩, ar_J11_init⟩
theorem lk_J21_1 : (GoodIn lw_all (ws_ yJ11_init_2 cJ11_init_2 1 none) ∧ Cond.initialized (yJ11_init_2).cls ∈ lw_all ∧ Cond.methodLink RJ21 1 yJ11_init_2 ∈ lw_all ∧ Cond.instanceMethod yJ11_init_2 ∈ lw_all ∧ (yJ11_init_2).name = "<init>") ∧ gAr yJ11_init_2 0 := ⟨⟨lw_meth q1012, q96, q1356, q1011, rfl⟩, ar_J11_init_2⟩
theorem lk_J21_10 : (GoodIn lw_all (ws_ yJ11_init_3 cJ11_init_3 3 none) ∧ Cond.initialized (yJ11_init_3).cls ∈ lw_all ∧ Cond.methodLink RJ21 10 yJ11_init_3 ∈ lw_all ∧ Cond.instanceMethod yJ11_init_3 ∈ lw_all ∧ (yJ11_init_3).name = "<init>") ∧ gAr yJ11_init_3 2 := ⟨⟨lw_meth q1697, q96, q1709, q1696, rfl⟩, ar_J11_init_3⟩
theorem lo_J22_1 : Cond.methodLink RJ22 1 Lib.objectInit ∈ lw_all := q1165
theorem fp_J22_7 : gPut RJ22 7 14 0 (.object "java/lang/Object") false := gPut.of (T := TJ22) (N := 3) tyJ22 rfl (by decide) in_J22 q1166 tyJ22_ok nmJ22 rfl rfl
theorem fp_J22_13 : gPut RJ22 13 14 1 (.object "java/util/LinkedList$Node") false := gPut.of (T := TJ22) (N := 3) tyJ22 rfl (by decide) in_J22 q1168 tyJ22_ok nmJ22 rfl rfl
theorem fp_J22_17 : gPut RJ22 17 14 2 (.object "java/util/LinkedList$Node") false := gPut.of (T := TJ22) (N := 3) tyJ22 rfl (by decide) in_J22 q1170 tyJ22_ok nmJ22 rfl rfl
theorem nw_J23_10 : gNew RJ23 10 16 [.null, .int 0, .int 0, .int 0] := ⟨RJ6, TJ6, tyJ6, rfl, in_J6, tyJ6_ok, q648, q263, q90, by decide +kernel⟩
theorem lk_J23_12 : (GoodIn lw_all (ws_ yJ6_init cJ6_init 1 none) ∧ Cond.initialized (yJ6_init).cls ∈ lw_all ∧ Cond.methodLink RJ23 12 yJ6_init ∈ lw_all ∧ Cond.instanceMethod yJ6_init ∈ lw_all ∧ (yJ6_init).name = "<init>") ∧ gAr yJ6_init 0 := ⟨⟨lw_meth q266, q90, q649, q265, rfl⟩, ar_J6_init⟩
theorem lk_J23_15 : GoodIn lw_all (wsV RJ23 15 (yJ6_append).cls yJ6_append (ws_ yJ6_append cJ6_append 2 (some (.object "java/lang/StringBuilder")))) ∧ gAr yJ6_append 1 := ⟨lw_V q651 q335 q336 q90 q337, ar_J6_append⟩
theorem lk_J23_19 : GoodIn lw_all (wsV RJ23 19 (yJ6_append_2).cls yJ6_append_2 (ws_ yJ6_append_2 cJ6_append_2 2 (some (.object "java/lang/StringBuilder")))) ∧ gAr yJ6_append_2 1 := ⟨lw_V q652 q455 q456 q90 q457, ar_J6_append_2⟩
theorem lk_J23_22 : GoodIn lw_all (wsV RJ23 22 (yJ6_toString).cls yJ6_toString (ws_ yJ6_toString cJ6_toString 1 (some (.object "java/lang/String")))) ∧ gAr yJ6_toString 0 := ⟨lw_V q653 q480 q481 q90 q482, ar_J6_toString⟩
theorem lk_J23_7 : (GoodIn lw_all (ws_ yJ17_init cJ17_init 2 none) ∧ Cond.initialized (yJ17_init).cls ∈ lw_all ∧ Cond.methodLink RJ23 7 yJ17_init ∈ lw_all ∧ Cond.instanceMethod yJ17_init ∈ lw_all ∧ (yJ17_init).name = "<init>") ∧ gAr yJ17_init 1 := ⟨⟨lw_meth q613, q104, q654, q612, rfl⟩, ar_J17_init⟩
theorem ar_J18_checkIndex : gAr yJ18_checkIndex 3 := ⟨by decide +kernel, by decide +kernel, by decide +kernel⟩
theorem lk_J24_105 : GoodIn lw_all (va_wsS RJ24 105 yJ18_checkIndex (ws_ yJ18_checkIndex cJ18_checkIndex 3 (some .int))) ∧ gAr yJ18_checkIndex 3 := ⟨lw_S q801 q706 q105 q707, ar_J18_checkIndex⟩
theorem nw_J25_10 : gNew RJ25 10 16 [.null, .int 0, .int 0, .int 0] := ⟨RJ6, TJ6, tyJ6, rfl, in_J6, tyJ6_ok, q331, q263, q90, by decide +kernel⟩
theorem lk_J25_12 : (GoodIn lw_all (ws_ yJ6_init cJ6_init 1 none) ∧ Cond.initialized (yJ6_init).cls ∈ lw_all ∧ Cond.methodLink RJ25 12 yJ6_init ∈ lw_all ∧ Cond.instanceMethod yJ6_init ∈ lw_all ∧ (yJ6_init).name = "<init>") ∧ gAr yJ6_init 0 := ⟨⟨lw_meth q266, q90, q332, q265, rfl⟩, ar_J6_init⟩
theorem lk_J25_15 : GoodIn lw_all (wsV RJ25 15 (yJ6_append).cls yJ6_append (ws_ yJ6_append cJ6_append 2 (some (.object "java/lang/StringBuilder")))) ∧ gAr yJ6_append 1 := ⟨lw_V q334 q335 q336 q90 q337, ar_J6_append⟩
theorem lk_J25_19 : GoodIn lw_all (wsV RJ25 19 (yJ6_append_2).cls yJ6_append_2 (ws_ yJ6_append_2 cJ6_append_2 2 (some (.object "java/lang/StringBuilder")))) ∧ gAr yJ6_append_2 1 := ⟨lw_V q454 q455 q456 q90 q457, ar_J6_append_2⟩
theorem lk_J25_22 : GoodIn lw_all (wsV RJ25 22 (yJ6_toString).cls yJ6_toString (ws_ yJ6_toString cJ6_toString 1 (some (.object "java/lang/String")))) ∧ gAr yJ6_toString 0 := ⟨lw_V q479 q480 q481 q90 q482, ar_J6_toString⟩
theorem lk_J25_7 : (GoodIn lw_all (ws_ yJ17_init cJ17_init 2 none) ∧ Cond.initialized (yJ17_init).cls ∈ lw_all ∧ Cond.methodLink RJ25 7 yJ17_init ∈ lw_all ∧ Cond.instanceMethod yJ17_init ∈ lw_all ∧ (yJ17_init).name = "<init>") ∧ gAr yJ17_init 1 := ⟨⟨lw_meth q613, q104, q611, q612, rfl⟩, ar_J17_init⟩
theorem lk_J3_1 : (GoodIn lw_all (ws_ yJ1_init cJ1_init 1 none) ∧ Cond.initialized (yJ1_init).cls ∈ lw_all ∧ Cond.methodLink RJ3 1 yJ1_init ∈ lw_all ∧ Cond.instanceMethod yJ1_init ∈ lw_all ∧ (yJ1_init).name = "<init>") ∧ gAr yJ1_init 0 := ⟨⟨lw_meth q145, q84, q179, q144, rfl⟩, ar_J1_init⟩
theorem ar_J3_init : gAr yJ3_init 0 := ⟨by decide +kernel, by decide +kernel, by decide +kernel⟩
theorem lk_J4_1 : (GoodIn lw_all (ws_ yJ3_init cJ3_init 1 none) ∧ Cond.initialized (yJ3_init).cls ∈ lw_all ∧ Cond.methodLink RJ4 1 yJ3_init ∈ lw_all ∧ Cond.instanceMethod yJ3_init ∈ lw_all ∧ (yJ3_init).name = "<init>") ∧ gAr yJ3_init 0 := ⟨⟨lw_meth q178, q86, q176, q177, rfl⟩, ar_J3_init⟩
theorem fp_J4_7 : gPut RJ4 7 13 1 (.int) false := gPut.of (T := TJ4) (N := 4) tyJ4 rfl (by decide) in_J4 q180 tyJ4_ok nmJ4 rfl rfl
theorem fg_J4_7 : gFld RJ4 7 13 1 := gFld.of (T := TJ4) (N := 4) rfl (by decide) in_J4 q180
theorem fg_J4_18 : gFld RJ4 18 13 2 := gFld.of (T := TJ4) (N := 4) rfl (by decide) in_J4 q181
theorem fg_J4_39 : gFld RJ4 39 14 0 := gFld.of (T := TJ22) (N := 3) rfl (by decide) in_J22 q1167
theorem fg_J4_36 : gFld RJ4 36 14 1 := gFld.of (T := TJ22) (N := 3) rfl (by decide) in_J22 q1169
theorem ar_J4_addAll_2 : gAr yJ4_addAll_2 2 := ⟨by decide +kernel, by decide +kernel, by decide +kernel⟩
theorem lk_J4_73 : GoodIn lw_all (wsV RJ4 73 (yJ4_addAll_2).cls yJ4_addAll_2 (ws_ yJ4_addAll_2 cJ4_addAll_2 13 (some .boolean))) ∧ gAr yJ4_addAll_2 2 := ⟨lw_V q1119 q1120 q1121 q87 q1122, ar_J4_addAll_2⟩
theorem ar_J4_checkPositionIndex : gAr yJ4_checkPositionIndex 1 := ⟨by decide +kernel, by decide +kernel, by decide +kernel⟩
theorem lk_J4_76 : GoodIn lw_all (wsV RJ4 76 (yJ4_checkPositionIndex).cls yJ4_checkPositionIndex (ws_ yJ4_checkPositionIndex cJ4_checkPositionIndex 2 none)) ∧ gAr yJ4_checkPositionIndex 1 := ⟨lw_V q1123 q1125 qs13 q87 q1126, ar_J4_checkPositionIndex⟩
theorem fg_J4_27 : gFld RJ4 27 13 3 := gFld.of (T := TJ4) (N := 4) rfl (by decide) in_J4 q182
theorem ar_J4_node : gAr yJ4_node 1 := ⟨by decide +kernel, by decide +kernel, by decide +kernel⟩
theorem lk_J4_86 : GoodIn lw_all (wsV RJ4 86 (yJ4_node).cls yJ4_node (ws_ yJ4_node cJ4_node 4 (some (.object "java/util/LinkedList$Node")))) ∧ gAr yJ4_node 1 := ⟨lw_V q1156 q1157 q1158 q87 q1159, ar_J4_node⟩
theorem fg_J4_30 : gFld RJ4 30 14 2 := gFld.of (T := TJ22) (N := 3) rfl (by decide) in_J22 q1171
theorem nw_J4_22 : gNew RJ4 22 14 [.null, .null, .null] := ⟨RJ22, TJ22, tyJ22, rfl, in_J22, tyJ22_ok, q1160, q1161, q110, by decide +kernel⟩
theorem ar_J22_init : gAr yJ22_init 3 := ⟨by decide +kernel, by decide +kernel, by decide +kernel⟩
theorem lk_J4_24 : (GoodIn lw_all (ws_ yJ22_init cJ22_init 4 none) ∧ Cond.initialized (yJ22_init).cls ∈ lw_all ∧ Cond.methodLink RJ4 24 yJ22_init ∈ lw_all ∧ Cond.instanceMethod yJ22_init ∈ lw_all ∧ (yJ22_init).name = "<init>") ∧ gAr yJ22_init 3 := ⟨⟨lw_meth q1164, q110, q1162, q1163, rfl⟩, ar_J22_init⟩
theorem fp_J4_18 : gPut RJ4 18 13 2 (.object "java/util/LinkedList$Node") false := gPut.of (T := TJ4) (N := 4) tyJ4 rfl (by decide) in_J4 q181 tyJ4_ok nmJ4 rfl rfl
theorem fp_J4_36 : gPut RJ4 36 14 1 (.object "java/util/LinkedList$Node") false := gPut.of (T := TJ22) (N := 3) tyJ22 rfl (by decide) in_J22 q1169 tyJ22_ok nmJ22 rfl rfl
theorem fp_J4_27 : gPut RJ4 27 13 3 (.object "java/util/LinkedList$Node") false := gPut.of (T := TJ4) (N := 4) tyJ4 rfl (by decide) in_J4 q182 tyJ4_ok nmJ4 rfl rfl
theorem fp_J4_30 : gPut RJ4 30 14 2 (.object "java/util/LinkedList$Node") false := gPut.of (T := TJ22) (N := 3) tyJ22 rfl (by decide) in_J22 q1171 tyJ22_ok nmJ22 rfl rfl
theorem fg_J4_33 : gFld RJ4 33 13 0 := gFld.ofS (T := TJ4) (N := 4) rfl (by decide) in_J4 q159 q160
theorem fp_J4_33 : gPut RJ4 33 13 0 (.int) false := gPut.ofS (T := TJ4) (N := 4) tyJ4 rfl (by decide) in_J4 q159 q160 tyJ4_ok nmJ4 rfl rfl
theorem ar_J4_isPositionIndex : gAr yJ4_isPositionIndex 1 := ⟨by decide +kernel, by decide +kernel, by decide +kernel⟩
theorem lk_J4_128 : GoodIn lw_all (wsV RJ4 128 (yJ4_isPositionIndex).cls yJ4_isPositionIndex (ws_ yJ4_isPositionIndex cJ4_isPositionIndex 2 (some .boolean))) ∧ gAr yJ4_isPositionIndex 1 := ⟨lw_V q1127 q1129 qs14 q87 q1130, ar_J4_isPositionIndex⟩
theorem ar_J4_outOfBoundsMsg : gAr yJ4_outOfBoundsMsg 1 := ⟨by decide +kernel, by decide +kernel, by decide +kernel⟩
theorem lk_J4_121 : GoodIn lw_all (wsV RJ4 121 (yJ4_outOfBoundsMsg).cls yJ4_outOfBoundsMsg (ws_ yJ4_outOfBoundsMsg cJ4_outOfBoundsMsg 2 (some (.object "java/lang/String")))) ∧ gAr yJ4_outOfBoundsMsg 1 := ⟨lw_V q1140 q1142 qs15 q87 q1143, ar_J4_outOfBoundsMsg⟩
theorem lk_J4_125 : (GoodIn lw_all (ws_ yJ17_init cJ17_init 2 none) ∧ Cond.initialized (yJ17_init).cls ∈ lw_all ∧ Cond.methodLink RJ4 125 yJ17_init ∈ lw_all ∧ Cond.instanceMethod yJ17_init ∈ lw_all ∧ (yJ17_init).name = "<init>") ∧ gAr yJ17_init 1 := ⟨⟨lw_meth q613, q104, q1151, q612, rfl⟩, ar_J17_init⟩
theorem nw_J4_97 : gNew RJ4 97 16 [.null, .int 0, .int 0, .int 0] := ⟨RJ6, TJ6, tyJ6, rfl, in_J6, tyJ6_ok, q1144, q263, q90, by decide +kernel⟩
theorem lk_J4_99 : (GoodIn lw_all (ws_ yJ6_init cJ6_init 1 none) ∧ Cond.initialized (yJ6_init).cls ∈ lw_all ∧ Cond.methodLink RJ4 99 yJ6_init ∈ lw_all ∧ Cond.instanceMethod yJ6_init ∈ lw_all ∧ (yJ6_init).name = "<init>") ∧ gAr yJ6_init 0 := ⟨⟨lw_meth q266, q90, q1145, q265, rfl⟩, ar_J6_init⟩
theorem lk_J4_102 : GoodIn lw_all (wsV RJ4 102 (yJ6_append).cls yJ6_append (ws_ yJ6_append cJ6_append 2 (some (.object "java/lang/StringBuilder")))) ∧ gAr yJ6_append 1 := ⟨lw_V q1147 q335 q336 q90 q337, ar_J6_append⟩
theorem lk_J4_106 : GoodIn lw_all (wsV RJ4 106 (yJ6_append_2).cls yJ6_append_2 (ws_ yJ6_append_2 cJ6_append_2 2 (some (.object "java/lang/StringBuilder")))) ∧ gAr yJ6_append_2 1 := ⟨lw_V q1148 q455 q456 q90 q457, ar_J6_append_2⟩
theorem lk_J4_111 : GoodIn lw_all (wsV RJ4 111 (yJ6_toString).cls yJ6_toString (ws_ yJ6_toString cJ6_toString 1 (some (.object "java/lang/String")))) ∧ gAr yJ6_toString 0 := ⟨lw_V q1150 q480 q481 q90 q482, ar_J6_toString⟩
theorem ar_J4_unlinkFirst : gAr yJ4_unlinkFirst 1 := ⟨by decide +kernel, by decide +kernel, by decide +kernel⟩
theorem lk_J4_46 : GoodIn lw_all (wsV RJ4 46 (yJ4_unlinkFirst).cls yJ4_unlinkFirst (ws_ yJ4_unlinkFirst cJ4_unlinkFirst 4 (some (.object "java/lang/Object")))) ∧ gAr yJ4_unlinkFirst 1 := ⟨lw_V q1191 q1193 qs17 q87 q1194, ar_J4_unlinkFirst⟩
theorem fp_J4_39 : gPut RJ4 39 14 0 (.object "java/lang/Object") false := gPut.of (T := TJ22) (N := 3) tyJ22 rfl (by decide) in_J22 q1167 tyJ22_ok nmJ22 rfl rfl
theorem ar_J4_linkLast : gAr yJ4_linkLast 1 := ⟨by decide +kernel, by decide +kernel, by decide +kernel⟩
theorem lk_J4_57 : GoodIn lw_all (wsV RJ4 57 (yJ4_linkLast).cls yJ4_linkLast (ws_ yJ4_linkLast cJ4_linkLast 4 none)) ∧ gAr yJ4_linkLast 1 := ⟨lw_V q1199 q1200 q1201 q87 q1202, ar_J4_linkLast⟩
theorem ar_J4_unlinkLast : gAr yJ4_unlinkLast 1 := ⟨by decide +kernel, by decide +kernel, by decide +kernel⟩
theorem lk_J4_50 : GoodIn lw_all (wsV RJ4 50 (yJ4_unlinkLast).cls yJ4_unlinkLast (ws_ yJ4_unlinkLast cJ4_unlinkLast 4 (some (.object "java/lang/Object")))) ∧ gAr yJ4_unlinkLast 1 := ⟨lw_V q1491 q1493 qs23 q87 q1494, ar_J4_unlinkLast⟩
theorem ar_J4_linkFirst : gAr yJ4_linkFirst 1 := ⟨by decide +kernel, by decide +kernel, by decide +kernel⟩
theorem lk_J4_53 : GoodIn lw_all (wsV RJ4 53 (yJ4_linkFirst).cls yJ4_linkFirst (ws_ yJ4_linkFirst cJ4_linkFirst 4 none)) ∧ gAr yJ4_linkFirst 1 := ⟨lw_V q1518 q1520 qs24 q87 q1521, ar_J4_linkFirst⟩
theorem ar_J4_checkElementIndex : gAr yJ4_checkElementIndex 1 := ⟨by decide +kernel, by decide +kernel, by decide +kernel⟩
theorem lk_J4_90 : GoodIn lw_all (wsV RJ4 90 (yJ4_checkElementIndex).cls yJ4_checkElementIndex (ws_ yJ4_checkElementIndex cJ4_checkElementIndex 2 none)) ∧ gAr yJ4_checkElementIndex 1 := ⟨lw_V q1990 q1992 qs31 q87 q1993, ar_J4_checkElementIndex⟩
theorem ar_J4_isElementIndex : gAr yJ4_isElementIndex 1 := ⟨by decide +kernel, by decide +kernel, by decide +kernel⟩
theorem lk_J4_115 : GoodIn lw_all (wsV RJ4 115 (yJ4_isElementIndex).cls yJ4_isElementIndex (ws_ yJ4_isElementIndex cJ4_isElementIndex 2 (some .boolean))) ∧ gAr yJ4_isElementIndex 1 := ⟨lw_V q1994 q1996 qs32 q87 q1997, ar_J4_isElementIndex⟩
theorem lo_J5_3 : Cond.methodLink RJ5 3 Lib.objectInit ∈ lw_all := q270
theorem fp_J5_15_J6 : gPut RJ5 15 16 0 (.array .byte) false := gPut.of (T := TJ6) (N := 4) tyJ6 rfl (by decide) in_J6 q280 tyJ6_ok nmJ6 rfl rfl
theorem fp_J5_22_J6 : gPut RJ5 22 16 1 (.byte) false := gPut.of (T := TJ6) (N := 4) tyJ6 rfl (by decide) in_J6 q281 tyJ6_ok nmJ6 rfl rfl
theorem ar_J8_newBytesFor : gAr yJ8_newBytesFor 1 := ⟨by decide +kernel, by decide +kernel, by decide +kernel⟩
theorem lk_J5_26 : GoodIn lw_all (va_wsS RJ5 26 yJ8_newBytesFor (ws_ yJ8_newBytesFor cJ8_newBytesFor 1 (some (.array .byte)))) ∧ gAr yJ8_newBytesFor 1 := ⟨lw_S q273 q274 q92 q275, ar_J8_newBytesFor⟩
theorem fg_J5_79_J6 : gFld RJ5 79 16 3 := gFld.of (T := TJ6) (N := 4) rfl (by decide) in_J6 q284
theorem ar_J25_init : gAr yJ25_init 1 := ⟨by decide +kernel, by decide +kernel, by decide +kernel⟩
theorem lk_J5_131 : (GoodIn lw_all (ws_ yJ25_init cJ25_init 2 none) ∧ Cond.initialized (yJ25_init).cls ∈ lw_all ∧ Cond.methodLink RJ5 131 yJ25_init ∈ lw_all ∧ Cond.instanceMethod yJ25_init ∈ lw_all ∧ (yJ25_init).name = "<init>") ∧ gAr yJ25_init 1 := ⟨⟨lw_meth q330, q115, q328, q329, rfl⟩, ar_J25_init⟩
theorem ar_J5_ensureCapacityInternal : gAr yJ5_ensureCapacityInternal 1 := ⟨by decide +kernel, by decide +kernel, by decide +kernel⟩
theorem ar_J5_isLatin1 : gAr yJ5_isLatin1 0 := ⟨by decide +kernel, by decide +kernel, by decide +kernel⟩
theorem fg_J5_15_J6 : gFld RJ5 15 16 0 := gFld.of (T := TJ6) (N := 4) rfl (by decide) in_J6 q280
theorem ar_J19_fillNull : gAr yJ19_fillNull 3 := ⟨by decide +kernel, by decide +kernel, by decide +kernel⟩
theorem lk_J5_133 : GoodIn lw_all (va_wsS RJ5 133 yJ19_fillNull (ws_ yJ19_fillNull cJ19_fillNull 3 none)) ∧ gAr yJ19_fillNull 3 := ⟨lw_S q622 q623 q106 q624, ar_J19_fillNull⟩
theorem ar_J8_fillNull : gAr yJ8_fillNull 3 := ⟨by decide +kernel, by decide +kernel, by decide +kernel⟩
theorem lk_J5_137 : GoodIn lw_all (va_wsS RJ5 137 yJ8_fillNull (ws_ yJ8_fillNull cJ8_fillNull 3 none)) ∧ gAr yJ8_fillNull 3 := ⟨lw_S q657 q658 q92 q659, ar_J8_fillNull⟩
theorem fp_J5_73_J6 : gPut RJ5 73 16 2 (.boolean) false := gPut.of (T := TJ6) (N := 4) tyJ6 rfl (by decide) in_J6 q282 tyJ6_ok nmJ6 rfl rfl
theorem fp_J5_79_J6 : gPut RJ5 79 16 3 (.int) false := gPut.of (T := TJ6) (N := 4) tyJ6 rfl (by decide) in_J6 q284 tyJ6_ok nmJ6 rfl rfl
theorem ar_J5_appendNull : gAr yJ5_appendNull 0 := ⟨by decide +kernel, by decide +kernel, by decide +kernel⟩
theorem ar_J7_length : gAr yJ7_length 0 := ⟨by decide +kernel, by decide +kernel, by decide +kernel⟩
theorem lk_J5_32 : GoodIn lw_all (wsV RJ5 32 (yJ7_length).cls yJ7_length (ws_ yJ7_length cJ7_length 1 (some .int))) ∧ gAr yJ7_length 0 := ⟨lw_V q411 q412 q413 q91 q414, ar_J7_length⟩
theorem ar_J5_putStringAt : gAr yJ5_putStringAt 2 := ⟨by decide +kernel, by decide +kernel, by decide +kernel⟩
theorem ar_J8_putCharsAt : gAr yJ8_putCharsAt 6 := ⟨by decide +kernel, by decide +kernel, by decide +kernel⟩
theorem lk_J5_226 : GoodIn lw_all (va_wsS RJ5 226 yJ8_putCharsAt (ws_ yJ8_putCharsAt cJ8_putCharsAt 7 (some .int))) ∧ gAr yJ8_putCharsAt 6 := ⟨lw_S q385 q386 q92 q387, ar_J8_putCharsAt⟩
theorem fg_J5_22_J6 : gFld RJ5 22 16 1 := gFld.of (T := TJ6) (N := 4) rfl (by decide) in_J6 q281
theorem ar_J5_newCapacity : gAr yJ5_newCapacity 1 := ⟨by decide +kernel, by decide +kernel, by decide +kernel⟩
theorem ar_J16_copyOf : gAr yJ16_copyOf 2 := ⟨by decide +kernel, by decide +kernel, by decide +kernel⟩
theorem lk_J5_108 : GoodIn lw_all (va_wsS RJ5 108 yJ16_copyOf (ws_ yJ16_copyOf cJ16_copyOf 3 (some (.array .byte)))) ∧ gAr yJ16_copyOf 2 := ⟨lw_S q364 q365 q102 q366, ar_J16_copyOf⟩
theorem lk_J5_114 : GoodIn lw_all (va_wsS RJ5 114 yJ14_newLength (ws_ yJ14_newLength cJ14_newLength 4 (some .int))) ∧ gAr yJ14_newLength 3 := ⟨lw_S q353 q354 q100 q355, ar_J14_newLength⟩
theorem ar_J5_inflateIfNeededFor : gAr yJ5_inflateIfNeededFor 1 := ⟨by decide +kernel, by decide +kernel, by decide +kernel⟩
theorem ar_J7_getBytes : gAr yJ7_getBytes 3 := ⟨by decide +kernel, by decide +kernel, by decide +kernel⟩
theorem lk_J5_399 : GoodIn lw_all (wsV RJ5 399 (yJ7_getBytes).cls yJ7_getBytes (ws_ yJ7_getBytes cJ7_getBytes 4 none)) ∧ gAr yJ7_getBytes 3 := ⟨lw_V q448 q449 q450 q91 q451, ar_J7_getBytes⟩
theorem ar_J7_coder : gAr yJ7_coder 0 := ⟨by decide +kernel, by decide +kernel, by decide +kernel⟩
theorem lk_J5_40 : GoodIn lw_all (wsV RJ5 40 (yJ7_coder).cls yJ7_coder (ws_ yJ7_coder cJ7_coder 1 (some .byte))) ∧ gAr yJ7_coder 0 := ⟨lw_V q428 q416 q417 q91 q418, ar_J7_coder⟩
theorem ar_J5_inflate : gAr yJ5_inflate 0 := ⟨by decide +kernel, by decide +kernel, by decide +kernel⟩
theorem ar_J19_inflate : gAr yJ19_inflate 5 := ⟨by decide +kernel, by decide +kernel, by decide +kernel⟩
theorem lk_J5_125 : GoodIn lw_all (va_wsS RJ5 125 yJ19_inflate (ws_ yJ19_inflate cJ19_inflate 5 none)) ∧ gAr yJ19_inflate 5 := ⟨lw_S q433 q434 q106 q435, ar_J19_inflate⟩
theorem ar_J20_stringSize : gAr yJ20_stringSize 1 := ⟨by decide +kernel, by decide +kernel, by decide +kernel⟩
theorem lk_J5_245 : GoodIn lw_all (va_wsS RJ5 245 yJ20_stringSize (ws_ yJ20_stringSize cJ20_stringSize 4 (some .int))) ∧ gAr yJ20_stringSize 1 := ⟨lw_S q461 q462 q108 q463, ar_J20_stringSize⟩
theorem ar_J20_getChars : gAr yJ20_getChars 3 := ⟨by decide +kernel, by decide +kernel, by decide +kernel⟩
theorem lk_J5_248 : GoodIn lw_all (va_wsS RJ5 248 yJ20_getChars (ws_ yJ20_getChars cJ20_getChars 7 (some .int))) ∧ gAr yJ20_getChars 3 := ⟨lw_S q464 q465 q108 q466, ar_J20_getChars⟩
theorem ar_J8_getChars : gAr yJ8_getChars 4 := ⟨by decide +kernel, by decide +kernel, by decide +kernel⟩
theorem lk_J5_251 : GoodIn lw_all (va_wsS RJ5 251 yJ8_getChars (ws_ yJ8_getChars cJ8_getChars 5 (some .int))) ∧ gAr yJ8_getChars 4 := ⟨lw_S q471 q472 q92 q473, ar_J8_getChars⟩
theorem lk_J5_138 : GoodIn lw_all (va_wsS RJ5 138 yJ15_min (ws_ yJ15_min cJ15_min 2 (some .int))) ∧ gAr yJ15_min 2 := ⟨lw_S q701 q375 q101 q376, ar_J15_min⟩
theorem ar_J7_checkIndex : gAr yJ7_checkIndex 2 := ⟨by decide +kernel, by decide +kernel, by decide +kernel⟩
theorem lk_J5_144 : GoodIn lw_all (va_wsS RJ5 144 yJ7_checkIndex (ws_ yJ7_checkIndex cJ7_checkIndex 2 none)) ∧ gAr yJ7_checkIndex 2 := ⟨lw_S q702 q703 q91 q704, ar_J7_checkIndex⟩
theorem ar_J8_getChar : gAr yJ8_getChar 2 := ⟨by decide +kernel, by decide +kernel, by decide +kernel⟩
theorem lk_J5_148 : GoodIn lw_all (va_wsS RJ5 148 yJ8_getChar (ws_ yJ8_getChar cJ8_getChar 2 (some .char))) ∧ gAr yJ8_getChar 2 := ⟨lw_S q708 q592 q92 q593, ar_J8_getChar⟩
theorem ar_J19_canEncode : gAr yJ19_canEncode 1 := ⟨by decide +kernel, by decide +kernel, by decide +kernel⟩
theorem lk_J5_191 : GoodIn lw_all (va_wsS RJ5 191 yJ19_canEncode (ws_ yJ19_canEncode cJ19_canEncode 1 (some .boolean))) ∧ gAr yJ19_canEncode 1 := ⟨lw_S q1550 q1551 q106 q1552, ar_J19_canEncode⟩
theorem ar_J8_putCharSB : gAr yJ8_putCharSB 3 := ⟨by decide +kernel, by decide +kernel, by decide +kernel⟩
theorem lk_J5_197 : GoodIn lw_all (va_wsS RJ5 197 yJ8_putCharSB (ws_ yJ8_putCharSB cJ8_putCharSB 3 none)) ∧ gAr yJ8_putCharSB 3 := ⟨lw_S q1553 q1554 q92 q1555, ar_J8_putCharSB⟩
theorem ar_J5_init : gAr yJ5_init 1 := ⟨by decide +kernel, by decide +kernel, by decide +kernel⟩
theorem lk_J6_1 : (GoodIn lw_all (ws_ yJ5_init cJ5_init 2 none) ∧ Cond.initialized (yJ5_init).cls ∈ lw_all ∧ Cond.methodLink RJ6 1 yJ5_init ∈ lw_all ∧ Cond.instanceMethod yJ5_init ∈ lw_all ∧ (yJ5_init).name = "<init>") ∧ gAr yJ5_init 1 := ⟨⟨lw_meth q269, q89, q267, q268, rfl⟩, ar_J5_init⟩
theorem ar_J5_length : gAr yJ5_length 0 := ⟨by decide +kernel, by decide +kernel, by decide +kernel⟩
theorem lk_J6_343 : GoodIn lw_all (va_wsSU RJ6 343 yJ5_length (ws_ yJ5_length cJ5_length 1 (some .int))) ∧ (yJ5_length).name ≠ "<init>" ∧ (parseMethodDescriptor (yJ5_length).desc).map (fun d => d.parameters.length) = some 0 := ⟨lw_app (lw_in _ [316, 2572, 293, 317, 89] (by decide +kernel) (by decide +kernel)) (lw_meth q318), by decide +kernel, by decide +kernel⟩
theorem ar_J5_setLength : gAr yJ5_setLength 1 := ⟨by decide +kernel, by decide +kernel, by decide +kernel⟩
theorem lk_J6_333 : GoodIn lw_all (va_wsSU RJ6 333 yJ5_setLength (ws_ yJ5_setLength cJ5_setLength 2 none)) ∧ (yJ5_setLength).name ≠ "<init>" ∧ (parseMethodDescriptor (yJ5_setLength).desc).map (fun d => d.parameters.length) = some 1 := ⟨lw_app (lw_in _ [323, 2573, 293, 324, 89] (by decide +kernel) (by decide +kernel)) (lw_meth q325), by decide +kernel, by decide +kernel⟩
theorem ar_J5_append : gAr yJ5_append 1 := ⟨by decide +kernel, by decide +kernel, by decide +kernel⟩
theorem lk_J6_29 : GoodIn lw_all (va_wsSU RJ6 29 yJ5_append (ws_ yJ5_append cJ5_append 3 (some (.object "java/lang/AbstractStringBuilder")))) ∧ (yJ5_append).name ≠ "<init>" ∧ (parseMethodDescriptor (yJ5_append).desc).map (fun d => d.parameters.length) = some 1 := ⟨lw_app (lw_in _ [338, 2574, 293, 339, 89] (by decide +kernel) (by decide +kernel)) (lw_meth q340), by decide +kernel, by decide +kernel⟩
theorem ar_J5_append_2 : gAr yJ5_append_2 1 := ⟨by decide +kernel, by decide +kernel, by decide +kernel⟩
theorem lk_J6_53 : GoodIn lw_all (va_wsSU RJ6 53 yJ5_append_2 (ws_ yJ5_append_2 cJ5_append_2 4 (some (.object "java/lang/AbstractStringBuilder")))) ∧ (yJ5_append_2).name ≠ "<init>" ∧ (parseMethodDescriptor (yJ5_append_2).desc).map (fun d => d.parameters.length) = some 1 := ⟨lw_app (lw_in _ [458, 2581, 293, 459, 89] (by decide +kernel) (by decide +kernel)) (lw_meth q460), by decide +kernel, by decide +kernel⟩
theorem ar_J7_init : gAr yJ7_init 1 := ⟨by decide +kernel, by decide +kernel, by decide +kernel⟩
theorem lk_J6_137 : (GoodIn lw_all (ws_ yJ7_init cJ7_init 2 none) ∧ Cond.initialized (yJ7_init).cls ∈ lw_all ∧ Cond.methodLink RJ6 137 yJ7_init ∈ lw_all ∧ Cond.instanceMethod yJ7_init ∈ lw_all ∧ (yJ7_init).name = "<init>") ∧ gAr yJ7_init 1 := ⟨⟨lw_meth q487, q91, q485, q486, rfl⟩, ar_J7_init⟩
theorem ar_J5_charAt : gAr yJ5_charAt 1 := ⟨by decide +kernel, by decide +kernel, by decide +kernel⟩
theorem lk_J6_329 : GoodIn lw_all (va_wsSU RJ6 329 yJ5_charAt (ws_ yJ5_charAt cJ5_charAt 5 (some .char))) ∧ (yJ5_charAt).name ≠ "<init>" ∧ (parseMethodDescriptor (yJ5_charAt).desc).map (fun d => d.parameters.length) = some 1 := ⟨lw_app (lw_in _ [698, 2584, 293, 699, 89] (by decide +kernel) (by decide +kernel)) (lw_meth q700), by decide +kernel, by decide +kernel⟩
theorem ar_J5_append_3 : gAr yJ5_append_3 1 := ⟨by decide +kernel, by decide +kernel, by decide +kernel⟩
theorem lk_J6_50 : GoodIn lw_all (va_wsSU RJ6 50 yJ5_append_3 (ws_ yJ5_append_3 cJ5_append_3 2 (some (.object "java/lang/AbstractStringBuilder")))) ∧ (yJ5_append_3).name ≠ "<init>" ∧ (parseMethodDescriptor (yJ5_append_3).desc).map (fun d => d.parameters.length) = some 1 := ⟨lw_app (lw_in _ [1547, 2585, 293, 1548, 89] (by decide +kernel) (by decide +kernel)) (lw_meth q1549), by decide +kernel, by decide +kernel⟩
theorem ar_J18_checkFromToIndex : gAr yJ18_checkFromToIndex 4 := ⟨by decide +kernel, by decide +kernel, by decide +kernel⟩
theorem lk_J7_1062 : GoodIn lw_all (va_wsS RJ7 1062 yJ18_checkFromToIndex (ws_ yJ18_checkFromToIndex cJ18_checkFromToIndex 4 (some .int))) ∧ gAr yJ18_checkFromToIndex 4 := ⟨lw_S q399 q400 q105 q401, ar_J18_checkFromToIndex⟩
theorem lk_J7_335 : GoodIn lw_all (wsV RJ7 335 (yJ7_coder).cls yJ7_coder (ws_ yJ7_coder cJ7_coder 1 (some .byte))) ∧ gAr yJ7_coder 0 := ⟨lw_V q415 q416 q417 q91 q418, ar_J7_coder⟩
theorem ar_J18_checkFromIndexSize : gAr yJ18_checkFromIndexSize 4 := ⟨by decide +kernel, by decide +kernel, by decide +kernel⟩
theorem lk_J7_1065 : GoodIn lw_all (va_wsS RJ7 1065 yJ18_checkFromIndexSize (ws_ yJ18_checkFromIndexSize cJ18_checkFromIndexSize 4 (some .int))) ∧ gAr yJ18_checkFromIndexSize 4 := ⟨lw_S q445 q446 q105 q447, ar_J18_checkFromIndexSize⟩
theorem lk_J7_106 : GoodIn lw_all (va_wsS RJ7 106 yJ19_inflate (ws_ yJ19_inflate cJ19_inflate 5 none)) ∧ gAr yJ19_inflate 5 := ⟨lw_S q453 q434 q106 q435, ar_J19_inflate⟩
theorem ar_J7_init_2 : gAr yJ7_init_2 2 := ⟨by decide +kernel, by decide +kernel, by decide +kernel⟩
theorem lk_J7_489 : (GoodIn lw_all (ws_ yJ7_init_2 cJ7_init_2 5 none) ∧ Cond.initialized (yJ7_init_2).cls ∈ lw_all ∧ Cond.methodLink RJ7 489 yJ7_init_2 ∈ lw_all ∧ Cond.instanceMethod yJ7_init_2 ∈ lw_all ∧ (yJ7_init_2).name = "<init>") ∧ gAr yJ7_init_2 2 := ⟨⟨lw_meth q490, q91, q488, q489, rfl⟩, ar_J7_init_2⟩
theorem lo_J7_1 : Cond.methodLink RJ7 1 Lib.objectInit ∈ lw_all := q491
theorem ar_J5_getValue : gAr yJ5_getValue 0 := ⟨by decide +kernel, by decide +kernel, by decide +kernel⟩
theorem ar_J16_copyOfRange : gAr yJ16_copyOfRange 3 := ⟨by decide +kernel, by decide +kernel, by decide +kernel⟩
theorem lk_J7_54 : GoodIn lw_all (va_wsS RJ7 54 yJ16_copyOfRange (ws_ yJ16_copyOfRange cJ16_copyOfRange 3 (some (.array .byte)))) ∧ gAr yJ16_copyOfRange 3 := ⟨lw_S q499 q500 q102 q501, ar_J16_copyOfRange⟩
theorem fg_J7_1048_J6 : gFld RJ7 1048 16 2 := gFld.of (T := TJ6) (N := 4) rfl (by decide) in_J6 q283
theorem ar_J8_compress : gAr yJ8_compress 3 := ⟨by decide +kernel, by decide +kernel, by decide +kernel⟩
theorem lk_J7_1051 : GoodIn lw_all (va_wsS RJ7 1051 yJ8_compress (ws_ yJ8_compress cJ8_compress 6 (some (.array .byte)))) ∧ gAr yJ8_compress 3 := ⟨lw_S q585 q586 q92 q587, ar_J8_compress⟩
theorem ar_J8_coderFromArrayLen : gAr yJ8_coderFromArrayLen 2 := ⟨by decide +kernel, by decide +kernel, by decide +kernel⟩
theorem lk_J7_47 : GoodIn lw_all (va_wsS RJ7 47 yJ8_coderFromArrayLen (ws_ yJ8_coderFromArrayLen cJ8_coderFromArrayLen 2 (some .byte))) ∧ gAr yJ8_coderFromArrayLen 2 := ⟨lw_S q595 q596 q92 q597, ar_J8_coderFromArrayLen⟩
theorem lk_J7_1059 : GoodIn lw_all (va_wsS RJ7 1059 yJ18_checkIndex (ws_ yJ18_checkIndex cJ18_checkIndex 3 (some .int))) ∧ gAr yJ18_checkIndex 3 := ⟨lw_S q705 q706 q105 q707, ar_J18_checkIndex⟩
theorem ar_J8_newBytesLength : gAr yJ8_newBytesLength 1 := ⟨by decide +kernel, by decide +kernel, by decide +kernel⟩
theorem lk_J8_11 : GoodIn lw_all (va_wsS RJ8 11 yJ8_newBytesLength (ws_ yJ8_newBytesLength cJ8_newBytesLength 1 (some .int))) ∧ gAr yJ8_newBytesLength 1 := ⟨lw_S q276 q277 q92 q278, ar_J8_newBytesLength⟩
theorem ar_J8_checkBoundsBeginEnd : gAr yJ8_checkBoundsBeginEnd 3 := ⟨by decide +kernel, by decide +kernel, by decide +kernel⟩
theorem lk_J8_96 : GoodIn lw_all (va_wsS RJ8 96 yJ8_checkBoundsBeginEnd (ws_ yJ8_checkBoundsBeginEnd cJ8_checkBoundsBeginEnd 3 none)) ∧ gAr yJ8_checkBoundsBeginEnd 3 := ⟨lw_S q388 q389 q92 q390, ar_J8_checkBoundsBeginEnd⟩
theorem ar_J8_putChar : gAr yJ8_putChar 3 := ⟨by decide +kernel, by decide +kernel, by decide +kernel⟩
theorem lk_J8_111 : GoodIn lw_all (va_wsS RJ8 111 yJ8_putChar (ws_ yJ8_putChar cJ8_putChar 3 none)) ∧ gAr yJ8_putChar 3 := ⟨lw_S q402 q403 q92 q404, ar_J8_putChar⟩
theorem ar_J8_length : gAr yJ8_length 1 := ⟨by decide +kernel, by decide +kernel, by decide +kernel⟩
theorem lk_J8_48 : GoodIn lw_all (va_wsS RJ8 48 yJ8_length (ws_ yJ8_length cJ8_length 1 (some .int))) ∧ gAr yJ8_length 1 := ⟨lw_S q391 q392 q92 q393, ar_J8_length⟩
theorem ar_J7_checkBoundsBeginEnd : gAr yJ7_checkBoundsBeginEnd 3 := ⟨by decide +kernel, by decide +kernel, by decide +kernel⟩
theorem lk_J8_241 : GoodIn lw_all (va_wsS RJ8 241 yJ7_checkBoundsBeginEnd (ws_ yJ7_checkBoundsBeginEnd cJ7_checkBoundsBeginEnd 3 none)) ∧ gAr yJ7_checkBoundsBeginEnd 3 := ⟨lw_S q394 q395 q91 q396, ar_J7_checkBoundsBeginEnd⟩
theorem ar_J8_checkBoundsOffCount : gAr yJ8_checkBoundsOffCount 3 := ⟨by decide +kernel, by decide +kernel, by decide +kernel⟩
theorem lk_J8_173 : GoodIn lw_all (va_wsS RJ8 173 yJ8_checkBoundsOffCount (ws_ yJ8_checkBoundsOffCount cJ8_checkBoundsOffCount 3 none)) ∧ gAr yJ8_checkBoundsOffCount 3 := ⟨lw_S q439 q440 q92 q441, ar_J8_checkBoundsOffCount⟩
theorem ar_J7_checkBoundsOffCount : gAr yJ7_checkBoundsOffCount 3 := ⟨by decide +kernel, by decide +kernel, by decide +kernel⟩
theorem lk_J8_419 : GoodIn lw_all (va_wsS RJ8 419 yJ7_checkBoundsOffCount (ws_ yJ7_checkBoundsOffCount cJ7_checkBoundsOffCount 3 (some .int))) ∧ gAr yJ7_checkBoundsOffCount 3 := ⟨lw_S q442 q443 q91 q444, ar_J7_checkBoundsOffCount⟩
theorem ar_J8_getChars_2 : gAr yJ8_getChars_2 3 := ⟨by decide +kernel, by decide +kernel, by decide +kernel⟩
theorem lk_J8_393 : GoodIn lw_all (va_wsS RJ8 393 yJ8_getChars_2 (ws_ yJ8_getChars_2 cJ8_getChars_2 7 (some .int))) ∧ gAr yJ8_getChars_2 3 := ⟨lw_S q474 q475 q92 q476, ar_J8_getChars_2⟩
theorem ar_J8_compress_2 : gAr yJ8_compress_2 5 := ⟨by decide +kernel, by decide +kernel, by decide +kernel⟩
theorem lk_J8_123 : GoodIn lw_all (va_wsS RJ8 123 yJ8_compress_2 (ws_ yJ8_compress_2 cJ8_compress_2 7 (some .int))) ∧ gAr yJ8_compress_2 5 := ⟨lw_S q588 q589 q92 q590, ar_J8_compress_2⟩
theorem lk_J8_126 : GoodIn lw_all (va_wsS RJ8 126 yJ16_copyOfRange (ws_ yJ16_copyOfRange cJ16_copyOfRange 3 (some (.array .byte)))) ∧ gAr yJ16_copyOfRange 3 := ⟨lw_S q594 q500 q102 q501, ar_J16_copyOfRange⟩
theorem lk_J8_71 : GoodIn lw_all (va_wsS RJ8 71 yJ8_getChar (ws_ yJ8_getChar cJ8_getChar 2 (some .char))) ∧ gAr yJ8_getChar 2 := ⟨lw_S q591 q592 q92 q593, ar_J8_getChar⟩
theorem lk_J8_380 : GoodIn lw_all (va_wsS RJ8 380 yJ16_fill (ws_ yJ16_fill cJ16_fill 5 none)) ∧ gAr yJ16_fill 4 := ⟨lw_S q660 q626 q102 q627, ar_J16_fill⟩
theorem ar_J8_checkIndex : gAr yJ8_checkIndex 2 := ⟨by decide +kernel, by decide +kernel, by decide +kernel⟩
theorem lk_J8_67 : GoodIn lw_all (va_wsS RJ8 67 yJ8_checkIndex (ws_ yJ8_checkIndex cJ8_checkIndex 2 none)) ∧ gAr yJ8_checkIndex 2 := ⟨lw_S q1556 q1557 q92 q1558, ar_J8_checkIndex⟩
theorem lk_J8_414 : GoodIn lw_all (va_wsS RJ8 414 yJ7_checkIndex (ws_ yJ7_checkIndex cJ7_checkIndex 2 none)) ∧ gAr yJ7_checkIndex 2 := ⟨lw_S q1559 q703 q91 q704, ar_J7_checkIndex⟩
theorem lo_J9_1 : Cond.methodLink RJ9 1 Lib.objectInit ∈ lw_all := q533
theorem fp_J9_7_X10 : gPut RJ9 7 9 0 (.object "java/lang/Throwable") false := gPut.of (T := TX10) (N := 7) tyX10 rfl (by decide) in_X10 q574 tyX10_ok nmX10 rfl rfl
theorem fp_J9_7_X11 : gPut RJ9 7 10 0 (.object "java/lang/Throwable") false := gPut.of (T := TX11) (N := 6) tyX11 rfl (by decide) in_X11 q574 tyX11_ok nmX11 rfl rfl
theorem fp_J9_7_X12 : gPut RJ9 7 11 0 (.object "java/lang/Throwable") false := gPut.of (T := TX12) (N := 6) tyX12 rfl (by decide) in_X12 q574 tyX12_ok nmX12 rfl rfl
theorem fp_J9_7_J12 : gPut RJ9 7 17 0 (.object "java/lang/Throwable") false := gPut.of (T := TJ12) (N := 6) tyJ12 rfl (by decide) in_J12 q574 tyJ12_ok nmJ12 rfl rfl
theorem fp_J9_17_X10 : gPut RJ9 17 9 1 (.array (.object "java/lang/StackTraceElement")) false := gPut.of (T := TX10) (N := 7) tyX10 rfl (by decide) in_X10 q575 tyX10_ok nmX10 rfl rfl
theorem fp_J9_17_X11 : gPut RJ9 17 10 1 (.array (.object "java/lang/StackTraceElement")) false := gPut.of (T := TX11) (N := 6) tyX11 rfl (by decide) in_X11 q575 tyX11_ok nmX11 rfl rfl
theorem fp_J9_17_X12 : gPut RJ9 17 11 1 (.array (.object "java/lang/StackTraceElement")) false := gPut.of (T := TX12) (N := 6) tyX12 rfl (by decide) in_X12 q575 tyX12_ok nmX12 rfl rfl
theorem fp_J9_17_J12 : gPut RJ9 17 17 1 (.array (.object "java/lang/StackTraceElement")) false := gPut.of (T := TJ12) (N := 6) tyJ12 rfl (by decide) in_J12 q575 tyJ12_ok nmJ12 rfl rfl
theorem fp_J9_24_X10 : gPut RJ9 24 9 2 (.object "java/util/List") false := gPut.of (T := TX10) (N := 7) tyX10 rfl (by decide) in_X10 q576 tyX10_ok nmX10 rfl rfl
theorem fp_J9_24_X11 : gPut RJ9 24 10 2 (.object "java/util/List") false := gPut.of (T := TX11) (N := 6) tyX11 rfl (by decide) in_X11 q576 tyX11_ok nmX11 rfl rfl
theorem fp_J9_24_X12 : gPut RJ9 24 11 2 (.object "java/util/List") false := gPut.of (T := TX12) (N := 6) tyX12 rfl (by decide) in_X12 q576 tyX12_ok nmX12 rfl rfl
theorem fp_J9_24_J12 : gPut RJ9 24 17 2 (.object "java/util/List") false := gPut.of (T := TJ12) (N := 6) tyJ12 rfl (by decide) in_J12 q576 tyJ12_ok nmJ12 rfl rfl
theorem fp_J9_31_X10 : gPut RJ9 31 9 3 (.object "java/lang/String") false := gPut.of (T := TX10) (N := 7) tyX10 rfl (by decide) in_X10 q573 tyX10_ok nmX10 rfl rfl
theorem fp_J9_31_X11 : gPut RJ9 31 10 3 (.object "java/lang/String") false := gPut.of (T := TX11) (N := 6) tyX11 rfl (by decide) in_X11 q573 tyX11_ok nmX11 rfl rfl
theorem fp_J9_31_X12 : gPut RJ9 31 11 3 (.object "java/lang/String") false := gPut.of (T := TX12) (N := 6) tyX12 rfl (by decide) in_X12 q573 tyX12_ok nmX12 rfl rfl
theorem fp_J9_31_J12 : gPut RJ9 31 17 3 (.object "java/lang/String") false := gPut.of (T := TJ12) (N := 6) tyJ12 rfl (by decide) in_J12 q573 tyJ12_ok nmJ12 rfl rfl
theorem ar_J9_getLocalizedMessage : gAr yJ9_getLocalizedMessage 0 := ⟨by decide +kernel, by decide +kernel, by decide +kernel⟩
theorem nw_J9_44 : gNew RJ9 44 16 [.null, .int 0, .int 0, .int 0] := ⟨RJ6, TJ6, tyJ6, rfl, in_J6, tyJ6_ok, q1630, q263, q90, by decide +kernel⟩
theorem lk_J9_46 : (GoodIn lw_all (ws_ yJ6_init cJ6_init 1 none) ∧ Cond.initialized (yJ6_init).cls ∈ lw_all ∧ Cond.methodLink RJ9 46 yJ6_init ∈ lw_all ∧ Cond.instanceMethod yJ6_init ∈ lw_all ∧ (yJ6_init).name = "<init>") ∧ gAr yJ6_init 0 := ⟨⟨lw_meth q266, q90, q1631, q265, rfl⟩, ar_J6_init⟩
theorem lk_J9_49 : GoodIn lw_all (wsV RJ9 49 (yJ6_append).cls yJ6_append (ws_ yJ6_append cJ6_append 2 (some (.object "java/lang/StringBuilder")))) ∧ gAr yJ6_append 1 := ⟨lw_V q1633 q335 q336 q90 q337, ar_J6_append⟩
theorem lk_J9_60 : GoodIn lw_all (wsV RJ9 60 (yJ6_toString).cls yJ6_toString (ws_ yJ6_toString cJ6_toString 1 (some (.object "java/lang/String")))) ∧ gAr yJ6_toString 0 := ⟨lw_V q1672 q480 q481 q90 q482, ar_J6_toString⟩
theorem ar_J9_getMessage : gAr yJ9_getMessage 0 := ⟨by decide +kernel, by decide +kernel, by decide +kernel⟩
theorem fg_J9_31_X10 : gFld RJ9 31 9 3 := gFld.of (T := TX10) (N := 7) rfl (by decide) in_X10 q573
theorem fg_J9_31_X11 : gFld RJ9 31 10 3 := gFld.of (T := TX11) (N := 6) rfl (by decide) in_X11 q573
theorem fg_J9_31_X12 : gFld RJ9 31 11 3 := gFld.of (T := TX12) (N := 6) rfl (by decide) in_X12 q573
theorem fg_J9_31_J12 : gFld RJ9 31 17 3 := gFld.of (T := TJ12) (N := 6) rfl (by decide) in_J12 q573
theorem nw_X0_8 : gNew RX0 8 0 [.null, .null, .null, .null] := ⟨RX1, TX1, tyX1, rfl, in_X1, tyX1_ok, q121, q122, q81, by decide +kernel⟩
theorem ar_X1_init : gAr yX1_init 0 := ⟨by decide +kernel, by decide +kernel, by decide +kernel⟩
theorem lk_X0_191 : (GoodIn lw_all (ws_ yX1_init cX1_init 1 none) ∧ Cond.initialized (yX1_init).cls ∈ lw_all ∧ Cond.methodLink RX0 191 yX1_init ∈ lw_all ∧ Cond.instanceMethod yX1_init ∈ lw_all ∧ (yX1_init).name = "<init>") ∧ gAr yX1_init 0 := ⟨⟨lw_meth q125, q81, q123, q124, rfl⟩, ar_X1_init⟩
theorem nw_X0_192 : gNew RX0 192 3 [.null, .null, .null, .null, .int 0, .int 0, .null, .int 0, .null, .null, .int 0, .int 0, .int 0, .int 0, .null] := ⟨RX4, TX4, tyX4, rfl, in_X4, tyX4_ok, q2046, q2047, q93, by decide +kernel⟩
theorem ar_X4_init : gAr yX4_init 0 := ⟨by decide +kernel, by decide +kernel, by decide +kernel⟩
theorem lk_X0_194 : (GoodIn lw_all (ws_ yX4_init cX4_init 1 none) ∧ Cond.initialized (yX4_init).cls ∈ lw_all ∧ Cond.methodLink RX0 194 yX4_init ∈ lw_all ∧ Cond.instanceMethod yX4_init ∈ lw_all ∧ (yX4_init).name = "<init>") ∧ gAr yX4_init 0 := ⟨⟨lw_meth q2050, q93, q2048, q2049, rfl⟩, ar_X4_init⟩
theorem ar_X0_addUser : gAr yX0_addUser 2 := ⟨by decide +kernel, by decide +kernel, by decide +kernel⟩
theorem lk_X0_195 : GoodIn lw_all (va_wsS RX0 195 yX0_addUser (wsW_ yX0_addUser cX0_addUser 3 (some .int) [(0, 8, 11, 13)])) ∧ gAr yX0_addUser 2 := ⟨lw_SW q987 q988 q80 q989, ar_X0_addUser⟩
theorem ar_X4_addUser : gAr yX4_addUser 0 := ⟨by decide +kernel, by decide +kernel, by decide +kernel⟩
theorem lk_X0_200 : GoodIn lw_all (wsV RX0 200 (yX4_addUser).cls yX4_addUser (ws_ yX4_addUser cX4_addUser 1 (some .int))) ∧ gAr yX4_addUser 0 := ⟨lw_V q2109 q2110 q2111 q93 q2112, ar_X4_addUser⟩
theorem ar_X4_thrown : gAr yX4_thrown 0 := ⟨by decide +kernel, by decide +kernel, by decide +kernel⟩
theorem lk_X0_201 : GoodIn lw_all (wsV RX0 201 (yX4_thrown).cls yX4_thrown (ws_ yX4_thrown cX4_thrown 1 (some .int))) ∧ gAr yX4_thrown 0 := ⟨lw_V q2105 q2106 q2107 q93 q2108, ar_X4_thrown⟩
theorem ar_X0_addGroup : gAr yX0_addGroup 2 := ⟨by decide +kernel, by decide +kernel, by decide +kernel⟩
theorem lk_X0_204 : GoodIn lw_all (va_wsS RX0 204 yX0_addGroup (wsW_ yX0_addGroup cX0_addGroup 3 (some .int) [(0, 8, 11, 13)])) ∧ gAr yX0_addGroup 2 := ⟨lw_SW q1203 q1204 q80 q1205, ar_X0_addGroup⟩
theorem ar_X4_addGroup : gAr yX4_addGroup 0 := ⟨by decide +kernel, by decide +kernel, by decide +kernel⟩
theorem lk_X0_206 : GoodIn lw_all (wsV RX0 206 (yX4_addGroup).cls yX4_addGroup (ws_ yX4_addGroup cX4_addGroup 1 (some .int))) ∧ gAr yX4_addGroup 0 := ⟨lw_V q2121 q2122 q2123 q93 q2124, ar_X4_addGroup⟩
theorem ar_X0_join : gAr yX0_join 4 := ⟨by decide +kernel, by decide +kernel, by decide +kernel⟩
theorem lk_X0_207 : GoodIn lw_all (va_wsS RX0 207 yX0_join (wsW_ yX0_join cX0_join 5 (some .int) [(0, 10, 13, 22), (0, 10, 17, 13)])) ∧ gAr yX0_join 4 := ⟨lw_SW q1213 q1214 q80 q1215, ar_X0_join⟩
theorem ar_X4_join : gAr yX4_join 2 := ⟨by decide +kernel, by decide +kernel, by decide +kernel⟩
theorem lk_X0_210 : GoodIn lw_all (wsV RX0 210 (yX4_join).cls yX4_join (ws_ yX4_join cX4_join 3 (some .int))) ∧ gAr yX4_join 2 := ⟨lw_V q2125 q2126 q2127 q93 q2128, ar_X4_join⟩
theorem ar_X0_leave : gAr yX0_leave 4 := ⟨by decide +kernel, by decide +kernel, by decide +kernel⟩
theorem lk_X0_211 : GoodIn lw_all (va_wsS RX0 211 yX0_leave (wsW_ yX0_leave cX0_leave 5 (some .int) [(0, 10, 13, 22), (0, 10, 17, 13)])) ∧ gAr yX0_leave 4 := ⟨lw_SW q1249 q1250 q80 q1251, ar_X0_leave⟩
theorem ar_X4_leave : gAr yX4_leave 2 := ⟨by decide +kernel, by decide +kernel, by decide +kernel⟩
theorem lk_X0_213 : GoodIn lw_all (wsV RX0 213 (yX4_leave).cls yX4_leave (ws_ yX4_leave cX4_leave 3 (some .int))) ∧ gAr yX4_leave 2 := ⟨lw_V q2155 q2156 q2157 q93 q2158, ar_X4_leave⟩
theorem ar_X0_nest : gAr yX0_nest 4 := ⟨by decide +kernel, by decide +kernel, by decide +kernel⟩
theorem lk_X0_214 : GoodIn lw_all (va_wsS RX0 214 yX0_nest (wsW_ yX0_nest cX0_nest 5 (some .int) [(0, 10, 13, 22), (0, 10, 17, 13)])) ∧ gAr yX0_nest 4 := ⟨lw_SW q1260 q1261 q80 q1262, ar_X0_nest⟩
theorem ar_X4_nest : gAr yX4_nest 2 := ⟨by decide +kernel, by decide +kernel, by decide +kernel⟩
theorem lk_X0_216 : GoodIn lw_all (wsV RX0 216 (yX4_nest).cls yX4_nest (ws_ yX4_nest cX4_nest 3 (some .int))) ∧ gAr yX4_nest 2 := ⟨lw_V q2159 q2160 q2161 q93 q2162, ar_X4_nest⟩
theorem ar_X0_unnest : gAr yX0_unnest 4 := ⟨by decide +kernel, by decide +kernel, by decide +kernel⟩
theorem lk_X0_217 : GoodIn lw_all (va_wsS RX0 217 yX0_unnest (wsW_ yX0_unnest cX0_unnest 5 (some .int) [(0, 10, 13, 22), (0, 10, 17, 13)])) ∧ gAr yX0_unnest 4 := ⟨lw_SW q1275 q1276 q80 q1277, ar_X0_unnest⟩
theorem ar_X4_unnest : gAr yX4_unnest 2 := ⟨by decide +kernel, by decide +kernel, by decide +kernel⟩
theorem lk_X0_219 : GoodIn lw_all (wsV RX0 219 (yX4_unnest).cls yX4_unnest (ws_ yX4_unnest cX4_unnest 3 (some .int))) ∧ gAr yX4_unnest 2 := ⟨lw_V q2163 q2164 q2165 q93 q2166, ar_X4_unnest⟩
theorem ar_X0_make : gAr yX0_make 4 := ⟨by decide +kernel, by decide +kernel, by decide +kernel⟩
theorem lk_X0_220 : GoodIn lw_all (va_wsS RX0 220 yX0_make (wsW_ yX0_make cX0_make 5 (some .int) [(0, 10, 13, 22), (0, 10, 17, 13)])) ∧ gAr yX0_make 4 := ⟨lw_SW q1286 q1287 q80 q1288, ar_X0_make⟩
theorem ar_X4_make : gAr yX4_make 2 := ⟨by decide +kernel, by decide +kernel, by decide +kernel⟩
theorem lk_X0_222 : GoodIn lw_all (wsV RX0 222 (yX4_make).cls yX4_make (ws_ yX4_make cX4_make 4 (some .int))) ∧ gAr yX4_make 2 := ⟨lw_V q2167 q2168 q2169 q93 q2170, ar_X4_make⟩
theorem ar_X0_remove : gAr yX0_remove 3 := ⟨by decide +kernel, by decide +kernel, by decide +kernel⟩
theorem lk_X0_223 : GoodIn lw_all (va_wsS RX0 223 yX0_remove (wsW_ yX0_remove cX0_remove 4 (some .int) [(0, 9, 12, 22), (0, 9, 15, 13)])) ∧ gAr yX0_remove 3 := ⟨lw_SW q1298 q1299 q80 q1300, ar_X0_remove⟩
theorem ar_X4_remove : gAr yX4_remove 1 := ⟨by decide +kernel, by decide +kernel, by decide +kernel⟩
theorem lk_X0_226 : GoodIn lw_all (wsV RX0 226 (yX4_remove).cls yX4_remove (ws_ yX4_remove cX4_remove 3 (some .int))) ∧ gAr yX4_remove 1 := ⟨lw_V q2183 q2184 q2185 q93 q2186, ar_X4_remove⟩
theorem ar_X0_move : gAr yX0_move 4 := ⟨by decide +kernel, by decide +kernel, by decide +kernel⟩
theorem lk_X0_227 : GoodIn lw_all (va_wsS RX0 227 yX0_move (wsW_ yX0_move cX0_move 5 (some .int) [(0, 10, 13, 22), (0, 10, 17, 13)])) ∧ gAr yX0_move 4 := ⟨lw_SW q1318 q1319 q80 q1320, ar_X0_move⟩
theorem ar_X4_move : gAr yX4_move 2 := ⟨by decide +kernel, by decide +kernel, by decide +kernel⟩
theorem lk_X0_229 : GoodIn lw_all (wsV RX0 229 (yX4_move).cls yX4_move (ws_ yX4_move cX4_move 4 (some .int))) ∧ gAr yX4_move 2 := ⟨lw_V q2195 q2196 q2197 q93 q2198, ar_X4_move⟩
theorem ar_X0_giveTo : gAr yX0_giveTo 4 := ⟨by decide +kernel, by decide +kernel, by decide +kernel⟩
theorem lk_X0_230 : GoodIn lw_all (va_wsS RX0 230 yX0_giveTo (wsW_ yX0_giveTo cX0_giveTo 5 (some .int) [(0, 10, 13, 22)])) ∧ gAr yX0_giveTo 4 := ⟨lw_SW q1329 q1330 q80 q1331, ar_X0_giveTo⟩
theorem ar_X4_giveTo : gAr yX4_giveTo 2 := ⟨by decide +kernel, by decide +kernel, by decide +kernel⟩
theorem lk_X0_232 : GoodIn lw_all (wsV RX0 232 (yX4_giveTo).cls yX4_giveTo (ws_ yX4_giveTo cX4_giveTo 4 (some .int))) ∧ gAr yX4_giveTo 2 := ⟨lw_V q2199 q2200 q2201 q93 q2202, ar_X4_giveTo⟩
theorem ar_X0_setMask : gAr yX0_setMask 4 := ⟨by decide +kernel, by decide +kernel, by decide +kernel⟩
theorem lk_X0_233 : GoodIn lw_all (va_wsS RX0 233 yX0_setMask (wsW_ yX0_setMask cX0_setMask 5 (some .int) [(0, 10, 13, 22), (0, 10, 17, 49)])) ∧ gAr yX0_setMask 4 := ⟨lw_SW q1336 q1337 q80 q1338, ar_X0_setMask⟩
theorem ar_X4_setMask : gAr yX4_setMask 2 := ⟨by decide +kernel, by decide +kernel, by decide +kernel⟩
theorem lk_X0_235 : GoodIn lw_all (wsV RX0 235 (yX4_setMask).cls yX4_setMask (ws_ yX4_setMask cX4_setMask 4 (some .int))) ∧ gAr yX4_setMask 2 := ⟨lw_V q2203 q2204 q2205 q93 q2206, ar_X4_setMask⟩
theorem ar_X0_setInheriting : gAr yX0_setInheriting 4 := ⟨by decide +kernel, by decide +kernel, by decide +kernel⟩
theorem lk_X0_236 : GoodIn lw_all (va_wsS RX0 236 yX0_setInheriting (wsW_ yX0_setInheriting cX0_setInheriting 5 (some .int) [(0, 17, 20, 22)])) ∧ gAr yX0_setInheriting 4 := ⟨lw_SW q1357 q1358 q80 q1359, ar_X0_setInheriting⟩
theorem ar_X4_setInheriting : gAr yX4_setInheriting 2 := ⟨by decide +kernel, by decide +kernel, by decide +kernel⟩
theorem lk_X0_239 : GoodIn lw_all (wsV RX0 239 (yX4_setInheriting).cls yX4_setInheriting (ws_ yX4_setInheriting cX4_setInheriting 4 (some .boolean))) ∧ gAr yX4_setInheriting 2 := ⟨lw_V q2207 q2208 q2209 q93 q2210, ar_X4_setInheriting⟩
theorem ar_X0_addForUser : gAr yX0_addForUser 7 := ⟨by decide +kernel, by decide +kernel, by decide +kernel⟩
theorem lk_X0_240 : GoodIn lw_all (va_wsS RX0 240 yX0_addForUser (wsW_ yX0_addForUser cX0_addForUser 8 (some .int) [(0, 16, 19, 22), (0, 16, 23, 49), (0, 16, 27, 13)])) ∧ gAr yX0_addForUser 7 := ⟨lw_SW q1364 q1365 q80 q1366, ar_X0_addForUser⟩
theorem ar_X4_addForUser : gAr yX4_addForUser 5 := ⟨by decide +kernel, by decide +kernel, by decide +kernel⟩
theorem lk_X0_243 : GoodIn lw_all (wsV RX0 243 (yX4_addForUser).cls yX4_addForUser (ws_ yX4_addForUser cX4_addForUser 6 (some .int))) ∧ gAr yX4_addForUser 5 := ⟨lw_V q2211 q2212 q2213 q93 q2214, ar_X4_addForUser⟩
theorem ar_X0_addForGroup : gAr yX0_addForGroup 7 := ⟨by decide +kernel, by decide +kernel, by decide +kernel⟩
theorem lk_X0_244 : GoodIn lw_all (va_wsS RX0 244 yX0_addForGroup (wsW_ yX0_addForGroup cX0_addForGroup 8 (some .int) [(0, 16, 19, 22), (0, 16, 23, 49), (0, 16, 27, 13)])) ∧ gAr yX0_addForGroup 7 := ⟨lw_SW q1402 q1403 q80 q1404, ar_X0_addForGroup⟩
theorem ar_X4_addForGroup : gAr yX4_addForGroup 5 := ⟨by decide +kernel, by decide +kernel, by decide +kernel⟩
theorem lk_X0_246 : GoodIn lw_all (wsV RX0 246 (yX4_addForGroup).cls yX4_addForGroup (ws_ yX4_addForGroup cX4_addForGroup 6 (some .int))) ∧ gAr yX4_addForGroup 5 := ⟨lw_V q2229 q2230 q2231 q93 q2232, ar_X4_addForGroup⟩
theorem ar_X0_addForOwner : gAr yX0_addForOwner 6 := ⟨by decide +kernel, by decide +kernel, by decide +kernel⟩
theorem lk_X0_247 : GoodIn lw_all (va_wsS RX0 247 yX0_addForOwner (wsW_ yX0_addForOwner cX0_addForOwner 7 (some .int) [(0, 14, 17, 22), (0, 14, 21, 49), (0, 14, 25, 13)])) ∧ gAr yX0_addForOwner 6 := ⟨lw_SW q1409 q1410 q80 q1411, ar_X0_addForOwner⟩
theorem ar_X4_addForOwner : gAr yX4_addForOwner 4 := ⟨by decide +kernel, by decide +kernel, by decide +kernel⟩
theorem lk_X0_250 : GoodIn lw_all (wsV RX0 250 (yX4_addForOwner).cls yX4_addForOwner (ws_ yX4_addForOwner cX4_addForOwner 5 (some .int))) ∧ gAr yX4_addForOwner 4 := ⟨lw_V q2233 q2234 q2235 q93 q2236, ar_X4_addForOwner⟩
theorem ar_X0_addForAll : gAr yX0_addForAll 6 := ⟨by decide +kernel, by decide +kernel, by decide +kernel⟩
theorem lk_X0_251 : GoodIn lw_all (va_wsS RX0 251 yX0_addForAll (wsW_ yX0_addForAll cX0_addForAll 7 (some .int) [(0, 14, 17, 22), (0, 14, 21, 49), (0, 14, 25, 13)])) ∧ gAr yX0_addForAll 6 := ⟨lw_SW q1420 q1421 q80 q1422, ar_X0_addForAll⟩
theorem ar_X4_addForAll : gAr yX4_addForAll 4 := ⟨by decide +kernel, by decide +kernel, by decide +kernel⟩
theorem lk_X0_253 : GoodIn lw_all (wsV RX0 253 (yX4_addForAll).cls yX4_addForAll (ws_ yX4_addForAll cX4_addForAll 5 (some .int))) ∧ gAr yX4_addForAll 4 := ⟨lw_V q2237 q2238 q2239 q93 q2240, ar_X4_addForAll⟩
theorem ar_X0_removeEntry : gAr yX0_removeEntry 4 := ⟨by decide +kernel, by decide +kernel, by decide +kernel⟩
theorem lk_X0_254 : GoodIn lw_all (va_wsS RX0 254 yX0_removeEntry (wsW_ yX0_removeEntry cX0_removeEntry 5 (some .int) [(0, 10, 13, 22)])) ∧ gAr yX0_removeEntry 4 := ⟨lw_SW q1427 q1428 q80 q1429, ar_X0_removeEntry⟩
theorem ar_X4_removeEntry : gAr yX4_removeEntry 2 := ⟨by decide +kernel, by decide +kernel, by decide +kernel⟩
theorem lk_X0_256 : GoodIn lw_all (wsV RX0 256 (yX4_removeEntry).cls yX4_removeEntry (ws_ yX4_removeEntry cX4_removeEntry 3 (some .int))) ∧ gAr yX4_removeEntry 2 := ⟨lw_V q2241 q2242 q2243 q93 q2244, ar_X4_removeEntry⟩
theorem ar_X0_moveEntry : gAr yX0_moveEntry 5 := ⟨by decide +kernel, by decide +kernel, by decide +kernel⟩
theorem lk_X0_257 : GoodIn lw_all (va_wsS RX0 257 yX0_moveEntry (wsW_ yX0_moveEntry cX0_moveEntry 6 (some .int) [(0, 12, 15, 22)])) ∧ gAr yX0_moveEntry 5 := ⟨lw_SW q1456 q1457 q80 q1458, ar_X0_moveEntry⟩
theorem ar_X4_moveEntry : gAr yX4_moveEntry 3 := ⟨by decide +kernel, by decide +kernel, by decide +kernel⟩
theorem lk_X0_260 : GoodIn lw_all (wsV RX0 260 (yX4_moveEntry).cls yX4_moveEntry (ws_ yX4_moveEntry cX4_moveEntry 4 (some .int))) ∧ gAr yX4_moveEntry 3 := ⟨lw_V q2253 q2254 q2255 q93 q2256, ar_X4_moveEntry⟩
theorem ar_X0_ask : gAr yX0_ask 5 := ⟨by decide +kernel, by decide +kernel, by decide +kernel⟩
theorem lk_X0_261 : GoodIn lw_all (va_wsS RX0 261 yX0_ask (wsW_ yX0_ask cX0_ask 6 (some .int) [(0, 19, 22, 22), (0, 19, 26, 49)])) ∧ gAr yX0_ask 5 := ⟨lw_SW q1472 q1473 q80 q1474, ar_X0_ask⟩
theorem ar_X4_ask : gAr yX4_ask 3 := ⟨by decide +kernel, by decide +kernel, by decide +kernel⟩
theorem lk_X0_263 : GoodIn lw_all (wsV RX0 263 (yX4_ask).cls yX4_ask (ws_ yX4_ask cX4_ask 6 (some .boolean))) ∧ gAr yX4_ask 3 := ⟨lw_V q2301 q2302 q2303 q93 q2304, ar_X4_ask⟩
theorem ar_X0_share : gAr yX0_share 6 := ⟨by decide +kernel, by decide +kernel, by decide +kernel⟩
theorem lk_X0_264 : GoodIn lw_all (va_wsS RX0 264 yX0_share (wsW_ yX0_share cX0_share 7 (some .int) [(0, 14, 17, 22), (0, 14, 21, 49), (0, 14, 25, 13)])) ∧ gAr yX0_share 6 := ⟨lw_SW q1522 q1523 q80 q1524, ar_X0_share⟩
theorem ar_X4_share : gAr yX4_share 4 := ⟨by decide +kernel, by decide +kernel, by decide +kernel⟩
theorem lk_X0_267 : GoodIn lw_all (wsV RX0 267 (yX4_share).cls yX4_share (ws_ yX4_share cX4_share 7 (some .int))) ∧ gAr yX4_share 4 := ⟨lw_V q2308 q2309 q2310 q93 q2311, ar_X4_share⟩
theorem ar_X0_append : gAr yX0_append 3 := ⟨by decide +kernel, by decide +kernel, by decide +kernel⟩
theorem lk_X0_268 : GoodIn lw_all (va_wsS RX0 268 yX0_append (wsW_ yX0_append cX0_append 4 (some .int) [(0, 9, 12, 49), (0, 9, 15, 13)])) ∧ gAr yX0_append 3 := ⟨lw_SW q1536 q1537 q80 q1538, ar_X0_append⟩
theorem ar_X4_append : gAr yX4_append 1 := ⟨by decide +kernel, by decide +kernel, by decide +kernel⟩
theorem lk_X0_270 : GoodIn lw_all (wsV RX0 270 (yX4_append).cls yX4_append (ws_ yX4_append cX4_append 2 (some .int))) ∧ gAr yX4_append 1 := ⟨lw_V q2312 q2313 q2314 q93 q2315, ar_X4_append⟩
theorem ar_X1_clear : gAr yX1_clear 0 := ⟨by decide +kernel, by decide +kernel, by decide +kernel⟩
theorem lk_X0_271 : GoodIn lw_all (wsV RX0 271 (yX1_clear).cls yX1_clear (ws_ yX1_clear cX1_clear 2 (some .int))) ∧ gAr yX1_clear 0 := ⟨lw_V q308 q309 q310 q81 q311, ar_X1_clear⟩
theorem ar_X4_clear : gAr yX4_clear 0 := ⟨by decide +kernel, by decide +kernel, by decide +kernel⟩
theorem lk_X0_274 : GoodIn lw_all (wsV RX0 274 (yX4_clear).cls yX4_clear (ws_ yX4_clear cX4_clear 2 (some .int))) ∧ gAr yX4_clear 0 := ⟨lw_V q2316 q2317 q2318 q93 q2319, ar_X4_clear⟩
theorem ar_X1_fault : gAr yX1_fault 0 := ⟨by decide +kernel, by decide +kernel, by decide +kernel⟩
theorem lk_X0_275 : GoodIn lw_all (wsV RX0 275 (yX1_fault).cls yX1_fault (wsW_ yX1_fault cX1_fault 2 (some .int) [(0, 16, 17, 215)])) ∧ gAr yX1_fault 0 := ⟨lw_VW q661 q662 q663 q81 q664, ar_X1_fault⟩
theorem ar_X4_fault : gAr yX4_fault 0 := ⟨by decide +kernel, by decide +kernel, by decide +kernel⟩
theorem lk_X0_278 : GoodIn lw_all (wsV RX0 278 (yX4_fault).cls yX4_fault (ws_ yX4_fault cX4_fault 1 (some .int))) ∧ gAr yX4_fault 0 := ⟨lw_V q2320 q2321 q2322 q93 q2323, ar_X4_fault⟩
theorem ar_X0_loadEntries : gAr yX0_loadEntries 2 := ⟨by decide +kernel, by decide +kernel, by decide +kernel⟩
theorem lk_X0_279 : GoodIn lw_all (va_wsS RX0 279 yX0_loadEntries (wsW_ yX0_loadEntries cX0_loadEntries 3 (some .int) [(0, 8, 11, 13)])) ∧ gAr yX0_loadEntries 2 := ⟨lw_SW q1560 q1561 q80 q1562, ar_X0_loadEntries⟩
theorem ar_X4_loadEntries : gAr yX4_loadEntries 0 := ⟨by decide +kernel, by decide +kernel, by decide +kernel⟩
theorem lk_X0_281 : GoodIn lw_all (wsV RX0 281 (yX4_loadEntries).cls yX4_loadEntries (ws_ yX4_loadEntries cX4_loadEntries 2 (some .int))) ∧ gAr yX4_loadEntries 0 := ⟨lw_V q2348 q2349 q2350 q93 q2351, ar_X4_loadEntries⟩
theorem ar_X0_writeEntries : gAr yX0_writeEntries 3 := ⟨by decide +kernel, by decide +kernel, by decide +kernel⟩
theorem lk_X0_282 : GoodIn lw_all (va_wsS RX0 282 yX0_writeEntries (wsW_ yX0_writeEntries cX0_writeEntries 4 (some .int) [(0, 9, 12, 22)])) ∧ gAr yX0_writeEntries 3 := ⟨lw_SW q1728 q1729 q80 q1730, ar_X0_writeEntries⟩
theorem ar_X4_writeEntries : gAr yX4_writeEntries 1 := ⟨by decide +kernel, by decide +kernel, by decide +kernel⟩
theorem lk_X0_284 : GoodIn lw_all (wsV RX0 284 (yX4_writeEntries).cls yX4_writeEntries (ws_ yX4_writeEntries cX4_writeEntries 3 (some .int))) ∧ gAr yX4_writeEntries 1 := ⟨lw_V q2356 q2357 q2358 q93 q2359, ar_X4_writeEntries⟩
theorem ar_X0_codeAt : gAr yX0_codeAt 3 := ⟨by decide +kernel, by decide +kernel, by decide +kernel⟩
theorem lk_X0_285 : GoodIn lw_all (va_wsS RX0 285 yX0_codeAt (wsW_ yX0_codeAt cX0_codeAt 4 (some .int) [(0, 9, 12, 49)])) ∧ gAr yX0_codeAt 3 := ⟨lw_SW q1744 q1745 q80 q1746, ar_X0_codeAt⟩
theorem ar_X4_codeAt : gAr yX4_codeAt 1 := ⟨by decide +kernel, by decide +kernel, by decide +kernel⟩
theorem lk_X0_287 : GoodIn lw_all (wsV RX0 287 (yX4_codeAt).cls yX4_codeAt (ws_ yX4_codeAt cX4_codeAt 2 (some .int))) ∧ gAr yX4_codeAt 1 := ⟨lw_V q2376 q2377 q2378 q93 q2379, ar_X4_codeAt⟩
theorem ar_X1_users : gAr yX1_users 0 := ⟨by decide +kernel, by decide +kernel, by decide +kernel⟩
theorem lk_X0_288 : GoodIn lw_all (wsV RX0 288 (yX1_users).cls yX1_users (ws_ yX1_users cX1_users 1 (some .int))) ∧ gAr yX1_users 0 := ⟨lw_V q895 q896 q897 q81 q898, ar_X1_users⟩
theorem ar_X4_users : gAr yX4_users 0 := ⟨by decide +kernel, by decide +kernel, by decide +kernel⟩
theorem lk_X0_291 : GoodIn lw_all (wsV RX0 291 (yX4_users).cls yX4_users (ws_ yX4_users cX4_users 1 (some .int))) ∧ gAr yX4_users 0 := ⟨lw_V q2380 q2381 q2382 q93 q2383, ar_X4_users⟩
theorem ar_X1_groups : gAr yX1_groups 0 := ⟨by decide +kernel, by decide +kernel, by decide +kernel⟩
theorem lk_X0_292 : GoodIn lw_all (wsV RX0 292 (yX1_groups).cls yX1_groups (ws_ yX1_groups cX1_groups 1 (some .int))) ∧ gAr yX1_groups 0 := ⟨lw_V q899 q900 q901 q81 q902, ar_X1_groups⟩
theorem ar_X4_groups : gAr yX4_groups 0 := ⟨by decide +kernel, by decide +kernel, by decide +kernel⟩
theorem lk_X0_295 : GoodIn lw_all (wsV RX0 295 (yX4_groups).cls yX4_groups (ws_ yX4_groups cX4_groups 1 (some .int))) ∧ gAr yX4_groups 0 := ⟨lw_V q2384 q2385 q2386 q93 q2387, ar_X4_groups⟩
theorem ar_X0_isMember : gAr yX0_isMember 4 := ⟨by decide +kernel, by decide +kernel, by decide +kernel⟩
theorem lk_X0_296 : GoodIn lw_all (va_wsS RX0 296 yX0_isMember (wsW_ yX0_isMember cX0_isMember 5 (some .int) [(0, 17, 20, 22)])) ∧ gAr yX0_isMember 4 := ⟨lw_SW q1752 q1753 q80 q1754, ar_X0_isMember⟩
theorem ar_X4_isMember : gAr yX4_isMember 2 := ⟨by decide +kernel, by decide +kernel, by decide +kernel⟩
theorem lk_X0_298 : GoodIn lw_all (wsV RX0 298 (yX4_isMember).cls yX4_isMember (ws_ yX4_isMember cX4_isMember 3 (some .boolean))) ∧ gAr yX4_isMember 2 := ⟨lw_V q2388 q2389 q2390 q93 q2391, ar_X4_isMember⟩
theorem ar_X0_isNested : gAr yX0_isNested 4 := ⟨by decide +kernel, by decide +kernel, by decide +kernel⟩
theorem lk_X0_299 : GoodIn lw_all (va_wsS RX0 299 yX0_isNested (wsW_ yX0_isNested cX0_isNested 5 (some .int) [(0, 17, 20, 22)])) ∧ gAr yX0_isNested 4 := ⟨lw_SW q1761 q1762 q80 q1763, ar_X0_isNested⟩
theorem ar_X4_isNested : gAr yX4_isNested 2 := ⟨by decide +kernel, by decide +kernel, by decide +kernel⟩
theorem lk_X0_301 : GoodIn lw_all (wsV RX0 301 (yX4_isNested).cls yX4_isNested (ws_ yX4_isNested cX4_isNested 3 (some .boolean))) ∧ gAr yX4_isNested 2 := ⟨lw_V q2392 q2393 q2394 q93 q2395, ar_X4_isNested⟩
theorem ar_X0_belongs : gAr yX0_belongs 4 := ⟨by decide +kernel, by decide +kernel, by decide +kernel⟩
theorem lk_X0_302 : GoodIn lw_all (va_wsS RX0 302 yX0_belongs (wsW_ yX0_belongs cX0_belongs 5 (some .int) [(0, 17, 20, 22)])) ∧ gAr yX0_belongs 4 := ⟨lw_SW q1768 q1769 q80 q1770, ar_X0_belongs⟩
theorem ar_X4_belongs : gAr yX4_belongs 2 := ⟨by decide +kernel, by decide +kernel, by decide +kernel⟩
theorem lk_X0_304 : GoodIn lw_all (wsV RX0 304 (yX4_belongs).cls yX4_belongs (ws_ yX4_belongs cX4_belongs 3 (some .boolean))) ∧ gAr yX4_belongs 2 := ⟨lw_V q2396 q2397 q2398 q93 q2399, ar_X4_belongs⟩
theorem ar_X0_belongsByMembers : gAr yX0_belongsByMembers 4 := ⟨by decide +kernel, by decide +kernel, by decide +kernel⟩
theorem lk_X0_305 : GoodIn lw_all (va_wsS RX0 305 yX0_belongsByMembers (wsW_ yX0_belongsByMembers cX0_belongsByMembers 5 (some .int) [(0, 17, 20, 22)])) ∧ gAr yX0_belongsByMembers 4 := ⟨lw_SW q1776 q1777 q80 q1778, ar_X0_belongsByMembers⟩
theorem ar_X4_belongsByMembers : gAr yX4_belongsByMembers 2 := ⟨by decide +kernel, by decide +kernel, by decide +kernel⟩
theorem lk_X0_307 : GoodIn lw_all (wsV RX0 307 (yX4_belongsByMembers).cls yX4_belongsByMembers (ws_ yX4_belongsByMembers cX4_belongsByMembers 3 (some .boolean))) ∧ gAr yX4_belongsByMembers 2 := ⟨lw_V q2404 q2405 q2406 q93 q2407, ar_X4_belongsByMembers⟩
theorem ar_X1_objects : gAr yX1_objects 0 := ⟨by decide +kernel, by decide +kernel, by decide +kernel⟩
theorem lk_X0_308 : GoodIn lw_all (wsV RX0 308 (yX1_objects).cls yX1_objects (ws_ yX1_objects cX1_objects 1 (some .int))) ∧ gAr yX1_objects 0 := ⟨lw_V q904 q905 q906 q81 q907, ar_X1_objects⟩
theorem ar_X4_objects : gAr yX4_objects 0 := ⟨by decide +kernel, by decide +kernel, by decide +kernel⟩
theorem lk_X0_311 : GoodIn lw_all (wsV RX0 311 (yX4_objects).cls yX4_objects (ws_ yX4_objects cX4_objects 1 (some .int))) ∧ gAr yX4_objects 0 := ⟨lw_V q2408 q2409 q2410 q93 q2411, ar_X4_objects⟩
theorem ar_X1_isThere : gAr yX1_isThere 1 := ⟨by decide +kernel, by decide +kernel, by decide +kernel⟩
theorem lk_X0_312 : GoodIn lw_all (wsV RX0 312 (yX1_isThere).cls yX1_isThere (ws_ yX1_isThere cX1_isThere 2 (some .boolean))) ∧ gAr yX1_isThere 1 := ⟨lw_V q917 q918 q919 q81 q920, ar_X1_isThere⟩
theorem ar_X4_isThere : gAr yX4_isThere 1 := ⟨by decide +kernel, by decide +kernel, by decide +kernel⟩
theorem lk_X0_315 : GoodIn lw_all (wsV RX0 315 (yX4_isThere).cls yX4_isThere (ws_ yX4_isThere cX4_isThere 2 (some .boolean))) ∧ gAr yX4_isThere 1 := ⟨lw_V q2412 q2413 q2414 q93 q2415, ar_X4_isThere⟩
theorem ar_X0_parentOf : gAr yX0_parentOf 3 := ⟨by decide +kernel, by decide +kernel, by decide +kernel⟩
theorem lk_X0_316 : GoodIn lw_all (va_wsS RX0 316 yX0_parentOf (wsW_ yX0_parentOf cX0_parentOf 4 (some .int) [(0, 9, 12, 22)])) ∧ gAr yX0_parentOf 3 := ⟨lw_SW q1784 q1785 q80 q1786, ar_X0_parentOf⟩
theorem ar_X4_parentOf : gAr yX4_parentOf 1 := ⟨by decide +kernel, by decide +kernel, by decide +kernel⟩
theorem lk_X0_318 : GoodIn lw_all (wsV RX0 318 (yX4_parentOf).cls yX4_parentOf (ws_ yX4_parentOf cX4_parentOf 2 (some .int))) ∧ gAr yX4_parentOf 1 := ⟨lw_V q2416 q2417 q2418 q93 q2419, ar_X4_parentOf⟩
theorem ar_X0_ownerOf : gAr yX0_ownerOf 3 := ⟨by decide +kernel, by decide +kernel, by decide +kernel⟩
theorem lk_X0_319 : GoodIn lw_all (va_wsS RX0 319 yX0_ownerOf (wsW_ yX0_ownerOf cX0_ownerOf 4 (some .int) [(0, 9, 12, 22)])) ∧ gAr yX0_ownerOf 3 := ⟨lw_SW q1795 q1796 q80 q1797, ar_X0_ownerOf⟩
theorem ar_X4_ownerOf : gAr yX4_ownerOf 1 := ⟨by decide +kernel, by decide +kernel, by decide +kernel⟩
theorem lk_X0_321 : GoodIn lw_all (wsV RX0 321 (yX4_ownerOf).cls yX4_ownerOf (ws_ yX4_ownerOf cX4_ownerOf 2 (some .int))) ∧ gAr yX4_ownerOf 1 := ⟨lw_V q2424 q2425 q2426 q93 q2427, ar_X4_ownerOf⟩
theorem ar_X0_maskOf : gAr yX0_maskOf 3 := ⟨by decide +kernel, by decide +kernel, by decide +kernel⟩
theorem lk_X0_322 : GoodIn lw_all (va_wsS RX0 322 yX0_maskOf (wsW_ yX0_maskOf cX0_maskOf 4 (some .int) [(0, 9, 12, 22)])) ∧ gAr yX0_maskOf 3 := ⟨lw_SW q1802 q1803 q80 q1804, ar_X0_maskOf⟩
theorem ar_X4_maskOf : gAr yX4_maskOf 1 := ⟨by decide +kernel, by decide +kernel, by decide +kernel⟩
theorem lk_X0_324 : GoodIn lw_all (wsV RX0 324 (yX4_maskOf).cls yX4_maskOf (ws_ yX4_maskOf cX4_maskOf 2 (some .int))) ∧ gAr yX4_maskOf 1 := ⟨lw_V q2428 q2429 q2430 q93 q2431, ar_X4_maskOf⟩
theorem ar_X0_isInheriting : gAr yX0_isInheriting 3 := ⟨by decide +kernel, by decide +kernel, by decide +kernel⟩
theorem lk_X0_325 : GoodIn lw_all (va_wsS RX0 325 yX0_isInheriting (wsW_ yX0_isInheriting cX0_isInheriting 4 (some .int) [(0, 16, 19, 22)])) ∧ gAr yX0_isInheriting 3 := ⟨lw_SW q1809 q1810 q80 q1811, ar_X0_isInheriting⟩
theorem ar_X4_isInheriting : gAr yX4_isInheriting 1 := ⟨by decide +kernel, by decide +kernel, by decide +kernel⟩
theorem lk_X0_327 : GoodIn lw_all (wsV RX0 327 (yX4_isInheriting).cls yX4_isInheriting (ws_ yX4_isInheriting cX4_isInheriting 2 (some .boolean))) ∧ gAr yX4_isInheriting 1 := ⟨lw_V q2432 q2433 q2434 q93 q2435, ar_X4_isInheriting⟩
theorem ar_X0_below : gAr yX0_below 3 := ⟨by decide +kernel, by decide +kernel, by decide +kernel⟩
theorem lk_X0_328 : GoodIn lw_all (va_wsS RX0 328 yX0_below (wsW_ yX0_below cX0_below 4 (some .int) [(0, 9, 12, 22)])) ∧ gAr yX0_below 3 := ⟨lw_SW q1816 q1817 q80 q1818, ar_X0_below⟩
theorem ar_X4_below : gAr yX4_below 1 := ⟨by decide +kernel, by decide +kernel, by decide +kernel⟩
theorem lk_X0_330 : GoodIn lw_all (wsV RX0 330 (yX4_below).cls yX4_below (ws_ yX4_below cX4_below 2 (some .int))) ∧ gAr yX4_below 1 := ⟨lw_V q2436 q2437 q2438 q93 q2439, ar_X4_below⟩
theorem ar_X0_entriesOf : gAr yX0_entriesOf 3 := ⟨by decide +kernel, by decide +kernel, by decide +kernel⟩
theorem lk_X0_331 : GoodIn lw_all (va_wsS RX0 331 yX0_entriesOf (wsW_ yX0_entriesOf cX0_entriesOf 4 (some .int) [(0, 9, 12, 22)])) ∧ gAr yX0_entriesOf 3 := ⟨lw_SW q1824 q1825 q80 q1826, ar_X0_entriesOf⟩
theorem ar_X4_entriesOf : gAr yX4_entriesOf 1 := ⟨by decide +kernel, by decide +kernel, by decide +kernel⟩
theorem lk_X0_333 : GoodIn lw_all (wsV RX0 333 (yX4_entriesOf).cls yX4_entriesOf (ws_ yX4_entriesOf cX4_entriesOf 2 (some .int))) ∧ gAr yX4_entriesOf 1 := ⟨lw_V q2440 q2441 q2442 q93 q2443, ar_X4_entriesOf⟩
theorem ar_X0_isAllowing : gAr yX0_isAllowing 4 := ⟨by decide +kernel, by decide +kernel, by decide +kernel⟩
theorem lk_X0_334 : GoodIn lw_all (va_wsS RX0 334 yX0_isAllowing (wsW_ yX0_isAllowing cX0_isAllowing 5 (some .int) [(0, 17, 20, 22)])) ∧ gAr yX0_isAllowing 4 := ⟨lw_SW q1831 q1832 q80 q1833, ar_X0_isAllowing⟩
theorem ar_X4_isAllowing : gAr yX4_isAllowing 2 := ⟨by decide +kernel, by decide +kernel, by decide +kernel⟩
theorem lk_X0_336 : GoodIn lw_all (wsV RX0 336 (yX4_isAllowing).cls yX4_isAllowing (ws_ yX4_isAllowing cX4_isAllowing 3 (some .boolean))) ∧ gAr yX4_isAllowing 2 := ⟨lw_V q2444 q2445 q2446 q93 q2447, ar_X4_isAllowing⟩
theorem ar_X0_rightsOfEntry : gAr yX0_rightsOfEntry 4 := ⟨by decide +kernel, by decide +kernel, by decide +kernel⟩
theorem lk_X0_337 : GoodIn lw_all (va_wsS RX0 337 yX0_rightsOfEntry (wsW_ yX0_rightsOfEntry cX0_rightsOfEntry 5 (some .int) [(0, 10, 13, 22)])) ∧ gAr yX0_rightsOfEntry 4 := ⟨lw_SW q1842 q1843 q80 q1844, ar_X0_rightsOfEntry⟩
theorem ar_X4_rightsOfEntry : gAr yX4_rightsOfEntry 2 := ⟨by decide +kernel, by decide +kernel, by decide +kernel⟩
theorem lk_X0_339 : GoodIn lw_all (wsV RX0 339 (yX4_rightsOfEntry).cls yX4_rightsOfEntry (ws_ yX4_rightsOfEntry cX4_rightsOfEntry 3 (some .int))) ∧ gAr yX4_rightsOfEntry 2 := ⟨lw_V q2452 q2453 q2454 q93 q2455, ar_X4_rightsOfEntry⟩
theorem ar_X0_userOfEntry : gAr yX0_userOfEntry 4 := ⟨by decide +kernel, by decide +kernel, by decide +kernel⟩
theorem lk_X0_340 : GoodIn lw_all (va_wsS RX0 340 yX0_userOfEntry (wsW_ yX0_userOfEntry cX0_userOfEntry 5 (some .int) [(0, 10, 13, 22)])) ∧ gAr yX0_userOfEntry 4 := ⟨lw_SW q1849 q1850 q80 q1851, ar_X0_userOfEntry⟩
theorem ar_X4_userOfEntry : gAr yX4_userOfEntry 2 := ⟨by decide +kernel, by decide +kernel, by decide +kernel⟩
theorem lk_X0_342 : GoodIn lw_all (wsV RX0 342 (yX4_userOfEntry).cls yX4_userOfEntry (ws_ yX4_userOfEntry cX4_userOfEntry 3 (some .int))) ∧ gAr yX4_userOfEntry 2 := ⟨lw_V q2456 q2457 q2458 q93 q2459, ar_X4_userOfEntry⟩
theorem ar_X0_groupOfEntry : gAr yX0_groupOfEntry 4 := ⟨by decide +kernel, by decide +kernel, by decide +kernel⟩
theorem lk_X0_343 : GoodIn lw_all (va_wsS RX0 343 yX0_groupOfEntry (wsW_ yX0_groupOfEntry cX0_groupOfEntry 5 (some .int) [(0, 10, 13, 22)])) ∧ gAr yX0_groupOfEntry 4 := ⟨lw_SW q1857 q1858 q80 q1859, ar_X0_groupOfEntry⟩
theorem ar_X4_groupOfEntry : gAr yX4_groupOfEntry 2 := ⟨by decide +kernel, by decide +kernel, by decide +kernel⟩
theorem lk_X0_345 : GoodIn lw_all (wsV RX0 345 (yX4_groupOfEntry).cls yX4_groupOfEntry (ws_ yX4_groupOfEntry cX4_groupOfEntry 3 (some .int))) ∧ gAr yX4_groupOfEntry 2 := ⟨lw_V q2464 q2465 q2466 q93 q2467, ar_X4_groupOfEntry⟩
theorem ar_X0_isForOwner : gAr yX0_isForOwner 4 := ⟨by decide +kernel, by decide +kernel, by decide +kernel⟩
theorem lk_X0_346 : GoodIn lw_all (va_wsS RX0 346 yX0_isForOwner (wsW_ yX0_isForOwner cX0_isForOwner 5 (some .int) [(0, 17, 20, 22)])) ∧ gAr yX0_isForOwner 4 := ⟨lw_SW q1864 q1865 q80 q1866, ar_X0_isForOwner⟩
theorem ar_X4_isForOwner : gAr yX4_isForOwner 2 := ⟨by decide +kernel, by decide +kernel, by decide +kernel⟩
theorem lk_X0_348 : GoodIn lw_all (wsV RX0 348 (yX4_isForOwner).cls yX4_isForOwner (ws_ yX4_isForOwner cX4_isForOwner 3 (some .boolean))) ∧ gAr yX4_isForOwner 2 := ⟨lw_V q2468 q2469 q2470 q93 q2471, ar_X4_isForOwner⟩
theorem ar_X0_isForBelow : gAr yX0_isForBelow 4 := ⟨by decide +kernel, by decide +kernel, by decide +kernel⟩
theorem lk_X0_349 : GoodIn lw_all (va_wsS RX0 349 yX0_isForBelow (wsW_ yX0_isForBelow cX0_isForBelow 5 (some .int) [(0, 17, 20, 22)])) ∧ gAr yX0_isForBelow 4 := ⟨lw_SW q1871 q1872 q80 q1873, ar_X0_isForBelow⟩
theorem ar_X4_isForBelow : gAr yX4_isForBelow 2 := ⟨by decide +kernel, by decide +kernel, by decide +kernel⟩
theorem lk_X0_351 : GoodIn lw_all (wsV RX0 351 (yX4_isForBelow).cls yX4_isForBelow (ws_ yX4_isForBelow cX4_isForBelow 3 (some .boolean))) ∧ gAr yX4_isForBelow 2 := ⟨lw_V q2472 q2473 q2474 q93 q2475, ar_X4_isForBelow⟩
theorem ar_X0_isAllowed : gAr yX0_isAllowed 5 := ⟨by decide +kernel, by decide +kernel, by decide +kernel⟩
theorem lk_X0_352 : GoodIn lw_all (va_wsS RX0 352 yX0_isAllowed (wsW_ yX0_isAllowed cX0_isAllowed 6 (some .int) [(0, 19, 22, 22), (0, 19, 26, 49)])) ∧ gAr yX0_isAllowed 5 := ⟨lw_SW q1878 q1879 q80 q1880, ar_X0_isAllowed⟩
theorem ar_X4_isAllowed : gAr yX4_isAllowed 3 := ⟨by decide +kernel, by decide +kernel, by decide +kernel⟩
theorem lk_X0_354 : GoodIn lw_all (wsV RX0 354 (yX4_isAllowed).cls yX4_isAllowed (ws_ yX4_isAllowed cX4_isAllowed 4 (some .boolean))) ∧ gAr yX4_isAllowed 3 := ⟨lw_V q2476 q2477 q2478 q93 q2479, ar_X4_isAllowed⟩
theorem ar_X0_isAllowedByHandingDown : gAr yX0_isAllowedByHandingDown 5 := ⟨by decide +kernel, by decide +kernel, by decide +kernel⟩
theorem lk_X0_355 : GoodIn lw_all (va_wsS RX0 355 yX0_isAllowedByHandingDown (wsW_ yX0_isAllowedByHandingDown cX0_isAllowedByHandingDown 6 (some .int) [(0, 19, 22, 22), (0, 19, 26, 49)])) ∧ gAr yX0_isAllowedByHandingDown 5 := ⟨lw_SW q1890 q1891 q80 q1892, ar_X0_isAllowedByHandingDown⟩
theorem ar_X4_isAllowedByHandingDown : gAr yX4_isAllowedByHandingDown 3 := ⟨by decide +kernel, by decide +kernel, by decide +kernel⟩
theorem lk_X0_357 : GoodIn lw_all (wsV RX0 357 (yX4_isAllowedByHandingDown).cls yX4_isAllowedByHandingDown (ws_ yX4_isAllowedByHandingDown cX4_isAllowedByHandingDown 4 (some .boolean))) ∧ gAr yX4_isAllowedByHandingDown 3 := ⟨lw_V q2484 q2485 q2486 q93 q2487, ar_X4_isAllowedByHandingDown⟩
theorem ar_X0_rightsOf : gAr yX0_rightsOf 4 := ⟨by decide +kernel, by decide +kernel, by decide +kernel⟩
theorem lk_X0_358 : GoodIn lw_all (va_wsS RX0 358 yX0_rightsOf (wsW_ yX0_rightsOf cX0_rightsOf 5 (some .int) [(0, 10, 13, 22)])) ∧ gAr yX0_rightsOf 4 := ⟨lw_SW q1906 q1907 q80 q1908, ar_X0_rightsOf⟩
theorem ar_X4_rightsOf : gAr yX4_rightsOf 2 := ⟨by decide +kernel, by decide +kernel, by decide +kernel⟩
theorem lk_X0_360 : GoodIn lw_all (wsV RX0 360 (yX4_rightsOf).cls yX4_rightsOf (ws_ yX4_rightsOf cX4_rightsOf 3 (some .int))) ∧ gAr yX4_rightsOf 2 := ⟨lw_V q2488 q2489 q2490 q93 q2491, ar_X4_rightsOf⟩
theorem ar_X0_decidingObject : gAr yX0_decidingObject 5 := ⟨by decide +kernel, by decide +kernel, by decide +kernel⟩
theorem lk_X0_361 : GoodIn lw_all (va_wsS RX0 361 yX0_decidingObject (wsW_ yX0_decidingObject cX0_decidingObject 6 (some .int) [(0, 12, 15, 22), (0, 12, 19, 49)])) ∧ gAr yX0_decidingObject 5 := ⟨lw_SW q1914 q1915 q80 q1916, ar_X0_decidingObject⟩
theorem ar_X4_decidingObject : gAr yX4_decidingObject 3 := ⟨by decide +kernel, by decide +kernel, by decide +kernel⟩
theorem lk_X0_363 : GoodIn lw_all (wsV RX0 363 (yX4_decidingObject).cls yX4_decidingObject (ws_ yX4_decidingObject cX4_decidingObject 5 (some .int))) ∧ gAr yX4_decidingObject 3 := ⟨lw_V q2492 q2493 q2494 q93 q2495, ar_X4_decidingObject⟩
theorem ar_X0_decidingEntry : gAr yX0_decidingEntry 5 := ⟨by decide +kernel, by decide +kernel, by decide +kernel⟩
theorem lk_X0_364 : GoodIn lw_all (va_wsS RX0 364 yX0_decidingEntry (wsW_ yX0_decidingEntry cX0_decidingEntry 6 (some .int) [(0, 12, 15, 22), (0, 12, 19, 49)])) ∧ gAr yX0_decidingEntry 5 := ⟨lw_SW q1922 q1923 q80 q1924, ar_X0_decidingEntry⟩
theorem ar_X4_decidingEntry : gAr yX4_decidingEntry 3 := ⟨by decide +kernel, by decide +kernel, by decide +kernel⟩
theorem lk_X0_366 : GoodIn lw_all (wsV RX0 366 (yX4_decidingEntry).cls yX4_decidingEntry (ws_ yX4_decidingEntry cX4_decidingEntry 5 (some .int))) ∧ gAr yX4_decidingEntry 3 := ⟨lw_V q2496 q2497 q2498 q93 q2499, ar_X4_decidingEntry⟩
theorem ar_X0_isStoppedByMask : gAr yX0_isStoppedByMask 5 := ⟨by decide +kernel, by decide +kernel, by decide +kernel⟩
theorem lk_X0_367 : GoodIn lw_all (va_wsS RX0 367 yX0_isStoppedByMask (wsW_ yX0_isStoppedByMask cX0_isStoppedByMask 6 (some .int) [(0, 19, 22, 22), (0, 19, 26, 49)])) ∧ gAr yX0_isStoppedByMask 5 := ⟨lw_SW q1929 q1930 q80 q1931, ar_X0_isStoppedByMask⟩
theorem ar_X4_isStoppedByMask : gAr yX4_isStoppedByMask 3 := ⟨by decide +kernel, by decide +kernel, by decide +kernel⟩
theorem lk_X0_369 : GoodIn lw_all (wsV RX0 369 (yX4_isStoppedByMask).cls yX4_isStoppedByMask (ws_ yX4_isStoppedByMask cX4_isStoppedByMask 4 (some .boolean))) ∧ gAr yX4_isStoppedByMask 3 := ⟨lw_V q2500 q2501 q2502 q93 q2503, ar_X4_isStoppedByMask⟩
theorem ar_X0_usersWith : gAr yX0_usersWith 4 := ⟨by decide +kernel, by decide +kernel, by decide +kernel⟩
theorem lk_X0_370 : GoodIn lw_all (va_wsS RX0 370 yX0_usersWith (wsW_ yX0_usersWith cX0_usersWith 5 (some .int) [(0, 10, 13, 22), (0, 10, 17, 49)])) ∧ gAr yX0_usersWith 4 := ⟨lw_SW q1940 q1941 q80 q1942, ar_X0_usersWith⟩
theorem ar_X4_usersWith : gAr yX4_usersWith 2 := ⟨by decide +kernel, by decide +kernel, by decide +kernel⟩
theorem lk_X0_372 : GoodIn lw_all (wsV RX0 372 (yX4_usersWith).cls yX4_usersWith (ws_ yX4_usersWith cX4_usersWith 5 (some .int))) ∧ gAr yX4_usersWith 2 := ⟨lw_V q2504 q2505 q2506 q93 q2507, ar_X4_usersWith⟩
theorem ar_X0_rightsThrough : gAr yX0_rightsThrough 4 := ⟨by decide +kernel, by decide +kernel, by decide +kernel⟩
theorem lk_X0_373 : GoodIn lw_all (va_wsS RX0 373 yX0_rightsThrough (wsW_ yX0_rightsThrough cX0_rightsThrough 5 (some .int) [(0, 10, 13, 22)])) ∧ gAr yX0_rightsThrough 4 := ⟨lw_SW q1951 q1952 q80 q1953, ar_X0_rightsThrough⟩
theorem ar_X4_rightsThrough : gAr yX4_rightsThrough 2 := ⟨by decide +kernel, by decide +kernel, by decide +kernel⟩
theorem lk_X0_375 : GoodIn lw_all (wsV RX0 375 (yX4_rightsThrough).cls yX4_rightsThrough (ws_ yX4_rightsThrough cX4_rightsThrough 5 (some .int))) ∧ gAr yX4_rightsThrough 2 := ⟨lw_V q2508 q2509 q2510 q93 q2511, ar_X4_rightsThrough⟩
theorem ar_X0_isNeedless : gAr yX0_isNeedless 4 := ⟨by decide +kernel, by decide +kernel, by decide +kernel⟩
theorem lk_X0_376 : GoodIn lw_all (va_wsS RX0 376 yX0_isNeedless (wsW_ yX0_isNeedless cX0_isNeedless 5 (some .int) [(0, 17, 20, 22)])) ∧ gAr yX0_isNeedless 4 := ⟨lw_SW q1963 q1964 q80 q1965, ar_X0_isNeedless⟩
theorem ar_X4_isNeedless : gAr yX4_isNeedless 2 := ⟨by decide +kernel, by decide +kernel, by decide +kernel⟩
theorem lk_X0_378 : GoodIn lw_all (wsV RX0 378 (yX4_isNeedless).cls yX4_isNeedless (ws_ yX4_isNeedless cX4_isNeedless 4 (some .boolean))) ∧ gAr yX4_isNeedless 2 := ⟨lw_V q2516 q2517 q2518 q93 q2519, ar_X4_isNeedless⟩
theorem ar_X1_allRights : gAr yX1_allRights 0 := ⟨by decide +kernel, by decide +kernel, by decide +kernel⟩
theorem lk_X0_379 : GoodIn lw_all (wsV RX0 379 (yX1_allRights).cls yX1_allRights (ws_ yX1_allRights cX1_allRights 1 (some .int))) ∧ gAr yX1_allRights 0 := ⟨lw_V q922 q923 q924 q81 q925, ar_X1_allRights⟩
theorem ar_X4_allRights : gAr yX4_allRights 0 := ⟨by decide +kernel, by decide +kernel, by decide +kernel⟩
theorem lk_X0_382 : GoodIn lw_all (wsV RX0 382 (yX4_allRights).cls yX4_allRights (ws_ yX4_allRights cX4_allRights 1 (some .int))) ∧ gAr yX4_allRights 0 := ⟨lw_V q2520 q2521 q2522 q93 q2523, ar_X4_allRights⟩
theorem ar_X1_openness : gAr yX1_openness 0 := ⟨by decide +kernel, by decide +kernel, by decide +kernel⟩
theorem lk_X0_383 : GoodIn lw_all (wsV RX0 383 (yX1_openness).cls yX1_openness (ws_ yX1_openness cX1_openness 1 (some .double))) ∧ gAr yX1_openness 0 := ⟨lw_V q975 q976 q977 q81 q978, ar_X1_openness⟩
theorem ar_X4_openness : gAr yX4_openness 0 := ⟨by decide +kernel, by decide +kernel, by decide +kernel⟩
theorem lk_X0_387 : GoodIn lw_all (wsV RX0 387 (yX4_openness).cls yX4_openness (ws_ yX4_openness cX4_openness 3 (some .double))) ∧ gAr yX4_openness 0 := ⟨lw_V q2531 q2532 q2533 q93 q2534, ar_X4_openness⟩
theorem ar_X1_requests : gAr yX1_requests 0 := ⟨by decide +kernel, by decide +kernel, by decide +kernel⟩
theorem lk_X0_388 : GoodIn lw_all (wsV RX0 388 (yX1_requests).cls yX1_requests (ws_ yX1_requests cX1_requests 1 (some .int))) ∧ gAr yX1_requests 0 := ⟨lw_V q979 q980 q981 q81 q982, ar_X1_requests⟩
theorem ar_X4_requests : gAr yX4_requests 0 := ⟨by decide +kernel, by decide +kernel, by decide +kernel⟩
theorem lk_X0_391 : GoodIn lw_all (wsV RX0 391 (yX4_requests).cls yX4_requests (ws_ yX4_requests cX4_requests 1 (some .int))) ∧ gAr yX4_requests 0 := ⟨lw_V q2535 q2536 q2537 q93 q2538, ar_X4_requests⟩
theorem ar_X1_refusals : gAr yX1_refusals 0 := ⟨by decide +kernel, by decide +kernel, by decide +kernel⟩
theorem lk_X0_392 : GoodIn lw_all (wsV RX0 392 (yX1_refusals).cls yX1_refusals (ws_ yX1_refusals cX1_refusals 1 (some .int))) ∧ gAr yX1_refusals 0 := ⟨lw_V q983 q984 q985 q81 q986, ar_X1_refusals⟩
theorem ar_X4_refusals : gAr yX4_refusals 0 := ⟨by decide +kernel, by decide +kernel, by decide +kernel⟩
theorem lk_X0_395 : GoodIn lw_all (wsV RX0 395 (yX4_refusals).cls yX4_refusals (ws_ yX4_refusals cX4_refusals 1 (some .int))) ∧ gAr yX4_refusals 0 := ⟨lw_V q2539 q2540 q2541 q93 q2542, ar_X4_refusals⟩
theorem ar_X0_userOfRequest : gAr yX0_userOfRequest 3 := ⟨by decide +kernel, by decide +kernel, by decide +kernel⟩
theorem lk_X0_396 : GoodIn lw_all (va_wsS RX0 396 yX0_userOfRequest (wsW_ yX0_userOfRequest cX0_userOfRequest 4 (some .int) [(0, 9, 12, 22)])) ∧ gAr yX0_userOfRequest 3 := ⟨lw_SW q1975 q1976 q80 q1977, ar_X0_userOfRequest⟩
theorem ar_X4_userOfRequest : gAr yX4_userOfRequest 1 := ⟨by decide +kernel, by decide +kernel, by decide +kernel⟩
theorem lk_X0_398 : GoodIn lw_all (wsV RX0 398 (yX4_userOfRequest).cls yX4_userOfRequest (ws_ yX4_userOfRequest cX4_userOfRequest 2 (some .int))) ∧ gAr yX4_userOfRequest 1 := ⟨lw_V q2543 q2544 q2545 q93 q2546, ar_X4_userOfRequest⟩
theorem ar_X0_objectOfRequest : gAr yX0_objectOfRequest 3 := ⟨by decide +kernel, by decide +kernel, by decide +kernel⟩
theorem lk_X0_399 : GoodIn lw_all (va_wsS RX0 399 yX0_objectOfRequest (wsW_ yX0_objectOfRequest cX0_objectOfRequest 4 (some .int) [(0, 9, 12, 22)])) ∧ gAr yX0_objectOfRequest 3 := ⟨lw_SW q1999 q2000 q80 q2001, ar_X0_objectOfRequest⟩
theorem ar_X4_objectOfRequest : gAr yX4_objectOfRequest 1 := ⟨by decide +kernel, by decide +kernel, by decide +kernel⟩
theorem lk_X0_401 : GoodIn lw_all (wsV RX0 401 (yX4_objectOfRequest).cls yX4_objectOfRequest (ws_ yX4_objectOfRequest cX4_objectOfRequest 2 (some .int))) ∧ gAr yX4_objectOfRequest 1 := ⟨lw_V q2551 q2552 q2553 q93 q2554, ar_X4_objectOfRequest⟩
theorem ar_X0_wasAllowed : gAr yX0_wasAllowed 3 := ⟨by decide +kernel, by decide +kernel, by decide +kernel⟩
theorem lk_X0_402 : GoodIn lw_all (va_wsS RX0 402 yX0_wasAllowed (wsW_ yX0_wasAllowed cX0_wasAllowed 4 (some .int) [(0, 16, 19, 22)])) ∧ gAr yX0_wasAllowed 3 := ⟨lw_SW q2006 q2007 q80 q2008, ar_X0_wasAllowed⟩
theorem ar_X4_wasAllowed : gAr yX4_wasAllowed 1 := ⟨by decide +kernel, by decide +kernel, by decide +kernel⟩
theorem lk_X0_404 : GoodIn lw_all (wsV RX0 404 (yX4_wasAllowed).cls yX4_wasAllowed (ws_ yX4_wasAllowed cX4_wasAllowed 2 (some .boolean))) ∧ gAr yX4_wasAllowed 1 := ⟨lw_V q2555 q2556 q2557 q93 q2558, ar_X4_wasAllowed⟩
theorem ar_X0_undo : gAr yX0_undo 2 := ⟨by decide +kernel, by decide +kernel, by decide +kernel⟩
theorem lk_X0_405 : GoodIn lw_all (va_wsS RX0 405 yX0_undo (wsW_ yX0_undo cX0_undo 3 (some .int) [(0, 8, 11, 13)])) ∧ gAr yX0_undo 2 := ⟨lw_SW q2013 q2014 q80 q2015, ar_X0_undo⟩
theorem ar_X4_undo : gAr yX4_undo 0 := ⟨by decide +kernel, by decide +kernel, by decide +kernel⟩
theorem lk_X0_407 : GoodIn lw_all (wsV RX0 407 (yX4_undo).cls yX4_undo (ws_ yX4_undo cX4_undo 2 (some .int))) ∧ gAr yX4_undo 0 := ⟨lw_V q2559 q2560 q2561 q93 q2562, ar_X4_undo⟩
theorem ar_X0_save : gAr yX0_save 3 := ⟨by decide +kernel, by decide +kernel, by decide +kernel⟩
theorem lk_X0_408 : GoodIn lw_all (va_wsS RX0 408 yX0_save (wsW_ yX0_save cX0_save 4 (some .int) [(0, 9, 12, 49)])) ∧ gAr yX0_save 3 := ⟨lw_SW q2032 q2033 q80 q2034, ar_X0_save⟩
theorem ar_X4_save : gAr yX4_save 1 := ⟨by decide +kernel, by decide +kernel, by decide +kernel⟩
theorem lk_X0_410 : GoodIn lw_all (wsV RX0 410 (yX4_save).cls yX4_save (ws_ yX4_save cX4_save 3 (some .int))) ∧ gAr yX4_save 1 := ⟨lw_V q2563 q2564 q2565 q93 q2566, ar_X4_save⟩
theorem ar_X0_restore : gAr yX0_restore 3 := ⟨by decide +kernel, by decide +kernel, by decide +kernel⟩
theorem lk_X0_411 : GoodIn lw_all (va_wsS RX0 411 yX0_restore (wsW_ yX0_restore cX0_restore 4 (some .int) [(0, 9, 12, 49), (0, 9, 15, 13)])) ∧ gAr yX0_restore 3 := ⟨lw_SW q2039 q2040 q80 q2041, ar_X0_restore⟩
theorem ar_X4_restore : gAr yX4_restore 1 := ⟨by decide +kernel, by decide +kernel, by decide +kernel⟩
theorem lk_X0_413 : GoodIn lw_all (wsV RX0 413 (yX4_restore).cls yX4_restore (ws_ yX4_restore cX4_restore 3 (some .int))) ∧ gAr yX4_restore 1 := ⟨lw_V q2567 q2568 q2569 q93 q2570, ar_X4_restore⟩
theorem ar_X1_addUser : gAr yX1_addUser 0 := ⟨by decide +kernel, by decide +kernel, by decide +kernel⟩
theorem lk_X0_7 : GoodIn lw_all (wsV RX0 7 (yX1_addUser).cls yX1_addUser (ws_ yX1_addUser cX1_addUser 1 (some .int))) ∧ gAr yX1_addUser 0 := ⟨lw_V q991 q992 q993 q81 q994, ar_X1_addUser⟩
theorem ar_X1_addGroup : gAr yX1_addGroup 0 := ⟨by decide +kernel, by decide +kernel, by decide +kernel⟩
theorem lk_X0_15 : GoodIn lw_all (wsV RX0 15 (yX1_addGroup).cls yX1_addGroup (ws_ yX1_addGroup cX1_addGroup 1 (some .int))) ∧ gAr yX1_addGroup 0 := ⟨lw_V q1206 q1207 q1208 q81 q1209, ar_X1_addGroup⟩
theorem ar_X1_join : gAr yX1_join 2 := ⟨by decide +kernel, by decide +kernel, by decide +kernel⟩
theorem lk_X0_18 : GoodIn lw_all (wsV RX0 18 (yX1_join).cls yX1_join (ws_ yX1_join cX1_join 5 (some .int))) ∧ gAr yX1_join 2 := ⟨lw_V q1219 q1220 q1221 q81 q1222, ar_X1_join⟩
theorem ar_X1_leave : gAr yX1_leave 2 := ⟨by decide +kernel, by decide +kernel, by decide +kernel⟩
theorem lk_X0_24 : GoodIn lw_all (wsV RX0 24 (yX1_leave).cls yX1_leave (ws_ yX1_leave cX1_leave 5 (some .int))) ∧ gAr yX1_leave 2 := ⟨lw_V q1252 q1253 q1254 q81 q1255, ar_X1_leave⟩
theorem ar_X1_nest : gAr yX1_nest 2 := ⟨by decide +kernel, by decide +kernel, by decide +kernel⟩
theorem lk_X0_27 : GoodIn lw_all (wsV RX0 27 (yX1_nest).cls yX1_nest (ws_ yX1_nest cX1_nest 5 (some .int))) ∧ gAr yX1_nest 2 := ⟨lw_V q1263 q1264 q1265 q81 q1266, ar_X1_nest⟩
theorem ar_X1_unnest : gAr yX1_unnest 2 := ⟨by decide +kernel, by decide +kernel, by decide +kernel⟩
theorem lk_X0_30 : GoodIn lw_all (wsV RX0 30 (yX1_unnest).cls yX1_unnest (ws_ yX1_unnest cX1_unnest 5 (some .int))) ∧ gAr yX1_unnest 2 := ⟨lw_V q1278 q1279 q1280 q81 q1281, ar_X1_unnest⟩
theorem ar_X1_make : gAr yX1_make 2 := ⟨by decide +kernel, by decide +kernel, by decide +kernel⟩
theorem lk_X0_33 : GoodIn lw_all (wsV RX0 33 (yX1_make).cls yX1_make (ws_ yX1_make cX1_make 5 (some .int))) ∧ gAr yX1_make 2 := ⟨lw_V q1289 q1290 q1291 q81 q1292, ar_X1_make⟩
theorem ar_X1_remove : gAr yX1_remove 1 := ⟨by decide +kernel, by decide +kernel, by decide +kernel⟩
theorem lk_X0_36 : GoodIn lw_all (wsV RX0 36 (yX1_remove).cls yX1_remove (ws_ yX1_remove cX1_remove 4 (some .int))) ∧ gAr yX1_remove 1 := ⟨lw_V q1301 q1302 q1303 q81 q1304, ar_X1_remove⟩
theorem ar_X1_move : gAr yX1_move 2 := ⟨by decide +kernel, by decide +kernel, by decide +kernel⟩
theorem lk_X0_40 : GoodIn lw_all (wsV RX0 40 (yX1_move).cls yX1_move (ws_ yX1_move cX1_move 5 (some .int))) ∧ gAr yX1_move 2 := ⟨lw_V q1321 q1322 q1323 q81 q1324, ar_X1_move⟩
theorem ar_X1_giveTo : gAr yX1_giveTo 2 := ⟨by decide +kernel, by decide +kernel, by decide +kernel⟩
theorem lk_X0_43 : GoodIn lw_all (wsV RX0 43 (yX1_giveTo).cls yX1_giveTo (ws_ yX1_giveTo cX1_giveTo 4 (some .int))) ∧ gAr yX1_giveTo 2 := ⟨lw_V q1332 q1333 q1334 q81 q1335, ar_X1_giveTo⟩
theorem ar_X1_setMask : gAr yX1_setMask 2 := ⟨by decide +kernel, by decide +kernel, by decide +kernel⟩
theorem lk_X0_46 : GoodIn lw_all (wsV RX0 46 (yX1_setMask).cls yX1_setMask (ws_ yX1_setMask cX1_setMask 4 (some .int))) ∧ gAr yX1_setMask 2 := ⟨lw_V q1340 q1341 q1342 q81 q1343, ar_X1_setMask⟩
theorem ar_X1_setInheriting : gAr yX1_setInheriting 2 := ⟨by decide +kernel, by decide +kernel, by decide +kernel⟩
theorem lk_X0_51 : GoodIn lw_all (wsV RX0 51 (yX1_setInheriting).cls yX1_setInheriting (ws_ yX1_setInheriting cX1_setInheriting 4 (some .boolean))) ∧ gAr yX1_setInheriting 2 := ⟨lw_V q1360 q1361 q1362 q81 q1363, ar_X1_setInheriting⟩
theorem ar_X1_addForUser : gAr yX1_addForUser 5 := ⟨by decide +kernel, by decide +kernel, by decide +kernel⟩
theorem lk_X0_55 : GoodIn lw_all (wsV RX0 55 (yX1_addForUser).cls yX1_addForUser (ws_ yX1_addForUser cX1_addForUser 6 (some .int))) ∧ gAr yX1_addForUser 5 := ⟨lw_V q1367 q1368 q1369 q81 q1370, ar_X1_addForUser⟩
theorem ar_X1_addForGroup : gAr yX1_addForGroup 5 := ⟨by decide +kernel, by decide +kernel, by decide +kernel⟩
theorem lk_X0_59 : GoodIn lw_all (wsV RX0 59 (yX1_addForGroup).cls yX1_addForGroup (ws_ yX1_addForGroup cX1_addForGroup 6 (some .int))) ∧ gAr yX1_addForGroup 5 := ⟨lw_V q1405 q1406 q1407 q81 q1408, ar_X1_addForGroup⟩
theorem ar_X1_addForOwner : gAr yX1_addForOwner 4 := ⟨by decide +kernel, by decide +kernel, by decide +kernel⟩
theorem lk_X0_62 : GoodIn lw_all (wsV RX0 62 (yX1_addForOwner).cls yX1_addForOwner (ws_ yX1_addForOwner cX1_addForOwner 5 (some .int))) ∧ gAr yX1_addForOwner 4 := ⟨lw_V q1412 q1413 q1414 q81 q1415, ar_X1_addForOwner⟩
theorem ar_X1_addForAll : gAr yX1_addForAll 4 := ⟨by decide +kernel, by decide +kernel, by decide +kernel⟩
theorem lk_X0_66 : GoodIn lw_all (wsV RX0 66 (yX1_addForAll).cls yX1_addForAll (ws_ yX1_addForAll cX1_addForAll 5 (some .int))) ∧ gAr yX1_addForAll 4 := ⟨lw_V q1423 q1424 q1425 q81 q1426, ar_X1_addForAll⟩
theorem ar_X1_removeEntry : gAr yX1_removeEntry 2 := ⟨by decide +kernel, by decide +kernel, by decide +kernel⟩
theorem lk_X0_69 : GoodIn lw_all (wsV RX0 69 (yX1_removeEntry).cls yX1_removeEntry (ws_ yX1_removeEntry cX1_removeEntry 3 (some .int))) ∧ gAr yX1_removeEntry 2 := ⟨lw_V q1430 q1431 q1432 q81 q1433, ar_X1_removeEntry⟩
theorem ar_X1_moveEntry : gAr yX1_moveEntry 3 := ⟨by decide +kernel, by decide +kernel, by decide +kernel⟩
theorem lk_X0_72 : GoodIn lw_all (wsV RX0 72 (yX1_moveEntry).cls yX1_moveEntry (ws_ yX1_moveEntry cX1_moveEntry 4 (some .int))) ∧ gAr yX1_moveEntry 3 := ⟨lw_V q1459 q1460 q1461 q81 q1462, ar_X1_moveEntry⟩
theorem ar_X1_ask : gAr yX1_ask 3 := ⟨by decide +kernel, by decide +kernel, by decide +kernel⟩
theorem lk_X0_76 : GoodIn lw_all (wsV RX0 76 (yX1_ask).cls yX1_ask (ws_ yX1_ask cX1_ask 4 (some .boolean))) ∧ gAr yX1_ask 3 := ⟨lw_V q1475 q1476 q1477 q81 q1478, ar_X1_ask⟩
theorem ar_X1_share : gAr yX1_share 4 := ⟨by decide +kernel, by decide +kernel, by decide +kernel⟩
theorem lk_X0_80 : GoodIn lw_all (wsV RX0 80 (yX1_share).cls yX1_share (ws_ yX1_share cX1_share 7 (some .int))) ∧ gAr yX1_share 4 := ⟨lw_V q1525 q1526 q1527 q81 q1528, ar_X1_share⟩
theorem ar_X1_append : gAr yX1_append 1 := ⟨by decide +kernel, by decide +kernel, by decide +kernel⟩
theorem lk_X0_84 : GoodIn lw_all (wsV RX0 84 (yX1_append).cls yX1_append (ws_ yX1_append cX1_append 2 (some .int))) ∧ gAr yX1_append 1 := ⟨lw_V q1539 q1540 q1541 q81 q1542, ar_X1_append⟩
theorem ar_X1_loadEntries : gAr yX1_loadEntries 0 := ⟨by decide +kernel, by decide +kernel, by decide +kernel⟩
theorem lk_X0_87 : GoodIn lw_all (wsV RX0 87 (yX1_loadEntries).cls yX1_loadEntries (wsW_ yX1_loadEntries cX1_loadEntries 4 (some .int) [(8, 17, 20, 228)])) ∧ gAr yX1_loadEntries 0 := ⟨lw_VW q1563 q1564 q1565 q81 q1566, ar_X1_loadEntries⟩
theorem ar_X1_writeEntries : gAr yX1_writeEntries 1 := ⟨by decide +kernel, by decide +kernel, by decide +kernel⟩
theorem lk_X0_90 : GoodIn lw_all (wsV RX0 90 (yX1_writeEntries).cls yX1_writeEntries (ws_ yX1_writeEntries cX1_writeEntries 3 (some .int))) ∧ gAr yX1_writeEntries 1 := ⟨lw_V q1731 q1732 q1733 q81 q1734, ar_X1_writeEntries⟩
theorem ar_X1_codeAt : gAr yX1_codeAt 1 := ⟨by decide +kernel, by decide +kernel, by decide +kernel⟩
theorem lk_X0_93 : GoodIn lw_all (wsV RX0 93 (yX1_codeAt).cls yX1_codeAt (ws_ yX1_codeAt cX1_codeAt 2 (some .int))) ∧ gAr yX1_codeAt 1 := ⟨lw_V q1747 q1748 q1749 q81 q1750, ar_X1_codeAt⟩
theorem ar_X1_isMember : gAr yX1_isMember 2 := ⟨by decide +kernel, by decide +kernel, by decide +kernel⟩
theorem lk_X0_96 : GoodIn lw_all (wsV RX0 96 (yX1_isMember).cls yX1_isMember (ws_ yX1_isMember cX1_isMember 3 (some .boolean))) ∧ gAr yX1_isMember 2 := ⟨lw_V q1755 q1756 q1757 q81 q1758, ar_X1_isMember⟩
theorem ar_X1_isNested : gAr yX1_isNested 2 := ⟨by decide +kernel, by decide +kernel, by decide +kernel⟩
theorem lk_X0_100 : GoodIn lw_all (wsV RX0 100 (yX1_isNested).cls yX1_isNested (ws_ yX1_isNested cX1_isNested 3 (some .boolean))) ∧ gAr yX1_isNested 2 := ⟨lw_V q1764 q1765 q1766 q81 q1767, ar_X1_isNested⟩
theorem ar_X1_belongs : gAr yX1_belongs 2 := ⟨by decide +kernel, by decide +kernel, by decide +kernel⟩
theorem lk_X0_103 : GoodIn lw_all (wsV RX0 103 (yX1_belongs).cls yX1_belongs (ws_ yX1_belongs cX1_belongs 3 (some .boolean))) ∧ gAr yX1_belongs 2 := ⟨lw_V q1771 q1772 q1773 q81 q1774, ar_X1_belongs⟩
theorem ar_X1_belongsByMembers : gAr yX1_belongsByMembers 2 := ⟨by decide +kernel, by decide +kernel, by decide +kernel⟩
theorem lk_X0_106 : GoodIn lw_all (wsV RX0 106 (yX1_belongsByMembers).cls yX1_belongsByMembers (ws_ yX1_belongsByMembers cX1_belongsByMembers 3 (some .boolean))) ∧ gAr yX1_belongsByMembers 2 := ⟨lw_V q1779 q1780 q1781 q81 q1782, ar_X1_belongsByMembers⟩
theorem ar_X1_parentOf : gAr yX1_parentOf 1 := ⟨by decide +kernel, by decide +kernel, by decide +kernel⟩
theorem lk_X0_109 : GoodIn lw_all (wsV RX0 109 (yX1_parentOf).cls yX1_parentOf (ws_ yX1_parentOf cX1_parentOf 2 (some .int))) ∧ gAr yX1_parentOf 1 := ⟨lw_V q1787 q1788 q1789 q81 q1790, ar_X1_parentOf⟩
theorem ar_X1_ownerOf : gAr yX1_ownerOf 1 := ⟨by decide +kernel, by decide +kernel, by decide +kernel⟩
theorem lk_X0_112 : GoodIn lw_all (wsV RX0 112 (yX1_ownerOf).cls yX1_ownerOf (ws_ yX1_ownerOf cX1_ownerOf 2 (some .int))) ∧ gAr yX1_ownerOf 1 := ⟨lw_V q1798 q1799 q1800 q81 q1801, ar_X1_ownerOf⟩
theorem ar_X1_maskOf : gAr yX1_maskOf 1 := ⟨by decide +kernel, by decide +kernel, by decide +kernel⟩
theorem lk_X0_115 : GoodIn lw_all (wsV RX0 115 (yX1_maskOf).cls yX1_maskOf (ws_ yX1_maskOf cX1_maskOf 2 (some .int))) ∧ gAr yX1_maskOf 1 := ⟨lw_V q1805 q1806 q1807 q81 q1808, ar_X1_maskOf⟩
theorem ar_X1_isInheriting : gAr yX1_isInheriting 1 := ⟨by decide +kernel, by decide +kernel, by decide +kernel⟩
theorem lk_X0_118 : GoodIn lw_all (wsV RX0 118 (yX1_isInheriting).cls yX1_isInheriting (ws_ yX1_isInheriting cX1_isInheriting 2 (some .boolean))) ∧ gAr yX1_isInheriting 1 := ⟨lw_V q1812 q1813 q1814 q81 q1815, ar_X1_isInheriting⟩
theorem ar_X1_below : gAr yX1_below 1 := ⟨by decide +kernel, by decide +kernel, by decide +kernel⟩
theorem lk_X0_122 : GoodIn lw_all (wsV RX0 122 (yX1_below).cls yX1_below (ws_ yX1_below cX1_below 2 (some .int))) ∧ gAr yX1_below 1 := ⟨lw_V q1819 q1820 q1821 q81 q1822, ar_X1_below⟩
theorem ar_X1_entriesOf : gAr yX1_entriesOf 1 := ⟨by decide +kernel, by decide +kernel, by decide +kernel⟩
theorem lk_X0_125 : GoodIn lw_all (wsV RX0 125 (yX1_entriesOf).cls yX1_entriesOf (ws_ yX1_entriesOf cX1_entriesOf 2 (some .int))) ∧ gAr yX1_entriesOf 1 := ⟨lw_V q1827 q1828 q1829 q81 q1830, ar_X1_entriesOf⟩
theorem ar_X1_isAllowing : gAr yX1_isAllowing 2 := ⟨by decide +kernel, by decide +kernel, by decide +kernel⟩
theorem lk_X0_128 : GoodIn lw_all (wsV RX0 128 (yX1_isAllowing).cls yX1_isAllowing (ws_ yX1_isAllowing cX1_isAllowing 3 (some .boolean))) ∧ gAr yX1_isAllowing 2 := ⟨lw_V q1834 q1835 q1836 q81 q1837, ar_X1_isAllowing⟩
theorem ar_X1_rightsOfEntry : gAr yX1_rightsOfEntry 2 := ⟨by decide +kernel, by decide +kernel, by decide +kernel⟩
theorem lk_X0_131 : GoodIn lw_all (wsV RX0 131 (yX1_rightsOfEntry).cls yX1_rightsOfEntry (ws_ yX1_rightsOfEntry cX1_rightsOfEntry 3 (some .int))) ∧ gAr yX1_rightsOfEntry 2 := ⟨lw_V q1845 q1846 q1847 q81 q1848, ar_X1_rightsOfEntry⟩
theorem ar_X1_userOfEntry : gAr yX1_userOfEntry 2 := ⟨by decide +kernel, by decide +kernel, by decide +kernel⟩
theorem lk_X0_134 : GoodIn lw_all (wsV RX0 134 (yX1_userOfEntry).cls yX1_userOfEntry (ws_ yX1_userOfEntry cX1_userOfEntry 3 (some .int))) ∧ gAr yX1_userOfEntry 2 := ⟨lw_V q1852 q1853 q1854 q81 q1855, ar_X1_userOfEntry⟩
theorem ar_X1_groupOfEntry : gAr yX1_groupOfEntry 2 := ⟨by decide +kernel, by decide +kernel, by decide +kernel⟩
theorem lk_X0_137 : GoodIn lw_all (wsV RX0 137 (yX1_groupOfEntry).cls yX1_groupOfEntry (ws_ yX1_groupOfEntry cX1_groupOfEntry 3 (some .int))) ∧ gAr yX1_groupOfEntry 2 := ⟨lw_V q1860 q1861 q1862 q81 q1863, ar_X1_groupOfEntry⟩
theorem ar_X1_isForOwner : gAr yX1_isForOwner 2 := ⟨by decide +kernel, by decide +kernel, by decide +kernel⟩
theorem lk_X0_140 : GoodIn lw_all (wsV RX0 140 (yX1_isForOwner).cls yX1_isForOwner (ws_ yX1_isForOwner cX1_isForOwner 3 (some .boolean))) ∧ gAr yX1_isForOwner 2 := ⟨lw_V q1867 q1868 q1869 q81 q1870, ar_X1_isForOwner⟩
theorem ar_X1_isForBelow : gAr yX1_isForBelow 2 := ⟨by decide +kernel, by decide +kernel, by decide +kernel⟩
theorem lk_X0_143 : GoodIn lw_all (wsV RX0 143 (yX1_isForBelow).cls yX1_isForBelow (ws_ yX1_isForBelow cX1_isForBelow 3 (some .boolean))) ∧ gAr yX1_isForBelow 2 := ⟨lw_V q1874 q1875 q1876 q81 q1877, ar_X1_isForBelow⟩
theorem ar_X1_isAllowed : gAr yX1_isAllowed 3 := ⟨by decide +kernel, by decide +kernel, by decide +kernel⟩
theorem lk_X0_146 : GoodIn lw_all (wsV RX0 146 (yX1_isAllowed).cls yX1_isAllowed (ws_ yX1_isAllowed cX1_isAllowed 4 (some .boolean))) ∧ gAr yX1_isAllowed 3 := ⟨lw_V q1881 q1882 q1883 q81 q1884, ar_X1_isAllowed⟩
theorem ar_X1_isAllowedByHandingDown : gAr yX1_isAllowedByHandingDown 3 := ⟨by decide +kernel, by decide +kernel, by decide +kernel⟩
theorem lk_X0_149 : GoodIn lw_all (wsV RX0 149 (yX1_isAllowedByHandingDown).cls yX1_isAllowedByHandingDown (ws_ yX1_isAllowedByHandingDown cX1_isAllowedByHandingDown 4 (some .boolean))) ∧ gAr yX1_isAllowedByHandingDown 3 := ⟨lw_V q1893 q1894 q1895 q81 q1896, ar_X1_isAllowedByHandingDown⟩
theorem ar_X1_rightsOf : gAr yX1_rightsOf 2 := ⟨by decide +kernel, by decide +kernel, by decide +kernel⟩
theorem lk_X0_152 : GoodIn lw_all (wsV RX0 152 (yX1_rightsOf).cls yX1_rightsOf (ws_ yX1_rightsOf cX1_rightsOf 3 (some .int))) ∧ gAr yX1_rightsOf 2 := ⟨lw_V q1909 q1910 q1911 q81 q1912, ar_X1_rightsOf⟩
theorem ar_X1_decidingObject : gAr yX1_decidingObject 3 := ⟨by decide +kernel, by decide +kernel, by decide +kernel⟩
theorem lk_X0_155 : GoodIn lw_all (wsV RX0 155 (yX1_decidingObject).cls yX1_decidingObject (ws_ yX1_decidingObject cX1_decidingObject 5 (some .int))) ∧ gAr yX1_decidingObject 3 := ⟨lw_V q1917 q1918 q1919 q81 q1920, ar_X1_decidingObject⟩
theorem ar_X1_decidingEntry : gAr yX1_decidingEntry 3 := ⟨by decide +kernel, by decide +kernel, by decide +kernel⟩
theorem lk_X0_158 : GoodIn lw_all (wsV RX0 158 (yX1_decidingEntry).cls yX1_decidingEntry (ws_ yX1_decidingEntry cX1_decidingEntry 5 (some .int))) ∧ gAr yX1_decidingEntry 3 := ⟨lw_V q1925 q1926 q1927 q81 q1928, ar_X1_decidingEntry⟩
theorem ar_X1_isStoppedByMask : gAr yX1_isStoppedByMask 3 := ⟨by decide +kernel, by decide +kernel, by decide +kernel⟩
theorem lk_X0_161 : GoodIn lw_all (wsV RX0 161 (yX1_isStoppedByMask).cls yX1_isStoppedByMask (ws_ yX1_isStoppedByMask cX1_isStoppedByMask 4 (some .boolean))) ∧ gAr yX1_isStoppedByMask 3 := ⟨lw_V q1932 q1933 q1934 q81 q1935, ar_X1_isStoppedByMask⟩
theorem ar_X1_usersWith : gAr yX1_usersWith 2 := ⟨by decide +kernel, by decide +kernel, by decide +kernel⟩
theorem lk_X0_164 : GoodIn lw_all (wsV RX0 164 (yX1_usersWith).cls yX1_usersWith (ws_ yX1_usersWith cX1_usersWith 3 (some .int))) ∧ gAr yX1_usersWith 2 := ⟨lw_V q1943 q1944 q1945 q81 q1946, ar_X1_usersWith⟩
theorem ar_X1_rightsThrough : gAr yX1_rightsThrough 2 := ⟨by decide +kernel, by decide +kernel, by decide +kernel⟩
theorem lk_X0_167 : GoodIn lw_all (wsV RX0 167 (yX1_rightsThrough).cls yX1_rightsThrough (ws_ yX1_rightsThrough cX1_rightsThrough 3 (some .int))) ∧ gAr yX1_rightsThrough 2 := ⟨lw_V q1954 q1955 q1956 q81 q1957, ar_X1_rightsThrough⟩
theorem ar_X1_isNeedless : gAr yX1_isNeedless 2 := ⟨by decide +kernel, by decide +kernel, by decide +kernel⟩
theorem lk_X0_170 : GoodIn lw_all (wsV RX0 170 (yX1_isNeedless).cls yX1_isNeedless (ws_ yX1_isNeedless cX1_isNeedless 3 (some .boolean))) ∧ gAr yX1_isNeedless 2 := ⟨lw_V q1966 q1967 q1968 q81 q1969, ar_X1_isNeedless⟩
theorem ar_X1_userOfRequest : gAr yX1_userOfRequest 1 := ⟨by decide +kernel, by decide +kernel, by decide +kernel⟩
theorem lk_X0_173 : GoodIn lw_all (wsV RX0 173 (yX1_userOfRequest).cls yX1_userOfRequest (ws_ yX1_userOfRequest cX1_userOfRequest 2 (some .int))) ∧ gAr yX1_userOfRequest 1 := ⟨lw_V q1978 q1979 q1980 q81 q1981, ar_X1_userOfRequest⟩
theorem ar_X1_objectOfRequest : gAr yX1_objectOfRequest 1 := ⟨by decide +kernel, by decide +kernel, by decide +kernel⟩
theorem lk_X0_176 : GoodIn lw_all (wsV RX0 176 (yX1_objectOfRequest).cls yX1_objectOfRequest (ws_ yX1_objectOfRequest cX1_objectOfRequest 2 (some .int))) ∧ gAr yX1_objectOfRequest 1 := ⟨lw_V q2002 q2003 q2004 q81 q2005, ar_X1_objectOfRequest⟩
theorem ar_X1_wasAllowed : gAr yX1_wasAllowed 1 := ⟨by decide +kernel, by decide +kernel, by decide +kernel⟩
theorem lk_X0_179 : GoodIn lw_all (wsV RX0 179 (yX1_wasAllowed).cls yX1_wasAllowed (ws_ yX1_wasAllowed cX1_wasAllowed 2 (some .boolean))) ∧ gAr yX1_wasAllowed 1 := ⟨lw_V q2009 q2010 q2011 q81 q2012, ar_X1_wasAllowed⟩
theorem ar_X1_undo : gAr yX1_undo 0 := ⟨by decide +kernel, by decide +kernel, by decide +kernel⟩
theorem lk_X0_182 : GoodIn lw_all (wsV RX0 182 (yX1_undo).cls yX1_undo (ws_ yX1_undo cX1_undo 1 (some .int))) ∧ gAr yX1_undo 0 := ⟨lw_V q2016 q2017 q2018 q81 q2019, ar_X1_undo⟩
theorem ar_X1_save : gAr yX1_save 1 := ⟨by decide +kernel, by decide +kernel, by decide +kernel⟩
theorem lk_X0_185 : GoodIn lw_all (wsV RX0 185 (yX1_save).cls yX1_save (ws_ yX1_save cX1_save 2 (some .int))) ∧ gAr yX1_save 1 := ⟨lw_V q2035 q2036 q2037 q81 q2038, ar_X1_save⟩
theorem ar_X1_restore : gAr yX1_restore 1 := ⟨by decide +kernel, by decide +kernel, by decide +kernel⟩
theorem lk_X0_188 : GoodIn lw_all (wsV RX0 188 (yX1_restore).cls yX1_restore (ws_ yX1_restore cX1_restore 2 (some .int))) ∧ gAr yX1_restore 1 := ⟨lw_V q2042 q2043 q2044 q81 q2045, ar_X1_restore⟩
theorem lo_X1_27 : Cond.methodLink RX1 27 Lib.objectInit ∈ lw_all := q126
theorem ar_X2_fresh : gAr yX2_fresh 0 := ⟨by decide +kernel, by decide +kernel, by decide +kernel⟩
theorem lk_X1_30 : GoodIn lw_all (va_wsS RX1 30 yX2_fresh (ws_ yX2_fresh cX2_fresh 1 (some (.object "PermissionDesk$Land")))) ∧ gAr yX2_fresh 0 := ⟨lw_S q129 q130 q82 q131, ar_X2_fresh⟩
theorem fp_X1_36 : gPut RX1 36 0 0 (.object "PermissionDesk$Land") false := gPut.of (T := TX1) (N := 4) tyX1 rfl (by decide) in_X1 q295 tyX1_ok nmX1 rfl rfl
theorem nw_X1_40 : gNew RX1 40 13 [.int 0, .int 0, .null, .null] := ⟨RJ4, TJ4, tyJ4, rfl, in_J4, tyJ4_ok, q258, q172, q87, by decide +kernel⟩
theorem ar_J4_init : gAr yJ4_init 0 := ⟨by decide +kernel, by decide +kernel, by decide +kernel⟩
theorem lk_X1_42 : (GoodIn lw_all (ws_ yJ4_init cJ4_init 1 none) ∧ Cond.initialized (yJ4_init).cls ∈ lw_all ∧ Cond.methodLink RX1 42 yJ4_init ∈ lw_all ∧ Cond.instanceMethod yJ4_init ∈ lw_all ∧ (yJ4_init).name = "<init>") ∧ gAr yJ4_init 0 := ⟨⟨lw_meth q175, q87, q259, q174, rfl⟩, ar_J4_init⟩
theorem fp_X1_43 : gPut RX1 43 0 1 (.object "java/util/LinkedList") true := gPut.ofF (T := TX1) (N := 4) tyX1 rfl (by decide) in_X1 q296 tyX1_ok nmX1 rfl rfl rfl
theorem fp_X1_47 : gPut RX1 47 0 2 (.array (.object "PermissionDesk$Land")) true := gPut.ofF (T := TX1) (N := 4) tyX1 rfl (by decide) in_X1 q297 tyX1_ok nmX1 rfl rfl rfl
theorem nw_X1_51 : gNew RX1 51 16 [.null, .int 0, .int 0, .int 0] := ⟨RJ6, TJ6, tyJ6, rfl, in_J6, tyJ6_ok, q262, q263, q90, by decide +kernel⟩
theorem lk_X1_53 : (GoodIn lw_all (ws_ yJ6_init cJ6_init 1 none) ∧ Cond.initialized (yJ6_init).cls ∈ lw_all ∧ Cond.methodLink RX1 53 yJ6_init ∈ lw_all ∧ Cond.instanceMethod yJ6_init ∈ lw_all ∧ (yJ6_init).name = "<init>") ∧ gAr yJ6_init 0 := ⟨⟨lw_meth q266, q90, q264, q265, rfl⟩, ar_J6_init⟩
theorem fp_X1_54 : gPut RX1 54 0 3 (.object "java/lang/StringBuilder") true := gPut.ofF (T := TX1) (N := 4) tyX1 rfl (by decide) in_X1 q298 tyX1_ok nmX1 rfl rfl rfl
theorem fg_X1_54 : gFld RX1 54 0 3 := gFld.of (T := TX1) (N := 4) rfl (by decide) in_X1 q298
theorem ar_J6_length : gAr yJ6_length 0 := ⟨by decide +kernel, by decide +kernel, by decide +kernel⟩
theorem lk_X1_196 : GoodIn lw_all (wsV RX1 196 (yJ6_length).cls yJ6_length (ws_ yJ6_length cJ6_length 1 (some .int))) ∧ gAr yJ6_length 0 := ⟨lw_V q312 q313 q314 q90 q315, ar_J6_length⟩
theorem ar_J6_setLength : gAr yJ6_setLength 1 := ⟨by decide +kernel, by decide +kernel, by decide +kernel⟩
theorem lk_X1_203 : GoodIn lw_all (wsV RX1 203 (yJ6_setLength).cls yJ6_setLength (ws_ yJ6_setLength cJ6_setLength 2 none)) ∧ gAr yJ6_setLength 1 := ⟨lw_V q319 q320 q321 q90 q322, ar_J6_setLength⟩
theorem nw_X1_206 : gNew RX1 206 7 [.null, .int 0] := ⟨RX8, TX8, tyX8, rfl, in_X8, tyX8_ok, q666, q667, q116, by decide +kernel⟩
theorem ar_X8_init : gAr yX8_init 1 := ⟨by decide +kernel, by decide +kernel, by decide +kernel⟩
theorem lk_X1_208 : (GoodIn lw_all (ws_ yX8_init cX8_init 2 none) ∧ Cond.initialized (yX8_init).cls ∈ lw_all ∧ Cond.methodLink RX1 208 yX8_init ∈ lw_all ∧ Cond.instanceMethod yX8_init ∈ lw_all ∧ (yX8_init).name = "<init>") ∧ gAr yX8_init 1 := ⟨⟨lw_meth q670, q116, q668, q669, rfl⟩, ar_X8_init⟩
theorem ar_X8_plan : gAr yX8_plan 0 := ⟨by decide +kernel, by decide +kernel, by decide +kernel⟩
theorem lk_X1_211 : GoodIn lw_all (wsV RX1 211 (yX8_plan).cls yX8_plan (ws_ yX8_plan cX8_plan 2 (some (.object "PermissionDesk$Plan")))) ∧ gAr yX8_plan 0 := ⟨lw_V q679 q680 q681 q116 q682, ar_X8_plan⟩
theorem fg_X1_217 : gFld RX1 217 9 6 := gFld.ofN (T := TX10) (N := 7) rfl (by decide) in_X10 q729
theorem fg_X1_36 : gFld RX1 36 0 0 := gFld.of (T := TX1) (N := 4) rfl (by decide) in_X1 q295
theorem fg_X1_70 : gFld RX1 70 1 0 := gFld.ofN (T := TX2) (N := 6) rfl (by decide) in_X2 q192
theorem fg_X1_84 : gFld RX1 84 1 1 := gFld.ofN (T := TX2) (N := 6) rfl (by decide) in_X2 q194
theorem ar_J2_size : gAr yJ2_size 0 := ⟨by decide +kernel, by decide +kernel, by decide +kernel⟩
theorem lk_X1_88 : GoodIn lw_all (wsV RX1 88 (yJ2_size).cls yJ2_size (ws_ yJ2_size cJ2_size 1 (some .int))) ∧ gAr yJ2_size 0 := ⟨lw_V q903 q787 q788 q85 q789, ar_J2_size⟩
theorem ar_X2_objects : gAr yX2_objects 0 := ⟨by decide +kernel, by decide +kernel, by decide +kernel⟩
theorem lk_X1_274 : GoodIn lw_all (wsV RX1 274 (yX2_objects).cls yX2_objects (ws_ yX2_objects cX2_objects 3 (some .int))) ∧ gAr yX2_objects 0 := ⟨lw_V q908 q909 q910 q82 q911, ar_X2_objects⟩
theorem ar_X2_has : gAr yX2_has 1 := ⟨by decide +kernel, by decide +kernel, by decide +kernel⟩
theorem lk_X1_122 : GoodIn lw_all (wsV RX1 122 (yX2_has).cls yX2_has (ws_ yX2_has cX2_has 2 (some .boolean))) ∧ gAr yX2_has 1 := ⟨lw_V q921 q913 q914 q82 q915, ar_X2_has⟩
theorem ar_X2_allRights : gAr yX2_allRights 0 := ⟨by decide +kernel, by decide +kernel, by decide +kernel⟩
theorem lk_X1_329 : GoodIn lw_all (wsV RX1 329 (yX2_allRights).cls yX2_allRights (ws_ yX2_allRights cX2_allRights 4 (some .int))) ∧ gAr yX2_allRights 0 := ⟨lw_V q926 q927 q928 q82 q929, ar_X2_allRights⟩
theorem fg_X1_341 : gFld RX1 341 1 4 := gFld.ofN (T := TX2) (N := 6) rfl (by decide) in_X2 q201
theorem fg_X1_344 : gFld RX1 344 1 5 := gFld.ofN (T := TX2) (N := 6) rfl (by decide) in_X2 q203
theorem ar_X1_demand : gAr yX1_demand 1 := ⟨by decide +kernel, by decide +kernel, by decide +kernel⟩
theorem lk_X1_74 : GoodIn lw_all (va_wsS RX1 74 yX1_demand (ws_ yX1_demand cX1_demand 1 none)) ∧ gAr yX1_demand 1 := ⟨lw_S q995 q996 q81 q997, ar_X1_demand⟩
theorem ar_X2_copy : gAr yX2_copy 0 := ⟨by decide +kernel, by decide +kernel, by decide +kernel⟩
theorem lk_X1_77 : GoodIn lw_all (wsV RX1 77 (yX2_copy).cls yX2_copy (ws_ yX2_copy cX2_copy 4 (some (.object "PermissionDesk$Land")))) ∧ gAr yX2_copy 0 := ⟨lw_V q1016 q1017 q1018 q82 q1019, ar_X2_copy⟩
theorem ar_X1_records : gAr yX1_records 1 := ⟨by decide +kernel, by decide +kernel, by decide +kernel⟩
theorem lk_X1_80 : GoodIn lw_all (wsV RX1 80 (yX1_records).cls yX1_records (ws_ yX1_records cX1_records 2 none)) ∧ gAr yX1_records 1 := ⟨lw_V q1179 q1181 qs16 q81 q1182, ar_X1_records⟩
theorem fp_X1_70 : gPut RX1 70 1 0 (.int) false := gPut.ofN (T := TX2) (N := 6) tyX2 rfl (by decide) in_X2 q192 tyX2_ok nmX2 rfl rfl
theorem nw_X1_10 : gNew RX1 10 17 [.null, .null, .null, .null, .null, .int 0] := ⟨RJ12, TJ12, tyJ12, rfl, in_J12, tyJ12_ok, q998, q999, q97, by decide +kernel⟩
theorem ar_J12_init : gAr yJ12_init 0 := ⟨by decide +kernel, by decide +kernel, by decide +kernel⟩
theorem lk_X1_12 : (GoodIn lw_all (ws_ yJ12_init cJ12_init 1 none) ∧ Cond.initialized (yJ12_init).cls ∈ lw_all ∧ Cond.methodLink RX1 12 yJ12_init ∈ lw_all ∧ Cond.instanceMethod yJ12_init ∈ lw_all ∧ (yJ12_init).name = "<init>") ∧ gAr yJ12_init 0 := ⟨⟨lw_meth q1009, q97, q1007, q1008, rfl⟩, ar_J12_init⟩
theorem fg_X1_43 : gFld RX1 43 0 1 := gFld.of (T := TX1) (N := 4) rfl (by decide) in_X1 q296
theorem ar_J4_size : gAr yJ4_size 0 := ⟨by decide +kernel, by decide +kernel, by decide +kernel⟩
theorem lk_X1_58 : GoodIn lw_all (wsV RX1 58 (yJ4_size).cls yJ4_size (ws_ yJ4_size cJ4_size 1 (some .int))) ∧ gAr yJ4_size 0 := ⟨lw_V q1183 q1184 q1185 q87 q1186, ar_J4_size⟩
theorem ar_J4_removeFirst : gAr yJ4_removeFirst 0 := ⟨by decide +kernel, by decide +kernel, by decide +kernel⟩
theorem lk_X1_62 : GoodIn lw_all (wsV RX1 62 (yJ4_removeFirst).cls yJ4_removeFirst (ws_ yJ4_removeFirst cJ4_removeFirst 2 (some (.object "java/lang/Object")))) ∧ gAr yJ4_removeFirst 0 := ⟨lw_V q1187 q1188 q1189 q87 q1190, ar_J4_removeFirst⟩
theorem ar_J4_addLast : gAr yJ4_addLast 1 := ⟨by decide +kernel, by decide +kernel, by decide +kernel⟩
theorem lk_X1_66 : GoodIn lw_all (wsV RX1 66 (yJ4_addLast).cls yJ4_addLast (ws_ yJ4_addLast cJ4_addLast 2 none)) ∧ gAr yJ4_addLast 1 := ⟨lw_V q1195 q1196 q1197 q87 q1198, ar_J4_addLast⟩
theorem nw_X1_91 : gNew RX1 91 4 [.int 0, .int 0] := ⟨RX5, TX5, tyX5, rfl, in_X5, tyX5_ok, q1210, q1071, q99, by decide +kernel⟩
theorem ar_X5_init : gAr yX5_init 0 := ⟨by decide +kernel, by decide +kernel, by decide +kernel⟩
theorem lk_X1_93 : (GoodIn lw_all (ws_ yX5_init cX5_init 1 none) ∧ gNm RX1 93 yX5_init ∧ Cond.initialized (yX5_init).cls ∈ lw_all ∧ Cond.instanceMethod yX5_init ∈ lw_all ∧ (yX5_init).name = "<init>") ∧ gAr yX5_init 0 := ⟨⟨lw_meth q1074, gNm.of q1211, q99, q1073, rfl⟩, ar_X5_init⟩
theorem ar_J2_add : gAr yJ2_add 1 := ⟨by decide +kernel, by decide +kernel, by decide +kernel⟩
theorem lk_X1_94 : GoodIn lw_all (wsV RX1 94 (yJ2_add).cls yJ2_add (ws_ yJ2_add cJ2_add 2 (some .boolean))) ∧ gAr yJ2_add 1 := ⟨lw_V q1212 q840 q841 q85 q842, ar_J2_add⟩
theorem ar_X2_hasUser : gAr yX2_hasUser 1 := ⟨by decide +kernel, by decide +kernel, by decide +kernel⟩
theorem lk_X1_98 : GoodIn lw_all (wsV RX1 98 (yX2_hasUser).cls yX2_hasUser (ws_ yX2_hasUser cX2_hasUser 2 (some .boolean))) ∧ gAr yX2_hasUser 1 := ⟨lw_V q1223 q1224 q1225 q82 q1226, ar_X2_hasUser⟩
theorem ar_X2_hasGroup : gAr yX2_hasGroup 1 := ⟨by decide +kernel, by decide +kernel, by decide +kernel⟩
theorem lk_X1_102 : GoodIn lw_all (wsV RX1 102 (yX2_hasGroup).cls yX2_hasGroup (ws_ yX2_hasGroup cX2_hasGroup 2 (some .boolean))) ∧ gAr yX2_hasGroup 1 := ⟨lw_V q1227 q1228 q1229 q82 q1230, ar_X2_hasGroup⟩
theorem ar_X1_known : gAr yX1_known 1 := ⟨by decide +kernel, by decide +kernel, by decide +kernel⟩
theorem lk_X1_105 : GoodIn lw_all (va_wsS RX1 105 yX1_known (ws_ yX1_known cX1_known 5 none)) ∧ gAr yX1_known 1 := ⟨lw_S q1231 q1232 q81 q1233, ar_X1_known⟩
theorem ar_X2_joins : gAr yX2_joins 2 := ⟨by decide +kernel, by decide +kernel, by decide +kernel⟩
theorem lk_X1_109 : GoodIn lw_all (wsV RX1 109 (yX2_joins).cls yX2_joins (ws_ yX2_joins cX2_joins 3 (some .int))) ∧ gAr yX2_joins 2 := ⟨lw_V q1239 q1240 q1241 q82 q1242, ar_X2_joins⟩
theorem ar_J17_init_2 : gAr yJ17_init_2 0 := ⟨by decide +kernel, by decide +kernel, by decide +kernel⟩
theorem lk_X1_3 : (GoodIn lw_all (ws_ yJ17_init_2 cJ17_init_2 1 none) ∧ Cond.initialized (yJ17_init_2).cls ∈ lw_all ∧ Cond.methodLink RX1 3 yJ17_init_2 ∈ lw_all ∧ Cond.instanceMethod yJ17_init_2 ∈ lw_all ∧ (yJ17_init_2).name = "<init>") ∧ gAr yJ17_init_2 0 := ⟨⟨lw_meth q1237, q104, q1235, q1236, rfl⟩, ar_J17_init_2⟩
theorem ar_X2_leaves : gAr yX2_leaves 2 := ⟨by decide +kernel, by decide +kernel, by decide +kernel⟩
theorem lk_X1_113 : GoodIn lw_all (wsV RX1 113 (yX2_leaves).cls yX2_leaves (ws_ yX2_leaves cX2_leaves 3 (some .int))) ∧ gAr yX2_leaves 2 := ⟨lw_V q1256 q1257 q1258 q82 q1259, ar_X2_leaves⟩
theorem ar_X2_nests : gAr yX2_nests 2 := ⟨by decide +kernel, by decide +kernel, by decide +kernel⟩
theorem lk_X1_116 : GoodIn lw_all (wsV RX1 116 (yX2_nests).cls yX2_nests (ws_ yX2_nests cX2_nests 3 (some .int))) ∧ gAr yX2_nests 2 := ⟨lw_V q1267 q1268 q1269 q82 q1270, ar_X2_nests⟩
theorem ar_X2_unnests : gAr yX2_unnests 2 := ⟨by decide +kernel, by decide +kernel, by decide +kernel⟩
theorem lk_X1_119 : GoodIn lw_all (wsV RX1 119 (yX2_unnests).cls yX2_unnests (ws_ yX2_unnests cX2_unnests 3 (some .int))) ∧ gAr yX2_unnests 2 := ⟨lw_V q1282 q1283 q1284 q82 q1285, ar_X2_unnests⟩
theorem ar_X2_makes : gAr yX2_makes 2 := ⟨by decide +kernel, by decide +kernel, by decide +kernel⟩
theorem lk_X1_125 : GoodIn lw_all (wsV RX1 125 (yX2_makes).cls yX2_makes (ws_ yX2_makes cX2_makes 4 (some .int))) ∧ gAr yX2_makes 2 := ⟨lw_V q1293 q1294 q1295 q82 q1296, ar_X2_makes⟩
theorem ar_X2_removes : gAr yX2_removes 1 := ⟨by decide +kernel, by decide +kernel, by decide +kernel⟩
theorem lk_X1_128 : GoodIn lw_all (wsV RX1 128 (yX2_removes).cls yX2_removes (ws_ yX2_removes cX2_removes 2 (some .int))) ∧ gAr yX2_removes 1 := ⟨lw_V q1305 q1306 q1307 q82 q1308, ar_X2_removes⟩
theorem ar_X2_moves : gAr yX2_moves 2 := ⟨by decide +kernel, by decide +kernel, by decide +kernel⟩
theorem lk_X1_132 : GoodIn lw_all (wsV RX1 132 (yX2_moves).cls yX2_moves (ws_ yX2_moves cX2_moves 4 (some .int))) ∧ gAr yX2_moves 2 := ⟨lw_V q1325 q1326 q1327 q82 q1328, ar_X2_moves⟩
theorem fg_X1_135 : gFld RX1 135 1 2 := gFld.ofN (T := TX2) (N := 6) rfl (by decide) in_X2 q197
theorem fg_X1_139 : gFld RX1 139 2 1 := gFld.ofN (T := TX3) (N := 5) rfl (by decide) in_X3 q234
theorem fp_X1_139 : gPut RX1 139 2 1 (.int) false := gPut.ofN (T := TX3) (N := 5) tyX3 rfl (by decide) in_X3 q234 tyX3_ok nmX3 rfl rfl
theorem ar_X1_checkRights : gAr yX1_checkRights 2 := ⟨by decide +kernel, by decide +kernel, by decide +kernel⟩
theorem lk_X1_144 : GoodIn lw_all (va_wsS RX1 144 yX1_checkRights (ws_ yX1_checkRights cX1_checkRights 2 none)) ∧ gAr yX1_checkRights 2 := ⟨lw_S q1344 q1345 q81 q1346, ar_X1_checkRights⟩
theorem fg_X1_148 : gFld RX1 148 2 2 := gFld.ofN (T := TX3) (N := 5) rfl (by decide) in_X3 q237
theorem fp_X1_148 : gPut RX1 148 2 2 (.int) false := gPut.ofN (T := TX3) (N := 5) tyX3 rfl (by decide) in_X3 q237 tyX3_ok nmX3 rfl rfl
theorem ar_X1_setOf : gAr yX1_setOf 1 := ⟨by decide +kernel, by decide +kernel, by decide +kernel⟩
theorem lk_X1_23 : GoodIn lw_all (va_wsS RX1 23 yX1_setOf (ws_ yX1_setOf cX1_setOf 6 (some .int))) ∧ gAr yX1_setOf 1 := ⟨lw_S q1347 q228 q81 q229, ar_X1_setOf⟩
theorem ar_X1_inRange : gAr yX1_inRange 3 := ⟨by decide +kernel, by decide +kernel, by decide +kernel⟩
theorem lk_X1_15 : GoodIn lw_all (va_wsS RX1 15 yX1_inRange (ws_ yX1_inRange cX1_inRange 3 (some .boolean))) ∧ gAr yX1_inRange 3 := ⟨lw_S q1348 q710 q81 q711, ar_X1_inRange⟩
theorem ar_X1_check : gAr yX1_check 1 := ⟨by decide +kernel, by decide +kernel, by decide +kernel⟩
theorem lk_X1_19 : GoodIn lw_all (va_wsS RX1 19 yX1_check (ws_ yX1_check cX1_check 1 none)) ∧ gAr yX1_check 1 := ⟨lw_S q1349 q1350 q81 q1351, ar_X1_check⟩
theorem ar_J21_init_2 : gAr yJ21_init_2 0 := ⟨by decide +kernel, by decide +kernel, by decide +kernel⟩
theorem lk_X1_9 : (GoodIn lw_all (ws_ yJ21_init_2 cJ21_init_2 1 none) ∧ Cond.initialized (yJ21_init_2).cls ∈ lw_all ∧ Cond.methodLink RX1 9 yJ21_init_2 ∈ lw_all ∧ Cond.instanceMethod yJ21_init_2 ∈ lw_all ∧ (yJ21_init_2).name = "<init>") ∧ gAr yJ21_init_2 0 := ⟨⟨lw_meth q1355, q109, q1353, q1354, rfl⟩, ar_J21_init_2⟩
theorem fg_X1_151 : gFld RX1 151 2 3 := gFld.ofN (T := TX3) (N := 5) rfl (by decide) in_X3 q240
theorem fp_X1_151 : gPut RX1 151 2 3 (.boolean) false := gPut.ofN (T := TX3) (N := 5) tyX3 rfl (by decide) in_X3 q240 tyX3_ok nmX3 rfl rfl
theorem nw_X1_162 : gNew RX1 162 5 [.int 0, .int 0, .int 0, .int 0, .int 0, .null] := ⟨RX6, TX6, tyX6, rfl, in_X6, tyX6_ok, q1371, q771, q113, by decide +kernel⟩
theorem ar_X6_init : gAr yX6_init 5 := ⟨by decide +kernel, by decide +kernel, by decide +kernel⟩
theorem lk_X1_164 : (GoodIn lw_all (ws_ yX6_init cX6_init 7 none) ∧ Cond.initialized (yX6_init).cls ∈ lw_all ∧ Cond.methodLink RX1 164 yX6_init ∈ lw_all ∧ Cond.instanceMethod yX6_init ∈ lw_all ∧ (yX6_init).name = "<init>") ∧ gAr yX6_init 5 := ⟨⟨lw_meth q774, q113, q1372, q773, rfl⟩, ar_X6_init⟩
theorem ar_X1_adds : gAr yX1_adds 2 := ⟨by decide +kernel, by decide +kernel, by decide +kernel⟩
theorem lk_X1_167 : GoodIn lw_all (wsV RX1 167 (yX1_adds).cls yX1_adds (ws_ yX1_adds cX1_adds 5 (some .int))) ∧ gAr yX1_adds 2 := ⟨lw_V q1373 q1375 qs18 q81 q1376, ar_X1_adds⟩
theorem fg_X1_155 : gFld RX1 155 2 4 := gFld.ofN (T := TX3) (N := 5) rfl (by decide) in_X3 q245
theorem ar_X2_adds : gAr yX2_adds 3 := ⟨by decide +kernel, by decide +kernel, by decide +kernel⟩
theorem lk_X1_158 : GoodIn lw_all (wsV RX1 158 (yX2_adds).cls yX2_adds (ws_ yX2_adds cX2_adds 4 (some .int))) ∧ gAr yX2_adds 3 := ⟨lw_V q1377 q1378 q1379 q82 q1380, ar_X2_adds⟩
theorem ar_X6_init_2 : gAr yX6_init_2 4 := ⟨by decide +kernel, by decide +kernel, by decide +kernel⟩
theorem lk_X1_170 : (GoodIn lw_all (ws_ yX6_init_2 cX6_init_2 5 none) ∧ Cond.initialized (yX6_init_2).cls ∈ lw_all ∧ Cond.methodLink RX1 170 yX6_init_2 ∈ lw_all ∧ Cond.instanceMethod yX6_init_2 ∈ lw_all ∧ (yX6_init_2).name = "<init>") ∧ gAr yX6_init_2 4 := ⟨⟨lw_meth q1418, q113, q1416, q1417, rfl⟩, ar_X6_init_2⟩
theorem ar_X1_hasEntry : gAr yX1_hasEntry 2 := ⟨by decide +kernel, by decide +kernel, by decide +kernel⟩
theorem lk_X1_174 : GoodIn lw_all (wsV RX1 174 (yX1_hasEntry).cls yX1_hasEntry (ws_ yX1_hasEntry cX1_hasEntry 3 (some .boolean))) ∧ gAr yX1_hasEntry 2 := ⟨lw_V q1434 q1436 qs21 q81 q1437, ar_X1_hasEntry⟩
theorem ar_X2_removesEntry : gAr yX2_removesEntry 2 := ⟨by decide +kernel, by decide +kernel, by decide +kernel⟩
theorem lk_X1_178 : GoodIn lw_all (wsV RX1 178 (yX2_removesEntry).cls yX2_removesEntry (ws_ yX2_removesEntry cX2_removesEntry 3 (some .int))) ∧ gAr yX2_removesEntry 2 := ⟨lw_V q1444 q1445 q1446 q82 q1447, ar_X2_removesEntry⟩
theorem ar_X3_has : gAr yX3_has 1 := ⟨by decide +kernel, by decide +kernel, by decide +kernel⟩
theorem lk_X1_173 : GoodIn lw_all (wsV RX1 173 (yX3_has).cls yX3_has (ws_ yX3_has cX3_has 2 (some .boolean))) ∧ gAr yX3_has 1 := ⟨lw_V q1438 q1439 q1440 q88 q1441, ar_X3_has⟩
theorem ar_X2_movesEntry : gAr yX2_movesEntry 3 := ⟨by decide +kernel, by decide +kernel, by decide +kernel⟩
theorem lk_X1_181 : GoodIn lw_all (wsV RX1 181 (yX2_movesEntry).cls yX2_movesEntry (ws_ yX2_movesEntry cX2_movesEntry 6 (some .int))) ∧ gAr yX2_movesEntry 3 := ⟨lw_V q1463 q1464 q1465 q82 q1466, ar_X2_movesEntry⟩
theorem ar_X1_checkRight : gAr yX1_checkRight 1 := ⟨by decide +kernel, by decide +kernel, by decide +kernel⟩
theorem lk_X1_185 : GoodIn lw_all (va_wsS RX1 185 yX1_checkRight (ws_ yX1_checkRight cX1_checkRight 1 none)) ∧ gAr yX1_checkRight 1 := ⟨lw_S q1479 q1480 q81 q1481, ar_X1_checkRight⟩
theorem ar_X2_asks : gAr yX2_asks 3 := ⟨by decide +kernel, by decide +kernel, by decide +kernel⟩
theorem lk_X1_189 : GoodIn lw_all (wsV RX1 189 (yX2_asks).cls yX2_asks (ws_ yX2_asks cX2_asks 5 (some .boolean))) ∧ gAr yX2_asks 3 := ⟨lw_V q1482 q1483 q1484 q82 q1485, ar_X2_asks⟩
theorem ar_X2_shares : gAr yX2_shares 4 := ⟨by decide +kernel, by decide +kernel, by decide +kernel⟩
theorem lk_X1_192 : GoodIn lw_all (wsV RX1 192 (yX2_shares).cls yX2_shares (ws_ yX2_shares cX2_shares 6 (some .int))) ∧ gAr yX2_shares 4 := ⟨lw_V q1529 q1530 q1531 q82 q1532, ar_X2_shares⟩
theorem ar_J6_append_3 : gAr yJ6_append_3 1 := ⟨by decide +kernel, by decide +kernel, by decide +kernel⟩
theorem lk_X1_199 : GoodIn lw_all (wsV RX1 199 (yJ6_append_3).cls yJ6_append_3 (ws_ yJ6_append_3 cJ6_append_3 2 (some (.object "java/lang/StringBuilder")))) ∧ gAr yJ6_append_3 1 := ⟨lw_V q1543 q1544 q1545 q90 q1546, ar_J6_append_3⟩
theorem ar_X1_loads : gAr yX1_loads 1 := ⟨by decide +kernel, by decide +kernel, by decide +kernel⟩
theorem lk_X1_233 : GoodIn lw_all (wsV RX1 233 (yX1_loads).cls yX1_loads (wsW_ yX1_loads cX1_loads 6 (some .int) [(2, 26, 51, 215), (2, 26, 51, 226), (2, 26, 61, 0), (51, 63, 61, 0)])) ∧ gAr yX1_loads 1 := ⟨lw_VW q1568 q1570 qs25 q81 q1571, ar_X1_loads⟩
theorem ar_X12_isOfText : gAr yX12_isOfText 0 := ⟨by decide +kernel, by decide +kernel, by decide +kernel⟩
theorem lk_X1_234 : GoodIn lw_all (wsV RX1 234 (yX12_isOfText).cls yX12_isOfText (ws_ yX12_isOfText cX12_isOfText 1 (some .boolean))) ∧ gAr yX12_isOfText 0 := ⟨lw_V q1712 q1713 q1714 q120 q1715, ar_X12_isOfText⟩
theorem ar_J12_init_3 : gAr yJ12_init_3 1 := ⟨by decide +kernel, by decide +kernel, by decide +kernel⟩
theorem lk_X1_240 : (GoodIn lw_all (ws_ yJ12_init_3 cJ12_init_3 2 none) ∧ Cond.initialized (yJ12_init_3).cls ∈ lw_all ∧ Cond.methodLink RX1 240 yJ12_init_3 ∈ lw_all ∧ Cond.instanceMethod yJ12_init_3 ∈ lw_all ∧ (yJ12_init_3).name = "<init>") ∧ gAr yJ12_init_3 1 := ⟨⟨lw_meth q1726, q97, q1724, q1725, rfl⟩, ar_J12_init_3⟩
theorem ar_X9_loads : gAr yX9_loads 1 := ⟨by decide +kernel, by decide +kernel, by decide +kernel⟩
theorem lk_X1_220 : GoodIn lw_all (wsV RX1 220 (yX9_loads).cls yX9_loads (ws_ yX9_loads cX9_loads 7 (some .int))) ∧ gAr yX9_loads 1 := ⟨lw_V q1573 q1574 q1575 q117 q1576, ar_X9_loads⟩
theorem nw_X1_228 : gNew RX1 228 11 [.null, .null, .null, .null, .null, .int 0] := ⟨RX12, TX12, tyX12, rfl, in_X12, tyX12_ok, q1567, q1611, q120, by decide +kernel⟩
theorem ar_X12_init : gAr yX12_init 1 := ⟨by decide +kernel, by decide +kernel, by decide +kernel⟩
theorem lk_X1_230 : (GoodIn lw_all (ws_ yX12_init cX12_init 2 none) ∧ Cond.initialized (yX12_init).cls ∈ lw_all ∧ Cond.methodLink RX1 230 yX12_init ∈ lw_all ∧ Cond.instanceMethod yX12_init ∈ lw_all ∧ (yX12_init).name = "<init>") ∧ gAr yX12_init 1 := ⟨⟨lw_meth q1621, q120, q1619, q1620, rfl⟩, ar_X12_init⟩
theorem lk_X1_243 : GoodIn lw_all (wsV RX1 243 (yJ6_append_2).cls yJ6_append_2 (ws_ yJ6_append_2 cJ6_append_2 2 (some (.object "java/lang/StringBuilder")))) ∧ gAr yJ6_append_2 1 := ⟨lw_V q1735 q455 q456 q90 q457, ar_J6_append_2⟩
theorem ar_X2_entry : gAr yX2_entry 2 := ⟨by decide +kernel, by decide +kernel, by decide +kernel⟩
theorem lk_X1_246 : GoodIn lw_all (wsV RX1 246 (yX2_entry).cls yX2_entry (ws_ yX2_entry cX2_entry 3 (some (.object "PermissionDesk$Entry")))) ∧ gAr yX2_entry 2 := ⟨lw_V q1736 q955 q956 q82 q957, ar_X2_entry⟩
theorem ar_X6_writes : gAr yX6_writes 1 := ⟨by decide +kernel, by decide +kernel, by decide +kernel⟩
theorem lk_X1_250 : GoodIn lw_all (wsV RX1 250 (yX6_writes).cls yX6_writes (ws_ yX6_writes cX6_writes 3 none)) ∧ gAr yX6_writes 1 := ⟨lw_V q1737 q1738 q1739 q113 q1740, ar_X6_writes⟩
theorem ar_J6_charAt : gAr yJ6_charAt 1 := ⟨by decide +kernel, by decide +kernel, by decide +kernel⟩
theorem lk_X1_253 : GoodIn lw_all (wsV RX1 253 (yJ6_charAt).cls yJ6_charAt (ws_ yJ6_charAt cJ6_charAt 2 (some .char))) ∧ gAr yJ6_charAt 1 := ⟨lw_V q1751 q695 q696 q90 q697, ar_J6_charAt⟩
theorem ar_X2_team : gAr yX2_team 1 := ⟨by decide +kernel, by decide +kernel, by decide +kernel⟩
theorem lk_X1_257 : GoodIn lw_all (wsV RX1 257 (yX2_team).cls yX2_team (ws_ yX2_team cX2_team 2 (some (.object "PermissionDesk$Team")))) ∧ gAr yX2_team 1 := ⟨lw_V q1759 q791 q792 q82 q793, ar_X2_team⟩
theorem fg_X1_261 : gFld RX1 261 4 0 := gFld.ofN (T := TX5) (N := 2) rfl (by decide) in_X5 q1078
theorem ar_X1_isIn : gAr yX1_isIn 2 := ⟨by decide +kernel, by decide +kernel, by decide +kernel⟩
theorem lk_X1_262 : GoodIn lw_all (va_wsS RX1 262 yX1_isIn (ws_ yX1_isIn cX1_isIn 2 (some .boolean))) ∧ gAr yX1_isIn 2 := ⟨lw_S q1760 q808 q81 q809, ar_X1_isIn⟩
theorem fg_X1_265 : gFld RX1 265 4 1 := gFld.ofN (T := TX5) (N := 2) rfl (by decide) in_X5 q1081
theorem ar_X2_belongs : gAr yX2_belongs 2 := ⟨by decide +kernel, by decide +kernel, by decide +kernel⟩
theorem lk_X1_268 : GoodIn lw_all (wsV RX1 268 (yX2_belongs).cls yX2_belongs (ws_ yX2_belongs cX2_belongs 6 (some .boolean))) ∧ gAr yX2_belongs 2 := ⟨lw_V q1775 q783 q784 q82 q785, ar_X2_belongs⟩
theorem ar_X2_belonging : gAr yX2_belonging 1 := ⟨by decide +kernel, by decide +kernel, by decide +kernel⟩
theorem lk_X1_271 : GoodIn lw_all (wsV RX1 271 (yX2_belonging).cls yX2_belonging (ws_ yX2_belonging cX2_belonging 4 (some .int))) ∧ gAr yX2_belonging 1 := ⟨lw_V q1783 q1245 q1246 q82 q1247, ar_X2_belonging⟩
theorem ar_X1_thing : gAr yX1_thing 1 := ⟨by decide +kernel, by decide +kernel, by decide +kernel⟩
theorem lk_X1_277 : GoodIn lw_all (wsV RX1 277 (yX1_thing).cls yX1_thing (ws_ yX1_thing cX1_thing 2 (some (.object "PermissionDesk$Thing")))) ∧ gAr yX1_thing 1 := ⟨lw_V q1791 q1793 qs26 q81 q1794, ar_X1_thing⟩
theorem fg_X1_281 : gFld RX1 281 2 0 := gFld.ofN (T := TX3) (N := 5) rfl (by decide) in_X3 q232
theorem ar_X2_below : gAr yX2_below 1 := ⟨by decide +kernel, by decide +kernel, by decide +kernel⟩
theorem lk_X1_284 : GoodIn lw_all (wsV RX1 284 (yX2_below).cls yX2_below (ws_ yX2_below cX2_below 4 (some .int))) ∧ gAr yX2_below 1 := ⟨lw_V q1823 q1310 q1311 q82 q1312, ar_X2_below⟩
theorem ar_X1_entry : gAr yX1_entry 2 := ⟨by decide +kernel, by decide +kernel, by decide +kernel⟩
theorem lk_X1_287 : GoodIn lw_all (wsV RX1 287 (yX1_entry).cls yX1_entry (ws_ yX1_entry cX1_entry 3 (some (.object "PermissionDesk$Entry")))) ∧ gAr yX1_entry 2 := ⟨lw_V q1838 q1840 qs27 q81 q1841, ar_X1_entry⟩
theorem fg_X1_288 : gFld RX1 288 5 3 := gFld.ofN (T := TX6) (N := 6) rfl (by decide) in_X6 q821
theorem fg_X1_291 : gFld RX1 291 5 2 := gFld.ofN (T := TX6) (N := 6) rfl (by decide) in_X6 q818
theorem ar_X6_whoIf : gAr yX6_whoIf 1 := ⟨by decide +kernel, by decide +kernel, by decide +kernel⟩
theorem lk_X1_294 : GoodIn lw_all (wsV RX1 294 (yX6_whoIf).cls yX6_whoIf (ws_ yX6_whoIf cX6_whoIf 2 (some .int))) ∧ gAr yX6_whoIf 1 := ⟨lw_V q1856 q1585 q1586 q113 q1587, ar_X6_whoIf⟩
theorem fg_X1_297 : gFld RX1 297 5 0 := gFld.ofN (T := TX6) (N := 6) rfl (by decide) in_X6 q815
theorem fg_X1_300 : gFld RX1 300 5 4 := gFld.ofN (T := TX6) (N := 6) rfl (by decide) in_X6 q824
theorem ar_X1_knownRight : gAr yX1_knownRight 3 := ⟨by decide +kernel, by decide +kernel, by decide +kernel⟩
theorem lk_X1_302 : GoodIn lw_all (wsV RX1 302 (yX1_knownRight).cls yX1_knownRight (ws_ yX1_knownRight cX1_knownRight 4 none)) ∧ gAr yX1_knownRight 3 := ⟨lw_V q1885 q1887 qs28 q81 q1888, ar_X1_knownRight⟩
theorem ar_X2_isAllowed : gAr yX2_isAllowed 3 := ⟨by decide +kernel, by decide +kernel, by decide +kernel⟩
theorem lk_X1_306 : GoodIn lw_all (wsV RX1 306 (yX2_isAllowed).cls yX2_isAllowed (ws_ yX2_isAllowed cX2_isAllowed 4 (some .boolean))) ∧ gAr yX2_isAllowed 3 := ⟨lw_V q1889 q935 q936 q82 q937, ar_X2_isAllowed⟩
theorem ar_X2_isAllowedByHandingDown : gAr yX2_isAllowedByHandingDown 3 := ⟨by decide +kernel, by decide +kernel, by decide +kernel⟩
theorem lk_X1_309 : GoodIn lw_all (wsV RX1 309 (yX2_isAllowedByHandingDown).cls yX2_isAllowedByHandingDown (ws_ yX2_isAllowedByHandingDown cX2_isAllowedByHandingDown 7 (some .boolean))) ∧ gAr yX2_isAllowedByHandingDown 3 := ⟨lw_V q1897 q1898 q1899 q82 q1900, ar_X2_isAllowedByHandingDown⟩
theorem ar_X2_rights : gAr yX2_rights 2 := ⟨by decide +kernel, by decide +kernel, by decide +kernel⟩
theorem lk_X1_312 : GoodIn lw_all (wsV RX1 312 (yX2_rights).cls yX2_rights (ws_ yX2_rights cX2_rights 5 (some .int))) ∧ gAr yX2_rights 2 := ⟨lw_V q1913 q931 q932 q82 q933, ar_X2_rights⟩
theorem ar_X2_deciding : gAr yX2_deciding 3 := ⟨by decide +kernel, by decide +kernel, by decide +kernel⟩
theorem lk_X1_314 : GoodIn lw_all (wsV RX1 314 (yX2_deciding).cls yX2_deciding (ws_ yX2_deciding cX2_deciding 7 (some .int))) ∧ gAr yX2_deciding 3 := ⟨lw_V q1921 q947 q948 q82 q949, ar_X2_deciding⟩
theorem ar_X2_isStopped : gAr yX2_isStopped 3 := ⟨by decide +kernel, by decide +kernel, by decide +kernel⟩
theorem lk_X1_317 : GoodIn lw_all (wsV RX1 317 (yX2_isStopped).cls yX2_isStopped (ws_ yX2_isStopped cX2_isStopped 4 (some .boolean))) ∧ gAr yX2_isStopped 3 := ⟨lw_V q1936 q1937 q1938 q82 q1939, ar_X2_isStopped⟩
theorem ar_X2_usersWith : gAr yX2_usersWith 2 := ⟨by decide +kernel, by decide +kernel, by decide +kernel⟩
theorem lk_X1_320 : GoodIn lw_all (wsV RX1 320 (yX2_usersWith).cls yX2_usersWith (ws_ yX2_usersWith cX2_usersWith 5 (some .int))) ∧ gAr yX2_usersWith 2 := ⟨lw_V q1947 q1948 q1949 q82 q1950, ar_X2_usersWith⟩
theorem ar_X2_rightsThrough : gAr yX2_rightsThrough 2 := ⟨by decide +kernel, by decide +kernel, by decide +kernel⟩
theorem lk_X1_323 : GoodIn lw_all (wsV RX1 323 (yX2_rightsThrough).cls yX2_rightsThrough (ws_ yX2_rightsThrough cX2_rightsThrough 8 (some .int))) ∧ gAr yX2_rightsThrough 2 := ⟨lw_V q1958 q1959 q1960 q82 q1961, ar_X2_rightsThrough⟩
theorem ar_X2_isNeedless : gAr yX2_isNeedless 2 := ⟨by decide +kernel, by decide +kernel, by decide +kernel⟩
theorem lk_X1_326 : GoodIn lw_all (wsV RX1 326 (yX2_isNeedless).cls yX2_isNeedless (ws_ yX2_isNeedless cX2_isNeedless 4 (some .boolean))) ∧ gAr yX2_isNeedless 2 := ⟨lw_V q1970 q1971 q1972 q82 q1973, ar_X2_isNeedless⟩
theorem ar_X1_request : gAr yX1_request 1 := ⟨by decide +kernel, by decide +kernel, by decide +kernel⟩
theorem lk_X1_347 : GoodIn lw_all (wsV RX1 347 (yX1_request).cls yX1_request (ws_ yX1_request cX1_request 2 (some (.object "PermissionDesk$Request")))) ∧ gAr yX1_request 1 := ⟨lw_V q1982 q1984 qs30 q81 q1985, ar_X1_request⟩
theorem fg_X1_351 : gFld RX1 351 6 0 := gFld.ofN (T := TX7) (N := 3) rfl (by decide) in_X7 q1502
theorem fg_X1_332 : gFld RX1 332 1 3 := gFld.ofN (T := TX2) (N := 6) rfl (by decide) in_X2 q199
theorem ar_J4_get : gAr yJ4_get 1 := ⟨by decide +kernel, by decide +kernel, by decide +kernel⟩
theorem lk_X1_335 : GoodIn lw_all (wsV RX1 335 (yJ4_get).cls yJ4_get (ws_ yJ4_get cJ4_get 2 (some (.object "java/lang/Object")))) ∧ gAr yJ4_get 1 := ⟨lw_V q1986 q1987 q1988 q87 q1989, ar_J4_get⟩
theorem fg_X1_354 : gFld RX1 354 6 1 := gFld.ofN (T := TX7) (N := 3) rfl (by decide) in_X7 q1504
theorem fg_X1_357 : gFld RX1 357 6 2 := gFld.ofN (T := TX7) (N := 3) rfl (by decide) in_X7 q1506
theorem ar_J4_removeLast : gAr yJ4_removeLast 0 := ⟨by decide +kernel, by decide +kernel, by decide +kernel⟩
theorem lk_X1_362 : GoodIn lw_all (wsV RX1 362 (yJ4_removeLast).cls yJ4_removeLast (ws_ yJ4_removeLast cJ4_removeLast 2 (some (.object "java/lang/Object")))) ∧ gAr yJ4_removeLast 0 := ⟨lw_V q2031 q1488 q1489 q87 q1490, ar_J4_removeLast⟩
theorem fg_X1_47 : gFld RX1 47 0 2 := gFld.of (T := TX1) (N := 4) rfl (by decide) in_X1 q297
theorem lk_X10_1 : (GoodIn lw_all (ws_ yJ10_init_2 cJ10_init_2 1 none) ∧ Cond.initialized (yJ10_init_2).cls ∈ lw_all ∧ Cond.methodLink RX10 1 yJ10_init_2 ∈ lw_all ∧ Cond.instanceMethod yJ10_init_2 ∈ lw_all ∧ (yJ10_init_2).name = "<init>") ∧ gAr yJ10_init_2 0 := ⟨⟨lw_meth q726, q95, q724, q725, rfl⟩, ar_J10_init_2⟩
theorem fp_X10_7 : gPut RX10 7 9 6 (.int) true := gPut.ofF (T := TX10) (N := 7) tyX10 rfl (by decide) in_X10 q728 tyX10_ok nmX10 rfl rfl rfl
theorem lk_X11_1 : (GoodIn lw_all (ws_ yJ10_init_2 cJ10_init_2 1 none) ∧ Cond.initialized (yJ10_init_2).cls ∈ lw_all ∧ Cond.methodLink RX11 1 yJ10_init_2 ∈ lw_all ∧ Cond.instanceMethod yJ10_init_2 ∈ lw_all ∧ (yJ10_init_2).name = "<init>") ∧ gAr yJ10_init_2 0 := ⟨⟨lw_meth q726, q95, q1602, q725, rfl⟩, ar_J10_init_2⟩
theorem lk_X12_1 : (GoodIn lw_all (ws_ yJ10_init_2 cJ10_init_2 1 none) ∧ Cond.initialized (yJ10_init_2).cls ∈ lw_all ∧ Cond.methodLink RX12 1 yJ10_init_2 ∈ lw_all ∧ Cond.instanceMethod yJ10_init_2 ∈ lw_all ∧ (yJ10_init_2).name = "<init>") ∧ gAr yJ10_init_2 0 := ⟨⟨lw_meth q726, q95, q1622, q725, rfl⟩, ar_J10_init_2⟩
theorem nw_X2_10 : gNew RX2 10 1 [.int 0, .null, .null, .null, .int 0, .int 0] := ⟨RX2, TX2, tyX2, rfl, in_X2, tyX2_ok, q132, q133, q82, by decide +kernel⟩
theorem ar_X2_init : gAr yX2_init 0 := ⟨by decide +kernel, by decide +kernel, by decide +kernel⟩
theorem lk_X2_35 : (GoodIn lw_all (ws_ yX2_init cX2_init 1 none) ∧ Cond.initialized (yX2_init).cls ∈ lw_all ∧ Cond.methodLink RX2 35 yX2_init ∈ lw_all ∧ Cond.instanceMethod yX2_init ∈ lw_all ∧ (yX2_init).name = "<init>") ∧ gAr yX2_init 0 := ⟨⟨lw_meth q136, q82, q134, q135, rfl⟩, ar_X2_init⟩
theorem fg_X2_24 : gFld RX2 24 1 2 := gFld.of (T := TX2) (N := 6) rfl (by decide) in_X2 q195
theorem nw_X2_22 : gNew RX2 22 2 [.int 0, .int 0, .int 0, .int 0, .null] := ⟨RX3, TX3, tyX3, rfl, in_X3, tyX3_ok, q169, q217, q88, by decide +kernel⟩
theorem ar_X3_init : gAr yX3_init 1 := ⟨by decide +kernel, by decide +kernel, by decide +kernel⟩
theorem lk_X2_36 : (GoodIn lw_all (ws_ yX3_init cX3_init 2 none) ∧ Cond.initialized (yX3_init).cls ∈ lw_all ∧ Cond.methodLink RX2 36 yX3_init ∈ lw_all ∧ Cond.instanceMethod yX3_init ∈ lw_all ∧ (yX3_init).name = "<init>") ∧ gAr yX3_init 1 := ⟨⟨lw_meth q220, q88, q218, q219, rfl⟩, ar_X3_init⟩
theorem lo_X2_3 : Cond.methodLink RX2 3 Lib.objectInit ∈ lw_all := q137
theorem fp_X2_9 : gPut RX2 9 1 0 (.int) false := gPut.of (T := TX2) (N := 6) tyX2 rfl (by decide) in_X2 q191 tyX2_ok nmX2 rfl rfl
theorem nw_X2_15 : gNew RX2 15 12 [.int 0, .null, .int 0] := ⟨RJ2, TJ2, tyJ2, rfl, in_J2, tyJ2_ok, q138, q139, q85, by decide +kernel⟩
theorem ar_J2_init : gAr yJ2_init 0 := ⟨by decide +kernel, by decide +kernel, by decide +kernel⟩
theorem lk_X2_17 : (GoodIn lw_all (ws_ yJ2_init cJ2_init 1 none) ∧ Cond.initialized (yJ2_init).cls ∈ lw_all ∧ Cond.methodLink RX2 17 yJ2_init ∈ lw_all ∧ Cond.instanceMethod yJ2_init ∈ lw_all ∧ (yJ2_init).name = "<init>") ∧ gAr yJ2_init 0 := ⟨⟨lw_meth q142, q85, q140, q141, rfl⟩, ar_J2_init⟩
theorem fp_X2_18 : gPut RX2 18 1 1 (.object "java/util/ArrayList") true := gPut.ofF (T := TX2) (N := 6) tyX2 rfl (by decide) in_X2 q193 tyX2_ok nmX2 rfl rfl rfl
theorem fp_X2_24 : gPut RX2 24 1 2 (.array (.object "PermissionDesk$Thing")) true := gPut.ofF (T := TX2) (N := 6) tyX2 rfl (by decide) in_X2 q195 tyX2_ok nmX2 rfl rfl rfl
theorem nw_X2_28 : gNew RX2 28 13 [.int 0, .int 0, .null, .null] := ⟨RJ4, TJ4, tyJ4, rfl, in_J4, tyJ4_ok, q171, q172, q87, by decide +kernel⟩
theorem lk_X2_30 : (GoodIn lw_all (ws_ yJ4_init cJ4_init 1 none) ∧ Cond.initialized (yJ4_init).cls ∈ lw_all ∧ Cond.methodLink RX2 30 yJ4_init ∈ lw_all ∧ Cond.instanceMethod yJ4_init ∈ lw_all ∧ (yJ4_init).name = "<init>") ∧ gAr yJ4_init 0 := ⟨⟨lw_meth q175, q87, q173, q174, rfl⟩, ar_J4_init⟩
theorem fp_X2_31 : gPut RX2 31 1 3 (.object "java/util/LinkedList") true := gPut.ofF (T := TX2) (N := 6) tyX2 rfl (by decide) in_X2 q198 tyX2_ok nmX2 rfl rfl rfl
theorem fg_X2_18 : gFld RX2 18 1 1 := gFld.of (T := TX2) (N := 6) rfl (by decide) in_X2 q193
theorem lk_X2_84 : GoodIn lw_all (wsV RX2 84 (yJ2_size).cls yJ2_size (ws_ yJ2_size cJ2_size 1 (some .int))) ∧ gAr yJ2_size 0 := ⟨lw_V q786 q787 q788 q85 q789, ar_J2_size⟩
theorem lk_X2_92 : GoodIn lw_all (wsV RX2 92 (yX2_team).cls yX2_team (ws_ yX2_team cX2_team 2 (some (.object "PermissionDesk$Team")))) ∧ gAr yX2_team 1 := ⟨lw_V q790 q791 q792 q82 q793, ar_X2_team⟩
theorem fg_X2_106 : gFld RX2 106 4 0 := gFld.ofN (T := TX5) (N := 2) rfl (by decide) in_X5 q1077
theorem lk_X2_99 : (GoodIn lw_all (ws_ yX1_isIn cX1_isIn 2 (some .boolean)) ∧ gNm RX2 99 yX1_isIn ∧ Cond.initialized (yX1_isIn).cls ∈ lw_all ∧ Cond.static yX1_isIn ∈ lw_all) ∧ gAr yX1_isIn 2 := ⟨⟨lw_meth q809, gNm.of q807, q81, q808⟩, ar_X1_isIn⟩
theorem fg_X2_96 : gFld RX2 96 4 1 := gFld.ofN (T := TX5) (N := 2) rfl (by decide) in_X5 q1080
theorem ar_J2_get : gAr yJ2_get 1 := ⟨by decide +kernel, by decide +kernel, by decide +kernel⟩
theorem lk_X2_88 : GoodIn lw_all (wsV RX2 88 (yJ2_get).cls yJ2_get (ws_ yJ2_get cJ2_get 2 (some (.object "java/lang/Object")))) ∧ gAr yJ2_get 1 := ⟨lw_V q794 q795 q796 q85 q797, ar_J2_get⟩
theorem lk_X2_63 : GoodIn lw_all (wsV RX2 63 (yX2_has).cls yX2_has (ws_ yX2_has cX2_has 2 (some .boolean))) ∧ gAr yX2_has 1 := ⟨lw_V q912 q913 q914 q82 q915, ar_X2_has⟩
theorem lk_X2_80 : (GoodIn lw_all (ws_ yX1_inRange cX1_inRange 3 (some .boolean)) ∧ gNm RX2 80 yX1_inRange ∧ Cond.initialized (yX1_inRange).cls ∈ lw_all ∧ Cond.static yX1_inRange ∈ lw_all) ∧ gAr yX1_inRange 3 := ⟨⟨lw_meth q711, gNm.of q916, q81, q710⟩, ar_X1_inRange⟩
theorem fg_X2_9 : gFld RX2 9 1 0 := gFld.of (T := TX2) (N := 6) rfl (by decide) in_X2 q191
theorem lk_X2_202 : GoodIn lw_all (wsV RX2 202 (yX2_rights).cls yX2_rights (ws_ yX2_rights cX2_rights 5 (some .int))) ∧ gAr yX2_rights 2 := ⟨lw_V q930 q931 q932 q82 q933, ar_X2_rights⟩
theorem ar_X1_many : gAr yX1_many 1 := ⟨by decide +kernel, by decide +kernel, by decide +kernel⟩
theorem lk_X2_115 : (GoodIn lw_all (ws_ yX1_many cX1_many 3 (some .int)) ∧ gNm RX2 115 yX1_many ∧ Cond.initialized (yX1_many).cls ∈ lw_all ∧ Cond.static yX1_many ∈ lw_all) ∧ gAr yX1_many 1 := ⟨⟨lw_meth q974, gNm.of q972, q81, q973⟩, ar_X1_many⟩
theorem lk_X2_188 : GoodIn lw_all (wsV RX2 188 (yX2_isAllowed).cls yX2_isAllowed (ws_ yX2_isAllowed cX2_isAllowed 4 (some .boolean))) ∧ gAr yX2_isAllowed 3 := ⟨lw_V q934 q935 q936 q82 q937, ar_X2_isAllowed⟩
theorem ar_X2_isAllowedAnyway : gAr yX2_isAllowedAnyway 3 := ⟨by decide +kernel, by decide +kernel, by decide +kernel⟩
theorem lk_X2_179 : GoodIn lw_all (wsV RX2 179 (yX2_isAllowedAnyway).cls yX2_isAllowedAnyway (ws_ yX2_isAllowedAnyway cX2_isAllowedAnyway 4 (some .boolean))) ∧ gAr yX2_isAllowedAnyway 3 := ⟨lw_V q938 q940 qs11 q82 q941, ar_X2_isAllowedAnyway⟩
theorem fg_X2_182 : gFld RX2 182 2 2 := gFld.ofN (T := TX3) (N := 5) rfl (by decide) in_X3 q238
theorem ar_X2_isAllowedByEntry : gAr yX2_isAllowedByEntry 3 := ⟨by decide +kernel, by decide +kernel, by decide +kernel⟩
theorem lk_X2_185 : GoodIn lw_all (wsV RX2 185 (yX2_isAllowedByEntry).cls yX2_isAllowedByEntry (ws_ yX2_isAllowedByEntry cX2_isAllowedByEntry 5 (some .boolean))) ∧ gAr yX2_isAllowedByEntry 3 := ⟨lw_V q942 q943 q944 q82 q945, ar_X2_isAllowedByEntry⟩
theorem fg_X2_162 : gFld RX2 162 2 1 := gFld.ofN (T := TX3) (N := 5) rfl (by decide) in_X3 q235
theorem lk_X2_172 : GoodIn lw_all (wsV RX2 172 (yX2_deciding).cls yX2_deciding (ws_ yX2_deciding cX2_deciding 7 (some .int))) ∧ gAr yX2_deciding 3 := ⟨lw_V q946 q947 q948 q82 q949, ar_X2_deciding⟩
theorem lk_X2_151 : GoodIn lw_all (wsV RX2 151 (yX2_entry).cls yX2_entry (ws_ yX2_entry cX2_entry 3 (some (.object "PermissionDesk$Entry")))) ∧ gAr yX2_entry 2 := ⟨lw_V q954 q955 q956 q82 q957, ar_X2_entry⟩
theorem fg_X2_176 : gFld RX2 176 5 3 := gFld.ofN (T := TX6) (N := 6) rfl (by decide) in_X6 q820
theorem ar_X2_first : gAr yX2_first 5 := ⟨by decide +kernel, by decide +kernel, by decide +kernel⟩
theorem lk_X2_165 : GoodIn lw_all (wsV RX2 165 (yX2_first).cls yX2_first (ws_ yX2_first cX2_first 8 (some .int))) ∧ gAr yX2_first 5 := ⟨lw_V q950 q952 qs12 q82 q953, ar_X2_first⟩
theorem ar_X3_behind : gAr yX3_behind 0 := ⟨by decide +kernel, by decide +kernel, by decide +kernel⟩
theorem lk_X2_169 : GoodIn lw_all (wsV RX2 169 (yX3_behind).cls yX3_behind (ws_ yX3_behind cX3_behind 1 (some .int))) ∧ gAr yX3_behind 0 := ⟨lw_V q968 q969 q970 q88 q971, ar_X3_behind⟩
theorem fg_X2_133 : gFld RX2 133 2 4 := gFld.ofN (T := TX3) (N := 5) rfl (by decide) in_X3 q244
theorem fg_X2_155 : gFld RX2 155 5 4 := gFld.ofN (T := TX6) (N := 6) rfl (by decide) in_X6 q823
theorem ar_X6_decides : gAr yX6_decides 4 := ⟨by decide +kernel, by decide +kernel, by decide +kernel⟩
theorem lk_X2_158 : GoodIn lw_all (wsV RX2 158 (yX6_decides).cls yX6_decides (ws_ yX6_decides cX6_decides 6 (some .boolean))) ∧ gAr yX6_decides 4 := ⟨lw_V q959 q960 q961 q113 q962, ar_X6_decides⟩
theorem ar_J2_iterator : gAr yJ2_iterator 0 := ⟨by decide +kernel, by decide +kernel, by decide +kernel⟩
theorem lk_X2_39 : GoodIn lw_all (wsV RX2 39 (yJ2_iterator).cls yJ2_iterator (ws_ yJ2_iterator cJ2_iterator 1 (some (.object "java/util/Iterator")))) ∧ gAr yJ2_iterator 0 := ⟨lw_V q1020 q1021 q1022 q85 q1023, ar_J2_iterator⟩
theorem ar_X5_copy : gAr yX5_copy 0 := ⟨by decide +kernel, by decide +kernel, by decide +kernel⟩
theorem lk_X2_55 : GoodIn lw_all (wsV RX2 55 (yX5_copy).cls yX5_copy (ws_ yX5_copy cX5_copy 2 (some (.object "PermissionDesk$Team")))) ∧ gAr yX5_copy 0 := ⟨lw_V q1066 q1067 q1068 q99 q1069, ar_X5_copy⟩
theorem lk_X2_59 : GoodIn lw_all (wsV RX2 59 (yJ2_add).cls yJ2_add (ws_ yJ2_add cJ2_add 2 (some .boolean))) ∧ gAr yJ2_add 1 := ⟨lw_V q1087 q840 q841 q85 q842, ar_J2_add⟩
theorem ar_X3_copy : gAr yX3_copy 0 := ⟨by decide +kernel, by decide +kernel, by decide +kernel⟩
theorem lk_X2_67 : GoodIn lw_all (wsV RX2 67 (yX3_copy).cls yX3_copy (ws_ yX3_copy cX3_copy 2 (some (.object "PermissionDesk$Thing")))) ∧ gAr yX3_copy 0 := ⟨lw_V q1088 q1089 q1090 q88 q1091, ar_X3_copy⟩
theorem fg_X2_31 : gFld RX2 31 1 3 := gFld.of (T := TX2) (N := 6) rfl (by decide) in_X2 q198
theorem ar_J4_addAll : gAr yJ4_addAll 1 := ⟨by decide +kernel, by decide +kernel, by decide +kernel⟩
theorem lk_X2_70 : GoodIn lw_all (wsV RX2 70 (yJ4_addAll).cls yJ4_addAll (ws_ yJ4_addAll cJ4_addAll 2 (some .boolean))) ∧ gAr yJ4_addAll 1 := ⟨lw_V q1115 q1116 q1117 q87 q1118, ar_J4_addAll⟩
theorem fg_X2_74 : gFld RX2 74 1 4 := gFld.of (T := TX2) (N := 6) rfl (by decide) in_X2 q200
theorem fp_X2_74 : gPut RX2 74 1 4 (.int) false := gPut.of (T := TX2) (N := 6) tyX2 rfl (by decide) in_X2 q200 tyX2_ok nmX2 rfl rfl
theorem fg_X2_77 : gFld RX2 77 1 5 := gFld.of (T := TX2) (N := 6) rfl (by decide) in_X2 q202
theorem fp_X2_77 : gPut RX2 77 1 5 (.int) false := gPut.of (T := TX2) (N := 6) tyX2 rfl (by decide) in_X2 q202 tyX2_ok nmX2 rfl rfl
theorem lk_X2_111 : (GoodIn lw_all (ws_ yX1_demand cX1_demand 1 none) ∧ gNm RX2 111 yX1_demand ∧ Cond.initialized (yX1_demand).cls ∈ lw_all ∧ Cond.static yX1_demand ∈ lw_all) ∧ gAr yX1_demand 1 := ⟨⟨lw_meth q997, gNm.of q1243, q81, q996⟩, ar_X1_demand⟩
theorem fp_X2_106 : gPut RX2 106 4 0 (.int) false := gPut.ofN (T := TX5) (N := 2) tyX5 rfl (by decide) in_X5 q1077 tyX5_ok nmX5 rfl rfl
theorem lk_X2_107 : GoodIn lw_all (wsV RX2 107 (yX2_belonging).cls yX2_belonging (ws_ yX2_belonging cX2_belonging 4 (some .int))) ∧ gAr yX2_belonging 1 := ⟨lw_V q1244 q1245 q1246 q82 q1247, ar_X2_belonging⟩
theorem ar_X2_isWithin : gAr yX2_isWithin 2 := ⟨by decide +kernel, by decide +kernel, by decide +kernel⟩
theorem lk_X2_103 : GoodIn lw_all (wsV RX2 103 (yX2_isWithin).cls yX2_isWithin (ws_ yX2_isWithin cX2_isWithin 5 (some .boolean))) ∧ gAr yX2_isWithin 2 := ⟨lw_V q1271 q1272 q1273 q82 q1274, ar_X2_isWithin⟩
theorem fp_X2_96 : gPut RX2 96 4 1 (.int) false := gPut.ofN (T := TX5) (N := 2) tyX5 rfl (by decide) in_X5 q1080 tyX5_ok nmX5 rfl rfl
theorem ar_X3_init_2 : gAr yX3_init_2 2 := ⟨by decide +kernel, by decide +kernel, by decide +kernel⟩
theorem lk_X2_124 : (GoodIn lw_all (ws_ yX3_init_2 cX3_init_2 3 none) ∧ Cond.initialized (yX3_init_2).cls ∈ lw_all ∧ Cond.methodLink RX2 124 yX3_init_2 ∈ lw_all ∧ Cond.instanceMethod yX3_init_2 ∈ lw_all ∧ (yX3_init_2).name = "<init>") ∧ gAr yX3_init_2 2 := ⟨⟨lw_meth q223, q88, q1297, q222, rfl⟩, ar_X3_init_2⟩
theorem lk_X2_127 : GoodIn lw_all (wsV RX2 127 (yX2_below).cls yX2_below (ws_ yX2_below cX2_below 4 (some .int))) ∧ gAr yX2_below 1 := ⟨lw_V q1309 q1310 q1311 q82 q1312, ar_X2_below⟩
theorem lk_X2_130 : GoodIn lw_all (wsV RX2 130 (yX2_objects).cls yX2_objects (ws_ yX2_objects cX2_objects 3 (some .int))) ∧ gAr yX2_objects 0 := ⟨lw_V q1317 q909 q910 q82 q911, ar_X2_objects⟩
theorem ar_X2_isBelow : gAr yX2_isBelow 2 := ⟨by decide +kernel, by decide +kernel, by decide +kernel⟩
theorem lk_X2_121 : GoodIn lw_all (wsV RX2 121 (yX2_isBelow).cls yX2_isBelow (ws_ yX2_isBelow cX2_isBelow 5 (some .boolean))) ∧ gAr yX2_isBelow 2 := ⟨lw_V q1313 q1314 q1315 q82 q1316, ar_X2_isBelow⟩
theorem fg_X2_118 : gFld RX2 118 2 0 := gFld.ofN (T := TX3) (N := 5) rfl (by decide) in_X3 q231
theorem fp_X2_118 : gPut RX2 118 2 0 (.int) false := gPut.ofN (T := TX3) (N := 5) tyX3 rfl (by decide) in_X3 q231 tyX3_ok nmX3 rfl rfl
theorem ar_J2_add_3 : gAr yJ2_add_3 2 := ⟨by decide +kernel, by decide +kernel, by decide +kernel⟩
theorem lk_X2_136 : GoodIn lw_all (wsV RX2 136 (yJ2_add_3).cls yJ2_add_3 (ws_ yJ2_add_3 cJ2_add_3 5 none)) ∧ gAr yJ2_add_3 2 := ⟨lw_V q1381 q1382 q1383 q85 q1384, ar_J2_add_3⟩
theorem ar_J2_remove : gAr yJ2_remove 1 := ⟨by decide +kernel, by decide +kernel, by decide +kernel⟩
theorem lk_X2_139 : GoodIn lw_all (wsV RX2 139 (yJ2_remove).cls yJ2_remove (ws_ yJ2_remove cJ2_remove 4 (some (.object "java/lang/Object")))) ∧ gAr yJ2_remove 1 := ⟨lw_V q1448 q1449 q1450 q85 q1451, ar_J2_remove⟩
theorem lk_X2_142 : GoodIn lw_all (wsV RX2 142 (yX2_copy).cls yX2_copy (ws_ yX2_copy cX2_copy 4 (some (.object "PermissionDesk$Land")))) ∧ gAr yX2_copy 0 := ⟨lw_V q1467 q1017 q1018 q82 q1019, ar_X2_copy⟩
theorem ar_X2_differences : gAr yX2_differences 1 := ⟨by decide +kernel, by decide +kernel, by decide +kernel⟩
theorem lk_X2_147 : GoodIn lw_all (wsV RX2 147 (yX2_differences).cls yX2_differences (ws_ yX2_differences cX2_differences 5 (some .int))) ∧ gAr yX2_differences 1 := ⟨lw_V q1468 q1469 q1470 q82 q1471, ar_X2_differences⟩
theorem lk_X2_209 : GoodIn lw_all (wsV RX2 209 (yJ4_size).cls yJ4_size (ws_ yJ4_size cJ4_size 1 (some .int))) ∧ gAr yJ4_size 0 := ⟨lw_V q1486 q1184 q1185 q87 q1186, ar_J4_size⟩
theorem lk_X2_210 : GoodIn lw_all (wsV RX2 210 (yJ4_removeLast).cls yJ4_removeLast (ws_ yJ4_removeLast cJ4_removeLast 2 (some (.object "java/lang/Object")))) ∧ gAr yJ4_removeLast 0 := ⟨lw_V q1487 q1488 q1489 q87 q1490, ar_J4_removeLast⟩
theorem nw_X2_213 : gNew RX2 213 6 [.int 0, .int 0, .int 0] := ⟨RX7, TX7, tyX7, rfl, in_X7, tyX7_ok, q1495, q1496, q114, by decide +kernel⟩
theorem ar_X7_init : gAr yX7_init 3 := ⟨by decide +kernel, by decide +kernel, by decide +kernel⟩
theorem lk_X2_215 : (GoodIn lw_all (ws_ yX7_init cX7_init 4 none) ∧ Cond.initialized (yX7_init).cls ∈ lw_all ∧ Cond.methodLink RX2 215 yX7_init ∈ lw_all ∧ Cond.instanceMethod yX7_init ∈ lw_all ∧ (yX7_init).name = "<init>") ∧ gAr yX7_init 3 := ⟨⟨lw_meth q1499, q114, q1497, q1498, rfl⟩, ar_X7_init⟩
theorem ar_J4_addFirst : gAr yJ4_addFirst 1 := ⟨by decide +kernel, by decide +kernel, by decide +kernel⟩
theorem lk_X2_218 : GoodIn lw_all (wsV RX2 218 (yJ4_addFirst).cls yJ4_addFirst (ws_ yJ4_addFirst cJ4_addFirst 2 none)) ∧ gAr yJ4_addFirst 1 := ⟨lw_V q1514 q1515 q1516 q87 q1517, ar_J4_addFirst⟩
theorem lk_X2_222 : (GoodIn lw_all (ws_ yX1_setOf cX1_setOf 6 (some .int)) ∧ gNm RX2 222 yX1_setOf ∧ Cond.initialized (yX1_setOf).cls ∈ lw_all ∧ Cond.static yX1_setOf ∈ lw_all) ∧ gAr yX1_setOf 1 := ⟨⟨lw_meth q229, gNm.of q1533, q81, q228⟩, ar_X1_setOf⟩
theorem nw_X2_145 : gNew RX2 145 5 [.int 0, .int 0, .int 0, .int 0, .int 0, .null] := ⟨RX6, TX6, tyX6, rfl, in_X6, tyX6_ok, q958, q771, q113, by decide +kernel⟩
theorem lk_X2_226 : (GoodIn lw_all (ws_ yX6_init cX6_init 7 none) ∧ Cond.initialized (yX6_init).cls ∈ lw_all ∧ Cond.methodLink RX2 226 yX6_init ∈ lw_all ∧ Cond.instanceMethod yX6_init ∈ lw_all ∧ (yX6_init).name = "<init>") ∧ gAr yX6_init 5 := ⟨⟨lw_meth q774, q113, q1534, q773, rfl⟩, ar_X6_init⟩
theorem lk_X2_229 : GoodIn lw_all (wsV RX2 229 (yX2_adds).cls yX2_adds (ws_ yX2_adds cX2_adds 4 (some .int))) ∧ gAr yX2_adds 3 := ⟨lw_V q1535 q1378 q1379 q82 q1380, ar_X2_adds⟩
theorem ar_X2_counting : gAr yX2_counting 3 := ⟨by decide +kernel, by decide +kernel, by decide +kernel⟩
theorem lk_X2_195 : GoodIn lw_all (wsV RX2 195 (yX2_counting).cls yX2_counting (ws_ yX2_counting cX2_counting 8 (some (.object "java/util/ArrayList")))) ∧ gAr yX2_counting 3 := ⟨lw_V q1901 q1903 qs29 q82 q1904, ar_X2_counting⟩
theorem fg_X2_191 : gFld RX2 191 2 3 := gFld.ofN (T := TX3) (N := 5) rfl (by decide) in_X3 q241
theorem ar_J2_addAll : gAr yJ2_addAll 1 := ⟨by decide +kernel, by decide +kernel, by decide +kernel⟩
theorem lk_X2_194 : GoodIn lw_all (wsV RX2 194 (yJ2_addAll).cls yJ2_addAll (ws_ yJ2_addAll cJ2_addAll 6 (some .boolean))) ∧ gAr yJ2_addAll 1 := ⟨lw_V q1905 q1094 q1095 q85 q1096, ar_J2_addAll⟩
theorem lk_X2_199 : GoodIn lw_all (wsV RX2 199 (yX6_whoIf).cls yX6_whoIf (ws_ yX6_whoIf cX6_whoIf 2 (some .int))) ∧ gAr yX6_whoIf 1 := ⟨lw_V q1962 q1585 q1586 q113 q1587, ar_X6_whoIf⟩
theorem lk_X2_206 : GoodIn lw_all (wsV RX2 206 (yX2_removesEntry).cls yX2_removesEntry (ws_ yX2_removesEntry cX2_removesEntry 3 (some .int))) ∧ gAr yX2_removesEntry 2 := ⟨lw_V q1974 q1445 q1446 q82 q1447, ar_X2_removesEntry⟩
theorem lk_X3_36 : (GoodIn lw_all (ws_ yX3_init_2 cX3_init_2 3 none) ∧ Cond.initialized (yX3_init_2).cls ∈ lw_all ∧ Cond.methodLink RX3 36 yX3_init_2 ∈ lw_all ∧ Cond.instanceMethod yX3_init_2 ∈ lw_all ∧ (yX3_init_2).name = "<init>") ∧ gAr yX3_init_2 2 := ⟨⟨lw_meth q223, q88, q221, q222, rfl⟩, ar_X3_init_2⟩
theorem lo_X3_3 : Cond.methodLink RX3 3 Lib.objectInit ∈ lw_all := q224
theorem nw_X3_9 : gNew RX3 9 12 [.int 0, .null, .int 0] := ⟨RJ2, TJ2, tyJ2, rfl, in_J2, tyJ2_ok, q225, q139, q85, by decide +kernel⟩
theorem lk_X3_11 : (GoodIn lw_all (ws_ yJ2_init cJ2_init 1 none) ∧ Cond.initialized (yJ2_init).cls ∈ lw_all ∧ Cond.methodLink RX3 11 yJ2_init ∈ lw_all ∧ Cond.instanceMethod yJ2_init ∈ lw_all ∧ (yJ2_init).name = "<init>") ∧ gAr yJ2_init 0 := ⟨⟨lw_meth q142, q85, q226, q141, rfl⟩, ar_J2_init⟩
theorem fp_X3_12 : gPut RX3 12 2 4 (.object "java/util/ArrayList") true := gPut.ofF (T := TX3) (N := 5) tyX3 rfl (by decide) in_X3 q242 tyX3_ok nmX3 rfl rfl rfl
theorem lk_X3_18 : (GoodIn lw_all (ws_ yX1_setOf cX1_setOf 6 (some .int)) ∧ gNm RX3 18 yX1_setOf ∧ Cond.initialized (yX1_setOf).cls ∈ lw_all ∧ Cond.static yX1_setOf ∈ lw_all) ∧ gAr yX1_setOf 1 := ⟨⟨lw_meth q229, gNm.of q227, q81, q228⟩, ar_X1_setOf⟩
theorem fp_X3_22 : gPut RX3 22 2 2 (.int) false := gPut.of (T := TX3) (N := 5) tyX3 rfl (by decide) in_X3 q236 tyX3_ok nmX3 rfl rfl
theorem fp_X3_26 : gPut RX3 26 2 3 (.boolean) false := gPut.of (T := TX3) (N := 5) tyX3 rfl (by decide) in_X3 q239 tyX3_ok nmX3 rfl rfl
theorem fp_X3_30 : gPut RX3 30 2 0 (.int) false := gPut.of (T := TX3) (N := 5) tyX3 rfl (by decide) in_X3 q230 tyX3_ok nmX3 rfl rfl
theorem fp_X3_33 : gPut RX3 33 2 1 (.int) false := gPut.of (T := TX3) (N := 5) tyX3 rfl (by decide) in_X3 q233 tyX3_ok nmX3 rfl rfl
theorem fg_X3_26 : gFld RX3 26 2 3 := gFld.of (T := TX3) (N := 5) rfl (by decide) in_X3 q239
theorem fg_X3_30 : gFld RX3 30 2 0 := gFld.of (T := TX3) (N := 5) rfl (by decide) in_X3 q230
theorem nw_X3_13 : gNew RX3 13 2 [.int 0, .int 0, .int 0, .int 0, .null] := ⟨RX3, TX3, tyX3, rfl, in_X3, tyX3_ok, q1092, q217, q88, by decide +kernel⟩
theorem fg_X3_33 : gFld RX3 33 2 1 := gFld.of (T := TX3) (N := 5) rfl (by decide) in_X3 q233
theorem fg_X3_22 : gFld RX3 22 2 2 := gFld.of (T := TX3) (N := 5) rfl (by decide) in_X3 q236
theorem fg_X3_12 : gFld RX3 12 2 4 := gFld.of (T := TX3) (N := 5) rfl (by decide) in_X3 q242
theorem lk_X3_39 : GoodIn lw_all (wsV RX3 39 (yJ2_addAll).cls yJ2_addAll (ws_ yJ2_addAll cJ2_addAll 6 (some .boolean))) ∧ gAr yJ2_addAll 1 := ⟨lw_V q1093 q1094 q1095 q85 q1096, ar_J2_addAll⟩
theorem lk_X3_43 : GoodIn lw_all (wsV RX3 43 (yJ2_size).cls yJ2_size (ws_ yJ2_size cJ2_size 1 (some .int))) ∧ gAr yJ2_size 0 := ⟨lw_V q1442 q787 q788 q85 q789, ar_J2_size⟩
theorem lk_X3_47 : (GoodIn lw_all (ws_ yX1_inRange cX1_inRange 3 (some .boolean)) ∧ gNm RX3 47 yX1_inRange ∧ Cond.initialized (yX1_inRange).cls ∈ lw_all ∧ Cond.static yX1_inRange ∈ lw_all) ∧ gAr yX1_inRange 3 := ⟨⟨lw_meth q711, gNm.of q1443, q81, q710⟩, ar_X1_inRange⟩
theorem lo_X4_1 : Cond.methodLink RX4 1 Lib.objectInit ∈ lw_all := q2051
theorem fp_X4_7 : gPut RX4 7 3 0 (.array .int) true := gPut.ofF (T := TX4) (N := 15) tyX4 rfl (by decide) in_X4 q2059 tyX4_ok nmX4 rfl rfl rfl
theorem fp_X4_13 : gPut RX4 13 3 1 (.array .int) true := gPut.ofF (T := TX4) (N := 15) tyX4 rfl (by decide) in_X4 q2060 tyX4_ok nmX4 rfl rfl rfl
theorem fp_X4_16 : gPut RX4 16 3 2 (.array .int) true := gPut.ofF (T := TX4) (N := 15) tyX4 rfl (by decide) in_X4 q2061 tyX4_ok nmX4 rfl rfl rfl
theorem fp_X4_19 : gPut RX4 19 3 3 (.array .boolean) true := gPut.ofF (T := TX4) (N := 15) tyX4 rfl (by decide) in_X4 q2062 tyX4_ok nmX4 rfl rfl rfl
theorem fp_X4_23 : gPut RX4 23 3 6 (.array .int) true := gPut.ofF (T := TX4) (N := 15) tyX4 rfl (by decide) in_X4 q2065 tyX4_ok nmX4 rfl rfl rfl
theorem fp_X4_26 : gPut RX4 26 3 8 (.array .int) true := gPut.ofF (T := TX4) (N := 15) tyX4 rfl (by decide) in_X4 q2067 tyX4_ok nmX4 rfl rfl rfl
theorem fp_X4_29 : gPut RX4 29 3 9 (.array .int) true := gPut.ofF (T := TX4) (N := 15) tyX4 rfl (by decide) in_X4 q2068 tyX4_ok nmX4 rfl rfl rfl
theorem fp_X4_32 : gPut RX4 32 3 14 (.array .int) true := gPut.ofF (T := TX4) (N := 15) tyX4 rfl (by decide) in_X4 q2073 tyX4_ok nmX4 rfl rfl rfl
theorem fg_X4_7 : gFld RX4 7 3 0 := gFld.of (T := TX4) (N := 15) rfl (by decide) in_X4 q2059
theorem ar_X4_founds : gAr yX4_founds 3 := ⟨by decide +kernel, by decide +kernel, by decide +kernel⟩
theorem lk_X4_35 : GoodIn lw_all (wsV RX4 35 (yX4_founds).cls yX4_founds (ws_ yX4_founds cX4_founds 5 none)) ∧ gAr yX4_founds 3 := ⟨lw_V q2052 q2054 qs33 q93 q2055, ar_X4_founds⟩
theorem ar_X4_at : gAr yX4_at 2 := ⟨by decide +kernel, by decide +kernel, by decide +kernel⟩
theorem lk_X4_50 : GoodIn lw_all (va_wsS RX4 50 yX4_at (ws_ yX4_at cX4_at 2 (some .int))) ∧ gAr yX4_at 2 := ⟨lw_S q2056 q2057 q93 q2058, ar_X4_at⟩
theorem fg_X4_39 : gFld RX4 39 3 5 := gFld.of (T := TX4) (N := 15) rfl (by decide) in_X4 q2064
theorem fp_X4_39 : gPut RX4 39 3 5 (.int) false := gPut.of (T := TX4) (N := 15) tyX4 rfl (by decide) in_X4 q2064 tyX4_ok nmX4 rfl rfl
theorem ar_X4_fails : gAr yX4_fails 1 := ⟨by decide +kernel, by decide +kernel, by decide +kernel⟩
theorem lk_X4_76 : GoodIn lw_all (wsV RX4 76 (yX4_fails).cls yX4_fails (ws_ yX4_fails cX4_fails 2 (some .int))) ∧ gAr yX4_fails 1 := ⟨lw_V q2113 q2115 qs34 q93 q2116, ar_X4_fails⟩
theorem ar_X4_changes : gAr yX4_changes 0 := ⟨by decide +kernel, by decide +kernel, by decide +kernel⟩
theorem lk_X4_79 : GoodIn lw_all (wsV RX4 79 (yX4_changes).cls yX4_changes (ws_ yX4_changes cX4_changes 2 none)) ∧ gAr yX4_changes 0 := ⟨lw_V q2117 q2119 qs35 q93 q2120, ar_X4_changes⟩
theorem fg_X4_43 : gFld RX4 43 3 4 := gFld.of (T := TX4) (N := 15) rfl (by decide) in_X4 q2063
theorem fg_X4_13 : gFld RX4 13 3 1 := gFld.of (T := TX4) (N := 15) rfl (by decide) in_X4 q2060
theorem fp_X4_43 : gPut RX4 43 3 4 (.int) false := gPut.of (T := TX4) (N := 15) tyX4 rfl (by decide) in_X4 q2063 tyX4_ok nmX4 rfl rfl
theorem ar_X4_isUser : gAr yX4_isUser 1 := ⟨by decide +kernel, by decide +kernel, by decide +kernel⟩
theorem lk_X4_82 : GoodIn lw_all (wsV RX4 82 (yX4_isUser).cls yX4_isUser (ws_ yX4_isUser cX4_isUser 2 (some .boolean))) ∧ gAr yX4_isUser 1 := ⟨lw_V q2129 q2131 qs36 q93 q2132, ar_X4_isUser⟩
theorem ar_X4_isGroup : gAr yX4_isGroup 1 := ⟨by decide +kernel, by decide +kernel, by decide +kernel⟩
theorem lk_X4_85 : GoodIn lw_all (wsV RX4 85 (yX4_isGroup).cls yX4_isGroup (ws_ yX4_isGroup cX4_isGroup 2 (some .boolean))) ∧ gAr yX4_isGroup 1 := ⟨lw_V q2136 q2138 qs37 q93 q2139, ar_X4_isGroup⟩
theorem ar_X4_has : gAr yX4_has 2 := ⟨by decide +kernel, by decide +kernel, by decide +kernel⟩
theorem lk_X4_65 : GoodIn lw_all (va_wsS RX4 65 yX4_has (ws_ yX4_has cX4_has 2 (some .boolean))) ∧ gAr yX4_has 2 := ⟨lw_S q2140 q2141 q93 q2142, ar_X4_has⟩
theorem ar_X4_howMany : gAr yX4_howMany 1 := ⟨by decide +kernel, by decide +kernel, by decide +kernel⟩
theorem lk_X4_88 : GoodIn lw_all (wsV RX4 88 (yX4_howMany).cls yX4_howMany (ws_ yX4_howMany cX4_howMany 4 (some .int))) ∧ gAr yX4_howMany 1 := ⟨lw_V q2143 q2145 qs38 q93 q2146, ar_X4_howMany⟩
theorem ar_X4_in : gAr yX4_in 3 := ⟨by decide +kernel, by decide +kernel, by decide +kernel⟩
theorem lk_X4_46 : GoodIn lw_all (va_wsS RX4 46 yX4_in (ws_ yX4_in cX4_in 3 (some .boolean))) ∧ gAr yX4_in 3 := ⟨lw_S q2133 q2134 q93 q2135, ar_X4_in⟩
theorem ar_X4_isOf : gAr yX4_isOf 2 := ⟨by decide +kernel, by decide +kernel, by decide +kernel⟩
theorem lk_X4_73 : GoodIn lw_all (wsV RX4 73 (yX4_isOf).cls yX4_isOf (ws_ yX4_isOf cX4_isOf 5 (some .boolean))) ∧ gAr yX4_isOf 2 := ⟨lw_V q2147 q2149 qs39 q93 q2150, ar_X4_isOf⟩
theorem ar_X4_outers : gAr yX4_outers 1 := ⟨by decide +kernel, by decide +kernel, by decide +kernel⟩
theorem lk_X4_69 : GoodIn lw_all (wsV RX4 69 (yX4_outers).cls yX4_outers (ws_ yX4_outers cX4_outers 5 (some .int))) ∧ gAr yX4_outers 1 := ⟨lw_V q2151 q2153 qs40 q93 q2154, ar_X4_outers⟩
theorem ar_X4_isObject : gAr yX4_isObject 1 := ⟨by decide +kernel, by decide +kernel, by decide +kernel⟩
theorem lk_X4_57 : GoodIn lw_all (wsV RX4 57 (yX4_isObject).cls yX4_isObject (ws_ yX4_isObject cX4_isObject 2 (some .boolean))) ∧ gAr yX4_isObject 1 := ⟨lw_V q2171 q2173 qs41 q93 q2174, ar_X4_isObject⟩
theorem ar_X4_howManyObjects : gAr yX4_howManyObjects 0 := ⟨by decide +kernel, by decide +kernel, by decide +kernel⟩
theorem lk_X4_94 : GoodIn lw_all (wsV RX4 94 (yX4_howManyObjects).cls yX4_howManyObjects (ws_ yX4_howManyObjects cX4_howManyObjects 3 (some .int))) ∧ gAr yX4_howManyObjects 0 := ⟨lw_V q2179 q2181 qs43 q93 q2182, ar_X4_howManyObjects⟩
theorem ar_X4_of : gAr yX4_of 2 := ⟨by decide +kernel, by decide +kernel, by decide +kernel⟩
theorem lk_X4_54 : GoodIn lw_all (wsV RX4 54 (yX4_of).cls yX4_of (ws_ yX4_of cX4_of 3 (some .int))) ∧ gAr yX4_of 2 := ⟨lw_V q2175 q2177 qs42 q93 q2178, ar_X4_of⟩
theorem ar_X4_belows : gAr yX4_belows 1 := ⟨by decide +kernel, by decide +kernel, by decide +kernel⟩
theorem lk_X4_98 : GoodIn lw_all (wsV RX4 98 (yX4_belows).cls yX4_belows (ws_ yX4_belows cX4_belows 4 (some .int))) ∧ gAr yX4_belows 1 := ⟨lw_V q2187 q2189 qs44 q93 q2190, ar_X4_belows⟩
theorem ar_X4_isBelow : gAr yX4_isBelow 2 := ⟨by decide +kernel, by decide +kernel, by decide +kernel⟩
theorem lk_X4_91 : GoodIn lw_all (wsV RX4 91 (yX4_isBelow).cls yX4_isBelow (ws_ yX4_isBelow cX4_isBelow 4 (some .boolean))) ∧ gAr yX4_isBelow 2 := ⟨lw_V q2191 q2193 qs45 q93 q2194, ar_X4_isBelow⟩
theorem ar_X4_adds : gAr yX4_adds 6 := ⟨by decide +kernel, by decide +kernel, by decide +kernel⟩
theorem lk_X4_108 : GoodIn lw_all (wsV RX4 108 (yX4_adds).cls yX4_adds (ws_ yX4_adds cX4_adds 8 (some .int))) ∧ gAr yX4_adds 6 := ⟨lw_V q2215 q2217 qs46 q93 q2218, ar_X4_adds⟩
theorem ar_X4_areRights : gAr yX4_areRights 1 := ⟨by decide +kernel, by decide +kernel, by decide +kernel⟩
theorem lk_X4_101 : GoodIn lw_all (va_wsS RX4 101 yX4_areRights (ws_ yX4_areRights cX4_areRights 1 (some .boolean))) ∧ gAr yX4_areRights 1 := ⟨lw_S q2219 q2220 q93 q2221, ar_X4_areRights⟩
theorem ar_X4_writes : gAr yX4_writes 7 := ⟨by decide +kernel, by decide +kernel, by decide +kernel⟩
theorem lk_X4_104 : GoodIn lw_all (wsV RX4 104 (yX4_writes).cls yX4_writes (ws_ yX4_writes cX4_writes 8 none)) ∧ gAr yX4_writes 7 := ⟨lw_V q2222 q2224 qs47 q93 q2225, ar_X4_writes⟩
theorem ar_X4_entryAt : gAr yX4_entryAt 3 := ⟨by decide +kernel, by decide +kernel, by decide +kernel⟩
theorem lk_X4_61 : GoodIn lw_all (va_wsS RX4 61 yX4_entryAt (ws_ yX4_entryAt cX4_entryAt 3 (some .int))) ∧ gAr yX4_entryAt 3 := ⟨lw_S q2226 q2227 q93 q2228, ar_X4_entryAt⟩
theorem ar_X4_isEntry : gAr yX4_isEntry 2 := ⟨by decide +kernel, by decide +kernel, by decide +kernel⟩
theorem lk_X4_112 : GoodIn lw_all (wsV RX4 112 (yX4_isEntry).cls yX4_isEntry (ws_ yX4_isEntry cX4_isEntry 3 (some .boolean))) ∧ gAr yX4_isEntry 2 := ⟨lw_V q2245 q2247 qs48 q93 q2248, ar_X4_isEntry⟩
theorem ar_X4_takesOut : gAr yX4_takesOut 2 := ⟨by decide +kernel, by decide +kernel, by decide +kernel⟩
theorem lk_X4_115 : GoodIn lw_all (wsV RX4 115 (yX4_takesOut).cls yX4_takesOut (ws_ yX4_takesOut cX4_takesOut 4 none)) ∧ gAr yX4_takesOut 2 := ⟨lw_V q2249 q2251 qs49 q93 q2252, ar_X4_takesOut⟩
theorem ar_X4_notes : gAr yX4_notes 0 := ⟨by decide +kernel, by decide +kernel, by decide +kernel⟩
theorem lk_X4_128 : GoodIn lw_all (wsV RX4 128 (yX4_notes).cls yX4_notes (ws_ yX4_notes cX4_notes 2 none)) ∧ gAr yX4_notes 0 := ⟨lw_V q2257 q2259 qs50 q93 q2260, ar_X4_notes⟩
theorem ar_X4_keepsOne : gAr yX4_keepsOne 2 := ⟨by decide +kernel, by decide +kernel, by decide +kernel⟩
theorem lk_X4_131 : GoodIn lw_all (wsV RX4 131 (yX4_keepsOne).cls yX4_keepsOne (ws_ yX4_keepsOne cX4_keepsOne 4 none)) ∧ gAr yX4_keepsOne 2 := ⟨lw_V q2285 q2287 qs57 q93 q2288, ar_X4_keepsOne⟩
theorem ar_X4_putsOne : gAr yX4_putsOne 2 := ⟨by decide +kernel, by decide +kernel, by decide +kernel⟩
theorem lk_X4_134 : GoodIn lw_all (wsV RX4 134 (yX4_putsOne).cls yX4_putsOne (ws_ yX4_putsOne cX4_putsOne 4 none)) ∧ gAr yX4_putsOne 2 := ⟨lw_V q2289 q2291 qs58 q93 q2292, ar_X4_putsOne⟩
theorem ar_X4_unlike : gAr yX4_unlike 0 := ⟨by decide +kernel, by decide +kernel, by decide +kernel⟩
theorem lk_X4_137 : GoodIn lw_all (wsV RX4 137 (yX4_unlike).cls yX4_unlike (ws_ yX4_unlike cX4_unlike 5 (some .int))) ∧ gAr yX4_unlike 0 := ⟨lw_V q2297 q2299 qs60 q93 q2300, ar_X4_unlike⟩
theorem fg_X4_26 : gFld RX4 26 3 8 := gFld.of (T := TX4) (N := 15) rfl (by decide) in_X4 q2067
theorem ar_X4_rights : gAr yX4_rights 2 := ⟨by decide +kernel, by decide +kernel, by decide +kernel⟩
theorem lk_X4_119 : GoodIn lw_all (wsV RX4 119 (yX4_rights).cls yX4_rights (ws_ yX4_rights cX4_rights 5 (some .int))) ∧ gAr yX4_rights 2 := ⟨lw_V q2261 q2263 qs51 q93 q2264, ar_X4_rights⟩
theorem ar_X4_allows : gAr yX4_allows 3 := ⟨by decide +kernel, by decide +kernel, by decide +kernel⟩
theorem lk_X4_150 : GoodIn lw_all (wsV RX4 150 (yX4_allows).cls yX4_allows (ws_ yX4_allows cX4_allows 4 (some .boolean))) ∧ gAr yX4_allows 3 := ⟨lw_V q2265 q2267 qs52 q93 q2268, ar_X4_allows⟩
theorem ar_X4_isByList : gAr yX4_isByList 3 := ⟨by decide +kernel, by decide +kernel, by decide +kernel⟩
theorem lk_X4_147 : GoodIn lw_all (wsV RX4 147 (yX4_isByList).cls yX4_isByList (ws_ yX4_isByList cX4_isByList 5 (some .boolean))) ∧ gAr yX4_isByList 3 := ⟨lw_V q2269 q2271 qs53 q93 q2272, ar_X4_isByList⟩
theorem ar_X4_decides : gAr yX4_decides 3 := ⟨by decide +kernel, by decide +kernel, by decide +kernel⟩
theorem lk_X4_144 : GoodIn lw_all (wsV RX4 144 (yX4_decides).cls yX4_decides (ws_ yX4_decides cX4_decides 7 (some .int))) ∧ gAr yX4_decides 3 := ⟨lw_V q2273 q2275 qs54 q93 q2276, ar_X4_decides⟩
theorem ar_X4_ofEntry : gAr yX4_ofEntry 3 := ⟨by decide +kernel, by decide +kernel, by decide +kernel⟩
theorem lk_X4_122 : GoodIn lw_all (wsV RX4 122 (yX4_ofEntry).cls yX4_ofEntry (ws_ yX4_ofEntry cX4_ofEntry 4 (some .int))) ∧ gAr yX4_ofEntry 3 := ⟨lw_V q2277 q2279 qs55 q93 q2280, ar_X4_ofEntry⟩
theorem ar_X4_isFor : gAr yX4_isFor 4 := ⟨by decide +kernel, by decide +kernel, by decide +kernel⟩
theorem lk_X4_140 : GoodIn lw_all (wsV RX4 140 (yX4_isFor).cls yX4_isFor (ws_ yX4_isFor cX4_isFor 6 (some .boolean))) ∧ gAr yX4_isFor 4 := ⟨lw_V q2281 q2283 qs56 q93 q2284, ar_X4_isFor⟩
theorem fg_X4_29 : gFld RX4 29 3 9 := gFld.of (T := TX4) (N := 15) rfl (by decide) in_X4 q2068
theorem ar_X4_opens : gAr yX4_opens 2 := ⟨by decide +kernel, by decide +kernel, by decide +kernel⟩
theorem lk_X4_125 : GoodIn lw_all (wsV RX4 125 (yX4_opens).cls yX4_opens (ws_ yX4_opens cX4_opens 4 none)) ∧ gAr yX4_opens 2 := ⟨lw_V q2293 q2295 qs59 q93 q2296, ar_X4_opens⟩
theorem ar_X4_isRight : gAr yX4_isRight 1 := ⟨by decide +kernel, by decide +kernel, by decide +kernel⟩
theorem lk_X4_156 : GoodIn lw_all (va_wsS RX4 156 yX4_isRight (ws_ yX4_isRight cX4_isRight 1 (some .boolean))) ∧ gAr yX4_isRight 1 := ⟨lw_S q2305 q2306 q93 q2307, ar_X4_isRight⟩
theorem fg_X4_159 : gFld RX4 159 3 7 := gFld.of (T := TX4) (N := 15) rfl (by decide) in_X4 q2066
theorem fg_X4_23 : gFld RX4 23 3 6 := gFld.of (T := TX4) (N := 15) rfl (by decide) in_X4 q2065
theorem fp_X4_159 : gPut RX4 159 3 7 (.int) false := gPut.of (T := TX4) (N := 15) tyX4 rfl (by decide) in_X4 q2066 tyX4_ok nmX4 rfl rfl
theorem ar_X4_wrong : gAr yX4_wrong 0 := ⟨by decide +kernel, by decide +kernel, by decide +kernel⟩
theorem lk_X4_190 : GoodIn lw_all (wsV RX4 190 (yX4_wrong).cls yX4_wrong (ws_ yX4_wrong cX4_wrong 2 (some .int))) ∧ gAr yX4_wrong 0 := ⟨lw_V q2324 q2326 qs61 q93 q2327, ar_X4_wrong⟩
theorem fp_X4_162 : gPut RX4 162 3 10 (.int) false := gPut.of (T := TX4) (N := 15) tyX4 rfl (by decide) in_X4 q2069 tyX4_ok nmX4 rfl rfl
theorem fp_X4_171 : gPut RX4 171 3 12 (.int) false := gPut.of (T := TX4) (N := 15) tyX4 rfl (by decide) in_X4 q2071 tyX4_ok nmX4 rfl rfl
theorem ar_X4_number : gAr yX4_number 1 := ⟨by decide +kernel, by decide +kernel, by decide +kernel⟩
theorem lk_X4_177 : GoodIn lw_all (wsV RX4 177 (yX4_number).cls yX4_number (ws_ yX4_number cX4_number 2 (some .boolean))) ∧ gAr yX4_number 1 := ⟨lw_V q2328 q2330 qs62 q93 q2331, ar_X4_number⟩
theorem ar_X4_sign : gAr yX4_sign 1 := ⟨by decide +kernel, by decide +kernel, by decide +kernel⟩
theorem lk_X4_174 : GoodIn lw_all (wsV RX4 174 (yX4_sign).cls yX4_sign (ws_ yX4_sign cX4_sign 3 (some .boolean))) ∧ gAr yX4_sign 1 := ⟨lw_V q2336 q2338 qs64 q93 q2339, ar_X4_sign⟩
theorem fp_X4_184 : gPut RX4 184 3 11 (.int) false := gPut.of (T := TX4) (N := 15) tyX4 rfl (by decide) in_X4 q2070 tyX4_ok nmX4 rfl rfl
theorem fg_X4_162 : gFld RX4 162 3 10 := gFld.of (T := TX4) (N := 15) rfl (by decide) in_X4 q2069
theorem fg_X4_168 : gFld RX4 168 3 13 := gFld.of (T := TX4) (N := 15) rfl (by decide) in_X4 q2072
theorem ar_X4_entryRead : gAr yX4_entryRead 0 := ⟨by decide +kernel, by decide +kernel, by decide +kernel⟩
theorem lk_X4_187 : GoodIn lw_all (wsV RX4 187 (yX4_entryRead).cls yX4_entryRead (ws_ yX4_entryRead cX4_entryRead 4 (some .boolean))) ∧ gAr yX4_entryRead 0 := ⟨lw_V q2340 q2342 qs65 q93 q2343, ar_X4_entryRead⟩
theorem fg_X4_171 : gFld RX4 171 3 12 := gFld.of (T := TX4) (N := 15) rfl (by decide) in_X4 q2071
theorem ar_X4_sees : gAr yX4_sees 2 := ⟨by decide +kernel, by decide +kernel, by decide +kernel⟩
theorem lk_X4_165 : GoodIn lw_all (wsV RX4 165 (yX4_sees).cls yX4_sees (ws_ yX4_sees cX4_sees 3 (some .boolean))) ∧ gAr yX4_sees 2 := ⟨lw_V q2332 q2334 qs63 q93 q2335, ar_X4_sees⟩
theorem fp_X4_168 : gPut RX4 168 3 13 (.int) false := gPut.of (T := TX4) (N := 15) tyX4 rfl (by decide) in_X4 q2072 tyX4_ok nmX4 rfl rfl
theorem ar_X4_whomRead : gAr yX4_whomRead 0 := ⟨by decide +kernel, by decide +kernel, by decide +kernel⟩
theorem lk_X4_180 : GoodIn lw_all (wsV RX4 180 (yX4_whomRead).cls yX4_whomRead (ws_ yX4_whomRead cX4_whomRead 3 (some .boolean))) ∧ gAr yX4_whomRead 0 := ⟨lw_V q2344 q2346 qs66 q93 q2347, ar_X4_whomRead⟩
theorem fg_X4_32 : gFld RX4 32 3 14 := gFld.of (T := TX4) (N := 15) rfl (by decide) in_X4 q2073
theorem ar_X4_areThere : gAr yX4_areThere 0 := ⟨by decide +kernel, by decide +kernel, by decide +kernel⟩
theorem lk_X4_193 : GoodIn lw_all (wsV RX4 193 (yX4_areThere).cls yX4_areThere (ws_ yX4_areThere cX4_areThere 4 (some .boolean))) ∧ gAr yX4_areThere 0 := ⟨lw_V q2352 q2354 qs67 q93 q2355, ar_X4_areThere⟩
theorem fg_X4_184 : gFld RX4 184 3 11 := gFld.of (T := TX4) (N := 15) rfl (by decide) in_X4 q2070
theorem ar_X4_putsNumber : gAr yX4_putsNumber 1 := ⟨by decide +kernel, by decide +kernel, by decide +kernel⟩
theorem lk_X4_200 : GoodIn lw_all (wsV RX4 200 (yX4_putsNumber).cls yX4_putsNumber (ws_ yX4_putsNumber cX4_putsNumber 2 none)) ∧ gAr yX4_putsNumber 1 := ⟨lw_V q2360 q2362 qs68 q93 q2363, ar_X4_putsNumber⟩
theorem ar_X4_puts : gAr yX4_puts 1 := ⟨by decide +kernel, by decide +kernel, by decide +kernel⟩
theorem lk_X4_196 : GoodIn lw_all (wsV RX4 196 (yX4_puts).cls yX4_puts (ws_ yX4_puts cX4_puts 2 none)) ∧ gAr yX4_puts 1 := ⟨lw_V q2364 q2366 qs69 q93 q2367, ar_X4_puts⟩
theorem ar_X4_putsEntry : gAr yX4_putsEntry 2 := ⟨by decide +kernel, by decide +kernel, by decide +kernel⟩
theorem lk_X4_206 : GoodIn lw_all (wsV RX4 206 (yX4_putsEntry).cls yX4_putsEntry (ws_ yX4_putsEntry cX4_putsEntry 5 none)) ∧ gAr yX4_putsEntry 2 := ⟨lw_V q2368 q2370 qs70 q93 q2371, ar_X4_putsEntry⟩
theorem ar_X4_putsRight : gAr yX4_putsRight 3 := ⟨by decide +kernel, by decide +kernel, by decide +kernel⟩
theorem lk_X4_203 : GoodIn lw_all (wsV RX4 203 (yX4_putsRight).cls yX4_putsRight (ws_ yX4_putsRight cX4_putsRight 4 none)) ∧ gAr yX4_putsRight 3 := ⟨lw_V q2372 q2374 qs71 q93 q2375, ar_X4_putsRight⟩
theorem ar_X4_isOfGroup : gAr yX4_isOfGroup 2 := ⟨by decide +kernel, by decide +kernel, by decide +kernel⟩
theorem lk_X4_209 : GoodIn lw_all (wsV RX4 209 (yX4_isOfGroup).cls yX4_isOfGroup (ws_ yX4_isOfGroup cX4_isOfGroup 3 (some .boolean))) ∧ gAr yX4_isOfGroup 2 := ⟨lw_V q2400 q2402 qs72 q93 q2403, ar_X4_isOfGroup⟩
theorem ar_X4_ofObject : gAr yX4_ofObject 2 := ⟨by decide +kernel, by decide +kernel, by decide +kernel⟩
theorem lk_X4_212 : GoodIn lw_all (wsV RX4 212 (yX4_ofObject).cls yX4_ofObject (ws_ yX4_ofObject cX4_ofObject 3 (some .int))) ∧ gAr yX4_ofObject 2 := ⟨lw_V q2420 q2422 qs73 q93 q2423, ar_X4_ofObject⟩
theorem ar_X4_ofTheEntry : gAr yX4_ofTheEntry 3 := ⟨by decide +kernel, by decide +kernel, by decide +kernel⟩
theorem lk_X4_215 : GoodIn lw_all (wsV RX4 215 (yX4_ofTheEntry).cls yX4_ofTheEntry (ws_ yX4_ofTheEntry cX4_ofTheEntry 4 (some .int))) ∧ gAr yX4_ofTheEntry 3 := ⟨lw_V q2448 q2450 qs74 q93 q2451, ar_X4_ofTheEntry⟩
theorem ar_X4_whomOf : gAr yX4_whomOf 3 := ⟨by decide +kernel, by decide +kernel, by decide +kernel⟩
theorem lk_X4_218 : GoodIn lw_all (wsV RX4 218 (yX4_whomOf).cls yX4_whomOf (ws_ yX4_whomOf cX4_whomOf 5 (some .int))) ∧ gAr yX4_whomOf 3 := ⟨lw_V q2460 q2462 qs75 q93 q2463, ar_X4_whomOf⟩
theorem ar_X4_isQuestion : gAr yX4_isQuestion 3 := ⟨by decide +kernel, by decide +kernel, by decide +kernel⟩
theorem lk_X4_221 : GoodIn lw_all (wsV RX4 221 (yX4_isQuestion).cls yX4_isQuestion (ws_ yX4_isQuestion cX4_isQuestion 4 (some .boolean))) ∧ gAr yX4_isQuestion 3 := ⟨lw_V q2480 q2482 qs76 q93 q2483, ar_X4_isQuestion⟩
theorem ar_X4_isThrough : gAr yX4_isThrough 4 := ⟨by decide +kernel, by decide +kernel, by decide +kernel⟩
theorem lk_X4_224 : GoodIn lw_all (wsV RX4 224 (yX4_isThrough).cls yX4_isThrough (ws_ yX4_isThrough cX4_isThrough 8 (some .boolean))) ∧ gAr yX4_isThrough 4 := ⟨lw_V q2512 q2514 qs77 q93 q2515, ar_X4_isThrough⟩
theorem ar_X4_everything : gAr yX4_everything 0 := ⟨by decide +kernel, by decide +kernel, by decide +kernel⟩
theorem lk_X4_227 : GoodIn lw_all (wsV RX4 227 (yX4_everything).cls yX4_everything (ws_ yX4_everything cX4_everything 4 (some .int))) ∧ gAr yX4_everything 0 := ⟨lw_V q2524 q2526 qs78 q93 q2527, ar_X4_everything⟩
theorem ar_X4_size : gAr yX4_size 1 := ⟨by decide +kernel, by decide +kernel, by decide +kernel⟩
theorem lk_X4_153 : GoodIn lw_all (va_wsS RX4 153 yX4_size (ws_ yX4_size cX4_size 3 (some .int))) ∧ gAr yX4_size 1 := ⟨lw_S q2528 q2529 q93 q2530, ar_X4_size⟩
theorem ar_X4_logged : gAr yX4_logged 2 := ⟨by decide +kernel, by decide +kernel, by decide +kernel⟩
theorem lk_X4_230 : GoodIn lw_all (wsV RX4 230 (yX4_logged).cls yX4_logged (ws_ yX4_logged cX4_logged 3 (some .int))) ∧ gAr yX4_logged 2 := ⟨lw_V q2547 q2549 qs79 q93 q2550, ar_X4_logged⟩
theorem fg_X4_19 : gFld RX4 19 3 3 := gFld.of (T := TX4) (N := 15) rfl (by decide) in_X4 q2062
theorem fg_X4_16 : gFld RX4 16 3 2 := gFld.of (T := TX4) (N := 15) rfl (by decide) in_X4 q2061
theorem nw_X5_7 : gNew RX5 7 4 [.int 0, .int 0] := ⟨RX5, TX5, tyX5, rfl, in_X5, tyX5_ok, q1070, q1071, q99, by decide +kernel⟩
theorem lk_X5_9 : (GoodIn lw_all (ws_ yX5_init cX5_init 1 none) ∧ Cond.initialized (yX5_init).cls ∈ lw_all ∧ Cond.methodLink RX5 9 yX5_init ∈ lw_all ∧ Cond.instanceMethod yX5_init ∈ lw_all ∧ (yX5_init).name = "<init>") ∧ gAr yX5_init 0 := ⟨⟨lw_meth q1074, q99, q1072, q1073, rfl⟩, ar_X5_init⟩
theorem fg_X5_10 : gFld RX5 10 4 0 := gFld.of (T := TX5) (N := 2) rfl (by decide) in_X5 q1076
theorem fp_X5_10 : gPut RX5 10 4 0 (.int) false := gPut.of (T := TX5) (N := 2) tyX5 rfl (by decide) in_X5 q1076 tyX5_ok nmX5 rfl rfl
theorem fg_X5_14 : gFld RX5 14 4 1 := gFld.of (T := TX5) (N := 2) rfl (by decide) in_X5 q1079
theorem fp_X5_14 : gPut RX5 14 4 1 (.int) false := gPut.of (T := TX5) (N := 2) tyX5 rfl (by decide) in_X5 q1079 tyX5_ok nmX5 rfl rfl
theorem lo_X5_1 : Cond.methodLink RX5 1 Lib.objectInit ∈ lw_all := q1075
theorem lo_X6_3 : Cond.methodLink RX6 3 Lib.objectInit ∈ lw_all := q775
theorem fp_X6_20 : gPut RX6 20 5 0 (.int) true := gPut.ofF (T := TX6) (N := 6) tyX6 rfl (by decide) in_X6 q814 tyX6_ok nmX6 rfl rfl rfl
theorem fp_X6_26 : gPut RX6 26 5 1 (.int) true := gPut.ofF (T := TX6) (N := 6) tyX6 rfl (by decide) in_X6 q816 tyX6_ok nmX6 rfl rfl rfl
theorem fp_X6_29 : gPut RX6 29 5 2 (.int) true := gPut.ofF (T := TX6) (N := 6) tyX6 rfl (by decide) in_X6 q817 tyX6_ok nmX6 rfl rfl rfl
theorem fp_X6_32 : gPut RX6 32 5 3 (.boolean) true := gPut.ofF (T := TX6) (N := 6) tyX6 rfl (by decide) in_X6 q819 tyX6_ok nmX6 rfl rfl rfl
theorem fp_X6_36 : gPut RX6 36 5 4 (.boolean) true := gPut.ofF (T := TX6) (N := 6) tyX6 rfl (by decide) in_X6 q822 tyX6_ok nmX6 rfl rfl rfl
theorem fp_X6_39 : gPut RX6 39 5 5 (.object "PermissionDesk$Test") true := gPut.ofF (T := TX6) (N := 6) tyX6 rfl (by decide) in_X6 q825 tyX6_ok nmX6 rfl rfl rfl
theorem lk_X6_66 : GoodIn lw_all (wsV RX6 66 (yX2_belongs).cls yX2_belongs (ws_ yX2_belongs cX2_belongs 6 (some .boolean))) ∧ gAr yX2_belongs 2 := ⟨lw_V q782 q783 q784 q82 q785, ar_X2_belongs⟩
theorem fg_X6_39 : gFld RX6 39 5 5 := gFld.of (T := TX6) (N := 6) rfl (by decide) in_X6 q825
theorem fg_X6_29 : gFld RX6 29 5 2 := gFld.of (T := TX6) (N := 6) rfl (by decide) in_X6 q817
theorem lk_X6_46 : (GoodIn lw_all (ws_ yX1_isIn cX1_isIn 2 (some .boolean)) ∧ gNm RX6 46 yX1_isIn ∧ Cond.initialized (yX1_isIn).cls ∈ lw_all ∧ Cond.static yX1_isIn ∈ lw_all) ∧ gAr yX1_isIn 2 := ⟨⟨lw_meth q809, gNm.of q963, q81, q808⟩, ar_X1_isIn⟩
theorem lk_X6_43 : (GoodIn lw_all (ws_ yX6_init cX6_init 7 none) ∧ Cond.initialized (yX6_init).cls ∈ lw_all ∧ Cond.methodLink RX6 43 yX6_init ∈ lw_all ∧ Cond.instanceMethod yX6_init ∈ lw_all ∧ (yX6_init).name = "<init>") ∧ gAr yX6_init 5 := ⟨⟨lw_meth q774, q113, q1419, q773, rfl⟩, ar_X6_init⟩
theorem fg_X6_20 : gFld RX6 20 5 0 := gFld.of (T := TX6) (N := 6) rfl (by decide) in_X6 q814
theorem fg_X6_26 : gFld RX6 26 5 1 := gFld.of (T := TX6) (N := 6) rfl (by decide) in_X6 q816
theorem fg_X6_32 : gFld RX6 32 5 3 := gFld.of (T := TX6) (N := 6) rfl (by decide) in_X6 q819
theorem lk_X6_53 : GoodIn lw_all (wsV RX6 53 (yJ6_append_3).cls yJ6_append_3 (ws_ yJ6_append_3 cJ6_append_3 2 (some (.object "java/lang/StringBuilder")))) ∧ gAr yJ6_append_3 1 := ⟨lw_V q1741 q1544 q1545 q90 q1546, ar_J6_append_3⟩
theorem lk_X6_59 : GoodIn lw_all (wsV RX6 59 (yJ6_append_2).cls yJ6_append_2 (ws_ yJ6_append_2 cJ6_append_2 2 (some (.object "java/lang/StringBuilder")))) ∧ gAr yJ6_append_2 1 := ⟨lw_V q1742 q455 q456 q90 q457, ar_J6_append_2⟩
theorem fg_X6_36 : gFld RX6 36 5 4 := gFld.of (T := TX6) (N := 6) rfl (by decide) in_X6 q822
theorem lo_X7_1 : Cond.methodLink RX7 1 Lib.objectInit ∈ lw_all := q1500
theorem fp_X7_7 : gPut RX7 7 6 0 (.int) true := gPut.ofF (T := TX7) (N := 3) tyX7 rfl (by decide) in_X7 q1501 tyX7_ok nmX7 rfl rfl rfl
theorem fp_X7_13 : gPut RX7 13 6 1 (.int) true := gPut.ofF (T := TX7) (N := 3) tyX7 rfl (by decide) in_X7 q1503 tyX7_ok nmX7 rfl rfl rfl
theorem fp_X7_16 : gPut RX7 16 6 2 (.boolean) true := gPut.ofF (T := TX7) (N := 3) tyX7 rfl (by decide) in_X7 q1505 tyX7_ok nmX7 rfl rfl rfl
theorem lo_X8_3 : Cond.methodLink RX8 3 Lib.objectInit ∈ lw_all := q671
theorem fp_X8_9 : gPut RX8 9 7 0 (.object "java/lang/StringBuilder") true := gPut.ofF (T := TX8) (N := 2) tyX8 rfl (by decide) in_X8 q672 tyX8_ok nmX8 rfl rfl rfl
theorem nw_X8_67 : gNew RX8 67 8 [.int 0, .null] := ⟨RX9, TX9, tyX9, rfl, in_X9, tyX9_ok, q683, q684, q117, by decide +kernel⟩
theorem ar_X8_number : gAr yX8_number 1 := ⟨by decide +kernel, by decide +kernel, by decide +kernel⟩
theorem lk_X8_57 : GoodIn lw_all (wsV RX8 57 (yX8_number).cls yX8_number (ws_ yX8_number cX8_number 4 (some .int))) ∧ gAr yX8_number 1 := ⟨lw_V q685 q687 qs1 q116 q688, ar_X8_number⟩
theorem ar_X9_init : gAr yX9_init 1 := ⟨by decide +kernel, by decide +kernel, by decide +kernel⟩
theorem lk_X8_69 : (GoodIn lw_all (ws_ yX9_init cX9_init 2 none) ∧ Cond.initialized (yX9_init).cls ∈ lw_all ∧ Cond.methodLink RX8 69 yX9_init ∈ lw_all ∧ Cond.instanceMethod yX9_init ∈ lw_all ∧ (yX9_init).name = "<init>") ∧ gAr yX9_init 1 := ⟨⟨lw_meth q736, q117, q734, q735, rfl⟩, ar_X9_init⟩
theorem ar_X8_takes : gAr yX8_takes 1 := ⟨by decide +kernel, by decide +kernel, by decide +kernel⟩
theorem lk_X8_52 : GoodIn lw_all (wsV RX8 52 (yX8_takes).cls yX8_takes (ws_ yX8_takes cX8_takes 2 none)) ∧ gAr yX8_takes 1 := ⟨lw_V q748 q750 qs3 q116 q751, ar_X8_takes⟩
theorem fg_X8_15 : gFld RX8 15 7 1 := gFld.of (T := TX8) (N := 2) rfl (by decide) in_X8 q673
theorem fg_X8_9 : gFld RX8 9 7 0 := gFld.of (T := TX8) (N := 2) rfl (by decide) in_X8 q672
theorem lk_X8_19 : GoodIn lw_all (wsV RX8 19 (yJ6_length).cls yJ6_length (ws_ yJ6_length cJ6_length 1 (some .int))) ∧ gAr yJ6_length 0 := ⟨lw_V q693 q313 q314 q90 q315, ar_J6_length⟩
theorem fg_X8_70 : gFld RX8 70 8 1 := gFld.ofN (T := TX9) (N := 2) rfl (by decide) in_X9 q742
theorem ar_X8_entry : gAr yX8_entry 0 := ⟨by decide +kernel, by decide +kernel, by decide +kernel⟩
theorem lk_X8_74 : GoodIn lw_all (wsV RX8 74 (yX8_entry).cls yX8_entry (ws_ yX8_entry cX8_entry 5 (some (.object "PermissionDesk$Entry")))) ∧ gAr yX8_entry 0 := ⟨lw_V q760 q762 qs6 q116 q763, ar_X8_entry⟩
theorem lk_X8_78 : GoodIn lw_all (wsV RX8 78 (yJ2_add).cls yJ2_add (ws_ yJ2_add cJ2_add 2 (some .boolean))) ∧ gAr yJ2_add 1 := ⟨lw_V q839 q840 q841 q85 q842, ar_J2_add⟩
theorem lk_X8_84 : GoodIn lw_all (wsV RX8 84 (yJ2_size).cls yJ2_size (ws_ yJ2_size cJ2_size 1 (some .int))) ∧ gAr yJ2_size 0 := ⟨lw_V q894 q787 q788 q85 q789, ar_J2_size⟩
theorem nw_X8_36 : gNew RX8 36 9 [.null, .null, .null, .null, .null, .int 0, .int 0] := ⟨RX10, TX10, tyX10, rfl, in_X10, tyX10_ok, q712, q713, q118, by decide +kernel⟩
theorem ar_X10_init : gAr yX10_init 1 := ⟨by decide +kernel, by decide +kernel, by decide +kernel⟩
theorem lk_X8_38 : (GoodIn lw_all (ws_ yX10_init cX10_init 2 none) ∧ Cond.initialized (yX10_init).cls ∈ lw_all ∧ Cond.methodLink RX8 38 yX10_init ∈ lw_all ∧ Cond.instanceMethod yX10_init ∈ lw_all ∧ (yX10_init).name = "<init>") ∧ gAr yX10_init 1 := ⟨⟨lw_meth q723, q118, q721, q722, rfl⟩, ar_X10_init⟩
theorem ar_X8_figure : gAr yX8_figure 0 := ⟨by decide +kernel, by decide +kernel, by decide +kernel⟩
theorem lk_X8_45 : GoodIn lw_all (wsV RX8 45 (yX8_figure).cls yX8_figure (ws_ yX8_figure cX8_figure 1 (some .int))) ∧ gAr yX8_figure 0 := ⟨lw_V q689 q691 qs2 q116 q692, ar_X8_figure⟩
theorem fp_X8_15 : gPut RX8 15 7 1 (.int) false := gPut.of (T := TX8) (N := 2) tyX8 rfl (by decide) in_X8 q673 tyX8_ok nmX8 rfl rfl
theorem lk_X8_25 : GoodIn lw_all (wsV RX8 25 (yJ6_charAt).cls yJ6_charAt (ws_ yJ6_charAt cJ6_charAt 2 (some .char))) ∧ gAr yJ6_charAt 1 := ⟨lw_V q694 q695 q696 q90 q697, ar_J6_charAt⟩
theorem lk_X8_41 : (GoodIn lw_all (ws_ yX1_inRange cX1_inRange 3 (some .boolean)) ∧ gNm RX8 41 yX1_inRange ∧ Cond.initialized (yX1_inRange).cls ∈ lw_all ∧ Cond.static yX1_inRange ∈ lw_all) ∧ gAr yX1_inRange 3 := ⟨⟨lw_meth q711, gNm.of q709, q81, q710⟩, ar_X1_inRange⟩
theorem ar_X8_goesOn : gAr yX8_goesOn 1 := ⟨by decide +kernel, by decide +kernel, by decide +kernel⟩
theorem lk_X8_33 : GoodIn lw_all (wsV RX8 33 (yX8_goesOn).cls yX8_goesOn (ws_ yX8_goesOn cX8_goesOn 3 (some .boolean))) ∧ gAr yX8_goesOn 1 := ⟨lw_V q752 q754 qs4 q116 q755, ar_X8_goesOn⟩
theorem ar_X8_isNow : gAr yX8_isNow 1 := ⟨by decide +kernel, by decide +kernel, by decide +kernel⟩
theorem lk_X8_29 : GoodIn lw_all (wsV RX8 29 (yX8_isNow).cls yX8_isNow (ws_ yX8_isNow cX8_isNow 2 (some .boolean))) ∧ gAr yX8_isNow 1 := ⟨lw_V q756 q758 qs5 q116 q759, ar_X8_isNow⟩
theorem ar_X8_rights : gAr yX8_rights 0 := ⟨by decide +kernel, by decide +kernel, by decide +kernel⟩
theorem lk_X8_61 : GoodIn lw_all (wsV RX8 61 (yX8_rights).cls yX8_rights (ws_ yX8_rights cX8_rights 3 (some .int))) ∧ gAr yX8_rights 0 := ⟨lw_V q764 q766 qs7 q116 q767, ar_X8_rights⟩
theorem nw_X8_55 : gNew RX8 55 5 [.int 0, .int 0, .int 0, .int 0, .int 0, .null] := ⟨RX6, TX6, tyX6, rfl, in_X6, tyX6_ok, q770, q771, q113, by decide +kernel⟩
theorem lk_X8_64 : (GoodIn lw_all (ws_ yX6_init cX6_init 7 none) ∧ Cond.initialized (yX6_init).cls ∈ lw_all ∧ Cond.methodLink RX8 64 yX6_init ∈ lw_all ∧ Cond.instanceMethod yX6_init ∈ lw_all ∧ (yX6_init).name = "<init>") ∧ gAr yX6_init 5 := ⟨⟨lw_meth q774, q113, q772, q773, rfl⟩, ar_X6_init⟩
theorem lo_X9_1 : Cond.methodLink RX9 1 Lib.objectInit ∈ lw_all := q737
theorem nw_X9_7 : gNew RX9 7 12 [.int 0, .null, .int 0] := ⟨RJ2, TJ2, tyJ2, rfl, in_J2, tyJ2_ok, q738, q139, q85, by decide +kernel⟩
theorem lk_X9_9 : (GoodIn lw_all (ws_ yJ2_init cJ2_init 1 none) ∧ Cond.initialized (yJ2_init).cls ∈ lw_all ∧ Cond.methodLink RX9 9 yJ2_init ∈ lw_all ∧ Cond.instanceMethod yJ2_init ∈ lw_all ∧ (yJ2_init).name = "<init>") ∧ gAr yJ2_init 0 := ⟨⟨lw_meth q142, q85, q739, q141, rfl⟩, ar_J2_init⟩
theorem fp_X9_10 : gPut RX9 10 8 1 (.object "java/util/ArrayList") true := gPut.ofF (T := TX9) (N := 2) tyX9 rfl (by decide) in_X9 q741 tyX9_ok nmX9 rfl rfl rfl
theorem fp_X9_16 : gPut RX9 16 8 0 (.int) true := gPut.ofF (T := TX9) (N := 2) tyX9 rfl (by decide) in_X9 q740 tyX9_ok nmX9 rfl rfl rfl
theorem fg_X9_16 : gFld RX9 16 8 0 := gFld.of (T := TX9) (N := 2) rfl (by decide) in_X9 q740
theorem lk_X9_20 : GoodIn lw_all (wsV RX9 20 (yX2_has).cls yX2_has (ws_ yX2_has cX2_has 2 (some .boolean))) ∧ gAr yX2_has 1 := ⟨lw_V q1577 q913 q914 q82 q915, ar_X2_has⟩
theorem fg_X9_10 : gFld RX9 10 8 1 := gFld.of (T := TX9) (N := 2) rfl (by decide) in_X9 q741
theorem lk_X9_26 : GoodIn lw_all (wsV RX9 26 (yJ2_iterator).cls yJ2_iterator (ws_ yJ2_iterator cJ2_iterator 1 (some (.object "java/util/Iterator")))) ∧ gAr yJ2_iterator 0 := ⟨lw_V q1578 q1021 q1022 q85 q1023, ar_J2_iterator⟩
theorem lk_X9_42 : GoodIn lw_all (wsV RX9 42 (yX6_whoIf).cls yX6_whoIf (ws_ yX6_whoIf cX6_whoIf 2 (some .int))) ∧ gAr yX6_whoIf 1 := ⟨lw_V q1584 q1585 q1586 q113 q1587, ar_X6_whoIf⟩
theorem lk_X9_46 : GoodIn lw_all (wsV RX9 46 (yX2_hasUser).cls yX2_hasUser (ws_ yX2_hasUser cX2_hasUser 2 (some .boolean))) ∧ gAr yX2_hasUser 1 := ⟨lw_V q1588 q1224 q1225 q82 q1226, ar_X2_hasUser⟩
theorem lk_X9_49 : GoodIn lw_all (wsV RX9 49 (yX2_hasGroup).cls yX2_hasGroup (ws_ yX2_hasGroup cX2_hasGroup 2 (some .boolean))) ∧ gAr yX2_hasGroup 1 := ⟨lw_V q1589 q1228 q1229 q82 q1230, ar_X2_hasGroup⟩
theorem nw_X9_52 : gNew RX9 52 10 [.null, .null, .null, .null, .null, .int 0] := ⟨RX11, TX11, tyX11, rfl, in_X11, tyX11_ok, q1590, q1591, q119, by decide +kernel⟩
theorem ar_X11_init : gAr yX11_init 0 := ⟨by decide +kernel, by decide +kernel, by decide +kernel⟩
theorem lk_X9_54 : (GoodIn lw_all (ws_ yX11_init cX11_init 1 none) ∧ gNm RX9 54 yX11_init ∧ Cond.initialized (yX11_init).cls ∈ lw_all ∧ Cond.instanceMethod yX11_init ∈ lw_all ∧ (yX11_init).name = "<init>") ∧ gAr yX11_init 0 := ⟨⟨lw_meth q1601, gNm.of q1599, q119, q1600, rfl⟩, ar_X11_init⟩
theorem fg_X9_55 : gFld RX9 55 1 2 := gFld.ofN (T := TX2) (N := 6) rfl (by decide) in_X2 q196
theorem fg_X9_59 : gFld RX9 59 2 4 := gFld.ofN (T := TX3) (N := 5) rfl (by decide) in_X3 q243
theorem ar_J2_clear : gAr yJ2_clear 0 := ⟨by decide +kernel, by decide +kernel, by decide +kernel⟩
theorem lk_X9_62 : GoodIn lw_all (wsV RX9 62 (yJ2_clear).cls yJ2_clear (ws_ yJ2_clear cJ2_clear 4 none)) ∧ gAr yJ2_clear 0 := ⟨lw_V q1605 q1606 q1607 q85 q1608, ar_J2_clear⟩
theorem lk_X9_65 : GoodIn lw_all (wsV RX9 65 (yJ2_addAll).cls yJ2_addAll (ws_ yJ2_addAll cJ2_addAll 6 (some .boolean))) ∧ gAr yJ2_addAll 1 := ⟨lw_V q1609 q1094 q1095 q85 q1096, ar_J2_addAll⟩
theorem lk_X9_69 : GoodIn lw_all (wsV RX9 69 (yJ2_size).cls yJ2_size (ws_ yJ2_size cJ2_size 1 (some .int))) ∧ gAr yJ2_size 0 := ⟨lw_V q1610 q787 q788 q85 q789, ar_J2_size⟩
