/-! THE TABLES ARE RIGHT, by program (wip/gen/gentabok.py) -/
set_option maxRecDepth 100000
theorem f_ok_0 : F_ok 1 10 20 0 2 false := Or.inl ⟨by decide, RX1, TX1, 15, "TableTower", rfl, by decide, by decide +kernel, rfl, fun _ _ _ _ h => h, Or.inl q702⟩
theorem f_ok_1 : F_ok 1 19 20 1 2 true := Or.inl ⟨by decide, RX1, TX1, 15, "TableTower", rfl, by decide, by decide +kernel, rfl, fun _ _ _ _ h => h, Or.inl q703⟩
theorem f_ok_2 : F_ok 1 23 20 2 2 true := Or.inl ⟨by decide, RX1, TX1, 15, "TableTower", rfl, by decide, by decide +kernel, rfl, fun _ _ _ _ h => h, Or.inl q704⟩
theorem f_ok_3 : F_ok 1 26 23 0 2 true := Or.inl ⟨by decide, RX5, TX5, 7, "TableTower$Book", rfl, by decide, by decide +kernel, rfl, fun _ _ _ _ h => h, Or.inr ⟨"TableTower", List.mem_of_getElem? (i := 0) rfl, by decide +kernel⟩⟩
theorem f_ok_4 : F_ok 1 30 20 3 2 true := Or.inl ⟨by decide, RX1, TX1, 15, "TableTower", rfl, by decide, by decide +kernel, rfl, fun _ _ _ _ h => h, Or.inl q705⟩
theorem f_ok_5 : F_ok 1 34 20 4 2 true := Or.inl ⟨by decide, RX1, TX1, 15, "TableTower", rfl, by decide, by decide +kernel, rfl, fun _ _ _ _ h => h, Or.inl q706⟩
theorem f_ok_6 : F_ok 1 37 20 6 2 true := Or.inl ⟨by decide, RX1, TX1, 15, "TableTower", rfl, by decide, by decide +kernel, rfl, fun _ _ _ _ h => h, Or.inl q708⟩
theorem f_ok_7 : F_ok 1 41 20 8 0 false := Or.inl ⟨by decide, RX1, TX1, 15, "TableTower", rfl, by decide, by decide +kernel, rfl, fun _ _ _ _ h => h, Or.inl q710⟩
theorem f_ok_8 : F_ok 1 45 20 9 2 true := Or.inl ⟨by decide, RX1, TX1, 15, "TableTower", rfl, by decide, by decide +kernel, rfl, fun _ _ _ _ h => h, Or.inl q711⟩
theorem f_ok_9 : F_ok 1 49 20 10 2 true := Or.inl ⟨by decide, RX1, TX1, 15, "TableTower", rfl, by decide, by decide +kernel, rfl, fun _ _ _ _ h => h, Or.inl q712⟩
theorem f_ok_10 : F_ok 1 53 20 11 2 true := Or.inl ⟨by decide, RX1, TX1, 15, "TableTower", rfl, by decide, by decide +kernel, rfl, fun _ _ _ _ h => h, Or.inl q713⟩
theorem f_ok_11 : F_ok 1 56 20 12 2 true := Or.inl ⟨by decide, RX1, TX1, 15, "TableTower", rfl, by decide, by decide +kernel, rfl, fun _ _ _ _ h => h, Or.inl q714⟩
theorem f_ok_12 : F_ok 1 59 20 13 2 true := Or.inl ⟨by decide, RX1, TX1, 15, "TableTower", rfl, by decide, by decide +kernel, rfl, fun _ _ _ _ h => h, Or.inl q715⟩
theorem f_ok_13 : F_ok 1 73 21 2 2 true := Or.inl ⟨by decide, RX2, TX2, 5, "TableTower$Town", rfl, by decide, by decide +kernel, rfl, fun _ _ _ _ h => h, Or.inr ⟨"TableTower", List.mem_of_getElem? (i := 1) rfl, by decide +kernel⟩⟩
theorem f_ok_14 : F_ok 1 95 24 4 0 false := Or.inl ⟨by decide, RX6, TX6, 7, "TableTower$State", rfl, by decide, by decide +kernel, rfl, fun _ _ _ _ h => h, Or.inr ⟨"TableTower", List.mem_of_getElem? (i := 2) rfl, by decide +kernel⟩⟩
theorem f_ok_15 : F_ok 1 98 20 7 0 false := Or.inl ⟨by decide, RX1, TX1, 15, "TableTower", rfl, by decide, by decide +kernel, rfl, fun _ _ _ _ h => h, Or.inl q709⟩
theorem f_ok_16 : F_ok 1 118 41 1 0 true := Or.inl ⟨by decide, RX9, TXF, 2, "TableTower$Fault", rfl, by decide, by decide +kernel, rfl, fun _ _ _ _ h => h, Or.inr ⟨"TableTower", List.mem_of_getElem? (i := 3) rfl, by decide +kernel⟩⟩
theorem f_ok_17 : F_ok 1 121 23 4 2 true := Or.inl ⟨by decide, RX5, TX5, 7, "TableTower$Book", rfl, by decide, by decide +kernel, rfl, fun _ _ _ _ h => h, Or.inr ⟨"TableTower", List.mem_of_getElem? (i := 4) rfl, by decide +kernel⟩⟩
theorem f_ok_18 : F_ok 1 124 41 0 0 true := Or.inl ⟨by decide, RX9, TXF, 2, "TableTower$Fault", rfl, by decide, by decide +kernel, rfl, fun _ _ _ _ h => h, Or.inr ⟨"TableTower", List.mem_of_getElem? (i := 5) rfl, by decide +kernel⟩⟩
theorem f_ok_19 : F_ok 1 127 23 5 0 false := Or.inl ⟨by decide, RX5, TX5, 7, "TableTower$Book", rfl, by decide, by decide +kernel, rfl, fun _ _ _ _ h => h, Or.inr ⟨"TableTower", List.mem_of_getElem? (i := 6) rfl, by decide +kernel⟩⟩
theorem f_ok_20 : F_ok 1 130 23 6 0 false := Or.inl ⟨by decide, RX5, TX5, 7, "TableTower$Book", rfl, by decide, by decide +kernel, rfl, fun _ _ _ _ h => h, Or.inr ⟨"TableTower", List.mem_of_getElem? (i := 7) rfl, by decide +kernel⟩⟩
theorem f_ok_21 : F_ok 1 133 20 5 3 false := Or.inl ⟨by decide, RX1, TX1, 15, "TableTower", rfl, by decide, by decide +kernel, rfl, fun _ _ _ _ h => h, Or.inl q707⟩
theorem f_ok_22 : F_ok 1 141 21 0 0 false := Or.inl ⟨by decide, RX2, TX2, 5, "TableTower$Town", rfl, by decide, by decide +kernel, rfl, fun _ _ _ _ h => h, Or.inr ⟨"TableTower", List.mem_of_getElem? (i := 8) rfl, by decide +kernel⟩⟩
theorem f_ok_23 : F_ok 1 144 21 1 0 false := Or.inl ⟨by decide, RX2, TX2, 5, "TableTower$Town", rfl, by decide, by decide +kernel, rfl, fun _ _ _ _ h => h, Or.inr ⟨"TableTower", List.mem_of_getElem? (i := 9) rfl, by decide +kernel⟩⟩
theorem f_ok_24 : F_ok 1 155 24 6 0 false := Or.inl ⟨by decide, RX6, TX6, 7, "TableTower$State", rfl, by decide, by decide +kernel, rfl, fun _ _ _ _ h => h, Or.inr ⟨"TableTower", List.mem_of_getElem? (i := 10) rfl, by decide +kernel⟩⟩
theorem f_ok_25 : F_ok 1 161 24 5 0 false := Or.inl ⟨by decide, RX6, TX6, 7, "TableTower$State", rfl, by decide, by decide +kernel, rfl, fun _ _ _ _ h => h, Or.inr ⟨"TableTower", List.mem_of_getElem? (i := 11) rfl, by decide +kernel⟩⟩
theorem f_ok_26 : F_ok 1 170 32 0 0 true := Or.inl ⟨by decide, RX15, TX15, 4, "TableTower$Pine", rfl, by decide, by decide +kernel, rfl, fun _ _ _ _ h => h, Or.inl q1445⟩
theorem f_ok_27 : F_ok 1 170 33 0 0 true := Or.inl ⟨by decide, RX16, TX16, 4, "TableTower$Pine", rfl, by decide, by decide +kernel, rfl, fun _ _ _ _ h => h, Or.inl q1445⟩
theorem f_ok_28 : F_ok 1 170 34 0 0 true := Or.inl ⟨by decide, RX17, TX17, 4, "TableTower$Pine", rfl, by decide, by decide +kernel, rfl, fun _ _ _ _ h => h, Or.inl q1445⟩
theorem f_ok_29 : F_ok 1 170 35 0 0 true := Or.inl ⟨by decide, RX18, TX18, 4, "TableTower$Pine", rfl, by decide, by decide +kernel, rfl, fun _ _ _ _ h => h, Or.inl q1445⟩
theorem f_ok_30 : F_ok 1 177 24 3 2 true := Or.inl ⟨by decide, RX6, TX6, 7, "TableTower$State", rfl, by decide, by decide +kernel, rfl, fun _ _ _ _ h => h, Or.inr ⟨"TableTower", List.mem_of_getElem? (i := 12) rfl, by decide +kernel⟩⟩
theorem f_ok_31 : F_ok 1 180 32 3 0 true := Or.inl ⟨by decide, RX15, TX15, 4, "TableTower$Pine", rfl, by decide, by decide +kernel, rfl, fun _ _ _ _ h => h, Or.inl q1451⟩
theorem f_ok_32 : F_ok 1 180 33 3 0 true := Or.inl ⟨by decide, RX16, TX16, 4, "TableTower$Pine", rfl, by decide, by decide +kernel, rfl, fun _ _ _ _ h => h, Or.inl q1451⟩
theorem f_ok_33 : F_ok 1 180 34 3 0 true := Or.inl ⟨by decide, RX17, TX17, 4, "TableTower$Pine", rfl, by decide, by decide +kernel, rfl, fun _ _ _ _ h => h, Or.inl q1451⟩
theorem f_ok_34 : F_ok 1 180 35 3 0 true := Or.inl ⟨by decide, RX18, TX18, 4, "TableTower$Pine", rfl, by decide, by decide +kernel, rfl, fun _ _ _ _ h => h, Or.inl q1451⟩
theorem f_ok_35 : F_ok 1 183 24 1 2 true := Or.inl ⟨by decide, RX6, TX6, 7, "TableTower$State", rfl, by decide, by decide +kernel, rfl, fun _ _ _ _ h => h, Or.inr ⟨"TableTower", List.mem_of_getElem? (i := 13) rfl, by decide +kernel⟩⟩
theorem f_ok_36 : F_ok 1 186 24 2 2 true := Or.inl ⟨by decide, RX6, TX6, 7, "TableTower$State", rfl, by decide, by decide +kernel, rfl, fun _ _ _ _ h => h, Or.inr ⟨"TableTower", List.mem_of_getElem? (i := 14) rfl, by decide +kernel⟩⟩
theorem f_ok_37 : F_ok 1 195 24 0 2 true := Or.inl ⟨by decide, RX6, TX6, 7, "TableTower$State", rfl, by decide, by decide +kernel, rfl, fun _ _ _ _ h => h, Or.inr ⟨"TableTower", List.mem_of_getElem? (i := 15) rfl, by decide +kernel⟩⟩
theorem f_ok_38 : F_ok 1 236 23 1 2 true := Or.inl ⟨by decide, RX5, TX5, 7, "TableTower$Book", rfl, by decide, by decide +kernel, rfl, fun _ _ _ _ h => h, Or.inr ⟨"TableTower", List.mem_of_getElem? (i := 16) rfl, by decide +kernel⟩⟩
theorem f_ok_39 : F_ok 1 318 23 2 2 true := Or.inl ⟨by decide, RX5, TX5, 7, "TableTower$Book", rfl, by decide, by decide +kernel, rfl, fun _ _ _ _ h => h, Or.inr ⟨"TableTower", List.mem_of_getElem? (i := 17) rfl, by decide +kernel⟩⟩
theorem f_ok_40 : F_ok 1 321 23 3 2 true := Or.inl ⟨by decide, RX5, TX5, 7, "TableTower$Book", rfl, by decide, by decide +kernel, rfl, fun _ _ _ _ h => h, Or.inr ⟨"TableTower", List.mem_of_getElem? (i := 18) rfl, by decide +kernel⟩⟩
theorem f_ok_41 : F_ok 1 340 20 14 0 false := Or.inl ⟨by decide, RX1, TX1, 15, "TableTower", rfl, by decide, by decide +kernel, rfl, fun _ _ _ _ h => h, Or.inl q716⟩
theorem f_ok_42 : F_ok 3 7 28 0 0 true := Or.inl ⟨by decide, RX11, TX11, 1, "TableTower$Told", rfl, by decide, by decide +kernel, rfl, fun _ _ _ _ h => h, Or.inl q1344⟩
theorem f_ok_43 : F_ok 4 7 29 0 2 true := Or.inl ⟨by decide, RX12, TX12, 1, "TableTower$Seen", rfl, by decide, by decide +kernel, rfl, fun _ _ _ _ h => h, Or.inl q1374⟩
theorem f_ok_44 : F_ok 4 13 22 0 2 true := Or.inl ⟨by decide, RX3, TX3, 1, "TableTower$View", rfl, by decide, by decide +kernel, rfl, fun _ _ _ _ h => h, Or.inr ⟨"TableTower", List.mem_of_getElem? (i := 23) rfl, by decide +kernel⟩⟩
theorem f_ok_45 : F_ok 5 7 30 0 5 true := Or.inl ⟨by decide, RX13, TX13, 3, "TableTower$Both", rfl, by decide, by decide +kernel, rfl, fun _ _ _ _ h => h, Or.inl q1401⟩
theorem f_ok_46 : F_ok 5 13 30 1 2 true := Or.inl ⟨by decide, RX13, TX13, 3, "TableTower$Both", rfl, by decide, by decide +kernel, rfl, fun _ _ _ _ h => h, Or.inl q1402⟩
theorem f_ok_47 : F_ok 5 17 30 2 2 true := Or.inl ⟨by decide, RX13, TX13, 3, "TableTower$Both", rfl, by decide, by decide +kernel, rfl, fun _ _ _ _ h => h, Or.inl q1403⟩
theorem f_ok_48 : F_ok 6 7 31 0 2 true := Or.inl ⟨by decide, RX14, TX14, 1, "TableTower$Not", rfl, by decide, by decide +kernel, rfl, fun _ _ _ _ h => h, Or.inl q1421⟩
theorem f_ok_49 : F_ok 7 7 32 0 0 true := Or.inl ⟨by decide, RX15, TX15, 4, "TableTower$Pine", rfl, by decide, by decide +kernel, rfl, fun _ _ _ _ h => h, Or.inl q1442⟩
theorem f_ok_50 : F_ok 7 7 33 0 0 true := Or.inl ⟨by decide, RX16, TX16, 4, "TableTower$Pine", rfl, by decide, by decide +kernel, rfl, fun _ _ _ _ h => h, Or.inl q1442⟩
theorem f_ok_51 : F_ok 7 7 34 0 0 true := Or.inl ⟨by decide, RX17, TX17, 4, "TableTower$Pine", rfl, by decide, by decide +kernel, rfl, fun _ _ _ _ h => h, Or.inl q1442⟩
theorem f_ok_52 : F_ok 7 7 35 0 0 true := Or.inl ⟨by decide, RX18, TX18, 4, "TableTower$Pine", rfl, by decide, by decide +kernel, rfl, fun _ _ _ _ h => h, Or.inl q1442⟩
theorem f_ok_53 : F_ok 7 13 32 1 0 true := Or.inl ⟨by decide, RX15, TX15, 4, "TableTower$Pine", rfl, by decide, by decide +kernel, rfl, fun _ _ _ _ h => h, Or.inl q1446⟩
theorem f_ok_54 : F_ok 7 13 33 1 0 true := Or.inl ⟨by decide, RX16, TX16, 4, "TableTower$Pine", rfl, by decide, by decide +kernel, rfl, fun _ _ _ _ h => h, Or.inl q1446⟩
theorem f_ok_55 : F_ok 7 13 34 1 0 true := Or.inl ⟨by decide, RX17, TX17, 4, "TableTower$Pine", rfl, by decide, by decide +kernel, rfl, fun _ _ _ _ h => h, Or.inl q1446⟩
theorem f_ok_56 : F_ok 7 13 35 1 0 true := Or.inl ⟨by decide, RX18, TX18, 4, "TableTower$Pine", rfl, by decide, by decide +kernel, rfl, fun _ _ _ _ h => h, Or.inl q1446⟩
theorem f_ok_57 : F_ok 7 16 32 2 0 true := Or.inl ⟨by decide, RX15, TX15, 4, "TableTower$Pine", rfl, by decide, by decide +kernel, rfl, fun _ _ _ _ h => h, Or.inl q1447⟩
theorem f_ok_58 : F_ok 7 16 33 2 0 true := Or.inl ⟨by decide, RX16, TX16, 4, "TableTower$Pine", rfl, by decide, by decide +kernel, rfl, fun _ _ _ _ h => h, Or.inl q1447⟩
theorem f_ok_59 : F_ok 7 16 34 2 0 true := Or.inl ⟨by decide, RX17, TX17, 4, "TableTower$Pine", rfl, by decide, by decide +kernel, rfl, fun _ _ _ _ h => h, Or.inl q1447⟩
theorem f_ok_60 : F_ok 7 16 35 2 0 true := Or.inl ⟨by decide, RX18, TX18, 4, "TableTower$Pine", rfl, by decide, by decide +kernel, rfl, fun _ _ _ _ h => h, Or.inl q1447⟩
theorem f_ok_61 : F_ok 7 19 32 3 0 true := Or.inl ⟨by decide, RX15, TX15, 4, "TableTower$Pine", rfl, by decide, by decide +kernel, rfl, fun _ _ _ _ h => h, Or.inl q1449⟩
theorem f_ok_62 : F_ok 7 19 33 3 0 true := Or.inl ⟨by decide, RX16, TX16, 4, "TableTower$Pine", rfl, by decide, by decide +kernel, rfl, fun _ _ _ _ h => h, Or.inl q1449⟩
theorem f_ok_63 : F_ok 7 19 34 3 0 true := Or.inl ⟨by decide, RX17, TX17, 4, "TableTower$Pine", rfl, by decide, by decide +kernel, rfl, fun _ _ _ _ h => h, Or.inl q1449⟩
theorem f_ok_64 : F_ok 7 19 35 3 0 true := Or.inl ⟨by decide, RX18, TX18, 4, "TableTower$Pine", rfl, by decide, by decide +kernel, rfl, fun _ _ _ _ h => h, Or.inl q1449⟩
theorem f_ok_65 : F_ok 11 7 21 0 0 false := Or.inl ⟨by decide, RX2, TX2, 5, "TableTower$Town", rfl, by decide, by decide +kernel, rfl, fun _ _ _ _ h => h, Or.inl q525⟩
theorem f_ok_66 : F_ok 11 13 21 1 0 false := Or.inl ⟨by decide, RX2, TX2, 5, "TableTower$Town", rfl, by decide, by decide +kernel, rfl, fun _ _ _ _ h => h, Or.inl q529⟩
theorem f_ok_67 : F_ok 11 21 21 2 2 true := Or.inl ⟨by decide, RX2, TX2, 5, "TableTower$Town", rfl, by decide, by decide +kernel, rfl, fun _ _ _ _ h => h, Or.inl q532⟩
theorem f_ok_68 : F_ok 11 28 21 4 2 true := Or.inl ⟨by decide, RX2, TX2, 5, "TableTower$Town", rfl, by decide, by decide +kernel, rfl, fun _ _ _ _ h => h, Or.inl q538⟩
theorem f_ok_69 : F_ok 11 38 21 3 2 false := Or.inl ⟨by decide, RX2, TX2, 5, "TableTower$Town", rfl, by decide, by decide +kernel, rfl, fun _ _ _ _ h => h, Or.inl q536⟩
theorem f_ok_70 : F_ok 11 42 32 3 0 true := Or.inl ⟨by decide, RX15, TX15, 4, "TableTower$Pine", rfl, by decide, by decide +kernel, rfl, fun _ _ _ _ h => h, Or.inl q1450⟩
theorem f_ok_71 : F_ok 11 42 33 3 0 true := Or.inl ⟨by decide, RX16, TX16, 4, "TableTower$Pine", rfl, by decide, by decide +kernel, rfl, fun _ _ _ _ h => h, Or.inl q1450⟩
theorem f_ok_72 : F_ok 11 42 34 3 0 true := Or.inl ⟨by decide, RX17, TX17, 4, "TableTower$Pine", rfl, by decide, by decide +kernel, rfl, fun _ _ _ _ h => h, Or.inl q1450⟩
theorem f_ok_73 : F_ok 11 42 35 3 0 true := Or.inl ⟨by decide, RX18, TX18, 4, "TableTower$Pine", rfl, by decide, by decide +kernel, rfl, fun _ _ _ _ h => h, Or.inl q1450⟩
theorem f_ok_74 : F_ok 11 80 32 0 0 true := Or.inl ⟨by decide, RX15, TX15, 4, "TableTower$Pine", rfl, by decide, by decide +kernel, rfl, fun _ _ _ _ h => h, Or.inl q1443⟩
theorem f_ok_75 : F_ok 11 80 33 0 0 true := Or.inl ⟨by decide, RX16, TX16, 4, "TableTower$Pine", rfl, by decide, by decide +kernel, rfl, fun _ _ _ _ h => h, Or.inl q1443⟩
theorem f_ok_76 : F_ok 11 80 34 0 0 true := Or.inl ⟨by decide, RX17, TX17, 4, "TableTower$Pine", rfl, by decide, by decide +kernel, rfl, fun _ _ _ _ h => h, Or.inl q1443⟩
theorem f_ok_77 : F_ok 11 80 35 0 0 true := Or.inl ⟨by decide, RX18, TX18, 4, "TableTower$Pine", rfl, by decide, by decide +kernel, rfl, fun _ _ _ _ h => h, Or.inl q1443⟩
theorem f_ok_78 : F_ok 12 13 22 0 2 true := Or.inl ⟨by decide, RX3, TX3, 1, "TableTower$View", rfl, by decide, by decide +kernel, rfl, fun _ _ _ _ h => h, Or.inl q519⟩
theorem f_ok_79 : F_ok 14 12 23 0 2 true := Or.inl ⟨by decide, RX5, TX5, 7, "TableTower$Book", rfl, by decide, by decide +kernel, rfl, fun _ _ _ _ h => h, Or.inl q648⟩
theorem f_ok_80 : F_ok 14 23 23 1 2 true := Or.inl ⟨by decide, RX5, TX5, 7, "TableTower$Book", rfl, by decide, by decide +kernel, rfl, fun _ _ _ _ h => h, Or.inl q650⟩
theorem f_ok_81 : F_ok 14 27 23 2 2 true := Or.inl ⟨by decide, RX5, TX5, 7, "TableTower$Book", rfl, by decide, by decide +kernel, rfl, fun _ _ _ _ h => h, Or.inl q652⟩
theorem f_ok_82 : F_ok 14 31 23 3 2 true := Or.inl ⟨by decide, RX5, TX5, 7, "TableTower$Book", rfl, by decide, by decide +kernel, rfl, fun _ _ _ _ h => h, Or.inl q654⟩
theorem f_ok_83 : F_ok 14 34 23 4 2 true := Or.inl ⟨by decide, RX5, TX5, 7, "TableTower$Book", rfl, by decide, by decide +kernel, rfl, fun _ _ _ _ h => h, Or.inl q656⟩
theorem f_ok_84 : F_ok 14 41 23 5 0 false := Or.inl ⟨by decide, RX5, TX5, 7, "TableTower$Book", rfl, by decide, by decide +kernel, rfl, fun _ _ _ _ h => h, Or.inl q658⟩
theorem f_ok_85 : F_ok 14 62 23 6 0 false := Or.inl ⟨by decide, RX5, TX5, 7, "TableTower$Book", rfl, by decide, by decide +kernel, rfl, fun _ _ _ _ h => h, Or.inl q660⟩
theorem f_ok_86 : F_ok 15 9 24 0 2 true := Or.inl ⟨by decide, RX6, TX6, 7, "TableTower$State", rfl, by decide, by decide +kernel, rfl, fun _ _ _ _ h => h, Or.inl q562⟩
theorem f_ok_87 : F_ok 15 15 24 1 2 true := Or.inl ⟨by decide, RX6, TX6, 7, "TableTower$State", rfl, by decide, by decide +kernel, rfl, fun _ _ _ _ h => h, Or.inl q564⟩
theorem f_ok_88 : F_ok 15 18 24 2 2 true := Or.inl ⟨by decide, RX6, TX6, 7, "TableTower$State", rfl, by decide, by decide +kernel, rfl, fun _ _ _ _ h => h, Or.inl q566⟩
theorem f_ok_89 : F_ok 15 21 24 3 2 true := Or.inl ⟨by decide, RX6, TX6, 7, "TableTower$State", rfl, by decide, by decide +kernel, rfl, fun _ _ _ _ h => h, Or.inl q568⟩
theorem f_ok_90 : F_ok 15 24 21 2 2 true := Or.inl ⟨by decide, RX2, TX2, 5, "TableTower$Town", rfl, by decide, by decide +kernel, rfl, fun _ _ _ _ h => h, Or.inr ⟨"TableTower", List.mem_of_getElem? (i := 24) rfl, by decide +kernel⟩⟩
theorem f_ok_91 : F_ok 15 36 24 4 0 false := Or.inl ⟨by decide, RX6, TX6, 7, "TableTower$State", rfl, by decide, by decide +kernel, rfl, fun _ _ _ _ h => h, Or.inl q570⟩
theorem f_ok_92 : F_ok 15 40 24 5 0 false := Or.inl ⟨by decide, RX6, TX6, 7, "TableTower$State", rfl, by decide, by decide +kernel, rfl, fun _ _ _ _ h => h, Or.inl q572⟩
theorem f_ok_93 : F_ok 15 43 24 6 0 false := Or.inl ⟨by decide, RX6, TX6, 7, "TableTower$State", rfl, by decide, by decide +kernel, rfl, fun _ _ _ _ h => h, Or.inl q574⟩
theorem f_ok_94 : F_ok 15 52 32 2 0 true := Or.inl ⟨by decide, RX15, TX15, 4, "TableTower$Pine", rfl, by decide, by decide +kernel, rfl, fun _ _ _ _ h => h, Or.inl q1448⟩
theorem f_ok_95 : F_ok 15 52 33 2 0 true := Or.inl ⟨by decide, RX16, TX16, 4, "TableTower$Pine", rfl, by decide, by decide +kernel, rfl, fun _ _ _ _ h => h, Or.inl q1448⟩
theorem f_ok_96 : F_ok 15 52 34 2 0 true := Or.inl ⟨by decide, RX17, TX17, 4, "TableTower$Pine", rfl, by decide, by decide +kernel, rfl, fun _ _ _ _ h => h, Or.inl q1448⟩
theorem f_ok_97 : F_ok 15 52 35 2 0 true := Or.inl ⟨by decide, RX18, TX18, 4, "TableTower$Pine", rfl, by decide, by decide +kernel, rfl, fun _ _ _ _ h => h, Or.inl q1448⟩
theorem f_ok_98 : F_ok 15 60 32 0 0 true := Or.inl ⟨by decide, RX15, TX15, 4, "TableTower$Pine", rfl, by decide, by decide +kernel, rfl, fun _ _ _ _ h => h, Or.inl q1444⟩
theorem f_ok_99 : F_ok 15 60 33 0 0 true := Or.inl ⟨by decide, RX16, TX16, 4, "TableTower$Pine", rfl, by decide, by decide +kernel, rfl, fun _ _ _ _ h => h, Or.inl q1444⟩
theorem f_ok_100 : F_ok 15 60 34 0 0 true := Or.inl ⟨by decide, RX17, TX17, 4, "TableTower$Pine", rfl, by decide, by decide +kernel, rfl, fun _ _ _ _ h => h, Or.inl q1444⟩
theorem f_ok_101 : F_ok 15 60 35 0 0 true := Or.inl ⟨by decide, RX18, TX18, 4, "TableTower$Pine", rfl, by decide, by decide +kernel, rfl, fun _ _ _ _ h => h, Or.inl q1444⟩
theorem f_ok_102 : F_ok 15 89 21 0 0 false := Or.inl ⟨by decide, RX2, TX2, 5, "TableTower$Town", rfl, by decide, by decide +kernel, rfl, fun _ _ _ _ h => h, Or.inr ⟨"TableTower", List.mem_of_getElem? (i := 25) rfl, by decide +kernel⟩⟩
theorem f_ok_103 : F_ok 15 104 32 3 0 true := Or.inl ⟨by decide, RX15, TX15, 4, "TableTower$Pine", rfl, by decide, by decide +kernel, rfl, fun _ _ _ _ h => h, Or.inl q1452⟩
theorem f_ok_104 : F_ok 15 104 33 3 0 true := Or.inl ⟨by decide, RX16, TX16, 4, "TableTower$Pine", rfl, by decide, by decide +kernel, rfl, fun _ _ _ _ h => h, Or.inl q1452⟩
theorem f_ok_105 : F_ok 15 104 34 3 0 true := Or.inl ⟨by decide, RX17, TX17, 4, "TableTower$Pine", rfl, by decide, by decide +kernel, rfl, fun _ _ _ _ h => h, Or.inl q1452⟩
theorem f_ok_106 : F_ok 15 104 35 3 0 true := Or.inl ⟨by decide, RX18, TX18, 4, "TableTower$Pine", rfl, by decide, by decide +kernel, rfl, fun _ _ _ _ h => h, Or.inl q1452⟩
theorem f_ok_107 : F_ok 16 19 25 0 2 true := Or.inl ⟨by decide, RX7, TX7, 58, "TableTowerModel", rfl, by decide, by decide +kernel, rfl, fun _ _ _ _ h => h, Or.inl q1730⟩
theorem f_ok_108 : F_ok 16 35 25 1 2 true := Or.inl ⟨by decide, RX7, TX7, 58, "TableTowerModel", rfl, by decide, by decide +kernel, rfl, fun _ _ _ _ h => h, Or.inl q1731⟩
theorem f_ok_109 : F_ok 16 38 25 2 2 true := Or.inl ⟨by decide, RX7, TX7, 58, "TableTowerModel", rfl, by decide, by decide +kernel, rfl, fun _ _ _ _ h => h, Or.inl q1732⟩
theorem f_ok_110 : F_ok 16 42 25 4 2 true := Or.inl ⟨by decide, RX7, TX7, 58, "TableTowerModel", rfl, by decide, by decide +kernel, rfl, fun _ _ _ _ h => h, Or.inl q1734⟩
theorem f_ok_111 : F_ok 16 45 25 5 2 true := Or.inl ⟨by decide, RX7, TX7, 58, "TableTowerModel", rfl, by decide, by decide +kernel, rfl, fun _ _ _ _ h => h, Or.inl q1735⟩
theorem f_ok_112 : F_ok 16 47 25 6 2 true := Or.inl ⟨by decide, RX7, TX7, 58, "TableTowerModel", rfl, by decide, by decide +kernel, rfl, fun _ _ _ _ h => h, Or.inl q1736⟩
theorem f_ok_113 : F_ok 16 49 25 7 2 true := Or.inl ⟨by decide, RX7, TX7, 58, "TableTowerModel", rfl, by decide, by decide +kernel, rfl, fun _ _ _ _ h => h, Or.inl q1737⟩
theorem f_ok_114 : F_ok 16 52 25 8 2 true := Or.inl ⟨by decide, RX7, TX7, 58, "TableTowerModel", rfl, by decide, by decide +kernel, rfl, fun _ _ _ _ h => h, Or.inl q1738⟩
theorem f_ok_115 : F_ok 16 55 25 9 2 true := Or.inl ⟨by decide, RX7, TX7, 58, "TableTowerModel", rfl, by decide, by decide +kernel, rfl, fun _ _ _ _ h => h, Or.inl q1739⟩
theorem f_ok_116 : F_ok 16 57 25 10 2 true := Or.inl ⟨by decide, RX7, TX7, 58, "TableTowerModel", rfl, by decide, by decide +kernel, rfl, fun _ _ _ _ h => h, Or.inl q1740⟩
theorem f_ok_117 : F_ok 16 60 25 11 2 true := Or.inl ⟨by decide, RX7, TX7, 58, "TableTowerModel", rfl, by decide, by decide +kernel, rfl, fun _ _ _ _ h => h, Or.inl q1741⟩
theorem f_ok_118 : F_ok 16 63 25 12 2 true := Or.inl ⟨by decide, RX7, TX7, 58, "TableTowerModel", rfl, by decide, by decide +kernel, rfl, fun _ _ _ _ h => h, Or.inl q1742⟩
theorem f_ok_119 : F_ok 16 66 25 22 0 false := Or.inl ⟨by decide, RX7, TX7, 58, "TableTowerModel", rfl, by decide, by decide +kernel, rfl, fun _ _ _ _ h => h, Or.inl q1752⟩
theorem f_ok_120 : F_ok 16 70 25 23 2 true := Or.inl ⟨by decide, RX7, TX7, 58, "TableTowerModel", rfl, by decide, by decide +kernel, rfl, fun _ _ _ _ h => h, Or.inl q1753⟩
theorem f_ok_121 : F_ok 16 73 25 24 2 true := Or.inl ⟨by decide, RX7, TX7, 58, "TableTowerModel", rfl, by decide, by decide +kernel, rfl, fun _ _ _ _ h => h, Or.inl q1754⟩
theorem f_ok_122 : F_ok 16 76 25 25 2 true := Or.inl ⟨by decide, RX7, TX7, 58, "TableTowerModel", rfl, by decide, by decide +kernel, rfl, fun _ _ _ _ h => h, Or.inl q1755⟩
theorem f_ok_123 : F_ok 16 79 25 26 2 true := Or.inl ⟨by decide, RX7, TX7, 58, "TableTowerModel", rfl, by decide, by decide +kernel, rfl, fun _ _ _ _ h => h, Or.inl q1756⟩
theorem f_ok_124 : F_ok 16 82 25 27 2 true := Or.inl ⟨by decide, RX7, TX7, 58, "TableTowerModel", rfl, by decide, by decide +kernel, rfl, fun _ _ _ _ h => h, Or.inl q1757⟩
theorem f_ok_125 : F_ok 16 85 25 30 0 false := Or.inl ⟨by decide, RX7, TX7, 58, "TableTowerModel", rfl, by decide, by decide +kernel, rfl, fun _ _ _ _ h => h, Or.inl q1760⟩
theorem f_ok_126 : F_ok 16 88 25 33 2 true := Or.inl ⟨by decide, RX7, TX7, 58, "TableTowerModel", rfl, by decide, by decide +kernel, rfl, fun _ _ _ _ h => h, Or.inl q1763⟩
theorem f_ok_127 : F_ok 16 91 25 34 2 true := Or.inl ⟨by decide, RX7, TX7, 58, "TableTowerModel", rfl, by decide, by decide +kernel, rfl, fun _ _ _ _ h => h, Or.inl q1764⟩
theorem f_ok_128 : F_ok 16 94 25 35 2 true := Or.inl ⟨by decide, RX7, TX7, 58, "TableTowerModel", rfl, by decide, by decide +kernel, rfl, fun _ _ _ _ h => h, Or.inl q1765⟩
theorem f_ok_129 : F_ok 16 97 25 36 2 true := Or.inl ⟨by decide, RX7, TX7, 58, "TableTowerModel", rfl, by decide, by decide +kernel, rfl, fun _ _ _ _ h => h, Or.inl q1766⟩
theorem f_ok_130 : F_ok 16 100 25 37 2 true := Or.inl ⟨by decide, RX7, TX7, 58, "TableTowerModel", rfl, by decide, by decide +kernel, rfl, fun _ _ _ _ h => h, Or.inl q1767⟩
theorem f_ok_131 : F_ok 16 103 25 38 2 true := Or.inl ⟨by decide, RX7, TX7, 58, "TableTowerModel", rfl, by decide, by decide +kernel, rfl, fun _ _ _ _ h => h, Or.inl q1768⟩
theorem f_ok_132 : F_ok 16 107 25 41 2 true := Or.inl ⟨by decide, RX7, TX7, 58, "TableTowerModel", rfl, by decide, by decide +kernel, rfl, fun _ _ _ _ h => h, Or.inl q1771⟩
theorem f_ok_133 : F_ok 16 110 25 42 2 true := Or.inl ⟨by decide, RX7, TX7, 58, "TableTowerModel", rfl, by decide, by decide +kernel, rfl, fun _ _ _ _ h => h, Or.inl q1772⟩
theorem f_ok_134 : F_ok 16 113 25 43 2 true := Or.inl ⟨by decide, RX7, TX7, 58, "TableTowerModel", rfl, by decide, by decide +kernel, rfl, fun _ _ _ _ h => h, Or.inl q1773⟩
theorem f_ok_135 : F_ok 16 116 25 44 2 true := Or.inl ⟨by decide, RX7, TX7, 58, "TableTowerModel", rfl, by decide, by decide +kernel, rfl, fun _ _ _ _ h => h, Or.inl q1774⟩
theorem f_ok_136 : F_ok 16 119 25 45 2 true := Or.inl ⟨by decide, RX7, TX7, 58, "TableTowerModel", rfl, by decide, by decide +kernel, rfl, fun _ _ _ _ h => h, Or.inl q1775⟩
theorem f_ok_137 : F_ok 16 122 25 46 2 true := Or.inl ⟨by decide, RX7, TX7, 58, "TableTowerModel", rfl, by decide, by decide +kernel, rfl, fun _ _ _ _ h => h, Or.inl q1776⟩
theorem f_ok_138 : F_ok 16 125 25 48 2 true := Or.inl ⟨by decide, RX7, TX7, 58, "TableTowerModel", rfl, by decide, by decide +kernel, rfl, fun _ _ _ _ h => h, Or.inl q1778⟩
theorem f_ok_139 : F_ok 16 128 25 53 2 true := Or.inl ⟨by decide, RX7, TX7, 58, "TableTowerModel", rfl, by decide, by decide +kernel, rfl, fun _ _ _ _ h => h, Or.inl q1783⟩
theorem f_ok_140 : F_ok 16 131 25 54 2 true := Or.inl ⟨by decide, RX7, TX7, 58, "TableTowerModel", rfl, by decide, by decide +kernel, rfl, fun _ _ _ _ h => h, Or.inl q1784⟩
theorem f_ok_141 : F_ok 16 134 25 55 2 true := Or.inl ⟨by decide, RX7, TX7, 58, "TableTowerModel", rfl, by decide, by decide +kernel, rfl, fun _ _ _ _ h => h, Or.inl q1785⟩
theorem f_ok_142 : F_ok 16 137 25 56 2 true := Or.inl ⟨by decide, RX7, TX7, 58, "TableTowerModel", rfl, by decide, by decide +kernel, rfl, fun _ _ _ _ h => h, Or.inl q1786⟩
theorem f_ok_143 : F_ok 16 140 25 57 2 true := Or.inl ⟨by decide, RX7, TX7, 58, "TableTowerModel", rfl, by decide, by decide +kernel, rfl, fun _ _ _ _ h => h, Or.inl q1787⟩
theorem f_ok_144 : F_ok 16 143 25 3 0 false := Or.inl ⟨by decide, RX7, TX7, 58, "TableTowerModel", rfl, by decide, by decide +kernel, rfl, fun _ _ _ _ h => h, Or.inl q1733⟩
theorem f_ok_145 : F_ok 16 150 25 28 0 false := Or.inl ⟨by decide, RX7, TX7, 58, "TableTowerModel", rfl, by decide, by decide +kernel, rfl, fun _ _ _ _ h => h, Or.inl q1758⟩
theorem f_ok_146 : F_ok 16 153 25 13 0 false := Or.inl ⟨by decide, RX7, TX7, 58, "TableTowerModel", rfl, by decide, by decide +kernel, rfl, fun _ _ _ _ h => h, Or.inl q1743⟩
theorem f_ok_147 : F_ok 16 156 25 15 0 false := Or.inl ⟨by decide, RX7, TX7, 58, "TableTowerModel", rfl, by decide, by decide +kernel, rfl, fun _ _ _ _ h => h, Or.inl q1745⟩
theorem f_ok_148 : F_ok 16 159 25 14 0 false := Or.inl ⟨by decide, RX7, TX7, 58, "TableTowerModel", rfl, by decide, by decide +kernel, rfl, fun _ _ _ _ h => h, Or.inl q1744⟩
theorem f_ok_149 : F_ok 16 166 25 18 0 false := Or.inl ⟨by decide, RX7, TX7, 58, "TableTowerModel", rfl, by decide, by decide +kernel, rfl, fun _ _ _ _ h => h, Or.inl q1748⟩
theorem f_ok_150 : F_ok 16 169 25 16 0 false := Or.inl ⟨by decide, RX7, TX7, 58, "TableTowerModel", rfl, by decide, by decide +kernel, rfl, fun _ _ _ _ h => h, Or.inl q1746⟩
theorem f_ok_151 : F_ok 16 179 25 17 0 false := Or.inl ⟨by decide, RX7, TX7, 58, "TableTowerModel", rfl, by decide, by decide +kernel, rfl, fun _ _ _ _ h => h, Or.inl q1747⟩
theorem f_ok_152 : F_ok 16 192 25 19 0 false := Or.inl ⟨by decide, RX7, TX7, 58, "TableTowerModel", rfl, by decide, by decide +kernel, rfl, fun _ _ _ _ h => h, Or.inl q1749⟩
theorem f_ok_153 : F_ok 16 195 25 20 0 false := Or.inl ⟨by decide, RX7, TX7, 58, "TableTowerModel", rfl, by decide, by decide +kernel, rfl, fun _ _ _ _ h => h, Or.inl q1750⟩
theorem f_ok_154 : F_ok 16 198 25 21 0 false := Or.inl ⟨by decide, RX7, TX7, 58, "TableTowerModel", rfl, by decide, by decide +kernel, rfl, fun _ _ _ _ h => h, Or.inl q1751⟩
theorem f_ok_155 : F_ok 16 282 25 29 0 false := Or.inl ⟨by decide, RX7, TX7, 58, "TableTowerModel", rfl, by decide, by decide +kernel, rfl, fun _ _ _ _ h => h, Or.inl q1759⟩
theorem f_ok_156 : F_ok 16 285 25 31 0 false := Or.inl ⟨by decide, RX7, TX7, 58, "TableTowerModel", rfl, by decide, by decide +kernel, rfl, fun _ _ _ _ h => h, Or.inl q1761⟩
theorem f_ok_157 : F_ok 16 288 25 32 0 false := Or.inl ⟨by decide, RX7, TX7, 58, "TableTowerModel", rfl, by decide, by decide +kernel, rfl, fun _ _ _ _ h => h, Or.inl q1762⟩
theorem f_ok_158 : F_ok 16 291 25 50 3 false := Or.inl ⟨by decide, RX7, TX7, 58, "TableTowerModel", rfl, by decide, by decide +kernel, rfl, fun _ _ _ _ h => h, Or.inl q1780⟩
theorem f_ok_159 : F_ok 16 392 25 39 0 false := Or.inl ⟨by decide, RX7, TX7, 58, "TableTowerModel", rfl, by decide, by decide +kernel, rfl, fun _ _ _ _ h => h, Or.inl q1769⟩
theorem f_ok_160 : F_ok 16 402 25 40 0 false := Or.inl ⟨by decide, RX7, TX7, 58, "TableTowerModel", rfl, by decide, by decide +kernel, rfl, fun _ _ _ _ h => h, Or.inl q1770⟩
theorem f_ok_161 : F_ok 16 442 25 47 0 false := Or.inl ⟨by decide, RX7, TX7, 58, "TableTowerModel", rfl, by decide, by decide +kernel, rfl, fun _ _ _ _ h => h, Or.inl q1777⟩
theorem f_ok_162 : F_ok 16 462 25 49 0 false := Or.inl ⟨by decide, RX7, TX7, 58, "TableTowerModel", rfl, by decide, by decide +kernel, rfl, fun _ _ _ _ h => h, Or.inl q1779⟩
theorem f_ok_163 : F_ok 16 474 25 51 0 false := Or.inl ⟨by decide, RX7, TX7, 58, "TableTowerModel", rfl, by decide, by decide +kernel, rfl, fun _ _ _ _ h => h, Or.inl q1781⟩
theorem f_ok_164 : F_ok 16 477 25 52 0 false := Or.inl ⟨by decide, RX7, TX7, 58, "TableTowerModel", rfl, by decide, by decide +kernel, rfl, fun _ _ _ _ h => h, Or.inl q1782⟩
theorem f_ok_165 : F_ok 17 11 26 7 2 false := Or.inl ⟨by decide, RX8, TX8, 9, "TableTower$Reader", rfl, by decide, by decide +kernel, rfl, fun _ _ _ _ h => h, Or.inl q1233⟩
theorem f_ok_166 : F_ok 17 17 26 8 2 true := Or.inl ⟨by decide, RX8, TX8, 9, "TableTower$Reader", rfl, by decide, by decide +kernel, rfl, fun _ _ _ _ h => h, Or.inl q1234⟩
theorem f_ok_167 : F_ok 17 21 26 0 2 true := Or.inl ⟨by decide, RX8, TX8, 9, "TableTower$Reader", rfl, by decide, by decide +kernel, rfl, fun _ _ _ _ h => h, Or.inl q1226⟩
theorem f_ok_168 : F_ok 17 25 26 1 0 true := Or.inl ⟨by decide, RX8, TX8, 9, "TableTower$Reader", rfl, by decide, by decide +kernel, rfl, fun _ _ _ _ h => h, Or.inl q1227⟩
theorem f_ok_169 : F_ok 17 32 26 2 0 false := Or.inl ⟨by decide, RX8, TX8, 9, "TableTower$Reader", rfl, by decide, by decide +kernel, rfl, fun _ _ _ _ h => h, Or.inl q1228⟩
theorem f_ok_170 : F_ok 17 39 26 3 0 false := Or.inl ⟨by decide, RX8, TX8, 9, "TableTower$Reader", rfl, by decide, by decide +kernel, rfl, fun _ _ _ _ h => h, Or.inl q1229⟩
theorem f_ok_171 : F_ok 17 42 26 5 3 false := Or.inl ⟨by decide, RX8, TX8, 9, "TableTower$Reader", rfl, by decide, by decide +kernel, rfl, fun _ _ _ _ h => h, Or.inl q1231⟩
theorem f_ok_172 : F_ok 17 52 26 6 2 false := Or.inl ⟨by decide, RX8, TX8, 9, "TableTower$Reader", rfl, by decide, by decide +kernel, rfl, fun _ _ _ _ h => h, Or.inl q1232⟩
theorem f_ok_173 : F_ok 17 82 26 4 0 false := Or.inl ⟨by decide, RX8, TX8, 9, "TableTower$Reader", rfl, by decide, by decide +kernel, rfl, fun _ _ _ _ h => h, Or.inl q1230⟩
theorem f_ok_174 : F_ok 17 133 21 0 0 false := Or.inl ⟨by decide, RX2, TX2, 5, "TableTower$Town", rfl, by decide, by decide +kernel, rfl, fun _ _ _ _ h => h, Or.inr ⟨"TableTower", List.mem_of_getElem? (i := 19) rfl, by decide +kernel⟩⟩
theorem f_ok_175 : F_ok 17 137 21 1 0 false := Or.inl ⟨by decide, RX2, TX2, 5, "TableTower$Town", rfl, by decide, by decide +kernel, rfl, fun _ _ _ _ h => h, Or.inr ⟨"TableTower", List.mem_of_getElem? (i := 20) rfl, by decide +kernel⟩⟩
theorem f_ok_176 : F_ok 17 145 21 3 2 false := Or.inl ⟨by decide, RX2, TX2, 5, "TableTower$Town", rfl, by decide, by decide +kernel, rfl, fun _ _ _ _ h => h, Or.inr ⟨"TableTower", List.mem_of_getElem? (i := 21) rfl, by decide +kernel⟩⟩
theorem f_ok_177 : F_ok 17 156 21 2 2 true := Or.inl ⟨by decide, RX2, TX2, 5, "TableTower$Town", rfl, by decide, by decide +kernel, rfl, fun _ _ _ _ h => h, Or.inr ⟨"TableTower", List.mem_of_getElem? (i := 22) rfl, by decide +kernel⟩⟩
theorem f_ok_178 : F_ok 18 7 41 0 0 true := Or.inl ⟨by decide, RX9, TXF, 2, "TableTower$Fault", rfl, by decide, by decide +kernel, rfl, fun _ _ _ _ h => h, Or.inl q1293⟩
theorem f_ok_179 : F_ok 18 13 41 1 0 true := Or.inl ⟨by decide, RX9, TXF, 2, "TableTower$Fault", rfl, by decide, by decide +kernel, rfl, fun _ _ _ _ h => h, Or.inl q1295⟩
theorem f_ok_180 : F_ok 20 7 36 0 0 false := Or.inl ⟨by decide, RJ2, TJ2, 3, "java/util/AbstractList", rfl, by decide, by decide +kernel, rfl, fun _ _ _ _ h => h, Or.inl q492⟩
theorem f_ok_181 : F_ok 26 7 17 0 0 true := Or.inr (Or.inr ⟨rfl, rfl, rfl, q2426⟩)
theorem f_ok_182 : F_ok 28 9 36 1 2 false := Or.inl ⟨by decide, RJ2, TJ2, 3, "java/util/ArrayList", rfl, by decide, by decide +kernel, rfl, fun _ _ _ _ h => h, Or.inl q490⟩
theorem f_ok_183 : F_ok 28 48 36 2 0 false := Or.inl ⟨by decide, RJ2, TJ2, 3, "java/util/ArrayList", rfl, by decide, by decide +kernel, rfl, fun _ _ _ _ h => h, Or.inl q491⟩
theorem f_ok_184 : F_ok 28 63 36 0 0 false := Or.inl ⟨by decide, RJ2, TJ2, 3, "java/util/ArrayList", rfl, by decide, by decide +kernel, rfl, fun s args hts x h => u_same (hts _ q494) x h, Or.inl q493⟩
theorem f_ok_185 : F_ok 29 15 37 0 2 false := Or.inl ⟨by decide, RJ8, TJ8, 4, "java/lang/AbstractStringBuilder", rfl, by decide, by decide +kernel, rfl, fun _ _ _ _ h => h, Or.inl q237⟩
theorem f_ok_186 : F_ok 29 22 37 1 4 false := Or.inl ⟨by decide, RJ8, TJ8, 4, "java/lang/AbstractStringBuilder", rfl, by decide, by decide +kernel, rfl, fun _ _ _ _ h => h, Or.inl q238⟩
theorem f_ok_187 : F_ok 29 79 37 3 0 false := Or.inl ⟨by decide, RJ8, TJ8, 4, "java/lang/AbstractStringBuilder", rfl, by decide, by decide +kernel, rfl, fun _ _ _ _ h => h, Or.inl q240⟩
theorem f_ok_188 : F_ok 31 9 18 0 2 true := Or.inr (Or.inl ⟨rfl, Or.inl ⟨rfl, rfl, q478⟩⟩)
theorem f_ok_189 : F_ok 31 9 38 0 2 true := Or.inl ⟨by decide, RJ9, TJ9, 4, "java/lang/String", rfl, by decide, by decide +kernel, rfl, fun _ _ _ _ h => h, Or.inl q478⟩
theorem f_ok_190 : F_ok 31 15 18 1 4 true := Or.inr (Or.inl ⟨rfl, Or.inr ⟨rfl, rfl, q479⟩⟩)
theorem f_ok_191 : F_ok 31 15 38 1 4 true := Or.inl ⟨by decide, RJ9, TJ9, 4, "java/lang/String", rfl, by decide, by decide +kernel, rfl, fun _ _ _ _ h => h, Or.inl q479⟩
theorem f_ok_192 : F_ok 31 1048 37 2 3 false := Or.inl ⟨by decide, RJ8, TJ8, 4, "java/lang/AbstractStringBuilder", rfl, by decide, by decide +kernel, rfl, fun _ _ _ _ h => h, Or.inl q239⟩
theorem f_ok : ∀ e ∈ f_T, F_ok e.1 e.2.1 e.2.2.1 e.2.2.2.1 e.2.2.2.2.1 e.2.2.2.2.2 := List.forall_mem_cons.mpr ⟨f_ok_0, List.forall_mem_cons.mpr ⟨f_ok_1, List.forall_mem_cons.mpr ⟨f_ok_2, List.forall_mem_cons.mpr ⟨f_ok_3, List.forall_mem_cons.mpr ⟨f_ok_4, List.forall_mem_cons.mpr ⟨f_ok_5, List.forall_mem_cons.mpr ⟨f_ok_6, List.forall_mem_cons.mpr ⟨f_ok_7, List.forall_mem_cons.mpr ⟨f_ok_8, List.forall_mem_cons.mpr ⟨f_ok_9, List.forall_mem_cons.mpr ⟨f_ok_10, List.forall_mem_cons.mpr ⟨f_ok_11, List.forall_mem_cons.mpr ⟨f_ok_12, List.forall_mem_cons.mpr ⟨f_ok_13, List.forall_mem_cons.mpr ⟨f_ok_14, List.forall_mem_cons.mpr ⟨f_ok_15, List.forall_mem_cons.mpr ⟨f_ok_16, List.forall_mem_cons.mpr ⟨f_ok_17, List.forall_mem_cons.mpr ⟨f_ok_18, List.forall_mem_cons.mpr ⟨f_ok_19, List.forall_mem_cons.mpr ⟨f_ok_20, List.forall_mem_cons.mpr ⟨f_ok_21, List.forall_mem_cons.mpr ⟨f_ok_22, List.forall_mem_cons.mpr ⟨f_ok_23, List.forall_mem_cons.mpr ⟨f_ok_24, List.forall_mem_cons.mpr ⟨f_ok_25, List.forall_mem_cons.mpr ⟨f_ok_26, List.forall_mem_cons.mpr ⟨f_ok_27, List.forall_mem_cons.mpr ⟨f_ok_28, List.forall_mem_cons.mpr ⟨f_ok_29, List.forall_mem_cons.mpr ⟨f_ok_30, List.forall_mem_cons.mpr ⟨f_ok_31, List.forall_mem_cons.mpr ⟨f_ok_32, List.forall_mem_cons.mpr ⟨f_ok_33, List.forall_mem_cons.mpr ⟨f_ok_34, List.forall_mem_cons.mpr ⟨f_ok_35, List.forall_mem_cons.mpr ⟨f_ok_36, List.forall_mem_cons.mpr ⟨f_ok_37, List.forall_mem_cons.mpr ⟨f_ok_38, List.forall_mem_cons.mpr ⟨f_ok_39, List.forall_mem_cons.mpr ⟨f_ok_40, List.forall_mem_cons.mpr ⟨f_ok_41, List.forall_mem_cons.mpr ⟨f_ok_42, List.forall_mem_cons.mpr ⟨f_ok_43, List.forall_mem_cons.mpr ⟨f_ok_44, List.forall_mem_cons.mpr ⟨f_ok_45, List.forall_mem_cons.mpr ⟨f_ok_46, List.forall_mem_cons.mpr ⟨f_ok_47, List.forall_mem_cons.mpr ⟨f_ok_48, List.forall_mem_cons.mpr ⟨f_ok_49, List.forall_mem_cons.mpr ⟨f_ok_50, List.forall_mem_cons.mpr ⟨f_ok_51, List.forall_mem_cons.mpr ⟨f_ok_52, List.forall_mem_cons.mpr ⟨f_ok_53, List.forall_mem_cons.mpr ⟨f_ok_54, List.forall_mem_cons.mpr ⟨f_ok_55, List.forall_mem_cons.mpr ⟨f_ok_56, List.forall_mem_cons.mpr ⟨f_ok_57, List.forall_mem_cons.mpr ⟨f_ok_58, List.forall_mem_cons.mpr ⟨f_ok_59, List.forall_mem_cons.mpr ⟨f_ok_60, List.forall_mem_cons.mpr ⟨f_ok_61, List.forall_mem_cons.mpr ⟨f_ok_62, List.forall_mem_cons.mpr ⟨f_ok_63, List.forall_mem_cons.mpr ⟨f_ok_64, List.forall_mem_cons.mpr ⟨f_ok_65, List.forall_mem_cons.mpr ⟨f_ok_66, List.forall_mem_cons.mpr ⟨f_ok_67, List.forall_mem_cons.mpr ⟨f_ok_68, List.forall_mem_cons.mpr ⟨f_ok_69, List.forall_mem_cons.mpr ⟨f_ok_70, List.forall_mem_cons.mpr ⟨f_ok_71, List.forall_mem_cons.mpr ⟨f_ok_72, List.forall_mem_cons.mpr ⟨f_ok_73, List.forall_mem_cons.mpr ⟨f_ok_74, List.forall_mem_cons.mpr ⟨f_ok_75, List.forall_mem_cons.mpr ⟨f_ok_76, List.forall_mem_cons.mpr ⟨f_ok_77, List.forall_mem_cons.mpr ⟨f_ok_78, List.forall_mem_cons.mpr ⟨f_ok_79, List.forall_mem_cons.mpr ⟨f_ok_80, List.forall_mem_cons.mpr ⟨f_ok_81, List.forall_mem_cons.mpr ⟨f_ok_82, List.forall_mem_cons.mpr ⟨f_ok_83, List.forall_mem_cons.mpr ⟨f_ok_84, List.forall_mem_cons.mpr ⟨f_ok_85, List.forall_mem_cons.mpr ⟨f_ok_86, List.forall_mem_cons.mpr ⟨f_ok_87, List.forall_mem_cons.mpr ⟨f_ok_88, List.forall_mem_cons.mpr ⟨f_ok_89, List.forall_mem_cons.mpr ⟨f_ok_90, List.forall_mem_cons.mpr ⟨f_ok_91, List.forall_mem_cons.mpr ⟨f_ok_92, List.forall_mem_cons.mpr ⟨f_ok_93, List.forall_mem_cons.mpr ⟨f_ok_94, List.forall_mem_cons.mpr ⟨f_ok_95, List.forall_mem_cons.mpr ⟨f_ok_96, List.forall_mem_cons.mpr ⟨f_ok_97, List.forall_mem_cons.mpr ⟨f_ok_98, List.forall_mem_cons.mpr ⟨f_ok_99, List.forall_mem_cons.mpr ⟨f_ok_100, List.forall_mem_cons.mpr ⟨f_ok_101, List.forall_mem_cons.mpr ⟨f_ok_102, List.forall_mem_cons.mpr ⟨f_ok_103, List.forall_mem_cons.mpr ⟨f_ok_104, List.forall_mem_cons.mpr ⟨f_ok_105, List.forall_mem_cons.mpr ⟨f_ok_106, List.forall_mem_cons.mpr ⟨f_ok_107, List.forall_mem_cons.mpr ⟨f_ok_108, List.forall_mem_cons.mpr ⟨f_ok_109, List.forall_mem_cons.mpr ⟨f_ok_110, List.forall_mem_cons.mpr ⟨f_ok_111, List.forall_mem_cons.mpr ⟨f_ok_112, List.forall_mem_cons.mpr ⟨f_ok_113, List.forall_mem_cons.mpr ⟨f_ok_114, List.forall_mem_cons.mpr ⟨f_ok_115, List.forall_mem_cons.mpr ⟨f_ok_116, List.forall_mem_cons.mpr ⟨f_ok_117, List.forall_mem_cons.mpr ⟨f_ok_118, List.forall_mem_cons.mpr ⟨f_ok_119, List.forall_mem_cons.mpr ⟨f_ok_120, List.forall_mem_cons.mpr ⟨f_ok_121, List.forall_mem_cons.mpr ⟨f_ok_122, List.forall_mem_cons.mpr ⟨f_ok_123, List.forall_mem_cons.mpr ⟨f_ok_124, List.forall_mem_cons.mpr ⟨f_ok_125, List.forall_mem_cons.mpr ⟨f_ok_126, List.forall_mem_cons.mpr ⟨f_ok_127, List.forall_mem_cons.mpr ⟨f_ok_128, List.forall_mem_cons.mpr ⟨f_ok_129, List.forall_mem_cons.mpr ⟨f_ok_130, List.forall_mem_cons.mpr ⟨f_ok_131, List.forall_mem_cons.mpr ⟨f_ok_132, List.forall_mem_cons.mpr ⟨f_ok_133, List.forall_mem_cons.mpr ⟨f_ok_134, List.forall_mem_cons.mpr ⟨f_ok_135, List.forall_mem_cons.mpr ⟨f_ok_136, List.forall_mem_cons.mpr ⟨f_ok_137, List.forall_mem_cons.mpr ⟨f_ok_138, List.forall_mem_cons.mpr ⟨f_ok_139, List.forall_mem_cons.mpr ⟨f_ok_140, List.forall_mem_cons.mpr ⟨f_ok_141, List.forall_mem_cons.mpr ⟨f_ok_142, List.forall_mem_cons.mpr ⟨f_ok_143, List.forall_mem_cons.mpr ⟨f_ok_144, List.forall_mem_cons.mpr ⟨f_ok_145, List.forall_mem_cons.mpr ⟨f_ok_146, List.forall_mem_cons.mpr ⟨f_ok_147, List.forall_mem_cons.mpr ⟨f_ok_148, List.forall_mem_cons.mpr ⟨f_ok_149, List.forall_mem_cons.mpr ⟨f_ok_150, List.forall_mem_cons.mpr ⟨f_ok_151, List.forall_mem_cons.mpr ⟨f_ok_152, List.forall_mem_cons.mpr ⟨f_ok_153, List.forall_mem_cons.mpr ⟨f_ok_154, List.forall_mem_cons.mpr ⟨f_ok_155, List.forall_mem_cons.mpr ⟨f_ok_156, List.forall_mem_cons.mpr ⟨f_ok_157, List.forall_mem_cons.mpr ⟨f_ok_158, List.forall_mem_cons.mpr ⟨f_ok_159, List.forall_mem_cons.mpr ⟨f_ok_160, List.forall_mem_cons.mpr ⟨f_ok_161, List.forall_mem_cons.mpr ⟨f_ok_162, List.forall_mem_cons.mpr ⟨f_ok_163, List.forall_mem_cons.mpr ⟨f_ok_164, List.forall_mem_cons.mpr ⟨f_ok_165, List.forall_mem_cons.mpr ⟨f_ok_166, List.forall_mem_cons.mpr ⟨f_ok_167, List.forall_mem_cons.mpr ⟨f_ok_168, List.forall_mem_cons.mpr ⟨f_ok_169, List.forall_mem_cons.mpr ⟨f_ok_170, List.forall_mem_cons.mpr ⟨f_ok_171, List.forall_mem_cons.mpr ⟨f_ok_172, List.forall_mem_cons.mpr ⟨f_ok_173, List.forall_mem_cons.mpr ⟨f_ok_174, List.forall_mem_cons.mpr ⟨f_ok_175, List.forall_mem_cons.mpr ⟨f_ok_176, List.forall_mem_cons.mpr ⟨f_ok_177, List.forall_mem_cons.mpr ⟨f_ok_178, List.forall_mem_cons.mpr ⟨f_ok_179, List.forall_mem_cons.mpr ⟨f_ok_180, List.forall_mem_cons.mpr ⟨f_ok_181, List.forall_mem_cons.mpr ⟨f_ok_182, List.forall_mem_cons.mpr ⟨f_ok_183, List.forall_mem_cons.mpr ⟨f_ok_184, List.forall_mem_cons.mpr ⟨f_ok_185, List.forall_mem_cons.mpr ⟨f_ok_186, List.forall_mem_cons.mpr ⟨f_ok_187, List.forall_mem_cons.mpr ⟨f_ok_188, List.forall_mem_cons.mpr ⟨f_ok_189, List.forall_mem_cons.mpr ⟨f_ok_190, List.forall_mem_cons.mpr ⟨f_ok_191, List.forall_mem_cons.mpr ⟨f_ok_192, fun _ h => absurd h List.not_mem_nil⟩⟩⟩⟩⟩⟩⟩⟩⟩⟩⟩⟩⟩⟩⟩⟩⟩⟩⟩⟩⟩⟩⟩⟩⟩⟩⟩⟩⟩⟩⟩⟩⟩⟩⟩⟩⟩⟩⟩⟩⟩⟩⟩⟩⟩⟩⟩⟩⟩⟩⟩⟩⟩⟩⟩⟩⟩⟩⟩⟩⟩⟩⟩⟩⟩⟩⟩⟩⟩⟩⟩⟩⟩⟩⟩⟩⟩⟩⟩⟩⟩⟩⟩⟩⟩⟩⟩⟩⟩⟩⟩⟩⟩⟩⟩⟩⟩⟩⟩⟩⟩⟩⟩⟩⟩⟩⟩⟩⟩⟩⟩⟩⟩⟩⟩⟩⟩⟩⟩⟩⟩⟩⟩⟩⟩⟩⟩⟩⟩⟩⟩⟩⟩⟩⟩⟩⟩⟩⟩⟩⟩⟩⟩⟩⟩⟩⟩⟩⟩⟩⟩⟩⟩⟩⟩⟩⟩⟩⟩⟩⟩⟩⟩⟩⟩⟩⟩⟩⟩⟩⟩⟩⟩⟩⟩⟩⟩⟩⟩⟩⟩⟩⟩⟩⟩⟩⟩⟩⟩⟩⟩⟩⟩
theorem g_ok_0 : G_ok 11 51 (v_R (some 200)) := ⟨"TableTower$Value", "LEVEL", "LTableTower$Value;", List.mem_of_getElem? (i := 0) rfl, q809⟩
theorem g_ok_1 : G_ok 11 61 (v_R (some 201)) := ⟨"TableTower$Value", "HUNGER", "LTableTower$Value;", List.mem_of_getElem? (i := 1) rfl, q821⟩
theorem g_ok_2 : G_ok 11 64 (v_R (some 202)) := ⟨"TableTower$Value", "LEFT", "LTableTower$Value;", List.mem_of_getElem? (i := 2) rfl, q823⟩
theorem g_ok_3 : G_ok 11 67 (v_R (some 203)) := ⟨"TableTower$Value", "KIND", "LTableTower$Value;", List.mem_of_getElem? (i := 3) rfl, q825⟩
theorem g_ok_4 : G_ok 11 74 (v_R (some 204)) := ⟨"TableTower$Value", "ABOVE", "LTableTower$Value;", List.mem_of_getElem? (i := 4) rfl, q845⟩
theorem g_ok_5 : G_ok 11 77 (v_R (some 205)) := ⟨"TableTower$Value", "WEIGHT", "LTableTower$Value;", List.mem_of_getElem? (i := 5) rfl, q847⟩
theorem g_ok_6 : G_ok 13 22 (v_R (some 220)) := ⟨"TableTower$Value", "$VALUES", "[LTableTower$Value;", List.mem_of_getElem? (i := 6) rfl, q511⟩
theorem g_ok_7 : G_ok 17 46 (v_R (some 214)) := ⟨"TableTower$Sort", "END", "LTableTower$Sort;", List.mem_of_getElem? (i := 7) rfl, q1167⟩
theorem g_ok_8 : G_ok 17 76 (v_R (some 210)) := ⟨"TableTower$Sort", "WORD", "LTableTower$Sort;", List.mem_of_getElem? (i := 8) rfl, q1198⟩
theorem g_ok_9 : G_ok 17 85 (v_R (some 211)) := ⟨"TableTower$Sort", "NUMBER", "LTableTower$Sort;", List.mem_of_getElem? (i := 9) rfl, q1203⟩
theorem g_ok_10 : G_ok 17 91 (v_R (some 212)) := ⟨"TableTower$Sort", "SIGN", "LTableTower$Sort;", List.mem_of_getElem? (i := 10) rfl, q1208⟩
theorem g_ok_11 : G_ok 17 94 (v_R (some 213)) := ⟨"TableTower$Sort", "BAD", "LTableTower$Sort;", List.mem_of_getElem? (i := 11) rfl, q1210⟩
theorem g_ok_12 : G_ok 17 253 (v_R (some 200)) := ⟨"TableTower$Value", "LEVEL", "LTableTower$Value;", List.mem_of_getElem? (i := 0) rfl, q1357⟩
theorem g_ok_13 : G_ok 17 261 (v_R (some 201)) := ⟨"TableTower$Value", "HUNGER", "LTableTower$Value;", List.mem_of_getElem? (i := 1) rfl, q1359⟩
theorem g_ok_14 : G_ok 17 266 (v_R (some 202)) := ⟨"TableTower$Value", "LEFT", "LTableTower$Value;", List.mem_of_getElem? (i := 2) rfl, q1361⟩
theorem g_ok_15 : G_ok 17 271 (v_R (some 203)) := ⟨"TableTower$Value", "KIND", "LTableTower$Value;", List.mem_of_getElem? (i := 3) rfl, q1363⟩
theorem g_ok_16 : G_ok 17 276 (v_R (some 204)) := ⟨"TableTower$Value", "ABOVE", "LTableTower$Value;", List.mem_of_getElem? (i := 4) rfl, q1365⟩
theorem g_ok_17 : G_ok 17 281 (v_R (some 205)) := ⟨"TableTower$Value", "WEIGHT", "LTableTower$Value;", List.mem_of_getElem? (i := 5) rfl, q1367⟩
theorem g_ok_18 : G_ok 29 18 (v_I 1) := ⟨"java/lang/String", "COMPACT_STRINGS", "Z", List.mem_of_getElem? (i := 12) rfl, q228⟩
theorem g_ok_19 : G_ok 31 38 (v_I 1) := ⟨"java/lang/String", "COMPACT_STRINGS", "Z", List.mem_of_getElem? (i := 12) rfl, q337⟩
theorem g_ok_20 : G_ok 31 1053 (v_R (some 232)) := ⟨"jdk/internal/util/Preconditions", "SIOOBE_FORMATTER", "Ljava/util/function/BiFunction;", List.mem_of_getElem? (i := 13) rfl, q315⟩
theorem g_ok : ∀ e ∈ g_T, G_ok e.1 e.2.1 e.2.2 := List.forall_mem_cons.mpr ⟨g_ok_0, List.forall_mem_cons.mpr ⟨g_ok_1, List.forall_mem_cons.mpr ⟨g_ok_2, List.forall_mem_cons.mpr ⟨g_ok_3, List.forall_mem_cons.mpr ⟨g_ok_4, List.forall_mem_cons.mpr ⟨g_ok_5, List.forall_mem_cons.mpr ⟨g_ok_6, List.forall_mem_cons.mpr ⟨g_ok_7, List.forall_mem_cons.mpr ⟨g_ok_8, List.forall_mem_cons.mpr ⟨g_ok_9, List.forall_mem_cons.mpr ⟨g_ok_10, List.forall_mem_cons.mpr ⟨g_ok_11, List.forall_mem_cons.mpr ⟨g_ok_12, List.forall_mem_cons.mpr ⟨g_ok_13, List.forall_mem_cons.mpr ⟨g_ok_14, List.forall_mem_cons.mpr ⟨g_ok_15, List.forall_mem_cons.mpr ⟨g_ok_16, List.forall_mem_cons.mpr ⟨g_ok_17, List.forall_mem_cons.mpr ⟨g_ok_18, List.forall_mem_cons.mpr ⟨g_ok_19, List.forall_mem_cons.mpr ⟨g_ok_20, fun _ h => absurd h List.not_mem_nil⟩⟩⟩⟩⟩⟩⟩⟩⟩⟩⟩⟩⟩⟩⟩⟩⟩⟩⟩⟩⟩
theorem l_ok_0 : L_ok 1 288 (v_I (100000)) := Or.inl ⟨_, rfl, q1028⟩
theorem l_ok_1 : L_ok 1 343 (v_I (1103515245)) := Or.inl ⟨_, rfl, q1711⟩
theorem l_ok_2 : L_ok 16 11 (v_R (some 38)) := Or.inr (Or.inr (Or.inl ⟨_, _, rfl, by decide, List.mem_of_getElem? (i := 28) rfl⟩))
theorem l_ok_3 : L_ok 16 13 (v_R (some 39)) := Or.inr (Or.inr (Or.inl ⟨_, _, rfl, by decide, List.mem_of_getElem? (i := 29) rfl⟩))
theorem l_ok_4 : L_ok 16 15 (v_R (some 40)) := Or.inr (Or.inr (Or.inl ⟨_, _, rfl, by decide, List.mem_of_getElem? (i := 30) rfl⟩))
theorem l_ok_5 : L_ok 16 17 (v_R (some 41)) := Or.inr (Or.inr (Or.inl ⟨_, _, rfl, by decide, List.mem_of_getElem? (i := 31) rfl⟩))
theorem l_ok_6 : L_ok 16 23 (v_R (some 42)) := Or.inr (Or.inr (Or.inl ⟨_, _, rfl, by decide, List.mem_of_getElem? (i := 32) rfl⟩))
theorem l_ok_7 : L_ok 16 25 (v_R (some 43)) := Or.inr (Or.inr (Or.inl ⟨_, _, rfl, by decide, List.mem_of_getElem? (i := 33) rfl⟩))
theorem l_ok_8 : L_ok 16 27 (v_R (some 44)) := Or.inr (Or.inr (Or.inl ⟨_, _, rfl, by decide, List.mem_of_getElem? (i := 34) rfl⟩))
theorem l_ok_9 : L_ok 16 29 (v_R (some 45)) := Or.inr (Or.inr (Or.inl ⟨_, _, rfl, by decide, List.mem_of_getElem? (i := 35) rfl⟩))
theorem l_ok_10 : L_ok 16 31 (v_R (some 46)) := Or.inr (Or.inr (Or.inl ⟨_, _, rfl, by decide, List.mem_of_getElem? (i := 36) rfl⟩))
theorem l_ok_11 : L_ok 16 33 (v_R (some 47)) := Or.inr (Or.inr (Or.inl ⟨_, _, rfl, by decide, List.mem_of_getElem? (i := 37) rfl⟩))
theorem l_ok_12 : L_ok 16 182 (v_I (100000)) := Or.inl ⟨_, rfl, q1935⟩
theorem l_ok_13 : L_ok 16 245 (v_R (some 51)) := Or.inr (Or.inr (Or.inl ⟨_, _, rfl, by decide, List.mem_of_getElem? (i := 41) rfl⟩))
theorem l_ok_14 : L_ok 16 253 (v_R (some 52)) := Or.inr (Or.inr (Or.inl ⟨_, _, rfl, by decide, List.mem_of_getElem? (i := 42) rfl⟩))
theorem l_ok_15 : L_ok 16 258 (v_R (some 53)) := Or.inr (Or.inr (Or.inl ⟨_, _, rfl, by decide, List.mem_of_getElem? (i := 43) rfl⟩))
theorem l_ok_16 : L_ok 16 260 (v_R (some 48)) := Or.inr (Or.inr (Or.inl ⟨_, _, rfl, by decide, List.mem_of_getElem? (i := 38) rfl⟩))
theorem l_ok_17 : L_ok 16 262 (v_R (some 49)) := Or.inr (Or.inr (Or.inl ⟨_, _, rfl, by decide, List.mem_of_getElem? (i := 39) rfl⟩))
theorem l_ok_18 : L_ok 16 264 (v_R (some 50)) := Or.inr (Or.inr (Or.inl ⟨_, _, rfl, by decide, List.mem_of_getElem? (i := 40) rfl⟩))
theorem l_ok_19 : L_ok 16 345 (v_L (4)) := Or.inr (Or.inl ⟨_, rfl, q2096⟩)
theorem l_ok_20 : L_ok 16 367 (v_L (-9)) := Or.inr (Or.inl ⟨_, rfl, q2137⟩)
theorem l_ok_21 : L_ok 16 369 (v_L (9)) := Or.inr (Or.inl ⟨_, rfl, q2138⟩)
theorem l_ok_22 : L_ok 16 384 (v_L (30)) := Or.inr (Or.inl ⟨_, rfl, q2166⟩)
theorem l_ok_23 : L_ok 16 422 (v_L (10)) := Or.inr (Or.inl ⟨_, rfl, q2229⟩)
theorem l_ok_24 : L_ok 16 427 (v_L (99)) := Or.inr (Or.inl ⟨_, rfl, q2246⟩)
theorem l_ok_25 : L_ok 16 435 (v_L (999)) := Or.inr (Or.inl ⟨_, rfl, q2275⟩)
theorem l_ok_26 : L_ok 16 440 (v_L (-99)) := Or.inr (Or.inl ⟨_, rfl, q2312⟩)
theorem l_ok_27 : L_ok 16 448 (v_L (2)) := Or.inr (Or.inl ⟨_, rfl, q2317⟩)
theorem l_ok_28 : L_ok 16 465 (v_I (1103515245)) := Or.inl ⟨_, rfl, q2363⟩
theorem l_ok_29 : L_ok 16 469 (v_L (40)) := Or.inr (Or.inl ⟨_, rfl, q2354⟩)
theorem l_ok_30 : L_ok 17 9 (v_R (some 12)) := Or.inr (Or.inr (Or.inl ⟨_, _, rfl, by decide, List.mem_of_getElem? (i := 2) rfl⟩))
theorem l_ok_31 : L_ok 17 123 (v_R (some 13)) := Or.inr (Or.inr (Or.inl ⟨_, _, rfl, by decide, List.mem_of_getElem? (i := 3) rfl⟩))
theorem l_ok_32 : L_ok 17 135 (v_R (some 14)) := Or.inr (Or.inr (Or.inl ⟨_, _, rfl, by decide, List.mem_of_getElem? (i := 4) rfl⟩))
theorem l_ok_33 : L_ok 17 139 (v_R (some 15)) := Or.inr (Or.inr (Or.inl ⟨_, _, rfl, by decide, List.mem_of_getElem? (i := 5) rfl⟩))
theorem l_ok_34 : L_ok 17 148 (v_R (some 33)) := Or.inr (Or.inr (Or.inl ⟨_, _, rfl, by decide, List.mem_of_getElem? (i := 23) rfl⟩))
theorem l_ok_35 : L_ok 17 150 (v_R (some 34)) := Or.inr (Or.inr (Or.inl ⟨_, _, rfl, by decide, List.mem_of_getElem? (i := 24) rfl⟩))
theorem l_ok_36 : L_ok 17 152 (v_R (some 35)) := Or.inr (Or.inr (Or.inl ⟨_, _, rfl, by decide, List.mem_of_getElem? (i := 25) rfl⟩))
theorem l_ok_37 : L_ok 17 154 (v_R (some 36)) := Or.inr (Or.inr (Or.inl ⟨_, _, rfl, by decide, List.mem_of_getElem? (i := 26) rfl⟩))
theorem l_ok_38 : L_ok 17 171 (v_R (some 37)) := Or.inr (Or.inr (Or.inl ⟨_, _, rfl, by decide, List.mem_of_getElem? (i := 27) rfl⟩))
theorem l_ok_39 : L_ok 17 177 (v_R (some 28)) := Or.inr (Or.inr (Or.inl ⟨_, _, rfl, by decide, List.mem_of_getElem? (i := 18) rfl⟩))
theorem l_ok_40 : L_ok 17 193 (v_R (some 16)) := Or.inr (Or.inr (Or.inl ⟨_, _, rfl, by decide, List.mem_of_getElem? (i := 6) rfl⟩))
theorem l_ok_41 : L_ok 17 198 (v_R (some 32)) := Or.inr (Or.inr (Or.inl ⟨_, _, rfl, by decide, List.mem_of_getElem? (i := 22) rfl⟩))
theorem l_ok_42 : L_ok 17 208 (v_R (some 31)) := Or.inr (Or.inr (Or.inl ⟨_, _, rfl, by decide, List.mem_of_getElem? (i := 21) rfl⟩))
theorem l_ok_43 : L_ok 17 209 (v_R (some 17)) := Or.inr (Or.inr (Or.inl ⟨_, _, rfl, by decide, List.mem_of_getElem? (i := 7) rfl⟩))
theorem l_ok_44 : L_ok 17 213 (v_R (some 29)) := Or.inr (Or.inr (Or.inl ⟨_, _, rfl, by decide, List.mem_of_getElem? (i := 19) rfl⟩))
theorem l_ok_45 : L_ok 17 215 (v_R (some 30)) := Or.inr (Or.inr (Or.inl ⟨_, _, rfl, by decide, List.mem_of_getElem? (i := 20) rfl⟩))
theorem l_ok_46 : L_ok 17 229 (v_R (some 27)) := Or.inr (Or.inr (Or.inl ⟨_, _, rfl, by decide, List.mem_of_getElem? (i := 17) rfl⟩))
theorem l_ok_47 : L_ok 17 234 (v_R (some 25)) := Or.inr (Or.inr (Or.inl ⟨_, _, rfl, by decide, List.mem_of_getElem? (i := 15) rfl⟩))
theorem l_ok_48 : L_ok 17 236 (v_R (some 26)) := Or.inr (Or.inr (Or.inl ⟨_, _, rfl, by decide, List.mem_of_getElem? (i := 16) rfl⟩))
theorem l_ok_49 : L_ok 17 241 (v_R (some 18)) := Or.inr (Or.inr (Or.inl ⟨_, _, rfl, by decide, List.mem_of_getElem? (i := 8) rfl⟩))
theorem l_ok_50 : L_ok 17 251 (v_R (some 19)) := Or.inr (Or.inr (Or.inl ⟨_, _, rfl, by decide, List.mem_of_getElem? (i := 9) rfl⟩))
theorem l_ok_51 : L_ok 17 259 (v_R (some 20)) := Or.inr (Or.inr (Or.inl ⟨_, _, rfl, by decide, List.mem_of_getElem? (i := 10) rfl⟩))
theorem l_ok_52 : L_ok 17 264 (v_R (some 21)) := Or.inr (Or.inr (Or.inl ⟨_, _, rfl, by decide, List.mem_of_getElem? (i := 11) rfl⟩))
theorem l_ok_53 : L_ok 17 269 (v_R (some 22)) := Or.inr (Or.inr (Or.inl ⟨_, _, rfl, by decide, List.mem_of_getElem? (i := 12) rfl⟩))
theorem l_ok_54 : L_ok 17 274 (v_R (some 23)) := Or.inr (Or.inr (Or.inl ⟨_, _, rfl, by decide, List.mem_of_getElem? (i := 13) rfl⟩))
theorem l_ok_55 : L_ok 17 279 (v_R (some 24)) := Or.inr (Or.inr (Or.inl ⟨_, _, rfl, by decide, List.mem_of_getElem? (i := 14) rfl⟩))
theorem l_ok_56 : L_ok 21 200 (v_I (2147483639)) := Or.inl ⟨_, rfl, q277⟩
theorem l_ok_57 : L_ok 22 110 (v_R (some 230)) := Or.inr (Or.inr (Or.inr ⟨rfl, q645⟩))
theorem l_ok_58 : L_ok 22 337 (v_R (some 11)) := Or.inr (Or.inr (Or.inl ⟨_, _, rfl, by decide, List.mem_of_getElem? (i := 1) rfl⟩))
theorem l_ok_59 : L_ok 25 264 (v_I (65536)) := Or.inl ⟨_, rfl, q1041⟩
theorem l_ok_60 : L_ok 25 265 (v_I (1431655765)) := Or.inl ⟨_, rfl, q1001⟩
theorem l_ok_61 : L_ok 25 266 (v_I (858993459)) := Or.inl ⟨_, rfl, q1002⟩
theorem l_ok_62 : L_ok 25 267 (v_I (252645135)) := Or.inl ⟨_, rfl, q1003⟩
theorem l_ok_63 : L_ok 28 23 (v_R (some 10)) := Or.inr (Or.inr (Or.inl ⟨_, _, rfl, by decide, List.mem_of_getElem? (i := 0) rfl⟩))
theorem l_ok_64 : L_ok 29 39 (v_I (2147483647)) := Or.inl ⟨_, rfl, q281⟩
theorem l_ok : ∀ e ∈ l_T, L_ok e.1 e.2.1 e.2.2 := List.forall_mem_cons.mpr ⟨l_ok_0, List.forall_mem_cons.mpr ⟨l_ok_1, List.forall_mem_cons.mpr ⟨l_ok_2, List.forall_mem_cons.mpr ⟨l_ok_3, List.forall_mem_cons.mpr ⟨l_ok_4, List.forall_mem_cons.mpr ⟨l_ok_5, List.forall_mem_cons.mpr ⟨l_ok_6, List.forall_mem_cons.mpr ⟨l_ok_7, List.forall_mem_cons.mpr ⟨l_ok_8, List.forall_mem_cons.mpr ⟨l_ok_9, List.forall_mem_cons.mpr ⟨l_ok_10, List.forall_mem_cons.mpr ⟨l_ok_11, List.forall_mem_cons.mpr ⟨l_ok_12, List.forall_mem_cons.mpr ⟨l_ok_13, List.forall_mem_cons.mpr ⟨l_ok_14, List.forall_mem_cons.mpr ⟨l_ok_15, List.forall_mem_cons.mpr ⟨l_ok_16, List.forall_mem_cons.mpr ⟨l_ok_17, List.forall_mem_cons.mpr ⟨l_ok_18, List.forall_mem_cons.mpr ⟨l_ok_19, List.forall_mem_cons.mpr ⟨l_ok_20, List.forall_mem_cons.mpr ⟨l_ok_21, List.forall_mem_cons.mpr ⟨l_ok_22, List.forall_mem_cons.mpr ⟨l_ok_23, List.forall_mem_cons.mpr ⟨l_ok_24, List.forall_mem_cons.mpr ⟨l_ok_25, List.forall_mem_cons.mpr ⟨l_ok_26, List.forall_mem_cons.mpr ⟨l_ok_27, List.forall_mem_cons.mpr ⟨l_ok_28, List.forall_mem_cons.mpr ⟨l_ok_29, List.forall_mem_cons.mpr ⟨l_ok_30, List.forall_mem_cons.mpr ⟨l_ok_31, List.forall_mem_cons.mpr ⟨l_ok_32, List.forall_mem_cons.mpr ⟨l_ok_33, List.forall_mem_cons.mpr ⟨l_ok_34, List.forall_mem_cons.mpr ⟨l_ok_35, List.forall_mem_cons.mpr ⟨l_ok_36, List.forall_mem_cons.mpr ⟨l_ok_37, List.forall_mem_cons.mpr ⟨l_ok_38, List.forall_mem_cons.mpr ⟨l_ok_39, List.forall_mem_cons.mpr ⟨l_ok_40, List.forall_mem_cons.mpr ⟨l_ok_41, List.forall_mem_cons.mpr ⟨l_ok_42, List.forall_mem_cons.mpr ⟨l_ok_43, List.forall_mem_cons.mpr ⟨l_ok_44, List.forall_mem_cons.mpr ⟨l_ok_45, List.forall_mem_cons.mpr ⟨l_ok_46, List.forall_mem_cons.mpr ⟨l_ok_47, List.forall_mem_cons.mpr ⟨l_ok_48, List.forall_mem_cons.mpr ⟨l_ok_49, List.forall_mem_cons.mpr ⟨l_ok_50, List.forall_mem_cons.mpr ⟨l_ok_51, List.forall_mem_cons.mpr ⟨l_ok_52, List.forall_mem_cons.mpr ⟨l_ok_53, List.forall_mem_cons.mpr ⟨l_ok_54, List.forall_mem_cons.mpr ⟨l_ok_55, List.forall_mem_cons.mpr ⟨l_ok_56, List.forall_mem_cons.mpr ⟨l_ok_57, List.forall_mem_cons.mpr ⟨l_ok_58, List.forall_mem_cons.mpr ⟨l_ok_59, List.forall_mem_cons.mpr ⟨l_ok_60, List.forall_mem_cons.mpr ⟨l_ok_61, List.forall_mem_cons.mpr ⟨l_ok_62, List.forall_mem_cons.mpr ⟨l_ok_63, List.forall_mem_cons.mpr ⟨l_ok_64, fun _ h => absurd h List.not_mem_nil⟩⟩⟩⟩⟩⟩⟩⟩⟩⟩⟩⟩⟩⟩⟩⟩⟩⟩⟩⟩⟩⟩⟩⟩⟩⟩⟩⟩⟩⟩⟩⟩⟩⟩⟩⟩⟩⟩⟩⟩⟩⟩⟩⟩⟩⟩⟩⟩⟩⟩⟩⟩⟩⟩⟩⟩⟩⟩⟩⟩⟩⟩⟩⟩⟩
theorem n_ok_0 : N_ok 0 8 20 15 := ⟨by decide, RX1, TX1, rfl, q148, q149, q107⟩
theorem n_ok_1 : N_ok 0 86 25 58 := ⟨by decide, RX7, TX7, rfl, q1712, q1713, q134⟩
theorem n_ok_2 : N_ok 1 7 21 5 := ⟨by decide, RX2, TX2, rfl, q156, q157, q108⟩
theorem n_ok_3 : N_ok 1 16 23 7 := ⟨by decide, RX5, TX5, rfl, q550, q551, q131⟩
theorem n_ok_4 : N_ok 1 31 24 7 := ⟨by decide, RX6, TX6, rfl, q677, q557, q132⟩
theorem n_ok_5 : N_ok 1 108 26 9 := ⟨by decide, RX8, TX8, rfl, q1152, q1153, q135⟩
theorem n_ok_6 : N_ok 11 16 36 3 := ⟨by decide, RJ2, TJ2, rfl, q162, q163, q111⟩
theorem n_ok_7 : N_ok 11 25 22 1 := ⟨by decide, RX3, TX3, rfl, q502, q503, q128⟩
theorem n_ok_8 : N_ok 14 9 24 7 := ⟨by decide, RX6, TX6, rfl, q556, q557, q132⟩
theorem n_ok_9 : N_ok 14 18 36 3 := ⟨by decide, RJ2, TJ2, rfl, q591, q163, q111⟩
theorem n_ok_10 : N_ok 17 59 37 4 := ⟨by decide, RJ8, TJ8, rfl, q1172, q220, q117⟩
theorem n_ok_11 : N_ok 17 107 27 8 := ⟨by decide, RX9, TX9, rfl, q1280, q1281, q137⟩
theorem n_ok_12 : N_ok 17 120 21 5 := ⟨by decide, RX2, TX2, rfl, q1258, q157, q108⟩
theorem n_ok_13 : N_ok 17 179 32 4 := ⟨by decide, RX15, TX15, rfl, q1436, q1437, q143⟩
theorem n_ok_14 : N_ok 17 184 33 4 := ⟨by decide, RX16, TX16, rfl, q1462, q1463, q144⟩
theorem n_ok_15 : N_ok 17 187 34 4 := ⟨by decide, RX17, TX17, rfl, q1472, q1473, q145⟩
theorem n_ok_16 : N_ok 17 190 35 4 := ⟨by decide, RX18, TX18, rfl, q1482, q1483, q146⟩
theorem n_ok_17 : N_ok 17 200 30 3 := ⟨by decide, RX13, TX13, rfl, q1395, q1396, q141⟩
theorem n_ok_18 : N_ok 17 221 31 1 := ⟨by decide, RX14, TX14, rfl, q1415, q1416, q142⟩
theorem n_ok_19 : N_ok 17 238 28 1 := ⟨by decide, RX11, TX11, rfl, q1335, q1336, q139⟩
theorem n_ok_20 : N_ok 17 246 29 1 := ⟨by decide, RX12, TX12, rfl, q1368, q1369, q140⟩
theorem n_ok_21 : N_ok 22 45 37 4 := ⟨by decide, RJ8, TJ8, rfl, q434, q220, q117⟩
theorem n_ok_22 : N_ok 28 20 37 4 := ⟨by decide, RJ8, TJ8, rfl, q219, q220, q117⟩
theorem n_ok_23 : N_ok 30 18 38 4 := ⟨by decide, RJ9, TJ9, rfl, q401, q402, q118⟩
theorem n_ok_24 : N_ok 31 10 38 4 := ⟨by decide, RJ9, TJ9, rfl, q1216, q402, q118⟩
theorem n_ok : ∀ e ∈ n_T, N_ok e.1 e.2.1 e.2.2.1 e.2.2.2 := List.forall_mem_cons.mpr ⟨n_ok_0, List.forall_mem_cons.mpr ⟨n_ok_1, List.forall_mem_cons.mpr ⟨n_ok_2, List.forall_mem_cons.mpr ⟨n_ok_3, List.forall_mem_cons.mpr ⟨n_ok_4, List.forall_mem_cons.mpr ⟨n_ok_5, List.forall_mem_cons.mpr ⟨n_ok_6, List.forall_mem_cons.mpr ⟨n_ok_7, List.forall_mem_cons.mpr ⟨n_ok_8, List.forall_mem_cons.mpr ⟨n_ok_9, List.forall_mem_cons.mpr ⟨n_ok_10, List.forall_mem_cons.mpr ⟨n_ok_11, List.forall_mem_cons.mpr ⟨n_ok_12, List.forall_mem_cons.mpr ⟨n_ok_13, List.forall_mem_cons.mpr ⟨n_ok_14, List.forall_mem_cons.mpr ⟨n_ok_15, List.forall_mem_cons.mpr ⟨n_ok_16, List.forall_mem_cons.mpr ⟨n_ok_17, List.forall_mem_cons.mpr ⟨n_ok_18, List.forall_mem_cons.mpr ⟨n_ok_19, List.forall_mem_cons.mpr ⟨n_ok_20, List.forall_mem_cons.mpr ⟨n_ok_21, List.forall_mem_cons.mpr ⟨n_ok_22, List.forall_mem_cons.mpr ⟨n_ok_23, List.forall_mem_cons.mpr ⟨n_ok_24, fun _ h => absurd h List.not_mem_nil⟩⟩⟩⟩⟩⟩⟩⟩⟩⟩⟩⟩⟩⟩⟩⟩⟩⟩⟩⟩⟩⟩⟩⟩⟩
theorem an_ok_0 : AN_ok 16 9 6 := ⟨Or.inr rfl, _, rfl, q1718⟩
theorem an_ok_1 : AN_ok 22 2 5 := ⟨Or.inl rfl, _, rfl, q646⟩
theorem an_ok_2 : AN_ok 28 7 5 := ⟨Or.inl rfl, _, rfl, q174⟩
theorem an_ok : ∀ e ∈ a_T, AN_ok e.1 e.2.1 e.2.2 := List.forall_mem_cons.mpr ⟨an_ok_0, List.forall_mem_cons.mpr ⟨an_ok_1, List.forall_mem_cons.mpr ⟨an_ok_2, fun _ h => absurd h List.not_mem_nil⟩⟩⟩
theorem c_ok_0 : C_ok 1 31 24 := Or.inl ⟨by decide, RX6, TX6, 7, "TableTower$State", rfl, q677, Or.inl rfl⟩
theorem c_ok_1 : C_ok 1 93 32 := Or.inl ⟨by decide, RX15, TX15, 4, "TableTower$Pine", rfl, q1008, Or.inl rfl⟩
theorem c_ok_2 : C_ok 1 93 33 := Or.inl ⟨by decide, RX16, TX16, 4, "TableTower$Pine", rfl, q1008, Or.inr (List.mem_of_getElem? (i := 10) rfl)⟩
theorem c_ok_3 : C_ok 1 93 34 := Or.inl ⟨by decide, RX17, TX17, 4, "TableTower$Pine", rfl, q1008, Or.inr (List.mem_of_getElem? (i := 7) rfl)⟩
theorem c_ok_4 : C_ok 1 93 35 := Or.inl ⟨by decide, RX18, TX18, 4, "TableTower$Pine", rfl, q1008, Or.inr (List.mem_of_getElem? (i := 3) rfl)⟩
theorem c_ok_5 : C_ok 11 36 32 := Or.inl ⟨by decide, RX15, TX15, 4, "TableTower$Pine", rfl, q807, Or.inl rfl⟩
theorem c_ok_6 : C_ok 11 36 33 := Or.inl ⟨by decide, RX16, TX16, 4, "TableTower$Pine", rfl, q807, Or.inr (List.mem_of_getElem? (i := 10) rfl)⟩
theorem c_ok_7 : C_ok 11 36 34 := Or.inl ⟨by decide, RX17, TX17, 4, "TableTower$Pine", rfl, q807, Or.inr (List.mem_of_getElem? (i := 7) rfl)⟩
theorem c_ok_8 : C_ok 11 36 35 := Or.inl ⟨by decide, RX18, TX18, 4, "TableTower$Pine", rfl, q807, Or.inr (List.mem_of_getElem? (i := 3) rfl)⟩
theorem c_ok_9 : C_ok 13 27 7 := Or.inr (Or.inr ⟨by decide, q518⟩)
theorem c_ok_10 : C_ok 14 9 24 := Or.inl ⟨by decide, RX6, TX6, 7, "TableTower$State", rfl, q556, Or.inl rfl⟩
theorem c_ok_11 : C_ok 15 50 32 := Or.inl ⟨by decide, RX15, TX15, 4, "TableTower$Pine", rfl, q701, Or.inl rfl⟩
theorem c_ok_12 : C_ok 15 50 33 := Or.inl ⟨by decide, RX16, TX16, 4, "TableTower$Pine", rfl, q701, Or.inr (List.mem_of_getElem? (i := 10) rfl)⟩
theorem c_ok_13 : C_ok 15 50 34 := Or.inl ⟨by decide, RX17, TX17, 4, "TableTower$Pine", rfl, q701, Or.inr (List.mem_of_getElem? (i := 7) rfl)⟩
theorem c_ok_14 : C_ok 15 50 35 := Or.inl ⟨by decide, RX18, TX18, 4, "TableTower$Pine", rfl, q701, Or.inr (List.mem_of_getElem? (i := 3) rfl)⟩
theorem c_ok_15 : C_ok 22 110 5 := Or.inr (Or.inr ⟨by decide, q645⟩)
theorem c_ok_16 : C_ok 22 311 2 := Or.inr (Or.inr ⟨by decide, q291⟩)
theorem c_ok_17 : C_ok 31 10 18 := Or.inr (Or.inl ⟨rfl, q1216⟩)
theorem c_ok_18 : C_ok 31 10 38 := Or.inl ⟨by decide, RJ9, TJ9, 4, "java/lang/String", rfl, q1216, Or.inl rfl⟩
theorem c_ok : ∀ e ∈ c_T, C_ok e.1 e.2.1 e.2.2.1 := List.forall_mem_cons.mpr ⟨c_ok_0, List.forall_mem_cons.mpr ⟨c_ok_1, List.forall_mem_cons.mpr ⟨c_ok_2, List.forall_mem_cons.mpr ⟨c_ok_3, List.forall_mem_cons.mpr ⟨c_ok_4, List.forall_mem_cons.mpr ⟨c_ok_5, List.forall_mem_cons.mpr ⟨c_ok_6, List.forall_mem_cons.mpr ⟨c_ok_7, List.forall_mem_cons.mpr ⟨c_ok_8, List.forall_mem_cons.mpr ⟨c_ok_9, List.forall_mem_cons.mpr ⟨c_ok_10, List.forall_mem_cons.mpr ⟨c_ok_11, List.forall_mem_cons.mpr ⟨c_ok_12, List.forall_mem_cons.mpr ⟨c_ok_13, List.forall_mem_cons.mpr ⟨c_ok_14, List.forall_mem_cons.mpr ⟨c_ok_15, List.forall_mem_cons.mpr ⟨c_ok_16, List.forall_mem_cons.mpr ⟨c_ok_17, List.forall_mem_cons.mpr ⟨c_ok_18, fun _ h => absurd h List.not_mem_nil⟩⟩⟩⟩⟩⟩⟩⟩⟩⟩⟩⟩⟩⟩⟩⟩⟩⟩⟩
theorem s_ok_0 : S_ok 0 94 1 := ⟨q1129, q1130, q106, q1131⟩
theorem s_ok_1 : S_ok 0 108 2 := ⟨q1494, q1495, q106, q1496⟩
theorem s_ok_2 : S_ok 0 111 3 := ⟨q1521, q1522, q106, q1523⟩
theorem s_ok_3 : S_ok 0 115 4 := ⟨q1541, q1542, q106, q1543⟩
theorem s_ok_4 : S_ok 0 122 5 := ⟨q1553, q1554, q106, q1555⟩
theorem s_ok_5 : S_ok 0 125 6 := ⟨q1564, q1565, q106, q1566⟩
theorem s_ok_6 : S_ok 0 128 7 := ⟨q1571, q1572, q106, q1573⟩
theorem s_ok_7 : S_ok 0 131 8 := ⟨q1578, q1579, q106, q1580⟩
theorem s_ok_8 : S_ok 0 134 9 := ⟨q1589, q1590, q106, q1591⟩
theorem s_ok_9 : S_ok 0 153 10 := ⟨q1596, q1597, q106, q1598⟩
theorem s_ok_10 : S_ok 0 156 11 := ⟨q1603, q1604, q106, q1605⟩
theorem s_ok_11 : S_ok 0 159 12 := ⟨q1614, q1615, q106, q1616⟩
theorem s_ok_12 : S_ok 0 179 13 := ⟨q1625, q1626, q106, q1627⟩
theorem s_ok_13 : S_ok 0 182 14 := ⟨q1632, q1633, q106, q1634⟩
theorem s_ok_14 : S_ok 0 189 15 := ⟨q1639, q1640, q106, q1641⟩
theorem s_ok_15 : S_ok 0 196 16 := ⟨q1646, q1647, q106, q1648⟩
theorem s_ok_16 : S_ok 0 203 17 := ⟨q1653, q1654, q106, q1655⟩
theorem s_ok_17 : S_ok 0 206 18 := ⟨q1660, q1661, q106, q1662⟩
theorem s_ok_18 : S_ok 0 213 19 := ⟨q1667, q1668, q106, q1669⟩
theorem s_ok_19 : S_ok 0 228 20 := ⟨q1674, q1675, q106, q1676⟩
theorem s_ok_20 : S_ok 0 239 21 := ⟨q1681, q1682, q106, q1683⟩
theorem s_ok_21 : S_ok 0 242 22 := ⟨q1696, q1697, q106, q1698⟩
theorem s_ok_22 : S_ok 1 85 68 := ⟨q1502, q1503, q107, q1504⟩
theorem s_ok_23 : S_ok 1 105 66 := ⟨q1138, q1139, q107, q1140⟩
theorem s_ok_24 : S_ok 1 137 31 := ⟨q872, q873, q107, q874⟩
theorem s_ok_25 : S_ok 1 268 303 := ⟨q998, q999, q127, q1000⟩
theorem s_ok_26 : S_ok 1 306 304 := ⟨q1038, q1039, q127, q1040⟩
theorem s_ok_27 : S_ok 12 7 129 := ⟨q508, q509, q130, q510⟩
theorem s_ok_28 : S_ok 16 146 190 := ⟨q2073, q2074, q134, q2075⟩
theorem s_ok_29 : S_ok 16 172 156 := ⟨q1929, q1930, q134, q1931⟩
theorem s_ok_30 : S_ok 16 176 157 := ⟨q1932, q1933, q134, q1934⟩
theorem s_ok_31 : S_ok 16 189 158 := ⟨q1937, q1938, q134, q1939⟩
theorem s_ok_32 : S_ok 16 278 175 := ⟨q2012, q2013, q134, q2014⟩
theorem s_ok_33 : S_ok 16 374 211 := ⟨q2159, q2160, q134, q2161⟩
theorem s_ok_34 : S_ok 16 395 223 := ⟨q2206, q2207, q134, q2208⟩
theorem s_ok_35 : S_ok 16 399 221 := ⟨q2199, q2200, q134, q2201⟩
theorem s_ok_36 : S_ok 16 480 262 := ⟨q2368, q2369, q134, q2370⟩
theorem s_ok_37 : S_ok 17 55 267 := ⟨q1169, q1170, q135, q1171⟩
theorem s_ok_38 : S_ok 17 79 268 := ⟨q1200, q1201, q135, q1202⟩
theorem s_ok_39 : S_ok 17 88 269 := ⟨q1205, q1206, q135, q1207⟩
theorem s_ok_40 : S_ok 17 97 345 := ⟨q1212, q1213, q118, q1214⟩
theorem s_ok_41 : S_ok 17 243 282 := ⟨q1353, q1354, q135, q1355⟩
theorem s_ok_42 : S_ok 22 300 293 := ⟨q642, q643, q122, q644⟩
theorem s_ok_43 : S_ok 22 339 290 := ⟨q427, q428, q122, q429⟩
theorem s_ok_44 : S_ok 22 343 291 := ⟨q430, q431, q122, q432⟩
theorem s_ok_45 : S_ok 24 9 344 := ⟨q1391, q1194, q118, q1195⟩
theorem s_ok_46 : S_ok 27 105 296 := ⟨q694, q695, q124, q696⟩
theorem s_ok_47 : S_ok 28 66 292 := ⟨q612, q613, q122, q614⟩
theorem s_ok_48 : S_ok 28 73 287 := ⟨q611, q272, q120, q273⟩
theorem s_ok_49 : S_ok 28 118 306 := ⟨q691, q692, q133, q693⟩
theorem s_ok_50 : S_ok 29 108 288 := ⟨q282, q283, q122, q284⟩
theorem s_ok_51 : S_ok 29 114 287 := ⟨q271, q272, q120, q273⟩
theorem s_ok_52 : S_ok 29 191 297 := ⟨q1184, q1185, q125, q1186⟩
theorem s_ok_53 : S_ok 29 245 301 := ⟨q379, q380, q127, q381⟩
theorem s_ok_54 : S_ok 29 248 302 := ⟨q382, q383, q127, q384⟩
theorem s_ok_55 : S_ok 31 54 289 := ⟨q424, q425, q122, q426⟩
theorem s_ok_56 : S_ok 31 495 300 := ⟨q1388, q1389, q125, q1390⟩
theorem s_ok_57 : S_ok 31 541 299 := ⟨q1273, q1274, q125, q1275⟩
theorem s_ok_58 : S_ok 31 1015 297 := ⟨q1215, q1185, q125, q1186⟩
theorem s_ok_59 : S_ok 31 1018 298 := ⟨q1217, q1218, q125, q1219⟩
theorem s_ok_60 : S_ok 31 1059 296 := ⟨q1196, q695, q124, q696⟩
theorem s_ok_61 : S_ok 31 1062 294 := ⟨q317, q318, q124, q319⟩
theorem s_ok_62 : S_ok 31 1065 295 := ⟨q363, q364, q124, q365⟩
theorem s_ok : ∀ e ∈ s_T, S_ok e.1 e.2.1 e.2.2 := List.forall_mem_cons.mpr ⟨s_ok_0, List.forall_mem_cons.mpr ⟨s_ok_1, List.forall_mem_cons.mpr ⟨s_ok_2, List.forall_mem_cons.mpr ⟨s_ok_3, List.forall_mem_cons.mpr ⟨s_ok_4, List.forall_mem_cons.mpr ⟨s_ok_5, List.forall_mem_cons.mpr ⟨s_ok_6, List.forall_mem_cons.mpr ⟨s_ok_7, List.forall_mem_cons.mpr ⟨s_ok_8, List.forall_mem_cons.mpr ⟨s_ok_9, List.forall_mem_cons.mpr ⟨s_ok_10, List.forall_mem_cons.mpr ⟨s_ok_11, List.forall_mem_cons.mpr ⟨s_ok_12, List.forall_mem_cons.mpr ⟨s_ok_13, List.forall_mem_cons.mpr ⟨s_ok_14, List.forall_mem_cons.mpr ⟨s_ok_15, List.forall_mem_cons.mpr ⟨s_ok_16, List.forall_mem_cons.mpr ⟨s_ok_17, List.forall_mem_cons.mpr ⟨s_ok_18, List.forall_mem_cons.mpr ⟨s_ok_19, List.forall_mem_cons.mpr ⟨s_ok_20, List.forall_mem_cons.mpr ⟨s_ok_21, List.forall_mem_cons.mpr ⟨s_ok_22, List.forall_mem_cons.mpr ⟨s_ok_23, List.forall_mem_cons.mpr ⟨s_ok_24, List.forall_mem_cons.mpr ⟨s_ok_25, List.forall_mem_cons.mpr ⟨s_ok_26, List.forall_mem_cons.mpr ⟨s_ok_27, List.forall_mem_cons.mpr ⟨s_ok_28, List.forall_mem_cons.mpr ⟨s_ok_29, List.forall_mem_cons.mpr ⟨s_ok_30, List.forall_mem_cons.mpr ⟨s_ok_31, List.forall_mem_cons.mpr ⟨s_ok_32, List.forall_mem_cons.mpr ⟨s_ok_33, List.forall_mem_cons.mpr ⟨s_ok_34, List.forall_mem_cons.mpr ⟨s_ok_35, List.forall_mem_cons.mpr ⟨s_ok_36, List.forall_mem_cons.mpr ⟨s_ok_37, List.forall_mem_cons.mpr ⟨s_ok_38, List.forall_mem_cons.mpr ⟨s_ok_39, List.forall_mem_cons.mpr ⟨s_ok_40, List.forall_mem_cons.mpr ⟨s_ok_41, List.forall_mem_cons.mpr ⟨s_ok_42, List.forall_mem_cons.mpr ⟨s_ok_43, List.forall_mem_cons.mpr ⟨s_ok_44, List.forall_mem_cons.mpr ⟨s_ok_45, List.forall_mem_cons.mpr ⟨s_ok_46, List.forall_mem_cons.mpr ⟨s_ok_47, List.forall_mem_cons.mpr ⟨s_ok_48, List.forall_mem_cons.mpr ⟨s_ok_49, List.forall_mem_cons.mpr ⟨s_ok_50, List.forall_mem_cons.mpr ⟨s_ok_51, List.forall_mem_cons.mpr ⟨s_ok_52, List.forall_mem_cons.mpr ⟨s_ok_53, List.forall_mem_cons.mpr ⟨s_ok_54, List.forall_mem_cons.mpr ⟨s_ok_55, List.forall_mem_cons.mpr ⟨s_ok_56, List.forall_mem_cons.mpr ⟨s_ok_57, List.forall_mem_cons.mpr ⟨s_ok_58, List.forall_mem_cons.mpr ⟨s_ok_59, List.forall_mem_cons.mpr ⟨s_ok_60, List.forall_mem_cons.mpr ⟨s_ok_61, List.forall_mem_cons.mpr ⟨s_ok_62, fun _ h => absurd h List.not_mem_nil⟩⟩⟩⟩⟩⟩⟩⟩⟩⟩⟩⟩⟩⟩⟩⟩⟩⟩⟩⟩⟩⟩⟩⟩⟩⟩⟩⟩⟩⟩⟩⟩⟩⟩⟩⟩⟩⟩⟩⟩⟩⟩⟩⟩⟩⟩⟩⟩⟩⟩⟩⟩⟩⟩⟩⟩⟩⟩⟩⟩⟩⟩⟩
theorem p_ok_0 : P_ok 0 85 23 := ⟨rfl, q152, q151, q107, Or.inl ⟨rfl, rfl, Or.inl q150⟩⟩
theorem p_ok_1 : P_ok 0 88 149 := ⟨rfl, q1716, q1715, q134, Or.inl ⟨rfl, rfl, Or.inl q1714⟩⟩
theorem p_ok_2 : P_ok 1 9 125 := ⟨rfl, q160, q159, q108, Or.inl ⟨rfl, rfl, Or.inr ⟨"TableTower", List.mem_of_getElem? (i := 0) rfl⟩⟩⟩
theorem p_ok_3 : P_ok 1 18 130 := ⟨rfl, q554, q553, q131, Or.inl ⟨rfl, rfl, Or.inl q552⟩⟩
theorem p_ok_4 : P_ok 1 33 133 := ⟨rfl, q560, q559, q132, Or.inl ⟨rfl, rfl, Or.inr ⟨"TableTower", List.mem_of_getElem? (i := 1) rfl⟩⟩⟩
theorem p_ok_5 : P_ok 1 110 264 := ⟨rfl, q1156, q1155, q135, Or.inl ⟨rfl, rfl, Or.inl q1154⟩⟩
theorem p_ok_6 : P_ok 3 1 98 := ⟨rfl, q1342, q1341, q138, Or.inl ⟨rfl, rfl, Or.inr ⟨"TableTower", List.mem_of_getElem? (i := 7) rfl⟩⟩⟩
theorem p_ok_7 : P_ok 4 1 98 := ⟨rfl, q1342, q1341, q138, Or.inl ⟨rfl, rfl, Or.inr ⟨"TableTower", List.mem_of_getElem? (i := 6) rfl⟩⟩⟩
theorem p_ok_8 : P_ok 5 1 98 := ⟨rfl, q1342, q1341, q138, Or.inl ⟨rfl, rfl, Or.inr ⟨"TableTower", List.mem_of_getElem? (i := 3) rfl⟩⟩⟩
theorem p_ok_9 : P_ok 6 1 98 := ⟨rfl, q1342, q1341, q138, Or.inl ⟨rfl, rfl, Or.inr ⟨"TableTower", List.mem_of_getElem? (i := 4) rfl⟩⟩⟩
theorem p_ok_10 : P_ok 8 1 112 := ⟨rfl, q1440, q1439, q143, Or.inl ⟨rfl, rfl, Or.inl q1467⟩⟩
theorem p_ok_11 : P_ok 8 7 107 := ⟨rfl, q844, q828, q143, Or.inr ⟨by decide +kernel, "TableTower$Pine", q842, q830, q843, Or.inl rfl⟩⟩
theorem p_ok_12 : P_ok 8 11 110 := ⟨rfl, q948, q941, q143, Or.inr ⟨by decide +kernel, "TableTower$Pine", q953, q943, q843, Or.inl rfl⟩⟩
theorem p_ok_13 : P_ok 9 1 112 := ⟨rfl, q1440, q1439, q143, Or.inl ⟨rfl, rfl, Or.inl q1477⟩⟩
theorem p_ok_14 : P_ok 9 7 110 := ⟨rfl, q948, q941, q143, Or.inr ⟨by decide +kernel, "TableTower$Pine", q947, q943, q936, Or.inl rfl⟩⟩
theorem p_ok_15 : P_ok 9 11 109 := ⟨rfl, q937, q926, q143, Or.inr ⟨by decide +kernel, "TableTower$Pine", q935, q928, q936, Or.inl rfl⟩⟩
theorem p_ok_16 : P_ok 10 1 120 := ⟨rfl, q1476, q1475, q145, Or.inl ⟨rfl, rfl, Or.inl q1487⟩⟩
theorem p_ok_17 : P_ok 10 7 117 := ⟨rfl, q837, q836, q145, Or.inr ⟨by decide +kernel, "TableTower$Folding", q834, q2384, q835, Or.inl rfl⟩⟩
theorem p_ok_18 : P_ok 10 11 118 := ⟨rfl, q934, q933, q145, Or.inr ⟨by decide +kernel, "TableTower$Folding", q932, q2385, q835, Or.inl rfl⟩⟩
theorem p_ok_19 : P_ok 10 15 111 := ⟨rfl, q973, q964, q143, Or.inr ⟨by decide +kernel, "TableTower$Folding", q970, q971, q835, Or.inr q936⟩⟩
theorem p_ok_20 : P_ok 11 18 307 := ⟨rfl, q166, q165, q111, Or.inl ⟨rfl, rfl, Or.inl q164⟩⟩
theorem p_ok_21 : P_ok 11 27 127 := ⟨rfl, q506, q505, q128, Or.inl ⟨rfl, rfl, Or.inr ⟨"TableTower", List.mem_of_getElem? (i := 8) rfl⟩⟩⟩
theorem p_ok_22 : P_ok 14 11 133 := ⟨rfl, q560, q559, q132, Or.inl ⟨rfl, rfl, Or.inr ⟨"TableTower", List.mem_of_getElem? (i := 2) rfl⟩⟩⟩
theorem p_ok_23 : P_ok 14 20 307 := ⟨rfl, q166, q165, q111, Or.inl ⟨rfl, rfl, Or.inl q592⟩⟩
theorem p_ok_24 : P_ok 17 61 335 := ⟨rfl, q1175, q1174, q117, Or.inl ⟨rfl, rfl, Or.inl q1173⟩⟩
theorem p_ok_25 : P_ok 17 109 284 := ⟨rfl, q1291, q1290, q137, Or.inl ⟨rfl, rfl, Or.inl q1289⟩⟩
theorem p_ok_26 : P_ok 17 122 125 := ⟨rfl, q160, q159, q108, Or.inl ⟨rfl, rfl, Or.inr ⟨"TableTower", List.mem_of_getElem? (i := 5) rfl⟩⟩⟩
theorem p_ok_27 : P_ok 17 181 112 := ⟨rfl, q1440, q1439, q143, Or.inl ⟨rfl, rfl, Or.inl q1438⟩⟩
theorem p_ok_28 : P_ok 17 186 116 := ⟨rfl, q1466, q1465, q144, Or.inl ⟨rfl, rfl, Or.inl q1464⟩⟩
theorem p_ok_29 : P_ok 17 189 120 := ⟨rfl, q1476, q1475, q145, Or.inl ⟨rfl, rfl, Or.inl q1474⟩⟩
theorem p_ok_30 : P_ok 17 192 124 := ⟨rfl, q1486, q1485, q146, Or.inl ⟨rfl, rfl, Or.inl q1484⟩⟩
theorem p_ok_31 : P_ok 17 202 104 := ⟨rfl, q1399, q1398, q141, Or.inl ⟨rfl, rfl, Or.inl q1397⟩⟩
theorem p_ok_32 : P_ok 17 223 106 := ⟨rfl, q1419, q1418, q142, Or.inl ⟨rfl, rfl, Or.inl q1417⟩⟩
theorem p_ok_33 : P_ok 17 240 100 := ⟨rfl, q1339, q1338, q139, Or.inl ⟨rfl, rfl, Or.inl q1337⟩⟩
theorem p_ok_34 : P_ok 17 248 102 := ⟨rfl, q1372, q1371, q140, Or.inl ⟨rfl, rfl, Or.inl q1370⟩⟩
theorem p_ok_35 : P_ok 20 1 285 := ⟨rfl, q172, q171, q109, Or.inl ⟨rfl, rfl, Or.inl q170⟩⟩
theorem p_ok_36 : P_ok 22 47 330 := ⟨rfl, q223, q222, q117, Or.inl ⟨rfl, rfl, Or.inl q435⟩⟩
theorem p_ok_37 : P_ok 28 1 286 := ⟨rfl, q169, q168, q110, Or.inl ⟨rfl, rfl, Or.inl q167⟩⟩
theorem p_ok_38 : P_ok 28 22 330 := ⟨rfl, q223, q222, q117, Or.inl ⟨rfl, rfl, Or.inl q221⟩⟩
theorem p_ok_39 : P_ok 30 1 317 := ⟨rfl, q226, q225, q116, Or.inl ⟨rfl, rfl, Or.inl q224⟩⟩
theorem p_ok_40 : P_ok 30 29 318 := ⟨rfl, q258, q257, q116, Or.inr ⟨by decide +kernel, "java/lang/AbstractStringBuilder", q256, q2376, q249, Or.inl rfl⟩⟩
theorem p_ok_41 : P_ok 30 50 329 := ⟨rfl, q1183, q1182, q116, Or.inr ⟨by decide +kernel, "java/lang/AbstractStringBuilder", q1181, q2387, q249, Or.inl rfl⟩⟩
theorem p_ok_42 : P_ok 30 53 326 := ⟨rfl, q378, q377, q116, Or.inr ⟨by decide +kernel, "java/lang/AbstractStringBuilder", q376, q2383, q249, Or.inl rfl⟩⟩
theorem p_ok_43 : P_ok 30 137 342 := ⟨rfl, q405, q404, q118, Or.inl ⟨rfl, rfl, Or.inl q403⟩⟩
theorem p_ok_44 : P_ok 30 343 328 := ⟨rfl, q422, q416, q116, Or.inr ⟨by decide +kernel, "java/lang/AbstractStringBuilder", q421, q417, q249, Or.inl rfl⟩⟩
theorem p_ok_45 : P_ok 31 209 346 := ⟨rfl, q1222, q1221, q118, Or.inl ⟨rfl, rfl, Or.inl q1220⟩⟩
theorem p_ok_46 : P_ok 31 489 343 := ⟨rfl, q408, q407, q118, Or.inl ⟨rfl, rfl, Or.inl q406⟩⟩
theorem p_ok : ∀ e ∈ p_T, P_ok e.1 e.2.1 e.2.2 := List.forall_mem_cons.mpr ⟨p_ok_0, List.forall_mem_cons.mpr ⟨p_ok_1, List.forall_mem_cons.mpr ⟨p_ok_2, List.forall_mem_cons.mpr ⟨p_ok_3, List.forall_mem_cons.mpr ⟨p_ok_4, List.forall_mem_cons.mpr ⟨p_ok_5, List.forall_mem_cons.mpr ⟨p_ok_6, List.forall_mem_cons.mpr ⟨p_ok_7, List.forall_mem_cons.mpr ⟨p_ok_8, List.forall_mem_cons.mpr ⟨p_ok_9, List.forall_mem_cons.mpr ⟨p_ok_10, List.forall_mem_cons.mpr ⟨p_ok_11, List.forall_mem_cons.mpr ⟨p_ok_12, List.forall_mem_cons.mpr ⟨p_ok_13, List.forall_mem_cons.mpr ⟨p_ok_14, List.forall_mem_cons.mpr ⟨p_ok_15, List.forall_mem_cons.mpr ⟨p_ok_16, List.forall_mem_cons.mpr ⟨p_ok_17, List.forall_mem_cons.mpr ⟨p_ok_18, List.forall_mem_cons.mpr ⟨p_ok_19, List.forall_mem_cons.mpr ⟨p_ok_20, List.forall_mem_cons.mpr ⟨p_ok_21, List.forall_mem_cons.mpr ⟨p_ok_22, List.forall_mem_cons.mpr ⟨p_ok_23, List.forall_mem_cons.mpr ⟨p_ok_24, List.forall_mem_cons.mpr ⟨p_ok_25, List.forall_mem_cons.mpr ⟨p_ok_26, List.forall_mem_cons.mpr ⟨p_ok_27, List.forall_mem_cons.mpr ⟨p_ok_28, List.forall_mem_cons.mpr ⟨p_ok_29, List.forall_mem_cons.mpr ⟨p_ok_30, List.forall_mem_cons.mpr ⟨p_ok_31, List.forall_mem_cons.mpr ⟨p_ok_32, List.forall_mem_cons.mpr ⟨p_ok_33, List.forall_mem_cons.mpr ⟨p_ok_34, List.forall_mem_cons.mpr ⟨p_ok_35, List.forall_mem_cons.mpr ⟨p_ok_36, List.forall_mem_cons.mpr ⟨p_ok_37, List.forall_mem_cons.mpr ⟨p_ok_38, List.forall_mem_cons.mpr ⟨p_ok_39, List.forall_mem_cons.mpr ⟨p_ok_40, List.forall_mem_cons.mpr ⟨p_ok_41, List.forall_mem_cons.mpr ⟨p_ok_42, List.forall_mem_cons.mpr ⟨p_ok_43, List.forall_mem_cons.mpr ⟨p_ok_44, List.forall_mem_cons.mpr ⟨p_ok_45, List.forall_mem_cons.mpr ⟨p_ok_46, fun _ h => absurd h List.not_mem_nil⟩⟩⟩⟩⟩⟩⟩⟩⟩⟩⟩⟩⟩⟩⟩⟩⟩⟩⟩⟩⟩⟩⟩⟩⟩⟩⟩⟩⟩⟩⟩⟩⟩⟩⟩⟩⟩⟩⟩⟩⟩⟩⟩⟩⟩⟩⟩
theorem v_ok_0 : V_ok 0 7 20 65 := ⟨Or.inr (Or.inr ⟨by decide, by decide⟩), Or.inl ⟨rfl, q1133, q1134, q1135, q107, q1136⟩⟩
theorem v_ok_1 : V_ok 0 15 20 67 := ⟨Or.inr (Or.inr ⟨by decide, by decide⟩), Or.inl ⟨rfl, q1498, q1499, q1500, q107, q1501⟩⟩
theorem v_ok_2 : V_ok 0 20 20 69 := ⟨Or.inr (Or.inr ⟨by decide, by decide⟩), Or.inl ⟨rfl, q1524, q1525, q1526, q107, q1527⟩⟩
theorem v_ok_3 : V_ok 0 24 20 71 := ⟨Or.inr (Or.inr ⟨by decide, by decide⟩), Or.inl ⟨rfl, q1544, q1545, q1546, q107, q1547⟩⟩
theorem v_ok_4 : V_ok 0 27 20 73 := ⟨Or.inr (Or.inr ⟨by decide, by decide⟩), Or.inl ⟨rfl, q1556, q1557, q1558, q107, q1559⟩⟩
theorem v_ok_5 : V_ok 0 30 20 74 := ⟨Or.inr (Or.inr ⟨by decide, by decide⟩), Or.inl ⟨rfl, q1567, q1568, q1569, q107, q1570⟩⟩
theorem v_ok_6 : V_ok 0 33 20 75 := ⟨Or.inr (Or.inr ⟨by decide, by decide⟩), Or.inl ⟨rfl, q1574, q1575, q1576, q107, q1577⟩⟩
theorem v_ok_7 : V_ok 0 37 20 76 := ⟨Or.inr (Or.inr ⟨by decide, by decide⟩), Or.inl ⟨rfl, q1581, q1582, q1583, q107, q1584⟩⟩
theorem v_ok_8 : V_ok 0 40 20 78 := ⟨Or.inr (Or.inr ⟨by decide, by decide⟩), Or.inl ⟨rfl, q1592, q1593, q1594, q107, q1595⟩⟩
theorem v_ok_9 : V_ok 0 43 20 79 := ⟨Or.inr (Or.inr ⟨by decide, by decide⟩), Or.inl ⟨rfl, q1599, q1600, q1601, q107, q1602⟩⟩
theorem v_ok_10 : V_ok 0 47 20 80 := ⟨Or.inr (Or.inr ⟨by decide, by decide⟩), Or.inl ⟨rfl, q1606, q1607, q1608, q107, q1609⟩⟩
theorem v_ok_11 : V_ok 0 50 20 82 := ⟨Or.inr (Or.inr ⟨by decide, by decide⟩), Or.inl ⟨rfl, q1617, q1618, q1619, q107, q1620⟩⟩
theorem v_ok_12 : V_ok 0 53 20 84 := ⟨Or.inr (Or.inr ⟨by decide, by decide⟩), Or.inl ⟨rfl, q1628, q1629, q1630, q107, q1631⟩⟩
theorem v_ok_13 : V_ok 0 56 20 85 := ⟨Or.inr (Or.inr ⟨by decide, by decide⟩), Or.inl ⟨rfl, q1635, q1636, q1637, q107, q1638⟩⟩
theorem v_ok_14 : V_ok 0 59 20 86 := ⟨Or.inr (Or.inr ⟨by decide, by decide⟩), Or.inl ⟨rfl, q1642, q1643, q1644, q107, q1645⟩⟩
theorem v_ok_15 : V_ok 0 62 20 87 := ⟨Or.inr (Or.inr ⟨by decide, by decide⟩), Or.inl ⟨rfl, q1649, q1650, q1651, q107, q1652⟩⟩
theorem v_ok_16 : V_ok 0 66 20 88 := ⟨Or.inr (Or.inr ⟨by decide, by decide⟩), Or.inl ⟨rfl, q1656, q1657, q1658, q107, q1659⟩⟩
theorem v_ok_17 : V_ok 0 69 20 89 := ⟨Or.inr (Or.inr ⟨by decide, by decide⟩), Or.inl ⟨rfl, q1663, q1664, q1665, q107, q1666⟩⟩
theorem v_ok_18 : V_ok 0 72 20 90 := ⟨Or.inr (Or.inr ⟨by decide, by decide⟩), Or.inl ⟨rfl, q1670, q1671, q1672, q107, q1673⟩⟩
theorem v_ok_19 : V_ok 0 75 20 91 := ⟨Or.inr (Or.inr ⟨by decide, by decide⟩), Or.inl ⟨rfl, q1677, q1678, q1679, q107, q1680⟩⟩
theorem v_ok_20 : V_ok 0 78 20 92 := ⟨Or.inr (Or.inr ⟨by decide, by decide⟩), Or.inl ⟨rfl, q1684, q1685, q1686, q107, q1687⟩⟩
theorem v_ok_21 : V_ok 0 81 20 95 := ⟨Or.inr (Or.inr ⟨by decide, by decide⟩), Or.inl ⟨rfl, q1699, q1700, q1701, q107, q1702⟩⟩
theorem v_ok_22 : V_ok 0 89 20 24 := ⟨Or.inr (Or.inr ⟨by decide, by decide⟩), Or.inl ⟨rfl, q750, q751, q752, q107, q753⟩⟩
theorem v_ok_23 : V_ok 0 93 25 151 := ⟨Or.inr (Or.inr ⟨by decide, by decide⟩), Or.inl ⟨rfl, q1909, q1910, q1911, q134, q1912⟩⟩
theorem v_ok_24 : V_ok 0 99 25 152 := ⟨Or.inr (Or.inr ⟨by decide, by decide⟩), Or.inl ⟨rfl, q1913, q1914, q1915, q134, q1916⟩⟩
theorem v_ok_25 : V_ok 0 100 25 150 := ⟨Or.inr (Or.inr ⟨by decide, by decide⟩), Or.inl ⟨rfl, q1905, q1906, q1907, q134, q1908⟩⟩
theorem v_ok_26 : V_ok 0 104 20 26 := ⟨Or.inr (Or.inr ⟨by decide, by decide⟩), Or.inl ⟨rfl, q758, q759, q760, q107, q761⟩⟩
theorem v_ok_27 : V_ok 0 107 25 176 := ⟨Or.inr (Or.inr ⟨by decide, by decide⟩), Or.inl ⟨rfl, q2015, q2016, q2017, q134, q2018⟩⟩
theorem v_ok_28 : V_ok 0 110 25 177 := ⟨Or.inr (Or.inr ⟨by decide, by decide⟩), Or.inl ⟨rfl, q2019, q2020, q2021, q134, q2022⟩⟩
theorem v_ok_29 : V_ok 0 114 25 188 := ⟨Or.inr (Or.inr ⟨by decide, by decide⟩), Or.inl ⟨rfl, q2065, q2066, q2067, q134, q2068⟩⟩
theorem v_ok_30 : V_ok 0 117 25 194 := ⟨Or.inr (Or.inr ⟨by decide, by decide⟩), Or.inl ⟨rfl, q2088, q2089, q2090, q134, q2091⟩⟩
theorem v_ok_31 : V_ok 0 118 20 27 := ⟨Or.inr (Or.inr ⟨by decide, by decide⟩), Or.inl ⟨rfl, q762, q763, q764, q107, q765⟩⟩
theorem v_ok_32 : V_ok 0 121 25 192 := ⟨Or.inr (Or.inr ⟨by decide, by decide⟩), Or.inl ⟨rfl, q2080, q2081, q2082, q134, q2083⟩⟩
theorem v_ok_33 : V_ok 0 124 25 196 := ⟨Or.inr (Or.inr ⟨by decide, by decide⟩), Or.inl ⟨rfl, q2097, q2098, q2099, q134, q2100⟩⟩
theorem v_ok_34 : V_ok 0 127 25 200 := ⟨Or.inr (Or.inr ⟨by decide, by decide⟩), Or.inl ⟨rfl, q2113, q2114, q2115, q134, q2116⟩⟩
theorem v_ok_35 : V_ok 0 130 25 202 := ⟨Or.inr (Or.inr ⟨by decide, by decide⟩), Or.inl ⟨rfl, q2121, q2122, q2123, q134, q2124⟩⟩
theorem v_ok_36 : V_ok 0 133 25 205 := ⟨Or.inr (Or.inr ⟨by decide, by decide⟩), Or.inl ⟨rfl, q2133, q2134, q2135, q134, q2136⟩⟩
theorem v_ok_37 : V_ok 0 136 25 207 := ⟨Or.inr (Or.inr ⟨by decide, by decide⟩), Or.inl ⟨rfl, q2143, q2144, q2145, q134, q2146⟩⟩
theorem v_ok_38 : V_ok 0 137 20 29 := ⟨Or.inr (Or.inr ⟨by decide, by decide⟩), Or.inl ⟨rfl, q775, q776, q777, q107, q778⟩⟩
theorem v_ok_39 : V_ok 0 140 25 208 := ⟨Or.inr (Or.inr ⟨by decide, by decide⟩), Or.inl ⟨rfl, q2147, q2148, q2149, q134, q2150⟩⟩
theorem v_ok_40 : V_ok 0 141 20 30 := ⟨Or.inr (Or.inr ⟨by decide, by decide⟩), Or.inl ⟨rfl, q868, q869, q870, q107, q871⟩⟩
theorem v_ok_41 : V_ok 0 144 25 212 := ⟨Or.inr (Or.inr ⟨by decide, by decide⟩), Or.inl ⟨rfl, q2162, q2163, q2164, q134, q2165⟩⟩
theorem v_ok_42 : V_ok 0 145 20 34 := ⟨Or.inr (Or.inr ⟨by decide, by decide⟩), Or.inl ⟨rfl, q883, q884, q885, q107, q886⟩⟩
theorem v_ok_43 : V_ok 0 148 25 213 := ⟨Or.inr (Or.inr ⟨by decide, by decide⟩), Or.inl ⟨rfl, q2167, q2168, q2169, q134, q2170⟩⟩
theorem v_ok_44 : V_ok 0 149 20 35 := ⟨Or.inr (Or.inr ⟨by decide, by decide⟩), Or.inl ⟨rfl, q889, q890, q891, q107, q892⟩⟩
theorem v_ok_45 : V_ok 0 152 25 215 := ⟨Or.inr (Or.inr ⟨by decide, by decide⟩), Or.inl ⟨rfl, q2175, q2176, q2177, q134, q2178⟩⟩
theorem v_ok_46 : V_ok 0 155 25 217 := ⟨Or.inr (Or.inr ⟨by decide, by decide⟩), Or.inl ⟨rfl, q2183, q2184, q2185, q134, q2186⟩⟩
theorem v_ok_47 : V_ok 0 158 25 218 := ⟨Or.inr (Or.inr ⟨by decide, by decide⟩), Or.inl ⟨rfl, q2187, q2188, q2189, q134, q2190⟩⟩
theorem v_ok_48 : V_ok 0 161 25 225 := ⟨Or.inr (Or.inr ⟨by decide, by decide⟩), Or.inl ⟨rfl, q2213, q2214, q2215, q134, q2216⟩⟩
theorem v_ok_49 : V_ok 0 162 20 37 := ⟨Or.inr (Or.inr ⟨by decide, by decide⟩), Or.inl ⟨rfl, q982, q983, q984, q107, q985⟩⟩
theorem v_ok_50 : V_ok 0 166 25 226 := ⟨Or.inr (Or.inr ⟨by decide, by decide⟩), Or.inl ⟨rfl, q2217, q2218, q2219, q134, q2220⟩⟩
theorem v_ok_51 : V_ok 0 167 20 43 := ⟨Or.inr (Or.inr ⟨by decide, by decide⟩), Or.inl ⟨rfl, q1020, q1021, q1022, q107, q1023⟩⟩
theorem v_ok_52 : V_ok 0 170 25 229 := ⟨Or.inr (Or.inr ⟨by decide, by decide⟩), Or.inl ⟨rfl, q2230, q2231, q2232, q134, q2233⟩⟩
theorem v_ok_53 : V_ok 0 171 20 45 := ⟨Or.inr (Or.inr ⟨by decide, by decide⟩), Or.inl ⟨rfl, q1030, q1031, q1032, q107, q1033⟩⟩
theorem v_ok_54 : V_ok 0 174 25 231 := ⟨Or.inr (Or.inr ⟨by decide, by decide⟩), Or.inl ⟨rfl, q2238, q2239, q2240, q134, q2241⟩⟩
theorem v_ok_55 : V_ok 0 175 20 46 := ⟨Or.inr (Or.inr ⟨by decide, by decide⟩), Or.inl ⟨rfl, q1034, q1035, q1036, q107, q1037⟩⟩
theorem v_ok_56 : V_ok 0 178 25 235 := ⟨Or.inr (Or.inr ⟨by decide, by decide⟩), Or.inl ⟨rfl, q2255, q2256, q2257, q134, q2258⟩⟩
theorem v_ok_57 : V_ok 0 181 25 233 := ⟨Or.inr (Or.inr ⟨by decide, by decide⟩), Or.inl ⟨rfl, q2247, q2248, q2249, q134, q2250⟩⟩
theorem v_ok_58 : V_ok 0 184 25 237 := ⟨Or.inr (Or.inr ⟨by decide, by decide⟩), Or.inl ⟨rfl, q2263, q2264, q2265, q134, q2266⟩⟩
theorem v_ok_59 : V_ok 0 185 20 49 := ⟨Or.inr (Or.inr ⟨by decide, by decide⟩), Or.inl ⟨rfl, q1051, q1052, q1053, q107, q1054⟩⟩
theorem v_ok_60 : V_ok 0 188 25 238 := ⟨Or.inr (Or.inr ⟨by decide, by decide⟩), Or.inl ⟨rfl, q2267, q2268, q2269, q134, q2270⟩⟩
theorem v_ok_61 : V_ok 0 191 25 241 := ⟨Or.inr (Or.inr ⟨by decide, by decide⟩), Or.inl ⟨rfl, q2280, q2281, q2282, q134, q2283⟩⟩
theorem v_ok_62 : V_ok 0 192 20 50 := ⟨Or.inr (Or.inr ⟨by decide, by decide⟩), Or.inl ⟨rfl, q1059, q1060, q1061, q107, q1062⟩⟩
theorem v_ok_63 : V_ok 0 195 25 244 := ⟨Or.inr (Or.inr ⟨by decide, by decide⟩), Or.inl ⟨rfl, q2292, q2293, q2294, q134, q2295⟩⟩
theorem v_ok_64 : V_ok 0 198 25 228 := ⟨Or.inr (Or.inr ⟨by decide, by decide⟩), Or.inl ⟨rfl, q2225, q2226, q2227, q134, q2228⟩⟩
theorem v_ok_65 : V_ok 0 199 20 52 := ⟨Or.inr (Or.inr ⟨by decide, by decide⟩), Or.inl ⟨rfl, q1067, q1068, q1069, q107, q1070⟩⟩
theorem v_ok_66 : V_ok 0 202 25 245 := ⟨Or.inr (Or.inr ⟨by decide, by decide⟩), Or.inl ⟨rfl, q2296, q2297, q2298, q134, q2299⟩⟩
theorem v_ok_67 : V_ok 0 205 25 246 := ⟨Or.inr (Or.inr ⟨by decide, by decide⟩), Or.inl ⟨rfl, q2300, q2301, q2302, q134, q2303⟩⟩
theorem v_ok_68 : V_ok 0 208 25 232 := ⟨Or.inr (Or.inr ⟨by decide, by decide⟩), Or.inl ⟨rfl, q2242, q2243, q2244, q134, q2245⟩⟩
theorem v_ok_69 : V_ok 0 209 20 53 := ⟨Or.inr (Or.inr ⟨by decide, by decide⟩), Or.inl ⟨rfl, q1071, q1072, q1073, q107, q1074⟩⟩
theorem v_ok_70 : V_ok 0 212 25 247 := ⟨Or.inr (Or.inr ⟨by decide, by decide⟩), Or.inl ⟨rfl, q2304, q2305, q2306, q134, q2307⟩⟩
theorem v_ok_71 : V_ok 0 215 25 239 := ⟨Or.inr (Or.inr ⟨by decide, by decide⟩), Or.inl ⟨rfl, q2271, q2272, q2273, q134, q2274⟩⟩
theorem v_ok_72 : V_ok 0 216 20 54 := ⟨Or.inr (Or.inr ⟨by decide, by decide⟩), Or.inl ⟨rfl, q1076, q1077, q1078, q107, q1079⟩⟩
theorem v_ok_73 : V_ok 0 219 25 243 := ⟨Or.inr (Or.inr ⟨by decide, by decide⟩), Or.inl ⟨rfl, q2288, q2289, q2290, q134, q2291⟩⟩
theorem v_ok_74 : V_ok 0 220 20 56 := ⟨Or.inr (Or.inr ⟨by decide, by decide⟩), Or.inl ⟨rfl, q1088, q1089, q1090, q107, q1091⟩⟩
theorem v_ok_75 : V_ok 0 223 25 240 := ⟨Or.inr (Or.inr ⟨by decide, by decide⟩), Or.inl ⟨rfl, q2276, q2277, q2278, q134, q2279⟩⟩
theorem v_ok_76 : V_ok 0 224 20 57 := ⟨Or.inr (Or.inr ⟨by decide, by decide⟩), Or.inl ⟨rfl, q1092, q1093, q1094, q107, q1095⟩⟩
theorem v_ok_77 : V_ok 0 227 25 248 := ⟨Or.inr (Or.inr ⟨by decide, by decide⟩), Or.inl ⟨rfl, q2308, q2309, q2310, q134, q2311⟩⟩
theorem v_ok_78 : V_ok 0 230 25 249 := ⟨Or.inr (Or.inr ⟨by decide, by decide⟩), Or.inl ⟨rfl, q2313, q2314, q2315, q134, q2316⟩⟩
theorem v_ok_79 : V_ok 0 231 20 58 := ⟨Or.inr (Or.inr ⟨by decide, by decide⟩), Or.inl ⟨rfl, q1096, q1097, q1098, q107, q1099⟩⟩
theorem v_ok_80 : V_ok 0 234 25 252 := ⟨Or.inr (Or.inr ⟨by decide, by decide⟩), Or.inl ⟨rfl, q2326, q2327, q2328, q134, q2329⟩⟩
theorem v_ok_81 : V_ok 0 235 20 62 := ⟨Or.inr (Or.inr ⟨by decide, by decide⟩), Or.inl ⟨rfl, q1112, q1113, q1114, q107, q1115⟩⟩
theorem v_ok_82 : V_ok 0 238 25 254 := ⟨Or.inr (Or.inr ⟨by decide, by decide⟩), Or.inl ⟨rfl, q2334, q2335, q2336, q134, q2337⟩⟩
theorem v_ok_83 : V_ok 0 241 25 255 := ⟨Or.inr (Or.inr ⟨by decide, by decide⟩), Or.inl ⟨rfl, q2338, q2339, q2340, q134, q2341⟩⟩
theorem v_ok_84 : V_ok 0 245 25 258 := ⟨Or.inr (Or.inr ⟨by decide, by decide⟩), Or.inl ⟨rfl, q2350, q2351, q2352, q134, q2353⟩⟩
theorem v_ok_85 : V_ok 0 246 20 63 := ⟨Or.inr (Or.inr ⟨by decide, by decide⟩), Or.inl ⟨rfl, q1116, q1117, q1118, q107, q1119⟩⟩
theorem v_ok_86 : V_ok 0 249 25 261 := ⟨Or.inr (Or.inr ⟨by decide, by decide⟩), Or.inl ⟨rfl, q2364, q2365, q2366, q134, q2367⟩⟩
theorem v_ok_87 : V_ok 0 250 20 64 := ⟨Or.inr (Or.inr ⟨by decide, by decide⟩), Or.inl ⟨rfl, q1125, q1126, q1127, q107, q1128⟩⟩
theorem v_ok_88 : V_ok 0 254 25 263 := ⟨Or.inr (Or.inr ⟨by decide, by decide⟩), Or.inl ⟨rfl, q2371, q2372, q2373, q134, q2374⟩⟩
theorem v_ok_89 : V_ok 1 63 24 134 := ⟨Or.inr (Or.inr ⟨by decide, by decide⟩), Or.inl ⟨rfl, q679, q680, q681, q132, q682⟩⟩
theorem v_ok_90 : V_ok 1 77 36 312 := ⟨Or.inr (Or.inr ⟨by decide, by decide⟩), Or.inl ⟨rfl, q770, q684, q685, q111, q686⟩⟩
theorem v_ok_91 : V_ok 1 83 20 28 := ⟨Or.inr (Or.inr ⟨by decide, by decide⟩), Or.inl ⟨rfl, q766, q768, qs5, q107, q769⟩⟩
theorem v_ok_92 : V_ok 1 89 36 313 := ⟨Or.inr (Or.inr ⟨by decide, by decide⟩), Or.inl ⟨rfl, q887, q688, q689, q111, q690⟩⟩
theorem v_ok_93 : V_ok 1 101 20 25 := ⟨Or.inr (Or.inr ⟨by decide, by decide⟩), Or.inl ⟨rfl, q754, q756, qs4, q107, q757⟩⟩
theorem v_ok_94 : V_ok 1 113 26 270 := ⟨Or.inr (Or.inr ⟨by decide, by decide⟩), Or.inl ⟨rfl, q1254, q1255, q1256, q135, q1257⟩⟩
theorem v_ok_95 : V_ok 1 147 24 138 := ⟨Or.inr (Or.inr ⟨by decide, by decide⟩), Or.inl ⟨rfl, q897, q898, q899, q132, q900⟩⟩
theorem v_ok_96 : V_ok 1 151 24 139 := ⟨Or.inr (Or.inr ⟨by decide, by decide⟩), Or.inl ⟨rfl, q1520, q902, q903, q132, q904⟩⟩
theorem v_ok_97 : V_ok 1 158 24 146 := ⟨Or.inr (Or.inr ⟨by decide, by decide⟩), Or.inl ⟨rfl, q1055, q1056, q1057, q132, q1058⟩⟩
theorem v_ok_98 : V_ok 1 164 20 70 := ⟨Or.inr (Or.inr ⟨by decide, by decide⟩), Or.inl ⟨rfl, q1528, q1530, qs37, q107, q1531⟩⟩
theorem v_ok_99 : V_ok 1 168 32 107 := ⟨Or.inr (Or.inr ⟨by decide, by decide⟩), Or.inl ⟨rfl, q1532, q828, q829, q143, q844⟩⟩
theorem v_ok_100 : V_ok 1 168 33 114 := ⟨Or.inr (Or.inr ⟨by decide, by decide⟩), Or.inr (Or.inl ⟨rfl, "TableTower$Pine", ⟨"TableTower$Pine", "kind", "()I"⟩, q1532, q830, q839, q840, q144, q841, ⟨by decide +kernel, by decide +kernel, by decide +kernel⟩, Or.inl ⟨_, _, _, q844, q828⟩⟩)⟩
theorem v_ok_101 : V_ok 1 168 34 117 := ⟨Or.inr (Or.inr ⟨by decide, by decide⟩), Or.inr (Or.inl ⟨rfl, "TableTower$Pine", ⟨"TableTower$Pine", "kind", "()I"⟩, q1532, q830, q838, q836, q145, q837, ⟨by decide +kernel, by decide +kernel, by decide +kernel⟩, Or.inl ⟨_, _, _, q844, q828⟩⟩)⟩
theorem v_ok_102 : V_ok 1 168 35 121 := ⟨Or.inr (Or.inr ⟨by decide, by decide⟩), Or.inr (Or.inl ⟨rfl, "TableTower$Pine", ⟨"TableTower$Pine", "kind", "()I"⟩, q1532, q830, q831, q832, q146, q833, ⟨by decide +kernel, by decide +kernel, by decide +kernel⟩, Or.inl ⟨_, _, _, q844, q828⟩⟩)⟩
theorem v_ok_103 : V_ok 1 173 32 113 := ⟨Or.inr (Or.inr ⟨by decide, by decide⟩), Or.inl ⟨rfl, q1533, q1534, q1535, q143, q1540⟩⟩
theorem v_ok_104 : V_ok 1 173 33 113 := ⟨Or.inr (Or.inr ⟨by decide, by decide⟩), Or.inr (Or.inl ⟨rfl, "TableTower$Pine", ⟨"TableTower$Pine", "bearing", "(I)I"⟩, q1533, q1536, q1539, q1534, q143, q1540, ⟨by decide +kernel, by decide +kernel, by decide +kernel⟩, Or.inl ⟨_, _, _, q1540, q1534⟩⟩)⟩
theorem v_ok_105 : V_ok 1 173 34 113 := ⟨Or.inr (Or.inr ⟨by decide, by decide⟩), Or.inr (Or.inl ⟨rfl, "TableTower$Pine", ⟨"TableTower$Pine", "bearing", "(I)I"⟩, q1533, q1536, q1538, q1534, q143, q1540, ⟨by decide +kernel, by decide +kernel, by decide +kernel⟩, Or.inl ⟨_, _, _, q1540, q1534⟩⟩)⟩
theorem v_ok_106 : V_ok 1 173 35 113 := ⟨Or.inr (Or.inr ⟨by decide, by decide⟩), Or.inr (Or.inl ⟨rfl, "TableTower$Pine", ⟨"TableTower$Pine", "bearing", "(I)I"⟩, q1533, q1536, q1537, q1534, q143, q1540, ⟨by decide +kernel, by decide +kernel, by decide +kernel⟩, Or.inl ⟨_, _, _, q1540, q1534⟩⟩)⟩
theorem v_ok_107 : V_ok 1 189 24 135 := ⟨Or.inr (Or.inr ⟨by decide, by decide⟩), Or.inl ⟨rfl, q771, q772, q773, q132, q774⟩⟩
theorem v_ok_108 : V_ok 1 192 20 72 := ⟨Or.inr (Or.inr ⟨by decide, by decide⟩), Or.inl ⟨rfl, q1548, q1550, qs38, q107, q1551⟩⟩
theorem v_ok_109 : V_ok 1 198 24 141 := ⟨Or.inr (Or.inr ⟨by decide, by decide⟩), Or.inl ⟨rfl, q980, q910, q911, q132, q912⟩⟩
theorem v_ok_110 : V_ok 1 202 24 142 := ⟨Or.inr (Or.inr ⟨by decide, by decide⟩), Or.inl ⟨rfl, q979, q914, q915, q132, q916⟩⟩
theorem v_ok_111 : V_ok 1 205 24 143 := ⟨Or.inr (Or.inr ⟨by decide, by decide⟩), Or.inl ⟨rfl, q1075, q956, q957, q132, q958⟩⟩
theorem v_ok_112 : V_ok 1 208 24 140 := ⟨Or.inr (Or.inr ⟨by decide, by decide⟩), Or.inl ⟨rfl, q1552, q906, q907, q132, q908⟩⟩
theorem v_ok_113 : V_ok 1 212 23 131 := ⟨Or.inr (Or.inr ⟨by decide, by decide⟩), Or.inl ⟨rfl, q779, q780, q781, q131, q782⟩⟩
theorem v_ok_114 : V_ok 1 215 20 33 := ⟨Or.inr (Or.inr ⟨by decide, by decide⟩), Or.inl ⟨rfl, q879, q881, qs8, q107, q882⟩⟩
theorem v_ok_115 : V_ok 1 218 20 32 := ⟨Or.inr (Or.inr ⟨by decide, by decide⟩), Or.inl ⟨rfl, q875, q877, qs7, q107, q878⟩⟩
theorem v_ok_116 : V_ok 1 222 24 148 := ⟨Or.inr (Or.inr ⟨by decide, by decide⟩), Or.inl ⟨rfl, q1560, q1561, q1562, q132, q1563⟩⟩
theorem v_ok_117 : V_ok 1 226 24 147 := ⟨Or.inr (Or.inr ⟨by decide, by decide⟩), Or.inl ⟨rfl, q1084, q1085, q1086, q132, q1087⟩⟩
theorem v_ok_118 : V_ok 1 229 20 77 := ⟨Or.inr (Or.inr ⟨by decide, by decide⟩), Or.inl ⟨rfl, q1585, q1587, qs39, q107, q1588⟩⟩
theorem v_ok_119 : V_ok 1 233 24 137 := ⟨Or.inr (Or.inr ⟨by decide, by decide⟩), Or.inl ⟨rfl, q798, q799, q800, q132, q801⟩⟩
theorem v_ok_120 : V_ok 1 239 24 136 := ⟨Or.inr (Or.inr ⟨by decide, by decide⟩), Or.inl ⟨rfl, q888, q794, q795, q132, q796⟩⟩
theorem v_ok_121 : V_ok 1 243 20 36 := ⟨Or.inr (Or.inr ⟨by decide, by decide⟩), Or.inl ⟨rfl, q893, q895, qs9, q107, q896⟩⟩
theorem v_ok_122 : V_ok 1 247 24 144 := ⟨Or.inr (Or.inr ⟨by decide, by decide⟩), Or.inl ⟨rfl, q1018, q960, q961, q132, q962⟩⟩
theorem v_ok_123 : V_ok 1 250 20 41 := ⟨Or.inr (Or.inr ⟨by decide, by decide⟩), Or.inl ⟨rfl, q1009, q1011, qs13, q107, q1012⟩⟩
theorem v_ok_124 : V_ok 1 253 32 108 := ⟨Or.inr (Or.inr ⟨by decide, by decide⟩), Or.inl ⟨rfl, q1013, q918, q919, q143, q924⟩⟩
theorem v_ok_125 : V_ok 1 253 33 108 := ⟨Or.inr (Or.inr ⟨by decide, by decide⟩), Or.inr (Or.inl ⟨rfl, "TableTower$Pine", ⟨"TableTower$Pine", "carriesBy", "(IZ)I"⟩, q1013, q920, q923, q918, q143, q924, ⟨by decide +kernel, by decide +kernel, by decide +kernel⟩, Or.inl ⟨_, _, _, q924, q918⟩⟩)⟩
theorem v_ok_126 : V_ok 1 253 34 108 := ⟨Or.inr (Or.inr ⟨by decide, by decide⟩), Or.inr (Or.inl ⟨rfl, "TableTower$Pine", ⟨"TableTower$Pine", "carriesBy", "(IZ)I"⟩, q1013, q920, q922, q918, q143, q924, ⟨by decide +kernel, by decide +kernel, by decide +kernel⟩, Or.inl ⟨_, _, _, q924, q918⟩⟩)⟩
theorem v_ok_127 : V_ok 1 253 35 108 := ⟨Or.inr (Or.inr ⟨by decide, by decide⟩), Or.inr (Or.inl ⟨rfl, "TableTower$Pine", ⟨"TableTower$Pine", "carriesBy", "(IZ)I"⟩, q1013, q920, q921, q918, q143, q924, ⟨by decide +kernel, by decide +kernel, by decide +kernel⟩, Or.inl ⟨_, _, _, q924, q918⟩⟩)⟩
theorem v_ok_128 : V_ok 1 257 20 42 := ⟨Or.inr (Or.inr ⟨by decide, by decide⟩), Or.inl ⟨rfl, q1014, q1016, qs14, q107, q1017⟩⟩
theorem v_ok_129 : V_ok 1 264 20 39 := ⟨Or.inr (Or.inr ⟨by decide, by decide⟩), Or.inl ⟨rfl, q994, q996, qs11, q107, q997⟩⟩
theorem v_ok_130 : V_ok 1 273 20 38 := ⟨Or.inr (Or.inr ⟨by decide, by decide⟩), Or.inl ⟨rfl, q990, q992, qs10, q107, q993⟩⟩
theorem v_ok_131 : V_ok 1 276 20 81 := ⟨Or.inr (Or.inr ⟨by decide, by decide⟩), Or.inl ⟨rfl, q1610, q1612, qs40, q107, q1613⟩⟩
theorem v_ok_132 : V_ok 1 279 20 40 := ⟨Or.inr (Or.inr ⟨by decide, by decide⟩), Or.inl ⟨rfl, q1004, q1006, qs12, q107, q1007⟩⟩
theorem v_ok_133 : V_ok 1 281 20 83 := ⟨Or.inr (Or.inr ⟨by decide, by decide⟩), Or.inl ⟨rfl, q1621, q1623, qs41, q107, q1624⟩⟩
theorem v_ok_134 : V_ok 1 285 24 145 := ⟨Or.inr (Or.inr ⟨by decide, by decide⟩), Or.inl ⟨rfl, q986, q987, q988, q132, q989⟩⟩
theorem v_ok_135 : V_ok 1 289 32 111 := ⟨Or.inr (Or.inr ⟨by decide, by decide⟩), Or.inl ⟨rfl, q1029, q964, q965, q143, q973⟩⟩
theorem v_ok_136 : V_ok 1 289 33 111 := ⟨Or.inr (Or.inr ⟨by decide, by decide⟩), Or.inr (Or.inl ⟨rfl, "TableTower$Pine", ⟨"TableTower$Pine", "times", "()I"⟩, q1029, q966, q975, q964, q143, q973, ⟨by decide +kernel, by decide +kernel, by decide +kernel⟩, Or.inl ⟨_, _, _, q973, q964⟩⟩)⟩
theorem v_ok_137 : V_ok 1 289 34 111 := ⟨Or.inr (Or.inr ⟨by decide, by decide⟩), Or.inr (Or.inl ⟨rfl, "TableTower$Pine", ⟨"TableTower$Pine", "times", "()I"⟩, q1029, q966, q974, q964, q143, q973, ⟨by decide +kernel, by decide +kernel, by decide +kernel⟩, Or.inl ⟨_, _, _, q973, q964⟩⟩)⟩
theorem v_ok_138 : V_ok 1 289 35 123 := ⟨Or.inr (Or.inr ⟨by decide, by decide⟩), Or.inr (Or.inl ⟨rfl, "TableTower$Pine", ⟨"TableTower$Pine", "times", "()I"⟩, q1029, q966, q967, q968, q146, q969, ⟨by decide +kernel, by decide +kernel, by decide +kernel⟩, Or.inl ⟨_, _, _, q973, q964⟩⟩)⟩
theorem v_ok_139 : V_ok 1 292 20 44 := ⟨Or.inr (Or.inr ⟨by decide, by decide⟩), Or.inl ⟨rfl, q1024, q1026, qs15, q107, q1027⟩⟩
theorem v_ok_140 : V_ok 1 300 20 48 := ⟨Or.inr (Or.inr ⟨by decide, by decide⟩), Or.inl ⟨rfl, q1046, q1048, qs17, q107, q1049⟩⟩
theorem v_ok_141 : V_ok 1 303 20 47 := ⟨Or.inr (Or.inr ⟨by decide, by decide⟩), Or.inl ⟨rfl, q1042, q1044, qs16, q107, q1045⟩⟩
theorem v_ok_142 : V_ok 1 312 20 55 := ⟨Or.inr (Or.inr ⟨by decide, by decide⟩), Or.inl ⟨rfl, q1080, q1082, qs19, q107, q1083⟩⟩
theorem v_ok_143 : V_ok 1 315 20 51 := ⟨Or.inr (Or.inr ⟨by decide, by decide⟩), Or.inl ⟨rfl, q1063, q1065, qs18, q107, q1066⟩⟩
theorem v_ok_144 : V_ok 1 323 20 61 := ⟨Or.inr (Or.inr ⟨by decide, by decide⟩), Or.inl ⟨rfl, q1108, q1110, qs22, q107, q1111⟩⟩
theorem v_ok_145 : V_ok 1 327 20 60 := ⟨Or.inr (Or.inr ⟨by decide, by decide⟩), Or.inl ⟨rfl, q1104, q1106, qs21, q107, q1107⟩⟩
theorem v_ok_146 : V_ok 1 331 20 59 := ⟨Or.inr (Or.inr ⟨by decide, by decide⟩), Or.inl ⟨rfl, q1100, q1102, qs20, q107, q1103⟩⟩
theorem v_ok_147 : V_ok 1 334 20 93 := ⟨Or.inr (Or.inr ⟨by decide, by decide⟩), Or.inl ⟨rfl, q1688, q1690, qs42, q107, q1691⟩⟩
theorem v_ok_148 : V_ok 1 337 20 94 := ⟨Or.inr (Or.inr ⟨by decide, by decide⟩), Or.inl ⟨rfl, q1692, q1694, qs43, q107, q1695⟩⟩
theorem v_ok_149 : V_ok 1 344 20 97 := ⟨Or.inr (Or.inr ⟨by decide, by decide⟩), Or.inl ⟨rfl, q1707, q1709, qs45, q107, q1710⟩⟩
theorem v_ok_150 : V_ok 1 347 20 96 := ⟨Or.inr (Or.inr ⟨by decide, by decide⟩), Or.inl ⟨rfl, q1703, q1705, qs44, q107, q1706⟩⟩
theorem v_ok_151 : V_ok 1 350 23 132 := ⟨Or.inr (Or.inr ⟨by decide, by decide⟩), Or.inl ⟨rfl, q1120, q1121, q1122, q131, q1123⟩⟩
theorem v_ok_152 : V_ok 4 19 17 305 := ⟨Or.inl rfl, Or.inr (Or.inl ⟨rfl, "java/lang/Enum", ⟨"TableTower$Value", "ordinal", "()I"⟩, q861, q816, q818, q819, q129, q820, ⟨by decide +kernel, by decide +kernel, by decide +kernel⟩, Or.inl ⟨_, _, _, q820, q819⟩⟩)⟩
theorem v_ok_153 : V_ok 5 20 28 99 := ⟨Or.inr (Or.inr ⟨by decide, by decide⟩), Or.inr (Or.inl ⟨rfl, "TableTower$Expr", ⟨"TableTower$Expr", "by", "(LTableTower$View;)I"⟩, q855, q851, q866, q862, q139, q863, ⟨by decide +kernel, by decide +kernel, by decide +kernel⟩, Or.inr (List.mem_of_getElem? (i := 0) rfl)⟩)⟩
theorem v_ok_154 : V_ok 5 20 29 101 := ⟨Or.inr (Or.inr ⟨by decide, by decide⟩), Or.inr (Or.inl ⟨rfl, "TableTower$Expr", ⟨"TableTower$Expr", "by", "(LTableTower$View;)I"⟩, q855, q851, q865, q859, q140, q860, ⟨by decide +kernel, by decide +kernel, by decide +kernel⟩, Or.inr (List.mem_of_getElem? (i := 0) rfl)⟩)⟩
theorem v_ok_155 : V_ok 5 20 30 103 := ⟨Or.inr (Or.inr ⟨by decide, by decide⟩), Or.inr (Or.inl ⟨rfl, "TableTower$Expr", ⟨"TableTower$Expr", "by", "(LTableTower$View;)I"⟩, q855, q851, q852, q853, q141, q854, ⟨by decide +kernel, by decide +kernel, by decide +kernel⟩, Or.inr (List.mem_of_getElem? (i := 0) rfl)⟩)⟩
theorem v_ok_156 : V_ok 5 20 31 105 := ⟨Or.inr (Or.inr ⟨by decide, by decide⟩), Or.inr (Or.inl ⟨rfl, "TableTower$Expr", ⟨"TableTower$Expr", "by", "(LTableTower$View;)I"⟩, q855, q851, q864, q856, q142, q857, ⟨by decide +kernel, by decide +kernel, by decide +kernel⟩, Or.inr (List.mem_of_getElem? (i := 0) rfl)⟩)⟩
theorem v_ok_157 : V_ok 6 13 28 99 := ⟨Or.inr (Or.inr ⟨by decide, by decide⟩), Or.inr (Or.inl ⟨rfl, "TableTower$Expr", ⟨"TableTower$Expr", "by", "(LTableTower$View;)I"⟩, q858, q851, q866, q862, q139, q863, ⟨by decide +kernel, by decide +kernel, by decide +kernel⟩, Or.inr (List.mem_of_getElem? (i := 0) rfl)⟩)⟩
theorem v_ok_158 : V_ok 6 13 29 101 := ⟨Or.inr (Or.inr ⟨by decide, by decide⟩), Or.inr (Or.inl ⟨rfl, "TableTower$Expr", ⟨"TableTower$Expr", "by", "(LTableTower$View;)I"⟩, q858, q851, q865, q859, q140, q860, ⟨by decide +kernel, by decide +kernel, by decide +kernel⟩, Or.inr (List.mem_of_getElem? (i := 0) rfl)⟩)⟩
theorem v_ok_159 : V_ok 6 13 30 103 := ⟨Or.inr (Or.inr ⟨by decide, by decide⟩), Or.inr (Or.inl ⟨rfl, "TableTower$Expr", ⟨"TableTower$Expr", "by", "(LTableTower$View;)I"⟩, q858, q851, q852, q853, q141, q854, ⟨by decide +kernel, by decide +kernel, by decide +kernel⟩, Or.inr (List.mem_of_getElem? (i := 0) rfl)⟩)⟩
theorem v_ok_160 : V_ok 6 13 31 105 := ⟨Or.inr (Or.inr ⟨by decide, by decide⟩), Or.inr (Or.inl ⟨rfl, "TableTower$Expr", ⟨"TableTower$Expr", "by", "(LTableTower$View;)I"⟩, q858, q851, q864, q856, q142, q857, ⟨by decide +kernel, by decide +kernel, by decide +kernel⟩, Or.inr (List.mem_of_getElem? (i := 0) rfl)⟩)⟩
theorem v_ok_161 : V_ok 7 22 32 110 := ⟨Or.inr (Or.inr ⟨by decide, by decide⟩), Or.inl ⟨rfl, q940, q941, q942, q143, q948⟩⟩
theorem v_ok_162 : V_ok 7 22 33 115 := ⟨Or.inr (Or.inr ⟨by decide, by decide⟩), Or.inr (Or.inl ⟨rfl, "TableTower$Pine", ⟨"TableTower$Pine", "worm", "()I"⟩, q940, q943, q950, q951, q144, q952, ⟨by decide +kernel, by decide +kernel, by decide +kernel⟩, Or.inl ⟨_, _, _, q948, q941⟩⟩)⟩
theorem v_ok_163 : V_ok 7 22 34 119 := ⟨Or.inr (Or.inr ⟨by decide, by decide⟩), Or.inr (Or.inl ⟨rfl, "TableTower$Pine", ⟨"TableTower$Pine", "worm", "()I"⟩, q940, q943, q949, q945, q145, q946, ⟨by decide +kernel, by decide +kernel, by decide +kernel⟩, Or.inl ⟨_, _, _, q948, q941⟩⟩)⟩
theorem v_ok_164 : V_ok 7 22 35 119 := ⟨Or.inr (Or.inr ⟨by decide, by decide⟩), Or.inr (Or.inl ⟨rfl, "TableTower$Pine", ⟨"TableTower$Pine", "worm", "()I"⟩, q940, q943, q944, q945, q145, q946, ⟨by decide +kernel, by decide +kernel, by decide +kernel⟩, Or.inl ⟨_, _, _, q948, q941⟩⟩)⟩
theorem v_ok_165 : V_ok 7 32 32 109 := ⟨Or.inr (Or.inr ⟨by decide, by decide⟩), Or.inl ⟨rfl, q925, q926, q927, q143, q937⟩⟩
theorem v_ok_166 : V_ok 7 32 33 109 := ⟨Or.inr (Or.inr ⟨by decide, by decide⟩), Or.inr (Or.inl ⟨rfl, "TableTower$Pine", ⟨"TableTower$Pine", "carries", "(IZ)I"⟩, q925, q928, q939, q926, q143, q937, ⟨by decide +kernel, by decide +kernel, by decide +kernel⟩, Or.inl ⟨_, _, _, q937, q926⟩⟩)⟩
theorem v_ok_167 : V_ok 7 32 34 118 := ⟨Or.inr (Or.inr ⟨by decide, by decide⟩), Or.inr (Or.inl ⟨rfl, "TableTower$Pine", ⟨"TableTower$Pine", "carries", "(IZ)I"⟩, q925, q928, q938, q933, q145, q934, ⟨by decide +kernel, by decide +kernel, by decide +kernel⟩, Or.inl ⟨_, _, _, q937, q926⟩⟩)⟩
theorem v_ok_168 : V_ok 7 32 35 122 := ⟨Or.inr (Or.inr ⟨by decide, by decide⟩), Or.inr (Or.inl ⟨rfl, "TableTower$Pine", ⟨"TableTower$Pine", "carries", "(IZ)I"⟩, q925, q928, q929, q930, q146, q931, ⟨by decide +kernel, by decide +kernel, by decide +kernel⟩, Or.inl ⟨_, _, _, q937, q926⟩⟩)⟩
theorem v_ok_169 : V_ok 11 32 36 313 := ⟨Or.inr (Or.inr ⟨by decide, by decide⟩), Or.inl ⟨rfl, q806, q688, q689, q111, q690⟩⟩
theorem v_ok_170 : V_ok 11 57 22 128 := ⟨Or.inr (Or.inr ⟨by decide, by decide⟩), Or.inl ⟨rfl, q811, q812, q813, q128, q814⟩⟩
theorem v_ok_171 : V_ok 11 70 32 107 := ⟨Or.inr (Or.inr ⟨by decide, by decide⟩), Or.inl ⟨rfl, q827, q828, q829, q143, q844⟩⟩
theorem v_ok_172 : V_ok 11 70 33 114 := ⟨Or.inr (Or.inr ⟨by decide, by decide⟩), Or.inr (Or.inl ⟨rfl, "TableTower$Pine", ⟨"TableTower$Pine", "kind", "()I"⟩, q827, q830, q839, q840, q144, q841, ⟨by decide +kernel, by decide +kernel, by decide +kernel⟩, Or.inl ⟨_, _, _, q844, q828⟩⟩)⟩
theorem v_ok_173 : V_ok 11 70 34 117 := ⟨Or.inr (Or.inr ⟨by decide, by decide⟩), Or.inr (Or.inl ⟨rfl, "TableTower$Pine", ⟨"TableTower$Pine", "kind", "()I"⟩, q827, q830, q838, q836, q145, q837, ⟨by decide +kernel, by decide +kernel, by decide +kernel⟩, Or.inl ⟨_, _, _, q844, q828⟩⟩)⟩
theorem v_ok_174 : V_ok 11 70 35 121 := ⟨Or.inr (Or.inr ⟨by decide, by decide⟩), Or.inr (Or.inl ⟨rfl, "TableTower$Pine", ⟨"TableTower$Pine", "kind", "()I"⟩, q827, q830, q831, q832, q146, q833, ⟨by decide +kernel, by decide +kernel, by decide +kernel⟩, Or.inl ⟨_, _, _, q844, q828⟩⟩)⟩
theorem v_ok_175 : V_ok 11 83 28 99 := ⟨Or.inr (Or.inr ⟨by decide, by decide⟩), Or.inr (Or.inl ⟨rfl, "TableTower$Expr", ⟨"TableTower$Expr", "by", "(LTableTower$View;)I"⟩, q849, q851, q866, q862, q139, q863, ⟨by decide +kernel, by decide +kernel, by decide +kernel⟩, Or.inr (List.mem_of_getElem? (i := 0) rfl)⟩)⟩
theorem v_ok_176 : V_ok 11 83 29 101 := ⟨Or.inr (Or.inr ⟨by decide, by decide⟩), Or.inr (Or.inl ⟨rfl, "TableTower$Expr", ⟨"TableTower$Expr", "by", "(LTableTower$View;)I"⟩, q849, q851, q865, q859, q140, q860, ⟨by decide +kernel, by decide +kernel, by decide +kernel⟩, Or.inr (List.mem_of_getElem? (i := 0) rfl)⟩)⟩
theorem v_ok_177 : V_ok 11 83 30 103 := ⟨Or.inr (Or.inr ⟨by decide, by decide⟩), Or.inr (Or.inl ⟨rfl, "TableTower$Expr", ⟨"TableTower$Expr", "by", "(LTableTower$View;)I"⟩, q849, q851, q852, q853, q141, q854, ⟨by decide +kernel, by decide +kernel, by decide +kernel⟩, Or.inr (List.mem_of_getElem? (i := 0) rfl)⟩)⟩
theorem v_ok_178 : V_ok 11 83 31 105 := ⟨Or.inr (Or.inr ⟨by decide, by decide⟩), Or.inr (Or.inl ⟨rfl, "TableTower$Expr", ⟨"TableTower$Expr", "by", "(LTableTower$View;)I"⟩, q849, q851, q864, q856, q142, q857, ⟨by decide +kernel, by decide +kernel, by decide +kernel⟩, Or.inr (List.mem_of_getElem? (i := 0) rfl)⟩)⟩
theorem v_ok_179 : V_ok 12 19 17 305 := ⟨Or.inl rfl, Or.inr (Or.inl ⟨rfl, "java/lang/Enum", ⟨"TableTower$Value", "ordinal", "()I"⟩, q815, q816, q818, q819, q129, q820, ⟨by decide +kernel, by decide +kernel, by decide +kernel⟩, Or.inl ⟨_, _, _, q820, q819⟩⟩)⟩
theorem v_ok_180 : V_ok 14 37 36 308 := ⟨Or.inr (Or.inr ⟨by decide, by decide⟩), Or.inl ⟨rfl, q593, q594, q595, q111, q596⟩⟩
theorem v_ok_181 : V_ok 14 45 36 315 := ⟨Or.inr (Or.inr ⟨by decide, by decide⟩), Or.inl ⟨rfl, q783, q784, q785, q111, q786⟩⟩
theorem v_ok_182 : V_ok 14 49 36 313 := ⟨Or.inr (Or.inr ⟨by decide, by decide⟩), Or.inl ⟨rfl, q792, q688, q689, q111, q690⟩⟩
theorem v_ok_183 : V_ok 14 52 24 136 := ⟨Or.inr (Or.inr ⟨by decide, by decide⟩), Or.inl ⟨rfl, q793, q794, q795, q132, q796⟩⟩
theorem v_ok_184 : V_ok 15 30 36 312 := ⟨Or.inr (Or.inr ⟨by decide, by decide⟩), Or.inl ⟨rfl, q683, q684, q685, q111, q686⟩⟩
theorem v_ok_185 : V_ok 15 46 36 313 := ⟨Or.inr (Or.inr ⟨by decide, by decide⟩), Or.inl ⟨rfl, q687, q688, q689, q111, q690⟩⟩
theorem v_ok_186 : V_ok 15 63 32 108 := ⟨Or.inr (Or.inr ⟨by decide, by decide⟩), Or.inl ⟨rfl, q917, q918, q919, q143, q924⟩⟩
theorem v_ok_187 : V_ok 15 63 33 108 := ⟨Or.inr (Or.inr ⟨by decide, by decide⟩), Or.inr (Or.inl ⟨rfl, "TableTower$Pine", ⟨"TableTower$Pine", "carriesBy", "(IZ)I"⟩, q917, q920, q923, q918, q143, q924, ⟨by decide +kernel, by decide +kernel, by decide +kernel⟩, Or.inl ⟨_, _, _, q924, q918⟩⟩)⟩
theorem v_ok_188 : V_ok 15 63 34 108 := ⟨Or.inr (Or.inr ⟨by decide, by decide⟩), Or.inr (Or.inl ⟨rfl, "TableTower$Pine", ⟨"TableTower$Pine", "carriesBy", "(IZ)I"⟩, q917, q920, q922, q918, q143, q924, ⟨by decide +kernel, by decide +kernel, by decide +kernel⟩, Or.inl ⟨_, _, _, q924, q918⟩⟩)⟩
theorem v_ok_189 : V_ok 15 63 35 108 := ⟨Or.inr (Or.inr ⟨by decide, by decide⟩), Or.inr (Or.inl ⟨rfl, "TableTower$Pine", ⟨"TableTower$Pine", "carriesBy", "(IZ)I"⟩, q917, q920, q921, q918, q143, q924, ⟨by decide +kernel, by decide +kernel, by decide +kernel⟩, Or.inl ⟨_, _, _, q924, q918⟩⟩)⟩
theorem v_ok_190 : V_ok 15 67 32 111 := ⟨Or.inr (Or.inr ⟨by decide, by decide⟩), Or.inl ⟨rfl, q963, q964, q965, q143, q973⟩⟩
theorem v_ok_191 : V_ok 15 67 33 111 := ⟨Or.inr (Or.inr ⟨by decide, by decide⟩), Or.inr (Or.inl ⟨rfl, "TableTower$Pine", ⟨"TableTower$Pine", "times", "()I"⟩, q963, q966, q975, q964, q143, q973, ⟨by decide +kernel, by decide +kernel, by decide +kernel⟩, Or.inl ⟨_, _, _, q973, q964⟩⟩)⟩
theorem v_ok_192 : V_ok 15 67 34 111 := ⟨Or.inr (Or.inr ⟨by decide, by decide⟩), Or.inr (Or.inl ⟨rfl, "TableTower$Pine", ⟨"TableTower$Pine", "times", "()I"⟩, q963, q966, q974, q964, q143, q973, ⟨by decide +kernel, by decide +kernel, by decide +kernel⟩, Or.inl ⟨_, _, _, q973, q964⟩⟩)⟩
theorem v_ok_193 : V_ok 15 67 35 123 := ⟨Or.inr (Or.inr ⟨by decide, by decide⟩), Or.inr (Or.inl ⟨rfl, "TableTower$Pine", ⟨"TableTower$Pine", "times", "()I"⟩, q963, q966, q967, q968, q146, q969, ⟨by decide +kernel, by decide +kernel, by decide +kernel⟩, Or.inl ⟨_, _, _, q973, q964⟩⟩)⟩
theorem v_ok_194 : V_ok 15 70 24 144 := ⟨Or.inr (Or.inr ⟨by decide, by decide⟩), Or.inl ⟨rfl, q959, q960, q961, q132, q962⟩⟩
theorem v_ok_195 : V_ok 15 74 24 141 := ⟨Or.inr (Or.inr ⟨by decide, by decide⟩), Or.inl ⟨rfl, q909, q910, q911, q132, q912⟩⟩
theorem v_ok_196 : V_ok 15 77 24 142 := ⟨Or.inr (Or.inr ⟨by decide, by decide⟩), Or.inl ⟨rfl, q913, q914, q915, q132, q916⟩⟩
theorem v_ok_197 : V_ok 15 80 24 143 := ⟨Or.inr (Or.inr ⟨by decide, by decide⟩), Or.inl ⟨rfl, q955, q956, q957, q132, q958⟩⟩
theorem v_ok_198 : V_ok 15 92 24 140 := ⟨Or.inr (Or.inr ⟨by decide, by decide⟩), Or.inl ⟨rfl, q905, q906, q907, q132, q908⟩⟩
theorem v_ok_199 : V_ok 15 96 24 139 := ⟨Or.inr (Or.inr ⟨by decide, by decide⟩), Or.inl ⟨rfl, q901, q902, q903, q132, q904⟩⟩
theorem v_ok_200 : V_ok 15 100 21 126 := ⟨Or.inr (Or.inr ⟨by decide, by decide⟩), Or.inl ⟨rfl, q802, q803, q804, q108, q805⟩⟩
theorem v_ok_201 : V_ok 16 162 25 155 := ⟨Or.inr (Or.inr ⟨by decide, by decide⟩), Or.inl ⟨rfl, q1925, q1927, qs48, q134, q1928⟩⟩
theorem v_ok_202 : V_ok 16 201 18 338 := ⟨Or.inr (Or.inl rfl), Or.inl ⟨rfl, q1949, q330, q331, q118, q332⟩⟩
theorem v_ok_203 : V_ok 16 201 38 338 := ⟨Or.inr (Or.inr ⟨by decide, by decide⟩), Or.inl ⟨rfl, q1949, q330, q331, q118, q332⟩⟩
theorem v_ok_204 : V_ok 16 205 18 348 := ⟨Or.inr (Or.inl rfl), Or.inl ⟨rfl, q1950, q1381, q1382, q118, q1383⟩⟩
theorem v_ok_205 : V_ok 16 205 38 348 := ⟨Or.inr (Or.inr ⟨by decide, by decide⟩), Or.inl ⟨rfl, q1950, q1381, q1382, q118, q1383⟩⟩
theorem v_ok_206 : V_ok 16 209 25 160 := ⟨Or.inr (Or.inr ⟨by decide, by decide⟩), Or.inl ⟨rfl, q1945, q1947, qs50, q134, q1948⟩⟩
theorem v_ok_207 : V_ok 16 213 25 165 := ⟨Or.inr (Or.inr ⟨by decide, by decide⟩), Or.inl ⟨rfl, q1969, q1971, qs55, q134, q1972⟩⟩
theorem v_ok_208 : V_ok 16 216 25 162 := ⟨Or.inr (Or.inr ⟨by decide, by decide⟩), Or.inl ⟨rfl, q1957, q1959, qs52, q134, q1960⟩⟩
theorem v_ok_209 : V_ok 16 220 25 154 := ⟨Or.inr (Or.inr ⟨by decide, by decide⟩), Or.inl ⟨rfl, q1921, q1923, qs47, q134, q1924⟩⟩
theorem v_ok_210 : V_ok 16 223 25 163 := ⟨Or.inr (Or.inr ⟨by decide, by decide⟩), Or.inl ⟨rfl, q1961, q1963, qs53, q134, q1964⟩⟩
theorem v_ok_211 : V_ok 16 226 25 171 := ⟨Or.inr (Or.inr ⟨by decide, by decide⟩), Or.inl ⟨rfl, q1994, q1996, qs61, q134, q1997⟩⟩
theorem v_ok_212 : V_ok 16 229 25 161 := ⟨Or.inr (Or.inr ⟨by decide, by decide⟩), Or.inl ⟨rfl, q1953, q1955, qs51, q134, q1956⟩⟩
theorem v_ok_213 : V_ok 16 233 25 172 := ⟨Or.inr (Or.inr ⟨by decide, by decide⟩), Or.inl ⟨rfl, q1998, q2000, qs62, q134, q2001⟩⟩
theorem v_ok_214 : V_ok 16 236 25 164 := ⟨Or.inr (Or.inr ⟨by decide, by decide⟩), Or.inl ⟨rfl, q1965, q1967, qs54, q134, q1968⟩⟩
theorem v_ok_215 : V_ok 16 239 25 170 := ⟨Or.inr (Or.inr ⟨by decide, by decide⟩), Or.inl ⟨rfl, q1990, q1992, qs60, q134, q1993⟩⟩
theorem v_ok_216 : V_ok 16 242 25 169 := ⟨Or.inr (Or.inr ⟨by decide, by decide⟩), Or.inl ⟨rfl, q1986, q1988, qs59, q134, q1989⟩⟩
theorem v_ok_217 : V_ok 16 247 25 168 := ⟨Or.inr (Or.inr ⟨by decide, by decide⟩), Or.inl ⟨rfl, q1982, q1984, qs58, q134, q1985⟩⟩
theorem v_ok_218 : V_ok 16 250 25 167 := ⟨Or.inr (Or.inr ⟨by decide, by decide⟩), Or.inl ⟨rfl, q1977, q1979, qs57, q134, q1980⟩⟩
theorem v_ok_219 : V_ok 16 255 25 166 := ⟨Or.inr (Or.inr ⟨by decide, by decide⟩), Or.inl ⟨rfl, q1973, q1975, qs56, q134, q1976⟩⟩
theorem v_ok_220 : V_ok 16 266 25 173 := ⟨Or.inr (Or.inr ⟨by decide, by decide⟩), Or.inl ⟨rfl, q2004, q2006, qs63, q134, q2007⟩⟩
theorem v_ok_221 : V_ok 16 269 25 153 := ⟨Or.inr (Or.inr ⟨by decide, by decide⟩), Or.inl ⟨rfl, q1917, q1919, qs46, q134, q1920⟩⟩
theorem v_ok_222 : V_ok 16 272 25 159 := ⟨Or.inr (Or.inr ⟨by decide, by decide⟩), Or.inl ⟨rfl, q1940, q1942, qs49, q134, q1943⟩⟩
theorem v_ok_223 : V_ok 16 275 25 174 := ⟨Or.inr (Or.inr ⟨by decide, by decide⟩), Or.inl ⟨rfl, q2008, q2010, qs64, q134, q2011⟩⟩
theorem v_ok_224 : V_ok 16 295 25 184 := ⟨Or.inr (Or.inr ⟨by decide, by decide⟩), Or.inl ⟨rfl, q2047, q2049, qs71, q134, q2050⟩⟩
theorem v_ok_225 : V_ok 16 301 25 183 := ⟨Or.inr (Or.inr ⟨by decide, by decide⟩), Or.inl ⟨rfl, q2043, q2045, qs70, q134, q2046⟩⟩
theorem v_ok_226 : V_ok 16 305 25 186 := ⟨Or.inr (Or.inr ⟨by decide, by decide⟩), Or.inl ⟨rfl, q2056, q2058, qs73, q134, q2059⟩⟩
theorem v_ok_227 : V_ok 16 308 25 181 := ⟨Or.inr (Or.inr ⟨by decide, by decide⟩), Or.inl ⟨rfl, q2035, q2037, qs68, q134, q2038⟩⟩
theorem v_ok_228 : V_ok 16 311 25 182 := ⟨Or.inr (Or.inr ⟨by decide, by decide⟩), Or.inl ⟨rfl, q2039, q2041, qs69, q134, q2042⟩⟩
theorem v_ok_229 : V_ok 16 314 25 185 := ⟨Or.inr (Or.inr ⟨by decide, by decide⟩), Or.inl ⟨rfl, q2052, q2054, qs72, q134, q2055⟩⟩
theorem v_ok_230 : V_ok 16 320 25 180 := ⟨Or.inr (Or.inr ⟨by decide, by decide⟩), Or.inl ⟨rfl, q2031, q2033, qs67, q134, q2034⟩⟩
theorem v_ok_231 : V_ok 16 323 25 179 := ⟨Or.inr (Or.inr ⟨by decide, by decide⟩), Or.inl ⟨rfl, q2027, q2029, qs66, q134, q2030⟩⟩
theorem v_ok_232 : V_ok 16 326 25 178 := ⟨Or.inr (Or.inr ⟨by decide, by decide⟩), Or.inl ⟨rfl, q2023, q2025, qs65, q134, q2026⟩⟩
theorem v_ok_233 : V_ok 16 330 25 187 := ⟨Or.inr (Or.inr ⟨by decide, by decide⟩), Or.inl ⟨rfl, q2061, q2063, qs74, q134, q2064⟩⟩
theorem v_ok_234 : V_ok 16 333 25 189 := ⟨Or.inr (Or.inr ⟨by decide, by decide⟩), Or.inl ⟨rfl, q2069, q2071, qs75, q134, q2072⟩⟩
theorem v_ok_235 : V_ok 16 336 25 191 := ⟨Or.inr (Or.inr ⟨by decide, by decide⟩), Or.inl ⟨rfl, q2076, q2078, qs76, q134, q2079⟩⟩
theorem v_ok_236 : V_ok 16 339 25 193 := ⟨Or.inr (Or.inr ⟨by decide, by decide⟩), Or.inl ⟨rfl, q2084, q2086, qs77, q134, q2087⟩⟩
theorem v_ok_237 : V_ok 16 342 25 195 := ⟨Or.inr (Or.inr ⟨by decide, by decide⟩), Or.inl ⟨rfl, q2092, q2094, qs78, q134, q2095⟩⟩
theorem v_ok_238 : V_ok 16 347 25 199 := ⟨Or.inr (Or.inr ⟨by decide, by decide⟩), Or.inl ⟨rfl, q2109, q2111, qs81, q134, q2112⟩⟩
theorem v_ok_239 : V_ok 16 351 25 197 := ⟨Or.inr (Or.inr ⟨by decide, by decide⟩), Or.inl ⟨rfl, q2101, q2103, qs79, q134, q2104⟩⟩
theorem v_ok_240 : V_ok 16 354 25 198 := ⟨Or.inr (Or.inr ⟨by decide, by decide⟩), Or.inl ⟨rfl, q2105, q2107, qs80, q134, q2108⟩⟩
theorem v_ok_241 : V_ok 16 357 25 201 := ⟨Or.inr (Or.inr ⟨by decide, by decide⟩), Or.inl ⟨rfl, q2117, q2119, qs82, q134, q2120⟩⟩
theorem v_ok_242 : V_ok 16 360 25 203 := ⟨Or.inr (Or.inr ⟨by decide, by decide⟩), Or.inl ⟨rfl, q2125, q2127, qs83, q134, q2128⟩⟩
theorem v_ok_243 : V_ok 16 363 25 204 := ⟨Or.inr (Or.inr ⟨by decide, by decide⟩), Or.inl ⟨rfl, q2129, q2131, qs84, q134, q2132⟩⟩
theorem v_ok_244 : V_ok 16 371 25 206 := ⟨Or.inr (Or.inr ⟨by decide, by decide⟩), Or.inl ⟨rfl, q2139, q2141, qs85, q134, q2142⟩⟩
theorem v_ok_245 : V_ok 16 378 25 210 := ⟨Or.inr (Or.inr ⟨by decide, by decide⟩), Or.inl ⟨rfl, q2155, q2157, qs87, q134, q2158⟩⟩
theorem v_ok_246 : V_ok 16 381 25 209 := ⟨Or.inr (Or.inr ⟨by decide, by decide⟩), Or.inl ⟨rfl, q2151, q2153, qs86, q134, q2154⟩⟩
theorem v_ok_247 : V_ok 16 386 25 214 := ⟨Or.inr (Or.inr ⟨by decide, by decide⟩), Or.inl ⟨rfl, q2171, q2173, qs88, q134, q2174⟩⟩
theorem v_ok_248 : V_ok 16 389 25 216 := ⟨Or.inr (Or.inr ⟨by decide, by decide⟩), Or.inl ⟨rfl, q2179, q2181, qs89, q134, q2182⟩⟩
theorem v_ok_249 : V_ok 16 405 25 224 := ⟨Or.inr (Or.inr ⟨by decide, by decide⟩), Or.inl ⟨rfl, q2209, q2211, qs93, q134, q2212⟩⟩
theorem v_ok_250 : V_ok 16 409 25 220 := ⟨Or.inr (Or.inr ⟨by decide, by decide⟩), Or.inl ⟨rfl, q2195, q2197, qs91, q134, q2198⟩⟩
theorem v_ok_251 : V_ok 16 412 25 222 := ⟨Or.inr (Or.inr ⟨by decide, by decide⟩), Or.inl ⟨rfl, q2202, q2204, qs92, q134, q2205⟩⟩
theorem v_ok_252 : V_ok 16 415 25 219 := ⟨Or.inr (Or.inr ⟨by decide, by decide⟩), Or.inl ⟨rfl, q2191, q2193, qs90, q134, q2194⟩⟩
theorem v_ok_253 : V_ok 16 418 25 227 := ⟨Or.inr (Or.inr ⟨by decide, by decide⟩), Or.inl ⟨rfl, q2221, q2223, qs94, q134, q2224⟩⟩
theorem v_ok_254 : V_ok 16 424 25 230 := ⟨Or.inr (Or.inr ⟨by decide, by decide⟩), Or.inl ⟨rfl, q2234, q2236, qs95, q134, q2237⟩⟩
theorem v_ok_255 : V_ok 16 429 25 234 := ⟨Or.inr (Or.inr ⟨by decide, by decide⟩), Or.inl ⟨rfl, q2251, q2253, qs96, q134, q2254⟩⟩
theorem v_ok_256 : V_ok 16 432 25 236 := ⟨Or.inr (Or.inr ⟨by decide, by decide⟩), Or.inl ⟨rfl, q2259, q2261, qs97, q134, q2262⟩⟩
theorem v_ok_257 : V_ok 16 437 25 242 := ⟨Or.inr (Or.inr ⟨by decide, by decide⟩), Or.inl ⟨rfl, q2284, q2286, qs98, q134, q2287⟩⟩
theorem v_ok_258 : V_ok 16 445 25 250 := ⟨Or.inr (Or.inr ⟨by decide, by decide⟩), Or.inl ⟨rfl, q2318, q2320, qs99, q134, q2321⟩⟩
theorem v_ok_259 : V_ok 16 450 25 251 := ⟨Or.inr (Or.inr ⟨by decide, by decide⟩), Or.inl ⟨rfl, q2322, q2324, qs100, q134, q2325⟩⟩
theorem v_ok_260 : V_ok 16 453 25 253 := ⟨Or.inr (Or.inr ⟨by decide, by decide⟩), Or.inl ⟨rfl, q2330, q2332, qs101, q134, q2333⟩⟩
theorem v_ok_261 : V_ok 16 456 25 257 := ⟨Or.inr (Or.inr ⟨by decide, by decide⟩), Or.inl ⟨rfl, q2346, q2348, qs103, q134, q2349⟩⟩
theorem v_ok_262 : V_ok 16 459 25 256 := ⟨Or.inr (Or.inr ⟨by decide, by decide⟩), Or.inl ⟨rfl, q2342, q2344, qs102, q134, q2345⟩⟩
theorem v_ok_263 : V_ok 16 466 25 260 := ⟨Or.inr (Or.inr ⟨by decide, by decide⟩), Or.inl ⟨rfl, q2359, q2361, qs105, q134, q2362⟩⟩
theorem v_ok_264 : V_ok 16 471 25 259 := ⟨Or.inr (Or.inr ⟨by decide, by decide⟩), Or.inl ⟨rfl, q2355, q2357, qs104, q134, q2358⟩⟩
theorem v_ok_265 : V_ok 17 29 26 265 := ⟨Or.inr (Or.inr ⟨by decide, by decide⟩), Or.inl ⟨rfl, q1159, q1161, qs23, q135, q1162⟩⟩
theorem v_ok_266 : V_ok 17 35 26 266 := ⟨Or.inr (Or.inr ⟨by decide, by decide⟩), Or.inl ⟨rfl, q1163, q1165, qs24, q135, q1166⟩⟩
theorem v_ok_267 : V_ok 17 64 37 334 := ⟨Or.inr (Or.inr ⟨by decide, by decide⟩), Or.inl ⟨rfl, q1176, q419, q2386, q117, q420⟩⟩
theorem v_ok_268 : V_ok 17 68 37 336 := ⟨Or.inr (Or.inr ⟨by decide, by decide⟩), Or.inl ⟨rfl, q1177, q1178, q1179, q117, q1180⟩⟩
theorem v_ok_269 : V_ok 17 72 37 333 := ⟨Or.inr (Or.inr ⟨by decide, by decide⟩), Or.inl ⟨rfl, q1197, q398, q399, q117, q400⟩⟩
theorem v_ok_270 : V_ok 17 103 18 347 := ⟨Or.inr (Or.inl rfl), Or.inl ⟨rfl, q1269, q1270, q1271, q118, q1272⟩⟩
theorem v_ok_271 : V_ok 17 103 38 347 := ⟨Or.inr (Or.inr ⟨by decide, by decide⟩), Or.inl ⟨rfl, q1269, q1270, q1271, q118, q1272⟩⟩
theorem v_ok_272 : V_ok 17 112 26 272 := ⟨Or.inr (Or.inr ⟨by decide, by decide⟩), Or.inl ⟨rfl, q1265, q1267, qs26, q135, q1268⟩⟩
theorem v_ok_273 : V_ok 17 116 26 273 := ⟨Or.inr (Or.inr ⟨by decide, by decide⟩), Or.inl ⟨rfl, q1276, q1278, qs27, q135, q1279⟩⟩
theorem v_ok_274 : V_ok 17 125 26 271 := ⟨Or.inr (Or.inr ⟨by decide, by decide⟩), Or.inl ⟨rfl, q1261, q1263, qs25, q135, q1264⟩⟩
theorem v_ok_275 : V_ok 17 129 26 274 := ⟨Or.inr (Or.inr ⟨by decide, by decide⟩), Or.inl ⟨rfl, q1303, q1305, qs28, q135, q1306⟩⟩
theorem v_ok_276 : V_ok 17 141 26 275 := ⟨Or.inr (Or.inr ⟨by decide, by decide⟩), Or.inl ⟨rfl, q1309, q1311, qs29, q135, q1312⟩⟩
theorem v_ok_277 : V_ok 17 160 36 312 := ⟨Or.inr (Or.inr ⟨by decide, by decide⟩), Or.inl ⟨rfl, q1431, q684, q685, q111, q686⟩⟩
theorem v_ok_278 : V_ok 17 164 26 283 := ⟨Or.inr (Or.inr ⟨by decide, by decide⟩), Or.inl ⟨rfl, q1432, q1434, qs36, q135, q1435⟩⟩
theorem v_ok_279 : V_ok 17 168 36 308 := ⟨Or.inr (Or.inr ⟨by decide, by decide⟩), Or.inl ⟨rfl, q1492, q594, q595, q111, q596⟩⟩
theorem v_ok_280 : V_ok 17 173 26 281 := ⟨Or.inr (Or.inr ⟨by decide, by decide⟩), Or.inl ⟨rfl, q1349, q1351, qs35, q135, q1352⟩⟩
theorem v_ok_281 : V_ok 17 195 26 276 := ⟨Or.inr (Or.inr ⟨by decide, by decide⟩), Or.inl ⟨rfl, q1314, q1316, qs30, q135, q1317⟩⟩
theorem v_ok_282 : V_ok 17 205 26 277 := ⟨Or.inr (Or.inr ⟨by decide, by decide⟩), Or.inl ⟨rfl, q1318, q1320, qs31, q135, q1321⟩⟩
theorem v_ok_283 : V_ok 17 210 26 278 := ⟨Or.inr (Or.inr ⟨by decide, by decide⟩), Or.inl ⟨rfl, q1323, q1325, qs32, q135, q1326⟩⟩
theorem v_ok_284 : V_ok 17 217 18 348 := ⟨Or.inr (Or.inl rfl), Or.inl ⟨rfl, q1380, q1381, q1382, q118, q1383⟩⟩
theorem v_ok_285 : V_ok 17 217 38 348 := ⟨Or.inr (Or.inr ⟨by decide, by decide⟩), Or.inl ⟨rfl, q1380, q1381, q1382, q118, q1383⟩⟩
theorem v_ok_286 : V_ok 17 226 26 279 := ⟨Or.inr (Or.inr ⟨by decide, by decide⟩), Or.inl ⟨rfl, q1327, q1329, qs33, q135, q1330⟩⟩
theorem v_ok_287 : V_ok 17 231 26 280 := ⟨Or.inr (Or.inr ⟨by decide, by decide⟩), Or.inl ⟨rfl, q1331, q1333, qs34, q135, q1334⟩⟩
theorem v_ok_288 : V_ok 22 50 37 331 := ⟨Or.inr (Or.inr ⟨by decide, by decide⟩), Or.inl ⟨rfl, q438, q253, q254, q117, q255⟩⟩
theorem v_ok_289 : V_ok 22 54 37 332 := ⟨Or.inr (Or.inr ⟨by decide, by decide⟩), Or.inl ⟨rfl, q436, q373, q374, q117, q375⟩⟩
theorem v_ok_290 : V_ok 22 61 37 333 := ⟨Or.inr (Or.inr ⟨by decide, by decide⟩), Or.inl ⟨rfl, q439, q398, q399, q117, q400⟩⟩
theorem v_ok_291 : V_ok 28 25 37 331 := ⟨Or.inr (Or.inr ⟨by decide, by decide⟩), Or.inl ⟨rfl, q252, q253, q254, q117, q255⟩⟩
theorem v_ok_292 : V_ok 28 29 37 332 := ⟨Or.inr (Or.inr ⟨by decide, by decide⟩), Or.inl ⟨rfl, q372, q373, q374, q117, q375⟩⟩
theorem v_ok_293 : V_ok 28 32 37 333 := ⟨Or.inr (Or.inr ⟨by decide, by decide⟩), Or.inl ⟨rfl, q397, q398, q399, q117, q400⟩⟩
theorem v_ok_294 : V_ok 28 69 36 311 := ⟨Or.inr (Or.inr ⟨by decide, by decide⟩), Or.inl ⟨rfl, q605, q607, qs3, q111, q608⟩⟩
theorem v_ok_295 : V_ok 28 123 36 314 := ⟨Or.inr (Or.inr ⟨by decide, by decide⟩), Or.inl ⟨rfl, q697, q698, q699, q111, q700⟩⟩
theorem v_ok_296 : V_ok 28 129 36 310 := ⟨Or.inr (Or.inr ⟨by decide, by decide⟩), Or.inl ⟨rfl, q601, q603, qs2, q111, q604⟩⟩
theorem v_ok_297 : V_ok 28 131 36 309 := ⟨Or.inr (Or.inr ⟨by decide, by decide⟩), Or.inl ⟨rfl, q597, q599, qs1, q111, q600⟩⟩
theorem v_ok_298 : V_ok 28 144 36 316 := ⟨Or.inr (Or.inr ⟨by decide, by decide⟩), Or.inl ⟨rfl, q787, q789, qs6, q111, q790⟩⟩
theorem v_ok_299 : V_ok 29 32 18 338 := ⟨Or.inr (Or.inl rfl), Or.inl ⟨rfl, q329, q330, q331, q118, q332⟩⟩
theorem v_ok_300 : V_ok 29 32 38 338 := ⟨Or.inr (Or.inr ⟨by decide, by decide⟩), Or.inl ⟨rfl, q329, q330, q331, q118, q332⟩⟩
theorem v_ok_301 : V_ok 29 40 18 339 := ⟨Or.inr (Or.inl rfl), Or.inl ⟨rfl, q346, q334, q335, q118, q336⟩⟩
theorem v_ok_302 : V_ok 29 40 38 339 := ⟨Or.inr (Or.inr ⟨by decide, by decide⟩), Or.inl ⟨rfl, q346, q334, q335, q118, q336⟩⟩
theorem v_ok_303 : V_ok 29 83 37 322 := ⟨Or.inr (Or.inr ⟨by decide, by decide⟩), Or.inr (Or.inl ⟨rfl, "java/lang/AbstractStringBuilder", ⟨"java/lang/AbstractStringBuilder", "isLatin1", "()Z"⟩, q298, q300, q301, q299, q116, q302, ⟨by decide +kernel, by decide +kernel, by decide +kernel⟩, Or.inl ⟨_, _, _, q302, q299⟩⟩)⟩
theorem v_ok_304 : V_ok 29 100 37 320 := ⟨Or.inr (Or.inr ⟨by decide, by decide⟩), Or.inr (Or.inr ⟨rfl, List.mem_of_getElem? (i := 1) rfl, q263, q2378, q265, q116, q266, rfl⟩)⟩
theorem v_ok_305 : V_ok 29 104 37 321 := ⟨Or.inr (Or.inr ⟨by decide, by decide⟩), Or.inr (Or.inr ⟨rfl, List.mem_of_getElem? (i := 4) rfl, q267, q2379, q269, q116, q270, rfl⟩)⟩
theorem v_ok_306 : V_ok 29 195 37 325 := ⟨Or.inr (Or.inr ⟨by decide, by decide⟩), Or.inr (Or.inr ⟨rfl, List.mem_of_getElem? (i := 2) rfl, q347, q2382, q349, q116, q350, rfl⟩)⟩
theorem v_ok_307 : V_ok 29 204 37 319 := ⟨Or.inr (Or.inr ⟨by decide, by decide⟩), Or.inr (Or.inr ⟨rfl, List.mem_of_getElem? (i := 0) rfl, q259, q2377, q261, q116, q262, rfl⟩)⟩
theorem v_ok_308 : V_ok 29 208 37 323 := ⟨Or.inr (Or.inr ⟨by decide, by decide⟩), Or.inr (Or.inr ⟨rfl, List.mem_of_getElem? (i := 5) rfl, q338, q2380, q340, q116, q341, rfl⟩)⟩
theorem v_ok_309 : V_ok 29 397 37 324 := ⟨Or.inr (Or.inr ⟨by decide, by decide⟩), Or.inr (Or.inr ⟨rfl, List.mem_of_getElem? (i := 3) rfl, q342, q2381, q344, q116, q345, rfl⟩)⟩
theorem v_ok_310 : V_ok 29 399 18 341 := ⟨Or.inr (Or.inl rfl), Or.inl ⟨rfl, q366, q367, q368, q118, q369⟩⟩
theorem v_ok_311 : V_ok 29 399 38 341 := ⟨Or.inr (Or.inr ⟨by decide, by decide⟩), Or.inl ⟨rfl, q366, q367, q368, q118, q369⟩⟩
theorem v_ok_312 : V_ok 31 335 18 339 := ⟨Or.inr (Or.inl rfl), Or.inl ⟨rfl, q333, q334, q335, q118, q336⟩⟩
theorem v_ok_313 : V_ok 31 335 38 339 := ⟨Or.inr (Or.inr ⟨by decide, by decide⟩), Or.inl ⟨rfl, q333, q334, q335, q118, q336⟩⟩
theorem v_ok_314 : V_ok 31 492 18 349 := ⟨Or.inr (Or.inl rfl), Or.inl ⟨rfl, q1384, q1385, q1386, q118, q1387⟩⟩
theorem v_ok_315 : V_ok 31 492 38 349 := ⟨Or.inr (Or.inr ⟨by decide, by decide⟩), Or.inl ⟨rfl, q1384, q1385, q1386, q118, q1387⟩⟩
theorem v_ok_316 : V_ok 31 549 37 334 := ⟨Or.inr (Or.inr ⟨by decide, by decide⟩), Or.inr (Or.inl ⟨rfl, "java/lang/AbstractStringBuilder", ⟨"java/lang/AbstractStringBuilder", "length", "()I"⟩, q415, q417, q418, q419, q117, q420, ⟨by decide +kernel, by decide +kernel, by decide +kernel⟩, Or.inl ⟨_, _, _, q422, q416⟩⟩)⟩
theorem v_ok_317 : V_ok 31 552 37 327 := ⟨Or.inr (Or.inr ⟨by decide, by decide⟩), Or.inr (Or.inl ⟨rfl, "java/lang/AbstractStringBuilder", ⟨"java/lang/AbstractStringBuilder", "getValue", "()[B"⟩, q410, q412, q413, q411, q116, q414, ⟨by decide +kernel, by decide +kernel, by decide +kernel⟩, Or.inl ⟨_, _, _, q414, q411⟩⟩)⟩
theorem v_ok_318 : V_ok 31 1047 37 322 := ⟨Or.inr (Or.inr ⟨by decide, by decide⟩), Or.inr (Or.inl ⟨rfl, "java/lang/AbstractStringBuilder", ⟨"java/lang/AbstractStringBuilder", "isLatin1", "()Z"⟩, q423, q300, q301, q299, q116, q302, ⟨by decide +kernel, by decide +kernel, by decide +kernel⟩, Or.inl ⟨_, _, _, q302, q299⟩⟩)⟩
theorem v_ok : ∀ e ∈ v_T, V_ok e.1 e.2.1 e.2.2.1 e.2.2.2 := List.forall_mem_cons.mpr ⟨v_ok_0, List.forall_mem_cons.mpr ⟨v_ok_1, List.forall_mem_cons.mpr ⟨v_ok_2, List.forall_mem_cons.mpr ⟨v_ok_3, List.forall_mem_cons.mpr ⟨v_ok_4, List.forall_mem_cons.mpr ⟨v_ok_5, List.forall_mem_cons.mpr ⟨v_ok_6, List.forall_mem_cons.mpr ⟨v_ok_7, List.forall_mem_cons.mpr ⟨v_ok_8, List.forall_mem_cons.mpr ⟨v_ok_9, List.forall_mem_cons.mpr ⟨v_ok_10, List.forall_mem_cons.mpr ⟨v_ok_11, List.forall_mem_cons.mpr ⟨v_ok_12, List.forall_mem_cons.mpr ⟨v_ok_13, List.forall_mem_cons.mpr ⟨v_ok_14, List.forall_mem_cons.mpr ⟨v_ok_15, List.forall_mem_cons.mpr ⟨v_ok_16, List.forall_mem_cons.mpr ⟨v_ok_17, List.forall_mem_cons.mpr ⟨v_ok_18, List.forall_mem_cons.mpr ⟨v_ok_19, List.forall_mem_cons.mpr ⟨v_ok_20, List.forall_mem_cons.mpr ⟨v_ok_21, List.forall_mem_cons.mpr ⟨v_ok_22, List.forall_mem_cons.mpr ⟨v_ok_23, List.forall_mem_cons.mpr ⟨v_ok_24, List.forall_mem_cons.mpr ⟨v_ok_25, List.forall_mem_cons.mpr ⟨v_ok_26, List.forall_mem_cons.mpr ⟨v_ok_27, List.forall_mem_cons.mpr ⟨v_ok_28, List.forall_mem_cons.mpr ⟨v_ok_29, List.forall_mem_cons.mpr ⟨v_ok_30, List.forall_mem_cons.mpr ⟨v_ok_31, List.forall_mem_cons.mpr ⟨v_ok_32, List.forall_mem_cons.mpr ⟨v_ok_33, List.forall_mem_cons.mpr ⟨v_ok_34, List.forall_mem_cons.mpr ⟨v_ok_35, List.forall_mem_cons.mpr ⟨v_ok_36, List.forall_mem_cons.mpr ⟨v_ok_37, List.forall_mem_cons.mpr ⟨v_ok_38, List.forall_mem_cons.mpr ⟨v_ok_39, List.forall_mem_cons.mpr ⟨v_ok_40, List.forall_mem_cons.mpr ⟨v_ok_41, List.forall_mem_cons.mpr ⟨v_ok_42, List.forall_mem_cons.mpr ⟨v_ok_43, List.forall_mem_cons.mpr ⟨v_ok_44, List.forall_mem_cons.mpr ⟨v_ok_45, List.forall_mem_cons.mpr ⟨v_ok_46, List.forall_mem_cons.mpr ⟨v_ok_47, List.forall_mem_cons.mpr ⟨v_ok_48, List.forall_mem_cons.mpr ⟨v_ok_49, List.forall_mem_cons.mpr ⟨v_ok_50, List.forall_mem_cons.mpr ⟨v_ok_51, List.forall_mem_cons.mpr ⟨v_ok_52, List.forall_mem_cons.mpr ⟨v_ok_53, List.forall_mem_cons.mpr ⟨v_ok_54, List.forall_mem_cons.mpr ⟨v_ok_55, List.forall_mem_cons.mpr ⟨v_ok_56, List.forall_mem_cons.mpr ⟨v_ok_57, List.forall_mem_cons.mpr ⟨v_ok_58, List.forall_mem_cons.mpr ⟨v_ok_59, List.forall_mem_cons.mpr ⟨v_ok_60, List.forall_mem_cons.mpr ⟨v_ok_61, List.forall_mem_cons.mpr ⟨v_ok_62, List.forall_mem_cons.mpr ⟨v_ok_63, List.forall_mem_cons.mpr ⟨v_ok_64, List.forall_mem_cons.mpr ⟨v_ok_65, List.forall_mem_cons.mpr ⟨v_ok_66, List.forall_mem_cons.mpr ⟨v_ok_67, List.forall_mem_cons.mpr ⟨v_ok_68, List.forall_mem_cons.mpr ⟨v_ok_69, List.forall_mem_cons.mpr ⟨v_ok_70, List.forall_mem_cons.mpr ⟨v_ok_71, List.forall_mem_cons.mpr ⟨v_ok_72, List.forall_mem_cons.mpr ⟨v_ok_73, List.forall_mem_cons.mpr ⟨v_ok_74, List.forall_mem_cons.mpr ⟨v_ok_75, List.forall_mem_cons.mpr ⟨v_ok_76, List.forall_mem_cons.mpr ⟨v_ok_77, List.forall_mem_cons.mpr ⟨v_ok_78, List.forall_mem_cons.mpr ⟨v_ok_79, List.forall_mem_cons.mpr ⟨v_ok_80, List.forall_mem_cons.mpr ⟨v_ok_81, List.forall_mem_cons.mpr ⟨v_ok_82, List.forall_mem_cons.mpr ⟨v_ok_83, List.forall_mem_cons.mpr ⟨v_ok_84, List.forall_mem_cons.mpr ⟨v_ok_85, List.forall_mem_cons.mpr ⟨v_ok_86, List.forall_mem_cons.mpr ⟨v_ok_87, List.forall_mem_cons.mpr ⟨v_ok_88, List.forall_mem_cons.mpr ⟨v_ok_89, List.forall_mem_cons.mpr ⟨v_ok_90, List.forall_mem_cons.mpr ⟨v_ok_91, List.forall_mem_cons.mpr ⟨v_ok_92, List.forall_mem_cons.mpr ⟨v_ok_93, List.forall_mem_cons.mpr ⟨v_ok_94, List.forall_mem_cons.mpr ⟨v_ok_95, List.forall_mem_cons.mpr ⟨v_ok_96, List.forall_mem_cons.mpr ⟨v_ok_97, List.forall_mem_cons.mpr ⟨v_ok_98, List.forall_mem_cons.mpr ⟨v_ok_99, List.forall_mem_cons.mpr ⟨v_ok_100, List.forall_mem_cons.mpr ⟨v_ok_101, List.forall_mem_cons.mpr ⟨v_ok_102, List.forall_mem_cons.mpr ⟨v_ok_103, List.forall_mem_cons.mpr ⟨v_ok_104, List.forall_mem_cons.mpr ⟨v_ok_105, List.forall_mem_cons.mpr ⟨v_ok_106, List.forall_mem_cons.mpr ⟨v_ok_107, List.forall_mem_cons.mpr ⟨v_ok_108, List.forall_mem_cons.mpr ⟨v_ok_109, List.forall_mem_cons.mpr ⟨v_ok_110, List.forall_mem_cons.mpr ⟨v_ok_111, List.forall_mem_cons.mpr ⟨v_ok_112, List.forall_mem_cons.mpr ⟨v_ok_113, List.forall_mem_cons.mpr ⟨v_ok_114, List.forall_mem_cons.mpr ⟨v_ok_115, List.forall_mem_cons.mpr ⟨v_ok_116, List.forall_mem_cons.mpr ⟨v_ok_117, List.forall_mem_cons.mpr ⟨v_ok_118, List.forall_mem_cons.mpr ⟨v_ok_119, List.forall_mem_cons.mpr ⟨v_ok_120, List.forall_mem_cons.mpr ⟨v_ok_121, List.forall_mem_cons.mpr ⟨v_ok_122, List.forall_mem_cons.mpr ⟨v_ok_123, List.forall_mem_cons.mpr ⟨v_ok_124, List.forall_mem_cons.mpr ⟨v_ok_125, List.forall_mem_cons.mpr ⟨v_ok_126, List.forall_mem_cons.mpr ⟨v_ok_127, List.forall_mem_cons.mpr ⟨v_ok_128, List.forall_mem_cons.mpr ⟨v_ok_129, List.forall_mem_cons.mpr ⟨v_ok_130, List.forall_mem_cons.mpr ⟨v_ok_131, List.forall_mem_cons.mpr ⟨v_ok_132, List.forall_mem_cons.mpr ⟨v_ok_133, List.forall_mem_cons.mpr ⟨v_ok_134, List.forall_mem_cons.mpr ⟨v_ok_135, List.forall_mem_cons.mpr ⟨v_ok_136, List.forall_mem_cons.mpr ⟨v_ok_137, List.forall_mem_cons.mpr ⟨v_ok_138, List.forall_mem_cons.mpr ⟨v_ok_139, List.forall_mem_cons.mpr ⟨v_ok_140, List.forall_mem_cons.mpr ⟨v_ok_141, List.forall_mem_cons.mpr ⟨v_ok_142, List.forall_mem_cons.mpr ⟨v_ok_143, List.forall_mem_cons.mpr ⟨v_ok_144, List.forall_mem_cons.mpr ⟨v_ok_145, List.forall_mem_cons.mpr ⟨v_ok_146, List.forall_mem_cons.mpr ⟨v_ok_147, List.forall_mem_cons.mpr ⟨v_ok_148, List.forall_mem_cons.mpr ⟨v_ok_149, List.forall_mem_cons.mpr ⟨v_ok_150, List.forall_mem_cons.mpr ⟨v_ok_151, List.forall_mem_cons.mpr ⟨v_ok_152, List.forall_mem_cons.mpr ⟨v_ok_153, List.forall_mem_cons.mpr ⟨v_ok_154, List.forall_mem_cons.mpr ⟨v_ok_155, List.forall_mem_cons.mpr ⟨v_ok_156, List.forall_mem_cons.mpr ⟨v_ok_157, List.forall_mem_cons.mpr ⟨v_ok_158, List.forall_mem_cons.mpr ⟨v_ok_159, List.forall_mem_cons.mpr ⟨v_ok_160, List.forall_mem_cons.mpr ⟨v_ok_161, List.forall_mem_cons.mpr ⟨v_ok_162, List.forall_mem_cons.mpr ⟨v_ok_163, List.forall_mem_cons.mpr ⟨v_ok_164, List.forall_mem_cons.mpr ⟨v_ok_165, List.forall_mem_cons.mpr ⟨v_ok_166, List.forall_mem_cons.mpr ⟨v_ok_167, List.forall_mem_cons.mpr ⟨v_ok_168, List.forall_mem_cons.mpr ⟨v_ok_169, List.forall_mem_cons.mpr ⟨v_ok_170, List.forall_mem_cons.mpr ⟨v_ok_171, List.forall_mem_cons.mpr ⟨v_ok_172, List.forall_mem_cons.mpr ⟨v_ok_173, List.forall_mem_cons.mpr ⟨v_ok_174, List.forall_mem_cons.mpr ⟨v_ok_175, List.forall_mem_cons.mpr ⟨v_ok_176, List.forall_mem_cons.mpr ⟨v_ok_177, List.forall_mem_cons.mpr ⟨v_ok_178, List.forall_mem_cons.mpr ⟨v_ok_179, List.forall_mem_cons.mpr ⟨v_ok_180, List.forall_mem_cons.mpr ⟨v_ok_181, List.forall_mem_cons.mpr ⟨v_ok_182, List.forall_mem_cons.mpr ⟨v_ok_183, List.forall_mem_cons.mpr ⟨v_ok_184, List.forall_mem_cons.mpr ⟨v_ok_185, List.forall_mem_cons.mpr ⟨v_ok_186, List.forall_mem_cons.mpr ⟨v_ok_187, List.forall_mem_cons.mpr ⟨v_ok_188, List.forall_mem_cons.mpr ⟨v_ok_189, List.forall_mem_cons.mpr ⟨v_ok_190, List.forall_mem_cons.mpr ⟨v_ok_191, List.forall_mem_cons.mpr ⟨v_ok_192, List.forall_mem_cons.mpr ⟨v_ok_193, List.forall_mem_cons.mpr ⟨v_ok_194, List.forall_mem_cons.mpr ⟨v_ok_195, List.forall_mem_cons.mpr ⟨v_ok_196, List.forall_mem_cons.mpr ⟨v_ok_197, List.forall_mem_cons.mpr ⟨v_ok_198, List.forall_mem_cons.mpr ⟨v_ok_199, List.forall_mem_cons.mpr ⟨v_ok_200, List.forall_mem_cons.mpr ⟨v_ok_201, List.forall_mem_cons.mpr ⟨v_ok_202, List.forall_mem_cons.mpr ⟨v_ok_203, List.forall_mem_cons.mpr ⟨v_ok_204, List.forall_mem_cons.mpr ⟨v_ok_205, List.forall_mem_cons.mpr ⟨v_ok_206, List.forall_mem_cons.mpr ⟨v_ok_207, List.forall_mem_cons.mpr ⟨v_ok_208, List.forall_mem_cons.mpr ⟨v_ok_209, List.forall_mem_cons.mpr ⟨v_ok_210, List.forall_mem_cons.mpr ⟨v_ok_211, List.forall_mem_cons.mpr ⟨v_ok_212, List.forall_mem_cons.mpr ⟨v_ok_213, List.forall_mem_cons.mpr ⟨v_ok_214, List.forall_mem_cons.mpr ⟨v_ok_215, List.forall_mem_cons.mpr ⟨v_ok_216, List.forall_mem_cons.mpr ⟨v_ok_217, List.forall_mem_cons.mpr ⟨v_ok_218, List.forall_mem_cons.mpr ⟨v_ok_219, List.forall_mem_cons.mpr ⟨v_ok_220, List.forall_mem_cons.mpr ⟨v_ok_221, List.forall_mem_cons.mpr ⟨v_ok_222, List.forall_mem_cons.mpr ⟨v_ok_223, List.forall_mem_cons.mpr ⟨v_ok_224, List.forall_mem_cons.mpr ⟨v_ok_225, List.forall_mem_cons.mpr ⟨v_ok_226, List.forall_mem_cons.mpr ⟨v_ok_227, List.forall_mem_cons.mpr ⟨v_ok_228, List.forall_mem_cons.mpr ⟨v_ok_229, List.forall_mem_cons.mpr ⟨v_ok_230, List.forall_mem_cons.mpr ⟨v_ok_231, List.forall_mem_cons.mpr ⟨v_ok_232, List.forall_mem_cons.mpr ⟨v_ok_233, List.forall_mem_cons.mpr ⟨v_ok_234, List.forall_mem_cons.mpr ⟨v_ok_235, List.forall_mem_cons.mpr ⟨v_ok_236, List.forall_mem_cons.mpr ⟨v_ok_237, List.forall_mem_cons.mpr ⟨v_ok_238, List.forall_mem_cons.mpr ⟨v_ok_239, List.forall_mem_cons.mpr ⟨v_ok_240, List.forall_mem_cons.mpr ⟨v_ok_241, List.forall_mem_cons.mpr ⟨v_ok_242, List.forall_mem_cons.mpr ⟨v_ok_243, List.forall_mem_cons.mpr ⟨v_ok_244, List.forall_mem_cons.mpr ⟨v_ok_245, List.forall_mem_cons.mpr ⟨v_ok_246, List.forall_mem_cons.mpr ⟨v_ok_247, List.forall_mem_cons.mpr ⟨v_ok_248, List.forall_mem_cons.mpr ⟨v_ok_249, List.forall_mem_cons.mpr ⟨v_ok_250, List.forall_mem_cons.mpr ⟨v_ok_251, List.forall_mem_cons.mpr ⟨v_ok_252, List.forall_mem_cons.mpr ⟨v_ok_253, List.forall_mem_cons.mpr ⟨v_ok_254, List.forall_mem_cons.mpr ⟨v_ok_255, List.forall_mem_cons.mpr ⟨v_ok_256, List.forall_mem_cons.mpr ⟨v_ok_257, List.forall_mem_cons.mpr ⟨v_ok_258, List.forall_mem_cons.mpr ⟨v_ok_259, List.forall_mem_cons.mpr ⟨v_ok_260, List.forall_mem_cons.mpr ⟨v_ok_261, List.forall_mem_cons.mpr ⟨v_ok_262, List.forall_mem_cons.mpr ⟨v_ok_263, List.forall_mem_cons.mpr ⟨v_ok_264, List.forall_mem_cons.mpr ⟨v_ok_265, List.forall_mem_cons.mpr ⟨v_ok_266, List.forall_mem_cons.mpr ⟨v_ok_267, List.forall_mem_cons.mpr ⟨v_ok_268, List.forall_mem_cons.mpr ⟨v_ok_269, List.forall_mem_cons.mpr ⟨v_ok_270, List.forall_mem_cons.mpr ⟨v_ok_271, List.forall_mem_cons.mpr ⟨v_ok_272, List.forall_mem_cons.mpr ⟨v_ok_273, List.forall_mem_cons.mpr ⟨v_ok_274, List.forall_mem_cons.mpr ⟨v_ok_275, List.forall_mem_cons.mpr ⟨v_ok_276, List.forall_mem_cons.mpr ⟨v_ok_277, List.forall_mem_cons.mpr ⟨v_ok_278, List.forall_mem_cons.mpr ⟨v_ok_279, List.forall_mem_cons.mpr ⟨v_ok_280, List.forall_mem_cons.mpr ⟨v_ok_281, List.forall_mem_cons.mpr ⟨v_ok_282, List.forall_mem_cons.mpr ⟨v_ok_283, List.forall_mem_cons.mpr ⟨v_ok_284, List.forall_mem_cons.mpr ⟨v_ok_285, List.forall_mem_cons.mpr ⟨v_ok_286, List.forall_mem_cons.mpr ⟨v_ok_287, List.forall_mem_cons.mpr ⟨v_ok_288, List.forall_mem_cons.mpr ⟨v_ok_289, List.forall_mem_cons.mpr ⟨v_ok_290, List.forall_mem_cons.mpr ⟨v_ok_291, List.forall_mem_cons.mpr ⟨v_ok_292, List.forall_mem_cons.mpr ⟨v_ok_293, List.forall_mem_cons.mpr ⟨v_ok_294, List.forall_mem_cons.mpr ⟨v_ok_295, List.forall_mem_cons.mpr ⟨v_ok_296, List.forall_mem_cons.mpr ⟨v_ok_297, List.forall_mem_cons.mpr ⟨v_ok_298, List.forall_mem_cons.mpr ⟨v_ok_299, List.forall_mem_cons.mpr ⟨v_ok_300, List.forall_mem_cons.mpr ⟨v_ok_301, List.forall_mem_cons.mpr ⟨v_ok_302, List.forall_mem_cons.mpr ⟨v_ok_303, List.forall_mem_cons.mpr ⟨v_ok_304, List.forall_mem_cons.mpr ⟨v_ok_305, List.forall_mem_cons.mpr ⟨v_ok_306, List.forall_mem_cons.mpr ⟨v_ok_307, List.forall_mem_cons.mpr ⟨v_ok_308, List.forall_mem_cons.mpr ⟨v_ok_309, List.forall_mem_cons.mpr ⟨v_ok_310, List.forall_mem_cons.mpr ⟨v_ok_311, List.forall_mem_cons.mpr ⟨v_ok_312, List.forall_mem_cons.mpr ⟨v_ok_313, List.forall_mem_cons.mpr ⟨v_ok_314, List.forall_mem_cons.mpr ⟨v_ok_315, List.forall_mem_cons.mpr ⟨v_ok_316, List.forall_mem_cons.mpr ⟨v_ok_317, List.forall_mem_cons.mpr ⟨v_ok_318, fun _ h => absurd h List.not_mem_nil⟩⟩⟩⟩⟩⟩⟩⟩⟩⟩⟩⟩⟩⟩⟩⟩⟩⟩⟩⟩⟩⟩⟩⟩⟩⟩⟩⟩⟩⟩⟩⟩⟩⟩⟩⟩⟩⟩⟩⟩⟩⟩⟩⟩⟩⟩⟩⟩⟩⟩⟩⟩⟩⟩⟩⟩⟩⟩⟩⟩⟩⟩⟩⟩⟩⟩⟩⟩⟩⟩⟩⟩⟩⟩⟩⟩⟩⟩⟩⟩⟩⟩⟩⟩⟩⟩⟩⟩⟩⟩⟩⟩⟩⟩⟩⟩⟩⟩⟩⟩⟩⟩⟩⟩⟩⟩⟩⟩⟩⟩⟩⟩⟩⟩⟩⟩⟩⟩⟩⟩⟩⟩⟩⟩⟩⟩⟩⟩⟩⟩⟩⟩⟩⟩⟩⟩⟩⟩⟩⟩⟩⟩⟩⟩⟩⟩⟩⟩⟩⟩⟩⟩⟩⟩⟩⟩⟩⟩⟩⟩⟩⟩⟩⟩⟩⟩⟩⟩⟩⟩⟩⟩⟩⟩⟩⟩⟩⟩⟩⟩⟩⟩⟩⟩⟩⟩⟩⟩⟩⟩⟩⟩⟩⟩⟩⟩⟩⟩⟩⟩⟩⟩⟩⟩⟩⟩⟩⟩⟩⟩⟩⟩⟩⟩⟩⟩⟩⟩⟩⟩⟩⟩⟩⟩⟩⟩⟩⟩⟩⟩⟩⟩⟩⟩⟩⟩⟩⟩⟩⟩⟩⟩⟩⟩⟩⟩⟩⟩⟩⟩⟩⟩⟩⟩⟩⟩⟩⟩⟩⟩⟩⟩⟩⟩⟩⟩⟩⟩⟩⟩⟩⟩⟩⟩⟩⟩⟩⟩⟩⟩⟩⟩⟩⟩⟩⟩⟩⟩⟩⟩⟩⟩⟩⟩⟩⟩⟩⟩⟩⟩⟩⟩⟩⟩⟩⟩⟩⟩⟩⟩⟩⟩⟩⟩⟩⟩⟩⟩⟩
theorem b_ok_0 : B_ok 1 1 2 := Or.inr (Or.inl ⟨rfl, q153⟩)
theorem b_ok_1 : B_ok 1 259 8 := Or.inr (Or.inr (Or.inr (Or.inr (Or.inr (Or.inr (Or.inr (Or.inl ⟨rfl, q1019⟩)))))))
theorem b_ok_2 : B_ok 1 296 7 := Or.inr (Or.inr (Or.inr (Or.inr (Or.inr (Or.inr (Or.inl ⟨rfl, q981⟩))))))
theorem b_ok_3 : B_ok 1 309 6 := Or.inr (Or.inr (Or.inr (Or.inr (Or.inr (Or.inl ⟨rfl, q1050⟩)))))
theorem b_ok_4 : B_ok 2 1 2 := Or.inr (Or.inl ⟨rfl, q1343⟩)
theorem b_ok_5 : B_ok 7 1 2 := Or.inr (Or.inl ⟨rfl, q1441⟩)
theorem b_ok_6 : B_ok 7 26 6 := Or.inr (Or.inr (Or.inr (Or.inr (Or.inr (Or.inl ⟨rfl, q954⟩)))))
theorem b_ok_7 : B_ok 11 1 2 := Or.inr (Or.inl ⟨rfl, q161⟩)
theorem b_ok_8 : B_ok 11 45 7 := Or.inr (Or.inr (Or.inr (Or.inr (Or.inr (Or.inr (Or.inl ⟨rfl, q808⟩))))))
theorem b_ok_9 : B_ok 11 89 6 := Or.inr (Or.inr (Or.inr (Or.inr (Or.inr (Or.inl ⟨rfl, q867⟩)))))
theorem b_ok_10 : B_ok 12 1 2 := Or.inr (Or.inl ⟨rfl, q507⟩)
theorem b_ok_11 : B_ok 13 26 9 := Or.inr (Or.inr (Or.inr (Or.inr (Or.inr (Or.inr (Or.inr (Or.inr ⟨rfl, q513⟩)))))))
theorem b_ok_12 : B_ok 14 3 2 := Or.inr (Or.inl ⟨rfl, q555⟩)
theorem b_ok_13 : B_ok 14 56 1 := Or.inl ⟨rfl, q1124⟩
theorem b_ok_14 : B_ok 15 3 2 := Or.inr (Or.inl ⟨rfl, q561⟩)
theorem b_ok_15 : B_ok 15 54 1 := Or.inl ⟨rfl, q797⟩
theorem b_ok_16 : B_ok 15 83 8 := Or.inr (Or.inr (Or.inr (Or.inr (Or.inr (Or.inr (Or.inr (Or.inl ⟨rfl, q976⟩)))))))
theorem b_ok_17 : B_ok 16 3 2 := Or.inr (Or.inl ⟨rfl, q1717⟩)
theorem b_ok_18 : B_ok 16 183 7 := Or.inr (Or.inr (Or.inr (Or.inr (Or.inr (Or.inr (Or.inl ⟨rfl, q1936⟩))))))
theorem b_ok_19 : B_ok 16 298 6 := Or.inr (Or.inr (Or.inr (Or.inr (Or.inr (Or.inl ⟨rfl, q2051⟩)))))
theorem b_ok_20 : B_ok 16 317 8 := Or.inr (Or.inr (Or.inr (Or.inr (Or.inr (Or.inr (Or.inr (Or.inl ⟨rfl, q2060⟩)))))))
theorem b_ok_21 : B_ok 17 3 2 := Or.inr (Or.inl ⟨rfl, q1157⟩)
theorem b_ok_22 : B_ok 18 1 5 := Or.inr (Or.inr (Or.inr (Or.inr (Or.inl ⟨rfl, rfl, rfl⟩))))
theorem b_ok_23 : B_ok 19 1 2 := Or.inr (Or.inl ⟨rfl, q173⟩)
theorem b_ok_24 : B_ok 21 194 6 := Or.inr (Or.inr (Or.inr (Or.inr (Or.inr (Or.inl ⟨rfl, q274⟩)))))
theorem b_ok_25 : B_ok 22 86 3 := Or.inr (Or.inr (Or.inl ⟨rfl, q615⟩))
theorem b_ok_26 : B_ok 22 150 1 := Or.inl ⟨rfl, q295⟩
theorem b_ok_27 : B_ok 22 304 7 := Or.inr (Or.inr (Or.inr (Or.inr (Or.inr (Or.inr (Or.inl ⟨rfl, q292⟩))))))
theorem b_ok_28 : B_ok 22 310 4 := Or.inr (Or.inr (Or.inr (Or.inl ⟨rfl, q285⟩)))
theorem b_ok_29 : B_ok 28 79 6 := Or.inr (Or.inr (Or.inr (Or.inr (Or.inr (Or.inl ⟨rfl, q647⟩)))))
theorem b_ok_30 : B_ok 28 112 1 := Or.inl ⟨rfl, q791⟩
theorem b_ok_31 : B_ok 29 3 2 := Or.inr (Or.inl ⟨rfl, q227⟩)
theorem b_ok_32 : B_ok 31 1 2 := Or.inr (Or.inl ⟨rfl, q409⟩)
theorem b_ok_33 : B_ok 31 212 1 := Or.inl ⟨rfl, q370⟩
theorem b_ok : ∀ e ∈ b_T, B_ok e.1 e.2.1 e.2.2 := List.forall_mem_cons.mpr ⟨b_ok_0, List.forall_mem_cons.mpr ⟨b_ok_1, List.forall_mem_cons.mpr ⟨b_ok_2, List.forall_mem_cons.mpr ⟨b_ok_3, List.forall_mem_cons.mpr ⟨b_ok_4, List.forall_mem_cons.mpr ⟨b_ok_5, List.forall_mem_cons.mpr ⟨b_ok_6, List.forall_mem_cons.mpr ⟨b_ok_7, List.forall_mem_cons.mpr ⟨b_ok_8, List.forall_mem_cons.mpr ⟨b_ok_9, List.forall_mem_cons.mpr ⟨b_ok_10, List.forall_mem_cons.mpr ⟨b_ok_11, List.forall_mem_cons.mpr ⟨b_ok_12, List.forall_mem_cons.mpr ⟨b_ok_13, List.forall_mem_cons.mpr ⟨b_ok_14, List.forall_mem_cons.mpr ⟨b_ok_15, List.forall_mem_cons.mpr ⟨b_ok_16, List.forall_mem_cons.mpr ⟨b_ok_17, List.forall_mem_cons.mpr ⟨b_ok_18, List.forall_mem_cons.mpr ⟨b_ok_19, List.forall_mem_cons.mpr ⟨b_ok_20, List.forall_mem_cons.mpr ⟨b_ok_21, List.forall_mem_cons.mpr ⟨b_ok_22, List.forall_mem_cons.mpr ⟨b_ok_23, List.forall_mem_cons.mpr ⟨b_ok_24, List.forall_mem_cons.mpr ⟨b_ok_25, List.forall_mem_cons.mpr ⟨b_ok_26, List.forall_mem_cons.mpr ⟨b_ok_27, List.forall_mem_cons.mpr ⟨b_ok_28, List.forall_mem_cons.mpr ⟨b_ok_29, List.forall_mem_cons.mpr ⟨b_ok_30, List.forall_mem_cons.mpr ⟨b_ok_31, List.forall_mem_cons.mpr ⟨b_ok_32, List.forall_mem_cons.mpr ⟨b_ok_33, fun _ h => absurd h List.not_mem_nil⟩⟩⟩⟩⟩⟩⟩⟩⟩⟩⟩⟩⟩⟩⟩⟩⟩⟩⟩⟩⟩⟩⟩⟩⟩⟩⟩⟩⟩⟩⟩⟩⟩⟩
theorem m_ok : m_t.all M_ok = true := by decide +kernel
