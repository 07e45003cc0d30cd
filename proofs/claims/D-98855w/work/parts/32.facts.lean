/-! facts of the tables, one by one (by program, wip/gen/gen32.py) -/
set_option maxRecDepth 100000
theorem kb_m100 : (Int8.ofInt (-100)).toInt32 = Int32.ofInt (-100) := by decide +kernel
theorem kb_m99 : (Int8.ofInt (-99)).toInt32 = Int32.ofInt (-99) := by decide +kernel
theorem kb_m28 : (Int8.ofInt (-28)).toInt32 = Int32.ofInt (-28) := by decide +kernel
theorem kb_m27 : (Int8.ofInt (-27)).toInt32 = Int32.ofInt (-27) := by decide +kernel
theorem kb_m26 : (Int8.ofInt (-26)).toInt32 = Int32.ofInt (-26) := by decide +kernel
theorem kb_m25 : (Int8.ofInt (-25)).toInt32 = Int32.ofInt (-25) := by decide +kernel
theorem kb_m24 : (Int8.ofInt (-24)).toInt32 = Int32.ofInt (-24) := by decide +kernel
theorem kb_m23 : (Int8.ofInt (-23)).toInt32 = Int32.ofInt (-23) := by decide +kernel
theorem kb_m22 : (Int8.ofInt (-22)).toInt32 = Int32.ofInt (-22) := by decide +kernel
theorem kb_m21 : (Int8.ofInt (-21)).toInt32 = Int32.ofInt (-21) := by decide +kernel
theorem kb_m20 : (Int8.ofInt (-20)).toInt32 = Int32.ofInt (-20) := by decide +kernel
theorem kb_m10 : (Int8.ofInt (-10)).toInt32 = Int32.ofInt (-10) := by decide +kernel
theorem kb_m9 : (Int8.ofInt (-9)).toInt32 = Int32.ofInt (-9) := by decide +kernel
theorem kb_6 : (Int8.ofInt (6)).toInt32 = Int32.ofNat 6 := by decide +kernel
theorem kb_7 : (Int8.ofInt (7)).toInt32 = Int32.ofNat 7 := by decide +kernel
theorem kb_8 : (Int8.ofInt (8)).toInt32 = Int32.ofNat 8 := by decide +kernel
theorem kb_9 : (Int8.ofInt (9)).toInt32 = Int32.ofNat 9 := by decide +kernel
theorem kb_10 : (Int8.ofInt (10)).toInt32 = Int32.ofNat 10 := by decide +kernel
theorem kb_12 : (Int8.ofInt (12)).toInt32 = Int32.ofNat 12 := by decide +kernel
theorem kb_14 : (Int8.ofInt (14)).toInt32 = Int32.ofNat 14 := by decide +kernel
theorem kb_16 : (Int8.ofInt (16)).toInt32 = Int32.ofNat 16 := by decide +kernel
theorem kb_19 : (Int8.ofInt (19)).toInt32 = Int32.ofNat 19 := by decide +kernel
theorem kb_20 : (Int8.ofInt (20)).toInt32 = Int32.ofNat 20 := by decide +kernel
theorem kb_24 : (Int8.ofInt (24)).toInt32 = Int32.ofNat 24 := by decide +kernel
theorem kb_30 : (Int8.ofInt (30)).toInt32 = Int32.ofNat 30 := by decide +kernel
theorem kb_32 : (Int8.ofInt (32)).toInt32 = Int32.ofNat 32 := by decide +kernel
theorem kb_38 : (Int8.ofInt (38)).toInt32 = Int32.ofNat 38 := by decide +kernel
theorem kb_40 : (Int8.ofInt (40)).toInt32 = Int32.ofNat 40 := by decide +kernel
theorem kb_41 : (Int8.ofInt (41)).toInt32 = Int32.ofNat 41 := by decide +kernel
theorem kb_42 : (Int8.ofInt (42)).toInt32 = Int32.ofNat 42 := by decide +kernel
theorem kb_43 : (Int8.ofInt (43)).toInt32 = Int32.ofNat 43 := by decide +kernel
theorem kb_45 : (Int8.ofInt (45)).toInt32 = Int32.ofNat 45 := by decide +kernel
theorem kb_47 : (Int8.ofInt (47)).toInt32 = Int32.ofNat 47 := by decide +kernel
theorem kb_48 : (Int8.ofInt (48)).toInt32 = Int32.ofNat 48 := by decide +kernel
theorem kb_50 : (Int8.ofInt (50)).toInt32 = Int32.ofNat 50 := by decide +kernel
theorem kb_57 : (Int8.ofInt (57)).toInt32 = Int32.ofNat 57 := by decide +kernel
theorem kb_59 : (Int8.ofInt (59)).toInt32 = Int32.ofNat 59 := by decide +kernel
theorem kb_60 : (Int8.ofInt (60)).toInt32 = Int32.ofNat 60 := by decide +kernel
theorem kb_61 : (Int8.ofInt (61)).toInt32 = Int32.ofNat 61 := by decide +kernel
theorem kb_63 : (Int8.ofInt (63)).toInt32 = Int32.ofNat 63 := by decide +kernel
theorem kb_64 : (Int8.ofInt (64)).toInt32 = Int32.ofNat 64 := by decide +kernel
theorem kb_80 : (Int8.ofInt (80)).toInt32 = Int32.ofNat 80 := by decide +kernel
theorem kb_81 : (Int8.ofInt (81)).toInt32 = Int32.ofNat 81 := by decide +kernel
theorem kb_97 : (Int8.ofInt (97)).toInt32 = Int32.ofNat 97 := by decide +kernel
theorem kb_99 : (Int8.ofInt (99)).toInt32 = Int32.ofNat 99 := by decide +kernel
theorem kb_100 : (Int8.ofInt (100)).toInt32 = Int32.ofNat 100 := by decide +kernel
theorem kb_108 : (Int8.ofInt (108)).toInt32 = Int32.ofNat 108 := by decide +kernel
theorem kb_110 : (Int8.ofInt (110)).toInt32 = Int32.ofNat 110 := by decide +kernel
theorem kb_117 : (Int8.ofInt (117)).toInt32 = Int32.ofNat 117 := by decide +kernel
theorem kb_122 : (Int8.ofInt (122)).toInt32 = Int32.ofNat 122 := by decide +kernel
theorem kb_124 : (Int8.ofInt (124)).toInt32 = Int32.ofNat 124 := by decide +kernel
theorem ki_m8 : Int32.ofInt (-8) = Int32.ofInt (-8) := by decide +kernel
theorem ki_m1 : Int32.ofInt (-1) = Int32.ofInt (-1) := by decide +kernel
theorem ki_0 : Int32.ofInt (0) = Int32.ofNat 0 := by decide +kernel
theorem ki_1 : Int32.ofInt (1) = Int32.ofNat 1 := by decide +kernel
theorem ki_2 : Int32.ofInt (2) = Int32.ofNat 2 := by decide +kernel
theorem ki_3 : Int32.ofInt (3) = Int32.ofNat 3 := by decide +kernel
theorem ki_4 : Int32.ofInt (4) = Int32.ofNat 4 := by decide +kernel
theorem ki_5 : Int32.ofInt (5) = Int32.ofNat 5 := by decide +kernel
theorem ki_6 : Int32.ofInt (6) = Int32.ofNat 6 := by decide +kernel
theorem ki_8 : Int32.ofInt (8) = Int32.ofNat 8 := by decide +kernel
theorem ki_16 : Int32.ofInt (16) = Int32.ofNat 16 := by decide +kernel
theorem ks_200 : (Int16.ofInt (200)).toInt32 = Int32.ofNat 200 := by decide +kernel
theorem ks_255 : (Int16.ofInt (255)).toInt32 = Int32.ofNat 255 := by decide +kernel
theorem ks_256 : (Int16.ofInt (256)).toInt32 = Int32.ofNat 256 := by decide +kernel
theorem ks_500 : (Int16.ofInt (500)).toInt32 = Int32.ofNat 500 := by decide +kernel
theorem ks_600 : (Int16.ofInt (600)).toInt32 = Int32.ofNat 600 := by decide +kernel
theorem ks_810 : (Int16.ofInt (810)).toInt32 = Int32.ofNat 810 := by decide +kernel
theorem ks_999 : (Int16.ofInt (999)).toInt32 = Int32.ofNat 999 := by decide +kernel
theorem ks_1001 : (Int16.ofInt (1001)).toInt32 = Int32.ofNat 1001 := by decide +kernel
theorem ks_1024 : (Int16.ofInt (1024)).toInt32 = Int32.ofNat 1024 := by decide +kernel
theorem ks_1200 : (Int16.ofInt (1200)).toInt32 = Int32.ofNat 1200 := by decide +kernel
theorem ks_1720 : (Int16.ofInt (1720)).toInt32 = Int32.ofNat 1720 := by decide +kernel
theorem ks_9999 : (Int16.ofInt (9999)).toInt32 = Int32.ofNat 9999 := by decide +kernel
theorem ks_12345 : (Int16.ofInt (12345)).toInt32 = Int32.ofNat 12345 := by decide +kernel
theorem ks_32767 : (Int16.ofInt (32767)).toInt32 = Int32.ofNat 32767 := by decide +kernel
theorem me_0 : m_e 0 = e_0 := rfl
theorem mc_0 : m_c 0 = cL_law := congrArg (fun e => e.2.2.1) me_0
theorem ml_0 : m_l 0 = 8 := congrArg (fun e => e.2.2.2.1) me_0
theorem mk_0 : m_k 0 = 3 := congrArg (fun e => e.2.2.2.2.2.1) me_0
theorem mn_0 : m_n 0 = 1 := congrArg (fun e => e.2.2.2.2.2.2.1) me_0
theorem mh_0 : m_h 0 = none := congrArg (fun e => e.2.2.2.2.2.2.2) me_0
theorem mo_0 : o_m 0 = 0 := congrArg (fun e => e.1) me_0
theorem me_1 : m_e 1 = e_1 := rfl
theorem mc_1 : m_c 1 = cX0_town := congrArg (fun e => e.2.2.1) me_1
theorem ml_1 : m_l 1 = 4 := congrArg (fun e => e.2.2.2.1) me_1
theorem mk_1 : m_k 1 = 0 := congrArg (fun e => e.2.2.2.2.2.1) me_1
theorem mn_1 : m_n 1 = 3 := congrArg (fun e => e.2.2.2.2.2.2.1) me_1
theorem mh_1 : m_h 1 = (some [((0 : Nat), (9 : Nat), (12 : Nat), (13 : Nat))]) := congrArg (fun e => e.2.2.2.2.2.2.2) me_1
theorem mo_1 : o_m 1 = 0 := congrArg (fun e => e.1) me_1
theorem me_2 : m_e 2 = e_2 := rfl
theorem mc_2 : m_c 2 = cX0_count := congrArg (fun e => e.2.2.1) me_2
theorem ml_2 : m_l 2 = 4 := congrArg (fun e => e.2.2.2.1) me_2
theorem mk_2 : m_k 2 = 0 := congrArg (fun e => e.2.2.2.2.2.1) me_2
theorem mn_2 : m_n 2 = 3 := congrArg (fun e => e.2.2.2.2.2.2.1) me_2
theorem mh_2 : m_h 2 = (some [((0 : Nat), (9 : Nat), (12 : Nat), (18 : Nat))]) := congrArg (fun e => e.2.2.2.2.2.2.2) me_2
theorem mo_2 : o_m 2 = 0 := congrArg (fun e => e.1) me_2
theorem me_3 : m_e 3 = e_3 := rfl
theorem mc_3 : m_c 3 = cX0_table := congrArg (fun e => e.2.2.1) me_3
theorem ml_3 : m_l 3 = 5 := congrArg (fun e => e.2.2.2.1) me_3
theorem mk_3 : m_k 3 = 0 := congrArg (fun e => e.2.2.2.2.2.1) me_3
theorem mn_3 : m_n 3 = 4 := congrArg (fun e => e.2.2.2.2.2.2.1) me_3
theorem mh_3 : m_h 3 = (some [((0 : Nat), (10 : Nat), (13 : Nat), (18 : Nat))]) := congrArg (fun e => e.2.2.2.2.2.2.2) me_3
theorem mo_3 : o_m 3 = 0 := congrArg (fun e => e.1) me_3
theorem me_4 : m_e 4 = e_4 := rfl
theorem mc_4 : m_c 4 = cX0_level := congrArg (fun e => e.2.2.1) me_4
theorem ml_4 : m_l 4 = 5 := congrArg (fun e => e.2.2.2.1) me_4
theorem mk_4 : m_k 4 = 0 := congrArg (fun e => e.2.2.2.2.2.1) me_4
theorem mn_4 : m_n 4 = 4 := congrArg (fun e => e.2.2.2.2.2.2.1) me_4
theorem mh_4 : m_h 4 = (some [((0 : Nat), (10 : Nat), (13 : Nat), (18 : Nat))]) := congrArg (fun e => e.2.2.2.2.2.2.2) me_4
theorem mo_4 : o_m 4 = 0 := congrArg (fun e => e.1) me_4
theorem me_5 : m_e 5 = e_5 := rfl
theorem mc_5 : m_c 5 = cX0_put := congrArg (fun e => e.2.2.1) me_5
theorem ml_5 : m_l 5 = 5 := congrArg (fun e => e.2.2.2.1) me_5
theorem mk_5 : m_k 5 = 0 := congrArg (fun e => e.2.2.2.2.2.1) me_5
theorem mn_5 : m_n 5 = 4 := congrArg (fun e => e.2.2.2.2.2.2.1) me_5
theorem mh_5 : m_h 5 = (some [((0 : Nat), (10 : Nat), (13 : Nat), (18 : Nat))]) := congrArg (fun e => e.2.2.2.2.2.2.2) me_5
theorem mo_5 : o_m 5 = 0 := congrArg (fun e => e.1) me_5
theorem me_6 : m_e 6 = e_6 := rfl
theorem mc_6 : m_c 6 = cX0_take := congrArg (fun e => e.2.2.1) me_6
theorem ml_6 : m_l 6 = 4 := congrArg (fun e => e.2.2.2.1) me_6
theorem mk_6 : m_k 6 = 0 := congrArg (fun e => e.2.2.2.2.2.1) me_6
theorem mn_6 : m_n 6 = 3 := congrArg (fun e => e.2.2.2.2.2.2.1) me_6
theorem mh_6 : m_h 6 = (some [((0 : Nat), (9 : Nat), (12 : Nat), (18 : Nat))]) := congrArg (fun e => e.2.2.2.2.2.2.2) me_6
theorem mo_6 : o_m 6 = 0 := congrArg (fun e => e.1) me_6
theorem me_7 : m_e 7 = e_7 := rfl
theorem mc_7 : m_c 7 = cX0_change := congrArg (fun e => e.2.2.1) me_7
theorem ml_7 : m_l 7 = 5 := congrArg (fun e => e.2.2.2.1) me_7
theorem mk_7 : m_k 7 = 0 := congrArg (fun e => e.2.2.2.2.2.1) me_7
theorem mn_7 : m_n 7 = 4 := congrArg (fun e => e.2.2.2.2.2.2.1) me_7
theorem mh_7 : m_h 7 = (some [((0 : Nat), (17 : Nat), (20 : Nat), (18 : Nat))]) := congrArg (fun e => e.2.2.2.2.2.2.2) me_7
theorem mo_7 : o_m 7 = 0 := congrArg (fun e => e.1) me_7
theorem me_8 : m_e 8 = e_8 := rfl
theorem mc_8 : m_c 8 = cX0_wedge := congrArg (fun e => e.2.2.1) me_8
theorem ml_8 : m_l 8 = 5 := congrArg (fun e => e.2.2.2.1) me_8
theorem mk_8 : m_k 8 = 0 := congrArg (fun e => e.2.2.2.2.2.1) me_8
theorem mn_8 : m_n 8 = 4 := congrArg (fun e => e.2.2.2.2.2.2.1) me_8
theorem mh_8 : m_h 8 = (some [((0 : Nat), (10 : Nat), (13 : Nat), (18 : Nat))]) := congrArg (fun e => e.2.2.2.2.2.2.2) me_8
theorem mo_8 : o_m 8 = 0 := congrArg (fun e => e.1) me_8
theorem me_9 : m_e 9 = e_9 := rfl
theorem mc_9 : m_c 9 = cX0_saw := congrArg (fun e => e.2.2.1) me_9
theorem ml_9 : m_l 9 = 5 := congrArg (fun e => e.2.2.2.1) me_9
theorem mk_9 : m_k 9 = 0 := congrArg (fun e => e.2.2.2.2.2.1) me_9
theorem mn_9 : m_n 9 = 4 := congrArg (fun e => e.2.2.2.2.2.2.1) me_9
theorem mh_9 : m_h 9 = (some [((0 : Nat), (10 : Nat), (13 : Nat), (18 : Nat))]) := congrArg (fun e => e.2.2.2.2.2.2.2) me_9
theorem mo_9 : o_m 9 = 0 := congrArg (fun e => e.1) me_9
theorem me_10 : m_e 10 = e_10 := rfl
theorem mc_10 : m_c 10 = cX0_without := congrArg (fun e => e.2.2.1) me_10
theorem ml_10 : m_l 10 = 4 := congrArg (fun e => e.2.2.2.1) me_10
theorem mk_10 : m_k 10 = 0 := congrArg (fun e => e.2.2.2.2.2.1) me_10
theorem mn_10 : m_n 10 = 3 := congrArg (fun e => e.2.2.2.2.2.2.1) me_10
theorem mh_10 : m_h 10 = (some [((0 : Nat), (16 : Nat), (19 : Nat), (18 : Nat))]) := congrArg (fun e => e.2.2.2.2.2.2.2) me_10
theorem mo_10 : o_m 10 = 0 := congrArg (fun e => e.1) me_10
theorem me_11 : m_e 11 = e_11 := rfl
theorem mc_11 : m_c 11 = cX0_most := congrArg (fun e => e.2.2.1) me_11
theorem ml_11 : m_l 11 = 4 := congrArg (fun e => e.2.2.2.1) me_11
theorem mk_11 : m_k 11 = 0 := congrArg (fun e => e.2.2.2.2.2.1) me_11
theorem mn_11 : m_n 11 = 3 := congrArg (fun e => e.2.2.2.2.2.2.1) me_11
theorem mh_11 : m_h 11 = (some [((0 : Nat), (9 : Nat), (12 : Nat), (18 : Nat))]) := congrArg (fun e => e.2.2.2.2.2.2.2) me_11
theorem mo_11 : o_m 11 = 0 := congrArg (fun e => e.1) me_11
theorem me_12 : m_e 12 = e_12 := rfl
theorem mc_12 : m_c 12 = cX0_row := congrArg (fun e => e.2.2.1) me_12
theorem ml_12 : m_l 12 = 4 := congrArg (fun e => e.2.2.2.1) me_12
theorem mk_12 : m_k 12 = 0 := congrArg (fun e => e.2.2.2.2.2.1) me_12
theorem mn_12 : m_n 12 = 3 := congrArg (fun e => e.2.2.2.2.2.2.1) me_12
theorem mh_12 : m_h 12 = (some [((0 : Nat), (9 : Nat), (12 : Nat), (18 : Nat))]) := congrArg (fun e => e.2.2.2.2.2.2.2) me_12
theorem mo_12 : o_m 12 = 0 := congrArg (fun e => e.1) me_12
theorem me_13 : m_e 13 = e_13 := rfl
theorem mc_13 : m_c 13 = cX0_marry := congrArg (fun e => e.2.2.1) me_13
theorem ml_13 : m_l 13 = 5 := congrArg (fun e => e.2.2.2.1) me_13
theorem mk_13 : m_k 13 = 0 := congrArg (fun e => e.2.2.2.2.2.1) me_13
theorem mn_13 : m_n 13 = 4 := congrArg (fun e => e.2.2.2.2.2.2.1) me_13
theorem mh_13 : m_h 13 = (some [((0 : Nat), (17 : Nat), (20 : Nat), (18 : Nat)), ((0 : Nat), (17 : Nat), (24 : Nat), (13 : Nat))]) := congrArg (fun e => e.2.2.2.2.2.2.2) me_13
theorem mo_13 : o_m 13 = 0 := congrArg (fun e => e.1) me_13
theorem me_14 : m_e 14 = e_14 := rfl
theorem mc_14 : m_c 14 = cX0_nod := congrArg (fun e => e.2.2.1) me_14
theorem ml_14 : m_l 14 = 5 := congrArg (fun e => e.2.2.2.1) me_14
theorem mk_14 : m_k 14 = 0 := congrArg (fun e => e.2.2.2.2.2.1) me_14
theorem mn_14 : m_n 14 = 4 := congrArg (fun e => e.2.2.2.2.2.2.1) me_14
theorem mh_14 : m_h 14 = (some [((0 : Nat), (10 : Nat), (13 : Nat), (18 : Nat)), ((0 : Nat), (10 : Nat), (17 : Nat), (13 : Nat))]) := congrArg (fun e => e.2.2.2.2.2.2.2) me_14
theorem mo_14 : o_m 14 = 0 := congrArg (fun e => e.1) me_14
theorem me_15 : m_e 15 = e_15 := rfl
theorem mc_15 : m_c 15 = cX0_out := congrArg (fun e => e.2.2.1) me_15
theorem ml_15 : m_l 15 = 4 := congrArg (fun e => e.2.2.2.1) me_15
theorem mk_15 : m_k 15 = 0 := congrArg (fun e => e.2.2.2.2.2.1) me_15
theorem mn_15 : m_n 15 = 3 := congrArg (fun e => e.2.2.2.2.2.2.1) me_15
theorem mh_15 : m_h 15 = (some [((0 : Nat), (9 : Nat), (12 : Nat), (18 : Nat))]) := congrArg (fun e => e.2.2.2.2.2.2.2) me_15
theorem mo_15 : o_m 15 = 0 := congrArg (fun e => e.1) me_15
theorem me_16 : m_e 16 = e_16 := rfl
theorem mc_16 : m_c 16 = cX0_lifted := congrArg (fun e => e.2.2.1) me_16
theorem ml_16 : m_l 16 = 5 := congrArg (fun e => e.2.2.2.1) me_16
theorem mk_16 : m_k 16 = 0 := congrArg (fun e => e.2.2.2.2.2.1) me_16
theorem mn_16 : m_n 16 = 4 := congrArg (fun e => e.2.2.2.2.2.2.1) me_16
theorem mh_16 : m_h 16 = (some [((0 : Nat), (9 : Nat), (12 : Nat), (13 : Nat))]) := congrArg (fun e => e.2.2.2.2.2.2.2) me_16
theorem mo_16 : o_m 16 = 0 := congrArg (fun e => e.1) me_16
theorem me_17 : m_e 17 = e_17 := rfl
theorem mc_17 : m_c 17 = cX0_slack := congrArg (fun e => e.2.2.1) me_17
theorem ml_17 : m_l 17 = 4 := congrArg (fun e => e.2.2.2.1) me_17
theorem mk_17 : m_k 17 = 0 := congrArg (fun e => e.2.2.2.2.2.1) me_17
theorem mn_17 : m_n 17 = 3 := congrArg (fun e => e.2.2.2.2.2.2.1) me_17
theorem mh_17 : m_h 17 = (some [((0 : Nat), (9 : Nat), (12 : Nat), (18 : Nat))]) := congrArg (fun e => e.2.2.2.2.2.2.2) me_17
theorem mo_17 : o_m 17 = 0 := congrArg (fun e => e.1) me_17
theorem me_18 : m_e 18 = e_18 := rfl
theorem mc_18 : m_c 18 = cX0_broken := congrArg (fun e => e.2.2.1) me_18
theorem ml_18 : m_l 18 = 4 := congrArg (fun e => e.2.2.2.1) me_18
theorem mk_18 : m_k 18 = 0 := congrArg (fun e => e.2.2.2.2.2.1) me_18
theorem mn_18 : m_n 18 = 3 := congrArg (fun e => e.2.2.2.2.2.2.1) me_18
theorem mh_18 : m_h 18 = (some [((0 : Nat), (9 : Nat), (12 : Nat), (13 : Nat))]) := congrArg (fun e => e.2.2.2.2.2.2.2) me_18
theorem mo_18 : o_m 18 = 0 := congrArg (fun e => e.1) me_18
theorem me_19 : m_e 19 = e_19 := rfl
theorem mc_19 : m_c 19 = cX0_top := congrArg (fun e => e.2.2.1) me_19
theorem ml_19 : m_l 19 = 4 := congrArg (fun e => e.2.2.2.1) me_19
theorem mk_19 : m_k 19 = 0 := congrArg (fun e => e.2.2.2.2.2.1) me_19
theorem mn_19 : m_n 19 = 3 := congrArg (fun e => e.2.2.2.2.2.2.1) me_19
theorem mh_19 : m_h 19 = (some [((0 : Nat), (9 : Nat), (12 : Nat), (13 : Nat))]) := congrArg (fun e => e.2.2.2.2.2.2.2) me_19
theorem mo_19 : o_m 19 = 0 := congrArg (fun e => e.1) me_19
theorem me_20 : m_e 20 = e_20 := rfl
theorem mc_20 : m_c 20 = cX0_which := congrArg (fun e => e.2.2.1) me_20
theorem ml_20 : m_l 20 = 4 := congrArg (fun e => e.2.2.2.1) me_20
theorem mk_20 : m_k 20 = 0 := congrArg (fun e => e.2.2.2.2.2.1) me_20
theorem mn_20 : m_n 20 = 3 := congrArg (fun e => e.2.2.2.2.2.2.1) me_20
theorem mh_20 : m_h 20 = (some [((0 : Nat), (9 : Nat), (12 : Nat), (18 : Nat))]) := congrArg (fun e => e.2.2.2.2.2.2.2) me_20
theorem mo_20 : o_m 20 = 0 := congrArg (fun e => e.1) me_20
theorem me_21 : m_e 21 = e_21 := rfl
theorem mc_21 : m_c 21 = cX0_game := congrArg (fun e => e.2.2.1) me_21
theorem ml_21 : m_l 21 = 4 := congrArg (fun e => e.2.2.2.1) me_21
theorem mk_21 : m_k 21 = 0 := congrArg (fun e => e.2.2.2.2.2.1) me_21
theorem mn_21 : m_n 21 = 3 := congrArg (fun e => e.2.2.2.2.2.2.1) me_21
theorem mh_21 : m_h 21 = (some [((0 : Nat), (9 : Nat), (12 : Nat), (18 : Nat))]) := congrArg (fun e => e.2.2.2.2.2.2.2) me_21
theorem mo_21 : o_m 21 = 0 := congrArg (fun e => e.1) me_21
theorem me_22 : m_e 22 = e_22 := rfl
theorem mc_22 : m_c 22 = cX0_decades := congrArg (fun e => e.2.2.1) me_22
theorem ml_22 : m_l 22 = 6 := congrArg (fun e => e.2.2.2.1) me_22
theorem mk_22 : m_k 22 = 0 := congrArg (fun e => e.2.2.2.2.2.1) me_22
theorem mn_22 : m_n 22 = 5 := congrArg (fun e => e.2.2.2.2.2.2.1) me_22
theorem mh_22 : m_h 22 = (some [((0 : Nat), (12 : Nat), (15 : Nat), (18 : Nat)), ((0 : Nat), (12 : Nat), (19 : Nat), (13 : Nat))]) := congrArg (fun e => e.2.2.2.2.2.2.2) me_22
theorem mo_22 : o_m 22 = 0 := congrArg (fun e => e.1) me_22
theorem me_23 : m_e 23 = e_23 := rfl
theorem mc_23 : m_c 23 = cX1_init := congrArg (fun e => e.2.2.1) me_23
theorem ml_23 : m_l 23 = 1 := congrArg (fun e => e.2.2.2.1) me_23
theorem mk_23 : m_k 23 = 6 := congrArg (fun e => e.2.2.2.2.2.1) me_23
theorem mn_23 : m_n 23 = 0 := congrArg (fun e => e.2.2.2.2.2.2.1) me_23
theorem mh_23 : m_h 23 = none := congrArg (fun e => e.2.2.2.2.2.2.2) me_23
theorem mo_23 : o_m 23 = 1 := congrArg (fun e => e.1) me_23
theorem my_23 : (m_y 23).name = "<init>" := congrArg (fun e => e.2.1.name) me_23
theorem me_24 : m_e 24 = e_24 := rfl
theorem mc_24 : m_c 24 = cX1_feed := congrArg (fun e => e.2.2.1) me_24
theorem ml_24 : m_l 24 = 6 := congrArg (fun e => e.2.2.2.1) me_24
theorem mk_24 : m_k 24 = 0 := congrArg (fun e => e.2.2.2.2.2.1) me_24
theorem mn_24 : m_n 24 = 5 := congrArg (fun e => e.2.2.2.2.2.2.1) me_24
theorem mh_24 : m_h 24 = none := congrArg (fun e => e.2.2.2.2.2.2.2) me_24
theorem mo_24 : o_m 24 = 1 := congrArg (fun e => e.1) me_24
theorem me_25 : m_e 25 = e_25 := rfl
theorem mc_25 : m_c 25 = cX1_lay := congrArg (fun e => e.2.2.1) me_25
theorem ml_25 : m_l 25 = 3 := congrArg (fun e => e.2.2.2.1) me_25
theorem mk_25 : m_k 25 = 6 := congrArg (fun e => e.2.2.2.2.2.1) me_25
theorem mn_25 : m_n 25 = 1 := congrArg (fun e => e.2.2.2.2.2.2.1) me_25
theorem mh_25 : m_h 25 = none := congrArg (fun e => e.2.2.2.2.2.2.2) me_25
theorem mo_25 : o_m 25 = 1 := congrArg (fun e => e.1) me_25
theorem me_26 : m_e 26 = e_26 := rfl
theorem mc_26 : m_c 26 = cX1_fault := congrArg (fun e => e.2.2.1) me_26
theorem ml_26 : m_l 26 = 1 := congrArg (fun e => e.2.2.2.1) me_26
theorem mk_26 : m_k 26 = 0 := congrArg (fun e => e.2.2.2.2.2.1) me_26
theorem mn_26 : m_n 26 = 0 := congrArg (fun e => e.2.2.2.2.2.2.1) me_26
theorem mh_26 : m_h 26 = none := congrArg (fun e => e.2.2.2.2.2.2.2) me_26
theorem mo_26 : o_m 26 = 1 := congrArg (fun e => e.1) me_26
theorem me_27 : m_e 27 = e_27 := rfl
theorem mc_27 : m_c 27 = cX1_by := congrArg (fun e => e.2.2.1) me_27
theorem ml_27 : m_l 27 = 3 := congrArg (fun e => e.2.2.2.1) me_27
theorem mk_27 : m_k 27 = 0 := congrArg (fun e => e.2.2.2.2.2.1) me_27
theorem mn_27 : m_n 27 = 0 := congrArg (fun e => e.2.2.2.2.2.2.1) me_27
theorem mh_27 : m_h 27 = none := congrArg (fun e => e.2.2.2.2.2.2.2) me_27
theorem mo_27 : o_m 27 = 1 := congrArg (fun e => e.1) me_27
theorem me_28 : m_e 28 = e_28 := rfl
theorem mc_28 : m_c 28 = cX1_tables := congrArg (fun e => e.2.2.1) me_28
theorem ml_28 : m_l 28 = 1 := congrArg (fun e => e.2.2.2.1) me_28
theorem mk_28 : m_k 28 = 0 := congrArg (fun e => e.2.2.2.2.2.1) me_28
theorem mn_28 : m_n 28 = 0 := congrArg (fun e => e.2.2.2.2.2.2.1) me_28
theorem mh_28 : m_h 28 = none := congrArg (fun e => e.2.2.2.2.2.2.2) me_28
theorem mo_28 : o_m 28 = 1 := congrArg (fun e => e.1) me_28
theorem me_29 : m_e 29 = e_29 := rfl
theorem mc_29 : m_c 29 = cX1_supper := congrArg (fun e => e.2.2.1) me_29
theorem ml_29 : m_l 29 = 1 := congrArg (fun e => e.2.2.2.1) me_29
theorem mk_29 : m_k 29 = 0 := congrArg (fun e => e.2.2.2.2.2.1) me_29
theorem mn_29 : m_n 29 = 0 := congrArg (fun e => e.2.2.2.2.2.2.1) me_29
theorem mh_29 : m_h 29 = none := congrArg (fun e => e.2.2.2.2.2.2.2) me_29
theorem mo_29 : o_m 29 = 1 := congrArg (fun e => e.1) me_29
theorem me_30 : m_e 30 = e_30 := rfl
theorem mc_30 : m_c 30 = cX1_years := congrArg (fun e => e.2.2.1) me_30
theorem ml_30 : m_l 30 = 2 := congrArg (fun e => e.2.2.2.1) me_30
theorem mk_30 : m_k 30 = 0 := congrArg (fun e => e.2.2.2.2.2.1) me_30
theorem mn_30 : m_n 30 = 1 := congrArg (fun e => e.2.2.2.2.2.2.1) me_30
theorem mh_30 : m_h 30 = none := congrArg (fun e => e.2.2.2.2.2.2.2) me_30
theorem mo_30 : o_m 30 = 1 := congrArg (fun e => e.1) me_30
theorem me_31 : m_e 31 = e_31 := rfl
theorem mc_31 : m_c 31 = cX1_within := congrArg (fun e => e.2.2.1) me_31
theorem ml_31 : m_l 31 = 3 := congrArg (fun e => e.2.2.2.1) me_31
theorem mk_31 : m_k 31 = 3 := congrArg (fun e => e.2.2.2.2.2.1) me_31
theorem mn_31 : m_n 31 = 3 := congrArg (fun e => e.2.2.2.2.2.2.1) me_31
theorem mh_31 : m_h 31 = none := congrArg (fun e => e.2.2.2.2.2.2.2) me_31
theorem mo_31 : o_m 31 = 1 := congrArg (fun e => e.1) me_31
theorem me_32 : m_e 32 = e_32 := rfl
theorem mc_32 : m_c 32 = cX1_does := congrArg (fun e => e.2.2.1) me_32
theorem ml_32 : m_l 32 = 2 := congrArg (fun e => e.2.2.2.1) me_32
theorem mk_32 : m_k 32 = 3 := congrArg (fun e => e.2.2.2.2.2.1) me_32
theorem mn_32 : m_n 32 = 1 := congrArg (fun e => e.2.2.2.2.2.2.1) me_32
theorem mh_32 : m_h 32 = none := congrArg (fun e => e.2.2.2.2.2.2.2) me_32
theorem mo_32 : o_m 32 = 1 := congrArg (fun e => e.1) me_32
theorem me_33 : m_e 33 = e_33 := rfl
theorem mc_33 : m_c 33 = cX1_refuses := congrArg (fun e => e.2.2.1) me_33
theorem ml_33 : m_l 33 = 2 := congrArg (fun e => e.2.2.2.1) me_33
theorem mk_33 : m_k 33 = 0 := congrArg (fun e => e.2.2.2.2.2.1) me_33
theorem mn_33 : m_n 33 = 1 := congrArg (fun e => e.2.2.2.2.2.2.1) me_33
theorem mh_33 : m_h 33 = none := congrArg (fun e => e.2.2.2.2.2.2.2) me_33
theorem mo_33 : o_m 33 = 1 := congrArg (fun e => e.1) me_33
theorem me_34 : m_e 34 = e_34 := rfl
theorem mc_34 : m_c 34 = cX1_undo := congrArg (fun e => e.2.2.1) me_34
theorem ml_34 : m_l 34 = 1 := congrArg (fun e => e.2.2.2.1) me_34
theorem mk_34 : m_k 34 = 0 := congrArg (fun e => e.2.2.2.2.2.1) me_34
theorem mn_34 : m_n 34 = 0 := congrArg (fun e => e.2.2.2.2.2.2.1) me_34
theorem mh_34 : m_h 34 = none := congrArg (fun e => e.2.2.2.2.2.2.2) me_34
theorem mo_34 : o_m 34 = 1 := congrArg (fun e => e.1) me_34
theorem me_35 : m_e 35 = e_35 := rfl
theorem mc_35 : m_c 35 = cX1_more := congrArg (fun e => e.2.2.1) me_35
theorem ml_35 : m_l 35 = 1 := congrArg (fun e => e.2.2.2.1) me_35
theorem mk_35 : m_k 35 = 0 := congrArg (fun e => e.2.2.2.2.2.1) me_35
theorem mn_35 : m_n 35 = 0 := congrArg (fun e => e.2.2.2.2.2.2.1) me_35
theorem mh_35 : m_h 35 = none := congrArg (fun e => e.2.2.2.2.2.2.2) me_35
theorem mo_35 : o_m 35 = 1 := congrArg (fun e => e.1) me_35
theorem me_36 : m_e 36 = e_36 := rfl
theorem mc_36 : m_c 36 = cX1_moreOf := congrArg (fun e => e.2.2.1) me_36
theorem ml_36 : m_l 36 = 4 := congrArg (fun e => e.2.2.2.1) me_36
theorem mk_36 : m_k 36 = 0 := congrArg (fun e => e.2.2.2.2.2.1) me_36
theorem mn_36 : m_n 36 = 1 := congrArg (fun e => e.2.2.2.2.2.2.1) me_36
theorem mh_36 : m_h 36 = none := congrArg (fun e => e.2.2.2.2.2.2.2) me_36
theorem mo_36 : o_m 36 = 1 := congrArg (fun e => e.1) me_36
theorem me_37 : m_e 37 = e_37 := rfl
theorem mc_37 : m_c 37 = cX1_orders := congrArg (fun e => e.2.2.1) me_37
theorem ml_37 : m_l 37 = 1 := congrArg (fun e => e.2.2.2.1) me_37
theorem mk_37 : m_k 37 = 1 := congrArg (fun e => e.2.2.2.2.2.1) me_37
theorem mn_37 : m_n 37 = 0 := congrArg (fun e => e.2.2.2.2.2.2.1) me_37
theorem mh_37 : m_h 37 = none := congrArg (fun e => e.2.2.2.2.2.2.2) me_37
theorem mo_37 : o_m 37 = 1 := congrArg (fun e => e.1) me_37
theorem me_38 : m_e 38 = e_38 := rfl
theorem mc_38 : m_c 38 = cX1_ordersOf := congrArg (fun e => e.2.2.1) me_38
theorem ml_38 : m_l 38 = 2 := congrArg (fun e => e.2.2.2.1) me_38
theorem mk_38 : m_k 38 = 1 := congrArg (fun e => e.2.2.2.2.2.1) me_38
theorem mn_38 : m_n 38 = 1 := congrArg (fun e => e.2.2.2.2.2.2.1) me_38
theorem mh_38 : m_h 38 = none := congrArg (fun e => e.2.2.2.2.2.2.2) me_38
theorem mo_38 : o_m 38 = 1 := congrArg (fun e => e.1) me_38
theorem me_39 : m_e 39 = e_39 := rfl
theorem mc_39 : m_c 39 = cX1_ordersOf_2 := congrArg (fun e => e.2.2.1) me_39
theorem ml_39 : m_l 39 = 7 := congrArg (fun e => e.2.2.2.1) me_39
theorem mk_39 : m_k 39 = 1 := congrArg (fun e => e.2.2.2.2.2.1) me_39
theorem mn_39 : m_n 39 = 3 := congrArg (fun e => e.2.2.2.2.2.2.1) me_39
theorem mh_39 : m_h 39 = none := congrArg (fun e => e.2.2.2.2.2.2.2) me_39
theorem mo_39 : o_m 39 = 1 := congrArg (fun e => e.1) me_39
theorem me_40 : m_e 40 = e_40 := rfl
theorem mc_40 : m_c 40 = cX1_holds := congrArg (fun e => e.2.2.1) me_40
theorem ml_40 : m_l 40 = 7 := congrArg (fun e => e.2.2.2.1) me_40
theorem mk_40 : m_k 40 = 3 := congrArg (fun e => e.2.2.2.2.2.1) me_40
theorem mn_40 : m_n 40 = 3 := congrArg (fun e => e.2.2.2.2.2.2.1) me_40
theorem mh_40 : m_h 40 = none := congrArg (fun e => e.2.2.2.2.2.2.2) me_40
theorem mo_40 : o_m 40 = 1 := congrArg (fun e => e.1) me_40
theorem me_41 : m_e 41 = e_41 := rfl
theorem mc_41 : m_c 41 = cX1_weights := congrArg (fun e => e.2.2.1) me_41
theorem ml_41 : m_l 41 = 4 := congrArg (fun e => e.2.2.2.1) me_41
theorem mk_41 : m_k 41 = 0 := congrArg (fun e => e.2.2.2.2.2.1) me_41
theorem mn_41 : m_n 41 = 1 := congrArg (fun e => e.2.2.2.2.2.2.1) me_41
theorem mh_41 : m_h 41 = none := congrArg (fun e => e.2.2.2.2.2.2.2) me_41
theorem mo_41 : o_m 41 = 1 := congrArg (fun e => e.1) me_41
theorem me_42 : m_e 42 = e_42 := rfl
theorem mc_42 : m_c 42 = cX1_leans := congrArg (fun e => e.2.2.1) me_42
theorem ml_42 : m_l 42 = 4 := congrArg (fun e => e.2.2.2.1) me_42
theorem mk_42 : m_k 42 = 0 := congrArg (fun e => e.2.2.2.2.2.1) me_42
theorem mn_42 : m_n 42 = 1 := congrArg (fun e => e.2.2.2.2.2.2.1) me_42
theorem mh_42 : m_h 42 = none := congrArg (fun e => e.2.2.2.2.2.2.2) me_42
theorem mo_42 : o_m 42 = 1 := congrArg (fun e => e.1) me_42
theorem me_43 : m_e 43 = e_43 := rfl
theorem mc_43 : m_c 43 = cX1_wedges := congrArg (fun e => e.2.2.1) me_43
theorem ml_43 : m_l 43 = 2 := congrArg (fun e => e.2.2.2.1) me_43
theorem mk_43 : m_k 43 = 0 := congrArg (fun e => e.2.2.2.2.2.1) me_43
theorem mn_43 : m_n 43 = 0 := congrArg (fun e => e.2.2.2.2.2.2.1) me_43
theorem mh_43 : m_h 43 = none := congrArg (fun e => e.2.2.2.2.2.2.2) me_43
theorem mo_43 : o_m 43 = 1 := congrArg (fun e => e.1) me_43
theorem me_44 : m_e 44 = e_44 := rfl
theorem mc_44 : m_c 44 = cX1_wedgesFrom := congrArg (fun e => e.2.2.1) me_44
theorem ml_44 : m_l 44 = 9 := congrArg (fun e => e.2.2.2.1) me_44
theorem mk_44 : m_k 44 = 0 := congrArg (fun e => e.2.2.2.2.2.1) me_44
theorem mn_44 : m_n 44 = 3 := congrArg (fun e => e.2.2.2.2.2.2.1) me_44
theorem mh_44 : m_h 44 = none := congrArg (fun e => e.2.2.2.2.2.2.2) me_44
theorem mo_44 : o_m 44 = 1 := congrArg (fun e => e.1) me_44
theorem me_45 : m_e 45 = e_45 := rfl
theorem mc_45 : m_c 45 = cX1_when := congrArg (fun e => e.2.2.1) me_45
theorem ml_45 : m_l 45 = 2 := congrArg (fun e => e.2.2.2.1) me_45
theorem mk_45 : m_k 45 = 0 := congrArg (fun e => e.2.2.2.2.2.1) me_45
theorem mn_45 : m_n 45 = 0 := congrArg (fun e => e.2.2.2.2.2.2.1) me_45
theorem mh_45 : m_h 45 = none := congrArg (fun e => e.2.2.2.2.2.2.2) me_45
theorem mo_45 : o_m 45 = 1 := congrArg (fun e => e.1) me_45
theorem me_46 : m_e 46 = e_46 := rfl
theorem mc_46 : m_c 46 = cX1_marriages := congrArg (fun e => e.2.2.1) me_46
theorem ml_46 : m_l 46 = 6 := congrArg (fun e => e.2.2.2.1) me_46
theorem mk_46 : m_k 46 = 0 := congrArg (fun e => e.2.2.2.2.2.1) me_46
theorem mn_46 : m_n 46 = 0 := congrArg (fun e => e.2.2.2.2.2.2.1) me_46
theorem mh_46 : m_h 46 = none := congrArg (fun e => e.2.2.2.2.2.2.2) me_46
theorem mo_46 : o_m 46 = 1 := congrArg (fun e => e.1) me_46
theorem me_47 : m_e 47 = e_47 := rfl
theorem mc_47 : m_c 47 = cX1_canMarry := congrArg (fun e => e.2.2.1) me_47
theorem ml_47 : m_l 47 = 3 := congrArg (fun e => e.2.2.2.1) me_47
theorem mk_47 : m_k 47 = 3 := congrArg (fun e => e.2.2.2.2.2.1) me_47
theorem mn_47 : m_n 47 = 2 := congrArg (fun e => e.2.2.2.2.2.2.1) me_47
theorem mh_47 : m_h 47 = none := congrArg (fun e => e.2.2.2.2.2.2.2) me_47
theorem mo_47 : o_m 47 = 1 := congrArg (fun e => e.1) me_47
theorem me_48 : m_e 48 = e_48 := rfl
theorem mc_48 : m_c 48 = cX1_carriesBelow := congrArg (fun e => e.2.2.1) me_48
theorem ml_48 : m_l 48 = 2 := congrArg (fun e => e.2.2.2.1) me_48
theorem mk_48 : m_k 48 = 0 := congrArg (fun e => e.2.2.2.2.2.1) me_48
theorem mn_48 : m_n 48 = 1 := congrArg (fun e => e.2.2.2.2.2.2.1) me_48
theorem mh_48 : m_h 48 = none := congrArg (fun e => e.2.2.2.2.2.2.2) me_48
theorem mo_48 : o_m 48 = 1 := congrArg (fun e => e.1) me_48
theorem me_49 : m_e 49 = e_49 := rfl
theorem mc_49 : m_c 49 = cX1_fair := congrArg (fun e => e.2.2.1) me_49
theorem ml_49 : m_l 49 = 2 := congrArg (fun e => e.2.2.2.1) me_49
theorem mk_49 : m_k 49 = 0 := congrArg (fun e => e.2.2.2.2.2.1) me_49
theorem mn_49 : m_n 49 = 0 := congrArg (fun e => e.2.2.2.2.2.2.1) me_49
theorem mh_49 : m_h 49 = none := congrArg (fun e => e.2.2.2.2.2.2.2) me_49
theorem mo_49 : o_m 49 = 1 := congrArg (fun e => e.1) me_49
theorem me_50 : m_e 50 = e_50 := rfl
theorem mc_50 : m_c 50 = cX1_oneWedge := congrArg (fun e => e.2.2.1) me_50
theorem ml_50 : m_l 50 = 3 := congrArg (fun e => e.2.2.2.1) me_50
theorem mk_50 : m_k 50 = 0 := congrArg (fun e => e.2.2.2.2.2.1) me_50
theorem mn_50 : m_n 50 = 0 := congrArg (fun e => e.2.2.2.2.2.2.1) me_50
theorem mh_50 : m_h 50 = none := congrArg (fun e => e.2.2.2.2.2.2.2) me_50
theorem mo_50 : o_m 50 = 1 := congrArg (fun e => e.1) me_50
theorem me_51 : m_e 51 = e_51 := rfl
theorem mc_51 : m_c 51 = cX1_guesses := congrArg (fun e => e.2.2.1) me_51
theorem ml_51 : m_l 51 = 1 := congrArg (fun e => e.2.2.2.1) me_51
theorem mk_51 : m_k 51 = 0 := congrArg (fun e => e.2.2.2.2.2.1) me_51
theorem mn_51 : m_n 51 = 0 := congrArg (fun e => e.2.2.2.2.2.2.1) me_51
theorem mh_51 : m_h 51 = none := congrArg (fun e => e.2.2.2.2.2.2.2) me_51
theorem mo_51 : o_m 51 = 1 := congrArg (fun e => e.1) me_51
theorem me_52 : m_e 52 = e_52 := rfl
theorem mc_52 : m_c 52 = cX1_swap := congrArg (fun e => e.2.2.1) me_52
theorem ml_52 : m_l 52 = 6 := congrArg (fun e => e.2.2.2.1) me_52
theorem mk_52 : m_k 52 = 0 := congrArg (fun e => e.2.2.2.2.2.1) me_52
theorem mn_52 : m_n 52 = 0 := congrArg (fun e => e.2.2.2.2.2.2.1) me_52
theorem mh_52 : m_h 52 = none := congrArg (fun e => e.2.2.2.2.2.2.2) me_52
theorem mo_52 : o_m 52 = 1 := congrArg (fun e => e.1) me_52
theorem me_53 : m_e 53 = e_53 := rfl
theorem mc_53 : m_c 53 = cX1_crooked := congrArg (fun e => e.2.2.1) me_53
theorem ml_53 : m_l 53 = 3 := congrArg (fun e => e.2.2.2.1) me_53
theorem mk_53 : m_k 53 = 0 := congrArg (fun e => e.2.2.2.2.2.1) me_53
theorem mn_53 : m_n 53 = 0 := congrArg (fun e => e.2.2.2.2.2.2.1) me_53
theorem mh_53 : m_h 53 = none := congrArg (fun e => e.2.2.2.2.2.2.2) me_53
theorem mo_53 : o_m 53 = 1 := congrArg (fun e => e.1) me_53
theorem me_54 : m_e 54 = e_54 := rfl
theorem mc_54 : m_c 54 = cX1_relief := congrArg (fun e => e.2.2.1) me_54
theorem ml_54 : m_l 54 = 5 := congrArg (fun e => e.2.2.2.1) me_54
theorem mk_54 : m_k 54 = 0 := congrArg (fun e => e.2.2.2.2.2.1) me_54
theorem mn_54 : m_n 54 = 0 := congrArg (fun e => e.2.2.2.2.2.2.1) me_54
theorem mh_54 : m_h 54 = none := congrArg (fun e => e.2.2.2.2.2.2.2) me_54
theorem mo_54 : o_m 54 = 1 := congrArg (fun e => e.1) me_54
theorem me_55 : m_e 55 = e_55 := rfl
theorem mc_55 : m_c 55 = cX1_takesAll := congrArg (fun e => e.2.2.1) me_55
theorem ml_55 : m_l 55 = 3 := congrArg (fun e => e.2.2.2.1) me_55
theorem mk_55 : m_k 55 = 6 := congrArg (fun e => e.2.2.2.2.2.1) me_55
theorem mn_55 : m_n 55 = 1 := congrArg (fun e => e.2.2.2.2.2.2.1) me_55
theorem mh_55 : m_h 55 = none := congrArg (fun e => e.2.2.2.2.2.2.2) me_55
theorem mo_55 : o_m 55 = 1 := congrArg (fun e => e.1) me_55
theorem me_56 : m_e 56 = e_56 := rfl
theorem mc_56 : m_c 56 = cX1_hungriest := congrArg (fun e => e.2.2.1) me_56
theorem ml_56 : m_l 56 = 5 := congrArg (fun e => e.2.2.2.1) me_56
theorem mk_56 : m_k 56 = 0 := congrArg (fun e => e.2.2.2.2.2.1) me_56
theorem mn_56 : m_n 56 = 0 := congrArg (fun e => e.2.2.2.2.2.2.1) me_56
theorem mh_56 : m_h 56 = none := congrArg (fun e => e.2.2.2.2.2.2.2) me_56
theorem mo_56 : o_m 56 = 1 := congrArg (fun e => e.1) me_56
theorem me_57 : m_e 57 = e_57 := rfl
theorem mc_57 : m_c 57 = cX1_see := congrArg (fun e => e.2.2.1) me_57
theorem ml_57 : m_l 57 = 4 := congrArg (fun e => e.2.2.2.1) me_57
theorem mk_57 : m_k 57 = 0 := congrArg (fun e => e.2.2.2.2.2.1) me_57
theorem mn_57 : m_n 57 = 2 := congrArg (fun e => e.2.2.2.2.2.2.1) me_57
theorem mh_57 : m_h 57 = none := congrArg (fun e => e.2.2.2.2.2.2.2) me_57
theorem mo_57 : o_m 57 = 1 := congrArg (fun e => e.1) me_57
theorem me_58 : m_e 58 = e_58 := rfl
theorem mc_58 : m_c 58 = cX1_look := congrArg (fun e => e.2.2.1) me_58
theorem ml_58 : m_l 58 = 5 := congrArg (fun e => e.2.2.2.1) me_58
theorem mk_58 : m_k 58 = 0 := congrArg (fun e => e.2.2.2.2.2.1) me_58
theorem mn_58 : m_n 58 = 0 := congrArg (fun e => e.2.2.2.2.2.2.1) me_58
theorem mh_58 : m_h 58 = none := congrArg (fun e => e.2.2.2.2.2.2.2) me_58
theorem mo_58 : o_m 58 = 1 := congrArg (fun e => e.1) me_58
theorem me_59 : m_e 59 = e_59 := rfl
theorem mc_59 : m_c 59 = cX1_apart := congrArg (fun e => e.2.2.1) me_59
theorem ml_59 : m_l 59 = 5 := congrArg (fun e => e.2.2.2.1) me_59
theorem mk_59 : m_k 59 = 0 := congrArg (fun e => e.2.2.2.2.2.1) me_59
theorem mn_59 : m_n 59 = 1 := congrArg (fun e => e.2.2.2.2.2.2.1) me_59
theorem mh_59 : m_h 59 = none := congrArg (fun e => e.2.2.2.2.2.2.2) me_59
theorem mo_59 : o_m 59 = 1 := congrArg (fun e => e.1) me_59
theorem me_60 : m_e 60 = e_60 := rfl
theorem mc_60 : m_c 60 = cX1_isGuess := congrArg (fun e => e.2.2.1) me_60
theorem ml_60 : m_l 60 = 4 := congrArg (fun e => e.2.2.2.1) me_60
theorem mk_60 : m_k 60 = 3 := congrArg (fun e => e.2.2.2.2.2.1) me_60
theorem mn_60 : m_n 60 = 1 := congrArg (fun e => e.2.2.2.2.2.2.1) me_60
theorem mh_60 : m_h 60 = none := congrArg (fun e => e.2.2.2.2.2.2.2) me_60
theorem mo_60 : o_m 60 = 1 := congrArg (fun e => e.1) me_60
theorem me_61 : m_e 61 = e_61 := rfl
theorem mc_61 : m_c 61 = cX1_isSeen := congrArg (fun e => e.2.2.1) me_61
theorem ml_61 : m_l 61 = 2 := congrArg (fun e => e.2.2.2.1) me_61
theorem mk_61 : m_k 61 = 3 := congrArg (fun e => e.2.2.2.2.2.1) me_61
theorem mn_61 : m_n 61 = 0 := congrArg (fun e => e.2.2.2.2.2.2.1) me_61
theorem mh_61 : m_h 61 = none := congrArg (fun e => e.2.2.2.2.2.2.2) me_61
theorem mo_61 : o_m 61 = 1 := congrArg (fun e => e.1) me_61
theorem me_62 : m_e 62 = e_62 := rfl
theorem mc_62 : m_c 62 = cX1_forget := congrArg (fun e => e.2.2.1) me_62
theorem ml_62 : m_l 62 = 1 := congrArg (fun e => e.2.2.2.1) me_62
theorem mk_62 : m_k 62 = 6 := congrArg (fun e => e.2.2.2.2.2.1) me_62
theorem mn_62 : m_n 62 = 0 := congrArg (fun e => e.2.2.2.2.2.2.1) me_62
theorem mh_62 : m_h 62 = none := congrArg (fun e => e.2.2.2.2.2.2.2) me_62
theorem mo_62 : o_m 62 = 1 := congrArg (fun e => e.1) me_62
theorem me_63 : m_e 63 = e_63 := rfl
theorem mc_63 : m_c 63 = cX1_image := congrArg (fun e => e.2.2.1) me_63
theorem ml_63 : m_l 63 = 1 := congrArg (fun e => e.2.2.2.1) me_63
theorem mk_63 : m_k 63 = 6 := congrArg (fun e => e.2.2.2.2.2.1) me_63
theorem mn_63 : m_n 63 = 0 := congrArg (fun e => e.2.2.2.2.2.2.1) me_63
theorem mh_63 : m_h 63 = none := congrArg (fun e => e.2.2.2.2.2.2.2) me_63
theorem mo_63 : o_m 63 = 1 := congrArg (fun e => e.1) me_63
theorem me_64 : m_e 64 = e_64 := rfl
theorem mc_64 : m_c 64 = cX1_restore := congrArg (fun e => e.2.2.1) me_64
theorem ml_64 : m_l 64 = 1 := congrArg (fun e => e.2.2.2.1) me_64
theorem mk_64 : m_k 64 = 3 := congrArg (fun e => e.2.2.2.2.2.1) me_64
theorem mn_64 : m_n 64 = 0 := congrArg (fun e => e.2.2.2.2.2.2.1) me_64
theorem mh_64 : m_h 64 = none := congrArg (fun e => e.2.2.2.2.2.2.2) me_64
theorem mo_64 : o_m 64 = 1 := congrArg (fun e => e.1) me_64
theorem me_65 : m_e 65 = e_65 := rfl
theorem mc_65 : m_c 65 = cX1_town := congrArg (fun e => e.2.2.1) me_65
theorem ml_65 : m_l 65 = 3 := congrArg (fun e => e.2.2.2.1) me_65
theorem mk_65 : m_k 65 = 0 := congrArg (fun e => e.2.2.2.2.2.1) me_65
theorem mn_65 : m_n 65 = 1 := congrArg (fun e => e.2.2.2.2.2.2.1) me_65
theorem mh_65 : m_h 65 = (some [((30 : Nat), (49 : Nat), (52 : Nat), (116 : Nat))]) := congrArg (fun e => e.2.2.2.2.2.2.2) me_65
theorem mo_65 : o_m 65 = 1 := congrArg (fun e => e.1) me_65
theorem me_66 : m_e 66 = e_66 := rfl
theorem mc_66 : m_c 66 = cX1_right := congrArg (fun e => e.2.2.1) me_66
theorem ml_66 : m_l 66 = 1 := congrArg (fun e => e.2.2.2.1) me_66
theorem mk_66 : m_k 66 = 6 := congrArg (fun e => e.2.2.2.2.2.1) me_66
theorem mn_66 : m_n 66 = 1 := congrArg (fun e => e.2.2.2.2.2.2.1) me_66
theorem mh_66 : m_h 66 = none := congrArg (fun e => e.2.2.2.2.2.2.2) me_66
theorem mo_66 : o_m 66 = 1 := congrArg (fun e => e.1) me_66
theorem me_67 : m_e 67 = e_67 := rfl
theorem mc_67 : m_c 67 = cX1_count := congrArg (fun e => e.2.2.1) me_67
theorem ml_67 : m_l 67 = 2 := congrArg (fun e => e.2.2.2.1) me_67
theorem mk_67 : m_k 67 = 0 := congrArg (fun e => e.2.2.2.2.2.1) me_67
theorem mn_67 : m_n 67 = 1 := congrArg (fun e => e.2.2.2.2.2.2.1) me_67
theorem mh_67 : m_h 67 = none := congrArg (fun e => e.2.2.2.2.2.2.2) me_67
theorem mo_67 : o_m 67 = 1 := congrArg (fun e => e.1) me_67
theorem me_68 : m_e 68 = e_68 := rfl
theorem mc_68 : m_c 68 = cX1_there := congrArg (fun e => e.2.2.1) me_68
theorem ml_68 : m_l 68 = 1 := congrArg (fun e => e.2.2.2.1) me_68
theorem mk_68 : m_k 68 = 6 := congrArg (fun e => e.2.2.2.2.2.1) me_68
theorem mn_68 : m_n 68 = 1 := congrArg (fun e => e.2.2.2.2.2.2.1) me_68
theorem mh_68 : m_h 68 = none := congrArg (fun e => e.2.2.2.2.2.2.2) me_68
theorem mo_68 : o_m 68 = 1 := congrArg (fun e => e.1) me_68
theorem me_69 : m_e 69 = e_69 := rfl
theorem mc_69 : m_c 69 = cX1_table := congrArg (fun e => e.2.2.1) me_69
theorem ml_69 : m_l 69 = 4 := congrArg (fun e => e.2.2.2.1) me_69
theorem mk_69 : m_k 69 = 0 := congrArg (fun e => e.2.2.2.2.2.1) me_69
theorem mn_69 : m_n 69 = 2 := congrArg (fun e => e.2.2.2.2.2.2.1) me_69
theorem mh_69 : m_h 69 = none := congrArg (fun e => e.2.2.2.2.2.2.2) me_69
theorem mo_69 : o_m 69 = 1 := congrArg (fun e => e.1) me_69
theorem me_70 : m_e 70 = e_70 := rfl
theorem mc_70 : m_c 70 = cX1_tableAt := congrArg (fun e => e.2.2.1) me_70
theorem ml_70 : m_l 70 = 2 := congrArg (fun e => e.2.2.2.1) me_70
theorem mk_70 : m_k 70 = 2 := congrArg (fun e => e.2.2.2.2.2.1) me_70
theorem mn_70 : m_n 70 = 1 := congrArg (fun e => e.2.2.2.2.2.2.1) me_70
theorem mh_70 : m_h 70 = none := congrArg (fun e => e.2.2.2.2.2.2.2) me_70
theorem mo_70 : o_m 70 = 1 := congrArg (fun e => e.1) me_70
theorem me_71 : m_e 71 = e_71 := rfl
theorem mc_71 : m_c 71 = cX1_level := congrArg (fun e => e.2.2.1) me_71
theorem ml_71 : m_l 71 = 3 := congrArg (fun e => e.2.2.2.1) me_71
theorem mk_71 : m_k 71 = 0 := congrArg (fun e => e.2.2.2.2.2.1) me_71
theorem mn_71 : m_n 71 = 2 := congrArg (fun e => e.2.2.2.2.2.2.1) me_71
theorem mh_71 : m_h 71 = none := congrArg (fun e => e.2.2.2.2.2.2.2) me_71
theorem mo_71 : o_m 71 = 1 := congrArg (fun e => e.1) me_71
theorem me_72 : m_e 72 = e_72 := rfl
theorem mc_72 : m_c 72 = cX1_levelAt := congrArg (fun e => e.2.2.1) me_72
theorem ml_72 : m_l 72 = 2 := congrArg (fun e => e.2.2.2.1) me_72
theorem mk_72 : m_k 72 = 6 := congrArg (fun e => e.2.2.2.2.2.1) me_72
theorem mn_72 : m_n 72 = 1 := congrArg (fun e => e.2.2.2.2.2.2.1) me_72
theorem mh_72 : m_h 72 = none := congrArg (fun e => e.2.2.2.2.2.2.2) me_72
theorem mo_72 : o_m 72 = 1 := congrArg (fun e => e.1) me_72
theorem me_73 : m_e 73 = e_73 := rfl
theorem mc_73 : m_c 73 = cX1_put := congrArg (fun e => e.2.2.1) me_73
theorem ml_73 : m_l 73 = 3 := congrArg (fun e => e.2.2.2.1) me_73
theorem mk_73 : m_k 73 = 0 := congrArg (fun e => e.2.2.2.2.2.1) me_73
theorem mn_73 : m_n 73 = 2 := congrArg (fun e => e.2.2.2.2.2.2.1) me_73
theorem mh_73 : m_h 73 = none := congrArg (fun e => e.2.2.2.2.2.2.2) me_73
theorem mo_73 : o_m 73 = 1 := congrArg (fun e => e.1) me_73
theorem me_74 : m_e 74 = e_74 := rfl
theorem mc_74 : m_c 74 = cX1_take := congrArg (fun e => e.2.2.1) me_74
theorem ml_74 : m_l 74 = 3 := congrArg (fun e => e.2.2.2.1) me_74
theorem mk_74 : m_k 74 = 0 := congrArg (fun e => e.2.2.2.2.2.1) me_74
theorem mn_74 : m_n 74 = 1 := congrArg (fun e => e.2.2.2.2.2.2.1) me_74
theorem mh_74 : m_h 74 = none := congrArg (fun e => e.2.2.2.2.2.2.2) me_74
theorem mo_74 : o_m 74 = 1 := congrArg (fun e => e.1) me_74
theorem me_75 : m_e 75 = e_75 := rfl
theorem mc_75 : m_c 75 = cX1_change := congrArg (fun e => e.2.2.1) me_75
theorem ml_75 : m_l 75 = 4 := congrArg (fun e => e.2.2.2.1) me_75
theorem mk_75 : m_k 75 = 3 := congrArg (fun e => e.2.2.2.2.2.1) me_75
theorem mn_75 : m_n 75 = 2 := congrArg (fun e => e.2.2.2.2.2.2.1) me_75
theorem mh_75 : m_h 75 = none := congrArg (fun e => e.2.2.2.2.2.2.2) me_75
theorem mo_75 : o_m 75 = 1 := congrArg (fun e => e.1) me_75
theorem me_76 : m_e 76 = e_76 := rfl
theorem mc_76 : m_c 76 = cX1_wedge := congrArg (fun e => e.2.2.1) me_76
theorem ml_76 : m_l 76 = 3 := congrArg (fun e => e.2.2.2.1) me_76
theorem mk_76 : m_k 76 = 0 := congrArg (fun e => e.2.2.2.2.2.1) me_76
theorem mn_76 : m_n 76 = 2 := congrArg (fun e => e.2.2.2.2.2.2.1) me_76
theorem mh_76 : m_h 76 = none := congrArg (fun e => e.2.2.2.2.2.2.2) me_76
theorem mo_76 : o_m 76 = 1 := congrArg (fun e => e.1) me_76
theorem me_77 : m_e 77 = e_77 := rfl
theorem mc_77 : m_c 77 = cX1_becomes := congrArg (fun e => e.2.2.1) me_77
theorem ml_77 : m_l 77 = 5 := congrArg (fun e => e.2.2.2.1) me_77
theorem mk_77 : m_k 77 = 0 := congrArg (fun e => e.2.2.2.2.2.1) me_77
theorem mn_77 : m_n 77 = 3 := congrArg (fun e => e.2.2.2.2.2.2.1) me_77
theorem mh_77 : m_h 77 = none := congrArg (fun e => e.2.2.2.2.2.2.2) me_77
theorem mo_77 : o_m 77 = 1 := congrArg (fun e => e.1) me_77
theorem me_78 : m_e 78 = e_78 := rfl
theorem mc_78 : m_c 78 = cX1_saw := congrArg (fun e => e.2.2.1) me_78
theorem ml_78 : m_l 78 = 3 := congrArg (fun e => e.2.2.2.1) me_78
theorem mk_78 : m_k 78 = 0 := congrArg (fun e => e.2.2.2.2.2.1) me_78
theorem mn_78 : m_n 78 = 2 := congrArg (fun e => e.2.2.2.2.2.2.1) me_78
theorem mh_78 : m_h 78 = none := congrArg (fun e => e.2.2.2.2.2.2.2) me_78
theorem mo_78 : o_m 78 = 1 := congrArg (fun e => e.1) me_78
theorem me_79 : m_e 79 = e_79 := rfl
theorem mc_79 : m_c 79 = cX1_without := congrArg (fun e => e.2.2.1) me_79
theorem ml_79 : m_l 79 = 3 := congrArg (fun e => e.2.2.2.1) me_79
theorem mk_79 : m_k 79 = 3 := congrArg (fun e => e.2.2.2.2.2.1) me_79
theorem mn_79 : m_n 79 = 1 := congrArg (fun e => e.2.2.2.2.2.2.1) me_79
theorem mh_79 : m_h 79 = none := congrArg (fun e => e.2.2.2.2.2.2.2) me_79
theorem mo_79 : o_m 79 = 1 := congrArg (fun e => e.1) me_79
theorem me_80 : m_e 80 = e_80 := rfl
theorem mc_80 : m_c 80 = cX1_most := congrArg (fun e => e.2.2.1) me_80
theorem ml_80 : m_l 80 = 3 := congrArg (fun e => e.2.2.2.1) me_80
theorem mk_80 : m_k 80 = 0 := congrArg (fun e => e.2.2.2.2.2.1) me_80
theorem mn_80 : m_n 80 = 1 := congrArg (fun e => e.2.2.2.2.2.2.1) me_80
theorem mh_80 : m_h 80 = none := congrArg (fun e => e.2.2.2.2.2.2.2) me_80
theorem mo_80 : o_m 80 = 1 := congrArg (fun e => e.1) me_80
theorem me_81 : m_e 81 = e_81 := rfl
theorem mc_81 : m_c 81 = cX1_mostOf := congrArg (fun e => e.2.2.1) me_81
theorem ml_81 : m_l 81 = 3 := congrArg (fun e => e.2.2.2.1) me_81
theorem mk_81 : m_k 81 = 0 := congrArg (fun e => e.2.2.2.2.2.1) me_81
theorem mn_81 : m_n 81 = 0 := congrArg (fun e => e.2.2.2.2.2.2.1) me_81
theorem mh_81 : m_h 81 = none := congrArg (fun e => e.2.2.2.2.2.2.2) me_81
theorem mo_81 : o_m 81 = 1 := congrArg (fun e => e.1) me_81
theorem me_82 : m_e 82 = e_82 := rfl
theorem mc_82 : m_c 82 = cX1_row := congrArg (fun e => e.2.2.1) me_82
theorem ml_82 : m_l 82 = 3 := congrArg (fun e => e.2.2.2.1) me_82
theorem mk_82 : m_k 82 = 0 := congrArg (fun e => e.2.2.2.2.2.1) me_82
theorem mn_82 : m_n 82 = 1 := congrArg (fun e => e.2.2.2.2.2.2.1) me_82
theorem mh_82 : m_h 82 = none := congrArg (fun e => e.2.2.2.2.2.2.2) me_82
theorem mo_82 : o_m 82 = 1 := congrArg (fun e => e.1) me_82
theorem me_83 : m_e 83 = e_83 := rfl
theorem mc_83 : m_c 83 = cX1_isRow := congrArg (fun e => e.2.2.1) me_83
theorem ml_83 : m_l 83 = 4 := congrArg (fun e => e.2.2.2.1) me_83
theorem mk_83 : m_k 83 = 3 := congrArg (fun e => e.2.2.2.2.2.1) me_83
theorem mn_83 : m_n 83 = 2 := congrArg (fun e => e.2.2.2.2.2.2.1) me_83
theorem mh_83 : m_h 83 = none := congrArg (fun e => e.2.2.2.2.2.2.2) me_83
theorem mo_83 : o_m 83 = 1 := congrArg (fun e => e.1) me_83
theorem me_84 : m_e 84 = e_84 := rfl
theorem mc_84 : m_c 84 = cX1_marry := congrArg (fun e => e.2.2.1) me_84
theorem ml_84 : m_l 84 = 3 := congrArg (fun e => e.2.2.2.1) me_84
theorem mk_84 : m_k 84 = 3 := congrArg (fun e => e.2.2.2.2.2.1) me_84
theorem mn_84 : m_n 84 = 2 := congrArg (fun e => e.2.2.2.2.2.2.1) me_84
theorem mh_84 : m_h 84 = none := congrArg (fun e => e.2.2.2.2.2.2.2) me_84
theorem mo_84 : o_m 84 = 1 := congrArg (fun e => e.1) me_84
theorem me_85 : m_e 85 = e_85 := rfl
theorem mc_85 : m_c 85 = cX1_nod := congrArg (fun e => e.2.2.1) me_85
theorem ml_85 : m_l 85 = 3 := congrArg (fun e => e.2.2.2.1) me_85
theorem mk_85 : m_k 85 = 0 := congrArg (fun e => e.2.2.2.2.2.1) me_85
theorem mn_85 : m_n 85 = 2 := congrArg (fun e => e.2.2.2.2.2.2.1) me_85
theorem mh_85 : m_h 85 = none := congrArg (fun e => e.2.2.2.2.2.2.2) me_85
theorem mo_85 : o_m 85 = 1 := congrArg (fun e => e.1) me_85
theorem me_86 : m_e 86 = e_86 := rfl
theorem mc_86 : m_c 86 = cX1_out := congrArg (fun e => e.2.2.1) me_86
theorem ml_86 : m_l 86 = 5 := congrArg (fun e => e.2.2.2.1) me_86
theorem mk_86 : m_k 86 = 0 := congrArg (fun e => e.2.2.2.2.2.1) me_86
theorem mn_86 : m_n 86 = 1 := congrArg (fun e => e.2.2.2.2.2.2.1) me_86
theorem mh_86 : m_h 86 = none := congrArg (fun e => e.2.2.2.2.2.2.2) me_86
theorem mo_86 : o_m 86 = 1 := congrArg (fun e => e.1) me_86
theorem me_87 : m_e 87 = e_87 := rfl
theorem mc_87 : m_c 87 = cX1_lifted := congrArg (fun e => e.2.2.1) me_87
theorem ml_87 : m_l 87 = 3 := congrArg (fun e => e.2.2.2.1) me_87
theorem mk_87 : m_k 87 = 1 := congrArg (fun e => e.2.2.2.2.2.1) me_87
theorem mn_87 : m_n 87 = 2 := congrArg (fun e => e.2.2.2.2.2.2.1) me_87
theorem mh_87 : m_h 87 = none := congrArg (fun e => e.2.2.2.2.2.2.2) me_87
theorem mo_87 : o_m 87 = 1 := congrArg (fun e => e.1) me_87
theorem me_88 : m_e 88 = e_88 := rfl
theorem mc_88 : m_c 88 = cX1_slack := congrArg (fun e => e.2.2.1) me_88
theorem ml_88 : m_l 88 = 2 := congrArg (fun e => e.2.2.2.1) me_88
theorem mk_88 : m_k 88 = 0 := congrArg (fun e => e.2.2.2.2.2.1) me_88
theorem mn_88 : m_n 88 = 1 := congrArg (fun e => e.2.2.2.2.2.2.1) me_88
theorem mh_88 : m_h 88 = none := congrArg (fun e => e.2.2.2.2.2.2.2) me_88
theorem mo_88 : o_m 88 = 1 := congrArg (fun e => e.1) me_88
theorem me_89 : m_e 89 = e_89 := rfl
theorem mc_89 : m_c 89 = cX1_broken := congrArg (fun e => e.2.2.1) me_89
theorem ml_89 : m_l 89 = 2 := congrArg (fun e => e.2.2.2.1) me_89
theorem mk_89 : m_k 89 = 0 := congrArg (fun e => e.2.2.2.2.2.1) me_89
theorem mn_89 : m_n 89 = 1 := congrArg (fun e => e.2.2.2.2.2.2.1) me_89
theorem mh_89 : m_h 89 = none := congrArg (fun e => e.2.2.2.2.2.2.2) me_89
theorem mo_89 : o_m 89 = 1 := congrArg (fun e => e.1) me_89
theorem me_90 : m_e 90 = e_90 := rfl
theorem mc_90 : m_c 90 = cX1_top := congrArg (fun e => e.2.2.1) me_90
theorem ml_90 : m_l 90 = 2 := congrArg (fun e => e.2.2.2.1) me_90
theorem mk_90 : m_k 90 = 0 := congrArg (fun e => e.2.2.2.2.2.1) me_90
theorem mn_90 : m_n 90 = 1 := congrArg (fun e => e.2.2.2.2.2.2.1) me_90
theorem mh_90 : m_h 90 = none := congrArg (fun e => e.2.2.2.2.2.2.2) me_90
theorem mo_90 : o_m 90 = 1 := congrArg (fun e => e.1) me_90
theorem me_91 : m_e 91 = e_91 := rfl
theorem mc_91 : m_c 91 = cX1_which := congrArg (fun e => e.2.2.1) me_91
theorem ml_91 : m_l 91 = 5 := congrArg (fun e => e.2.2.2.1) me_91
theorem mk_91 : m_k 91 = 0 := congrArg (fun e => e.2.2.2.2.2.1) me_91
theorem mn_91 : m_n 91 = 1 := congrArg (fun e => e.2.2.2.2.2.2.1) me_91
theorem mh_91 : m_h 91 = none := congrArg (fun e => e.2.2.2.2.2.2.2) me_91
theorem mo_91 : o_m 91 = 1 := congrArg (fun e => e.1) me_91
theorem me_92 : m_e 92 = e_92 := rfl
theorem mc_92 : m_c 92 = cX1_game := congrArg (fun e => e.2.2.1) me_92
theorem ml_92 : m_l 92 = 9 := congrArg (fun e => e.2.2.2.1) me_92
theorem mk_92 : m_k 92 = 0 := congrArg (fun e => e.2.2.2.2.2.1) me_92
theorem mn_92 : m_n 92 = 1 := congrArg (fun e => e.2.2.2.2.2.2.1) me_92
theorem mh_92 : m_h 92 = none := congrArg (fun e => e.2.2.2.2.2.2.2) me_92
theorem mo_92 : o_m 92 = 1 := congrArg (fun e => e.1) me_92
theorem me_93 : m_e 93 = e_93 := rfl
theorem mc_93 : m_c 93 = cX1_standsBy := congrArg (fun e => e.2.2.1) me_93
theorem ml_93 : m_l 93 = 3 := congrArg (fun e => e.2.2.2.1) me_93
theorem mk_93 : m_k 93 = 3 := congrArg (fun e => e.2.2.2.2.2.1) me_93
theorem mn_93 : m_n 93 = 2 := congrArg (fun e => e.2.2.2.2.2.2.1) me_93
theorem mh_93 : m_h 93 = none := congrArg (fun e => e.2.2.2.2.2.2.2) me_93
theorem mo_93 : o_m 93 = 1 := congrArg (fun e => e.1) me_93
theorem me_94 : m_e 94 = e_94 := rfl
theorem mc_94 : m_c 94 = cX1_gains := congrArg (fun e => e.2.2.1) me_94
theorem ml_94 : m_l 94 = 3 := congrArg (fun e => e.2.2.2.1) me_94
theorem mk_94 : m_k 94 = 0 := congrArg (fun e => e.2.2.2.2.2.1) me_94
theorem mn_94 : m_n 94 = 2 := congrArg (fun e => e.2.2.2.2.2.2.1) me_94
theorem mh_94 : m_h 94 = none := congrArg (fun e => e.2.2.2.2.2.2.2) me_94
theorem mo_94 : o_m 94 = 1 := congrArg (fun e => e.1) me_94
theorem me_95 : m_e 95 = e_95 := rfl
theorem mc_95 : m_c 95 = cX1_decades := congrArg (fun e => e.2.2.1) me_95
theorem ml_95 : m_l 95 = 7 := congrArg (fun e => e.2.2.2.1) me_95
theorem mk_95 : m_k 95 = 0 := congrArg (fun e => e.2.2.2.2.2.1) me_95
theorem mn_95 : m_n 95 = 3 := congrArg (fun e => e.2.2.2.2.2.2.1) me_95
theorem mh_95 : m_h 95 = none := congrArg (fun e => e.2.2.2.2.2.2.2) me_95
theorem mo_95 : o_m 95 = 1 := congrArg (fun e => e.1) me_95
theorem me_96 : m_e 96 = e_96 := rfl
theorem mc_96 : m_c 96 = cX1_happens := congrArg (fun e => e.2.2.1) me_96
theorem ml_96 : m_l 96 = 3 := congrArg (fun e => e.2.2.2.1) me_96
theorem mk_96 : m_k 96 = 6 := congrArg (fun e => e.2.2.2.2.2.1) me_96
theorem mn_96 : m_n 96 = 0 := congrArg (fun e => e.2.2.2.2.2.2.1) me_96
theorem mh_96 : m_h 96 = none := congrArg (fun e => e.2.2.2.2.2.2.2) me_96
theorem mo_96 : o_m 96 = 1 := congrArg (fun e => e.1) me_96
theorem me_97 : m_e 97 = e_97 := rfl
theorem mc_97 : m_c 97 = cX1_draw := congrArg (fun e => e.2.2.1) me_97
theorem ml_97 : m_l 97 = 2 := congrArg (fun e => e.2.2.2.1) me_97
theorem mk_97 : m_k 97 = 0 := congrArg (fun e => e.2.2.2.2.2.1) me_97
theorem mn_97 : m_n 97 = 1 := congrArg (fun e => e.2.2.2.2.2.2.1) me_97
theorem mh_97 : m_h 97 = none := congrArg (fun e => e.2.2.2.2.2.2.2) me_97
theorem mo_97 : o_m 97 = 1 := congrArg (fun e => e.1) me_97
theorem me_98 : m_e 98 = e_98 := rfl
theorem mc_98 : m_c 98 = cX10_init := congrArg (fun e => e.2.2.1) me_98
theorem ml_98 : m_l 98 = 1 := congrArg (fun e => e.2.2.2.1) me_98
theorem mk_98 : m_k 98 = 6 := congrArg (fun e => e.2.2.2.2.2.1) me_98
theorem mn_98 : m_n 98 = 0 := congrArg (fun e => e.2.2.2.2.2.2.1) me_98
theorem mh_98 : m_h 98 = none := congrArg (fun e => e.2.2.2.2.2.2.2) me_98
theorem mo_98 : o_m 98 = 2 := congrArg (fun e => e.1) me_98
theorem me_99 : m_e 99 = e_99 := rfl
theorem mc_99 : m_c 99 = cX11_by := congrArg (fun e => e.2.2.1) me_99
theorem ml_99 : m_l 99 = 2 := congrArg (fun e => e.2.2.2.1) me_99
theorem mk_99 : m_k 99 = 0 := congrArg (fun e => e.2.2.2.2.2.1) me_99
theorem mn_99 : m_n 99 = 1 := congrArg (fun e => e.2.2.2.2.2.2.1) me_99
theorem mh_99 : m_h 99 = none := congrArg (fun e => e.2.2.2.2.2.2.2) me_99
theorem mo_99 : o_m 99 = 3 := congrArg (fun e => e.1) me_99
theorem me_100 : m_e 100 = e_100 := rfl
theorem mc_100 : m_c 100 = cX11_init := congrArg (fun e => e.2.2.1) me_100
theorem ml_100 : m_l 100 = 2 := congrArg (fun e => e.2.2.2.1) me_100
theorem mk_100 : m_k 100 = 6 := congrArg (fun e => e.2.2.2.2.2.1) me_100
theorem mn_100 : m_n 100 = 1 := congrArg (fun e => e.2.2.2.2.2.2.1) me_100
theorem mh_100 : m_h 100 = none := congrArg (fun e => e.2.2.2.2.2.2.2) me_100
theorem mo_100 : o_m 100 = 3 := congrArg (fun e => e.1) me_100
theorem my_100 : (m_y 100).name = "<init>" := congrArg (fun e => e.2.1.name) me_100
theorem me_101 : m_e 101 = e_101 := rfl
theorem mc_101 : m_c 101 = cX12_by := congrArg (fun e => e.2.2.1) me_101
theorem ml_101 : m_l 101 = 2 := congrArg (fun e => e.2.2.2.1) me_101
theorem mk_101 : m_k 101 = 0 := congrArg (fun e => e.2.2.2.2.2.1) me_101
theorem mn_101 : m_n 101 = 1 := congrArg (fun e => e.2.2.2.2.2.2.1) me_101
theorem mh_101 : m_h 101 = none := congrArg (fun e => e.2.2.2.2.2.2.2) me_101
theorem mo_101 : o_m 101 = 4 := congrArg (fun e => e.1) me_101
theorem me_102 : m_e 102 = e_102 := rfl
theorem mc_102 : m_c 102 = cX12_init := congrArg (fun e => e.2.2.1) me_102
theorem ml_102 : m_l 102 = 2 := congrArg (fun e => e.2.2.2.1) me_102
theorem mk_102 : m_k 102 = 6 := congrArg (fun e => e.2.2.2.2.2.1) me_102
theorem mn_102 : m_n 102 = 1 := congrArg (fun e => e.2.2.2.2.2.2.1) me_102
theorem mh_102 : m_h 102 = none := congrArg (fun e => e.2.2.2.2.2.2.2) me_102
theorem mo_102 : o_m 102 = 4 := congrArg (fun e => e.1) me_102
theorem my_102 : (m_y 102).name = "<init>" := congrArg (fun e => e.2.1.name) me_102
theorem me_103 : m_e 103 = e_103 := rfl
theorem mc_103 : m_c 103 = cX13_by := congrArg (fun e => e.2.2.1) me_103
theorem ml_103 : m_l 103 = 4 := congrArg (fun e => e.2.2.2.1) me_103
theorem mk_103 : m_k 103 = 0 := congrArg (fun e => e.2.2.2.2.2.1) me_103
theorem mn_103 : m_n 103 = 1 := congrArg (fun e => e.2.2.2.2.2.2.1) me_103
theorem mh_103 : m_h 103 = none := congrArg (fun e => e.2.2.2.2.2.2.2) me_103
theorem mo_103 : o_m 103 = 5 := congrArg (fun e => e.1) me_103
theorem me_104 : m_e 104 = e_104 := rfl
theorem mc_104 : m_c 104 = cX13_init := congrArg (fun e => e.2.2.1) me_104
theorem ml_104 : m_l 104 = 4 := congrArg (fun e => e.2.2.2.1) me_104
theorem mk_104 : m_k 104 = 6 := congrArg (fun e => e.2.2.2.2.2.1) me_104
theorem mn_104 : m_n 104 = 3 := congrArg (fun e => e.2.2.2.2.2.2.1) me_104
theorem mh_104 : m_h 104 = none := congrArg (fun e => e.2.2.2.2.2.2.2) me_104
theorem mo_104 : o_m 104 = 5 := congrArg (fun e => e.1) me_104
theorem my_104 : (m_y 104).name = "<init>" := congrArg (fun e => e.2.1.name) me_104
theorem me_105 : m_e 105 = e_105 := rfl
theorem mc_105 : m_c 105 = cX14_by := congrArg (fun e => e.2.2.1) me_105
theorem ml_105 : m_l 105 = 2 := congrArg (fun e => e.2.2.2.1) me_105
theorem mk_105 : m_k 105 = 0 := congrArg (fun e => e.2.2.2.2.2.1) me_105
theorem mn_105 : m_n 105 = 1 := congrArg (fun e => e.2.2.2.2.2.2.1) me_105
theorem mh_105 : m_h 105 = none := congrArg (fun e => e.2.2.2.2.2.2.2) me_105
theorem mo_105 : o_m 105 = 6 := congrArg (fun e => e.1) me_105
theorem me_106 : m_e 106 = e_106 := rfl
theorem mc_106 : m_c 106 = cX14_init := congrArg (fun e => e.2.2.1) me_106
theorem ml_106 : m_l 106 = 2 := congrArg (fun e => e.2.2.2.1) me_106
theorem mk_106 : m_k 106 = 6 := congrArg (fun e => e.2.2.2.2.2.1) me_106
theorem mn_106 : m_n 106 = 1 := congrArg (fun e => e.2.2.2.2.2.2.1) me_106
theorem mh_106 : m_h 106 = none := congrArg (fun e => e.2.2.2.2.2.2.2) me_106
theorem mo_106 : o_m 106 = 6 := congrArg (fun e => e.1) me_106
theorem my_106 : (m_y 106).name = "<init>" := congrArg (fun e => e.2.1.name) me_106
theorem me_107 : m_e 107 = e_107 := rfl
theorem mc_107 : m_c 107 = cX15_kind := congrArg (fun e => e.2.2.1) me_107
theorem ml_107 : m_l 107 = 1 := congrArg (fun e => e.2.2.2.1) me_107
theorem mk_107 : m_k 107 = 0 := congrArg (fun e => e.2.2.2.2.2.1) me_107
theorem mn_107 : m_n 107 = 0 := congrArg (fun e => e.2.2.2.2.2.2.1) me_107
theorem mh_107 : m_h 107 = none := congrArg (fun e => e.2.2.2.2.2.2.2) me_107
theorem mo_107 : o_m 107 = 7 := congrArg (fun e => e.1) me_107
theorem me_108 : m_e 108 = e_108 := rfl
theorem mc_108 : m_c 108 = cX15_carriesBy := congrArg (fun e => e.2.2.1) me_108
theorem ml_108 : m_l 108 = 3 := congrArg (fun e => e.2.2.2.1) me_108
theorem mk_108 : m_k 108 = 0 := congrArg (fun e => e.2.2.2.2.2.1) me_108
theorem mn_108 : m_n 108 = 2 := congrArg (fun e => e.2.2.2.2.2.2.1) me_108
theorem mh_108 : m_h 108 = none := congrArg (fun e => e.2.2.2.2.2.2.2) me_108
theorem mo_108 : o_m 108 = 7 := congrArg (fun e => e.1) me_108
theorem me_109 : m_e 109 = e_109 := rfl
theorem mc_109 : m_c 109 = cX15_carries := congrArg (fun e => e.2.2.1) me_109
theorem ml_109 : m_l 109 = 3 := congrArg (fun e => e.2.2.2.1) me_109
theorem mk_109 : m_k 109 = 0 := congrArg (fun e => e.2.2.2.2.2.1) me_109
theorem mn_109 : m_n 109 = 2 := congrArg (fun e => e.2.2.2.2.2.2.1) me_109
theorem mh_109 : m_h 109 = none := congrArg (fun e => e.2.2.2.2.2.2.2) me_109
theorem mo_109 : o_m 109 = 7 := congrArg (fun e => e.1) me_109
theorem me_110 : m_e 110 = e_110 := rfl
theorem mc_110 : m_c 110 = cX15_worm := congrArg (fun e => e.2.2.1) me_110
theorem ml_110 : m_l 110 = 1 := congrArg (fun e => e.2.2.2.1) me_110
theorem mk_110 : m_k 110 = 0 := congrArg (fun e => e.2.2.2.2.2.1) me_110
theorem mn_110 : m_n 110 = 0 := congrArg (fun e => e.2.2.2.2.2.2.1) me_110
theorem mh_110 : m_h 110 = none := congrArg (fun e => e.2.2.2.2.2.2.2) me_110
theorem mo_110 : o_m 110 = 7 := congrArg (fun e => e.1) me_110
theorem me_111 : m_e 111 = e_111 := rfl
theorem mc_111 : m_c 111 = cX15_times := congrArg (fun e => e.2.2.1) me_111
theorem ml_111 : m_l 111 = 1 := congrArg (fun e => e.2.2.2.1) me_111
theorem mk_111 : m_k 111 = 0 := congrArg (fun e => e.2.2.2.2.2.1) me_111
theorem mn_111 : m_n 111 = 0 := congrArg (fun e => e.2.2.2.2.2.2.1) me_111
theorem mh_111 : m_h 111 = none := congrArg (fun e => e.2.2.2.2.2.2.2) me_111
theorem mo_111 : o_m 111 = 7 := congrArg (fun e => e.1) me_111
theorem me_112 : m_e 112 = e_112 := rfl
theorem mc_112 : m_c 112 = cX15_init := congrArg (fun e => e.2.2.1) me_112
theorem ml_112 : m_l 112 = 5 := congrArg (fun e => e.2.2.2.1) me_112
theorem mk_112 : m_k 112 = 6 := congrArg (fun e => e.2.2.2.2.2.1) me_112
theorem mn_112 : m_n 112 = 4 := congrArg (fun e => e.2.2.2.2.2.2.1) me_112
theorem mh_112 : m_h 112 = none := congrArg (fun e => e.2.2.2.2.2.2.2) me_112
theorem mo_112 : o_m 112 = 7 := congrArg (fun e => e.1) me_112
theorem my_112 : (m_y 112).name = "<init>" := congrArg (fun e => e.2.1.name) me_112
theorem me_113 : m_e 113 = e_113 := rfl
theorem mc_113 : m_c 113 = cX15_bearing := congrArg (fun e => e.2.2.1) me_113
theorem ml_113 : m_l 113 = 2 := congrArg (fun e => e.2.2.2.1) me_113
theorem mk_113 : m_k 113 = 0 := congrArg (fun e => e.2.2.2.2.2.1) me_113
theorem mn_113 : m_n 113 = 1 := congrArg (fun e => e.2.2.2.2.2.2.1) me_113
theorem mh_113 : m_h 113 = none := congrArg (fun e => e.2.2.2.2.2.2.2) me_113
theorem mo_113 : o_m 113 = 7 := congrArg (fun e => e.1) me_113
theorem me_114 : m_e 114 = e_114 := rfl
theorem mc_114 : m_c 114 = cX16_kind := congrArg (fun e => e.2.2.1) me_114
theorem ml_114 : m_l 114 = 1 := congrArg (fun e => e.2.2.2.1) me_114
theorem mk_114 : m_k 114 = 0 := congrArg (fun e => e.2.2.2.2.2.1) me_114
theorem mn_114 : m_n 114 = 0 := congrArg (fun e => e.2.2.2.2.2.2.1) me_114
theorem mh_114 : m_h 114 = none := congrArg (fun e => e.2.2.2.2.2.2.2) me_114
theorem mo_114 : o_m 114 = 8 := congrArg (fun e => e.1) me_114
theorem me_115 : m_e 115 = e_115 := rfl
theorem mc_115 : m_c 115 = cX16_worm := congrArg (fun e => e.2.2.1) me_115
theorem ml_115 : m_l 115 = 1 := congrArg (fun e => e.2.2.2.1) me_115
theorem mk_115 : m_k 115 = 0 := congrArg (fun e => e.2.2.2.2.2.1) me_115
theorem mn_115 : m_n 115 = 0 := congrArg (fun e => e.2.2.2.2.2.2.1) me_115
theorem mh_115 : m_h 115 = none := congrArg (fun e => e.2.2.2.2.2.2.2) me_115
theorem mo_115 : o_m 115 = 8 := congrArg (fun e => e.1) me_115
theorem me_116 : m_e 116 = e_116 := rfl
theorem mc_116 : m_c 116 = cX16_init := congrArg (fun e => e.2.2.1) me_116
theorem ml_116 : m_l 116 = 5 := congrArg (fun e => e.2.2.2.1) me_116
theorem mk_116 : m_k 116 = 6 := congrArg (fun e => e.2.2.2.2.2.1) me_116
theorem mn_116 : m_n 116 = 4 := congrArg (fun e => e.2.2.2.2.2.2.1) me_116
theorem mh_116 : m_h 116 = none := congrArg (fun e => e.2.2.2.2.2.2.2) me_116
theorem mo_116 : o_m 116 = 8 := congrArg (fun e => e.1) me_116
theorem me_117 : m_e 117 = e_117 := rfl
theorem mc_117 : m_c 117 = cX17_kind := congrArg (fun e => e.2.2.1) me_117
theorem ml_117 : m_l 117 = 1 := congrArg (fun e => e.2.2.2.1) me_117
theorem mk_117 : m_k 117 = 0 := congrArg (fun e => e.2.2.2.2.2.1) me_117
theorem mn_117 : m_n 117 = 0 := congrArg (fun e => e.2.2.2.2.2.2.1) me_117
theorem mh_117 : m_h 117 = none := congrArg (fun e => e.2.2.2.2.2.2.2) me_117
theorem mo_117 : o_m 117 = 9 := congrArg (fun e => e.1) me_117
theorem me_118 : m_e 118 = e_118 := rfl
theorem mc_118 : m_c 118 = cX17_carries := congrArg (fun e => e.2.2.1) me_118
theorem ml_118 : m_l 118 = 3 := congrArg (fun e => e.2.2.2.1) me_118
theorem mk_118 : m_k 118 = 0 := congrArg (fun e => e.2.2.2.2.2.1) me_118
theorem mn_118 : m_n 118 = 2 := congrArg (fun e => e.2.2.2.2.2.2.1) me_118
theorem mh_118 : m_h 118 = none := congrArg (fun e => e.2.2.2.2.2.2.2) me_118
theorem mo_118 : o_m 118 = 9 := congrArg (fun e => e.1) me_118
theorem me_119 : m_e 119 = e_119 := rfl
theorem mc_119 : m_c 119 = cX17_worm := congrArg (fun e => e.2.2.1) me_119
theorem ml_119 : m_l 119 = 1 := congrArg (fun e => e.2.2.2.1) me_119
theorem mk_119 : m_k 119 = 0 := congrArg (fun e => e.2.2.2.2.2.1) me_119
theorem mn_119 : m_n 119 = 0 := congrArg (fun e => e.2.2.2.2.2.2.1) me_119
theorem mh_119 : m_h 119 = none := congrArg (fun e => e.2.2.2.2.2.2.2) me_119
theorem mo_119 : o_m 119 = 9 := congrArg (fun e => e.1) me_119
theorem me_120 : m_e 120 = e_120 := rfl
theorem mc_120 : m_c 120 = cX17_init := congrArg (fun e => e.2.2.1) me_120
theorem ml_120 : m_l 120 = 5 := congrArg (fun e => e.2.2.2.1) me_120
theorem mk_120 : m_k 120 = 6 := congrArg (fun e => e.2.2.2.2.2.1) me_120
theorem mn_120 : m_n 120 = 4 := congrArg (fun e => e.2.2.2.2.2.2.1) me_120
theorem mh_120 : m_h 120 = none := congrArg (fun e => e.2.2.2.2.2.2.2) me_120
theorem mo_120 : o_m 120 = 9 := congrArg (fun e => e.1) me_120
theorem me_121 : m_e 121 = e_121 := rfl
theorem mc_121 : m_c 121 = cX18_kind := congrArg (fun e => e.2.2.1) me_121
theorem ml_121 : m_l 121 = 1 := congrArg (fun e => e.2.2.2.1) me_121
theorem mk_121 : m_k 121 = 0 := congrArg (fun e => e.2.2.2.2.2.1) me_121
theorem mn_121 : m_n 121 = 0 := congrArg (fun e => e.2.2.2.2.2.2.1) me_121
theorem mh_121 : m_h 121 = none := congrArg (fun e => e.2.2.2.2.2.2.2) me_121
theorem mo_121 : o_m 121 = 10 := congrArg (fun e => e.1) me_121
theorem me_122 : m_e 122 = e_122 := rfl
theorem mc_122 : m_c 122 = cX18_carries := congrArg (fun e => e.2.2.1) me_122
theorem ml_122 : m_l 122 = 3 := congrArg (fun e => e.2.2.2.1) me_122
theorem mk_122 : m_k 122 = 0 := congrArg (fun e => e.2.2.2.2.2.1) me_122
theorem mn_122 : m_n 122 = 2 := congrArg (fun e => e.2.2.2.2.2.2.1) me_122
theorem mh_122 : m_h 122 = none := congrArg (fun e => e.2.2.2.2.2.2.2) me_122
theorem mo_122 : o_m 122 = 10 := congrArg (fun e => e.1) me_122
theorem me_123 : m_e 123 = e_123 := rfl
theorem mc_123 : m_c 123 = cX18_times := congrArg (fun e => e.2.2.1) me_123
theorem ml_123 : m_l 123 = 1 := congrArg (fun e => e.2.2.2.1) me_123
theorem mk_123 : m_k 123 = 0 := congrArg (fun e => e.2.2.2.2.2.1) me_123
theorem mn_123 : m_n 123 = 0 := congrArg (fun e => e.2.2.2.2.2.2.1) me_123
theorem mh_123 : m_h 123 = none := congrArg (fun e => e.2.2.2.2.2.2.2) me_123
theorem mo_123 : o_m 123 = 10 := congrArg (fun e => e.1) me_123
theorem me_124 : m_e 124 = e_124 := rfl
theorem mc_124 : m_c 124 = cX18_init := congrArg (fun e => e.2.2.1) me_124
theorem ml_124 : m_l 124 = 5 := congrArg (fun e => e.2.2.2.1) me_124
theorem mk_124 : m_k 124 = 6 := congrArg (fun e => e.2.2.2.2.2.1) me_124
theorem mn_124 : m_n 124 = 4 := congrArg (fun e => e.2.2.2.2.2.2.1) me_124
theorem mh_124 : m_h 124 = none := congrArg (fun e => e.2.2.2.2.2.2.2) me_124
theorem mo_124 : o_m 124 = 10 := congrArg (fun e => e.1) me_124
theorem me_125 : m_e 125 = e_125 := rfl
theorem mc_125 : m_c 125 = cX2_init := congrArg (fun e => e.2.2.1) me_125
theorem ml_125 : m_l 125 = 1 := congrArg (fun e => e.2.2.2.1) me_125
theorem mk_125 : m_k 125 = 6 := congrArg (fun e => e.2.2.2.2.2.1) me_125
theorem mn_125 : m_n 125 = 0 := congrArg (fun e => e.2.2.2.2.2.2.1) me_125
theorem mh_125 : m_h 125 = none := congrArg (fun e => e.2.2.2.2.2.2.2) me_125
theorem mo_125 : o_m 125 = 11 := congrArg (fun e => e.1) me_125
theorem my_125 : (m_y 125).name = "<init>" := congrArg (fun e => e.2.1.name) me_125
theorem me_126 : m_e 126 = e_126 := rfl
theorem mc_126 : m_c 126 = cX2_takes := congrArg (fun e => e.2.2.1) me_126
theorem ml_126 : m_l 126 = 6 := congrArg (fun e => e.2.2.2.1) me_126
theorem mk_126 : m_k 126 = 0 := congrArg (fun e => e.2.2.2.2.2.1) me_126
theorem mn_126 : m_n 126 = 4 := congrArg (fun e => e.2.2.2.2.2.2.1) me_126
theorem mh_126 : m_h 126 = none := congrArg (fun e => e.2.2.2.2.2.2.2) me_126
theorem mo_126 : o_m 126 = 11 := congrArg (fun e => e.1) me_126
theorem me_127 : m_e 127 = e_127 := rfl
theorem mc_127 : m_c 127 = cX3_init := congrArg (fun e => e.2.2.1) me_127
theorem ml_127 : m_l 127 = 1 := congrArg (fun e => e.2.2.2.1) me_127
theorem mk_127 : m_k 127 = 6 := congrArg (fun e => e.2.2.2.2.2.1) me_127
theorem mn_127 : m_n 127 = 0 := congrArg (fun e => e.2.2.2.2.2.2.1) me_127
theorem mh_127 : m_h 127 = none := congrArg (fun e => e.2.2.2.2.2.2.2) me_127
theorem mo_127 : o_m 127 = 12 := congrArg (fun e => e.1) me_127
theorem my_127 : (m_y 127).name = "<init>" := congrArg (fun e => e.2.1.name) me_127
theorem me_128 : m_e 128 = e_128 := rfl
theorem mc_128 : m_c 128 = cX3_sees := congrArg (fun e => e.2.2.1) me_128
theorem ml_128 : m_l 128 = 3 := congrArg (fun e => e.2.2.2.1) me_128
theorem mk_128 : m_k 128 = 6 := congrArg (fun e => e.2.2.2.2.2.1) me_128
theorem mn_128 : m_n 128 = 2 := congrArg (fun e => e.2.2.2.2.2.2.1) me_128
theorem mh_128 : m_h 128 = none := congrArg (fun e => e.2.2.2.2.2.2.2) me_128
theorem mo_128 : o_m 128 = 12 := congrArg (fun e => e.1) me_128
theorem me_129 : m_e 129 = e_129 := rfl
theorem mc_129 : m_c 129 = cX4_values := congrArg (fun e => e.2.2.1) me_129
theorem ml_129 : m_l 129 = 0 := congrArg (fun e => e.2.2.2.1) me_129
theorem mk_129 : m_k 129 = 2 := congrArg (fun e => e.2.2.2.2.2.1) me_129
theorem mn_129 : m_n 129 = 0 := congrArg (fun e => e.2.2.2.2.2.2.1) me_129
theorem mh_129 : m_h 129 = none := congrArg (fun e => e.2.2.2.2.2.2.2) me_129
theorem mo_129 : o_m 129 = 13 := congrArg (fun e => e.1) me_129
theorem me_130 : m_e 130 = e_130 := rfl
theorem mc_130 : m_c 130 = cX5_init := congrArg (fun e => e.2.2.1) me_130
theorem ml_130 : m_l 130 = 2 := congrArg (fun e => e.2.2.2.1) me_130
theorem mk_130 : m_k 130 = 6 := congrArg (fun e => e.2.2.2.2.2.1) me_130
theorem mn_130 : m_n 130 = 0 := congrArg (fun e => e.2.2.2.2.2.2.1) me_130
theorem mh_130 : m_h 130 = none := congrArg (fun e => e.2.2.2.2.2.2.2) me_130
theorem mo_130 : o_m 130 = 14 := congrArg (fun e => e.1) me_130
theorem my_130 : (m_y 130).name = "<init>" := congrArg (fun e => e.2.1.name) me_130
theorem me_131 : m_e 131 = e_131 := rfl
theorem mc_131 : m_c 131 = cX5_keeps := congrArg (fun e => e.2.2.1) me_131
theorem ml_131 : m_l 131 = 1 := congrArg (fun e => e.2.2.2.1) me_131
theorem mk_131 : m_k 131 = 6 := congrArg (fun e => e.2.2.2.2.2.1) me_131
theorem mn_131 : m_n 131 = 0 := congrArg (fun e => e.2.2.2.2.2.2.1) me_131
theorem mh_131 : m_h 131 = none := congrArg (fun e => e.2.2.2.2.2.2.2) me_131
theorem mo_131 : o_m 131 = 14 := congrArg (fun e => e.1) me_131
theorem me_132 : m_e 132 = e_132 := rfl
theorem mc_132 : m_c 132 = cX5_like := congrArg (fun e => e.2.2.1) me_132
theorem ml_132 : m_l 132 = 3 := congrArg (fun e => e.2.2.2.1) me_132
theorem mk_132 : m_k 132 = 6 := congrArg (fun e => e.2.2.2.2.2.1) me_132
theorem mn_132 : m_n 132 = 1 := congrArg (fun e => e.2.2.2.2.2.2.1) me_132
theorem mh_132 : m_h 132 = none := congrArg (fun e => e.2.2.2.2.2.2.2) me_132
theorem mo_132 : o_m 132 = 14 := congrArg (fun e => e.1) me_132
theorem me_133 : m_e 133 = e_133 := rfl
theorem mc_133 : m_c 133 = cX6_init := congrArg (fun e => e.2.2.1) me_133
theorem ml_133 : m_l 133 = 1 := congrArg (fun e => e.2.2.2.1) me_133
theorem mk_133 : m_k 133 = 6 := congrArg (fun e => e.2.2.2.2.2.1) me_133
theorem mn_133 : m_n 133 = 0 := congrArg (fun e => e.2.2.2.2.2.2.1) me_133
theorem mh_133 : m_h 133 = none := congrArg (fun e => e.2.2.2.2.2.2.2) me_133
theorem mo_133 : o_m 133 = 15 := congrArg (fun e => e.1) me_133
theorem my_133 : (m_y 133).name = "<init>" := congrArg (fun e => e.2.1.name) me_133
theorem me_134 : m_e 134 = e_134 := rfl
theorem mc_134 : m_c 134 = cX6_begins := congrArg (fun e => e.2.2.1) me_134
theorem ml_134 : m_l 134 = 3 := congrArg (fun e => e.2.2.2.1) me_134
theorem mk_134 : m_k 134 = 6 := congrArg (fun e => e.2.2.2.2.2.1) me_134
theorem mn_134 : m_n 134 = 1 := congrArg (fun e => e.2.2.2.2.2.2.1) me_134
theorem mh_134 : m_h 134 = none := congrArg (fun e => e.2.2.2.2.2.2.2) me_134
theorem mo_134 : o_m 134 = 15 := congrArg (fun e => e.1) me_134
theorem me_135 : m_e 135 = e_135 := rfl
theorem mc_135 : m_c 135 = cX6_levelOf := congrArg (fun e => e.2.2.1) me_135
theorem ml_135 : m_l 135 = 3 := congrArg (fun e => e.2.2.2.1) me_135
theorem mk_135 : m_k 135 = 0 := congrArg (fun e => e.2.2.2.2.2.1) me_135
theorem mn_135 : m_n 135 = 1 := congrArg (fun e => e.2.2.2.2.2.2.1) me_135
theorem mh_135 : m_h 135 = none := congrArg (fun e => e.2.2.2.2.2.2.2) me_135
theorem mo_135 : o_m 135 = 15 := congrArg (fun e => e.1) me_135
theorem me_136 : m_e 136 = e_136 := rfl
theorem mc_136 : m_c 136 = cX6_like := congrArg (fun e => e.2.2.1) me_136
theorem ml_136 : m_l 136 = 2 := congrArg (fun e => e.2.2.2.1) me_136
theorem mk_136 : m_k 136 = 6 := congrArg (fun e => e.2.2.2.2.2.1) me_136
theorem mn_136 : m_n 136 = 1 := congrArg (fun e => e.2.2.2.2.2.2.1) me_136
theorem mh_136 : m_h 136 = none := congrArg (fun e => e.2.2.2.2.2.2.2) me_136
theorem mo_136 : o_m 136 = 15 := congrArg (fun e => e.1) me_136
theorem me_137 : m_e 137 = e_137 := rfl
theorem mc_137 : m_c 137 = cX6_sups := congrArg (fun e => e.2.2.1) me_137
theorem ml_137 : m_l 137 = 6 := congrArg (fun e => e.2.2.2.1) me_137
theorem mk_137 : m_k 137 = 0 := congrArg (fun e => e.2.2.2.2.2.1) me_137
theorem mn_137 : m_n 137 = 2 := congrArg (fun e => e.2.2.2.2.2.2.1) me_137
theorem mh_137 : m_h 137 = none := congrArg (fun e => e.2.2.2.2.2.2.2) me_137
theorem mo_137 : o_m 137 = 15 := congrArg (fun e => e.1) me_137
theorem me_138 : m_e 138 = e_138 := rfl
theorem mc_138 : m_c 138 = cX6_stands := congrArg (fun e => e.2.2.1) me_138
theorem ml_138 : m_l 138 = 2 := congrArg (fun e => e.2.2.2.1) me_138
theorem mk_138 : m_k 138 = 3 := congrArg (fun e => e.2.2.2.2.2.1) me_138
theorem mn_138 : m_n 138 = 1 := congrArg (fun e => e.2.2.2.2.2.2.1) me_138
theorem mh_138 : m_h 138 = none := congrArg (fun e => e.2.2.2.2.2.2.2) me_138
theorem mo_138 : o_m 138 = 15 := congrArg (fun e => e.1) me_138
theorem me_139 : m_e 139 = e_139 := rfl
theorem mc_139 : m_c 139 = cX6_breaks := congrArg (fun e => e.2.2.1) me_139
theorem ml_139 : m_l 139 = 3 := congrArg (fun e => e.2.2.2.1) me_139
theorem mk_139 : m_k 139 = 0 := congrArg (fun e => e.2.2.2.2.2.1) me_139
theorem mn_139 : m_n 139 = 1 := congrArg (fun e => e.2.2.2.2.2.2.1) me_139
theorem mh_139 : m_h 139 = none := congrArg (fun e => e.2.2.2.2.2.2.2) me_139
theorem mo_139 : o_m 139 = 15 := congrArg (fun e => e.1) me_139
theorem me_140 : m_e 140 = e_140 := rfl
theorem mc_140 : m_c 140 = cX6_holds := congrArg (fun e => e.2.2.1) me_140
theorem ml_140 : m_l 140 = 3 := congrArg (fun e => e.2.2.2.1) me_140
theorem mk_140 : m_k 140 = 3 := congrArg (fun e => e.2.2.2.2.2.1) me_140
theorem mn_140 : m_n 140 = 2 := congrArg (fun e => e.2.2.2.2.2.2.1) me_140
theorem mh_140 : m_h 140 = none := congrArg (fun e => e.2.2.2.2.2.2.2) me_140
theorem mo_140 : o_m 140 = 15 := congrArg (fun e => e.1) me_140
theorem me_141 : m_e 141 = e_141 := rfl
theorem mc_141 : m_c 141 = cX6_load := congrArg (fun e => e.2.2.1) me_141
theorem ml_141 : m_l 141 = 5 := congrArg (fun e => e.2.2.2.1) me_141
theorem mk_141 : m_k 141 = 0 := congrArg (fun e => e.2.2.2.2.2.1) me_141
theorem mn_141 : m_n 141 = 2 := congrArg (fun e => e.2.2.2.2.2.2.1) me_141
theorem mh_141 : m_h 141 = none := congrArg (fun e => e.2.2.2.2.2.2.2) me_141
theorem mo_141 : o_m 141 = 15 := congrArg (fun e => e.1) me_141
theorem me_142 : m_e 142 = e_142 := rfl
theorem mc_142 : m_c 142 = cX6_carries := congrArg (fun e => e.2.2.1) me_142
theorem ml_142 : m_l 142 = 3 := congrArg (fun e => e.2.2.2.1) me_142
theorem mk_142 : m_k 142 = 0 := congrArg (fun e => e.2.2.2.2.2.1) me_142
theorem mn_142 : m_n 142 = 2 := congrArg (fun e => e.2.2.2.2.2.2.1) me_142
theorem mh_142 : m_h 142 = none := congrArg (fun e => e.2.2.2.2.2.2.2) me_142
theorem mo_142 : o_m 142 = 15 := congrArg (fun e => e.1) me_142
theorem me_143 : m_e 143 = e_143 := rfl
theorem mc_143 : m_c 143 = cX6_tilt := congrArg (fun e => e.2.2.1) me_143
theorem ml_143 : m_l 143 = 5 := congrArg (fun e => e.2.2.2.1) me_143
theorem mk_143 : m_k 143 = 0 := congrArg (fun e => e.2.2.2.2.2.1) me_143
theorem mn_143 : m_n 143 = 2 := congrArg (fun e => e.2.2.2.2.2.2.1) me_143
theorem mh_143 : m_h 143 = none := congrArg (fun e => e.2.2.2.2.2.2.2) me_143
theorem mo_143 : o_m 143 = 15 := congrArg (fun e => e.1) me_143
theorem me_144 : m_e 144 = e_144 := rfl
theorem mc_144 : m_c 144 = cX6_leans := congrArg (fun e => e.2.2.1) me_144
theorem ml_144 : m_l 144 = 3 := congrArg (fun e => e.2.2.2.1) me_144
theorem mk_144 : m_k 144 = 0 := congrArg (fun e => e.2.2.2.2.2.1) me_144
theorem mn_144 : m_n 144 = 2 := congrArg (fun e => e.2.2.2.2.2.2.1) me_144
theorem mh_144 : m_h 144 = none := congrArg (fun e => e.2.2.2.2.2.2.2) me_144
theorem mo_144 : o_m 144 = 15 := congrArg (fun e => e.1) me_144
theorem me_145 : m_e 145 = e_145 := rfl
theorem mc_145 : m_c 145 = cX6_all := congrArg (fun e => e.2.2.1) me_145
theorem ml_145 : m_l 145 = 3 := congrArg (fun e => e.2.2.2.1) me_145
theorem mk_145 : m_k 145 = 0 := congrArg (fun e => e.2.2.2.2.2.1) me_145
theorem mn_145 : m_n 145 = 0 := congrArg (fun e => e.2.2.2.2.2.2.1) me_145
theorem mh_145 : m_h 145 = none := congrArg (fun e => e.2.2.2.2.2.2.2) me_145
theorem mo_145 : o_m 145 = 15 := congrArg (fun e => e.1) me_145
theorem me_146 : m_e 146 = e_146 := rfl
theorem mc_146 : m_c 146 = cX6_full := congrArg (fun e => e.2.2.1) me_146
theorem ml_146 : m_l 146 = 4 := congrArg (fun e => e.2.2.2.1) me_146
theorem mk_146 : m_k 146 = 0 := congrArg (fun e => e.2.2.2.2.2.1) me_146
theorem mn_146 : m_n 146 = 1 := congrArg (fun e => e.2.2.2.2.2.2.1) me_146
theorem mh_146 : m_h 146 = none := congrArg (fun e => e.2.2.2.2.2.2.2) me_146
theorem mo_146 : o_m 146 = 15 := congrArg (fun e => e.1) me_146
theorem me_147 : m_e 147 = e_147 := rfl
theorem mc_147 : m_c 147 = cX6_takes := congrArg (fun e => e.2.2.1) me_147
theorem ml_147 : m_l 147 = 2 := congrArg (fun e => e.2.2.2.1) me_147
theorem mk_147 : m_k 147 = 6 := congrArg (fun e => e.2.2.2.2.2.1) me_147
theorem mn_147 : m_n 147 = 1 := congrArg (fun e => e.2.2.2.2.2.2.1) me_147
theorem mh_147 : m_h 147 = none := congrArg (fun e => e.2.2.2.2.2.2.2) me_147
theorem mo_147 : o_m 147 = 15 := congrArg (fun e => e.1) me_147
theorem me_148 : m_e 148 = e_148 := rfl
theorem mc_148 : m_c 148 = cX6_puts := congrArg (fun e => e.2.2.1) me_148
theorem ml_148 : m_l 148 = 3 := congrArg (fun e => e.2.2.2.1) me_148
theorem mk_148 : m_k 148 = 6 := congrArg (fun e => e.2.2.2.2.2.1) me_148
theorem mn_148 : m_n 148 = 2 := congrArg (fun e => e.2.2.2.2.2.2.1) me_148
theorem mh_148 : m_h 148 = none := congrArg (fun e => e.2.2.2.2.2.2.2) me_148
theorem mo_148 : o_m 148 = 15 := congrArg (fun e => e.1) me_148
theorem me_149 : m_e 149 = e_149 := rfl
theorem mc_149 : m_c 149 = cX7_init := congrArg (fun e => e.2.2.1) me_149
theorem ml_149 : m_l 149 = 1 := congrArg (fun e => e.2.2.2.1) me_149
theorem mk_149 : m_k 149 = 6 := congrArg (fun e => e.2.2.2.2.2.1) me_149
theorem mn_149 : m_n 149 = 0 := congrArg (fun e => e.2.2.2.2.2.2.1) me_149
theorem mh_149 : m_h 149 = none := congrArg (fun e => e.2.2.2.2.2.2.2) me_149
theorem mo_149 : o_m 149 = 16 := congrArg (fun e => e.1) me_149
theorem my_149 : (m_y 149).name = "<init>" := congrArg (fun e => e.2.1.name) me_149
theorem me_150 : m_e 150 = e_150 := rfl
theorem mc_150 : m_c 150 = cX7_thrown := congrArg (fun e => e.2.2.1) me_150
theorem ml_150 : m_l 150 = 1 := congrArg (fun e => e.2.2.2.1) me_150
theorem mk_150 : m_k 150 = 0 := congrArg (fun e => e.2.2.2.2.2.1) me_150
theorem mn_150 : m_n 150 = 0 := congrArg (fun e => e.2.2.2.2.2.2.1) me_150
theorem mh_150 : m_h 150 = none := congrArg (fun e => e.2.2.2.2.2.2.2) me_150
theorem mo_150 : o_m 150 = 16 := congrArg (fun e => e.1) me_150
theorem me_151 : m_e 151 = e_151 := rfl
theorem mc_151 : m_c 151 = cX7_feed := congrArg (fun e => e.2.2.1) me_151
theorem ml_151 : m_l 151 = 8 := congrArg (fun e => e.2.2.2.1) me_151
theorem mk_151 : m_k 151 = 0 := congrArg (fun e => e.2.2.2.2.2.1) me_151
theorem mn_151 : m_n 151 = 5 := congrArg (fun e => e.2.2.2.2.2.2.1) me_151
theorem mh_151 : m_h 151 = none := congrArg (fun e => e.2.2.2.2.2.2.2) me_151
theorem mo_151 : o_m 151 = 16 := congrArg (fun e => e.1) me_151
theorem me_152 : m_e 152 = e_152 := rfl
theorem mc_152 : m_c 152 = cX7_town := congrArg (fun e => e.2.2.1) me_152
theorem ml_152 : m_l 152 = 3 := congrArg (fun e => e.2.2.2.1) me_152
theorem mk_152 : m_k 152 = 0 := congrArg (fun e => e.2.2.2.2.2.1) me_152
theorem mn_152 : m_n 152 = 1 := congrArg (fun e => e.2.2.2.2.2.2.1) me_152
theorem mh_152 : m_h 152 = none := congrArg (fun e => e.2.2.2.2.2.2.2) me_152
theorem mo_152 : o_m 152 = 16 := congrArg (fun e => e.1) me_152
theorem me_153 : m_e 153 = e_153 := rfl
theorem mc_153 : m_c 153 = cX7_fail := congrArg (fun e => e.2.2.1) me_153
theorem ml_153 : m_l 153 = 2 := congrArg (fun e => e.2.2.2.1) me_153
theorem mk_153 : m_k 153 = 0 := congrArg (fun e => e.2.2.2.2.2.1) me_153
theorem mn_153 : m_n 153 = 1 := congrArg (fun e => e.2.2.2.2.2.2.1) me_153
theorem mh_153 : m_h 153 = none := congrArg (fun e => e.2.2.2.2.2.2.2) me_153
theorem mo_153 : o_m 153 = 16 := congrArg (fun e => e.1) me_153
theorem me_154 : m_e 154 = e_154 := rfl
theorem mc_154 : m_c 154 = cX7_stepOn := congrArg (fun e => e.2.2.1) me_154
theorem ml_154 : m_l 154 = 2 := congrArg (fun e => e.2.2.2.1) me_154
theorem mk_154 : m_k 154 = 6 := congrArg (fun e => e.2.2.2.2.2.1) me_154
theorem mn_154 : m_n 154 = 0 := congrArg (fun e => e.2.2.2.2.2.2.1) me_154
theorem mh_154 : m_h 154 = none := congrArg (fun e => e.2.2.2.2.2.2.2) me_154
theorem mo_154 : o_m 154 = 16 := congrArg (fun e => e.1) me_154
theorem me_155 : m_e 155 = e_155 := rfl
theorem mc_155 : m_c 155 = cX7_byteAt := congrArg (fun e => e.2.2.1) me_155
theorem ml_155 : m_l 155 = 2 := congrArg (fun e => e.2.2.2.1) me_155
theorem mk_155 : m_k 155 = 0 := congrArg (fun e => e.2.2.2.2.2.1) me_155
theorem mn_155 : m_n 155 = 1 := congrArg (fun e => e.2.2.2.2.2.2.1) me_155
theorem mh_155 : m_h 155 = none := congrArg (fun e => e.2.2.2.2.2.2.2) me_155
theorem mo_155 : o_m 155 = 16 := congrArg (fun e => e.1) me_155
theorem me_156 : m_e 156 = e_156 := rfl
theorem mc_156 : m_c 156 = cX7_isLetter := congrArg (fun e => e.2.2.1) me_156
theorem ml_156 : m_l 156 = 1 := congrArg (fun e => e.2.2.2.1) me_156
theorem mk_156 : m_k 156 = 3 := congrArg (fun e => e.2.2.2.2.2.1) me_156
theorem mn_156 : m_n 156 = 1 := congrArg (fun e => e.2.2.2.2.2.2.1) me_156
theorem mh_156 : m_h 156 = none := congrArg (fun e => e.2.2.2.2.2.2.2) me_156
theorem mo_156 : o_m 156 = 16 := congrArg (fun e => e.1) me_156
theorem me_157 : m_e 157 = e_157 := rfl
theorem mc_157 : m_c 157 = cX7_isDigit := congrArg (fun e => e.2.2.1) me_157
theorem ml_157 : m_l 157 = 1 := congrArg (fun e => e.2.2.2.1) me_157
theorem mk_157 : m_k 157 = 3 := congrArg (fun e => e.2.2.2.2.2.1) me_157
theorem mn_157 : m_n 157 = 1 := congrArg (fun e => e.2.2.2.2.2.2.1) me_157
theorem mh_157 : m_h 157 = none := congrArg (fun e => e.2.2.2.2.2.2.2) me_157
theorem mo_157 : o_m 157 = 16 := congrArg (fun e => e.1) me_157
theorem me_158 : m_e 158 = e_158 := rfl
theorem mc_158 : m_c 158 = cX7_isMark := congrArg (fun e => e.2.2.1) me_158
theorem ml_158 : m_l 158 = 1 := congrArg (fun e => e.2.2.2.1) me_158
theorem mk_158 : m_k 158 = 3 := congrArg (fun e => e.2.2.2.2.2.1) me_158
theorem mn_158 : m_n 158 = 1 := congrArg (fun e => e.2.2.2.2.2.2.1) me_158
theorem mh_158 : m_h 158 = none := congrArg (fun e => e.2.2.2.2.2.2.2) me_158
theorem mo_158 : o_m 158 = 16 := congrArg (fun e => e.1) me_158
theorem me_159 : m_e 159 = e_159 := rfl
theorem mc_159 : m_c 159 = cX7_readLine := congrArg (fun e => e.2.2.1) me_159
theorem ml_159 : m_l 159 = 4 := congrArg (fun e => e.2.2.2.1) me_159
theorem mk_159 : m_k 159 = 0 := congrArg (fun e => e.2.2.2.2.2.1) me_159
theorem mn_159 : m_n 159 = 1 := congrArg (fun e => e.2.2.2.2.2.2.1) me_159
theorem mh_159 : m_h 159 = none := congrArg (fun e => e.2.2.2.2.2.2.2) me_159
theorem mo_159 : o_m 159 = 16 := congrArg (fun e => e.1) me_159
theorem me_160 : m_e 160 = e_160 := rfl
theorem mc_160 : m_c 160 = cX7_is := congrArg (fun e => e.2.2.1) me_160
theorem ml_160 : m_l 160 = 4 := congrArg (fun e => e.2.2.2.1) me_160
theorem mk_160 : m_k 160 = 3 := congrArg (fun e => e.2.2.2.2.2.1) me_160
theorem mn_160 : m_n 160 = 1 := congrArg (fun e => e.2.2.2.2.2.2.1) me_160
theorem mh_160 : m_h 160 = none := congrArg (fun e => e.2.2.2.2.2.2.2) me_160
theorem mo_160 : o_m 160 = 16 := congrArg (fun e => e.1) me_160
theorem me_161 : m_e 161 = e_161 := rfl
theorem mc_161 : m_c 161 = cX7_wordOf := congrArg (fun e => e.2.2.1) me_161
theorem ml_161 : m_l 161 = 3 := congrArg (fun e => e.2.2.2.1) me_161
theorem mk_161 : m_k 161 = 0 := congrArg (fun e => e.2.2.2.2.2.1) me_161
theorem mn_161 : m_n 161 = 1 := congrArg (fun e => e.2.2.2.2.2.2.1) me_161
theorem mh_161 : m_h 161 = none := congrArg (fun e => e.2.2.2.2.2.2.2) me_161
theorem mo_161 : o_m 161 = 16 := congrArg (fun e => e.1) me_161
theorem me_162 : m_e 162 = e_162 := rfl
theorem mc_162 : m_c 162 = cX7_wrong := congrArg (fun e => e.2.2.1) me_162
theorem ml_162 : m_l 162 = 2 := congrArg (fun e => e.2.2.2.1) me_162
theorem mk_162 : m_k 162 = 6 := congrArg (fun e => e.2.2.2.2.2.1) me_162
theorem mn_162 : m_n 162 = 1 := congrArg (fun e => e.2.2.2.2.2.2.1) me_162
theorem mh_162 : m_h 162 = none := congrArg (fun e => e.2.2.2.2.2.2.2) me_162
theorem mo_162 : o_m 162 = 16 := congrArg (fun e => e.1) me_162
theorem me_163 : m_e 163 = e_163 := rfl
theorem mc_163 : m_c 163 = cX7_readNumber := congrArg (fun e => e.2.2.1) me_163
theorem ml_163 : m_l 163 = 4 := congrArg (fun e => e.2.2.2.1) me_163
theorem mk_163 : m_k 163 = 0 := congrArg (fun e => e.2.2.2.2.2.1) me_163
theorem mn_163 : m_n 163 = 2 := congrArg (fun e => e.2.2.2.2.2.2.1) me_163
theorem mh_163 : m_h 163 = none := congrArg (fun e => e.2.2.2.2.2.2.2) me_163
theorem mo_163 : o_m 163 = 16 := congrArg (fun e => e.1) me_163
theorem me_164 : m_e 164 = e_164 := rfl
theorem mc_164 : m_c 164 = cX7_readExpression := congrArg (fun e => e.2.2.1) me_164
theorem ml_164 : m_l 164 = 3 := congrArg (fun e => e.2.2.2.1) me_164
theorem mk_164 : m_k 164 = 6 := congrArg (fun e => e.2.2.2.2.2.1) me_164
theorem mn_164 : m_n 164 = 1 := congrArg (fun e => e.2.2.2.2.2.2.1) me_164
theorem mh_164 : m_h 164 = none := congrArg (fun e => e.2.2.2.2.2.2.2) me_164
theorem mo_164 : o_m 164 = 16 := congrArg (fun e => e.1) me_164
theorem me_165 : m_e 165 = e_165 := rfl
theorem mc_165 : m_c 165 = cX7_isMarked := congrArg (fun e => e.2.2.1) me_165
theorem ml_165 : m_l 165 = 2 := congrArg (fun e => e.2.2.2.1) me_165
theorem mk_165 : m_k 165 = 3 := congrArg (fun e => e.2.2.2.2.2.1) me_165
theorem mn_165 : m_n 165 = 1 := congrArg (fun e => e.2.2.2.2.2.2.1) me_165
theorem mh_165 : m_h 165 = none := congrArg (fun e => e.2.2.2.2.2.2.2) me_165
theorem mo_165 : o_m 165 = 16 := congrArg (fun e => e.1) me_165
theorem me_166 : m_e 166 = e_166 := rfl
theorem mc_166 : m_c 166 = cX7_readAnd := congrArg (fun e => e.2.2.1) me_166
theorem ml_166 : m_l 166 = 2 := congrArg (fun e => e.2.2.2.1) me_166
theorem mk_166 : m_k 166 = 6 := congrArg (fun e => e.2.2.2.2.2.1) me_166
theorem mn_166 : m_n 166 = 1 := congrArg (fun e => e.2.2.2.2.2.2.1) me_166
theorem mh_166 : m_h 166 = none := congrArg (fun e => e.2.2.2.2.2.2.2) me_166
theorem mo_166 : o_m 166 = 16 := congrArg (fun e => e.1) me_166
theorem me_167 : m_e 167 = e_167 := rfl
theorem mc_167 : m_c 167 = cX7_readNot := congrArg (fun e => e.2.2.1) me_167
theorem ml_167 : m_l 167 = 4 := congrArg (fun e => e.2.2.2.1) me_167
theorem mk_167 : m_k 167 = 6 := congrArg (fun e => e.2.2.2.2.2.1) me_167
theorem mn_167 : m_n 167 = 1 := congrArg (fun e => e.2.2.2.2.2.2.1) me_167
theorem mh_167 : m_h 167 = none := congrArg (fun e => e.2.2.2.2.2.2.2) me_167
theorem mo_167 : o_m 167 = 16 := congrArg (fun e => e.1) me_167
theorem me_168 : m_e 168 = e_168 := rfl
theorem mc_168 : m_c 168 = cX7_readSum := congrArg (fun e => e.2.2.1) me_168
theorem ml_168 : m_l 168 = 3 := congrArg (fun e => e.2.2.2.1) me_168
theorem mk_168 : m_k 168 = 6 := congrArg (fun e => e.2.2.2.2.2.1) me_168
theorem mn_168 : m_n 168 = 1 := congrArg (fun e => e.2.2.2.2.2.2.1) me_168
theorem mh_168 : m_h 168 = none := congrArg (fun e => e.2.2.2.2.2.2.2) me_168
theorem mo_168 : o_m 168 = 16 := congrArg (fun e => e.1) me_168
theorem me_169 : m_e 169 = e_169 := rfl
theorem mc_169 : m_c 169 = cX7_readProduct := congrArg (fun e => e.2.2.1) me_169
theorem ml_169 : m_l 169 = 3 := congrArg (fun e => e.2.2.2.1) me_169
theorem mk_169 : m_k 169 = 6 := congrArg (fun e => e.2.2.2.2.2.1) me_169
theorem mn_169 : m_n 169 = 1 := congrArg (fun e => e.2.2.2.2.2.2.1) me_169
theorem mh_169 : m_h 169 = none := congrArg (fun e => e.2.2.2.2.2.2.2) me_169
theorem mo_169 : o_m 169 = 16 := congrArg (fun e => e.1) me_169
theorem me_170 : m_e 170 = e_170 := rfl
theorem mc_170 : m_c 170 = cX7_readPart := congrArg (fun e => e.2.2.1) me_170
theorem ml_170 : m_l 170 = 3 := congrArg (fun e => e.2.2.2.1) me_170
theorem mk_170 : m_k 170 = 6 := congrArg (fun e => e.2.2.2.2.2.1) me_170
theorem mn_170 : m_n 170 = 1 := congrArg (fun e => e.2.2.2.2.2.2.1) me_170
theorem mh_170 : m_h 170 = none := congrArg (fun e => e.2.2.2.2.2.2.2) me_170
theorem mo_170 : o_m 170 = 16 := congrArg (fun e => e.1) me_170
theorem me_171 : m_e 171 = e_171 := rfl
theorem mc_171 : m_c 171 = cX7_lay := congrArg (fun e => e.2.2.1) me_171
theorem ml_171 : m_l 171 = 2 := congrArg (fun e => e.2.2.2.1) me_171
theorem mk_171 : m_k 171 = 6 := congrArg (fun e => e.2.2.2.2.2.1) me_171
theorem mn_171 : m_n 171 = 1 := congrArg (fun e => e.2.2.2.2.2.2.1) me_171
theorem mh_171 : m_h 171 = none := congrArg (fun e => e.2.2.2.2.2.2.2) me_171
theorem mo_171 : o_m 171 = 16 := congrArg (fun e => e.1) me_171
theorem me_172 : m_e 172 = e_172 := rfl
theorem mc_172 : m_c 172 = cX7_mark := congrArg (fun e => e.2.2.1) me_172
theorem ml_172 : m_l 172 = 2 := congrArg (fun e => e.2.2.2.1) me_172
theorem mk_172 : m_k 172 = 6 := congrArg (fun e => e.2.2.2.2.2.1) me_172
theorem mn_172 : m_n 172 = 1 := congrArg (fun e => e.2.2.2.2.2.2.1) me_172
theorem mh_172 : m_h 172 = none := congrArg (fun e => e.2.2.2.2.2.2.2) me_172
theorem mo_172 : o_m 172 = 16 := congrArg (fun e => e.1) me_172
theorem me_173 : m_e 173 = e_173 := rfl
theorem mc_173 : m_c 173 = cX7_readTable := congrArg (fun e => e.2.2.1) me_173
theorem ml_173 : m_l 173 = 5 := congrArg (fun e => e.2.2.2.1) me_173
theorem mk_173 : m_k 173 = 6 := congrArg (fun e => e.2.2.2.2.2.1) me_173
theorem mn_173 : m_n 173 = 1 := congrArg (fun e => e.2.2.2.2.2.2.1) me_173
theorem mh_173 : m_h 173 = none := congrArg (fun e => e.2.2.2.2.2.2.2) me_173
theorem mo_173 : o_m 173 = 16 := congrArg (fun e => e.1) me_173
theorem me_174 : m_e 174 = e_174 := rfl
theorem mc_174 : m_c 174 = cX7_takeOver := congrArg (fun e => e.2.2.1) me_174
theorem ml_174 : m_l 174 = 2 := congrArg (fun e => e.2.2.2.1) me_174
theorem mk_174 : m_k 174 = 6 := congrArg (fun e => e.2.2.2.2.2.1) me_174
theorem mn_174 : m_n 174 = 0 := congrArg (fun e => e.2.2.2.2.2.2.1) me_174
theorem mh_174 : m_h 174 = none := congrArg (fun e => e.2.2.2.2.2.2.2) me_174
theorem mo_174 : o_m 174 = 16 := congrArg (fun e => e.1) me_174
theorem me_175 : m_e 175 = e_175 := rfl
theorem mc_175 : m_c 175 = cX7_takeHalf := congrArg (fun e => e.2.2.1) me_175
theorem ml_175 : m_l 175 = 2 := congrArg (fun e => e.2.2.2.1) me_175
theorem mk_175 : m_k 175 = 6 := congrArg (fun e => e.2.2.2.2.2.1) me_175
theorem mn_175 : m_n 175 = 1 := congrArg (fun e => e.2.2.2.2.2.2.1) me_175
theorem mh_175 : m_h 175 = none := congrArg (fun e => e.2.2.2.2.2.2.2) me_175
theorem mo_175 : o_m 175 = 16 := congrArg (fun e => e.1) me_175
theorem me_176 : m_e 176 = e_176 := rfl
theorem mc_176 : m_c 176 = cX7_fault := congrArg (fun e => e.2.2.1) me_176
theorem ml_176 : m_l 176 = 1 := congrArg (fun e => e.2.2.2.1) me_176
theorem mk_176 : m_k 176 = 0 := congrArg (fun e => e.2.2.2.2.2.1) me_176
theorem mn_176 : m_n 176 = 0 := congrArg (fun e => e.2.2.2.2.2.2.1) me_176
theorem mh_176 : m_h 176 = none := congrArg (fun e => e.2.2.2.2.2.2.2) me_176
theorem mo_176 : o_m 176 = 16 := congrArg (fun e => e.1) me_176
theorem me_177 : m_e 177 = e_177 := rfl
theorem mc_177 : m_c 177 = cX7_count := congrArg (fun e => e.2.2.1) me_177
theorem ml_177 : m_l 177 = 2 := congrArg (fun e => e.2.2.2.1) me_177
theorem mk_177 : m_k 177 = 0 := congrArg (fun e => e.2.2.2.2.2.1) me_177
theorem mn_177 : m_n 177 = 1 := congrArg (fun e => e.2.2.2.2.2.2.1) me_177
theorem mh_177 : m_h 177 = none := congrArg (fun e => e.2.2.2.2.2.2.2) me_177
theorem mo_177 : o_m 177 = 16 := congrArg (fun e => e.1) me_177
theorem me_178 : m_e 178 = e_178 := rfl
theorem mc_178 : m_c 178 = cX7_stands := congrArg (fun e => e.2.2.1) me_178
theorem ml_178 : m_l 178 = 1 := congrArg (fun e => e.2.2.2.1) me_178
theorem mk_178 : m_k 178 = 3 := congrArg (fun e => e.2.2.2.2.2.1) me_178
theorem mn_178 : m_n 178 = 0 := congrArg (fun e => e.2.2.2.2.2.2.1) me_178
theorem mh_178 : m_h 178 = none := congrArg (fun e => e.2.2.2.2.2.2.2) me_178
theorem mo_178 : o_m 178 = 16 := congrArg (fun e => e.1) me_178
theorem me_179 : m_e 179 = e_179 := rfl
theorem mc_179 : m_c 179 = cX7_breaksAt := congrArg (fun e => e.2.2.1) me_179
theorem ml_179 : m_l 179 = 2 := congrArg (fun e => e.2.2.2.1) me_179
theorem mk_179 : m_k 179 = 0 := congrArg (fun e => e.2.2.2.2.2.1) me_179
theorem mn_179 : m_n 179 = 0 := congrArg (fun e => e.2.2.2.2.2.2.1) me_179
theorem mh_179 : m_h 179 = none := congrArg (fun e => e.2.2.2.2.2.2.2) me_179
theorem mo_179 : o_m 179 = 16 := congrArg (fun e => e.1) me_179
theorem me_180 : m_e 180 = e_180 := rfl
theorem mc_180 : m_c 180 = cX7_isHeld := congrArg (fun e => e.2.2.1) me_180
theorem ml_180 : m_l 180 = 2 := congrArg (fun e => e.2.2.2.1) me_180
theorem mk_180 : m_k 180 = 3 := congrArg (fun e => e.2.2.2.2.2.1) me_180
theorem mn_180 : m_n 180 = 1 := congrArg (fun e => e.2.2.2.2.2.2.1) me_180
theorem mh_180 : m_h 180 = none := congrArg (fun e => e.2.2.2.2.2.2.2) me_180
theorem mo_180 : o_m 180 = 16 := congrArg (fun e => e.1) me_180
theorem me_181 : m_e 181 = e_181 := rfl
theorem mc_181 : m_c 181 = cX7_loadOn := congrArg (fun e => e.2.2.1) me_181
theorem ml_181 : m_l 181 = 4 := congrArg (fun e => e.2.2.2.1) me_181
theorem mk_181 : m_k 181 = 0 := congrArg (fun e => e.2.2.2.2.2.1) me_181
theorem mn_181 : m_n 181 = 1 := congrArg (fun e => e.2.2.2.2.2.2.1) me_181
theorem mh_181 : m_h 181 = none := congrArg (fun e => e.2.2.2.2.2.2.2) me_181
theorem mo_181 : o_m 181 = 16 := congrArg (fun e => e.1) me_181
theorem me_182 : m_e 182 = e_182 := rfl
theorem mc_182 : m_c 182 = cX7_carriedBy := congrArg (fun e => e.2.2.1) me_182
theorem ml_182 : m_l 182 = 2 := congrArg (fun e => e.2.2.2.1) me_182
theorem mk_182 : m_k 182 = 0 := congrArg (fun e => e.2.2.2.2.2.1) me_182
theorem mn_182 : m_n 182 = 1 := congrArg (fun e => e.2.2.2.2.2.2.1) me_182
theorem mh_182 : m_h 182 = none := congrArg (fun e => e.2.2.2.2.2.2.2) me_182
theorem mo_182 : o_m 182 = 16 := congrArg (fun e => e.1) me_182
theorem me_183 : m_e 183 = e_183 := rfl
theorem mc_183 : m_c 183 = cX7_carries := congrArg (fun e => e.2.2.1) me_183
theorem ml_183 : m_l 183 = 4 := congrArg (fun e => e.2.2.2.1) me_183
theorem mk_183 : m_k 183 = 0 := congrArg (fun e => e.2.2.2.2.2.1) me_183
theorem mn_183 : m_n 183 = 2 := congrArg (fun e => e.2.2.2.2.2.2.1) me_183
theorem mh_183 : m_h 183 = none := congrArg (fun e => e.2.2.2.2.2.2.2) me_183
theorem mo_183 : o_m 183 = 16 := congrArg (fun e => e.1) me_183
theorem me_184 : m_e 184 = e_184 := rfl
theorem mc_184 : m_c 184 = cX7_worm := congrArg (fun e => e.2.2.1) me_184
theorem ml_184 : m_l 184 = 2 := congrArg (fun e => e.2.2.2.1) me_184
theorem mk_184 : m_k 184 = 0 := congrArg (fun e => e.2.2.2.2.2.1) me_184
theorem mn_184 : m_n 184 = 1 := congrArg (fun e => e.2.2.2.2.2.2.1) me_184
theorem mh_184 : m_h 184 = none := congrArg (fun e => e.2.2.2.2.2.2.2) me_184
theorem mo_184 : o_m 184 = 16 := congrArg (fun e => e.1) me_184
theorem me_185 : m_e 185 = e_185 := rfl
theorem mc_185 : m_c 185 = cX7_tiltAt := congrArg (fun e => e.2.2.1) me_185
theorem ml_185 : m_l 185 = 4 := congrArg (fun e => e.2.2.2.1) me_185
theorem mk_185 : m_k 185 = 0 := congrArg (fun e => e.2.2.2.2.2.1) me_185
theorem mn_185 : m_n 185 = 1 := congrArg (fun e => e.2.2.2.2.2.2.1) me_185
theorem mh_185 : m_h 185 = none := congrArg (fun e => e.2.2.2.2.2.2.2) me_185
theorem mo_185 : o_m 185 = 16 := congrArg (fun e => e.1) me_185
theorem me_186 : m_e 186 = e_186 := rfl
theorem mc_186 : m_c 186 = cX7_turns := congrArg (fun e => e.2.2.1) me_186
theorem ml_186 : m_l 186 = 2 := congrArg (fun e => e.2.2.2.1) me_186
theorem mk_186 : m_k 186 = 0 := congrArg (fun e => e.2.2.2.2.2.1) me_186
theorem mn_186 : m_n 186 = 1 := congrArg (fun e => e.2.2.2.2.2.2.1) me_186
theorem mh_186 : m_h 186 = none := congrArg (fun e => e.2.2.2.2.2.2.2) me_186
theorem mo_186 : o_m 186 = 16 := congrArg (fun e => e.1) me_186
theorem me_187 : m_e 187 = e_187 := rfl
theorem mc_187 : m_c 187 = cX7_fullNow := congrArg (fun e => e.2.2.1) me_187
theorem ml_187 : m_l 187 = 3 := congrArg (fun e => e.2.2.2.1) me_187
theorem mk_187 : m_k 187 = 0 := congrArg (fun e => e.2.2.2.2.2.1) me_187
theorem mn_187 : m_n 187 = 0 := congrArg (fun e => e.2.2.2.2.2.2.1) me_187
theorem mh_187 : m_h 187 = none := congrArg (fun e => e.2.2.2.2.2.2.2) me_187
theorem mo_187 : o_m 187 = 16 := congrArg (fun e => e.1) me_187
theorem me_188 : m_e 188 = e_188 := rfl
theorem mc_188 : m_c 188 = cX7_table := congrArg (fun e => e.2.2.1) me_188
theorem ml_188 : m_l 188 = 3 := congrArg (fun e => e.2.2.2.1) me_188
theorem mk_188 : m_k 188 = 0 := congrArg (fun e => e.2.2.2.2.2.1) me_188
theorem mn_188 : m_n 188 = 2 := congrArg (fun e => e.2.2.2.2.2.2.1) me_188
theorem mh_188 : m_h 188 = none := congrArg (fun e => e.2.2.2.2.2.2.2) me_188
theorem mo_188 : o_m 188 = 16 := congrArg (fun e => e.1) me_188
theorem me_189 : m_e 189 = e_189 := rfl
theorem mc_189 : m_c 189 = cX7_isTable := congrArg (fun e => e.2.2.1) me_189
theorem ml_189 : m_l 189 = 2 := congrArg (fun e => e.2.2.2.1) me_189
theorem mk_189 : m_k 189 = 3 := congrArg (fun e => e.2.2.2.2.2.1) me_189
theorem mn_189 : m_n 189 = 1 := congrArg (fun e => e.2.2.2.2.2.2.1) me_189
theorem mh_189 : m_h 189 = none := congrArg (fun e => e.2.2.2.2.2.2.2) me_189
theorem mo_189 : o_m 189 = 16 := congrArg (fun e => e.1) me_189
theorem me_190 : m_e 190 = e_190 := rfl
theorem mc_190 : m_c 190 = cX7_isIn := congrArg (fun e => e.2.2.1) me_190
theorem ml_190 : m_l 190 = 6 := congrArg (fun e => e.2.2.2.1) me_190
theorem mk_190 : m_k 190 = 3 := congrArg (fun e => e.2.2.2.2.2.1) me_190
theorem mn_190 : m_n 190 = 3 := congrArg (fun e => e.2.2.2.2.2.2.1) me_190
theorem mh_190 : m_h 190 = none := congrArg (fun e => e.2.2.2.2.2.2.2) me_190
theorem mo_190 : o_m 190 = 16 := congrArg (fun e => e.1) me_190
theorem me_191 : m_e 191 = e_191 := rfl
theorem mc_191 : m_c 191 = cX7_levelOf := congrArg (fun e => e.2.2.1) me_191
theorem ml_191 : m_l 191 = 3 := congrArg (fun e => e.2.2.2.1) me_191
theorem mk_191 : m_k 191 = 0 := congrArg (fun e => e.2.2.2.2.2.1) me_191
theorem mn_191 : m_n 191 = 1 := congrArg (fun e => e.2.2.2.2.2.2.1) me_191
theorem mh_191 : m_h 191 = none := congrArg (fun e => e.2.2.2.2.2.2.2) me_191
theorem mo_191 : o_m 191 = 16 := congrArg (fun e => e.1) me_191
theorem me_192 : m_e 192 = e_192 := rfl
theorem mc_192 : m_c 192 = cX7_by := congrArg (fun e => e.2.2.1) me_192
theorem ml_192 : m_l 192 = 1 := congrArg (fun e => e.2.2.2.1) me_192
theorem mk_192 : m_k 192 = 0 := congrArg (fun e => e.2.2.2.2.2.1) me_192
theorem mn_192 : m_n 192 = 0 := congrArg (fun e => e.2.2.2.2.2.2.1) me_192
theorem mh_192 : m_h 192 = none := congrArg (fun e => e.2.2.2.2.2.2.2) me_192
theorem mo_192 : o_m 192 = 16 := congrArg (fun e => e.1) me_192
theorem me_193 : m_e 193 = e_193 := rfl
theorem mc_193 : m_c 193 = cX7_inTower := congrArg (fun e => e.2.2.1) me_193
theorem ml_193 : m_l 193 = 3 := congrArg (fun e => e.2.2.2.1) me_193
theorem mk_193 : m_k 193 = 0 := congrArg (fun e => e.2.2.2.2.2.1) me_193
theorem mn_193 : m_n 193 = 0 := congrArg (fun e => e.2.2.2.2.2.2.1) me_193
theorem mh_193 : m_h 193 = none := congrArg (fun e => e.2.2.2.2.2.2.2) me_193
theorem mo_193 : o_m 193 = 16 := congrArg (fun e => e.1) me_193
theorem me_194 : m_e 194 = e_194 := rfl
theorem mc_194 : m_c 194 = cX7_level := congrArg (fun e => e.2.2.1) me_194
theorem ml_194 : m_l 194 = 3 := congrArg (fun e => e.2.2.2.1) me_194
theorem mk_194 : m_k 194 = 0 := congrArg (fun e => e.2.2.2.2.2.1) me_194
theorem mn_194 : m_n 194 = 2 := congrArg (fun e => e.2.2.2.2.2.2.1) me_194
theorem mh_194 : m_h 194 = none := congrArg (fun e => e.2.2.2.2.2.2.2) me_194
theorem mo_194 : o_m 194 = 16 := congrArg (fun e => e.1) me_194
theorem me_195 : m_e 195 = e_195 := rfl
theorem mc_195 : m_c 195 = cX7_isLevel := congrArg (fun e => e.2.2.1) me_195
theorem ml_195 : m_l 195 = 2 := congrArg (fun e => e.2.2.2.1) me_195
theorem mk_195 : m_k 195 = 3 := congrArg (fun e => e.2.2.2.2.2.1) me_195
theorem mn_195 : m_n 195 = 1 := congrArg (fun e => e.2.2.2.2.2.2.1) me_195
theorem mh_195 : m_h 195 = none := congrArg (fun e => e.2.2.2.2.2.2.2) me_195
theorem mo_195 : o_m 195 = 16 := congrArg (fun e => e.1) me_195
theorem me_196 : m_e 196 = e_196 := rfl
theorem mc_196 : m_c 196 = cX7_put := congrArg (fun e => e.2.2.1) me_196
theorem ml_196 : m_l 196 = 4 := congrArg (fun e => e.2.2.2.1) me_196
theorem mk_196 : m_k 196 = 0 := congrArg (fun e => e.2.2.2.2.2.1) me_196
theorem mn_196 : m_n 196 = 2 := congrArg (fun e => e.2.2.2.2.2.2.1) me_196
theorem mh_196 : m_h 196 = none := congrArg (fun e => e.2.2.2.2.2.2.2) me_196
theorem mo_196 : o_m 196 = 16 := congrArg (fun e => e.1) me_196
theorem me_197 : m_e 197 = e_197 := rfl
theorem mc_197 : m_c 197 = cX7_refuse := congrArg (fun e => e.2.2.1) me_197
theorem ml_197 : m_l 197 = 2 := congrArg (fun e => e.2.2.2.1) me_197
theorem mk_197 : m_k 197 = 0 := congrArg (fun e => e.2.2.2.2.2.1) me_197
theorem mn_197 : m_n 197 = 1 := congrArg (fun e => e.2.2.2.2.2.2.1) me_197
theorem mh_197 : m_h 197 = none := congrArg (fun e => e.2.2.2.2.2.2.2) me_197
theorem mo_197 : o_m 197 = 16 := congrArg (fun e => e.1) me_197
theorem me_198 : m_e 198 = e_198 := rfl
theorem mc_198 : m_c 198 = cX7_keep := congrArg (fun e => e.2.2.1) me_198
theorem ml_198 : m_l 198 = 2 := congrArg (fun e => e.2.2.2.1) me_198
theorem mk_198 : m_k 198 = 6 := congrArg (fun e => e.2.2.2.2.2.1) me_198
theorem mn_198 : m_n 198 = 0 := congrArg (fun e => e.2.2.2.2.2.2.1) me_198
theorem mh_198 : m_h 198 = none := congrArg (fun e => e.2.2.2.2.2.2.2) me_198
theorem mo_198 : o_m 198 = 16 := congrArg (fun e => e.1) me_198
theorem me_199 : m_e 199 = e_199 := rfl
theorem mc_199 : m_c 199 = cX7_pack := congrArg (fun e => e.2.2.1) me_199
theorem ml_199 : m_l 199 = 4 := congrArg (fun e => e.2.2.2.1) me_199
theorem mk_199 : m_k 199 = 6 := congrArg (fun e => e.2.2.2.2.2.1) me_199
theorem mn_199 : m_n 199 = 2 := congrArg (fun e => e.2.2.2.2.2.2.1) me_199
theorem mh_199 : m_h 199 = none := congrArg (fun e => e.2.2.2.2.2.2.2) me_199
theorem mo_199 : o_m 199 = 16 := congrArg (fun e => e.1) me_199
theorem me_200 : m_e 200 = e_200 := rfl
theorem mc_200 : m_c 200 = cX7_take := congrArg (fun e => e.2.2.1) me_200
theorem ml_200 : m_l 200 = 3 := congrArg (fun e => e.2.2.2.1) me_200
theorem mk_200 : m_k 200 = 0 := congrArg (fun e => e.2.2.2.2.2.1) me_200
theorem mn_200 : m_n 200 = 1 := congrArg (fun e => e.2.2.2.2.2.2.1) me_200
theorem mh_200 : m_h 200 = none := congrArg (fun e => e.2.2.2.2.2.2.2) me_200
theorem mo_200 : o_m 200 = 16 := congrArg (fun e => e.1) me_200
theorem me_201 : m_e 201 = e_201 := rfl
theorem mc_201 : m_c 201 = cX7_takeOff := congrArg (fun e => e.2.2.1) me_201
theorem ml_201 : m_l 201 = 4 := congrArg (fun e => e.2.2.2.1) me_201
theorem mk_201 : m_k 201 = 6 := congrArg (fun e => e.2.2.2.2.2.1) me_201
theorem mn_201 : m_n 201 = 1 := congrArg (fun e => e.2.2.2.2.2.2.1) me_201
theorem mh_201 : m_h 201 = none := congrArg (fun e => e.2.2.2.2.2.2.2) me_201
theorem mo_201 : o_m 201 = 16 := congrArg (fun e => e.1) me_201
theorem me_202 : m_e 202 = e_202 := rfl
theorem mc_202 : m_c 202 = cX7_change := congrArg (fun e => e.2.2.1) me_202
theorem ml_202 : m_l 202 = 3 := congrArg (fun e => e.2.2.2.1) me_202
theorem mk_202 : m_k 202 = 3 := congrArg (fun e => e.2.2.2.2.2.1) me_202
theorem mn_202 : m_n 202 = 2 := congrArg (fun e => e.2.2.2.2.2.2.1) me_202
theorem mh_202 : m_h 202 = none := congrArg (fun e => e.2.2.2.2.2.2.2) me_202
theorem mo_202 : o_m 202 = 16 := congrArg (fun e => e.1) me_202
theorem me_203 : m_e 203 = e_203 := rfl
theorem mc_203 : m_c 203 = cX7_failing := congrArg (fun e => e.2.2.1) me_203
theorem ml_203 : m_l 203 = 2 := congrArg (fun e => e.2.2.2.1) me_203
theorem mk_203 : m_k 203 = 3 := congrArg (fun e => e.2.2.2.2.2.1) me_203
theorem mn_203 : m_n 203 = 1 := congrArg (fun e => e.2.2.2.2.2.2.1) me_203
theorem mh_203 : m_h 203 = none := congrArg (fun e => e.2.2.2.2.2.2.2) me_203
theorem mo_203 : o_m 203 = 16 := congrArg (fun e => e.1) me_203
theorem me_204 : m_e 204 = e_204 := rfl
theorem mc_204 : m_c 204 = cX7_exchange := congrArg (fun e => e.2.2.1) me_204
theorem ml_204 : m_l 204 = 4 := congrArg (fun e => e.2.2.2.1) me_204
theorem mk_204 : m_k 204 = 6 := congrArg (fun e => e.2.2.2.2.2.1) me_204
theorem mn_204 : m_n 204 = 2 := congrArg (fun e => e.2.2.2.2.2.2.1) me_204
theorem mh_204 : m_h 204 = none := congrArg (fun e => e.2.2.2.2.2.2.2) me_204
theorem mo_204 : o_m 204 = 16 := congrArg (fun e => e.1) me_204
theorem me_205 : m_e 205 = e_205 := rfl
theorem mc_205 : m_c 205 = cX7_wedge := congrArg (fun e => e.2.2.1) me_205
theorem ml_205 : m_l 205 = 4 := congrArg (fun e => e.2.2.2.1) me_205
theorem mk_205 : m_k 205 = 0 := congrArg (fun e => e.2.2.2.2.2.1) me_205
theorem mn_205 : m_n 205 = 2 := congrArg (fun e => e.2.2.2.2.2.2.1) me_205
theorem mh_205 : m_h 205 = none := congrArg (fun e => e.2.2.2.2.2.2.2) me_205
theorem mo_205 : o_m 205 = 16 := congrArg (fun e => e.1) me_205
theorem me_206 : m_e 206 = e_206 := rfl
theorem mc_206 : m_c 206 = cX7_refuseFar := congrArg (fun e => e.2.2.1) me_206
theorem ml_206 : m_l 206 = 1 := congrArg (fun e => e.2.2.2.1) me_206
theorem mk_206 : m_k 206 = 0 := congrArg (fun e => e.2.2.2.2.2.1) me_206
theorem mn_206 : m_n 206 = 0 := congrArg (fun e => e.2.2.2.2.2.2.1) me_206
theorem mh_206 : m_h 206 = none := congrArg (fun e => e.2.2.2.2.2.2.2) me_206
theorem mo_206 : o_m 206 = 16 := congrArg (fun e => e.1) me_206
theorem me_207 : m_e 207 = e_207 := rfl
theorem mc_207 : m_c 207 = cX7_saw := congrArg (fun e => e.2.2.1) me_207
theorem ml_207 : m_l 207 = 4 := congrArg (fun e => e.2.2.2.1) me_207
theorem mk_207 : m_k 207 = 0 := congrArg (fun e => e.2.2.2.2.2.1) me_207
theorem mn_207 : m_n 207 = 2 := congrArg (fun e => e.2.2.2.2.2.2.1) me_207
theorem mh_207 : m_h 207 = none := congrArg (fun e => e.2.2.2.2.2.2.2) me_207
theorem mo_207 : o_m 207 = 16 := congrArg (fun e => e.1) me_207
theorem me_208 : m_e 208 = e_208 := rfl
theorem mc_208 : m_c 208 = cX7_supper := congrArg (fun e => e.2.2.1) me_208
theorem ml_208 : m_l 208 = 1 := congrArg (fun e => e.2.2.2.1) me_208
theorem mk_208 : m_k 208 = 0 := congrArg (fun e => e.2.2.2.2.2.1) me_208
theorem mn_208 : m_n 208 = 0 := congrArg (fun e => e.2.2.2.2.2.2.1) me_208
theorem mh_208 : m_h 208 = none := congrArg (fun e => e.2.2.2.2.2.2.2) me_208
theorem mo_208 : o_m 208 = 16 := congrArg (fun e => e.1) me_208
theorem me_209 : m_e 209 = e_209 := rfl
theorem mc_209 : m_c 209 = cX7_eat := congrArg (fun e => e.2.2.1) me_209
theorem ml_209 : m_l 209 = 6 := congrArg (fun e => e.2.2.2.1) me_209
theorem mk_209 : m_k 209 = 0 := congrArg (fun e => e.2.2.2.2.2.1) me_209
theorem mn_209 : m_n 209 = 1 := congrArg (fun e => e.2.2.2.2.2.2.1) me_209
theorem mh_209 : m_h 209 = none := congrArg (fun e => e.2.2.2.2.2.2.2) me_209
theorem mo_209 : o_m 209 = 16 := congrArg (fun e => e.1) me_209
theorem me_210 : m_e 210 = e_210 := rfl
theorem mc_210 : m_c 210 = cX7_valueNow := congrArg (fun e => e.2.2.1) me_210
theorem ml_210 : m_l 210 = 4 := congrArg (fun e => e.2.2.2.1) me_210
theorem mk_210 : m_k 210 = 0 := congrArg (fun e => e.2.2.2.2.2.1) me_210
theorem mn_210 : m_n 210 = 0 := congrArg (fun e => e.2.2.2.2.2.2.1) me_210
theorem mh_210 : m_h 210 = none := congrArg (fun e => e.2.2.2.2.2.2.2) me_210
theorem mo_210 : o_m 210 = 16 := congrArg (fun e => e.1) me_210
theorem me_211 : m_e 211 = e_211 := rfl
theorem mc_211 : m_c 211 = cX7_reckon := congrArg (fun e => e.2.2.1) me_211
theorem ml_211 : m_l 211 = 3 := congrArg (fun e => e.2.2.2.1) me_211
theorem mk_211 : m_k 211 = 0 := congrArg (fun e => e.2.2.2.2.2.1) me_211
theorem mn_211 : m_n 211 = 3 := congrArg (fun e => e.2.2.2.2.2.2.1) me_211
theorem mh_211 : m_h 211 = none := congrArg (fun e => e.2.2.2.2.2.2.2) me_211
theorem mo_211 : o_m 211 = 16 := congrArg (fun e => e.1) me_211
theorem me_212 : m_e 212 = e_212 := rfl
theorem mc_212 : m_c 212 = cX7_years := congrArg (fun e => e.2.2.1) me_212
theorem ml_212 : m_l 212 = 2 := congrArg (fun e => e.2.2.2.1) me_212
theorem mk_212 : m_k 212 = 0 := congrArg (fun e => e.2.2.2.2.2.1) me_212
theorem mn_212 : m_n 212 = 1 := congrArg (fun e => e.2.2.2.2.2.2.1) me_212
theorem mh_212 : m_h 212 = none := congrArg (fun e => e.2.2.2.2.2.2.2) me_212
theorem mo_212 : o_m 212 = 16 := congrArg (fun e => e.1) me_212
theorem me_213 : m_e 213 = e_213 := rfl
theorem mc_213 : m_c 213 = cX7_undo := congrArg (fun e => e.2.2.1) me_213
theorem ml_213 : m_l 213 = 1 := congrArg (fun e => e.2.2.2.1) me_213
theorem mk_213 : m_k 213 = 0 := congrArg (fun e => e.2.2.2.2.2.1) me_213
theorem mn_213 : m_n 213 = 0 := congrArg (fun e => e.2.2.2.2.2.2.1) me_213
theorem mh_213 : m_h 213 = none := congrArg (fun e => e.2.2.2.2.2.2.2) me_213
theorem mo_213 : o_m 213 = 16 := congrArg (fun e => e.1) me_213
theorem me_214 : m_e 214 = e_214 := rfl
theorem mc_214 : m_c 214 = cX7_unpack := congrArg (fun e => e.2.2.1) me_214
theorem ml_214 : m_l 214 = 4 := congrArg (fun e => e.2.2.2.1) me_214
theorem mk_214 : m_k 214 = 6 := congrArg (fun e => e.2.2.2.2.2.1) me_214
theorem mn_214 : m_n 214 = 2 := congrArg (fun e => e.2.2.2.2.2.2.1) me_214
theorem mh_214 : m_h 214 = none := congrArg (fun e => e.2.2.2.2.2.2.2) me_214
theorem mo_214 : o_m 214 = 16 := congrArg (fun e => e.1) me_214
theorem me_215 : m_e 215 = e_215 := rfl
theorem mc_215 : m_c 215 = cX7_more := congrArg (fun e => e.2.2.1) me_215
theorem ml_215 : m_l 215 = 1 := congrArg (fun e => e.2.2.2.1) me_215
theorem mk_215 : m_k 215 = 0 := congrArg (fun e => e.2.2.2.2.2.1) me_215
theorem mn_215 : m_n 215 = 0 := congrArg (fun e => e.2.2.2.2.2.2.1) me_215
theorem mh_215 : m_h 215 = none := congrArg (fun e => e.2.2.2.2.2.2.2) me_215
theorem mo_215 : o_m 215 = 16 := congrArg (fun e => e.1) me_215
theorem me_216 : m_e 216 = e_216 := rfl
theorem mc_216 : m_c 216 = cX7_moreNow := congrArg (fun e => e.2.2.1) me_216
theorem ml_216 : m_l 216 = 3 := congrArg (fun e => e.2.2.2.1) me_216
theorem mk_216 : m_k 216 = 0 := congrArg (fun e => e.2.2.2.2.2.1) me_216
theorem mn_216 : m_n 216 = 0 := congrArg (fun e => e.2.2.2.2.2.2.1) me_216
theorem mh_216 : m_h 216 = none := congrArg (fun e => e.2.2.2.2.2.2.2) me_216
theorem mo_216 : o_m 216 = 16 := congrArg (fun e => e.1) me_216
theorem me_217 : m_e 217 = e_217 := rfl
theorem mc_217 : m_c 217 = cX7_without := congrArg (fun e => e.2.2.1) me_217
theorem ml_217 : m_l 217 = 3 := congrArg (fun e => e.2.2.2.1) me_217
theorem mk_217 : m_k 217 = 3 := congrArg (fun e => e.2.2.2.2.2.1) me_217
theorem mn_217 : m_n 217 = 1 := congrArg (fun e => e.2.2.2.2.2.2.1) me_217
theorem mh_217 : m_h 217 = none := congrArg (fun e => e.2.2.2.2.2.2.2) me_217
theorem mo_217 : o_m 217 = 16 := congrArg (fun e => e.1) me_217
theorem me_218 : m_e 218 = e_218 := rfl
theorem mc_218 : m_c 218 = cX7_most := congrArg (fun e => e.2.2.1) me_218
theorem ml_218 : m_l 218 = 3 := congrArg (fun e => e.2.2.2.1) me_218
theorem mk_218 : m_k 218 = 0 := congrArg (fun e => e.2.2.2.2.2.1) me_218
theorem mn_218 : m_n 218 = 1 := congrArg (fun e => e.2.2.2.2.2.2.1) me_218
theorem mh_218 : m_h 218 = none := congrArg (fun e => e.2.2.2.2.2.2.2) me_218
theorem mo_218 : o_m 218 = 16 := congrArg (fun e => e.1) me_218
theorem me_219 : m_e 219 = e_219 := rfl
theorem mc_219 : m_c 219 = cX7_mostSet := congrArg (fun e => e.2.2.1) me_219
theorem ml_219 : m_l 219 = 3 := congrArg (fun e => e.2.2.2.1) me_219
theorem mk_219 : m_k 219 = 0 := congrArg (fun e => e.2.2.2.2.2.1) me_219
theorem mn_219 : m_n 219 = 0 := congrArg (fun e => e.2.2.2.2.2.2.1) me_219
theorem mh_219 : m_h 219 = none := congrArg (fun e => e.2.2.2.2.2.2.2) me_219
theorem mo_219 : o_m 219 = 16 := congrArg (fun e => e.1) me_219
theorem me_220 : m_e 220 = e_220 := rfl
theorem mc_220 : m_c 220 = cX7_tellSums := congrArg (fun e => e.2.2.1) me_220
theorem ml_220 : m_l 220 = 3 := congrArg (fun e => e.2.2.2.1) me_220
theorem mk_220 : m_k 220 = 6 := congrArg (fun e => e.2.2.2.2.2.1) me_220
theorem mn_220 : m_n 220 = 0 := congrArg (fun e => e.2.2.2.2.2.2.1) me_220
theorem mh_220 : m_h 220 = none := congrArg (fun e => e.2.2.2.2.2.2.2) me_220
theorem mo_220 : o_m 220 = 16 := congrArg (fun e => e.1) me_220
theorem me_221 : m_e 221 = e_221 := rfl
theorem mc_221 : m_c 221 = cX7_bitsOf := congrArg (fun e => e.2.2.1) me_221
theorem ml_221 : m_l 221 = 3 := congrArg (fun e => e.2.2.2.1) me_221
theorem mk_221 : m_k 221 = 0 := congrArg (fun e => e.2.2.2.2.2.1) me_221
theorem mn_221 : m_n 221 = 1 := congrArg (fun e => e.2.2.2.2.2.2.1) me_221
theorem mh_221 : m_h 221 = none := congrArg (fun e => e.2.2.2.2.2.2.2) me_221
theorem mo_221 : o_m 221 = 16 := congrArg (fun e => e.1) me_221
theorem me_222 : m_e 222 = e_222 := rfl
theorem mc_222 : m_c 222 = cX7_tellWays := congrArg (fun e => e.2.2.1) me_222
theorem ml_222 : m_l 222 = 4 := congrArg (fun e => e.2.2.2.1) me_222
theorem mk_222 : m_k 222 = 6 := congrArg (fun e => e.2.2.2.2.2.1) me_222
theorem mn_222 : m_n 222 = 1 := congrArg (fun e => e.2.2.2.2.2.2.1) me_222
theorem mh_222 : m_h 222 = none := congrArg (fun e => e.2.2.2.2.2.2.2) me_222
theorem mo_222 : o_m 222 = 16 := congrArg (fun e => e.1) me_222
theorem me_223 : m_e 223 = e_223 := rfl
theorem mc_223 : m_c 223 = cX7_isOf := congrArg (fun e => e.2.2.1) me_223
theorem ml_223 : m_l 223 = 2 := congrArg (fun e => e.2.2.2.1) me_223
theorem mk_223 : m_k 223 = 3 := congrArg (fun e => e.2.2.2.2.2.1) me_223
theorem mn_223 : m_n 223 = 2 := congrArg (fun e => e.2.2.2.2.2.2.1) me_223
theorem mh_223 : m_h 223 = none := congrArg (fun e => e.2.2.2.2.2.2.2) me_223
theorem mo_223 : o_m 223 = 16 := congrArg (fun e => e.1) me_223
theorem me_224 : m_e 224 = e_224 := rfl
theorem mc_224 : m_c 224 = cX7_fits := congrArg (fun e => e.2.2.1) me_224
theorem ml_224 : m_l 224 = 5 := congrArg (fun e => e.2.2.2.1) me_224
theorem mk_224 : m_k 224 = 3 := congrArg (fun e => e.2.2.2.2.2.1) me_224
theorem mn_224 : m_n 224 = 3 := congrArg (fun e => e.2.2.2.2.2.2.1) me_224
theorem mh_224 : m_h 224 = none := congrArg (fun e => e.2.2.2.2.2.2.2) me_224
theorem mo_224 : o_m 224 = 16 := congrArg (fun e => e.1) me_224
theorem me_225 : m_e 225 = e_225 := rfl
theorem mc_225 : m_c 225 = cX7_row := congrArg (fun e => e.2.2.1) me_225
theorem ml_225 : m_l 225 = 7 := congrArg (fun e => e.2.2.2.1) me_225
theorem mk_225 : m_k 225 = 0 := congrArg (fun e => e.2.2.2.2.2.1) me_225
theorem mn_225 : m_n 225 = 1 := congrArg (fun e => e.2.2.2.2.2.2.1) me_225
theorem mh_225 : m_h 225 = none := congrArg (fun e => e.2.2.2.2.2.2.2) me_225
theorem mo_225 : o_m 225 = 16 := congrArg (fun e => e.1) me_225
theorem me_226 : m_e 226 = e_226 := rfl
theorem mc_226 : m_c 226 = cX7_orders := congrArg (fun e => e.2.2.1) me_226
theorem ml_226 : m_l 226 = 1 := congrArg (fun e => e.2.2.2.1) me_226
theorem mk_226 : m_k 226 = 1 := congrArg (fun e => e.2.2.2.2.2.1) me_226
theorem mn_226 : m_n 226 = 0 := congrArg (fun e => e.2.2.2.2.2.2.1) me_226
theorem mh_226 : m_h 226 = none := congrArg (fun e => e.2.2.2.2.2.2.2) me_226
theorem mo_226 : o_m 226 = 16 := congrArg (fun e => e.1) me_226
theorem me_227 : m_e 227 = e_227 := rfl
theorem mc_227 : m_c 227 = cX7_ordersOf := congrArg (fun e => e.2.2.1) me_227
theorem ml_227 : m_l 227 = 2 := congrArg (fun e => e.2.2.2.1) me_227
theorem mk_227 : m_k 227 = 1 := congrArg (fun e => e.2.2.2.2.2.1) me_227
theorem mn_227 : m_n 227 = 1 := congrArg (fun e => e.2.2.2.2.2.2.1) me_227
theorem mh_227 : m_h 227 = none := congrArg (fun e => e.2.2.2.2.2.2.2) me_227
theorem mo_227 : o_m 227 = 16 := congrArg (fun e => e.1) me_227
theorem me_228 : m_e 228 = e_228 := rfl
theorem mc_228 : m_c 228 = cX7_lifted := congrArg (fun e => e.2.2.1) me_228
theorem ml_228 : m_l 228 = 5 := congrArg (fun e => e.2.2.2.1) me_228
theorem mk_228 : m_k 228 = 1 := congrArg (fun e => e.2.2.2.2.2.1) me_228
theorem mn_228 : m_n 228 = 2 := congrArg (fun e => e.2.2.2.2.2.2.1) me_228
theorem mh_228 : m_h 228 = none := congrArg (fun e => e.2.2.2.2.2.2.2) me_228
theorem mo_228 : o_m 228 = 16 := congrArg (fun e => e.1) me_228
theorem me_229 : m_e 229 = e_229 := rfl
theorem mc_229 : m_c 229 = cX7_wedges := congrArg (fun e => e.2.2.1) me_229
theorem ml_229 : m_l 229 = 3 := congrArg (fun e => e.2.2.2.1) me_229
theorem mk_229 : m_k 229 = 0 := congrArg (fun e => e.2.2.2.2.2.1) me_229
theorem mn_229 : m_n 229 = 0 := congrArg (fun e => e.2.2.2.2.2.2.1) me_229
theorem mh_229 : m_h 229 = none := congrArg (fun e => e.2.2.2.2.2.2.2) me_229
theorem mo_229 : o_m 229 = 16 := congrArg (fun e => e.1) me_229
theorem me_230 : m_e 230 = e_230 := rfl
theorem mc_230 : m_c 230 = cX7_wedgeLevel := congrArg (fun e => e.2.2.1) me_230
theorem ml_230 : m_l 230 = 6 := congrArg (fun e => e.2.2.2.1) me_230
theorem mk_230 : m_k 230 = 6 := congrArg (fun e => e.2.2.2.2.2.1) me_230
theorem mn_230 : m_n 230 = 1 := congrArg (fun e => e.2.2.2.2.2.2.1) me_230
theorem mh_230 : m_h 230 = none := congrArg (fun e => e.2.2.2.2.2.2.2) me_230
theorem mo_230 : o_m 230 = 16 := congrArg (fun e => e.1) me_230
theorem me_231 : m_e 231 = e_231 := rfl
theorem mc_231 : m_c 231 = cX7_when := congrArg (fun e => e.2.2.1) me_231
theorem ml_231 : m_l 231 = 4 := congrArg (fun e => e.2.2.2.1) me_231
theorem mk_231 : m_k 231 = 0 := congrArg (fun e => e.2.2.2.2.2.1) me_231
theorem mn_231 : m_n 231 = 0 := congrArg (fun e => e.2.2.2.2.2.2.1) me_231
theorem mh_231 : m_h 231 = none := congrArg (fun e => e.2.2.2.2.2.2.2) me_231
theorem mo_231 : o_m 231 = 16 := congrArg (fun e => e.1) me_231
theorem me_232 : m_e 232 = e_232 := rfl
theorem mc_232 : m_c 232 = cX7_broken := congrArg (fun e => e.2.2.1) me_232
theorem ml_232 : m_l 232 = 3 := congrArg (fun e => e.2.2.2.1) me_232
theorem mk_232 : m_k 232 = 0 := congrArg (fun e => e.2.2.2.2.2.1) me_232
theorem mn_232 : m_n 232 = 1 := congrArg (fun e => e.2.2.2.2.2.2.1) me_232
theorem mh_232 : m_h 232 = none := congrArg (fun e => e.2.2.2.2.2.2.2) me_232
theorem mo_232 : o_m 232 = 16 := congrArg (fun e => e.1) me_232
theorem me_233 : m_e 233 = e_233 := rfl
theorem mc_233 : m_c 233 = cX7_marry := congrArg (fun e => e.2.2.1) me_233
theorem ml_233 : m_l 233 = 3 := congrArg (fun e => e.2.2.2.1) me_233
theorem mk_233 : m_k 233 = 3 := congrArg (fun e => e.2.2.2.2.2.1) me_233
theorem mn_233 : m_n 233 = 2 := congrArg (fun e => e.2.2.2.2.2.2.1) me_233
theorem mh_233 : m_h 233 = none := congrArg (fun e => e.2.2.2.2.2.2.2) me_233
theorem mo_233 : o_m 233 = 16 := congrArg (fun e => e.1) me_233
theorem me_234 : m_e 234 = e_234 := rfl
theorem mc_234 : m_c 234 = cX7_canMarry := congrArg (fun e => e.2.2.1) me_234
theorem ml_234 : m_l 234 = 3 := congrArg (fun e => e.2.2.2.1) me_234
theorem mk_234 : m_k 234 = 3 := congrArg (fun e => e.2.2.2.2.2.1) me_234
theorem mn_234 : m_n 234 = 2 := congrArg (fun e => e.2.2.2.2.2.2.1) me_234
theorem mh_234 : m_h 234 = none := congrArg (fun e => e.2.2.2.2.2.2.2) me_234
theorem mo_234 : o_m 234 = 16 := congrArg (fun e => e.1) me_234
theorem me_235 : m_e 235 = e_235 := rfl
theorem mc_235 : m_c 235 = cX7_marriages := congrArg (fun e => e.2.2.1) me_235
theorem ml_235 : m_l 235 = 1 := congrArg (fun e => e.2.2.2.1) me_235
theorem mk_235 : m_k 235 = 0 := congrArg (fun e => e.2.2.2.2.2.1) me_235
theorem mn_235 : m_n 235 = 0 := congrArg (fun e => e.2.2.2.2.2.2.1) me_235
theorem mh_235 : m_h 235 = none := congrArg (fun e => e.2.2.2.2.2.2.2) me_235
theorem mo_235 : o_m 235 = 16 := congrArg (fun e => e.1) me_235
theorem me_236 : m_e 236 = e_236 := rfl
theorem mc_236 : m_c 236 = cX7_couplesOf := congrArg (fun e => e.2.2.1) me_236
theorem ml_236 : m_l 236 = 6 := congrArg (fun e => e.2.2.2.1) me_236
theorem mk_236 : m_k 236 = 0 := congrArg (fun e => e.2.2.2.2.2.1) me_236
theorem mn_236 : m_n 236 = 1 := congrArg (fun e => e.2.2.2.2.2.2.1) me_236
theorem mh_236 : m_h 236 = none := congrArg (fun e => e.2.2.2.2.2.2.2) me_236
theorem mo_236 : o_m 236 = 16 := congrArg (fun e => e.1) me_236
theorem me_237 : m_e 237 = e_237 := rfl
theorem mc_237 : m_c 237 = cX7_nod := congrArg (fun e => e.2.2.1) me_237
theorem ml_237 : m_l 237 = 4 := congrArg (fun e => e.2.2.2.1) me_237
theorem mk_237 : m_k 237 = 0 := congrArg (fun e => e.2.2.2.2.2.1) me_237
theorem mn_237 : m_n 237 = 2 := congrArg (fun e => e.2.2.2.2.2.2.1) me_237
theorem mh_237 : m_h 237 = none := congrArg (fun e => e.2.2.2.2.2.2.2) me_237
theorem mo_237 : o_m 237 = 16 := congrArg (fun e => e.1) me_237
theorem me_238 : m_e 238 = e_238 := rfl
theorem mc_238 : m_c 238 = cX7_fair := congrArg (fun e => e.2.2.1) me_238
theorem ml_238 : m_l 238 = 3 := congrArg (fun e => e.2.2.2.1) me_238
theorem mk_238 : m_k 238 = 0 := congrArg (fun e => e.2.2.2.2.2.1) me_238
theorem mn_238 : m_n 238 = 0 := congrArg (fun e => e.2.2.2.2.2.2.1) me_238
theorem mh_238 : m_h 238 = none := congrArg (fun e => e.2.2.2.2.2.2.2) me_238
theorem mo_238 : o_m 238 = 16 := congrArg (fun e => e.1) me_238
theorem me_239 : m_e 239 = e_239 := rfl
theorem mc_239 : m_c 239 = cX7_top := congrArg (fun e => e.2.2.1) me_239
theorem ml_239 : m_l 239 = 3 := congrArg (fun e => e.2.2.2.1) me_239
theorem mk_239 : m_k 239 = 0 := congrArg (fun e => e.2.2.2.2.2.1) me_239
theorem mn_239 : m_n 239 = 1 := congrArg (fun e => e.2.2.2.2.2.2.1) me_239
theorem mh_239 : m_h 239 = none := congrArg (fun e => e.2.2.2.2.2.2.2) me_239
theorem mo_239 : o_m 239 = 16 := congrArg (fun e => e.1) me_239
theorem me_240 : m_e 240 = e_240 := rfl
theorem mc_240 : m_c 240 = cX7_hungriest := congrArg (fun e => e.2.2.1) me_240
theorem ml_240 : m_l 240 = 4 := congrArg (fun e => e.2.2.2.1) me_240
theorem mk_240 : m_k 240 = 0 := congrArg (fun e => e.2.2.2.2.2.1) me_240
theorem mn_240 : m_n 240 = 0 := congrArg (fun e => e.2.2.2.2.2.2.1) me_240
theorem mh_240 : m_h 240 = none := congrArg (fun e => e.2.2.2.2.2.2.2) me_240
theorem mo_240 : o_m 240 = 16 := congrArg (fun e => e.1) me_240
theorem me_241 : m_e 241 = e_241 := rfl
theorem mc_241 : m_c 241 = cX7_out := congrArg (fun e => e.2.2.1) me_241
theorem ml_241 : m_l 241 = 5 := congrArg (fun e => e.2.2.2.1) me_241
theorem mk_241 : m_k 241 = 0 := congrArg (fun e => e.2.2.2.2.2.1) me_241
theorem mn_241 : m_n 241 = 1 := congrArg (fun e => e.2.2.2.2.2.2.1) me_241
theorem mh_241 : m_h 241 = none := congrArg (fun e => e.2.2.2.2.2.2.2) me_241
theorem mo_241 : o_m 241 = 16 := congrArg (fun e => e.1) me_241
theorem me_242 : m_e 242 = e_242 := rfl
theorem mc_242 : m_c 242 = cX7_takeOffAll := congrArg (fun e => e.2.2.1) me_242
theorem ml_242 : m_l 242 = 3 := congrArg (fun e => e.2.2.2.1) me_242
theorem mk_242 : m_k 242 = 6 := congrArg (fun e => e.2.2.2.2.2.1) me_242
theorem mn_242 : m_n 242 = 1 := congrArg (fun e => e.2.2.2.2.2.2.1) me_242
theorem mh_242 : m_h 242 = none := congrArg (fun e => e.2.2.2.2.2.2.2) me_242
theorem mo_242 : o_m 242 = 16 := congrArg (fun e => e.1) me_242
theorem me_243 : m_e 243 = e_243 := rfl
theorem mc_243 : m_c 243 = cX7_relief := congrArg (fun e => e.2.2.1) me_243
theorem ml_243 : m_l 243 = 5 := congrArg (fun e => e.2.2.2.1) me_243
theorem mk_243 : m_k 243 = 0 := congrArg (fun e => e.2.2.2.2.2.1) me_243
theorem mn_243 : m_n 243 = 0 := congrArg (fun e => e.2.2.2.2.2.2.1) me_243
theorem mh_243 : m_h 243 = none := congrArg (fun e => e.2.2.2.2.2.2.2) me_243
theorem mo_243 : o_m 243 = 16 := congrArg (fun e => e.1) me_243
theorem me_244 : m_e 244 = e_244 := rfl
theorem mc_244 : m_c 244 = cX7_oneWedge := congrArg (fun e => e.2.2.1) me_244
theorem ml_244 : m_l 244 = 6 := congrArg (fun e => e.2.2.2.1) me_244
theorem mk_244 : m_k 244 = 0 := congrArg (fun e => e.2.2.2.2.2.1) me_244
theorem mn_244 : m_n 244 = 0 := congrArg (fun e => e.2.2.2.2.2.2.1) me_244
theorem mh_244 : m_h 244 = none := congrArg (fun e => e.2.2.2.2.2.2.2) me_244
theorem mo_244 : o_m 244 = 16 := congrArg (fun e => e.1) me_244
theorem me_245 : m_e 245 = e_245 := rfl
theorem mc_245 : m_c 245 = cX7_swap := congrArg (fun e => e.2.2.1) me_245
theorem ml_245 : m_l 245 = 6 := congrArg (fun e => e.2.2.2.1) me_245
theorem mk_245 : m_k 245 = 0 := congrArg (fun e => e.2.2.2.2.2.1) me_245
theorem mn_245 : m_n 245 = 0 := congrArg (fun e => e.2.2.2.2.2.2.1) me_245
theorem mh_245 : m_h 245 = none := congrArg (fun e => e.2.2.2.2.2.2.2) me_245
theorem mo_245 : o_m 245 = 16 := congrArg (fun e => e.1) me_245
theorem me_246 : m_e 246 = e_246 := rfl
theorem mc_246 : m_c 246 = cX7_slack := congrArg (fun e => e.2.2.1) me_246
theorem ml_246 : m_l 246 = 2 := congrArg (fun e => e.2.2.2.1) me_246
theorem mk_246 : m_k 246 = 0 := congrArg (fun e => e.2.2.2.2.2.1) me_246
theorem mn_246 : m_n 246 = 1 := congrArg (fun e => e.2.2.2.2.2.2.1) me_246
theorem mh_246 : m_h 246 = none := congrArg (fun e => e.2.2.2.2.2.2.2) me_246
theorem mo_246 : o_m 246 = 16 := congrArg (fun e => e.1) me_246
theorem me_247 : m_e 247 = e_247 := rfl
theorem mc_247 : m_c 247 = cX7_crooked := congrArg (fun e => e.2.2.1) me_247
theorem ml_247 : m_l 247 = 3 := congrArg (fun e => e.2.2.2.1) me_247
theorem mk_247 : m_k 247 = 0 := congrArg (fun e => e.2.2.2.2.2.1) me_247
theorem mn_247 : m_n 247 = 0 := congrArg (fun e => e.2.2.2.2.2.2.1) me_247
theorem mh_247 : m_h 247 = none := congrArg (fun e => e.2.2.2.2.2.2.2) me_247
theorem mo_247 : o_m 247 = 16 := congrArg (fun e => e.1) me_247
theorem me_248 : m_e 248 = e_248 := rfl
theorem mc_248 : m_c 248 = cX7_see := congrArg (fun e => e.2.2.1) me_248
theorem ml_248 : m_l 248 = 3 := congrArg (fun e => e.2.2.2.1) me_248
theorem mk_248 : m_k 248 = 0 := congrArg (fun e => e.2.2.2.2.2.1) me_248
theorem mn_248 : m_n 248 = 2 := congrArg (fun e => e.2.2.2.2.2.2.1) me_248
theorem mh_248 : m_h 248 = none := congrArg (fun e => e.2.2.2.2.2.2.2) me_248
theorem mo_248 : o_m 248 = 16 := congrArg (fun e => e.1) me_248
theorem me_249 : m_e 249 = e_249 := rfl
theorem mc_249 : m_c 249 = cX7_which := congrArg (fun e => e.2.2.1) me_249
theorem ml_249 : m_l 249 = 2 := congrArg (fun e => e.2.2.2.1) me_249
theorem mk_249 : m_k 249 = 0 := congrArg (fun e => e.2.2.2.2.2.1) me_249
theorem mn_249 : m_n 249 = 1 := congrArg (fun e => e.2.2.2.2.2.2.1) me_249
theorem mh_249 : m_h 249 = none := congrArg (fun e => e.2.2.2.2.2.2.2) me_249
theorem mo_249 : o_m 249 = 16 := congrArg (fun e => e.1) me_249
theorem me_250 : m_e 250 = e_250 := rfl
theorem mc_250 : m_c 250 = cX7_isAsSeen := congrArg (fun e => e.2.2.1) me_250
theorem ml_250 : m_l 250 = 2 := congrArg (fun e => e.2.2.2.1) me_250
theorem mk_250 : m_k 250 = 3 := congrArg (fun e => e.2.2.2.2.2.1) me_250
theorem mn_250 : m_n 250 = 0 := congrArg (fun e => e.2.2.2.2.2.2.1) me_250
theorem mh_250 : m_h 250 = none := congrArg (fun e => e.2.2.2.2.2.2.2) me_250
theorem mo_250 : o_m 250 = 16 := congrArg (fun e => e.1) me_250
theorem me_251 : m_e 251 = e_251 := rfl
theorem mc_251 : m_c 251 = cX7_tellFits := congrArg (fun e => e.2.2.1) me_251
theorem ml_251 : m_l 251 = 5 := congrArg (fun e => e.2.2.2.1) me_251
theorem mk_251 : m_k 251 = 6 := congrArg (fun e => e.2.2.2.2.2.1) me_251
theorem mn_251 : m_n 251 = 0 := congrArg (fun e => e.2.2.2.2.2.2.1) me_251
theorem mh_251 : m_h 251 = none := congrArg (fun e => e.2.2.2.2.2.2.2) me_251
theorem mo_251 : o_m 251 = 16 := congrArg (fun e => e.1) me_251
theorem me_252 : m_e 252 = e_252 := rfl
theorem mc_252 : m_c 252 = cX7_look := congrArg (fun e => e.2.2.1) me_252
theorem ml_252 : m_l 252 = 5 := congrArg (fun e => e.2.2.2.1) me_252
theorem mk_252 : m_k 252 = 0 := congrArg (fun e => e.2.2.2.2.2.1) me_252
theorem mn_252 : m_n 252 = 0 := congrArg (fun e => e.2.2.2.2.2.2.1) me_252
theorem mh_252 : m_h 252 = none := congrArg (fun e => e.2.2.2.2.2.2.2) me_252
theorem mo_252 : o_m 252 = 16 := congrArg (fun e => e.1) me_252
theorem me_253 : m_e 253 = e_253 := rfl
theorem mc_253 : m_c 253 = cX7_unlike := congrArg (fun e => e.2.2.1) me_253
theorem ml_253 : m_l 253 = 8 := congrArg (fun e => e.2.2.2.1) me_253
theorem mk_253 : m_k 253 = 0 := congrArg (fun e => e.2.2.2.2.2.1) me_253
theorem mn_253 : m_n 253 = 1 := congrArg (fun e => e.2.2.2.2.2.2.1) me_253
theorem mh_253 : m_h 253 = none := congrArg (fun e => e.2.2.2.2.2.2.2) me_253
theorem mo_253 : o_m 253 = 16 := congrArg (fun e => e.1) me_253
theorem me_254 : m_e 254 = e_254 := rfl
theorem mc_254 : m_c 254 = cX7_forget := congrArg (fun e => e.2.2.1) me_254
theorem ml_254 : m_l 254 = 1 := congrArg (fun e => e.2.2.2.1) me_254
theorem mk_254 : m_k 254 = 6 := congrArg (fun e => e.2.2.2.2.2.1) me_254
theorem mn_254 : m_n 254 = 0 := congrArg (fun e => e.2.2.2.2.2.2.1) me_254
theorem mh_254 : m_h 254 = none := congrArg (fun e => e.2.2.2.2.2.2.2) me_254
theorem mo_254 : o_m 254 = 16 := congrArg (fun e => e.1) me_254
theorem me_255 : m_e 255 = e_255 := rfl
theorem mc_255 : m_c 255 = cX7_game := congrArg (fun e => e.2.2.1) me_255
theorem ml_255 : m_l 255 = 5 := congrArg (fun e => e.2.2.2.1) me_255
theorem mk_255 : m_k 255 = 0 := congrArg (fun e => e.2.2.2.2.2.1) me_255
theorem mn_255 : m_n 255 = 1 := congrArg (fun e => e.2.2.2.2.2.2.1) me_255
theorem mh_255 : m_h 255 = none := congrArg (fun e => e.2.2.2.2.2.2.2) me_255
theorem mo_255 : o_m 255 = 16 := congrArg (fun e => e.1) me_255
theorem me_256 : m_e 256 = e_256 := rfl
theorem mc_256 : m_c 256 = cX7_rests := congrArg (fun e => e.2.2.1) me_256
theorem ml_256 : m_l 256 = 4 := congrArg (fun e => e.2.2.2.1) me_256
theorem mk_256 : m_k 256 = 3 := congrArg (fun e => e.2.2.2.2.2.1) me_256
theorem mn_256 : m_n 256 = 2 := congrArg (fun e => e.2.2.2.2.2.2.1) me_256
theorem mh_256 : m_h 256 = none := congrArg (fun e => e.2.2.2.2.2.2.2) me_256
theorem mo_256 : o_m 256 = 16 := congrArg (fun e => e.1) me_256
theorem me_257 : m_e 257 = e_257 := rfl
theorem mc_257 : m_c 257 = cX7_gain := congrArg (fun e => e.2.2.1) me_257
theorem ml_257 : m_l 257 = 7 := congrArg (fun e => e.2.2.2.1) me_257
theorem mk_257 : m_k 257 = 0 := congrArg (fun e => e.2.2.2.2.2.1) me_257
theorem mn_257 : m_n 257 = 3 := congrArg (fun e => e.2.2.2.2.2.2.1) me_257
theorem mh_257 : m_h 257 = none := congrArg (fun e => e.2.2.2.2.2.2.2) me_257
theorem mo_257 : o_m 257 = 16 := congrArg (fun e => e.1) me_257
theorem me_258 : m_e 258 = e_258 := rfl
theorem mc_258 : m_c 258 = cX7_decades := congrArg (fun e => e.2.2.1) me_258
theorem ml_258 : m_l 258 = 7 := congrArg (fun e => e.2.2.2.1) me_258
theorem mk_258 : m_k 258 = 0 := congrArg (fun e => e.2.2.2.2.2.1) me_258
theorem mn_258 : m_n 258 = 3 := congrArg (fun e => e.2.2.2.2.2.2.1) me_258
theorem mh_258 : m_h 258 = none := congrArg (fun e => e.2.2.2.2.2.2.2) me_258
theorem mo_258 : o_m 258 = 16 := congrArg (fun e => e.1) me_258
theorem me_259 : m_e 259 = e_259 := rfl
theorem mc_259 : m_c 259 = cX7_aYear := congrArg (fun e => e.2.2.1) me_259
theorem ml_259 : m_l 259 = 3 := congrArg (fun e => e.2.2.2.1) me_259
theorem mk_259 : m_k 259 = 6 := congrArg (fun e => e.2.2.2.2.2.1) me_259
theorem mn_259 : m_n 259 = 0 := congrArg (fun e => e.2.2.2.2.2.2.1) me_259
theorem mh_259 : m_h 259 = none := congrArg (fun e => e.2.2.2.2.2.2.2) me_259
theorem mo_259 : o_m 259 = 16 := congrArg (fun e => e.1) me_259
theorem me_260 : m_e 260 = e_260 := rfl
theorem mc_260 : m_c 260 = cX7_drawOf := congrArg (fun e => e.2.2.1) me_260
theorem ml_260 : m_l 260 = 2 := congrArg (fun e => e.2.2.2.1) me_260
theorem mk_260 : m_k 260 = 0 := congrArg (fun e => e.2.2.2.2.2.1) me_260
theorem mn_260 : m_n 260 = 1 := congrArg (fun e => e.2.2.2.2.2.2.1) me_260
theorem mh_260 : m_h 260 = none := congrArg (fun e => e.2.2.2.2.2.2.2) me_260
theorem mo_260 : o_m 260 = 16 := congrArg (fun e => e.1) me_260
theorem me_261 : m_e 261 = e_261 := rfl
theorem mc_261 : m_c 261 = cX7_image := congrArg (fun e => e.2.2.1) me_261
theorem ml_261 : m_l 261 = 1 := congrArg (fun e => e.2.2.2.1) me_261
theorem mk_261 : m_k 261 = 6 := congrArg (fun e => e.2.2.2.2.2.1) me_261
theorem mn_261 : m_n 261 = 0 := congrArg (fun e => e.2.2.2.2.2.2.1) me_261
theorem mh_261 : m_h 261 = none := congrArg (fun e => e.2.2.2.2.2.2.2) me_261
theorem mo_261 : o_m 261 = 16 := congrArg (fun e => e.1) me_261
theorem me_262 : m_e 262 = e_262 := rfl
theorem mc_262 : m_c 262 = cX7_be := congrArg (fun e => e.2.2.1) me_262
theorem ml_262 : m_l 262 = 3 := congrArg (fun e => e.2.2.2.1) me_262
theorem mk_262 : m_k 262 = 6 := congrArg (fun e => e.2.2.2.2.2.1) me_262
theorem mn_262 : m_n 262 = 2 := congrArg (fun e => e.2.2.2.2.2.2.1) me_262
theorem mh_262 : m_h 262 = none := congrArg (fun e => e.2.2.2.2.2.2.2) me_262
theorem mo_262 : o_m 262 = 16 := congrArg (fun e => e.1) me_262
theorem me_263 : m_e 263 = e_263 := rfl
theorem mc_263 : m_c 263 = cX7_restore := congrArg (fun e => e.2.2.1) me_263
theorem ml_263 : m_l 263 = 1 := congrArg (fun e => e.2.2.2.1) me_263
theorem mk_263 : m_k 263 = 3 := congrArg (fun e => e.2.2.2.2.2.1) me_263
theorem mn_263 : m_n 263 = 0 := congrArg (fun e => e.2.2.2.2.2.2.1) me_263
theorem mh_263 : m_h 263 = none := congrArg (fun e => e.2.2.2.2.2.2.2) me_263
theorem mo_263 : o_m 263 = 16 := congrArg (fun e => e.1) me_263
theorem me_264 : m_e 264 = e_264 := rfl
theorem mc_264 : m_c 264 = cX8_init := congrArg (fun e => e.2.2.1) me_264
theorem ml_264 : m_l 264 = 3 := congrArg (fun e => e.2.2.2.1) me_264
theorem mk_264 : m_k 264 = 6 := congrArg (fun e => e.2.2.2.2.2.1) me_264
theorem mn_264 : m_n 264 = 2 := congrArg (fun e => e.2.2.2.2.2.2.1) me_264
theorem mh_264 : m_h 264 = none := congrArg (fun e => e.2.2.2.2.2.2.2) me_264
theorem mo_264 : o_m 264 = 17 := congrArg (fun e => e.1) me_264
theorem my_264 : (m_y 264).name = "<init>" := congrArg (fun e => e.2.1.name) me_264
theorem me_265 : m_e 265 = e_265 := rfl
theorem mc_265 : m_c 265 = cX8_go := congrArg (fun e => e.2.2.1) me_265
theorem ml_265 : m_l 265 = 3 := congrArg (fun e => e.2.2.2.1) me_265
theorem mk_265 : m_k 265 = 6 := congrArg (fun e => e.2.2.2.2.2.1) me_265
theorem mn_265 : m_n 265 = 0 := congrArg (fun e => e.2.2.2.2.2.2.1) me_265
theorem mh_265 : m_h 265 = none := congrArg (fun e => e.2.2.2.2.2.2.2) me_265
theorem mo_265 : o_m 265 = 17 := congrArg (fun e => e.1) me_265
theorem me_266 : m_e 266 = e_266 := rfl
theorem mc_266 : m_c 266 = cX8_byteAt := congrArg (fun e => e.2.2.1) me_266
theorem ml_266 : m_l 266 = 2 := congrArg (fun e => e.2.2.2.1) me_266
theorem mk_266 : m_k 266 = 0 := congrArg (fun e => e.2.2.2.2.2.1) me_266
theorem mn_266 : m_n 266 = 1 := congrArg (fun e => e.2.2.2.2.2.2.1) me_266
theorem mh_266 : m_h 266 = none := congrArg (fun e => e.2.2.2.2.2.2.2) me_266
theorem mo_266 : o_m 266 = 17 := congrArg (fun e => e.1) me_266
theorem me_267 : m_e 267 = e_267 := rfl
theorem mc_267 : m_c 267 = cX8_isLetter := congrArg (fun e => e.2.2.1) me_267
theorem ml_267 : m_l 267 = 1 := congrArg (fun e => e.2.2.2.1) me_267
theorem mk_267 : m_k 267 = 3 := congrArg (fun e => e.2.2.2.2.2.1) me_267
theorem mn_267 : m_n 267 = 1 := congrArg (fun e => e.2.2.2.2.2.2.1) me_267
theorem mh_267 : m_h 267 = none := congrArg (fun e => e.2.2.2.2.2.2.2) me_267
theorem mo_267 : o_m 267 = 17 := congrArg (fun e => e.1) me_267
theorem me_268 : m_e 268 = e_268 := rfl
theorem mc_268 : m_c 268 = cX8_isDigit := congrArg (fun e => e.2.2.1) me_268
theorem ml_268 : m_l 268 = 1 := congrArg (fun e => e.2.2.2.1) me_268
theorem mk_268 : m_k 268 = 3 := congrArg (fun e => e.2.2.2.2.2.1) me_268
theorem mn_268 : m_n 268 = 1 := congrArg (fun e => e.2.2.2.2.2.2.1) me_268
theorem mh_268 : m_h 268 = none := congrArg (fun e => e.2.2.2.2.2.2.2) me_268
theorem mo_268 : o_m 268 = 17 := congrArg (fun e => e.1) me_268
theorem me_269 : m_e 269 = e_269 := rfl
theorem mc_269 : m_c 269 = cX8_isSign := congrArg (fun e => e.2.2.1) me_269
theorem ml_269 : m_l 269 = 1 := congrArg (fun e => e.2.2.2.1) me_269
theorem mk_269 : m_k 269 = 3 := congrArg (fun e => e.2.2.2.2.2.1) me_269
theorem mn_269 : m_n 269 = 1 := congrArg (fun e => e.2.2.2.2.2.2.1) me_269
theorem mh_269 : m_h 269 = none := congrArg (fun e => e.2.2.2.2.2.2.2) me_269
theorem mo_269 : o_m 269 = 17 := congrArg (fun e => e.1) me_269
theorem me_270 : m_e 270 = e_270 := rfl
theorem mc_270 : m_c 270 = cX8_town := congrArg (fun e => e.2.2.1) me_270
theorem ml_270 : m_l 270 = 2 := congrArg (fun e => e.2.2.2.1) me_270
theorem mk_270 : m_k 270 = 2 := congrArg (fun e => e.2.2.2.2.2.1) me_270
theorem mn_270 : m_n 270 = 0 := congrArg (fun e => e.2.2.2.2.2.2.1) me_270
theorem mh_270 : m_h 270 = none := congrArg (fun e => e.2.2.2.2.2.2.2) me_270
theorem mo_270 : o_m 270 = 17 := congrArg (fun e => e.1) me_270
theorem me_271 : m_e 271 = e_271 := rfl
theorem mc_271 : m_c 271 = cX8_begins := congrArg (fun e => e.2.2.1) me_271
theorem ml_271 : m_l 271 = 3 := congrArg (fun e => e.2.2.2.1) me_271
theorem mk_271 : m_k 271 = 3 := congrArg (fun e => e.2.2.2.2.2.1) me_271
theorem mn_271 : m_n 271 = 2 := congrArg (fun e => e.2.2.2.2.2.2.1) me_271
theorem mh_271 : m_h 271 = none := congrArg (fun e => e.2.2.2.2.2.2.2) me_271
theorem mo_271 : o_m 271 = 17 := congrArg (fun e => e.1) me_271
theorem me_272 : m_e 272 = e_272 := rfl
theorem mc_272 : m_c 272 = cX8_is := congrArg (fun e => e.2.2.1) me_272
theorem ml_272 : m_l 272 = 2 := congrArg (fun e => e.2.2.2.1) me_272
theorem mk_272 : m_k 272 = 3 := congrArg (fun e => e.2.2.2.2.2.1) me_272
theorem mn_272 : m_n 272 = 1 := congrArg (fun e => e.2.2.2.2.2.2.1) me_272
theorem mh_272 : m_h 272 = none := congrArg (fun e => e.2.2.2.2.2.2.2) me_272
theorem mo_272 : o_m 272 = 17 := congrArg (fun e => e.1) me_272
theorem me_273 : m_e 273 = e_273 := rfl
theorem mc_273 : m_c 273 = cX8_check := congrArg (fun e => e.2.2.1) me_273
theorem ml_273 : m_l 273 = 3 := congrArg (fun e => e.2.2.2.1) me_273
theorem mk_273 : m_k 273 = 6 := congrArg (fun e => e.2.2.2.2.2.1) me_273
theorem mn_273 : m_n 273 = 2 := congrArg (fun e => e.2.2.2.2.2.2.1) me_273
theorem mh_273 : m_h 273 = none := congrArg (fun e => e.2.2.2.2.2.2.2) me_273
theorem mo_273 : o_m 273 = 17 := congrArg (fun e => e.1) me_273
theorem me_274 : m_e 274 = e_274 := rfl
theorem mc_274 : m_c 274 = cX8_number := congrArg (fun e => e.2.2.1) me_274
theorem ml_274 : m_l 274 = 4 := congrArg (fun e => e.2.2.2.1) me_274
theorem mk_274 : m_k 274 = 0 := congrArg (fun e => e.2.2.2.2.2.1) me_274
theorem mn_274 : m_n 274 = 2 := congrArg (fun e => e.2.2.2.2.2.2.1) me_274
theorem mh_274 : m_h 274 = none := congrArg (fun e => e.2.2.2.2.2.2.2) me_274
theorem mo_274 : o_m 274 = 17 := congrArg (fun e => e.1) me_274
theorem me_275 : m_e 275 = e_275 := rfl
theorem mc_275 : m_c 275 = cX8_expr := congrArg (fun e => e.2.2.1) me_275
theorem ml_275 : m_l 275 = 3 := congrArg (fun e => e.2.2.2.1) me_275
theorem mk_275 : m_k 275 = 2 := congrArg (fun e => e.2.2.2.2.2.1) me_275
theorem mn_275 : m_n 275 = 1 := congrArg (fun e => e.2.2.2.2.2.2.1) me_275
theorem mh_275 : m_h 275 = none := congrArg (fun e => e.2.2.2.2.2.2.2) me_275
theorem mo_275 : o_m 275 = 17 := congrArg (fun e => e.1) me_275
theorem me_276 : m_e 276 = e_276 := rfl
theorem mc_276 : m_c 276 = cX8_and := congrArg (fun e => e.2.2.1) me_276
theorem ml_276 : m_l 276 = 3 := congrArg (fun e => e.2.2.2.1) me_276
theorem mk_276 : m_k 276 = 2 := congrArg (fun e => e.2.2.2.2.2.1) me_276
theorem mn_276 : m_n 276 = 1 := congrArg (fun e => e.2.2.2.2.2.2.1) me_276
theorem mh_276 : m_h 276 = none := congrArg (fun e => e.2.2.2.2.2.2.2) me_276
theorem mo_276 : o_m 276 = 17 := congrArg (fun e => e.1) me_276
theorem me_277 : m_e 277 = e_277 := rfl
theorem mc_277 : m_c 277 = cX8_not := congrArg (fun e => e.2.2.1) me_277
theorem ml_277 : m_l 277 = 5 := congrArg (fun e => e.2.2.2.1) me_277
theorem mk_277 : m_k 277 = 2 := congrArg (fun e => e.2.2.2.2.2.1) me_277
theorem mn_277 : m_n 277 = 1 := congrArg (fun e => e.2.2.2.2.2.2.1) me_277
theorem mh_277 : m_h 277 = none := congrArg (fun e => e.2.2.2.2.2.2.2) me_277
theorem mo_277 : o_m 277 = 17 := congrArg (fun e => e.1) me_277
theorem me_278 : m_e 278 = e_278 := rfl
theorem mc_278 : m_c 278 = cX8_sum := congrArg (fun e => e.2.2.1) me_278
theorem ml_278 : m_l 278 = 4 := congrArg (fun e => e.2.2.2.1) me_278
theorem mk_278 : m_k 278 = 2 := congrArg (fun e => e.2.2.2.2.2.1) me_278
theorem mn_278 : m_n 278 = 1 := congrArg (fun e => e.2.2.2.2.2.2.1) me_278
theorem mh_278 : m_h 278 = none := congrArg (fun e => e.2.2.2.2.2.2.2) me_278
theorem mo_278 : o_m 278 = 17 := congrArg (fun e => e.1) me_278
theorem me_279 : m_e 279 = e_279 := rfl
theorem mc_279 : m_c 279 = cX8_product := congrArg (fun e => e.2.2.1) me_279
theorem ml_279 : m_l 279 = 4 := congrArg (fun e => e.2.2.2.1) me_279
theorem mk_279 : m_k 279 = 2 := congrArg (fun e => e.2.2.2.2.2.1) me_279
theorem mn_279 : m_n 279 = 1 := congrArg (fun e => e.2.2.2.2.2.2.1) me_279
theorem mh_279 : m_h 279 = none := congrArg (fun e => e.2.2.2.2.2.2.2) me_279
theorem mo_279 : o_m 279 = 17 := congrArg (fun e => e.1) me_279
theorem me_280 : m_e 280 = e_280 := rfl
theorem mc_280 : m_c 280 = cX8_part := congrArg (fun e => e.2.2.1) me_280
theorem ml_280 : m_l 280 = 3 := congrArg (fun e => e.2.2.2.1) me_280
theorem mk_280 : m_k 280 = 2 := congrArg (fun e => e.2.2.2.2.2.1) me_280
theorem mn_280 : m_n 280 = 1 := congrArg (fun e => e.2.2.2.2.2.2.1) me_280
theorem mh_280 : m_h 280 = none := congrArg (fun e => e.2.2.2.2.2.2.2) me_280
theorem mo_280 : o_m 280 = 17 := congrArg (fun e => e.1) me_280
theorem me_281 : m_e 281 = e_281 := rfl
theorem mc_281 : m_c 281 = cX8_need := congrArg (fun e => e.2.2.1) me_281
theorem ml_281 : m_l 281 = 2 := congrArg (fun e => e.2.2.2.1) me_281
theorem mk_281 : m_k 281 = 6 := congrArg (fun e => e.2.2.2.2.2.1) me_281
theorem mn_281 : m_n 281 = 1 := congrArg (fun e => e.2.2.2.2.2.2.1) me_281
theorem mh_281 : m_h 281 = none := congrArg (fun e => e.2.2.2.2.2.2.2) me_281
theorem mo_281 : o_m 281 = 17 := congrArg (fun e => e.1) me_281
theorem me_282 : m_e 282 = e_282 := rfl
theorem mc_282 : m_c 282 = cX8_valueOf := congrArg (fun e => e.2.2.1) me_282
theorem ml_282 : m_l 282 = 1 := congrArg (fun e => e.2.2.2.1) me_282
theorem mk_282 : m_k 282 = 2 := congrArg (fun e => e.2.2.2.2.2.1) me_282
theorem mn_282 : m_n 282 = 1 := congrArg (fun e => e.2.2.2.2.2.2.1) me_282
theorem mh_282 : m_h 282 = none := congrArg (fun e => e.2.2.2.2.2.2.2) me_282
theorem mo_282 : o_m 282 = 17 := congrArg (fun e => e.1) me_282
theorem me_283 : m_e 283 = e_283 := rfl
theorem mc_283 : m_c 283 = cX8_table := congrArg (fun e => e.2.2.1) me_283
theorem ml_283 : m_l 283 = 7 := congrArg (fun e => e.2.2.2.1) me_283
theorem mk_283 : m_k 283 = 2 := congrArg (fun e => e.2.2.2.2.2.1) me_283
theorem mn_283 : m_n 283 = 0 := congrArg (fun e => e.2.2.2.2.2.2.1) me_283
theorem mh_283 : m_h 283 = none := congrArg (fun e => e.2.2.2.2.2.2.2) me_283
theorem mo_283 : o_m 283 = 17 := congrArg (fun e => e.1) me_283
theorem me_284 : m_e 284 = e_284 := rfl
theorem mc_284 : m_c 284 = cX9_init := congrArg (fun e => e.2.2.1) me_284
theorem ml_284 : m_l 284 = 3 := congrArg (fun e => e.2.2.2.1) me_284
theorem mk_284 : m_k 284 = 6 := congrArg (fun e => e.2.2.2.2.2.1) me_284
theorem mn_284 : m_n 284 = 2 := congrArg (fun e => e.2.2.2.2.2.2.1) me_284
theorem mh_284 : m_h 284 = none := congrArg (fun e => e.2.2.2.2.2.2.2) me_284
theorem mo_284 : o_m 284 = 18 := congrArg (fun e => e.1) me_284
theorem my_284 : (m_y 284).name = "<init>" := congrArg (fun e => e.2.1.name) me_284
theorem me_285 : m_e 285 = e_285 := rfl
theorem mc_285 : m_c 285 = cJ0_init := congrArg (fun e => e.2.2.1) me_285
theorem ml_285 : m_l 285 = 1 := congrArg (fun e => e.2.2.2.1) me_285
theorem mk_285 : m_k 285 = 6 := congrArg (fun e => e.2.2.2.2.2.1) me_285
theorem mn_285 : m_n 285 = 0 := congrArg (fun e => e.2.2.2.2.2.2.1) me_285
theorem mh_285 : m_h 285 = none := congrArg (fun e => e.2.2.2.2.2.2.2) me_285
theorem mo_285 : o_m 285 = 19 := congrArg (fun e => e.1) me_285
theorem me_286 : m_e 286 = e_286 := rfl
theorem mc_286 : m_c 286 = cJ1_init := congrArg (fun e => e.2.2.1) me_286
theorem ml_286 : m_l 286 = 1 := congrArg (fun e => e.2.2.2.1) me_286
theorem mk_286 : m_k 286 = 6 := congrArg (fun e => e.2.2.2.2.2.1) me_286
theorem mn_286 : m_n 286 = 0 := congrArg (fun e => e.2.2.2.2.2.2.1) me_286
theorem mh_286 : m_h 286 = none := congrArg (fun e => e.2.2.2.2.2.2.2) me_286
theorem mo_286 : o_m 286 = 20 := congrArg (fun e => e.1) me_286
theorem me_287 : m_e 287 = e_287 := rfl
theorem mc_287 : m_c 287 = cJ11_newLength := congrArg (fun e => e.2.2.1) me_287
theorem ml_287 : m_l 287 = 4 := congrArg (fun e => e.2.2.2.1) me_287
theorem mk_287 : m_k 287 = 0 := congrArg (fun e => e.2.2.2.2.2.1) me_287
theorem mn_287 : m_n 287 = 3 := congrArg (fun e => e.2.2.2.2.2.2.1) me_287
theorem mh_287 : m_h 287 = none := congrArg (fun e => e.2.2.2.2.2.2.2) me_287
theorem mo_287 : o_m 287 = 21 := congrArg (fun e => e.1) me_287
theorem me_288 : m_e 288 = e_288 := rfl
theorem mc_288 : m_c 288 = cJ13_copyOf := congrArg (fun e => e.2.2.1) me_288
theorem ml_288 : m_l 288 = 3 := congrArg (fun e => e.2.2.2.1) me_288
theorem mk_288 : m_k 288 = 2 := congrArg (fun e => e.2.2.2.2.2.1) me_288
theorem mn_288 : m_n 288 = 2 := congrArg (fun e => e.2.2.2.2.2.2.1) me_288
theorem mh_288 : m_h 288 = none := congrArg (fun e => e.2.2.2.2.2.2.2) me_288
theorem mo_288 : o_m 288 = 22 := congrArg (fun e => e.1) me_288
theorem me_289 : m_e 289 = e_289 := rfl
theorem mc_289 : m_c 289 = cJ13_copyOfRange := congrArg (fun e => e.2.2.1) me_289
theorem ml_289 : m_l 289 = 3 := congrArg (fun e => e.2.2.2.1) me_289
theorem mk_289 : m_k 289 = 2 := congrArg (fun e => e.2.2.2.2.2.1) me_289
theorem mn_289 : m_n 289 = 3 := congrArg (fun e => e.2.2.2.2.2.2.1) me_289
theorem mh_289 : m_h 289 = none := congrArg (fun e => e.2.2.2.2.2.2.2) me_289
theorem mo_289 : o_m 289 = 22 := congrArg (fun e => e.1) me_289
theorem me_290 : m_e 290 = e_290 := rfl
theorem mc_290 : m_c 290 = cJ13_copyOfRangeByte := congrArg (fun e => e.2.2.1) me_290
theorem ml_290 : m_l 290 = 5 := congrArg (fun e => e.2.2.2.1) me_290
theorem mk_290 : m_k 290 = 2 := congrArg (fun e => e.2.2.2.2.2.1) me_290
theorem mn_290 : m_n 290 = 3 := congrArg (fun e => e.2.2.2.2.2.2.1) me_290
theorem mh_290 : m_h 290 = none := congrArg (fun e => e.2.2.2.2.2.2.2) me_290
theorem mo_290 : o_m 290 = 22 := congrArg (fun e => e.1) me_290
theorem me_291 : m_e 291 = e_291 := rfl
theorem mc_291 : m_c 291 = cJ13_checkLength := congrArg (fun e => e.2.2.1) me_291
theorem ml_291 : m_l 291 = 2 := congrArg (fun e => e.2.2.2.1) me_291
theorem mk_291 : m_k 291 = 6 := congrArg (fun e => e.2.2.2.2.2.1) me_291
theorem mn_291 : m_n 291 = 2 := congrArg (fun e => e.2.2.2.2.2.2.1) me_291
theorem mh_291 : m_h 291 = none := congrArg (fun e => e.2.2.2.2.2.2.2) me_291
theorem mo_291 : o_m 291 = 22 := congrArg (fun e => e.1) me_291
theorem me_292 : m_e 292 = e_292 := rfl
theorem mc_292 : m_c 292 = cJ13_copyOf_2 := congrArg (fun e => e.2.2.1) me_292
theorem ml_292 : m_l 292 = 2 := congrArg (fun e => e.2.2.2.1) me_292
theorem mk_292 : m_k 292 = 2 := congrArg (fun e => e.2.2.2.2.2.1) me_292
theorem mn_292 : m_n 292 = 2 := congrArg (fun e => e.2.2.2.2.2.2.1) me_292
theorem mh_292 : m_h 292 = none := congrArg (fun e => e.2.2.2.2.2.2.2) me_292
theorem mo_292 : o_m 292 = 22 := congrArg (fun e => e.1) me_292
theorem me_293 : m_e 293 = e_293 := rfl
theorem mc_293 : m_c 293 = cJ13_copyOf_3 := congrArg (fun e => e.2.2.1) me_293
theorem ml_293 : m_l 293 = 4 := congrArg (fun e => e.2.2.2.1) me_293
theorem mk_293 : m_k 293 = 2 := congrArg (fun e => e.2.2.2.2.2.1) me_293
theorem mn_293 : m_n 293 = 3 := congrArg (fun e => e.2.2.2.2.2.2.1) me_293
theorem mh_293 : m_h 293 = none := congrArg (fun e => e.2.2.2.2.2.2.2) me_293
theorem mo_293 : o_m 293 = 22 := congrArg (fun e => e.1) me_293
theorem me_294 : m_e 294 = e_294 := rfl
theorem mc_294 : m_c 294 = cJ14_checkFromToIndex := congrArg (fun e => e.2.2.1) me_294
theorem ml_294 : m_l 294 = 4 := congrArg (fun e => e.2.2.2.1) me_294
theorem mk_294 : m_k 294 = 0 := congrArg (fun e => e.2.2.2.2.2.1) me_294
theorem mn_294 : m_n 294 = 4 := congrArg (fun e => e.2.2.2.2.2.2.1) me_294
theorem mh_294 : m_h 294 = none := congrArg (fun e => e.2.2.2.2.2.2.2) me_294
theorem mo_294 : o_m 294 = 23 := congrArg (fun e => e.1) me_294
theorem me_295 : m_e 295 = e_295 := rfl
theorem mc_295 : m_c 295 = cJ14_checkFromIndexSize := congrArg (fun e => e.2.2.1) me_295
theorem ml_295 : m_l 295 = 4 := congrArg (fun e => e.2.2.2.1) me_295
theorem mk_295 : m_k 295 = 0 := congrArg (fun e => e.2.2.2.2.2.1) me_295
theorem mn_295 : m_n 295 = 4 := congrArg (fun e => e.2.2.2.2.2.2.1) me_295
theorem mh_295 : m_h 295 = none := congrArg (fun e => e.2.2.2.2.2.2.2) me_295
theorem mo_295 : o_m 295 = 23 := congrArg (fun e => e.1) me_295
theorem me_296 : m_e 296 = e_296 := rfl
theorem mc_296 : m_c 296 = cJ14_checkIndex := congrArg (fun e => e.2.2.1) me_296
theorem ml_296 : m_l 296 = 3 := congrArg (fun e => e.2.2.2.1) me_296
theorem mk_296 : m_k 296 = 0 := congrArg (fun e => e.2.2.2.2.2.1) me_296
theorem mn_296 : m_n 296 = 3 := congrArg (fun e => e.2.2.2.2.2.2.1) me_296
theorem mh_296 : m_h 296 = none := congrArg (fun e => e.2.2.2.2.2.2.2) me_296
theorem mo_296 : o_m 296 = 23 := congrArg (fun e => e.1) me_296
theorem me_297 : m_e 297 = e_297 := rfl
theorem mc_297 : m_c 297 = cJ15_canEncode := congrArg (fun e => e.2.2.1) me_297
theorem ml_297 : m_l 297 = 1 := congrArg (fun e => e.2.2.2.1) me_297
theorem mk_297 : m_k 297 = 3 := congrArg (fun e => e.2.2.2.2.2.1) me_297
theorem mn_297 : m_n 297 = 1 := congrArg (fun e => e.2.2.2.2.2.2.1) me_297
theorem mh_297 : m_h 297 = none := congrArg (fun e => e.2.2.2.2.2.2.2) me_297
theorem mo_297 : o_m 297 = 24 := congrArg (fun e => e.1) me_297
theorem me_298 : m_e 298 = e_298 := rfl
theorem mc_298 : m_c 298 = cJ15_toBytes := congrArg (fun e => e.2.2.1) me_298
theorem ml_298 : m_l 298 = 1 := congrArg (fun e => e.2.2.2.1) me_298
theorem mk_298 : m_k 298 = 2 := congrArg (fun e => e.2.2.2.2.2.1) me_298
theorem mn_298 : m_n 298 = 1 := congrArg (fun e => e.2.2.2.2.2.2.1) me_298
theorem mh_298 : m_h 298 = none := congrArg (fun e => e.2.2.2.2.2.2.2) me_298
theorem mo_298 : o_m 298 = 24 := congrArg (fun e => e.1) me_298
theorem me_299 : m_e 299 = e_299 := rfl
theorem mc_299 : m_c 299 = cJ15_equals := congrArg (fun e => e.2.2.1) me_299
theorem ml_299 : m_l 299 = 3 := congrArg (fun e => e.2.2.2.1) me_299
theorem mk_299 : m_k 299 = 3 := congrArg (fun e => e.2.2.2.2.2.1) me_299
theorem mn_299 : m_n 299 = 2 := congrArg (fun e => e.2.2.2.2.2.2.1) me_299
theorem mh_299 : m_h 299 = none := congrArg (fun e => e.2.2.2.2.2.2.2) me_299
theorem mo_299 : o_m 299 = 24 := congrArg (fun e => e.1) me_299
theorem me_300 : m_e 300 = e_300 := rfl
theorem mc_300 : m_c 300 = cJ15_charAt := congrArg (fun e => e.2.2.1) me_300
theorem ml_300 : m_l 300 = 2 := congrArg (fun e => e.2.2.2.1) me_300
theorem mk_300 : m_k 300 = 5 := congrArg (fun e => e.2.2.2.2.2.1) me_300
theorem mn_300 : m_n 300 = 2 := congrArg (fun e => e.2.2.2.2.2.2.1) me_300
theorem mh_300 : m_h 300 = none := congrArg (fun e => e.2.2.2.2.2.2.2) me_300
theorem mo_300 : o_m 300 = 24 := congrArg (fun e => e.1) me_300
theorem me_301 : m_e 301 = e_301 := rfl
theorem mc_301 : m_c 301 = cJ16_stringSize := congrArg (fun e => e.2.2.1) me_301
theorem ml_301 : m_l 301 = 4 := congrArg (fun e => e.2.2.2.1) me_301
theorem mk_301 : m_k 301 = 0 := congrArg (fun e => e.2.2.2.2.2.1) me_301
theorem mn_301 : m_n 301 = 1 := congrArg (fun e => e.2.2.2.2.2.2.1) me_301
theorem mh_301 : m_h 301 = none := congrArg (fun e => e.2.2.2.2.2.2.2) me_301
theorem mo_301 : o_m 301 = 25 := congrArg (fun e => e.1) me_301
theorem me_302 : m_e 302 = e_302 := rfl
theorem mc_302 : m_c 302 = cJ16_getChars := congrArg (fun e => e.2.2.1) me_302
theorem ml_302 : m_l 302 = 7 := congrArg (fun e => e.2.2.2.1) me_302
theorem mk_302 : m_k 302 = 0 := congrArg (fun e => e.2.2.2.2.2.1) me_302
theorem mn_302 : m_n 302 = 3 := congrArg (fun e => e.2.2.2.2.2.2.1) me_302
theorem mh_302 : m_h 302 = none := congrArg (fun e => e.2.2.2.2.2.2.2) me_302
theorem mo_302 : o_m 302 = 25 := congrArg (fun e => e.1) me_302
theorem me_303 : m_e 303 = e_303 := rfl
theorem mc_303 : m_c 303 = cJ16_bitCount := congrArg (fun e => e.2.2.1) me_303
theorem ml_303 : m_l 303 = 1 := congrArg (fun e => e.2.2.2.1) me_303
theorem mk_303 : m_k 303 = 0 := congrArg (fun e => e.2.2.2.2.2.1) me_303
theorem mn_303 : m_n 303 = 1 := congrArg (fun e => e.2.2.2.2.2.2.1) me_303
theorem mh_303 : m_h 303 = none := congrArg (fun e => e.2.2.2.2.2.2.2) me_303
theorem mo_303 : o_m 303 = 25 := congrArg (fun e => e.1) me_303
theorem me_304 : m_e 304 = e_304 := rfl
theorem mc_304 : m_c 304 = cJ16_numberOfTrailingZeros := congrArg (fun e => e.2.2.1) me_304
theorem ml_304 : m_l 304 = 2 := congrArg (fun e => e.2.2.2.1) me_304
theorem mk_304 : m_k 304 = 0 := congrArg (fun e => e.2.2.2.2.2.1) me_304
theorem mn_304 : m_n 304 = 1 := congrArg (fun e => e.2.2.2.2.2.2.1) me_304
theorem mh_304 : m_h 304 = none := congrArg (fun e => e.2.2.2.2.2.2.2) me_304
theorem mo_304 : o_m 304 = 25 := congrArg (fun e => e.1) me_304
theorem me_305 : m_e 305 = e_305 := rfl
theorem mc_305 : m_c 305 = cJ17_ordinal := congrArg (fun e => e.2.2.1) me_305
theorem ml_305 : m_l 305 = 1 := congrArg (fun e => e.2.2.2.1) me_305
theorem mk_305 : m_k 305 = 0 := congrArg (fun e => e.2.2.2.2.2.1) me_305
theorem mn_305 : m_n 305 = 0 := congrArg (fun e => e.2.2.2.2.2.2.1) me_305
theorem mh_305 : m_h 305 = none := congrArg (fun e => e.2.2.2.2.2.2.2) me_305
theorem mo_305 : o_m 305 = 26 := congrArg (fun e => e.1) me_305
theorem me_306 : m_e 306 = e_306 := rfl
theorem mc_306 : m_c 306 = cJ18_checkIndex := congrArg (fun e => e.2.2.1) me_306
theorem ml_306 : m_l 306 = 2 := congrArg (fun e => e.2.2.2.1) me_306
theorem mk_306 : m_k 306 = 0 := congrArg (fun e => e.2.2.2.2.2.1) me_306
theorem mn_306 : m_n 306 = 2 := congrArg (fun e => e.2.2.2.2.2.2.1) me_306
theorem mh_306 : m_h 306 = none := congrArg (fun e => e.2.2.2.2.2.2.2) me_306
theorem mo_306 : o_m 306 = 27 := congrArg (fun e => e.1) me_306
theorem me_307 : m_e 307 = e_307 := rfl
theorem mc_307 : m_c 307 = cJ2_init := congrArg (fun e => e.2.2.1) me_307
theorem ml_307 : m_l 307 = 2 := congrArg (fun e => e.2.2.2.1) me_307
theorem mk_307 : m_k 307 = 6 := congrArg (fun e => e.2.2.2.2.2.1) me_307
theorem mn_307 : m_n 307 = 1 := congrArg (fun e => e.2.2.2.2.2.2.1) me_307
theorem mh_307 : m_h 307 = none := congrArg (fun e => e.2.2.2.2.2.2.2) me_307
theorem mo_307 : o_m 307 = 28 := congrArg (fun e => e.1) me_307
theorem me_308 : m_e 308 = e_308 := rfl
theorem mc_308 : m_c 308 = cJ2_add := congrArg (fun e => e.2.2.1) me_308
theorem ml_308 : m_l 308 = 2 := congrArg (fun e => e.2.2.2.1) me_308
theorem mk_308 : m_k 308 = 3 := congrArg (fun e => e.2.2.2.2.2.1) me_308
theorem mn_308 : m_n 308 = 1 := congrArg (fun e => e.2.2.2.2.2.2.1) me_308
theorem mh_308 : m_h 308 = none := congrArg (fun e => e.2.2.2.2.2.2.2) me_308
theorem mo_308 : o_m 308 = 28 := congrArg (fun e => e.1) me_308
theorem me_309 : m_e 309 = e_309 := rfl
theorem mc_309 : m_c 309 = cJ2_add_2 := congrArg (fun e => e.2.2.1) me_309
theorem ml_309 : m_l 309 = 4 := congrArg (fun e => e.2.2.2.1) me_309
theorem mk_309 : m_k 309 = 6 := congrArg (fun e => e.2.2.2.2.2.1) me_309
theorem mn_309 : m_n 309 = 3 := congrArg (fun e => e.2.2.2.2.2.2.1) me_309
theorem mh_309 : m_h 309 = none := congrArg (fun e => e.2.2.2.2.2.2.2) me_309
theorem mo_309 : o_m 309 = 28 := congrArg (fun e => e.1) me_309
theorem me_310 : m_e 310 = e_310 := rfl
theorem mc_310 : m_c 310 = cJ2_grow := congrArg (fun e => e.2.2.1) me_310
theorem ml_310 : m_l 310 = 1 := congrArg (fun e => e.2.2.2.1) me_310
theorem mk_310 : m_k 310 = 2 := congrArg (fun e => e.2.2.2.2.2.1) me_310
theorem mn_310 : m_n 310 = 0 := congrArg (fun e => e.2.2.2.2.2.2.1) me_310
theorem mh_310 : m_h 310 = none := congrArg (fun e => e.2.2.2.2.2.2.2) me_310
theorem mo_310 : o_m 310 = 28 := congrArg (fun e => e.1) me_310
theorem me_311 : m_e 311 = e_311 := rfl
theorem mc_311 : m_c 311 = cJ2_grow_2 := congrArg (fun e => e.2.2.1) me_311
theorem ml_311 : m_l 311 = 4 := congrArg (fun e => e.2.2.2.1) me_311
theorem mk_311 : m_k 311 = 2 := congrArg (fun e => e.2.2.2.2.2.1) me_311
theorem mn_311 : m_n 311 = 1 := congrArg (fun e => e.2.2.2.2.2.2.1) me_311
theorem mh_311 : m_h 311 = none := congrArg (fun e => e.2.2.2.2.2.2.2) me_311
theorem mo_311 : o_m 311 = 28 := congrArg (fun e => e.1) me_311
theorem me_312 : m_e 312 = e_312 := rfl
theorem mc_312 : m_c 312 = cJ2_size := congrArg (fun e => e.2.2.1) me_312
theorem ml_312 : m_l 312 = 1 := congrArg (fun e => e.2.2.2.1) me_312
theorem mk_312 : m_k 312 = 0 := congrArg (fun e => e.2.2.2.2.2.1) me_312
theorem mn_312 : m_n 312 = 0 := congrArg (fun e => e.2.2.2.2.2.2.1) me_312
theorem mh_312 : m_h 312 = none := congrArg (fun e => e.2.2.2.2.2.2.2) me_312
theorem mo_312 : o_m 312 = 28 := congrArg (fun e => e.1) me_312
theorem me_313 : m_e 313 = e_313 := rfl
theorem mc_313 : m_c 313 = cJ2_get := congrArg (fun e => e.2.2.1) me_313
theorem ml_313 : m_l 313 = 2 := congrArg (fun e => e.2.2.2.1) me_313
theorem mk_313 : m_k 313 = 2 := congrArg (fun e => e.2.2.2.2.2.1) me_313
theorem mn_313 : m_n 313 = 1 := congrArg (fun e => e.2.2.2.2.2.2.1) me_313
theorem mh_313 : m_h 313 = none := congrArg (fun e => e.2.2.2.2.2.2.2) me_313
theorem mo_313 : o_m 313 = 28 := congrArg (fun e => e.1) me_313
theorem me_314 : m_e 314 = e_314 := rfl
theorem mc_314 : m_c 314 = cJ2_elementData := congrArg (fun e => e.2.2.1) me_314
theorem ml_314 : m_l 314 = 2 := congrArg (fun e => e.2.2.2.1) me_314
theorem mk_314 : m_k 314 = 2 := congrArg (fun e => e.2.2.2.2.2.1) me_314
theorem mn_314 : m_n 314 = 1 := congrArg (fun e => e.2.2.2.2.2.2.1) me_314
theorem mh_314 : m_h 314 = none := congrArg (fun e => e.2.2.2.2.2.2.2) me_314
theorem mo_314 : o_m 314 = 28 := congrArg (fun e => e.1) me_314
theorem me_315 : m_e 315 = e_315 := rfl
theorem mc_315 : m_c 315 = cJ2_remove := congrArg (fun e => e.2.2.1) me_315
theorem ml_315 : m_l 315 = 4 := congrArg (fun e => e.2.2.2.1) me_315
theorem mk_315 : m_k 315 = 2 := congrArg (fun e => e.2.2.2.2.2.1) me_315
theorem mn_315 : m_n 315 = 1 := congrArg (fun e => e.2.2.2.2.2.2.1) me_315
theorem mh_315 : m_h 315 = none := congrArg (fun e => e.2.2.2.2.2.2.2) me_315
theorem mo_315 : o_m 315 = 28 := congrArg (fun e => e.1) me_315
theorem me_316 : m_e 316 = e_316 := rfl
theorem mc_316 : m_c 316 = cJ2_fastRemove := congrArg (fun e => e.2.2.1) me_316
theorem ml_316 : m_l 316 = 4 := congrArg (fun e => e.2.2.2.1) me_316
theorem mk_316 : m_k 316 = 6 := congrArg (fun e => e.2.2.2.2.2.1) me_316
theorem mn_316 : m_n 316 = 2 := congrArg (fun e => e.2.2.2.2.2.2.1) me_316
theorem mh_316 : m_h 316 = none := congrArg (fun e => e.2.2.2.2.2.2.2) me_316
theorem mo_316 : o_m 316 = 28 := congrArg (fun e => e.1) me_316
theorem me_317 : m_e 317 = e_317 := rfl
theorem mc_317 : m_c 317 = cJ7_init := congrArg (fun e => e.2.2.1) me_317
theorem ml_317 : m_l 317 = 2 := congrArg (fun e => e.2.2.2.1) me_317
theorem mk_317 : m_k 317 = 6 := congrArg (fun e => e.2.2.2.2.2.1) me_317
theorem mn_317 : m_n 317 = 1 := congrArg (fun e => e.2.2.2.2.2.2.1) me_317
theorem mh_317 : m_h 317 = none := congrArg (fun e => e.2.2.2.2.2.2.2) me_317
theorem mo_317 : o_m 317 = 29 := congrArg (fun e => e.1) me_317
theorem me_318 : m_e 318 = e_318 := rfl
theorem mc_318 : m_c 318 = cJ7_append := congrArg (fun e => e.2.2.1) me_318
theorem ml_318 : m_l 318 = 3 := congrArg (fun e => e.2.2.2.1) me_318
theorem mk_318 : m_k 318 = 2 := congrArg (fun e => e.2.2.2.2.2.1) me_318
theorem mn_318 : m_n 318 = 1 := congrArg (fun e => e.2.2.2.2.2.2.1) me_318
theorem mh_318 : m_h 318 = none := congrArg (fun e => e.2.2.2.2.2.2.2) me_318
theorem mo_318 : o_m 318 = 29 := congrArg (fun e => e.1) me_318
theorem me_319 : m_e 319 = e_319 := rfl
theorem mc_319 : m_c 319 = cJ7_appendNull := congrArg (fun e => e.2.2.1) me_319
theorem ml_319 : m_l 319 = 3 := congrArg (fun e => e.2.2.2.1) me_319
theorem mk_319 : m_k 319 = 2 := congrArg (fun e => e.2.2.2.2.2.1) me_319
theorem mn_319 : m_n 319 = 0 := congrArg (fun e => e.2.2.2.2.2.2.1) me_319
theorem mh_319 : m_h 319 = none := congrArg (fun e => e.2.2.2.2.2.2.2) me_319
theorem mo_319 : o_m 319 = 29 := congrArg (fun e => e.1) me_319
theorem me_320 : m_e 320 = e_320 := rfl
theorem mc_320 : m_c 320 = cJ7_ensureCapacityInternal := congrArg (fun e => e.2.2.1) me_320
theorem ml_320 : m_l 320 = 3 := congrArg (fun e => e.2.2.2.1) me_320
theorem mk_320 : m_k 320 = 6 := congrArg (fun e => e.2.2.2.2.2.1) me_320
theorem mn_320 : m_n 320 = 1 := congrArg (fun e => e.2.2.2.2.2.2.1) me_320
theorem mh_320 : m_h 320 = none := congrArg (fun e => e.2.2.2.2.2.2.2) me_320
theorem mo_320 : o_m 320 = 29 := congrArg (fun e => e.1) me_320
theorem me_321 : m_e 321 = e_321 := rfl
theorem mc_321 : m_c 321 = cJ7_newCapacity := congrArg (fun e => e.2.2.1) me_321
theorem ml_321 : m_l 321 = 6 := congrArg (fun e => e.2.2.2.1) me_321
theorem mk_321 : m_k 321 = 0 := congrArg (fun e => e.2.2.2.2.2.1) me_321
theorem mn_321 : m_n 321 = 1 := congrArg (fun e => e.2.2.2.2.2.2.1) me_321
theorem mh_321 : m_h 321 = none := congrArg (fun e => e.2.2.2.2.2.2.2) me_321
theorem mo_321 : o_m 321 = 29 := congrArg (fun e => e.1) me_321
theorem me_322 : m_e 322 = e_322 := rfl
theorem mc_322 : m_c 322 = cJ7_isLatin1 := congrArg (fun e => e.2.2.1) me_322
theorem ml_322 : m_l 322 = 1 := congrArg (fun e => e.2.2.2.1) me_322
theorem mk_322 : m_k 322 = 3 := congrArg (fun e => e.2.2.2.2.2.1) me_322
theorem mn_322 : m_n 322 = 0 := congrArg (fun e => e.2.2.2.2.2.2.1) me_322
theorem mh_322 : m_h 322 = none := congrArg (fun e => e.2.2.2.2.2.2.2) me_322
theorem mo_322 : o_m 322 = 29 := congrArg (fun e => e.1) me_322
theorem me_323 : m_e 323 = e_323 := rfl
theorem mc_323 : m_c 323 = cJ7_putStringAt := congrArg (fun e => e.2.2.1) me_323
theorem ml_323 : m_l 323 = 3 := congrArg (fun e => e.2.2.2.1) me_323
theorem mk_323 : m_k 323 = 6 := congrArg (fun e => e.2.2.2.2.2.1) me_323
theorem mn_323 : m_n 323 = 2 := congrArg (fun e => e.2.2.2.2.2.2.1) me_323
theorem mh_323 : m_h 323 = none := congrArg (fun e => e.2.2.2.2.2.2.2) me_323
theorem mo_323 : o_m 323 = 29 := congrArg (fun e => e.1) me_323
theorem me_324 : m_e 324 = e_324 := rfl
theorem mc_324 : m_c 324 = cJ7_inflateIfNeededFor := congrArg (fun e => e.2.2.1) me_324
theorem ml_324 : m_l 324 = 2 := congrArg (fun e => e.2.2.2.1) me_324
theorem mk_324 : m_k 324 = 6 := congrArg (fun e => e.2.2.2.2.2.1) me_324
theorem mn_324 : m_n 324 = 1 := congrArg (fun e => e.2.2.2.2.2.2.1) me_324
theorem mh_324 : m_h 324 = none := congrArg (fun e => e.2.2.2.2.2.2.2) me_324
theorem mo_324 : o_m 324 = 29 := congrArg (fun e => e.1) me_324
theorem me_325 : m_e 325 = e_325 := rfl
theorem mc_325 : m_c 325 = cJ7_inflate := congrArg (fun e => e.2.2.1) me_325
theorem ml_325 : m_l 325 = 2 := congrArg (fun e => e.2.2.2.1) me_325
theorem mk_325 : m_k 325 = 6 := congrArg (fun e => e.2.2.2.2.2.1) me_325
theorem mn_325 : m_n 325 = 0 := congrArg (fun e => e.2.2.2.2.2.2.1) me_325
theorem mh_325 : m_h 325 = none := congrArg (fun e => e.2.2.2.2.2.2.2) me_325
theorem mo_325 : o_m 325 = 29 := congrArg (fun e => e.1) me_325
theorem me_326 : m_e 326 = e_326 := rfl
theorem mc_326 : m_c 326 = cJ7_append_2 := congrArg (fun e => e.2.2.1) me_326
theorem ml_326 : m_l 326 = 4 := congrArg (fun e => e.2.2.2.1) me_326
theorem mk_326 : m_k 326 = 2 := congrArg (fun e => e.2.2.2.2.2.1) me_326
theorem mn_326 : m_n 326 = 1 := congrArg (fun e => e.2.2.2.2.2.2.1) me_326
theorem mh_326 : m_h 326 = none := congrArg (fun e => e.2.2.2.2.2.2.2) me_326
theorem mo_326 : o_m 326 = 29 := congrArg (fun e => e.1) me_326
theorem me_327 : m_e 327 = e_327 := rfl
theorem mc_327 : m_c 327 = cJ7_getValue := congrArg (fun e => e.2.2.1) me_327
theorem ml_327 : m_l 327 = 1 := congrArg (fun e => e.2.2.2.1) me_327
theorem mk_327 : m_k 327 = 2 := congrArg (fun e => e.2.2.2.2.2.1) me_327
theorem mn_327 : m_n 327 = 0 := congrArg (fun e => e.2.2.2.2.2.2.1) me_327
theorem mh_327 : m_h 327 = none := congrArg (fun e => e.2.2.2.2.2.2.2) me_327
theorem mo_327 : o_m 327 = 29 := congrArg (fun e => e.1) me_327
theorem me_328 : m_e 328 = e_328 := rfl
theorem mc_328 : m_c 328 = cJ7_length := congrArg (fun e => e.2.2.1) me_328
theorem ml_328 : m_l 328 = 1 := congrArg (fun e => e.2.2.2.1) me_328
theorem mk_328 : m_k 328 = 0 := congrArg (fun e => e.2.2.2.2.2.1) me_328
theorem mn_328 : m_n 328 = 0 := congrArg (fun e => e.2.2.2.2.2.2.1) me_328
theorem mh_328 : m_h 328 = none := congrArg (fun e => e.2.2.2.2.2.2.2) me_328
theorem mo_328 : o_m 328 = 29 := congrArg (fun e => e.1) me_328
theorem me_329 : m_e 329 = e_329 := rfl
theorem mc_329 : m_c 329 = cJ7_append_3 := congrArg (fun e => e.2.2.1) me_329
theorem ml_329 : m_l 329 = 2 := congrArg (fun e => e.2.2.2.1) me_329
theorem mk_329 : m_k 329 = 2 := congrArg (fun e => e.2.2.2.2.2.1) me_329
theorem mn_329 : m_n 329 = 1 := congrArg (fun e => e.2.2.2.2.2.2.1) me_329
theorem mh_329 : m_h 329 = none := congrArg (fun e => e.2.2.2.2.2.2.2) me_329
theorem mo_329 : o_m 329 = 29 := congrArg (fun e => e.1) me_329
theorem me_330 : m_e 330 = e_330 := rfl
theorem mc_330 : m_c 330 = cJ8_init := congrArg (fun e => e.2.2.1) me_330
theorem ml_330 : m_l 330 = 1 := congrArg (fun e => e.2.2.2.1) me_330
theorem mk_330 : m_k 330 = 6 := congrArg (fun e => e.2.2.2.2.2.1) me_330
theorem mn_330 : m_n 330 = 0 := congrArg (fun e => e.2.2.2.2.2.2.1) me_330
theorem mh_330 : m_h 330 = none := congrArg (fun e => e.2.2.2.2.2.2.2) me_330
theorem mo_330 : o_m 330 = 30 := congrArg (fun e => e.1) me_330
theorem me_331 : m_e 331 = e_331 := rfl
theorem mc_331 : m_c 331 = cJ8_append := congrArg (fun e => e.2.2.1) me_331
theorem ml_331 : m_l 331 = 2 := congrArg (fun e => e.2.2.2.1) me_331
theorem mk_331 : m_k 331 = 2 := congrArg (fun e => e.2.2.2.2.2.1) me_331
theorem mn_331 : m_n 331 = 1 := congrArg (fun e => e.2.2.2.2.2.2.1) me_331
theorem mh_331 : m_h 331 = none := congrArg (fun e => e.2.2.2.2.2.2.2) me_331
theorem mo_331 : o_m 331 = 30 := congrArg (fun e => e.1) me_331
theorem me_332 : m_e 332 = e_332 := rfl
theorem mc_332 : m_c 332 = cJ8_append_2 := congrArg (fun e => e.2.2.1) me_332
theorem ml_332 : m_l 332 = 2 := congrArg (fun e => e.2.2.2.1) me_332
theorem mk_332 : m_k 332 = 2 := congrArg (fun e => e.2.2.2.2.2.1) me_332
theorem mn_332 : m_n 332 = 1 := congrArg (fun e => e.2.2.2.2.2.2.1) me_332
theorem mh_332 : m_h 332 = none := congrArg (fun e => e.2.2.2.2.2.2.2) me_332
theorem mo_332 : o_m 332 = 30 := congrArg (fun e => e.1) me_332
theorem me_333 : m_e 333 = e_333 := rfl
theorem mc_333 : m_c 333 = cJ8_toString := congrArg (fun e => e.2.2.1) me_333
theorem ml_333 : m_l 333 = 1 := congrArg (fun e => e.2.2.2.1) me_333
theorem mk_333 : m_k 333 = 2 := congrArg (fun e => e.2.2.2.2.2.1) me_333
theorem mn_333 : m_n 333 = 0 := congrArg (fun e => e.2.2.2.2.2.2.1) me_333
theorem mh_333 : m_h 333 = none := congrArg (fun e => e.2.2.2.2.2.2.2) me_333
theorem mo_333 : o_m 333 = 30 := congrArg (fun e => e.1) me_333
theorem me_334 : m_e 334 = e_334 := rfl
theorem mc_334 : m_c 334 = cJ8_length := congrArg (fun e => e.2.2.1) me_334
theorem ml_334 : m_l 334 = 1 := congrArg (fun e => e.2.2.2.1) me_334
theorem mk_334 : m_k 334 = 0 := congrArg (fun e => e.2.2.2.2.2.1) me_334
theorem mn_334 : m_n 334 = 0 := congrArg (fun e => e.2.2.2.2.2.2.1) me_334
theorem mh_334 : m_h 334 = none := congrArg (fun e => e.2.2.2.2.2.2.2) me_334
theorem mo_334 : o_m 334 = 30 := congrArg (fun e => e.1) me_334
theorem me_335 : m_e 335 = e_335 := rfl
theorem mc_335 : m_c 335 = cJ8_init_2 := congrArg (fun e => e.2.2.1) me_335
theorem ml_335 : m_l 335 = 2 := congrArg (fun e => e.2.2.2.1) me_335
theorem mk_335 : m_k 335 = 6 := congrArg (fun e => e.2.2.2.2.2.1) me_335
theorem mn_335 : m_n 335 = 1 := congrArg (fun e => e.2.2.2.2.2.2.1) me_335
theorem mh_335 : m_h 335 = none := congrArg (fun e => e.2.2.2.2.2.2.2) me_335
theorem mo_335 : o_m 335 = 30 := congrArg (fun e => e.1) me_335
theorem me_336 : m_e 336 = e_336 := rfl
theorem mc_336 : m_c 336 = cJ8_append_3 := congrArg (fun e => e.2.2.1) me_336
theorem ml_336 : m_l 336 = 2 := congrArg (fun e => e.2.2.2.1) me_336
theorem mk_336 : m_k 336 = 2 := congrArg (fun e => e.2.2.2.2.2.1) me_336
theorem mn_336 : m_n 336 = 1 := congrArg (fun e => e.2.2.2.2.2.2.1) me_336
theorem mh_336 : m_h 336 = none := congrArg (fun e => e.2.2.2.2.2.2.2) me_336
theorem mo_336 : o_m 336 = 30 := congrArg (fun e => e.1) me_336
theorem me_337 : m_e 337 = e_337 := rfl
theorem mc_337 : m_c 337 = cJ9_checkBoundsBeginEnd := congrArg (fun e => e.2.2.1) me_337
theorem ml_337 : m_l 337 = 3 := congrArg (fun e => e.2.2.2.1) me_337
theorem mk_337 : m_k 337 = 6 := congrArg (fun e => e.2.2.2.2.2.1) me_337
theorem mn_337 : m_n 337 = 3 := congrArg (fun e => e.2.2.2.2.2.2.1) me_337
theorem mh_337 : m_h 337 = none := congrArg (fun e => e.2.2.2.2.2.2.2) me_337
theorem mo_337 : o_m 337 = 31 := congrArg (fun e => e.1) me_337
theorem me_338 : m_e 338 = e_338 := rfl
theorem mc_338 : m_c 338 = cJ9_length := congrArg (fun e => e.2.2.1) me_338
theorem ml_338 : m_l 338 = 1 := congrArg (fun e => e.2.2.2.1) me_338
theorem mk_338 : m_k 338 = 0 := congrArg (fun e => e.2.2.2.2.2.1) me_338
theorem mn_338 : m_n 338 = 0 := congrArg (fun e => e.2.2.2.2.2.2.1) me_338
theorem mh_338 : m_h 338 = none := congrArg (fun e => e.2.2.2.2.2.2.2) me_338
theorem mo_338 : o_m 338 = 31 := congrArg (fun e => e.1) me_338
theorem me_339 : m_e 339 = e_339 := rfl
theorem mc_339 : m_c 339 = cJ9_coder := congrArg (fun e => e.2.2.1) me_339
theorem ml_339 : m_l 339 = 1 := congrArg (fun e => e.2.2.2.1) me_339
theorem mk_339 : m_k 339 = 4 := congrArg (fun e => e.2.2.2.2.2.1) me_339
theorem mn_339 : m_n 339 = 0 := congrArg (fun e => e.2.2.2.2.2.2.1) me_339
theorem mh_339 : m_h 339 = none := congrArg (fun e => e.2.2.2.2.2.2.2) me_339
theorem mo_339 : o_m 339 = 31 := congrArg (fun e => e.1) me_339
theorem me_340 : m_e 340 = e_340 := rfl
theorem mc_340 : m_c 340 = cJ9_checkBoundsOffCount := congrArg (fun e => e.2.2.1) me_340
theorem ml_340 : m_l 340 = 3 := congrArg (fun e => e.2.2.2.1) me_340
theorem mk_340 : m_k 340 = 0 := congrArg (fun e => e.2.2.2.2.2.1) me_340
theorem mn_340 : m_n 340 = 3 := congrArg (fun e => e.2.2.2.2.2.2.1) me_340
theorem mh_340 : m_h 340 = none := congrArg (fun e => e.2.2.2.2.2.2.2) me_340
theorem mo_340 : o_m 340 = 31 := congrArg (fun e => e.1) me_340
theorem me_341 : m_e 341 = e_341 := rfl
theorem mc_341 : m_c 341 = cJ9_getBytes := congrArg (fun e => e.2.2.1) me_341
theorem ml_341 : m_l 341 = 4 := congrArg (fun e => e.2.2.2.1) me_341
theorem mk_341 : m_k 341 = 6 := congrArg (fun e => e.2.2.2.2.2.1) me_341
theorem mn_341 : m_n 341 = 3 := congrArg (fun e => e.2.2.2.2.2.2.1) me_341
theorem mh_341 : m_h 341 = none := congrArg (fun e => e.2.2.2.2.2.2.2) me_341
theorem mo_341 : o_m 341 = 31 := congrArg (fun e => e.1) me_341
theorem me_342 : m_e 342 = e_342 := rfl
theorem mc_342 : m_c 342 = cJ9_init := congrArg (fun e => e.2.2.1) me_342
theorem ml_342 : m_l 342 = 2 := congrArg (fun e => e.2.2.2.1) me_342
theorem mk_342 : m_k 342 = 6 := congrArg (fun e => e.2.2.2.2.2.1) me_342
theorem mn_342 : m_n 342 = 1 := congrArg (fun e => e.2.2.2.2.2.2.1) me_342
theorem mh_342 : m_h 342 = none := congrArg (fun e => e.2.2.2.2.2.2.2) me_342
theorem mo_342 : o_m 342 = 31 := congrArg (fun e => e.1) me_342
theorem me_343 : m_e 343 = e_343 := rfl
theorem mc_343 : m_c 343 = cJ9_init_2 := congrArg (fun e => e.2.2.1) me_343
theorem ml_343 : m_l 343 = 5 := congrArg (fun e => e.2.2.2.1) me_343
theorem mk_343 : m_k 343 = 6 := congrArg (fun e => e.2.2.2.2.2.1) me_343
theorem mn_343 : m_n 343 = 2 := congrArg (fun e => e.2.2.2.2.2.2.1) me_343
theorem mh_343 : m_h 343 = none := congrArg (fun e => e.2.2.2.2.2.2.2) me_343
theorem mo_343 : o_m 343 = 31 := congrArg (fun e => e.1) me_343
theorem my_343 : (m_y 343).name = "<init>" := congrArg (fun e => e.2.1.name) me_343
theorem me_344 : m_e 344 = e_344 := rfl
theorem mc_344 : m_c 344 = cJ9_checkIndex := congrArg (fun e => e.2.2.1) me_344
theorem ml_344 : m_l 344 = 2 := congrArg (fun e => e.2.2.2.1) me_344
theorem mk_344 : m_k 344 = 6 := congrArg (fun e => e.2.2.2.2.2.1) me_344
theorem mn_344 : m_n 344 = 2 := congrArg (fun e => e.2.2.2.2.2.2.1) me_344
theorem mh_344 : m_h 344 = none := congrArg (fun e => e.2.2.2.2.2.2.2) me_344
theorem mo_344 : o_m 344 = 31 := congrArg (fun e => e.1) me_344
theorem me_345 : m_e 345 = e_345 := rfl
theorem mc_345 : m_c 345 = cJ9_valueOf := congrArg (fun e => e.2.2.1) me_345
theorem ml_345 : m_l 345 = 1 := congrArg (fun e => e.2.2.2.1) me_345
theorem mk_345 : m_k 345 = 2 := congrArg (fun e => e.2.2.2.2.2.1) me_345
theorem mn_345 : m_n 345 = 1 := congrArg (fun e => e.2.2.2.2.2.2.1) me_345
theorem mh_345 : m_h 345 = none := congrArg (fun e => e.2.2.2.2.2.2.2) me_345
theorem mo_345 : o_m 345 = 31 := congrArg (fun e => e.1) me_345
theorem me_346 : m_e 346 = e_346 := rfl
theorem mc_346 : m_c 346 = cJ9_init_3 := congrArg (fun e => e.2.2.1) me_346
theorem ml_346 : m_l 346 = 3 := congrArg (fun e => e.2.2.2.1) me_346
theorem mk_346 : m_k 346 = 6 := congrArg (fun e => e.2.2.2.2.2.1) me_346
theorem mn_346 : m_n 346 = 2 := congrArg (fun e => e.2.2.2.2.2.2.1) me_346
theorem mh_346 : m_h 346 = none := congrArg (fun e => e.2.2.2.2.2.2.2) me_346
theorem mo_346 : o_m 346 = 31 := congrArg (fun e => e.1) me_346
theorem my_346 : (m_y 346).name = "<init>" := congrArg (fun e => e.2.1.name) me_346
theorem me_347 : m_e 347 = e_347 := rfl
theorem mc_347 : m_c 347 = cJ9_equals := congrArg (fun e => e.2.2.1) me_347
theorem ml_347 : m_l 347 = 3 := congrArg (fun e => e.2.2.2.1) me_347
theorem mk_347 : m_k 347 = 3 := congrArg (fun e => e.2.2.2.2.2.1) me_347
theorem mn_347 : m_n 347 = 1 := congrArg (fun e => e.2.2.2.2.2.2.1) me_347
theorem mh_347 : m_h 347 = none := congrArg (fun e => e.2.2.2.2.2.2.2) me_347
theorem mo_347 : o_m 347 = 31 := congrArg (fun e => e.1) me_347
theorem me_348 : m_e 348 = e_348 := rfl
theorem mc_348 : m_c 348 = cJ9_charAt := congrArg (fun e => e.2.2.1) me_348
theorem ml_348 : m_l 348 = 2 := congrArg (fun e => e.2.2.2.1) me_348
theorem mk_348 : m_k 348 = 5 := congrArg (fun e => e.2.2.2.2.2.1) me_348
theorem mn_348 : m_n 348 = 1 := congrArg (fun e => e.2.2.2.2.2.2.1) me_348
theorem mh_348 : m_h 348 = none := congrArg (fun e => e.2.2.2.2.2.2.2) me_348
theorem mo_348 : o_m 348 = 31 := congrArg (fun e => e.1) me_348
theorem me_349 : m_e 349 = e_349 := rfl
theorem mc_349 : m_c 349 = cJ9_isLatin1 := congrArg (fun e => e.2.2.1) me_349
theorem ml_349 : m_l 349 = 1 := congrArg (fun e => e.2.2.2.1) me_349
theorem mk_349 : m_k 349 = 3 := congrArg (fun e => e.2.2.2.2.2.1) me_349
theorem mn_349 : m_n 349 = 0 := congrArg (fun e => e.2.2.2.2.2.2.1) me_349
theorem mh_349 : m_h 349 = none := congrArg (fun e => e.2.2.2.2.2.2.2) me_349
theorem mo_349 : o_m 349 = 31 := congrArg (fun e => e.1) me_349
theorem fk_1_10_20 : lk_3 f_T 1 10 20 = some (0, 2, false) := by decide +kernel
theorem fk_1_19_20 : lk_3 f_T 1 19 20 = some (1, 2, true) := by decide +kernel
theorem fk_1_23_20 : lk_3 f_T 1 23 20 = some (2, 2, true) := by decide +kernel
theorem fk_1_26_23 : lk_3 f_T 1 26 23 = some (0, 2, true) := by decide +kernel
theorem fk_1_30_20 : lk_3 f_T 1 30 20 = some (3, 2, true) := by decide +kernel
theorem fk_1_34_20 : lk_3 f_T 1 34 20 = some (4, 2, true) := by decide +kernel
theorem fk_1_37_20 : lk_3 f_T 1 37 20 = some (6, 2, true) := by decide +kernel
theorem fk_1_41_20 : lk_3 f_T 1 41 20 = some (8, 0, false) := by decide +kernel
theorem fk_1_45_20 : lk_3 f_T 1 45 20 = some (9, 2, true) := by decide +kernel
theorem fk_1_49_20 : lk_3 f_T 1 49 20 = some (10, 2, true) := by decide +kernel
theorem fk_1_53_20 : lk_3 f_T 1 53 20 = some (11, 2, true) := by decide +kernel
theorem fk_1_56_20 : lk_3 f_T 1 56 20 = some (12, 2, true) := by decide +kernel
theorem fk_1_59_20 : lk_3 f_T 1 59 20 = some (13, 2, true) := by decide +kernel
theorem fk_1_73_21 : lk_3 f_T 1 73 21 = some (2, 2, true) := by decide +kernel
theorem fk_1_95_24 : lk_3 f_T 1 95 24 = some (4, 0, false) := by decide +kernel
theorem fk_1_98_20 : lk_3 f_T 1 98 20 = some (7, 0, false) := by decide +kernel
theorem fk_1_118_41 : lk_3 f_T 1 118 41 = some (1, 0, true) := by decide +kernel
theorem fk_1_121_23 : lk_3 f_T 1 121 23 = some (4, 2, true) := by decide +kernel
theorem fk_1_124_41 : lk_3 f_T 1 124 41 = some (0, 0, true) := by decide +kernel
theorem fk_1_127_23 : lk_3 f_T 1 127 23 = some (5, 0, false) := by decide +kernel
theorem fk_1_130_23 : lk_3 f_T 1 130 23 = some (6, 0, false) := by decide +kernel
theorem fk_1_133_20 : lk_3 f_T 1 133 20 = some (5, 3, false) := by decide +kernel
theorem fk_1_141_21 : lk_3 f_T 1 141 21 = some (0, 0, false) := by decide +kernel
theorem fk_1_144_21 : lk_3 f_T 1 144 21 = some (1, 0, false) := by decide +kernel
theorem fk_1_155_24 : lk_3 f_T 1 155 24 = some (6, 0, false) := by decide +kernel
theorem fk_1_161_24 : lk_3 f_T 1 161 24 = some (5, 0, false) := by decide +kernel
theorem fk_1_170_32 : lk_3 f_T 1 170 32 = some (0, 0, true) := by decide +kernel
theorem fk_1_170_33 : lk_3 f_T 1 170 33 = some (0, 0, true) := by decide +kernel
theorem fk_1_170_34 : lk_3 f_T 1 170 34 = some (0, 0, true) := by decide +kernel
theorem fk_1_170_35 : lk_3 f_T 1 170 35 = some (0, 0, true) := by decide +kernel
theorem fk_1_177_24 : lk_3 f_T 1 177 24 = some (3, 2, true) := by decide +kernel
theorem fk_1_180_32 : lk_3 f_T 1 180 32 = some (3, 0, true) := by decide +kernel
theorem fk_1_180_33 : lk_3 f_T 1 180 33 = some (3, 0, true) := by decide +kernel
theorem fk_1_180_34 : lk_3 f_T 1 180 34 = some (3, 0, true) := by decide +kernel
theorem fk_1_180_35 : lk_3 f_T 1 180 35 = some (3, 0, true) := by decide +kernel
theorem fk_1_183_24 : lk_3 f_T 1 183 24 = some (1, 2, true) := by decide +kernel
theorem fk_1_186_24 : lk_3 f_T 1 186 24 = some (2, 2, true) := by decide +kernel
theorem fk_1_195_24 : lk_3 f_T 1 195 24 = some (0, 2, true) := by decide +kernel
theorem fk_1_236_23 : lk_3 f_T 1 236 23 = some (1, 2, true) := by decide +kernel
theorem fk_1_318_23 : lk_3 f_T 1 318 23 = some (2, 2, true) := by decide +kernel
theorem fk_1_321_23 : lk_3 f_T 1 321 23 = some (3, 2, true) := by decide +kernel
theorem fk_1_340_20 : lk_3 f_T 1 340 20 = some (14, 0, false) := by decide +kernel
theorem fk_3_7_28 : lk_3 f_T 3 7 28 = some (0, 0, true) := by decide +kernel
theorem fk_4_7_29 : lk_3 f_T 4 7 29 = some (0, 2, true) := by decide +kernel
theorem fk_4_13_22 : lk_3 f_T 4 13 22 = some (0, 2, true) := by decide +kernel
theorem fk_5_7_30 : lk_3 f_T 5 7 30 = some (0, 5, true) := by decide +kernel
theorem fk_5_13_30 : lk_3 f_T 5 13 30 = some (1, 2, true) := by decide +kernel
theorem fk_5_17_30 : lk_3 f_T 5 17 30 = some (2, 2, true) := by decide +kernel
theorem fk_6_7_31 : lk_3 f_T 6 7 31 = some (0, 2, true) := by decide +kernel
theorem fk_7_7_32 : lk_3 f_T 7 7 32 = some (0, 0, true) := by decide +kernel
theorem fk_7_7_33 : lk_3 f_T 7 7 33 = some (0, 0, true) := by decide +kernel
theorem fk_7_7_34 : lk_3 f_T 7 7 34 = some (0, 0, true) := by decide +kernel
theorem fk_7_7_35 : lk_3 f_T 7 7 35 = some (0, 0, true) := by decide +kernel
theorem fk_7_13_32 : lk_3 f_T 7 13 32 = some (1, 0, true) := by decide +kernel
theorem fk_7_13_33 : lk_3 f_T 7 13 33 = some (1, 0, true) := by decide +kernel
theorem fk_7_13_34 : lk_3 f_T 7 13 34 = some (1, 0, true) := by decide +kernel
theorem fk_7_13_35 : lk_3 f_T 7 13 35 = some (1, 0, true) := by decide +kernel
theorem fk_7_16_32 : lk_3 f_T 7 16 32 = some (2, 0, true) := by decide +kernel
theorem fk_7_16_33 : lk_3 f_T 7 16 33 = some (2, 0, true) := by decide +kernel
theorem fk_7_16_34 : lk_3 f_T 7 16 34 = some (2, 0, true) := by decide +kernel
theorem fk_7_16_35 : lk_3 f_T 7 16 35 = some (2, 0, true) := by decide +kernel
theorem fk_7_19_32 : lk_3 f_T 7 19 32 = some (3, 0, true) := by decide +kernel
theorem fk_7_19_33 : lk_3 f_T 7 19 33 = some (3, 0, true) := by decide +kernel
theorem fk_7_19_34 : lk_3 f_T 7 19 34 = some (3, 0, true) := by decide +kernel
theorem fk_7_19_35 : lk_3 f_T 7 19 35 = some (3, 0, true) := by decide +kernel
theorem fk_11_7_21 : lk_3 f_T 11 7 21 = some (0, 0, false) := by decide +kernel
theorem fk_11_13_21 : lk_3 f_T 11 13 21 = some (1, 0, false) := by decide +kernel
theorem fk_11_21_21 : lk_3 f_T 11 21 21 = some (2, 2, true) := by decide +kernel
theorem fk_11_28_21 : lk_3 f_T 11 28 21 = some (4, 2, true) := by decide +kernel
theorem fk_11_38_21 : lk_3 f_T 11 38 21 = some (3, 2, false) := by decide +kernel
theorem fk_11_42_32 : lk_3 f_T 11 42 32 = some (3, 0, true) := by decide +kernel
theorem fk_11_42_33 : lk_3 f_T 11 42 33 = some (3, 0, true) := by decide +kernel
theorem fk_11_42_34 : lk_3 f_T 11 42 34 = some (3, 0, true) := by decide +kernel
theorem fk_11_42_35 : lk_3 f_T 11 42 35 = some (3, 0, true) := by decide +kernel
theorem fk_11_80_32 : lk_3 f_T 11 80 32 = some (0, 0, true) := by decide +kernel
theorem fk_11_80_33 : lk_3 f_T 11 80 33 = some (0, 0, true) := by decide +kernel
theorem fk_11_80_34 : lk_3 f_T 11 80 34 = some (0, 0, true) := by decide +kernel
theorem fk_11_80_35 : lk_3 f_T 11 80 35 = some (0, 0, true) := by decide +kernel
theorem fk_12_13_22 : lk_3 f_T 12 13 22 = some (0, 2, true) := by decide +kernel
theorem fk_14_12_23 : lk_3 f_T 14 12 23 = some (0, 2, true) := by decide +kernel
theorem fk_14_23_23 : lk_3 f_T 14 23 23 = some (1, 2, true) := by decide +kernel
theorem fk_14_27_23 : lk_3 f_T 14 27 23 = some (2, 2, true) := by decide +kernel
theorem fk_14_31_23 : lk_3 f_T 14 31 23 = some (3, 2, true) := by decide +kernel
theorem fk_14_34_23 : lk_3 f_T 14 34 23 = some (4, 2, true) := by decide +kernel
theorem fk_14_41_23 : lk_3 f_T 14 41 23 = some (5, 0, false) := by decide +kernel
theorem fk_14_62_23 : lk_3 f_T 14 62 23 = some (6, 0, false) := by decide +kernel
theorem fk_15_9_24 : lk_3 f_T 15 9 24 = some (0, 2, true) := by decide +kernel
theorem fk_15_15_24 : lk_3 f_T 15 15 24 = some (1, 2, true) := by decide +kernel
theorem fk_15_18_24 : lk_3 f_T 15 18 24 = some (2, 2, true) := by decide +kernel
theorem fk_15_21_24 : lk_3 f_T 15 21 24 = some (3, 2, true) := by decide +kernel
theorem fk_15_24_21 : lk_3 f_T 15 24 21 = some (2, 2, true) := by decide +kernel
theorem fk_15_36_24 : lk_3 f_T 15 36 24 = some (4, 0, false) := by decide +kernel
theorem fk_15_40_24 : lk_3 f_T 15 40 24 = some (5, 0, false) := by decide +kernel
theorem fk_15_43_24 : lk_3 f_T 15 43 24 = some (6, 0, false) := by decide +kernel
theorem fk_15_52_32 : lk_3 f_T 15 52 32 = some (2, 0, true) := by decide +kernel
theorem fk_15_52_33 : lk_3 f_T 15 52 33 = some (2, 0, true) := by decide +kernel
theorem fk_15_52_34 : lk_3 f_T 15 52 34 = some (2, 0, true) := by decide +kernel
theorem fk_15_52_35 : lk_3 f_T 15 52 35 = some (2, 0, true) := by decide +kernel
theorem fk_15_60_32 : lk_3 f_T 15 60 32 = some (0, 0, true) := by decide +kernel
theorem fk_15_60_33 : lk_3 f_T 15 60 33 = some (0, 0, true) := by decide +kernel
theorem fk_15_60_34 : lk_3 f_T 15 60 34 = some (0, 0, true) := by decide +kernel
theorem fk_15_60_35 : lk_3 f_T 15 60 35 = some (0, 0, true) := by decide +kernel
theorem fk_15_89_21 : lk_3 f_T 15 89 21 = some (0, 0, false) := by decide +kernel
theorem fk_15_104_32 : lk_3 f_T 15 104 32 = some (3, 0, true) := by decide +kernel
theorem fk_15_104_33 : lk_3 f_T 15 104 33 = some (3, 0, true) := by decide +kernel
theorem fk_15_104_34 : lk_3 f_T 15 104 34 = some (3, 0, true) := by decide +kernel
theorem fk_15_104_35 : lk_3 f_T 15 104 35 = some (3, 0, true) := by decide +kernel
theorem fk_16_19_25 : lk_3 f_T 16 19 25 = some (0, 2, true) := by decide +kernel
theorem fk_16_35_25 : lk_3 f_T 16 35 25 = some (1, 2, true) := by decide +kernel
theorem fk_16_38_25 : lk_3 f_T 16 38 25 = some (2, 2, true) := by decide +kernel
theorem fk_16_42_25 : lk_3 f_T 16 42 25 = some (4, 2, true) := by decide +kernel
theorem fk_16_45_25 : lk_3 f_T 16 45 25 = some (5, 2, true) := by decide +kernel
theorem fk_16_47_25 : lk_3 f_T 16 47 25 = some (6, 2, true) := by decide +kernel
theorem fk_16_49_25 : lk_3 f_T 16 49 25 = some (7, 2, true) := by decide +kernel
theorem fk_16_52_25 : lk_3 f_T 16 52 25 = some (8, 2, true) := by decide +kernel
theorem fk_16_55_25 : lk_3 f_T 16 55 25 = some (9, 2, true) := by decide +kernel
theorem fk_16_57_25 : lk_3 f_T 16 57 25 = some (10, 2, true) := by decide +kernel
theorem fk_16_60_25 : lk_3 f_T 16 60 25 = some (11, 2, true) := by decide +kernel
theorem fk_16_63_25 : lk_3 f_T 16 63 25 = some (12, 2, true) := by decide +kernel
theorem fk_16_66_25 : lk_3 f_T 16 66 25 = some (22, 0, false) := by decide +kernel
theorem fk_16_70_25 : lk_3 f_T 16 70 25 = some (23, 2, true) := by decide +kernel
theorem fk_16_73_25 : lk_3 f_T 16 73 25 = some (24, 2, true) := by decide +kernel
theorem fk_16_76_25 : lk_3 f_T 16 76 25 = some (25, 2, true) := by decide +kernel
theorem fk_16_79_25 : lk_3 f_T 16 79 25 = some (26, 2, true) := by decide +kernel
theorem fk_16_82_25 : lk_3 f_T 16 82 25 = some (27, 2, true) := by decide +kernel
theorem fk_16_85_25 : lk_3 f_T 16 85 25 = some (30, 0, false) := by decide +kernel
theorem fk_16_88_25 : lk_3 f_T 16 88 25 = some (33, 2, true) := by decide +kernel
theorem fk_16_91_25 : lk_3 f_T 16 91 25 = some (34, 2, true) := by decide +kernel
theorem fk_16_94_25 : lk_3 f_T 16 94 25 = some (35, 2, true) := by decide +kernel
theorem fk_16_97_25 : lk_3 f_T 16 97 25 = some (36, 2, true) := by decide +kernel
theorem fk_16_100_25 : lk_3 f_T 16 100 25 = some (37, 2, true) := by decide +kernel
theorem fk_16_103_25 : lk_3 f_T 16 103 25 = some (38, 2, true) := by decide +kernel
theorem fk_16_107_25 : lk_3 f_T 16 107 25 = some (41, 2, true) := by decide +kernel
theorem fk_16_110_25 : lk_3 f_T 16 110 25 = some (42, 2, true) := by decide +kernel
theorem fk_16_113_25 : lk_3 f_T 16 113 25 = some (43, 2, true) := by decide +kernel
theorem fk_16_116_25 : lk_3 f_T 16 116 25 = some (44, 2, true) := by decide +kernel
theorem fk_16_119_25 : lk_3 f_T 16 119 25 = some (45, 2, true) := by decide +kernel
theorem fk_16_122_25 : lk_3 f_T 16 122 25 = some (46, 2, true) := by decide +kernel
theorem fk_16_125_25 : lk_3 f_T 16 125 25 = some (48, 2, true) := by decide +kernel
theorem fk_16_128_25 : lk_3 f_T 16 128 25 = some (53, 2, true) := by decide +kernel
theorem fk_16_131_25 : lk_3 f_T 16 131 25 = some (54, 2, true) := by decide +kernel
theorem fk_16_134_25 : lk_3 f_T 16 134 25 = some (55, 2, true) := by decide +kernel
theorem fk_16_137_25 : lk_3 f_T 16 137 25 = some (56, 2, true) := by decide +kernel
theorem fk_16_140_25 : lk_3 f_T 16 140 25 = some (57, 2, true) := by decide +kernel
theorem fk_16_143_25 : lk_3 f_T 16 143 25 = some (3, 0, false) := by decide +kernel
theorem fk_16_150_25 : lk_3 f_T 16 150 25 = some (28, 0, false) := by decide +kernel
theorem fk_16_153_25 : lk_3 f_T 16 153 25 = some (13, 0, false) := by decide +kernel
theorem fk_16_156_25 : lk_3 f_T 16 156 25 = some (15, 0, false) := by decide +kernel
theorem fk_16_159_25 : lk_3 f_T 16 159 25 = some (14, 0, false) := by decide +kernel
theorem fk_16_166_25 : lk_3 f_T 16 166 25 = some (18, 0, false) := by decide +kernel
theorem fk_16_169_25 : lk_3 f_T 16 169 25 = some (16, 0, false) := by decide +kernel
theorem fk_16_179_25 : lk_3 f_T 16 179 25 = some (17, 0, false) := by decide +kernel
theorem fk_16_192_25 : lk_3 f_T 16 192 25 = some (19, 0, false) := by decide +kernel
theorem fk_16_195_25 : lk_3 f_T 16 195 25 = some (20, 0, false) := by decide +kernel
theorem fk_16_198_25 : lk_3 f_T 16 198 25 = some (21, 0, false) := by decide +kernel
theorem fk_16_282_25 : lk_3 f_T 16 282 25 = some (29, 0, false) := by decide +kernel
theorem fk_16_285_25 : lk_3 f_T 16 285 25 = some (31, 0, false) := by decide +kernel
theorem fk_16_288_25 : lk_3 f_T 16 288 25 = some (32, 0, false) := by decide +kernel
theorem fk_16_291_25 : lk_3 f_T 16 291 25 = some (50, 3, false) := by decide +kernel
theorem fk_16_392_25 : lk_3 f_T 16 392 25 = some (39, 0, false) := by decide +kernel
theorem fk_16_402_25 : lk_3 f_T 16 402 25 = some (40, 0, false) := by decide +kernel
theorem fk_16_442_25 : lk_3 f_T 16 442 25 = some (47, 0, false) := by decide +kernel
theorem fk_16_462_25 : lk_3 f_T 16 462 25 = some (49, 0, false) := by decide +kernel
theorem fk_16_474_25 : lk_3 f_T 16 474 25 = some (51, 0, false) := by decide +kernel
theorem fk_16_477_25 : lk_3 f_T 16 477 25 = some (52, 0, false) := by decide +kernel
theorem fk_17_11_26 : lk_3 f_T 17 11 26 = some (7, 2, false) := by decide +kernel
theorem fk_17_17_26 : lk_3 f_T 17 17 26 = some (8, 2, true) := by decide +kernel
theorem fk_17_21_26 : lk_3 f_T 17 21 26 = some (0, 2, true) := by decide +kernel
theorem fk_17_25_26 : lk_3 f_T 17 25 26 = some (1, 0, true) := by decide +kernel
theorem fk_17_32_26 : lk_3 f_T 17 32 26 = some (2, 0, false) := by decide +kernel
theorem fk_17_39_26 : lk_3 f_T 17 39 26 = some (3, 0, false) := by decide +kernel
theorem fk_17_42_26 : lk_3 f_T 17 42 26 = some (5, 3, false) := by decide +kernel
theorem fk_17_52_26 : lk_3 f_T 17 52 26 = some (6, 2, false) := by decide +kernel
theorem fk_17_82_26 : lk_3 f_T 17 82 26 = some (4, 0, false) := by decide +kernel
theorem fk_17_133_21 : lk_3 f_T 17 133 21 = some (0, 0, false) := by decide +kernel
theorem fk_17_137_21 : lk_3 f_T 17 137 21 = some (1, 0, false) := by decide +kernel
theorem fk_17_145_21 : lk_3 f_T 17 145 21 = some (3, 2, false) := by decide +kernel
theorem fk_17_156_21 : lk_3 f_T 17 156 21 = some (2, 2, true) := by decide +kernel
theorem fk_18_7_41 : lk_3 f_T 18 7 41 = some (0, 0, true) := by decide +kernel
theorem fk_18_13_41 : lk_3 f_T 18 13 41 = some (1, 0, true) := by decide +kernel
theorem fk_20_7_36 : lk_3 f_T 20 7 36 = some (0, 0, false) := by decide +kernel
theorem fk_26_7_17 : lk_3 f_T 26 7 17 = some (0, 0, true) := by decide +kernel
theorem fk_28_9_36 : lk_3 f_T 28 9 36 = some (1, 2, false) := by decide +kernel
theorem fk_28_48_36 : lk_3 f_T 28 48 36 = some (2, 0, false) := by decide +kernel
theorem fk_28_63_36 : lk_3 f_T 28 63 36 = some (0, 0, false) := by decide +kernel
theorem fk_29_15_37 : lk_3 f_T 29 15 37 = some (0, 2, false) := by decide +kernel
theorem fk_29_22_37 : lk_3 f_T 29 22 37 = some (1, 4, false) := by decide +kernel
theorem fk_29_79_37 : lk_3 f_T 29 79 37 = some (3, 0, false) := by decide +kernel
theorem fk_31_9_18 : lk_3 f_T 31 9 18 = some (0, 2, true) := by decide +kernel
theorem fk_31_9_38 : lk_3 f_T 31 9 38 = some (0, 2, true) := by decide +kernel
theorem fk_31_15_18 : lk_3 f_T 31 15 18 = some (1, 4, true) := by decide +kernel
theorem fk_31_15_38 : lk_3 f_T 31 15 38 = some (1, 4, true) := by decide +kernel
theorem fk_31_1048_37 : lk_3 f_T 31 1048 37 = some (2, 3, false) := by decide +kernel
theorem gk_11_51 : lk_2 g_T 11 51 = some (v_R (some 200)) := by decide +kernel
theorem gk_11_61 : lk_2 g_T 11 61 = some (v_R (some 201)) := by decide +kernel
theorem gk_11_64 : lk_2 g_T 11 64 = some (v_R (some 202)) := by decide +kernel
theorem gk_11_67 : lk_2 g_T 11 67 = some (v_R (some 203)) := by decide +kernel
theorem gk_11_74 : lk_2 g_T 11 74 = some (v_R (some 204)) := by decide +kernel
theorem gk_11_77 : lk_2 g_T 11 77 = some (v_R (some 205)) := by decide +kernel
theorem gk_13_22 : lk_2 g_T 13 22 = some (v_R (some 220)) := by decide +kernel
theorem gk_17_46 : lk_2 g_T 17 46 = some (v_R (some 214)) := by decide +kernel
theorem gk_17_76 : lk_2 g_T 17 76 = some (v_R (some 210)) := by decide +kernel
theorem gk_17_85 : lk_2 g_T 17 85 = some (v_R (some 211)) := by decide +kernel
theorem gk_17_91 : lk_2 g_T 17 91 = some (v_R (some 212)) := by decide +kernel
theorem gk_17_94 : lk_2 g_T 17 94 = some (v_R (some 213)) := by decide +kernel
theorem gk_17_253 : lk_2 g_T 17 253 = some (v_R (some 200)) := by decide +kernel
theorem gk_17_261 : lk_2 g_T 17 261 = some (v_R (some 201)) := by decide +kernel
theorem gk_17_266 : lk_2 g_T 17 266 = some (v_R (some 202)) := by decide +kernel
theorem gk_17_271 : lk_2 g_T 17 271 = some (v_R (some 203)) := by decide +kernel
theorem gk_17_276 : lk_2 g_T 17 276 = some (v_R (some 204)) := by decide +kernel
theorem gk_17_281 : lk_2 g_T 17 281 = some (v_R (some 205)) := by decide +kernel
theorem gk_29_18 : lk_2 g_T 29 18 = some (v_I (Int32.ofNat 1)) := by decide +kernel
theorem gk_31_38 : lk_2 g_T 31 38 = some (v_I (Int32.ofNat 1)) := by decide +kernel
theorem gk_31_1053 : lk_2 g_T 31 1053 = some (v_R (some 232)) := by decide +kernel
theorem lk_1_288 : lk_2 l_T 1 288 = some (v_I (Int32.ofNat 100000)) := by decide +kernel
theorem lk_1_343 : lk_2 l_T 1 343 = some (v_I (Int32.ofNat 1103515245)) := by decide +kernel
theorem lk_16_11 : lk_2 l_T 16 11 = some (v_R (some 38)) := by decide +kernel
theorem lk_16_13 : lk_2 l_T 16 13 = some (v_R (some 39)) := by decide +kernel
theorem lk_16_15 : lk_2 l_T 16 15 = some (v_R (some 40)) := by decide +kernel
theorem lk_16_17 : lk_2 l_T 16 17 = some (v_R (some 41)) := by decide +kernel
theorem lk_16_23 : lk_2 l_T 16 23 = some (v_R (some 42)) := by decide +kernel
theorem lk_16_25 : lk_2 l_T 16 25 = some (v_R (some 43)) := by decide +kernel
theorem lk_16_27 : lk_2 l_T 16 27 = some (v_R (some 44)) := by decide +kernel
theorem lk_16_29 : lk_2 l_T 16 29 = some (v_R (some 45)) := by decide +kernel
theorem lk_16_31 : lk_2 l_T 16 31 = some (v_R (some 46)) := by decide +kernel
theorem lk_16_33 : lk_2 l_T 16 33 = some (v_R (some 47)) := by decide +kernel
theorem lk_16_182 : lk_2 l_T 16 182 = some (v_I (Int32.ofNat 100000)) := by decide +kernel
theorem lk_16_245 : lk_2 l_T 16 245 = some (v_R (some 51)) := by decide +kernel
theorem lk_16_253 : lk_2 l_T 16 253 = some (v_R (some 52)) := by decide +kernel
theorem lk_16_258 : lk_2 l_T 16 258 = some (v_R (some 53)) := by decide +kernel
theorem lk_16_260 : lk_2 l_T 16 260 = some (v_R (some 48)) := by decide +kernel
theorem lk_16_262 : lk_2 l_T 16 262 = some (v_R (some 49)) := by decide +kernel
theorem lk_16_264 : lk_2 l_T 16 264 = some (v_R (some 50)) := by decide +kernel
theorem lk_16_345 : lk_2 l_T 16 345 = some (v_L (Int64.ofNat 4)) := by decide +kernel
theorem lk_16_367 : lk_2 l_T 16 367 = some (v_L (Int64.ofInt (-9))) := by decide +kernel
theorem lk_16_369 : lk_2 l_T 16 369 = some (v_L (Int64.ofNat 9)) := by decide +kernel
theorem lk_16_384 : lk_2 l_T 16 384 = some (v_L (Int64.ofNat 30)) := by decide +kernel
theorem lk_16_422 : lk_2 l_T 16 422 = some (v_L (Int64.ofNat 10)) := by decide +kernel
theorem lk_16_427 : lk_2 l_T 16 427 = some (v_L (Int64.ofNat 99)) := by decide +kernel
theorem lk_16_435 : lk_2 l_T 16 435 = some (v_L (Int64.ofNat 999)) := by decide +kernel
theorem lk_16_440 : lk_2 l_T 16 440 = some (v_L (Int64.ofInt (-99))) := by decide +kernel
theorem lk_16_448 : lk_2 l_T 16 448 = some (v_L (Int64.ofNat 2)) := by decide +kernel
theorem lk_16_465 : lk_2 l_T 16 465 = some (v_I (Int32.ofNat 1103515245)) := by decide +kernel
theorem lk_16_469 : lk_2 l_T 16 469 = some (v_L (Int64.ofNat 40)) := by decide +kernel
theorem lk_17_9 : lk_2 l_T 17 9 = some (v_R (some 12)) := by decide +kernel
theorem lk_17_123 : lk_2 l_T 17 123 = some (v_R (some 13)) := by decide +kernel
theorem lk_17_135 : lk_2 l_T 17 135 = some (v_R (some 14)) := by decide +kernel
theorem lk_17_139 : lk_2 l_T 17 139 = some (v_R (some 15)) := by decide +kernel
theorem lk_17_148 : lk_2 l_T 17 148 = some (v_R (some 33)) := by decide +kernel
theorem lk_17_150 : lk_2 l_T 17 150 = some (v_R (some 34)) := by decide +kernel
theorem lk_17_152 : lk_2 l_T 17 152 = some (v_R (some 35)) := by decide +kernel
theorem lk_17_154 : lk_2 l_T 17 154 = some (v_R (some 36)) := by decide +kernel
theorem lk_17_171 : lk_2 l_T 17 171 = some (v_R (some 37)) := by decide +kernel
theorem lk_17_177 : lk_2 l_T 17 177 = some (v_R (some 28)) := by decide +kernel
theorem lk_17_193 : lk_2 l_T 17 193 = some (v_R (some 16)) := by decide +kernel
theorem lk_17_198 : lk_2 l_T 17 198 = some (v_R (some 32)) := by decide +kernel
theorem lk_17_208 : lk_2 l_T 17 208 = some (v_R (some 31)) := by decide +kernel
theorem lk_17_209 : lk_2 l_T 17 209 = some (v_R (some 17)) := by decide +kernel
theorem lk_17_213 : lk_2 l_T 17 213 = some (v_R (some 29)) := by decide +kernel
theorem lk_17_215 : lk_2 l_T 17 215 = some (v_R (some 30)) := by decide +kernel
theorem lk_17_229 : lk_2 l_T 17 229 = some (v_R (some 27)) := by decide +kernel
theorem lk_17_234 : lk_2 l_T 17 234 = some (v_R (some 25)) := by decide +kernel
theorem lk_17_236 : lk_2 l_T 17 236 = some (v_R (some 26)) := by decide +kernel
theorem lk_17_241 : lk_2 l_T 17 241 = some (v_R (some 18)) := by decide +kernel
theorem lk_17_251 : lk_2 l_T 17 251 = some (v_R (some 19)) := by decide +kernel
theorem lk_17_259 : lk_2 l_T 17 259 = some (v_R (some 20)) := by decide +kernel
theorem lk_17_264 : lk_2 l_T 17 264 = some (v_R (some 21)) := by decide +kernel
theorem lk_17_269 : lk_2 l_T 17 269 = some (v_R (some 22)) := by decide +kernel
theorem lk_17_274 : lk_2 l_T 17 274 = some (v_R (some 23)) := by decide +kernel
theorem lk_17_279 : lk_2 l_T 17 279 = some (v_R (some 24)) := by decide +kernel
theorem lk_21_200 : lk_2 l_T 21 200 = some (v_I (Int32.ofNat 2147483639)) := by decide +kernel
theorem lk_22_110 : lk_2 l_T 22 110 = some (v_R (some 230)) := by decide +kernel
theorem lk_22_337 : lk_2 l_T 22 337 = some (v_R (some 11)) := by decide +kernel
theorem lk_25_264 : lk_2 l_T 25 264 = some (v_I (Int32.ofNat 65536)) := by decide +kernel
theorem lk_25_265 : lk_2 l_T 25 265 = some (v_I (Int32.ofNat 1431655765)) := by decide +kernel
theorem lk_25_266 : lk_2 l_T 25 266 = some (v_I (Int32.ofNat 858993459)) := by decide +kernel
theorem lk_25_267 : lk_2 l_T 25 267 = some (v_I (Int32.ofNat 252645135)) := by decide +kernel
theorem lk_28_23 : lk_2 l_T 28 23 = some (v_R (some 10)) := by decide +kernel
theorem lk_29_39 : lk_2 l_T 29 39 = some (v_I (Int32.ofNat 2147483647)) := by decide +kernel
theorem nk_0_8 : lk_2 n_T 0 8 = some (20, 15) := by decide +kernel
theorem nk_0_86 : lk_2 n_T 0 86 = some (25, 58) := by decide +kernel
theorem nk_1_7 : lk_2 n_T 1 7 = some (21, 5) := by decide +kernel
theorem nk_1_16 : lk_2 n_T 1 16 = some (23, 7) := by decide +kernel
theorem nk_1_31 : lk_2 n_T 1 31 = some (24, 7) := by decide +kernel
theorem nk_1_108 : lk_2 n_T 1 108 = some (26, 9) := by decide +kernel
theorem nk_11_16 : lk_2 n_T 11 16 = some (36, 3) := by decide +kernel
theorem nk_11_25 : lk_2 n_T 11 25 = some (22, 1) := by decide +kernel
theorem nk_14_9 : lk_2 n_T 14 9 = some (24, 7) := by decide +kernel
theorem nk_14_18 : lk_2 n_T 14 18 = some (36, 3) := by decide +kernel
theorem nk_17_59 : lk_2 n_T 17 59 = some (37, 4) := by decide +kernel
theorem nk_17_120 : lk_2 n_T 17 120 = some (21, 5) := by decide +kernel
theorem nk_17_179 : lk_2 n_T 17 179 = some (32, 4) := by decide +kernel
theorem nk_17_184 : lk_2 n_T 17 184 = some (33, 4) := by decide +kernel
theorem nk_17_187 : lk_2 n_T 17 187 = some (34, 4) := by decide +kernel
theorem nk_17_190 : lk_2 n_T 17 190 = some (35, 4) := by decide +kernel
theorem nk_17_200 : lk_2 n_T 17 200 = some (30, 3) := by decide +kernel
theorem nk_17_221 : lk_2 n_T 17 221 = some (31, 1) := by decide +kernel
theorem nk_17_238 : lk_2 n_T 17 238 = some (28, 1) := by decide +kernel
theorem nk_17_246 : lk_2 n_T 17 246 = some (29, 1) := by decide +kernel
theorem nk_22_45 : lk_2 n_T 22 45 = some (37, 4) := by decide +kernel
theorem nk_28_20 : lk_2 n_T 28 20 = some (37, 4) := by decide +kernel
theorem nk_30_18 : lk_2 n_T 30 18 = some (38, 4) := by decide +kernel
theorem nk_31_10 : lk_2 n_T 31 10 = some (38, 4) := by decide +kernel
theorem ak_16_9 : lk_2 a_T 16 9 = some 6 := by decide +kernel
theorem ak_22_2 : lk_2 a_T 22 2 = some 5 := by decide +kernel
theorem ak_28_7 : lk_2 a_T 28 7 = some 5 := by decide +kernel
theorem ck_1_31_24 : lk_3 c_T 1 31 24 = some () := by decide +kernel
theorem ck_1_93_32 : lk_3 c_T 1 93 32 = some () := by decide +kernel
theorem ck_1_93_33 : lk_3 c_T 1 93 33 = some () := by decide +kernel
theorem ck_1_93_34 : lk_3 c_T 1 93 34 = some () := by decide +kernel
theorem ck_1_93_35 : lk_3 c_T 1 93 35 = some () := by decide +kernel
theorem ck_11_36_32 : lk_3 c_T 11 36 32 = some () := by decide +kernel
theorem ck_11_36_33 : lk_3 c_T 11 36 33 = some () := by decide +kernel
theorem ck_11_36_34 : lk_3 c_T 11 36 34 = some () := by decide +kernel
theorem ck_11_36_35 : lk_3 c_T 11 36 35 = some () := by decide +kernel
theorem ck_13_27_7 : lk_3 c_T 13 27 7 = some () := by decide +kernel
theorem ck_14_9_24 : lk_3 c_T 14 9 24 = some () := by decide +kernel
theorem ck_15_50_32 : lk_3 c_T 15 50 32 = some () := by decide +kernel
theorem ck_15_50_33 : lk_3 c_T 15 50 33 = some () := by decide +kernel
theorem ck_15_50_34 : lk_3 c_T 15 50 34 = some () := by decide +kernel
theorem ck_15_50_35 : lk_3 c_T 15 50 35 = some () := by decide +kernel
theorem ck_22_311_2 : lk_3 c_T 22 311 2 = some () := by decide +kernel
theorem ck_31_10_18 : lk_3 c_T 31 10 18 = some () := by decide +kernel
theorem ck_31_10_38 : lk_3 c_T 31 10 38 = some () := by decide +kernel
theorem bk_1_1 : lk_2 b_T 1 1 = some 2 := by decide +kernel
theorem bk_1_259 : lk_2 b_T 1 259 = some 8 := by decide +kernel
theorem bk_1_296 : lk_2 b_T 1 296 = some 7 := by decide +kernel
theorem bk_1_309 : lk_2 b_T 1 309 = some 6 := by decide +kernel
theorem bk_2_1 : lk_2 b_T 2 1 = some 2 := by decide +kernel
theorem bk_7_1 : lk_2 b_T 7 1 = some 2 := by decide +kernel
theorem bk_7_26 : lk_2 b_T 7 26 = some 6 := by decide +kernel
theorem bk_11_1 : lk_2 b_T 11 1 = some 2 := by decide +kernel
theorem bk_11_45 : lk_2 b_T 11 45 = some 7 := by decide +kernel
theorem bk_11_89 : lk_2 b_T 11 89 = some 6 := by decide +kernel
theorem bk_12_1 : lk_2 b_T 12 1 = some 2 := by decide +kernel
theorem bk_13_26 : lk_2 b_T 13 26 = some 9 := by decide +kernel
theorem bk_14_3 : lk_2 b_T 14 3 = some 2 := by decide +kernel
theorem bk_14_56 : lk_2 b_T 14 56 = some 1 := by decide +kernel
theorem bk_15_3 : lk_2 b_T 15 3 = some 2 := by decide +kernel
theorem bk_15_54 : lk_2 b_T 15 54 = some 1 := by decide +kernel
theorem bk_15_83 : lk_2 b_T 15 83 = some 8 := by decide +kernel
theorem bk_16_3 : lk_2 b_T 16 3 = some 2 := by decide +kernel
theorem bk_16_183 : lk_2 b_T 16 183 = some 7 := by decide +kernel
theorem bk_16_298 : lk_2 b_T 16 298 = some 6 := by decide +kernel
theorem bk_16_317 : lk_2 b_T 16 317 = some 8 := by decide +kernel
theorem bk_17_3 : lk_2 b_T 17 3 = some 2 := by decide +kernel
theorem bk_18_1 : lk_2 b_T 18 1 = some 5 := by decide +kernel
theorem bk_19_1 : lk_2 b_T 19 1 = some 2 := by decide +kernel
theorem bk_21_194 : lk_2 b_T 21 194 = some 6 := by decide +kernel
theorem bk_22_86 : lk_2 b_T 22 86 = some 3 := by decide +kernel
theorem bk_22_150 : lk_2 b_T 22 150 = some 1 := by decide +kernel
theorem bk_22_304 : lk_2 b_T 22 304 = some 7 := by decide +kernel
theorem bk_22_310 : lk_2 b_T 22 310 = some 4 := by decide +kernel
theorem bk_28_79 : lk_2 b_T 28 79 = some 6 := by decide +kernel
theorem bk_28_112 : lk_2 b_T 28 112 = some 1 := by decide +kernel
theorem bk_29_3 : lk_2 b_T 29 3 = some 2 := by decide +kernel
theorem bk_31_1 : lk_2 b_T 31 1 = some 2 := by decide +kernel
theorem bk_31_212 : lk_2 b_T 31 212 = some 1 := by decide +kernel
theorem pk_0_85 : (lk_2 b_T 0 85 = none) ∧ lk_2 p_T 0 85 = some 23 := by decide +kernel
theorem pk_0_88 : (lk_2 b_T 0 88 = none) ∧ lk_2 p_T 0 88 = some 149 := by decide +kernel
theorem pk_1_110 : (lk_2 b_T 1 110 = none) ∧ lk_2 p_T 1 110 = some 264 := by decide +kernel
theorem pk_1_18 : (lk_2 b_T 1 18 = none) ∧ lk_2 p_T 1 18 = some 130 := by decide +kernel
theorem pk_1_33 : (lk_2 b_T 1 33 = none) ∧ lk_2 p_T 1 33 = some 133 := by decide +kernel
theorem pk_1_9 : (lk_2 b_T 1 9 = none) ∧ lk_2 p_T 1 9 = some 125 := by decide +kernel
theorem pk_10_1 : (lk_2 b_T 10 1 = none) ∧ lk_2 p_T 10 1 = some 120 := by decide +kernel
theorem pk_10_11 : (lk_2 b_T 10 11 = none) ∧ lk_2 p_T 10 11 = some 118 := by decide +kernel
theorem pk_10_15 : (lk_2 b_T 10 15 = none) ∧ lk_2 p_T 10 15 = some 111 := by decide +kernel
theorem pk_10_7 : (lk_2 b_T 10 7 = none) ∧ lk_2 p_T 10 7 = some 117 := by decide +kernel
theorem pk_11_18 : (lk_2 b_T 11 18 = none) ∧ lk_2 p_T 11 18 = some 307 := by decide +kernel
theorem pk_11_27 : (lk_2 b_T 11 27 = none) ∧ lk_2 p_T 11 27 = some 127 := by decide +kernel
theorem pk_14_11 : (lk_2 b_T 14 11 = none) ∧ lk_2 p_T 14 11 = some 133 := by decide +kernel
theorem pk_14_20 : (lk_2 b_T 14 20 = none) ∧ lk_2 p_T 14 20 = some 307 := by decide +kernel
theorem pk_17_109 : (lk_2 b_T 17 109 = none) ∧ lk_2 p_T 17 109 = some 284 := by decide +kernel
theorem pk_17_122 : (lk_2 b_T 17 122 = none) ∧ lk_2 p_T 17 122 = some 125 := by decide +kernel
theorem pk_17_181 : (lk_2 b_T 17 181 = none) ∧ lk_2 p_T 17 181 = some 112 := by decide +kernel
theorem pk_17_186 : (lk_2 b_T 17 186 = none) ∧ lk_2 p_T 17 186 = some 116 := by decide +kernel
theorem pk_17_189 : (lk_2 b_T 17 189 = none) ∧ lk_2 p_T 17 189 = some 120 := by decide +kernel
theorem pk_17_192 : (lk_2 b_T 17 192 = none) ∧ lk_2 p_T 17 192 = some 124 := by decide +kernel
theorem pk_17_202 : (lk_2 b_T 17 202 = none) ∧ lk_2 p_T 17 202 = some 104 := by decide +kernel
theorem pk_17_223 : (lk_2 b_T 17 223 = none) ∧ lk_2 p_T 17 223 = some 106 := by decide +kernel
theorem pk_17_240 : (lk_2 b_T 17 240 = none) ∧ lk_2 p_T 17 240 = some 100 := by decide +kernel
theorem pk_17_248 : (lk_2 b_T 17 248 = none) ∧ lk_2 p_T 17 248 = some 102 := by decide +kernel
theorem pk_17_61 : (lk_2 b_T 17 61 = none) ∧ lk_2 p_T 17 61 = some 335 := by decide +kernel
theorem pk_20_1 : (lk_2 b_T 20 1 = none) ∧ lk_2 p_T 20 1 = some 285 := by decide +kernel
theorem pk_22_47 : (lk_2 b_T 22 47 = none) ∧ lk_2 p_T 22 47 = some 330 := by decide +kernel
theorem pk_28_1 : (lk_2 b_T 28 1 = none) ∧ lk_2 p_T 28 1 = some 286 := by decide +kernel
theorem pk_28_22 : (lk_2 b_T 28 22 = none) ∧ lk_2 p_T 28 22 = some 330 := by decide +kernel
theorem pk_3_1 : (lk_2 b_T 3 1 = none) ∧ lk_2 p_T 3 1 = some 98 := by decide +kernel
theorem pk_30_1 : (lk_2 b_T 30 1 = none) ∧ lk_2 p_T 30 1 = some 317 := by decide +kernel
theorem pk_30_137 : (lk_2 b_T 30 137 = none) ∧ lk_2 p_T 30 137 = some 342 := by decide +kernel
theorem pk_30_29 : (lk_2 b_T 30 29 = none) ∧ lk_2 p_T 30 29 = some 318 := by decide +kernel
theorem pk_30_343 : (lk_2 b_T 30 343 = none) ∧ lk_2 p_T 30 343 = some 328 := by decide +kernel
theorem pk_30_50 : (lk_2 b_T 30 50 = none) ∧ lk_2 p_T 30 50 = some 329 := by decide +kernel
theorem pk_30_53 : (lk_2 b_T 30 53 = none) ∧ lk_2 p_T 30 53 = some 326 := by decide +kernel
theorem pk_31_209 : (lk_2 b_T 31 209 = none) ∧ lk_2 p_T 31 209 = some 346 := by decide +kernel
theorem pk_31_489 : (lk_2 b_T 31 489 = none) ∧ lk_2 p_T 31 489 = some 343 := by decide +kernel
theorem pk_4_1 : (lk_2 b_T 4 1 = none) ∧ lk_2 p_T 4 1 = some 98 := by decide +kernel
theorem pk_5_1 : (lk_2 b_T 5 1 = none) ∧ lk_2 p_T 5 1 = some 98 := by decide +kernel
theorem pk_6_1 : (lk_2 b_T 6 1 = none) ∧ lk_2 p_T 6 1 = some 98 := by decide +kernel
theorem pk_8_1 : (lk_2 b_T 8 1 = none) ∧ lk_2 p_T 8 1 = some 112 := by decide +kernel
theorem pk_8_11 : (lk_2 b_T 8 11 = none) ∧ lk_2 p_T 8 11 = some 110 := by decide +kernel
theorem pk_8_7 : (lk_2 b_T 8 7 = none) ∧ lk_2 p_T 8 7 = some 107 := by decide +kernel
theorem pk_9_1 : (lk_2 b_T 9 1 = none) ∧ lk_2 p_T 9 1 = some 112 := by decide +kernel
theorem pk_9_11 : (lk_2 b_T 9 11 = none) ∧ lk_2 p_T 9 11 = some 109 := by decide +kernel
theorem pk_9_7 : (lk_2 b_T 9 7 = none) ∧ lk_2 p_T 9 7 = some 110 := by decide +kernel
theorem sk_0_108 : (lk_2 b_T 0 108 = none) ∧ lk_2 s_T 0 108 = some 2 := by decide +kernel
theorem sk_0_111 : (lk_2 b_T 0 111 = none) ∧ lk_2 s_T 0 111 = some 3 := by decide +kernel
theorem sk_0_115 : (lk_2 b_T 0 115 = none) ∧ lk_2 s_T 0 115 = some 4 := by decide +kernel
theorem sk_0_122 : (lk_2 b_T 0 122 = none) ∧ lk_2 s_T 0 122 = some 5 := by decide +kernel
theorem sk_0_125 : (lk_2 b_T 0 125 = none) ∧ lk_2 s_T 0 125 = some 6 := by decide +kernel
theorem sk_0_128 : (lk_2 b_T 0 128 = none) ∧ lk_2 s_T 0 128 = some 7 := by decide +kernel
theorem sk_0_131 : (lk_2 b_T 0 131 = none) ∧ lk_2 s_T 0 131 = some 8 := by decide +kernel
theorem sk_0_134 : (lk_2 b_T 0 134 = none) ∧ lk_2 s_T 0 134 = some 9 := by decide +kernel
theorem sk_0_153 : (lk_2 b_T 0 153 = none) ∧ lk_2 s_T 0 153 = some 10 := by decide +kernel
theorem sk_0_156 : (lk_2 b_T 0 156 = none) ∧ lk_2 s_T 0 156 = some 11 := by decide +kernel
theorem sk_0_159 : (lk_2 b_T 0 159 = none) ∧ lk_2 s_T 0 159 = some 12 := by decide +kernel
theorem sk_0_179 : (lk_2 b_T 0 179 = none) ∧ lk_2 s_T 0 179 = some 13 := by decide +kernel
theorem sk_0_182 : (lk_2 b_T 0 182 = none) ∧ lk_2 s_T 0 182 = some 14 := by decide +kernel
theorem sk_0_189 : (lk_2 b_T 0 189 = none) ∧ lk_2 s_T 0 189 = some 15 := by decide +kernel
theorem sk_0_196 : (lk_2 b_T 0 196 = none) ∧ lk_2 s_T 0 196 = some 16 := by decide +kernel
theorem sk_0_203 : (lk_2 b_T 0 203 = none) ∧ lk_2 s_T 0 203 = some 17 := by decide +kernel
theorem sk_0_206 : (lk_2 b_T 0 206 = none) ∧ lk_2 s_T 0 206 = some 18 := by decide +kernel
theorem sk_0_213 : (lk_2 b_T 0 213 = none) ∧ lk_2 s_T 0 213 = some 19 := by decide +kernel
theorem sk_0_228 : (lk_2 b_T 0 228 = none) ∧ lk_2 s_T 0 228 = some 20 := by decide +kernel
theorem sk_0_239 : (lk_2 b_T 0 239 = none) ∧ lk_2 s_T 0 239 = some 21 := by decide +kernel
theorem sk_0_242 : (lk_2 b_T 0 242 = none) ∧ lk_2 s_T 0 242 = some 22 := by decide +kernel
theorem sk_0_94 : (lk_2 b_T 0 94 = none) ∧ lk_2 s_T 0 94 = some 1 := by decide +kernel
theorem sk_1_105 : (lk_2 b_T 1 105 = none) ∧ lk_2 s_T 1 105 = some 66 := by decide +kernel
theorem sk_1_137 : (lk_2 b_T 1 137 = none) ∧ lk_2 s_T 1 137 = some 31 := by decide +kernel
theorem sk_1_268 : (lk_2 b_T 1 268 = none) ∧ lk_2 s_T 1 268 = some 303 := by decide +kernel
theorem sk_1_306 : (lk_2 b_T 1 306 = none) ∧ lk_2 s_T 1 306 = some 304 := by decide +kernel
theorem sk_1_85 : (lk_2 b_T 1 85 = none) ∧ lk_2 s_T 1 85 = some 68 := by decide +kernel
theorem sk_12_7 : (lk_2 b_T 12 7 = none) ∧ lk_2 s_T 12 7 = some 129 := by decide +kernel
theorem sk_16_146 : (lk_2 b_T 16 146 = none) ∧ lk_2 s_T 16 146 = some 190 := by decide +kernel
theorem sk_16_172 : (lk_2 b_T 16 172 = none) ∧ lk_2 s_T 16 172 = some 156 := by decide +kernel
theorem sk_16_176 : (lk_2 b_T 16 176 = none) ∧ lk_2 s_T 16 176 = some 157 := by decide +kernel
theorem sk_16_189 : (lk_2 b_T 16 189 = none) ∧ lk_2 s_T 16 189 = some 158 := by decide +kernel
theorem sk_16_278 : (lk_2 b_T 16 278 = none) ∧ lk_2 s_T 16 278 = some 175 := by decide +kernel
theorem sk_16_374 : (lk_2 b_T 16 374 = none) ∧ lk_2 s_T 16 374 = some 211 := by decide +kernel
theorem sk_16_395 : (lk_2 b_T 16 395 = none) ∧ lk_2 s_T 16 395 = some 223 := by decide +kernel
theorem sk_16_399 : (lk_2 b_T 16 399 = none) ∧ lk_2 s_T 16 399 = some 221 := by decide +kernel
theorem sk_16_480 : (lk_2 b_T 16 480 = none) ∧ lk_2 s_T 16 480 = some 262 := by decide +kernel
theorem sk_17_243 : (lk_2 b_T 17 243 = none) ∧ lk_2 s_T 17 243 = some 282 := by decide +kernel
theorem sk_17_55 : (lk_2 b_T 17 55 = none) ∧ lk_2 s_T 17 55 = some 267 := by decide +kernel
theorem sk_17_79 : (lk_2 b_T 17 79 = none) ∧ lk_2 s_T 17 79 = some 268 := by decide +kernel
theorem sk_17_88 : (lk_2 b_T 17 88 = none) ∧ lk_2 s_T 17 88 = some 269 := by decide +kernel
theorem sk_17_97 : (lk_2 b_T 17 97 = none) ∧ lk_2 s_T 17 97 = some 345 := by decide +kernel
theorem sk_22_300 : (lk_2 b_T 22 300 = none) ∧ lk_2 s_T 22 300 = some 293 := by decide +kernel
theorem sk_22_339 : (lk_2 b_T 22 339 = none) ∧ lk_2 s_T 22 339 = some 290 := by decide +kernel
theorem sk_22_343 : (lk_2 b_T 22 343 = none) ∧ lk_2 s_T 22 343 = some 291 := by decide +kernel
theorem sk_24_9 : (lk_2 b_T 24 9 = none) ∧ lk_2 s_T 24 9 = some 344 := by decide +kernel
theorem sk_27_105 : (lk_2 b_T 27 105 = none) ∧ lk_2 s_T 27 105 = some 296 := by decide +kernel
theorem sk_28_118 : (lk_2 b_T 28 118 = none) ∧ lk_2 s_T 28 118 = some 306 := by decide +kernel
theorem sk_28_66 : (lk_2 b_T 28 66 = none) ∧ lk_2 s_T 28 66 = some 292 := by decide +kernel
theorem sk_28_73 : (lk_2 b_T 28 73 = none) ∧ lk_2 s_T 28 73 = some 287 := by decide +kernel
theorem sk_29_108 : (lk_2 b_T 29 108 = none) ∧ lk_2 s_T 29 108 = some 288 := by decide +kernel
theorem sk_29_114 : (lk_2 b_T 29 114 = none) ∧ lk_2 s_T 29 114 = some 287 := by decide +kernel
theorem sk_29_191 : (lk_2 b_T 29 191 = none) ∧ lk_2 s_T 29 191 = some 297 := by decide +kernel
theorem sk_29_245 : (lk_2 b_T 29 245 = none) ∧ lk_2 s_T 29 245 = some 301 := by decide +kernel
theorem sk_29_248 : (lk_2 b_T 29 248 = none) ∧ lk_2 s_T 29 248 = some 302 := by decide +kernel
theorem sk_31_1015 : (lk_2 b_T 31 1015 = none) ∧ lk_2 s_T 31 1015 = some 297 := by decide +kernel
theorem sk_31_1018 : (lk_2 b_T 31 1018 = none) ∧ lk_2 s_T 31 1018 = some 298 := by decide +kernel
theorem sk_31_1059 : (lk_2 b_T 31 1059 = none) ∧ lk_2 s_T 31 1059 = some 296 := by decide +kernel
theorem sk_31_1062 : (lk_2 b_T 31 1062 = none) ∧ lk_2 s_T 31 1062 = some 294 := by decide +kernel
theorem sk_31_1065 : (lk_2 b_T 31 1065 = none) ∧ lk_2 s_T 31 1065 = some 295 := by decide +kernel
theorem sk_31_495 : (lk_2 b_T 31 495 = none) ∧ lk_2 s_T 31 495 = some 300 := by decide +kernel
theorem sk_31_54 : (lk_2 b_T 31 54 = none) ∧ lk_2 s_T 31 54 = some 289 := by decide +kernel
theorem sk_31_541 : (lk_2 b_T 31 541 = none) ∧ lk_2 s_T 31 541 = some 299 := by decide +kernel
theorem vk_0_100_25 : lk_3 v_T 0 100 25 = some 150 := by decide +kernel
theorem vk_0_104_20 : lk_3 v_T 0 104 20 = some 26 := by decide +kernel
theorem vk_0_107_25 : lk_3 v_T 0 107 25 = some 176 := by decide +kernel
theorem vk_0_110_25 : lk_3 v_T 0 110 25 = some 177 := by decide +kernel
theorem vk_0_114_25 : lk_3 v_T 0 114 25 = some 188 := by decide +kernel
theorem vk_0_117_25 : lk_3 v_T 0 117 25 = some 194 := by decide +kernel
theorem vk_0_118_20 : lk_3 v_T 0 118 20 = some 27 := by decide +kernel
theorem vk_0_121_25 : lk_3 v_T 0 121 25 = some 192 := by decide +kernel
theorem vk_0_124_25 : lk_3 v_T 0 124 25 = some 196 := by decide +kernel
theorem vk_0_127_25 : lk_3 v_T 0 127 25 = some 200 := by decide +kernel
theorem vk_0_130_25 : lk_3 v_T 0 130 25 = some 202 := by decide +kernel
theorem vk_0_133_25 : lk_3 v_T 0 133 25 = some 205 := by decide +kernel
theorem vk_0_136_25 : lk_3 v_T 0 136 25 = some 207 := by decide +kernel
theorem vk_0_137_20 : lk_3 v_T 0 137 20 = some 29 := by decide +kernel
theorem vk_0_140_25 : lk_3 v_T 0 140 25 = some 208 := by decide +kernel
theorem vk_0_141_20 : lk_3 v_T 0 141 20 = some 30 := by decide +kernel
theorem vk_0_144_25 : lk_3 v_T 0 144 25 = some 212 := by decide +kernel
theorem vk_0_145_20 : lk_3 v_T 0 145 20 = some 34 := by decide +kernel
theorem vk_0_148_25 : lk_3 v_T 0 148 25 = some 213 := by decide +kernel
theorem vk_0_149_20 : lk_3 v_T 0 149 20 = some 35 := by decide +kernel
theorem vk_0_15_20 : lk_3 v_T 0 15 20 = some 67 := by decide +kernel
theorem vk_0_152_25 : lk_3 v_T 0 152 25 = some 215 := by decide +kernel
theorem vk_0_155_25 : lk_3 v_T 0 155 25 = some 217 := by decide +kernel
theorem vk_0_158_25 : lk_3 v_T 0 158 25 = some 218 := by decide +kernel
theorem vk_0_161_25 : lk_3 v_T 0 161 25 = some 225 := by decide +kernel
theorem vk_0_162_20 : lk_3 v_T 0 162 20 = some 37 := by decide +kernel
theorem vk_0_166_25 : lk_3 v_T 0 166 25 = some 226 := by decide +kernel
theorem vk_0_167_20 : lk_3 v_T 0 167 20 = some 43 := by decide +kernel
theorem vk_0_170_25 : lk_3 v_T 0 170 25 = some 229 := by decide +kernel
theorem vk_0_171_20 : lk_3 v_T 0 171 20 = some 45 := by decide +kernel
theorem vk_0_174_25 : lk_3 v_T 0 174 25 = some 231 := by decide +kernel
theorem vk_0_175_20 : lk_3 v_T 0 175 20 = some 46 := by decide +kernel
theorem vk_0_178_25 : lk_3 v_T 0 178 25 = some 235 := by decide +kernel
theorem vk_0_181_25 : lk_3 v_T 0 181 25 = some 233 := by decide +kernel
theorem vk_0_184_25 : lk_3 v_T 0 184 25 = some 237 := by decide +kernel
theorem vk_0_185_20 : lk_3 v_T 0 185 20 = some 49 := by decide +kernel
theorem vk_0_188_25 : lk_3 v_T 0 188 25 = some 238 := by decide +kernel
theorem vk_0_191_25 : lk_3 v_T 0 191 25 = some 241 := by decide +kernel
theorem vk_0_192_20 : lk_3 v_T 0 192 20 = some 50 := by decide +kernel
theorem vk_0_195_25 : lk_3 v_T 0 195 25 = some 244 := by decide +kernel
theorem vk_0_198_25 : lk_3 v_T 0 198 25 = some 228 := by decide +kernel
theorem vk_0_199_20 : lk_3 v_T 0 199 20 = some 52 := by decide +kernel
theorem vk_0_20_20 : lk_3 v_T 0 20 20 = some 69 := by decide +kernel
theorem vk_0_202_25 : lk_3 v_T 0 202 25 = some 245 := by decide +kernel
theorem vk_0_205_25 : lk_3 v_T 0 205 25 = some 246 := by decide +kernel
theorem vk_0_208_25 : lk_3 v_T 0 208 25 = some 232 := by decide +kernel
theorem vk_0_209_20 : lk_3 v_T 0 209 20 = some 53 := by decide +kernel
theorem vk_0_212_25 : lk_3 v_T 0 212 25 = some 247 := by decide +kernel
theorem vk_0_215_25 : lk_3 v_T 0 215 25 = some 239 := by decide +kernel
theorem vk_0_216_20 : lk_3 v_T 0 216 20 = some 54 := by decide +kernel
theorem vk_0_219_25 : lk_3 v_T 0 219 25 = some 243 := by decide +kernel
theorem vk_0_220_20 : lk_3 v_T 0 220 20 = some 56 := by decide +kernel
theorem vk_0_223_25 : lk_3 v_T 0 223 25 = some 240 := by decide +kernel
theorem vk_0_224_20 : lk_3 v_T 0 224 20 = some 57 := by decide +kernel
theorem vk_0_227_25 : lk_3 v_T 0 227 25 = some 248 := by decide +kernel
theorem vk_0_230_25 : lk_3 v_T 0 230 25 = some 249 := by decide +kernel
theorem vk_0_231_20 : lk_3 v_T 0 231 20 = some 58 := by decide +kernel
theorem vk_0_234_25 : lk_3 v_T 0 234 25 = some 252 := by decide +kernel
theorem vk_0_235_20 : lk_3 v_T 0 235 20 = some 62 := by decide +kernel
theorem vk_0_238_25 : lk_3 v_T 0 238 25 = some 254 := by decide +kernel
theorem vk_0_24_20 : lk_3 v_T 0 24 20 = some 71 := by decide +kernel
theorem vk_0_241_25 : lk_3 v_T 0 241 25 = some 255 := by decide +kernel
theorem vk_0_245_25 : lk_3 v_T 0 245 25 = some 258 := by decide +kernel
theorem vk_0_246_20 : lk_3 v_T 0 246 20 = some 63 := by decide +kernel
theorem vk_0_249_25 : lk_3 v_T 0 249 25 = some 261 := by decide +kernel
theorem vk_0_250_20 : lk_3 v_T 0 250 20 = some 64 := by decide +kernel
theorem vk_0_254_25 : lk_3 v_T 0 254 25 = some 263 := by decide +kernel
theorem vk_0_27_20 : lk_3 v_T 0 27 20 = some 73 := by decide +kernel
theorem vk_0_30_20 : lk_3 v_T 0 30 20 = some 74 := by decide +kernel
theorem vk_0_33_20 : lk_3 v_T 0 33 20 = some 75 := by decide +kernel
theorem vk_0_37_20 : lk_3 v_T 0 37 20 = some 76 := by decide +kernel
theorem vk_0_40_20 : lk_3 v_T 0 40 20 = some 78 := by decide +kernel
theorem vk_0_43_20 : lk_3 v_T 0 43 20 = some 79 := by decide +kernel
theorem vk_0_47_20 : lk_3 v_T 0 47 20 = some 80 := by decide +kernel
theorem vk_0_50_20 : lk_3 v_T 0 50 20 = some 82 := by decide +kernel
theorem vk_0_53_20 : lk_3 v_T 0 53 20 = some 84 := by decide +kernel
theorem vk_0_56_20 : lk_3 v_T 0 56 20 = some 85 := by decide +kernel
theorem vk_0_59_20 : lk_3 v_T 0 59 20 = some 86 := by decide +kernel
theorem vk_0_62_20 : lk_3 v_T 0 62 20 = some 87 := by decide +kernel
theorem vk_0_66_20 : lk_3 v_T 0 66 20 = some 88 := by decide +kernel
theorem vk_0_69_20 : lk_3 v_T 0 69 20 = some 89 := by decide +kernel
theorem vk_0_7_20 : lk_3 v_T 0 7 20 = some 65 := by decide +kernel
theorem vk_0_72_20 : lk_3 v_T 0 72 20 = some 90 := by decide +kernel
theorem vk_0_75_20 : lk_3 v_T 0 75 20 = some 91 := by decide +kernel
theorem vk_0_78_20 : lk_3 v_T 0 78 20 = some 92 := by decide +kernel
theorem vk_0_81_20 : lk_3 v_T 0 81 20 = some 95 := by decide +kernel
theorem vk_0_89_20 : lk_3 v_T 0 89 20 = some 24 := by decide +kernel
theorem vk_0_93_25 : lk_3 v_T 0 93 25 = some 151 := by decide +kernel
theorem vk_0_99_25 : lk_3 v_T 0 99 25 = some 152 := by decide +kernel
theorem vk_1_101_20 : lk_3 v_T 1 101 20 = some 25 := by decide +kernel
theorem vk_1_113_26 : lk_3 v_T 1 113 26 = some 270 := by decide +kernel
theorem vk_1_147_24 : lk_3 v_T 1 147 24 = some 138 := by decide +kernel
theorem vk_1_151_24 : lk_3 v_T 1 151 24 = some 139 := by decide +kernel
theorem vk_1_158_24 : lk_3 v_T 1 158 24 = some 146 := by decide +kernel
theorem vk_1_164_20 : lk_3 v_T 1 164 20 = some 70 := by decide +kernel
theorem vk_1_168_32 : lk_3 v_T 1 168 32 = some 107 := by decide +kernel
theorem vk_1_168_33 : lk_3 v_T 1 168 33 = some 114 := by decide +kernel
theorem vk_1_168_34 : lk_3 v_T 1 168 34 = some 117 := by decide +kernel
theorem vk_1_168_35 : lk_3 v_T 1 168 35 = some 121 := by decide +kernel
theorem vk_1_173_32 : lk_3 v_T 1 173 32 = some 113 := by decide +kernel
theorem vk_1_173_33 : lk_3 v_T 1 173 33 = some 113 := by decide +kernel
theorem vk_1_173_34 : lk_3 v_T 1 173 34 = some 113 := by decide +kernel
theorem vk_1_173_35 : lk_3 v_T 1 173 35 = some 113 := by decide +kernel
theorem vk_1_189_24 : lk_3 v_T 1 189 24 = some 135 := by decide +kernel
theorem vk_1_192_20 : lk_3 v_T 1 192 20 = some 72 := by decide +kernel
theorem vk_1_198_24 : lk_3 v_T 1 198 24 = some 141 := by decide +kernel
theorem vk_1_202_24 : lk_3 v_T 1 202 24 = some 142 := by decide +kernel
theorem vk_1_205_24 : lk_3 v_T 1 205 24 = some 143 := by decide +kernel
theorem vk_1_208_24 : lk_3 v_T 1 208 24 = some 140 := by decide +kernel
theorem vk_1_212_23 : lk_3 v_T 1 212 23 = some 131 := by decide +kernel
theorem vk_1_215_20 : lk_3 v_T 1 215 20 = some 33 := by decide +kernel
theorem vk_1_218_20 : lk_3 v_T 1 218 20 = some 32 := by decide +kernel
theorem vk_1_222_24 : lk_3 v_T 1 222 24 = some 148 := by decide +kernel
theorem vk_1_226_24 : lk_3 v_T 1 226 24 = some 147 := by decide +kernel
theorem vk_1_229_20 : lk_3 v_T 1 229 20 = some 77 := by decide +kernel
theorem vk_1_233_24 : lk_3 v_T 1 233 24 = some 137 := by decide +kernel
theorem vk_1_239_24 : lk_3 v_T 1 239 24 = some 136 := by decide +kernel
theorem vk_1_243_20 : lk_3 v_T 1 243 20 = some 36 := by decide +kernel
theorem vk_1_247_24 : lk_3 v_T 1 247 24 = some 144 := by decide +kernel
theorem vk_1_250_20 : lk_3 v_T 1 250 20 = some 41 := by decide +kernel
theorem vk_1_253_32 : lk_3 v_T 1 253 32 = some 108 := by decide +kernel
theorem vk_1_253_33 : lk_3 v_T 1 253 33 = some 108 := by decide +kernel
theorem vk_1_253_34 : lk_3 v_T 1 253 34 = some 108 := by decide +kernel
theorem vk_1_253_35 : lk_3 v_T 1 253 35 = some 108 := by decide +kernel
theorem vk_1_257_20 : lk_3 v_T 1 257 20 = some 42 := by decide +kernel
theorem vk_1_264_20 : lk_3 v_T 1 264 20 = some 39 := by decide +kernel
theorem vk_1_273_20 : lk_3 v_T 1 273 20 = some 38 := by decide +kernel
theorem vk_1_276_20 : lk_3 v_T 1 276 20 = some 81 := by decide +kernel
theorem vk_1_279_20 : lk_3 v_T 1 279 20 = some 40 := by decide +kernel
theorem vk_1_281_20 : lk_3 v_T 1 281 20 = some 83 := by decide +kernel
theorem vk_1_285_24 : lk_3 v_T 1 285 24 = some 145 := by decide +kernel
theorem vk_1_289_32 : lk_3 v_T 1 289 32 = some 111 := by decide +kernel
theorem vk_1_289_33 : lk_3 v_T 1 289 33 = some 111 := by decide +kernel
theorem vk_1_289_34 : lk_3 v_T 1 289 34 = some 111 := by decide +kernel
theorem vk_1_289_35 : lk_3 v_T 1 289 35 = some 123 := by decide +kernel
theorem vk_1_292_20 : lk_3 v_T 1 292 20 = some 44 := by decide +kernel
theorem vk_1_300_20 : lk_3 v_T 1 300 20 = some 48 := by decide +kernel
theorem vk_1_303_20 : lk_3 v_T 1 303 20 = some 47 := by decide +kernel
theorem vk_1_312_20 : lk_3 v_T 1 312 20 = some 55 := by decide +kernel
theorem vk_1_315_20 : lk_3 v_T 1 315 20 = some 51 := by decide +kernel
theorem vk_1_323_20 : lk_3 v_T 1 323 20 = some 61 := by decide +kernel
theorem vk_1_327_20 : lk_3 v_T 1 327 20 = some 60 := by decide +kernel
theorem vk_1_331_20 : lk_3 v_T 1 331 20 = some 59 := by decide +kernel
theorem vk_1_334_20 : lk_3 v_T 1 334 20 = some 93 := by decide +kernel
theorem vk_1_337_20 : lk_3 v_T 1 337 20 = some 94 := by decide +kernel
theorem vk_1_344_20 : lk_3 v_T 1 344 20 = some 97 := by decide +kernel
theorem vk_1_347_20 : lk_3 v_T 1 347 20 = some 96 := by decide +kernel
theorem vk_1_350_23 : lk_3 v_T 1 350 23 = some 132 := by decide +kernel
theorem vk_1_63_24 : lk_3 v_T 1 63 24 = some 134 := by decide +kernel
theorem vk_1_77_36 : lk_3 v_T 1 77 36 = some 312 := by decide +kernel
theorem vk_1_83_20 : lk_3 v_T 1 83 20 = some 28 := by decide +kernel
theorem vk_1_89_36 : lk_3 v_T 1 89 36 = some 313 := by decide +kernel
theorem vk_11_32_36 : lk_3 v_T 11 32 36 = some 313 := by decide +kernel
theorem vk_11_57_22 : lk_3 v_T 11 57 22 = some 128 := by decide +kernel
theorem vk_11_70_32 : lk_3 v_T 11 70 32 = some 107 := by decide +kernel
theorem vk_11_70_33 : lk_3 v_T 11 70 33 = some 114 := by decide +kernel
theorem vk_11_70_34 : lk_3 v_T 11 70 34 = some 117 := by decide +kernel
theorem vk_11_70_35 : lk_3 v_T 11 70 35 = some 121 := by decide +kernel
theorem vk_11_83_28 : lk_3 v_T 11 83 28 = some 99 := by decide +kernel
theorem vk_11_83_29 : lk_3 v_T 11 83 29 = some 101 := by decide +kernel
theorem vk_11_83_30 : lk_3 v_T 11 83 30 = some 103 := by decide +kernel
theorem vk_11_83_31 : lk_3 v_T 11 83 31 = some 105 := by decide +kernel
theorem vk_12_19_17 : lk_3 v_T 12 19 17 = some 305 := by decide +kernel
theorem vk_14_37_36 : lk_3 v_T 14 37 36 = some 308 := by decide +kernel
theorem vk_14_45_36 : lk_3 v_T 14 45 36 = some 315 := by decide +kernel
theorem vk_14_49_36 : lk_3 v_T 14 49 36 = some 313 := by decide +kernel
theorem vk_14_52_24 : lk_3 v_T 14 52 24 = some 136 := by decide +kernel
theorem vk_15_100_21 : lk_3 v_T 15 100 21 = some 126 := by decide +kernel
theorem vk_15_30_36 : lk_3 v_T 15 30 36 = some 312 := by decide +kernel
theorem vk_15_46_36 : lk_3 v_T 15 46 36 = some 313 := by decide +kernel
theorem vk_15_63_32 : lk_3 v_T 15 63 32 = some 108 := by decide +kernel
theorem vk_15_63_33 : lk_3 v_T 15 63 33 = some 108 := by decide +kernel
theorem vk_15_63_34 : lk_3 v_T 15 63 34 = some 108 := by decide +kernel
theorem vk_15_63_35 : lk_3 v_T 15 63 35 = some 108 := by decide +kernel
theorem vk_15_67_32 : lk_3 v_T 15 67 32 = some 111 := by decide +kernel
theorem vk_15_67_33 : lk_3 v_T 15 67 33 = some 111 := by decide +kernel
theorem vk_15_67_34 : lk_3 v_T 15 67 34 = some 111 := by decide +kernel
theorem vk_15_67_35 : lk_3 v_T 15 67 35 = some 123 := by decide +kernel
theorem vk_15_70_24 : lk_3 v_T 15 70 24 = some 144 := by decide +kernel
theorem vk_15_74_24 : lk_3 v_T 15 74 24 = some 141 := by decide +kernel
theorem vk_15_77_24 : lk_3 v_T 15 77 24 = some 142 := by decide +kernel
theorem vk_15_80_24 : lk_3 v_T 15 80 24 = some 143 := by decide +kernel
theorem vk_15_92_24 : lk_3 v_T 15 92 24 = some 140 := by decide +kernel
theorem vk_15_96_24 : lk_3 v_T 15 96 24 = some 139 := by decide +kernel
theorem vk_16_162_25 : lk_3 v_T 16 162 25 = some 155 := by decide +kernel
theorem vk_16_201_18 : lk_3 v_T 16 201 18 = some 338 := by decide +kernel
theorem vk_16_201_38 : lk_3 v_T 16 201 38 = some 338 := by decide +kernel
theorem vk_16_205_18 : lk_3 v_T 16 205 18 = some 348 := by decide +kernel
theorem vk_16_205_38 : lk_3 v_T 16 205 38 = some 348 := by decide +kernel
theorem vk_16_209_25 : lk_3 v_T 16 209 25 = some 160 := by decide +kernel
theorem vk_16_213_25 : lk_3 v_T 16 213 25 = some 165 := by decide +kernel
theorem vk_16_216_25 : lk_3 v_T 16 216 25 = some 162 := by decide +kernel
theorem vk_16_220_25 : lk_3 v_T 16 220 25 = some 154 := by decide +kernel
theorem vk_16_223_25 : lk_3 v_T 16 223 25 = some 163 := by decide +kernel
theorem vk_16_226_25 : lk_3 v_T 16 226 25 = some 171 := by decide +kernel
theorem vk_16_229_25 : lk_3 v_T 16 229 25 = some 161 := by decide +kernel
theorem vk_16_233_25 : lk_3 v_T 16 233 25 = some 172 := by decide +kernel
theorem vk_16_236_25 : lk_3 v_T 16 236 25 = some 164 := by decide +kernel
theorem vk_16_239_25 : lk_3 v_T 16 239 25 = some 170 := by decide +kernel
theorem vk_16_242_25 : lk_3 v_T 16 242 25 = some 169 := by decide +kernel
theorem vk_16_247_25 : lk_3 v_T 16 247 25 = some 168 := by decide +kernel
theorem vk_16_250_25 : lk_3 v_T 16 250 25 = some 167 := by decide +kernel
theorem vk_16_255_25 : lk_3 v_T 16 255 25 = some 166 := by decide +kernel
theorem vk_16_266_25 : lk_3 v_T 16 266 25 = some 173 := by decide +kernel
theorem vk_16_269_25 : lk_3 v_T 16 269 25 = some 153 := by decide +kernel
theorem vk_16_272_25 : lk_3 v_T 16 272 25 = some 159 := by decide +kernel
theorem vk_16_275_25 : lk_3 v_T 16 275 25 = some 174 := by decide +kernel
theorem vk_16_295_25 : lk_3 v_T 16 295 25 = some 184 := by decide +kernel
theorem vk_16_301_25 : lk_3 v_T 16 301 25 = some 183 := by decide +kernel
theorem vk_16_305_25 : lk_3 v_T 16 305 25 = some 186 := by decide +kernel
theorem vk_16_308_25 : lk_3 v_T 16 308 25 = some 181 := by decide +kernel
theorem vk_16_311_25 : lk_3 v_T 16 311 25 = some 182 := by decide +kernel
theorem vk_16_314_25 : lk_3 v_T 16 314 25 = some 185 := by decide +kernel
theorem vk_16_320_25 : lk_3 v_T 16 320 25 = some 180 := by decide +kernel
theorem vk_16_323_25 : lk_3 v_T 16 323 25 = some 179 := by decide +kernel
theorem vk_16_326_25 : lk_3 v_T 16 326 25 = some 178 := by decide +kernel
theorem vk_16_330_25 : lk_3 v_T 16 330 25 = some 187 := by decide +kernel
theorem vk_16_333_25 : lk_3 v_T 16 333 25 = some 189 := by decide +kernel
theorem vk_16_336_25 : lk_3 v_T 16 336 25 = some 191 := by decide +kernel
theorem vk_16_339_25 : lk_3 v_T 16 339 25 = some 193 := by decide +kernel
theorem vk_16_342_25 : lk_3 v_T 16 342 25 = some 195 := by decide +kernel
theorem vk_16_347_25 : lk_3 v_T 16 347 25 = some 199 := by decide +kernel
theorem vk_16_351_25 : lk_3 v_T 16 351 25 = some 197 := by decide +kernel
theorem vk_16_354_25 : lk_3 v_T 16 354 25 = some 198 := by decide +kernel
theorem vk_16_357_25 : lk_3 v_T 16 357 25 = some 201 := by decide +kernel
theorem vk_16_360_25 : lk_3 v_T 16 360 25 = some 203 := by decide +kernel
theorem vk_16_363_25 : lk_3 v_T 16 363 25 = some 204 := by decide +kernel
theorem vk_16_371_25 : lk_3 v_T 16 371 25 = some 206 := by decide +kernel
theorem vk_16_378_25 : lk_3 v_T 16 378 25 = some 210 := by decide +kernel
theorem vk_16_381_25 : lk_3 v_T 16 381 25 = some 209 := by decide +kernel
theorem vk_16_386_25 : lk_3 v_T 16 386 25 = some 214 := by decide +kernel
theorem vk_16_389_25 : lk_3 v_T 16 389 25 = some 216 := by decide +kernel
theorem vk_16_405_25 : lk_3 v_T 16 405 25 = some 224 := by decide +kernel
theorem vk_16_409_25 : lk_3 v_T 16 409 25 = some 220 := by decide +kernel
theorem vk_16_412_25 : lk_3 v_T 16 412 25 = some 222 := by decide +kernel
theorem vk_16_415_25 : lk_3 v_T 16 415 25 = some 219 := by decide +kernel
theorem vk_16_418_25 : lk_3 v_T 16 418 25 = some 227 := by decide +kernel
theorem vk_16_424_25 : lk_3 v_T 16 424 25 = some 230 := by decide +kernel
theorem vk_16_429_25 : lk_3 v_T 16 429 25 = some 234 := by decide +kernel
theorem vk_16_432_25 : lk_3 v_T 16 432 25 = some 236 := by decide +kernel
theorem vk_16_437_25 : lk_3 v_T 16 437 25 = some 242 := by decide +kernel
theorem vk_16_445_25 : lk_3 v_T 16 445 25 = some 250 := by decide +kernel
theorem vk_16_450_25 : lk_3 v_T 16 450 25 = some 251 := by decide +kernel
theorem vk_16_453_25 : lk_3 v_T 16 453 25 = some 253 := by decide +kernel
theorem vk_16_456_25 : lk_3 v_T 16 456 25 = some 257 := by decide +kernel
theorem vk_16_459_25 : lk_3 v_T 16 459 25 = some 256 := by decide +kernel
theorem vk_16_466_25 : lk_3 v_T 16 466 25 = some 260 := by decide +kernel
theorem vk_16_471_25 : lk_3 v_T 16 471 25 = some 259 := by decide +kernel
theorem vk_17_103_18 : lk_3 v_T 17 103 18 = some 347 := by decide +kernel
theorem vk_17_103_38 : lk_3 v_T 17 103 38 = some 347 := by decide +kernel
theorem vk_17_112_26 : lk_3 v_T 17 112 26 = some 272 := by decide +kernel
theorem vk_17_116_26 : lk_3 v_T 17 116 26 = some 273 := by decide +kernel
theorem vk_17_125_26 : lk_3 v_T 17 125 26 = some 271 := by decide +kernel
theorem vk_17_129_26 : lk_3 v_T 17 129 26 = some 274 := by decide +kernel
theorem vk_17_141_26 : lk_3 v_T 17 141 26 = some 275 := by decide +kernel
theorem vk_17_160_36 : lk_3 v_T 17 160 36 = some 312 := by decide +kernel
theorem vk_17_164_26 : lk_3 v_T 17 164 26 = some 283 := by decide +kernel
theorem vk_17_168_36 : lk_3 v_T 17 168 36 = some 308 := by decide +kernel
theorem vk_17_173_26 : lk_3 v_T 17 173 26 = some 281 := by decide +kernel
theorem vk_17_195_26 : lk_3 v_T 17 195 26 = some 276 := by decide +kernel
theorem vk_17_205_26 : lk_3 v_T 17 205 26 = some 277 := by decide +kernel
theorem vk_17_210_26 : lk_3 v_T 17 210 26 = some 278 := by decide +kernel
theorem vk_17_217_18 : lk_3 v_T 17 217 18 = some 348 := by decide +kernel
theorem vk_17_217_38 : lk_3 v_T 17 217 38 = some 348 := by decide +kernel
theorem vk_17_226_26 : lk_3 v_T 17 226 26 = some 279 := by decide +kernel
theorem vk_17_231_26 : lk_3 v_T 17 231 26 = some 280 := by decide +kernel
theorem vk_17_29_26 : lk_3 v_T 17 29 26 = some 265 := by decide +kernel
theorem vk_17_35_26 : lk_3 v_T 17 35 26 = some 266 := by decide +kernel
theorem vk_17_64_37 : lk_3 v_T 17 64 37 = some 334 := by decide +kernel
theorem vk_17_68_37 : lk_3 v_T 17 68 37 = some 336 := by decide +kernel
theorem vk_17_72_37 : lk_3 v_T 17 72 37 = some 333 := by decide +kernel
theorem vk_22_50_37 : lk_3 v_T 22 50 37 = some 331 := by decide +kernel
theorem vk_22_54_37 : lk_3 v_T 22 54 37 = some 332 := by decide +kernel
theorem vk_22_61_37 : lk_3 v_T 22 61 37 = some 333 := by decide +kernel
theorem vk_28_123_36 : lk_3 v_T 28 123 36 = some 314 := by decide +kernel
theorem vk_28_129_36 : lk_3 v_T 28 129 36 = some 310 := by decide +kernel
theorem vk_28_131_36 : lk_3 v_T 28 131 36 = some 309 := by decide +kernel
theorem vk_28_144_36 : lk_3 v_T 28 144 36 = some 316 := by decide +kernel
theorem vk_28_25_37 : lk_3 v_T 28 25 37 = some 331 := by decide +kernel
theorem vk_28_29_37 : lk_3 v_T 28 29 37 = some 332 := by decide +kernel
theorem vk_28_32_37 : lk_3 v_T 28 32 37 = some 333 := by decide +kernel
theorem vk_28_69_36 : lk_3 v_T 28 69 36 = some 311 := by decide +kernel
theorem vk_29_100_37 : lk_3 v_T 29 100 37 = some 320 := by decide +kernel
theorem vk_29_104_37 : lk_3 v_T 29 104 37 = some 321 := by decide +kernel
theorem vk_29_195_37 : lk_3 v_T 29 195 37 = some 325 := by decide +kernel
theorem vk_29_204_37 : lk_3 v_T 29 204 37 = some 319 := by decide +kernel
theorem vk_29_208_37 : lk_3 v_T 29 208 37 = some 323 := by decide +kernel
theorem vk_29_32_18 : lk_3 v_T 29 32 18 = some 338 := by decide +kernel
theorem vk_29_32_38 : lk_3 v_T 29 32 38 = some 338 := by decide +kernel
theorem vk_29_397_37 : lk_3 v_T 29 397 37 = some 324 := by decide +kernel
theorem vk_29_399_18 : lk_3 v_T 29 399 18 = some 341 := by decide +kernel
theorem vk_29_399_38 : lk_3 v_T 29 399 38 = some 341 := by decide +kernel
theorem vk_29_40_18 : lk_3 v_T 29 40 18 = some 339 := by decide +kernel
theorem vk_29_40_38 : lk_3 v_T 29 40 38 = some 339 := by decide +kernel
theorem vk_29_83_37 : lk_3 v_T 29 83 37 = some 322 := by decide +kernel
theorem vk_31_1047_37 : lk_3 v_T 31 1047 37 = some 322 := by decide +kernel
theorem vk_31_335_18 : lk_3 v_T 31 335 18 = some 339 := by decide +kernel
theorem vk_31_335_38 : lk_3 v_T 31 335 38 = some 339 := by decide +kernel
theorem vk_31_492_18 : lk_3 v_T 31 492 18 = some 349 := by decide +kernel
theorem vk_31_492_38 : lk_3 v_T 31 492 38 = some 349 := by decide +kernel
theorem vk_31_549_37 : lk_3 v_T 31 549 37 = some 334 := by decide +kernel
theorem vk_31_552_37 : lk_3 v_T 31 552 37 = some 327 := by decide +kernel
theorem vk_4_19_17 : lk_3 v_T 4 19 17 = some 305 := by decide +kernel
theorem vk_5_20_28 : lk_3 v_T 5 20 28 = some 99 := by decide +kernel
theorem vk_5_20_29 : lk_3 v_T 5 20 29 = some 101 := by decide +kernel
theorem vk_5_20_30 : lk_3 v_T 5 20 30 = some 103 := by decide +kernel
theorem vk_5_20_31 : lk_3 v_T 5 20 31 = some 105 := by decide +kernel
theorem vk_6_13_28 : lk_3 v_T 6 13 28 = some 99 := by decide +kernel
theorem vk_6_13_29 : lk_3 v_T 6 13 29 = some 101 := by decide +kernel
theorem vk_6_13_30 : lk_3 v_T 6 13 30 = some 103 := by decide +kernel
theorem vk_6_13_31 : lk_3 v_T 6 13 31 = some 105 := by decide +kernel
theorem vk_7_22_32 : lk_3 v_T 7 22 32 = some 110 := by decide +kernel
theorem vk_7_22_33 : lk_3 v_T 7 22 33 = some 115 := by decide +kernel
theorem vk_7_22_34 : lk_3 v_T 7 22 34 = some 119 := by decide +kernel
theorem vk_7_22_35 : lk_3 v_T 7 22 35 = some 119 := by decide +kernel
theorem vk_7_32_32 : lk_3 v_T 7 32 32 = some 109 := by decide +kernel
theorem vk_7_32_33 : lk_3 v_T 7 32 33 = some 109 := by decide +kernel
theorem vk_7_32_34 : lk_3 v_T 7 32 34 = some 118 := by decide +kernel
theorem vk_7_32_35 : lk_3 v_T 7 32 35 = some 122 := by decide +kernel
theorem nv_0_100 : (lk_2 b_T 0 100 = none) ∧ lk_2 v_N 0 100 = some 0 := by decide +kernel
theorem nv_0_104 : (lk_2 b_T 0 104 = none) ∧ lk_2 v_N 0 104 = some 0 := by decide +kernel
theorem nv_0_107 : (lk_2 b_T 0 107 = none) ∧ lk_2 v_N 0 107 = some 0 := by decide +kernel
theorem nv_0_110 : (lk_2 b_T 0 110 = none) ∧ lk_2 v_N 0 110 = some 1 := by decide +kernel
theorem nv_0_114 : (lk_2 b_T 0 114 = none) ∧ lk_2 v_N 0 114 = some 2 := by decide +kernel
theorem nv_0_117 : (lk_2 b_T 0 117 = none) ∧ lk_2 v_N 0 117 = some 2 := by decide +kernel
theorem nv_0_118 : (lk_2 b_T 0 118 = none) ∧ lk_2 v_N 0 118 = some 0 := by decide +kernel
theorem nv_0_121 : (lk_2 b_T 0 121 = none) ∧ lk_2 v_N 0 121 = some 0 := by decide +kernel
theorem nv_0_124 : (lk_2 b_T 0 124 = none) ∧ lk_2 v_N 0 124 = some 2 := by decide +kernel
theorem nv_0_127 : (lk_2 b_T 0 127 = none) ∧ lk_2 v_N 0 127 = some 1 := by decide +kernel
theorem nv_0_130 : (lk_2 b_T 0 130 = none) ∧ lk_2 v_N 0 130 = some 2 := by decide +kernel
theorem nv_0_133 : (lk_2 b_T 0 133 = none) ∧ lk_2 v_N 0 133 = some 2 := by decide +kernel
theorem nv_0_136 : (lk_2 b_T 0 136 = none) ∧ lk_2 v_N 0 136 = some 2 := by decide +kernel
theorem nv_0_137 : (lk_2 b_T 0 137 = none) ∧ lk_2 v_N 0 137 = some 0 := by decide +kernel
theorem nv_0_140 : (lk_2 b_T 0 140 = none) ∧ lk_2 v_N 0 140 = some 0 := by decide +kernel
theorem nv_0_141 : (lk_2 b_T 0 141 = none) ∧ lk_2 v_N 0 141 = some 1 := by decide +kernel
theorem nv_0_144 : (lk_2 b_T 0 144 = none) ∧ lk_2 v_N 0 144 = some 1 := by decide +kernel
theorem nv_0_145 : (lk_2 b_T 0 145 = none) ∧ lk_2 v_N 0 145 = some 0 := by decide +kernel
theorem nv_0_148 : (lk_2 b_T 0 148 = none) ∧ lk_2 v_N 0 148 = some 0 := by decide +kernel
theorem nv_0_149 : (lk_2 b_T 0 149 = none) ∧ lk_2 v_N 0 149 = some 0 := by decide +kernel
theorem nv_0_15 : (lk_2 b_T 0 15 = none) ∧ lk_2 v_N 0 15 = some 1 := by decide +kernel
theorem nv_0_152 : (lk_2 b_T 0 152 = none) ∧ lk_2 v_N 0 152 = some 0 := by decide +kernel
theorem nv_0_155 : (lk_2 b_T 0 155 = none) ∧ lk_2 v_N 0 155 = some 1 := by decide +kernel
theorem nv_0_158 : (lk_2 b_T 0 158 = none) ∧ lk_2 v_N 0 158 = some 1 := by decide +kernel
theorem nv_0_161 : (lk_2 b_T 0 161 = none) ∧ lk_2 v_N 0 161 = some 1 := by decide +kernel
theorem nv_0_162 : (lk_2 b_T 0 162 = none) ∧ lk_2 v_N 0 162 = some 0 := by decide +kernel
theorem nv_0_166 : (lk_2 b_T 0 166 = none) ∧ lk_2 v_N 0 166 = some 0 := by decide +kernel
theorem nv_0_167 : (lk_2 b_T 0 167 = none) ∧ lk_2 v_N 0 167 = some 0 := by decide +kernel
theorem nv_0_170 : (lk_2 b_T 0 170 = none) ∧ lk_2 v_N 0 170 = some 0 := by decide +kernel
theorem nv_0_171 : (lk_2 b_T 0 171 = none) ∧ lk_2 v_N 0 171 = some 0 := by decide +kernel
theorem nv_0_174 : (lk_2 b_T 0 174 = none) ∧ lk_2 v_N 0 174 = some 0 := by decide +kernel
theorem nv_0_175 : (lk_2 b_T 0 175 = none) ∧ lk_2 v_N 0 175 = some 0 := by decide +kernel
theorem nv_0_178 : (lk_2 b_T 0 178 = none) ∧ lk_2 v_N 0 178 = some 0 := by decide +kernel
theorem nv_0_181 : (lk_2 b_T 0 181 = none) ∧ lk_2 v_N 0 181 = some 2 := by decide +kernel
theorem nv_0_184 : (lk_2 b_T 0 184 = none) ∧ lk_2 v_N 0 184 = some 2 := by decide +kernel
theorem nv_0_185 : (lk_2 b_T 0 185 = none) ∧ lk_2 v_N 0 185 = some 0 := by decide +kernel
theorem nv_0_188 : (lk_2 b_T 0 188 = none) ∧ lk_2 v_N 0 188 = some 0 := by decide +kernel
theorem nv_0_191 : (lk_2 b_T 0 191 = none) ∧ lk_2 v_N 0 191 = some 1 := by decide +kernel
theorem nv_0_192 : (lk_2 b_T 0 192 = none) ∧ lk_2 v_N 0 192 = some 0 := by decide +kernel
theorem nv_0_195 : (lk_2 b_T 0 195 = none) ∧ lk_2 v_N 0 195 = some 0 := by decide +kernel
theorem nv_0_198 : (lk_2 b_T 0 198 = none) ∧ lk_2 v_N 0 198 = some 2 := by decide +kernel
theorem nv_0_199 : (lk_2 b_T 0 199 = none) ∧ lk_2 v_N 0 199 = some 0 := by decide +kernel
theorem nv_0_20 : (lk_2 b_T 0 20 = none) ∧ lk_2 v_N 0 20 = some 2 := by decide +kernel
theorem nv_0_202 : (lk_2 b_T 0 202 = none) ∧ lk_2 v_N 0 202 = some 0 := by decide +kernel
theorem nv_0_205 : (lk_2 b_T 0 205 = none) ∧ lk_2 v_N 0 205 = some 1 := by decide +kernel
theorem nv_0_208 : (lk_2 b_T 0 208 = none) ∧ lk_2 v_N 0 208 = some 1 := by decide +kernel
theorem nv_0_209 : (lk_2 b_T 0 209 = none) ∧ lk_2 v_N 0 209 = some 0 := by decide +kernel
theorem nv_0_212 : (lk_2 b_T 0 212 = none) ∧ lk_2 v_N 0 212 = some 0 := by decide +kernel
theorem nv_0_215 : (lk_2 b_T 0 215 = none) ∧ lk_2 v_N 0 215 = some 1 := by decide +kernel
theorem nv_0_216 : (lk_2 b_T 0 216 = none) ∧ lk_2 v_N 0 216 = some 0 := by decide +kernel
theorem nv_0_219 : (lk_2 b_T 0 219 = none) ∧ lk_2 v_N 0 219 = some 0 := by decide +kernel
theorem nv_0_220 : (lk_2 b_T 0 220 = none) ∧ lk_2 v_N 0 220 = some 0 := by decide +kernel
theorem nv_0_223 : (lk_2 b_T 0 223 = none) ∧ lk_2 v_N 0 223 = some 0 := by decide +kernel
theorem nv_0_224 : (lk_2 b_T 0 224 = none) ∧ lk_2 v_N 0 224 = some 2 := by decide +kernel
theorem nv_0_227 : (lk_2 b_T 0 227 = none) ∧ lk_2 v_N 0 227 = some 2 := by decide +kernel
theorem nv_0_230 : (lk_2 b_T 0 230 = none) ∧ lk_2 v_N 0 230 = some 1 := by decide +kernel
theorem nv_0_231 : (lk_2 b_T 0 231 = none) ∧ lk_2 v_N 0 231 = some 0 := by decide +kernel
theorem nv_0_234 : (lk_2 b_T 0 234 = none) ∧ lk_2 v_N 0 234 = some 0 := by decide +kernel
theorem nv_0_235 : (lk_2 b_T 0 235 = none) ∧ lk_2 v_N 0 235 = some 0 := by decide +kernel
theorem nv_0_238 : (lk_2 b_T 0 238 = none) ∧ lk_2 v_N 0 238 = some 0 := by decide +kernel
theorem nv_0_24 : (lk_2 b_T 0 24 = none) ∧ lk_2 v_N 0 24 = some 2 := by decide +kernel
theorem nv_0_241 : (lk_2 b_T 0 241 = none) ∧ lk_2 v_N 0 241 = some 1 := by decide +kernel
theorem nv_0_245 : (lk_2 b_T 0 245 = none) ∧ lk_2 v_N 0 245 = some 3 := by decide +kernel
theorem nv_0_246 : (lk_2 b_T 0 246 = none) ∧ lk_2 v_N 0 246 = some 0 := by decide +kernel
theorem nv_0_249 : (lk_2 b_T 0 249 = none) ∧ lk_2 v_N 0 249 = some 0 := by decide +kernel
theorem nv_0_250 : (lk_2 b_T 0 250 = none) ∧ lk_2 v_N 0 250 = some 0 := by decide +kernel
theorem nv_0_254 : (lk_2 b_T 0 254 = none) ∧ lk_2 v_N 0 254 = some 0 := by decide +kernel
theorem nv_0_27 : (lk_2 b_T 0 27 = none) ∧ lk_2 v_N 0 27 = some 2 := by decide +kernel
theorem nv_0_30 : (lk_2 b_T 0 30 = none) ∧ lk_2 v_N 0 30 = some 1 := by decide +kernel
theorem nv_0_33 : (lk_2 b_T 0 33 = none) ∧ lk_2 v_N 0 33 = some 2 := by decide +kernel
theorem nv_0_37 : (lk_2 b_T 0 37 = none) ∧ lk_2 v_N 0 37 = some 2 := by decide +kernel
theorem nv_0_40 : (lk_2 b_T 0 40 = none) ∧ lk_2 v_N 0 40 = some 2 := by decide +kernel
theorem nv_0_43 : (lk_2 b_T 0 43 = none) ∧ lk_2 v_N 0 43 = some 1 := by decide +kernel
theorem nv_0_47 : (lk_2 b_T 0 47 = none) ∧ lk_2 v_N 0 47 = some 1 := by decide +kernel
theorem nv_0_50 : (lk_2 b_T 0 50 = none) ∧ lk_2 v_N 0 50 = some 1 := by decide +kernel
theorem nv_0_53 : (lk_2 b_T 0 53 = none) ∧ lk_2 v_N 0 53 = some 2 := by decide +kernel
theorem nv_0_56 : (lk_2 b_T 0 56 = none) ∧ lk_2 v_N 0 56 = some 2 := by decide +kernel
theorem nv_0_59 : (lk_2 b_T 0 59 = none) ∧ lk_2 v_N 0 59 = some 1 := by decide +kernel
theorem nv_0_62 : (lk_2 b_T 0 62 = none) ∧ lk_2 v_N 0 62 = some 2 := by decide +kernel
theorem nv_0_66 : (lk_2 b_T 0 66 = none) ∧ lk_2 v_N 0 66 = some 1 := by decide +kernel
theorem nv_0_69 : (lk_2 b_T 0 69 = none) ∧ lk_2 v_N 0 69 = some 1 := by decide +kernel
theorem nv_0_7 : (lk_2 b_T 0 7 = none) ∧ lk_2 v_N 0 7 = some 1 := by decide +kernel
theorem nv_0_72 : (lk_2 b_T 0 72 = none) ∧ lk_2 v_N 0 72 = some 1 := by decide +kernel
theorem nv_0_75 : (lk_2 b_T 0 75 = none) ∧ lk_2 v_N 0 75 = some 1 := by decide +kernel
theorem nv_0_78 : (lk_2 b_T 0 78 = none) ∧ lk_2 v_N 0 78 = some 1 := by decide +kernel
theorem nv_0_81 : (lk_2 b_T 0 81 = none) ∧ lk_2 v_N 0 81 = some 3 := by decide +kernel
theorem nv_0_89 : (lk_2 b_T 0 89 = none) ∧ lk_2 v_N 0 89 = some 5 := by decide +kernel
theorem nv_0_93 : (lk_2 b_T 0 93 = none) ∧ lk_2 v_N 0 93 = some 5 := by decide +kernel
theorem nv_0_99 : (lk_2 b_T 0 99 = none) ∧ lk_2 v_N 0 99 = some 1 := by decide +kernel
theorem nv_1_101 : (lk_2 b_T 1 101 = none) ∧ lk_2 v_N 1 101 = some 1 := by decide +kernel
theorem nv_1_113 : (lk_2 b_T 1 113 = none) ∧ lk_2 v_N 1 113 = some 0 := by decide +kernel
theorem nv_1_147 : (lk_2 b_T 1 147 = none) ∧ lk_2 v_N 1 147 = some 1 := by decide +kernel
theorem nv_1_151 : (lk_2 b_T 1 151 = none) ∧ lk_2 v_N 1 151 = some 1 := by decide +kernel
theorem nv_1_158 : (lk_2 b_T 1 158 = none) ∧ lk_2 v_N 1 158 = some 1 := by decide +kernel
theorem nv_1_164 : (lk_2 b_T 1 164 = none) ∧ lk_2 v_N 1 164 = some 1 := by decide +kernel
theorem nv_1_168 : (lk_2 b_T 1 168 = none) ∧ lk_2 v_N 1 168 = some 0 := by decide +kernel
theorem nv_1_173 : (lk_2 b_T 1 173 = none) ∧ lk_2 v_N 1 173 = some 1 := by decide +kernel
theorem nv_1_189 : (lk_2 b_T 1 189 = none) ∧ lk_2 v_N 1 189 = some 1 := by decide +kernel
theorem nv_1_192 : (lk_2 b_T 1 192 = none) ∧ lk_2 v_N 1 192 = some 1 := by decide +kernel
theorem nv_1_198 : (lk_2 b_T 1 198 = none) ∧ lk_2 v_N 1 198 = some 2 := by decide +kernel
theorem nv_1_202 : (lk_2 b_T 1 202 = none) ∧ lk_2 v_N 1 202 = some 2 := by decide +kernel
theorem nv_1_205 : (lk_2 b_T 1 205 = none) ∧ lk_2 v_N 1 205 = some 2 := by decide +kernel
theorem nv_1_208 : (lk_2 b_T 1 208 = none) ∧ lk_2 v_N 1 208 = some 2 := by decide +kernel
theorem nv_1_212 : (lk_2 b_T 1 212 = none) ∧ lk_2 v_N 1 212 = some 0 := by decide +kernel
theorem nv_1_215 : (lk_2 b_T 1 215 = none) ∧ lk_2 v_N 1 215 = some 1 := by decide +kernel
theorem nv_1_218 : (lk_2 b_T 1 218 = none) ∧ lk_2 v_N 1 218 = some 1 := by decide +kernel
theorem nv_1_222 : (lk_2 b_T 1 222 = none) ∧ lk_2 v_N 1 222 = some 2 := by decide +kernel
theorem nv_1_226 : (lk_2 b_T 1 226 = none) ∧ lk_2 v_N 1 226 = some 1 := by decide +kernel
theorem nv_1_229 : (lk_2 b_T 1 229 = none) ∧ lk_2 v_N 1 229 = some 3 := by decide +kernel
theorem nv_1_233 : (lk_2 b_T 1 233 = none) ∧ lk_2 v_N 1 233 = some 2 := by decide +kernel
theorem nv_1_239 : (lk_2 b_T 1 239 = none) ∧ lk_2 v_N 1 239 = some 1 := by decide +kernel
theorem nv_1_243 : (lk_2 b_T 1 243 = none) ∧ lk_2 v_N 1 243 = some 1 := by decide +kernel
theorem nv_1_247 : (lk_2 b_T 1 247 = none) ∧ lk_2 v_N 1 247 = some 2 := by decide +kernel
theorem nv_1_250 : (lk_2 b_T 1 250 = none) ∧ lk_2 v_N 1 250 = some 1 := by decide +kernel
theorem nv_1_253 : (lk_2 b_T 1 253 = none) ∧ lk_2 v_N 1 253 = some 2 := by decide +kernel
theorem nv_1_257 : (lk_2 b_T 1 257 = none) ∧ lk_2 v_N 1 257 = some 1 := by decide +kernel
theorem nv_1_264 : (lk_2 b_T 1 264 = none) ∧ lk_2 v_N 1 264 = some 3 := by decide +kernel
theorem nv_1_273 : (lk_2 b_T 1 273 = none) ∧ lk_2 v_N 1 273 = some 1 := by decide +kernel
theorem nv_1_276 : (lk_2 b_T 1 276 = none) ∧ lk_2 v_N 1 276 = some 0 := by decide +kernel
theorem nv_1_279 : (lk_2 b_T 1 279 = none) ∧ lk_2 v_N 1 279 = some 3 := by decide +kernel
theorem nv_1_281 : (lk_2 b_T 1 281 = none) ∧ lk_2 v_N 1 281 = some 2 := by decide +kernel
theorem nv_1_285 : (lk_2 b_T 1 285 = none) ∧ lk_2 v_N 1 285 = some 0 := by decide +kernel
theorem nv_1_289 : (lk_2 b_T 1 289 = none) ∧ lk_2 v_N 1 289 = some 0 := by decide +kernel
theorem nv_1_292 : (lk_2 b_T 1 292 = none) ∧ lk_2 v_N 1 292 = some 3 := by decide +kernel
theorem nv_1_300 : (lk_2 b_T 1 300 = none) ∧ lk_2 v_N 1 300 = some 1 := by decide +kernel
theorem nv_1_303 : (lk_2 b_T 1 303 = none) ∧ lk_2 v_N 1 303 = some 2 := by decide +kernel
theorem nv_1_312 : (lk_2 b_T 1 312 = none) ∧ lk_2 v_N 1 312 = some 1 := by decide +kernel
theorem nv_1_315 : (lk_2 b_T 1 315 = none) ∧ lk_2 v_N 1 315 = some 0 := by decide +kernel
theorem nv_1_323 : (lk_2 b_T 1 323 = none) ∧ lk_2 v_N 1 323 = some 0 := by decide +kernel
theorem nv_1_327 : (lk_2 b_T 1 327 = none) ∧ lk_2 v_N 1 327 = some 1 := by decide +kernel
theorem nv_1_331 : (lk_2 b_T 1 331 = none) ∧ lk_2 v_N 1 331 = some 1 := by decide +kernel
theorem nv_1_334 : (lk_2 b_T 1 334 = none) ∧ lk_2 v_N 1 334 = some 2 := by decide +kernel
theorem nv_1_337 : (lk_2 b_T 1 337 = none) ∧ lk_2 v_N 1 337 = some 2 := by decide +kernel
theorem nv_1_344 : (lk_2 b_T 1 344 = none) ∧ lk_2 v_N 1 344 = some 1 := by decide +kernel
theorem nv_1_347 : (lk_2 b_T 1 347 = none) ∧ lk_2 v_N 1 347 = some 0 := by decide +kernel
theorem nv_1_350 : (lk_2 b_T 1 350 = none) ∧ lk_2 v_N 1 350 = some 1 := by decide +kernel
theorem nv_1_63 : (lk_2 b_T 1 63 = none) ∧ lk_2 v_N 1 63 = some 1 := by decide +kernel
theorem nv_1_77 : (lk_2 b_T 1 77 = none) ∧ lk_2 v_N 1 77 = some 0 := by decide +kernel
theorem nv_1_83 : (lk_2 b_T 1 83 = none) ∧ lk_2 v_N 1 83 = some 0 := by decide +kernel
theorem nv_1_89 : (lk_2 b_T 1 89 = none) ∧ lk_2 v_N 1 89 = some 1 := by decide +kernel
theorem nv_11_32 : (lk_2 b_T 11 32 = none) ∧ lk_2 v_N 11 32 = some 1 := by decide +kernel
theorem nv_11_57 : (lk_2 b_T 11 57 = none) ∧ lk_2 v_N 11 57 = some 2 := by decide +kernel
theorem nv_11_70 : (lk_2 b_T 11 70 = none) ∧ lk_2 v_N 11 70 = some 0 := by decide +kernel
theorem nv_11_83 : (lk_2 b_T 11 83 = none) ∧ lk_2 v_N 11 83 = some 1 := by decide +kernel
theorem nv_12_19 : (lk_2 b_T 12 19 = none) ∧ lk_2 v_N 12 19 = some 0 := by decide +kernel
theorem nv_14_37 : (lk_2 b_T 14 37 = none) ∧ lk_2 v_N 14 37 = some 1 := by decide +kernel
theorem nv_14_45 : (lk_2 b_T 14 45 = none) ∧ lk_2 v_N 14 45 = some 1 := by decide +kernel
theorem nv_14_49 : (lk_2 b_T 14 49 = none) ∧ lk_2 v_N 14 49 = some 1 := by decide +kernel
theorem nv_14_52 : (lk_2 b_T 14 52 = none) ∧ lk_2 v_N 14 52 = some 1 := by decide +kernel
theorem nv_15_100 : (lk_2 b_T 15 100 = none) ∧ lk_2 v_N 15 100 = some 4 := by decide +kernel
theorem nv_15_30 : (lk_2 b_T 15 30 = none) ∧ lk_2 v_N 15 30 = some 0 := by decide +kernel
theorem nv_15_46 : (lk_2 b_T 15 46 = none) ∧ lk_2 v_N 15 46 = some 1 := by decide +kernel
theorem nv_15_63 : (lk_2 b_T 15 63 = none) ∧ lk_2 v_N 15 63 = some 2 := by decide +kernel
theorem nv_15_67 : (lk_2 b_T 15 67 = none) ∧ lk_2 v_N 15 67 = some 0 := by decide +kernel
theorem nv_15_70 : (lk_2 b_T 15 70 = none) ∧ lk_2 v_N 15 70 = some 2 := by decide +kernel
theorem nv_15_74 : (lk_2 b_T 15 74 = none) ∧ lk_2 v_N 15 74 = some 2 := by decide +kernel
theorem nv_15_77 : (lk_2 b_T 15 77 = none) ∧ lk_2 v_N 15 77 = some 2 := by decide +kernel
theorem nv_15_80 : (lk_2 b_T 15 80 = none) ∧ lk_2 v_N 15 80 = some 2 := by decide +kernel
theorem nv_15_92 : (lk_2 b_T 15 92 = none) ∧ lk_2 v_N 15 92 = some 2 := by decide +kernel
theorem nv_15_96 : (lk_2 b_T 15 96 = none) ∧ lk_2 v_N 15 96 = some 1 := by decide +kernel
theorem nv_16_162 : (lk_2 b_T 16 162 = none) ∧ lk_2 v_N 16 162 = some 1 := by decide +kernel
theorem nv_16_201 : (lk_2 b_T 16 201 = none) ∧ lk_2 v_N 16 201 = some 0 := by decide +kernel
theorem nv_16_205 : (lk_2 b_T 16 205 = none) ∧ lk_2 v_N 16 205 = some 1 := by decide +kernel
theorem nv_16_209 : (lk_2 b_T 16 209 = none) ∧ lk_2 v_N 16 209 = some 1 := by decide +kernel
theorem nv_16_213 : (lk_2 b_T 16 213 = none) ∧ lk_2 v_N 16 213 = some 1 := by decide +kernel
theorem nv_16_216 : (lk_2 b_T 16 216 = none) ∧ lk_2 v_N 16 216 = some 1 := by decide +kernel
theorem nv_16_220 : (lk_2 b_T 16 220 = none) ∧ lk_2 v_N 16 220 = some 0 := by decide +kernel
theorem nv_16_223 : (lk_2 b_T 16 223 = none) ∧ lk_2 v_N 16 223 = some 2 := by decide +kernel
theorem nv_16_226 : (lk_2 b_T 16 226 = none) ∧ lk_2 v_N 16 226 = some 1 := by decide +kernel
theorem nv_16_229 : (lk_2 b_T 16 229 = none) ∧ lk_2 v_N 16 229 = some 1 := by decide +kernel
theorem nv_16_233 : (lk_2 b_T 16 233 = none) ∧ lk_2 v_N 16 233 = some 1 := by decide +kernel
theorem nv_16_236 : (lk_2 b_T 16 236 = none) ∧ lk_2 v_N 16 236 = some 1 := by decide +kernel
theorem nv_16_239 : (lk_2 b_T 16 239 = none) ∧ lk_2 v_N 16 239 = some 1 := by decide +kernel
theorem nv_16_242 : (lk_2 b_T 16 242 = none) ∧ lk_2 v_N 16 242 = some 1 := by decide +kernel
theorem nv_16_247 : (lk_2 b_T 16 247 = none) ∧ lk_2 v_N 16 247 = some 1 := by decide +kernel
theorem nv_16_250 : (lk_2 b_T 16 250 = none) ∧ lk_2 v_N 16 250 = some 1 := by decide +kernel
theorem nv_16_255 : (lk_2 b_T 16 255 = none) ∧ lk_2 v_N 16 255 = some 1 := by decide +kernel
theorem nv_16_266 : (lk_2 b_T 16 266 = none) ∧ lk_2 v_N 16 266 = some 1 := by decide +kernel
theorem nv_16_269 : (lk_2 b_T 16 269 = none) ∧ lk_2 v_N 16 269 = some 1 := by decide +kernel
theorem nv_16_272 : (lk_2 b_T 16 272 = none) ∧ lk_2 v_N 16 272 = some 1 := by decide +kernel
theorem nv_16_275 : (lk_2 b_T 16 275 = none) ∧ lk_2 v_N 16 275 = some 0 := by decide +kernel
theorem nv_16_295 : (lk_2 b_T 16 295 = none) ∧ lk_2 v_N 16 295 = some 1 := by decide +kernel
theorem nv_16_301 : (lk_2 b_T 16 301 = none) ∧ lk_2 v_N 16 301 = some 2 := by decide +kernel
theorem nv_16_305 : (lk_2 b_T 16 305 = none) ∧ lk_2 v_N 16 305 = some 1 := by decide +kernel
theorem nv_16_308 : (lk_2 b_T 16 308 = none) ∧ lk_2 v_N 16 308 = some 1 := by decide +kernel
theorem nv_16_311 : (lk_2 b_T 16 311 = none) ∧ lk_2 v_N 16 311 = some 1 := by decide +kernel
theorem nv_16_314 : (lk_2 b_T 16 314 = none) ∧ lk_2 v_N 16 314 = some 1 := by decide +kernel
theorem nv_16_320 : (lk_2 b_T 16 320 = none) ∧ lk_2 v_N 16 320 = some 1 := by decide +kernel
theorem nv_16_323 : (lk_2 b_T 16 323 = none) ∧ lk_2 v_N 16 323 = some 0 := by decide +kernel
theorem nv_16_326 : (lk_2 b_T 16 326 = none) ∧ lk_2 v_N 16 326 = some 0 := by decide +kernel
theorem nv_16_330 : (lk_2 b_T 16 330 = none) ∧ lk_2 v_N 16 330 = some 0 := by decide +kernel
theorem nv_16_333 : (lk_2 b_T 16 333 = none) ∧ lk_2 v_N 16 333 = some 1 := by decide +kernel
theorem nv_16_336 : (lk_2 b_T 16 336 = none) ∧ lk_2 v_N 16 336 = some 1 := by decide +kernel
theorem nv_16_339 : (lk_2 b_T 16 339 = none) ∧ lk_2 v_N 16 339 = some 0 := by decide +kernel
theorem nv_16_342 : (lk_2 b_T 16 342 = none) ∧ lk_2 v_N 16 342 = some 1 := by decide +kernel
theorem nv_16_347 : (lk_2 b_T 16 347 = none) ∧ lk_2 v_N 16 347 = some 2 := by decide +kernel
theorem nv_16_351 : (lk_2 b_T 16 351 = none) ∧ lk_2 v_N 16 351 = some 1 := by decide +kernel
theorem nv_16_354 : (lk_2 b_T 16 354 = none) ∧ lk_2 v_N 16 354 = some 0 := by decide +kernel
theorem nv_16_357 : (lk_2 b_T 16 357 = none) ∧ lk_2 v_N 16 357 = some 1 := by decide +kernel
theorem nv_16_360 : (lk_2 b_T 16 360 = none) ∧ lk_2 v_N 16 360 = some 1 := by decide +kernel
theorem nv_16_363 : (lk_2 b_T 16 363 = none) ∧ lk_2 v_N 16 363 = some 2 := by decide +kernel
theorem nv_16_371 : (lk_2 b_T 16 371 = none) ∧ lk_2 v_N 16 371 = some 0 := by decide +kernel
theorem nv_16_378 : (lk_2 b_T 16 378 = none) ∧ lk_2 v_N 16 378 = some 0 := by decide +kernel
theorem nv_16_381 : (lk_2 b_T 16 381 = none) ∧ lk_2 v_N 16 381 = some 1 := by decide +kernel
theorem nv_16_386 : (lk_2 b_T 16 386 = none) ∧ lk_2 v_N 16 386 = some 2 := by decide +kernel
theorem nv_16_389 : (lk_2 b_T 16 389 = none) ∧ lk_2 v_N 16 389 = some 0 := by decide +kernel
theorem nv_16_405 : (lk_2 b_T 16 405 = none) ∧ lk_2 v_N 16 405 = some 3 := by decide +kernel
theorem nv_16_409 : (lk_2 b_T 16 409 = none) ∧ lk_2 v_N 16 409 = some 0 := by decide +kernel
theorem nv_16_412 : (lk_2 b_T 16 412 = none) ∧ lk_2 v_N 16 412 = some 1 := by decide +kernel
theorem nv_16_415 : (lk_2 b_T 16 415 = none) ∧ lk_2 v_N 16 415 = some 0 := by decide +kernel
theorem nv_16_418 : (lk_2 b_T 16 418 = none) ∧ lk_2 v_N 16 418 = some 1 := by decide +kernel
theorem nv_16_424 : (lk_2 b_T 16 424 = none) ∧ lk_2 v_N 16 424 = some 1 := by decide +kernel
theorem nv_16_429 : (lk_2 b_T 16 429 = none) ∧ lk_2 v_N 16 429 = some 2 := by decide +kernel
theorem nv_16_432 : (lk_2 b_T 16 432 = none) ∧ lk_2 v_N 16 432 = some 1 := by decide +kernel
theorem nv_16_437 : (lk_2 b_T 16 437 = none) ∧ lk_2 v_N 16 437 = some 1 := by decide +kernel
theorem nv_16_445 : (lk_2 b_T 16 445 = none) ∧ lk_2 v_N 16 445 = some 0 := by decide +kernel
theorem nv_16_450 : (lk_2 b_T 16 450 = none) ∧ lk_2 v_N 16 450 = some 0 := by decide +kernel
theorem nv_16_453 : (lk_2 b_T 16 453 = none) ∧ lk_2 v_N 16 453 = some 1 := by decide +kernel
theorem nv_16_456 : (lk_2 b_T 16 456 = none) ∧ lk_2 v_N 16 456 = some 3 := by decide +kernel
theorem nv_16_459 : (lk_2 b_T 16 459 = none) ∧ lk_2 v_N 16 459 = some 2 := by decide +kernel
theorem nv_16_466 : (lk_2 b_T 16 466 = none) ∧ lk_2 v_N 16 466 = some 1 := by decide +kernel
theorem nv_16_471 : (lk_2 b_T 16 471 = none) ∧ lk_2 v_N 16 471 = some 0 := by decide +kernel
theorem nv_17_103 : (lk_2 b_T 17 103 = none) ∧ lk_2 v_N 17 103 = some 1 := by decide +kernel
theorem nv_17_112 : (lk_2 b_T 17 112 = none) ∧ lk_2 v_N 17 112 = some 1 := by decide +kernel
theorem nv_17_116 : (lk_2 b_T 17 116 = none) ∧ lk_2 v_N 17 116 = some 2 := by decide +kernel
theorem nv_17_125 : (lk_2 b_T 17 125 = none) ∧ lk_2 v_N 17 125 = some 2 := by decide +kernel
theorem nv_17_129 : (lk_2 b_T 17 129 = none) ∧ lk_2 v_N 17 129 = some 2 := by decide +kernel
theorem nv_17_141 : (lk_2 b_T 17 141 = none) ∧ lk_2 v_N 17 141 = some 1 := by decide +kernel
theorem nv_17_160 : (lk_2 b_T 17 160 = none) ∧ lk_2 v_N 17 160 = some 0 := by decide +kernel
theorem nv_17_164 : (lk_2 b_T 17 164 = none) ∧ lk_2 v_N 17 164 = some 0 := by decide +kernel
theorem nv_17_168 : (lk_2 b_T 17 168 = none) ∧ lk_2 v_N 17 168 = some 1 := by decide +kernel
theorem nv_17_173 : (lk_2 b_T 17 173 = none) ∧ lk_2 v_N 17 173 = some 1 := by decide +kernel
theorem nv_17_195 : (lk_2 b_T 17 195 = none) ∧ lk_2 v_N 17 195 = some 1 := by decide +kernel
theorem nv_17_205 : (lk_2 b_T 17 205 = none) ∧ lk_2 v_N 17 205 = some 1 := by decide +kernel
theorem nv_17_210 : (lk_2 b_T 17 210 = none) ∧ lk_2 v_N 17 210 = some 1 := by decide +kernel
theorem nv_17_217 : (lk_2 b_T 17 217 = none) ∧ lk_2 v_N 17 217 = some 1 := by decide +kernel
theorem nv_17_226 : (lk_2 b_T 17 226 = none) ∧ lk_2 v_N 17 226 = some 1 := by decide +kernel
theorem nv_17_231 : (lk_2 b_T 17 231 = none) ∧ lk_2 v_N 17 231 = some 1 := by decide +kernel
theorem nv_17_29 : (lk_2 b_T 17 29 = none) ∧ lk_2 v_N 17 29 = some 0 := by decide +kernel
theorem nv_17_35 : (lk_2 b_T 17 35 = none) ∧ lk_2 v_N 17 35 = some 1 := by decide +kernel
theorem nv_17_64 : (lk_2 b_T 17 64 = none) ∧ lk_2 v_N 17 64 = some 0 := by decide +kernel
theorem nv_17_68 : (lk_2 b_T 17 68 = none) ∧ lk_2 v_N 17 68 = some 1 := by decide +kernel
theorem nv_17_72 : (lk_2 b_T 17 72 = none) ∧ lk_2 v_N 17 72 = some 0 := by decide +kernel
theorem nv_22_50 : (lk_2 b_T 22 50 = none) ∧ lk_2 v_N 22 50 = some 1 := by decide +kernel
theorem nv_22_54 : (lk_2 b_T 22 54 = none) ∧ lk_2 v_N 22 54 = some 1 := by decide +kernel
theorem nv_22_61 : (lk_2 b_T 22 61 = none) ∧ lk_2 v_N 22 61 = some 0 := by decide +kernel
theorem nv_28_123 : (lk_2 b_T 28 123 = none) ∧ lk_2 v_N 28 123 = some 1 := by decide +kernel
theorem nv_28_129 : (lk_2 b_T 28 129 = none) ∧ lk_2 v_N 28 129 = some 0 := by decide +kernel
theorem nv_28_131 : (lk_2 b_T 28 131 = none) ∧ lk_2 v_N 28 131 = some 3 := by decide +kernel
theorem nv_28_144 : (lk_2 b_T 28 144 = none) ∧ lk_2 v_N 28 144 = some 2 := by decide +kernel
theorem nv_28_25 : (lk_2 b_T 28 25 = none) ∧ lk_2 v_N 28 25 = some 1 := by decide +kernel
theorem nv_28_29 : (lk_2 b_T 28 29 = none) ∧ lk_2 v_N 28 29 = some 1 := by decide +kernel
theorem nv_28_32 : (lk_2 b_T 28 32 = none) ∧ lk_2 v_N 28 32 = some 0 := by decide +kernel
theorem nv_28_69 : (lk_2 b_T 28 69 = none) ∧ lk_2 v_N 28 69 = some 1 := by decide +kernel
theorem nv_29_100 : (lk_2 b_T 29 100 = none) ∧ lk_2 v_N 29 100 = some 1 := by decide +kernel
theorem nv_29_104 : (lk_2 b_T 29 104 = none) ∧ lk_2 v_N 29 104 = some 1 := by decide +kernel
theorem nv_29_195 : (lk_2 b_T 29 195 = none) ∧ lk_2 v_N 29 195 = some 0 := by decide +kernel
theorem nv_29_204 : (lk_2 b_T 29 204 = none) ∧ lk_2 v_N 29 204 = some 0 := by decide +kernel
theorem nv_29_208 : (lk_2 b_T 29 208 = none) ∧ lk_2 v_N 29 208 = some 2 := by decide +kernel
theorem nv_29_32 : (lk_2 b_T 29 32 = none) ∧ lk_2 v_N 29 32 = some 0 := by decide +kernel
theorem nv_29_397 : (lk_2 b_T 29 397 = none) ∧ lk_2 v_N 29 397 = some 1 := by decide +kernel
theorem nv_29_399 : (lk_2 b_T 29 399 = none) ∧ lk_2 v_N 29 399 = some 3 := by decide +kernel
theorem nv_29_40 : (lk_2 b_T 29 40 = none) ∧ lk_2 v_N 29 40 = some 0 := by decide +kernel
theorem nv_29_83 : (lk_2 b_T 29 83 = none) ∧ lk_2 v_N 29 83 = some 0 := by decide +kernel
theorem nv_31_1047 : (lk_2 b_T 31 1047 = none) ∧ lk_2 v_N 31 1047 = some 0 := by decide +kernel
theorem nv_31_335 : (lk_2 b_T 31 335 = none) ∧ lk_2 v_N 31 335 = some 0 := by decide +kernel
theorem nv_31_492 : (lk_2 b_T 31 492 = none) ∧ lk_2 v_N 31 492 = some 0 := by decide +kernel
theorem nv_31_549 : (lk_2 b_T 31 549 = none) ∧ lk_2 v_N 31 549 = some 0 := by decide +kernel
theorem nv_31_552 : (lk_2 b_T 31 552 = none) ∧ lk_2 v_N 31 552 = some 0 := by decide +kernel
theorem nv_4_19 : (lk_2 b_T 4 19 = none) ∧ lk_2 v_N 4 19 = some 0 := by decide +kernel
theorem nv_5_20 : (lk_2 b_T 5 20 = none) ∧ lk_2 v_N 5 20 = some 1 := by decide +kernel
theorem nv_6_13 : (lk_2 b_T 6 13 = none) ∧ lk_2 v_N 6 13 = some 1 := by decide +kernel
theorem nv_7_22 : (lk_2 b_T 7 22 = none) ∧ lk_2 v_N 7 22 = some 0 := by decide +kernel
theorem nv_7_32 : (lk_2 b_T 7 32 = none) ∧ lk_2 v_N 7 32 = some 2 := by decide +kernel
