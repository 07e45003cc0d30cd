/-! THE START: what the Statement gives of the constants (by program, wip/gen/gen25.py) -/
set_option maxRecDepth 100000
def F_ : List Cond := flatC (Jvm.Cond.and given_1 narrow_1)
theorem in_fl (ws : List Cond) (ps : List Nat) (hp : ws = ps.filterMap (fun i => F_[i]?)) : ∀ w ∈ ws, w ∈ F_ := by
  intro w h
  rw [hp] at h
  obtain ⟨i, -, hi⟩ := List.mem_filterMap.mp h
  exact List.mem_of_getElem? hi
theorem in_tl (ws : List Cond) (ps : List Nat) (hp : ws = ps.filterMap (fun i => lw_tbl[i]?)) : ∀ w ∈ ws, w ∈ lw_tbl := by
  intro w h
  rw [hp] at h
  obtain ⟨i, -, hi⟩ := List.mem_filterMap.mp h
  exact List.mem_of_getElem? hi
def t_n (i : Nat) : String × Nat × String × Nat := nT_L.getD i ("", 0, "", 0)
def t_m (i : Nat) : Term := Term.string (t_n i).1 (t_n i).2.1
def t_v (i : Nat) : Term := Term.field (t_m i) "java/lang/String" "value" "[B"
def t_b : List (List Int32) := [[73, 108, 108, 101, 103, 97, 108, 32, 67, 97, 112, 97, 99, 105, 116, 121, 58, 32], [32, 62, 32], [], [108, 105, 109, 105, 116], [102, 111, 111, 100], [116, 97, 107, 101, 115], [40], [110, 111, 116], [41], [108, 101, 118, 101, 108], [104, 117, 110, 103, 101, 114], [108, 101, 102, 116], [107, 105, 110, 100], [97, 98, 111, 118, 101], [119, 101, 105, 103, 104, 116], [42], [47], [43], [45], [60], [61], [97, 110, 100], [111, 114], [112, 105, 110, 101], [111, 97, 107], [102, 111, 108, 100, 105, 110, 103], [99, 97, 115, 116, 111, 114], [59], [112, 105, 110, 101], [111, 97, 107], [102, 111, 108, 100, 105, 110, 103], [99, 97, 115, 116, 111, 114], [108, 101, 118, 101, 108], [104, 117, 110, 103, 101, 114], [108, 101, 102, 116], [107, 105, 110, 100], [97, 98, 111, 118, 101], [119, 101, 105, 103, 104, 116], [108, 105, 109, 105, 116], [102, 111, 111, 100], [116, 97, 107, 101, 115], [110, 111, 116], [97, 110, 100], [111, 114]]
def t_l (i : Nat) : Nat := (t_b.getD i []).length
def v_n : List String := ["LEVEL", "HUNGER", "LEFT", "KIND", "ABOVE", "WEIGHT"]
def v_s (k : Nat) : Term := Term.static "TableTower$Value" (v_n.getD k "") "LTableTower$Value;"
def o_n : List String := ["WORD", "NUMBER", "SIGN", "BAD", "END"]
def o_v (k : Nat) : Term := Term.static "TableTower$Sort" (o_n.getD k "") "LTableTower$Sort;"
def v_a : Term := Term.static "TableTower$Value" "$VALUES" "[LTableTower$Value;"
theorem nw_ex : ∀ w ∈ (List.range 44).map (fun i => Cond.exactly (t_m i) "java/lang/String"), w ∈ F_ := in_fl _ [435, 457, 464, 468, 477, 485, 494, 499, 506, 511, 520, 530, 538, 546, 555, 565, 570, 575, 580, 585, 590, 595, 602, 608, 616, 623, 634, 644, 649, 658, 666, 678, 689, 699, 710, 719, 728, 738, 749, 759, 768, 778, 786, 794] (by decide +kernel)
theorem nw_co : ∀ w ∈ (List.range 44).map (fun i => Cond.eq (.field (t_m i) "java/lang/String" "coder" "B") (.int 0)), w ∈ F_ := in_fl _ [436, 458, 465, 469, 478, 486, 495, 500, 507, 512, 521, 531, 539, 547, 556, 566, 571, 576, 581, 586, 591, 596, 603, 609, 617, 624, 635, 645, 650, 659, 667, 679, 690, 700, 711, 720, 729, 739, 750, 760, 769, 779, 787, 795] (by decide +kernel)
theorem nw_ar : ∀ w ∈ (List.range 44).map (fun i => Cond.arrayOf (t_v i) .byte), w ∈ F_ := in_fl _ [437, 459, 466, 470, 479, 487, 496, 501, 508, 513, 522, 532, 540, 548, 557, 567, 572, 577, 582, 587, 592, 597, 604, 610, 618, 625, 636, 646, 651, 660, 668, 680, 691, 701, 712, 721, 730, 740, 751, 761, 770, 780, 788, 796] (by decide +kernel)
theorem nw_le : ∀ w ∈ (List.range 44).map (fun i => Cond.eq (.length (t_v i)) (.int (Int32.ofNat (t_l i)))), w ∈ F_ := in_fl _ [438, 460, 467, 471, 480, 488, 497, 502, 509, 514, 523, 533, 541, 549, 558, 568, 573, 578, 583, 588, 593, 598, 605, 611, 619, 626, 637, 647, 652, 661, 669, 681, 692, 702, 713, 722, 731, 741, 752, 762, 771, 781, 789, 797] (by decide +kernel)
theorem nw_el : ∀ w ∈ (List.range 44).flatMap (fun i => (List.range (t_l i)).map (fun j => Cond.eq (.elem (t_v i) (.int (Int32.ofNat j))) (.int ((t_b.getD i []).getD j 0)))), w ∈ F_ := in_fl _ [439, 440, 441, 442, 443, 444, 445, 446, 447, 448, 449, 450, 451, 452, 453, 454, 455, 456, 461, 462, 463, 472, 473, 474, 475, 476, 481, 482, 483, 484, 489, 490, 491, 492, 493, 498, 503, 504, 505, 510, 515, 516, 517, 518, 519, 524, 525, 526, 527, 528, 529, 534, 535, 536, 537, 542, 543, 544, 545, 550, 551, 552, 553, 554, 559, 560, 561, 562, 563, 564, 569, 574, 579, 584, 589, 594, 599, 600, 601, 606, 607, 612, 613, 614, 615, 620, 621, 622, 627, 628, 629, 630, 631, 632, 633, 638, 639, 640, 641, 642, 643, 648, 653, 654, 655, 656, 662, 663, 664, 670, 671, 672, 673, 674, 675, 676, 682, 683, 684, 685, 686, 687, 693, 694, 695, 696, 697, 703, 704, 705, 706, 707, 708, 714, 715, 716, 717, 723, 724, 725, 726, 732, 733, 734, 735, 736, 742, 743, 744, 745, 746, 747, 753, 754, 755, 756, 757, 763, 764, 765, 766, 772, 773, 774, 775, 776, 782, 783, 784, 790, 791, 792, 798, 799] (by decide +kernel)
theorem nw_vx : ∀ w ∈ (List.range 6).map (fun k => Cond.exactly (v_s k) "TableTower$Value"), w ∈ F_ := in_fl _ [237, 239, 242, 246, 251, 257] (by decide +kernel)
theorem nw_vo : ∀ w ∈ (List.range 6).map (fun k => Cond.eq (.field (v_s k) "java/lang/Enum" "ordinal" "I") (.int (Int32.ofNat k))), w ∈ F_ := in_fl _ [238, 240, 243, 247, 252, 258] (by decide +kernel)
theorem nw_va : ∀ w ∈ ([Cond.exactly v_a "[LTableTower$Value;", Cond.arrayOf v_a (.object "TableTower$Value"), Cond.eq (.length v_a) (.int 6)] : List Cond), w ∈ F_ := in_fl _ [222, 223, 224] (by decide +kernel)
theorem nw_ve : ∀ w ∈ (List.range 6).map (fun k => Cond.eq (.elem v_a (.int (Int32.ofNat k))) (v_s k)), w ∈ F_ := in_fl _ [226, 227, 228, 229, 230, 231] (by decide +kernel)
theorem nw_ox : ∀ w ∈ (List.range 5).map (fun k => Cond.exactly (o_v k) "TableTower$Sort"), w ∈ F_ := in_fl _ [272, 281, 291, 302, 264] (by decide +kernel)
theorem nw_oo : ∀ w ∈ (List.range 5).map (fun k => Cond.eq (.field (o_v k) "java/lang/Enum" "ordinal" "I") (.int (Int32.ofNat k))), w ∈ F_ := in_fl _ [273, 282, 292, 303, 265] (by decide +kernel)
theorem nw_st : ∀ w ∈ ([Cond.eq (.static "java/lang/String" "COMPACT_STRINGS" "Z") (.int 1), Cond.isRef (.static "jdk/internal/util/Preconditions" "SIOOBE_FORMATTER" "Ljava/util/function/BiFunction;"), Cond.isRef (.static Bundle.tN "UNASSIGNED_STACK" Bundle.steD), Cond.isRef (.static Bundle.tN "SUPPRESSED_SENTINEL" Bundle.listD), Cond.isRef (.mirror "[Ljava/lang/Object;"), Cond.not (.castable "java/lang/IllegalArgumentException" "java/util/NoSuchElementException")] : List Cond), w ∈ F_ := in_fl _ [10, 11, 8, 9, 434, 384] (by decide +kernel)
theorem tb_F : ∀ w ∈ nF_L.map (fun e => Cond.fieldLinkNest e.1 e.2.1 e.2.2.1 e.2.2.2.1 e.2.2.2.2.1 e.2.2.2.2.2), w ∈ lw_tbl := in_tl _ [649, 534, 571, 1296, 657, 1294, 659, 661, 528, 531, 575, 573, 569, 565, 567, 563, 651, 653, 655, 527, 530, 537, 535, 520, 533, 526] (by decide +kernel)
theorem tb_M : ∀ w ∈ nM_L.map (fun e => Cond.methodLinkNest e.1 e.2.1 e.2.2.1 e.2.2.2), w ∈ lw_tbl := in_tl _ [158, 678, 558, 1400, 1420, 1259, 1373, 1340, 504] (by decide +kernel)
theorem tb_C : ∀ w ∈ nC_L.map (fun e => Cond.castable e.1 e.2), w ∈ lw_tbl := in_tl _ [2394, 2400, 2408, 2389, 2413, 1282, 2405, 2390, 2412, 2409, 2391, 2411, 2410, 2403, 2407, 2404, 2401, 2406, 2395, 2392, 2399, 2402, 290, 2420, 2422, 2423, 516, 2421, 2419, 2425, 2424, 180, 2397, 2393, 2398, 2415, 2396, 2414, 1507] (by decide +kernel)
theorem tb_D : ∀ w ∈ nD_L.map Cond.declares, w ∈ lw_tbl := in_tl _ [850, 972, 817, 183, 184, 2418, 181, 182, 185, 186] (by decide +kernel)
theorem tb_S : ∀ w ∈ nT_L.map (fun e => Cond.stringRef e.1 e.2.1 e.2.2.1), w ∈ lw_tbl := in_tl _ [251, 437, 1158, 1260, 1307, 1308, 1313, 1322, 1348, 1356, 1358, 1360, 1362, 1364, 1366, 1378, 1379, 1411, 1412, 1413, 1414, 1425, 1426, 1427, 1428, 1429, 1430, 1493, 1720, 1721, 1722, 1723, 1724, 1725, 1726, 1727, 1728, 1729, 1944, 1951, 1952, 1981, 2002, 2003] (by decide +kernel)
theorem in_st : ∀ c, c < 22 → ∃ n, Cond.instantiable (c_e c).1 n ∈ lw_all := by
  intro c hc
  match c, hc with
  | 0, _ => exact ⟨_, q149⟩
  | 1, _ => exact ⟨_, q157⟩
  | 2, _ => exact ⟨_, q503⟩
  | 3, _ => exact ⟨_, q551⟩
  | 4, _ => exact ⟨_, q557⟩
  | 5, _ => exact ⟨_, q1713⟩
  | 6, _ => exact ⟨_, q1153⟩
  | 7, _ => exact ⟨_, q1281⟩
  | 8, _ => exact ⟨_, q1336⟩
  | 9, _ => exact ⟨_, q1369⟩
  | 10, _ => exact ⟨_, q1396⟩
  | 11, _ => exact ⟨_, q1416⟩
  | 12, _ => exact ⟨_, q1437⟩
  | 13, _ => exact ⟨_, q1463⟩
  | 14, _ => exact ⟨_, q1473⟩
  | 15, _ => exact ⟨_, q1483⟩
  | 16, _ => exact ⟨_, q163⟩
  | 17, _ => exact ⟨_, q220⟩
  | 18, _ => exact ⟨_, q402⟩
  | 19, _ => exact ⟨_, q179⟩
  | 20, _ => exact ⟨_, q1506⟩
  | 21, _ => exact ⟨_, q1281⟩
  | n + 22, h => omega
theorem sel_p {C : String} {y : MethodName} {s : State} {args : Array Value} {n : Nat} (hy : y.cls ≠ "java/lang/invoke/MethodHandle" ∧ y.cls ≠ "java/lang/invoke/VarHandle")
    (hins : (Cond.instantiable C n).before args s = true) (hpriv : (Cond.privateMethod y).before args s = true) (hinst : (Cond.instanceMethod y).before args s = true) (hsame : (Cond.sameMethod y.cls y.cls y.name y.desc).before args s = true) :
    (Cond.selects C y y).before args s = true := by
  obtain ⟨c, k, hc, hk, -, hniab, -, -⟩ := Cond.instantiable_spec hins
  obtain ⟨mk, methM, hnamed, hmethM, -, -⟩ := Cond.instanceMethod_spec hinst
  obtain ⟨cn', ck, r1, hcn', hck, hni, hf, hn1⟩ := Cond.sameMethod_found hsame
  have hfound : s.methodFound? y.cls y.name y.desc = some mk := State.methodFound?_of_named hnamed hy
  have hcls : mk.cls = cn' := Option.some.inj ((findClass_of_methodNamed hnamed).symm.trans hcn')
  have hsel : selectMethod {} s.vm c mk = .method mk := selectMethod_private hmethM (Cond.privateMethod_at hpriv mk methM hnamed hmethM)
  simp only [Cond.before, Cond.holds, Cond.value, hc, hfound, hnamed, hsel, hcls, hck]
  simp; exact hni
theorem sel_P {s : State} {args : Array Value} (hts : ∀ w ∈ lw_tbl, w.before args s = true) : ∀ e ∈ nP_L, (Cond.selects e.1 e.2 e.2).before args s = true := by
  have ha : ∀ w ∈ lw_all, w.before args s = true := fun w h => hts w (lw_all_tbl h)
  intro e he
  simp only [nP_L, List.mem_cons, List.not_mem_nil, or_false] at he
  rcases he with rfl | rfl | rfl | rfl | rfl | rfl
  · exact sel_p (by decide +kernel) (ha _ q220) (hts _ q260) (ha _ q261) (ha _ q2377)
  · exact sel_p (by decide +kernel) (ha _ q220) (hts _ q264) (ha _ q265) (ha _ q2378)
  · exact sel_p (by decide +kernel) (ha _ q220) (hts _ q348) (ha _ q349) (ha _ q2382)
  · exact sel_p (by decide +kernel) (ha _ q220) (hts _ q343) (ha _ q344) (ha _ q2381)
  · exact sel_p (by decide +kernel) (ha _ q220) (hts _ q268) (ha _ q269) (ha _ q2379)
  · exact sel_p (by decide +kernel) (ha _ q220) (hts _ q339) (ha _ q340) (ha _ q2380)
theorem tb_v : ∀ w ∈ (List.range 6).map (fun k => Cond.laysStatic "TableTower$Value" (v_n.getD k "") "LTableTower$Value;"), w ∈ lw_tbl := in_tl _ [810, 822, 824, 826, 846, 848] (by decide +kernel)
theorem tb_o : ∀ w ∈ (List.range 5).map (fun k => Cond.laysStatic "TableTower$Sort" (o_n.getD k "") "LTableTower$Sort;"), w ∈ lw_tbl := in_tl _ [1199, 1204, 1209, 1211, 1168] (by decide +kernel)
def c_t (a : Nat) : Nat := if a = 0 then 8 else if 10 ≤ a ∧ a < 54 then 18 else if 110 ≤ a ∧ a < 154 then 9 else if 200 ≤ a ∧ a < 206 then 17 else if a = 220 then 15 else 0
def c_nn (n a : Nat) : Nat := if a = 0 then n else if 110 ≤ a ∧ a < 154 then t_l (a - 110) else if a = 220 then 6 else 0
def c_ii (xs : Nat → Int32) (a k : Nat) : Int32 := if a = 0 then xs k else if 110 ≤ a ∧ a < 154 then (t_b.getD (a - 110) []).getD k 0 else if 200 ≤ a ∧ a < 206 then Int32.ofNat (a - 200) else 0
def c_rr (a k : Nat) : Option Nat := if 10 ≤ a ∧ a < 54 then (if k = 0 then some (a + 100) else none) else if a = 220 then (if k < 6 then some (200 + k) else none) else none
/-- the first world: the script, the constants -/
def w_00 (n : Nat) (xs : Nat → Int32) : Wd := (c_t, c_nn n, c_ii xs, fun _ _ => 0, c_rr, 1000, 0)
def g_00 (b : Nat) (K V va so : Nat → Nat) (q mi : Nat) (si : Option Nat) (cA : Nat) (a : Nat) : Option Nat := if a = 0 then some b else if 10 ≤ a ∧ a < 54 then some (K (a - 10)) else if 110 ≤ a ∧ a < 154 then some (V (a - 110)) else if 200 ≤ a ∧ a < 206 then some (va (a - 200)) else if 210 ≤ a ∧ a < 215 then some (so (a - 210)) else if a = 220 then some q else if a = 230 then some mi else if a = 232 then si else if a = 1000 then some cA else some b
theorem of_eq {o n d : String} {v v' : Value} {a : Nat} {A : Nat → Prop} {U : State} {H : Heap} (h : va_OF o n d v a A U H) (h' : va_OF o n d v' a A U H) : v = v' := by
  obtain ⟨_, _, _, f, cell, e1, -, e2, -, e3, -⟩ := h
  obtain ⟨_, _, _, f', cell', e1', -, e2', -, e3', -⟩ := h'
  cases Option.some.inj (e1.symm.trans e1')
  cases Option.some.inj (e2.symm.trans e2')
  exact Option.some.inj (e3.symm.trans e3')
theorem o_lt {E : String} {t : Nat} {A : Nat → Prop} {U : State} {H : Heap} (h : va_O E t A U H) : t < H.size := by
  obtain ⟨cell, e, -⟩ := h
  exact (Array.getElem?_eq_some_iff.mp e).1
theorem o_of {args : Array Value} {s : State} {t : Term} {nm : String} {A : Nat → Prop} (h : (Cond.exactly t nm).before args s = true) (hA : ∀ a : Nat, a < s.heap.size → ¬ A a) : ∃ a, t.eval args s none [] s = some (.ref a) ∧ va_O nm a A s s.heap := by
  obtain ⟨a, c, cA, kA, q1, q2, q3, q4, q5, q6, -⟩ := Cond.exactly_spec (args := args) (first := s) (o := none) (s := s) (idx := []) (t := t) (cls := nm) h
  exact ⟨a, q1, cA, q3, q5, by rw [q6]; exact q2, hA a (Array.getElem?_eq_some_iff.mp q3).1⟩
theorem va_T9of {args : Array Value} {s : State} {tm : Term} {ty : FieldType} {N : Nat} {f : Nat → Value} {A : Nat → Prop} (hN : N < 2 ^ 31) (harr : (Cond.arrayOf tm ty).before args s = true) (hlen : (Term.length tm).eval args s none [] s = some (.int (Int32.ofNat N))) (hel : ∀ j : Nat, j < N → (Term.elem tm (.int (Int32.ofNat j))).eval args s none [] s = some (f j)) (hA : ∀ a : Nat, a < s.heap.size → ¬ A a) : ∃ t : Nat, tm.eval args s none [] s = some (.ref t) ∧ va_T9 ty t N f A s s.heap := by
  have hlen0 := hlen
  obtain ⟨t, cell, ht, hat, hv⟩ := Term.length_spec hlen
  have hsz : cell.slots.size < 2 ^ 31 := by
    simp only [Term.eval, ht, hat, Option.bind_eq_bind, Option.bind_some] at hlen0
    by_cases hlt : cell.slots.size < 2147483648
    · exact hlt
    · simp [hlt] at hlen0
  have hN2 : cell.slots.size = N := by
    have e : Int32.ofNat N = Int32.ofNat cell.slots.size := Value.int.inj hv
    have e2 := congrArg Int32.toNatClampNeg e
    rw [Int32.toNatClampNeg_ofNat_of_lt hN, Int32.toNatClampNeg_ofNat_of_lt hsz] at e2
    exact e2.symm
  obtain ⟨hcell, hkn, -, -⟩ := State.arrayAt?_spec hat
  obtain ⟨hof, -⟩ := Cond.arrayOf_spec harr ht hcell
  have key : ∀ j : Nat, j < N → cell.slots[j]? = some (f j) := by
    intro j hj
    obtain ⟨a, i, cell2, h1, h2, h3, h4, h5⟩ := Term.elem_spec (hel j hj)
    cases ht.symm.trans h1
    cases hat.symm.trans h3
    have hi : i = Int32.ofNat j := by
      have e : (Term.int (Int32.ofNat j)).eval args s none [] s = some (.int (Int32.ofNat j)) := rfl
      cases h2.symm.trans e
      rfl
    have hc : i.toNatClampNeg = j := by rw [hi]; exact Int32.toNatClampNeg_ofNat_of_lt (Nat.lt_trans hj hN)
    rw [hc] at h4 h5
    exact h5
  exact ⟨t, ht, cell, hcell, hof, hkn, hN2, key, hA t (Array.getElem?_eq_some_iff.mp hcell).1⟩
theorem t_nI : ∀ i, i < 44 → (t_n i).2.2.2 = 10 + i := by decide +kernel
theorem t_lN : ∀ i, i < 44 → t_l i < 2 ^ 31 := by decide +kernel
section
variable {b q mi cA : Nat} {K V va so : Nat → Nat} {si : Option Nat} {a : Nat}
theorem g_K (h1 : 10 ≤ a) (h2 : a < 54) : g_00 b K V va so q mi si cA a = some (K (a - 10)) := by
  unfold g_00
  rw [if_neg (by omega), if_pos ⟨h1, h2⟩]
theorem g_V (h1 : 110 ≤ a) (h2 : a < 154) : g_00 b K V va so q mi si cA a = some (V (a - 110)) := by
  unfold g_00
  rw [if_neg (by omega), if_neg (by omega), if_pos ⟨h1, h2⟩]
theorem g_va (h1 : 200 ≤ a) (h2 : a < 206) : g_00 b K V va so q mi si cA a = some (va (a - 200)) := by
  unfold g_00
  rw [if_neg (by omega), if_neg (by omega), if_neg (by omega), if_pos ⟨h1, h2⟩]
theorem g_so (h1 : 210 ≤ a) (h2 : a < 215) : g_00 b K V va so q mi si cA a = some (so (a - 210)) := by
  unfold g_00
  rw [if_neg (by omega), if_neg (by omega), if_neg (by omega), if_neg (by omega), if_pos ⟨h1, h2⟩]
end
set_option maxHeartbeats 2000000 in
theorem start_ {args : Array Value} {s : State} {b L : Nat} {xs : Nat → Int32} (hts : ∀ w ∈ lw_tbl, w.before args s = true) (hgv : (Jvm.Cond.and given_1 narrow_1).before args s = true) (hX : va_X b L xs s s.heap) (hbl : b < s.heap.size) :
    ∃ (D : va_G) (g : Nat → Option Nat), g 0 = some b ∧ GN_ (s.heap.size, g) (w_00 L xs) ∧ GI_ (s.heap.size, g) (w_00 L xs) s s.heap ∧ RW_ D (s.heap.size, g) (w_00 L xs) (w_00 L xs) s s.heap := by
  have hs : ∀ w ∈ F_, w.before args s = true := flat_of_before _ hgv
  have ha : ∀ w ∈ lw_all, w.before args s = true := fun w h => hts w (lw_all_tbl h)
  obtain ⟨A, hAd⟩ : ∃ A : Nat → Prop, A = fun q => s.heap.size ≤ q := ⟨_, rfl⟩
  have hA : ∀ a : Nat, a < s.heap.size → ¬ A a := fun a h z => by rw [hAd] at z; exact Nat.lt_irrefl _ (Nat.lt_of_lt_of_le h z)
  have inR : ∀ {n i : Nat} {f : Nat → Cond} {X : List Cond}, (∀ w ∈ (List.range n).map f, w ∈ X) → i < n → f i ∈ X := fun {n i f X} h hi => h _ (List.mem_map.mpr ⟨_, List.mem_range.mpr hi, rfl⟩)
  -- the classes
  have hK : ∃ D : va_G, ∀ c q, cL_[c]? = some q → u_Kn s q.1 q.2.1 q.2.2 (D.1 c) (D.2 c) := by
    have h : ∀ c : Nat, ∃ x : ClassId × (Nat → Nat), c < 22 → u_Kn s (c_e c).1 (c_e c).2.1 (c_e c).2.2 x.1 x.2 := fun c => by
      by_cases hc : c < 22
      · obtain ⟨n, hn⟩ := in_st c hc
        obtain ⟨hin, -⟩ := cl_ok c _ _ _ (c_at hc)
        obtain ⟨x, y, h⟩ := u_known ha hin (ha _ hn)
        exact ⟨(x, y), fun _ => h⟩
      · exact ⟨(0, fun _ => 0), fun z => absurd z hc⟩
    obtain ⟨f, hf⟩ := Classical.axiomOfChoice h
    refine ⟨(fun c => (f c).1, fun c => (f c).2), fun c q hq => ?_⟩
    have hc : c < 22 := (List.getElem?_eq_some_iff.mp hq).1
    cases Option.some.inj (hq.symm.trans (c_at hc))
    exact hf c hc
  obtain ⟨D, hK⟩ := hK
  -- the strings
  have hS : ∀ i : Nat, ∃ q : Nat × Nat, i < 44 → (t_m i).eval args s none [] s = some (.ref q.1) ∧ va_O "java/lang/String" q.1 A s s.heap ∧ va_OF "java/lang/String" "coder" "B" (.int 0) q.1 A s s.heap ∧ va_OF "java/lang/String" "value" "[B" (.ref q.2) q.1 A s s.heap ∧ va_T .byte q.2 (t_l i) (fun j => .int ((t_b.getD i []).getD j 0)) A s s.heap := fun i => by
    by_cases hi : i < 44
    · obtain ⟨a, q1, hO⟩ := o_of (hs _ (inR nw_ex hi)) hA
      obtain ⟨t, ht, hT⟩ := va_Tof (f := fun j => .int ((t_b.getD i []).getD j 0)) (A := A) (t_lN i hi) (hs _ (inR nw_ar hi)) (va_eqt (hs _ (inR nw_le hi))) (fun j hj => va_eqt (hs _ (nw_el _ (List.mem_flatMap.mpr ⟨i, List.mem_range.mpr hi, List.mem_map.mpr ⟨j, List.mem_range.mpr hj, rfl⟩⟩)))) hA
      exact ⟨(a, t), fun _ => ⟨q1, hO, vk_OFof q1 (va_eqt (hs _ (inR nw_co hi))) hA, vk_OFof q1 ht hA, hT⟩⟩
    · exact ⟨(0, 0), fun h => absurd h hi⟩
  obtain ⟨ad, had⟩ := Classical.axiomOfChoice hS
  -- the constants of Value, of Sort
  have hV : ∀ k : Nat, ∃ q : Nat, k < 6 → (v_s k).eval args s none [] s = some (.ref q) ∧ va_O "TableTower$Value" q A s s.heap ∧ va_OF "java/lang/Enum" "ordinal" "I" (.int (Int32.ofNat k)) q A s s.heap := fun k => by
    by_cases hk : k < 6
    · obtain ⟨a, q1, hO⟩ := o_of (hs _ (inR nw_vx hk)) hA
      exact ⟨a, fun _ => ⟨q1, hO, vk_OFof q1 (va_eqt (hs _ (inR nw_vo hk))) hA⟩⟩
    · exact ⟨0, fun h => absurd h hk⟩
  obtain ⟨va, hva⟩ := Classical.axiomOfChoice hV
  have hO : ∀ k : Nat, ∃ q : Nat, k < 5 → (o_v k).eval args s none [] s = some (.ref q) ∧ va_O "TableTower$Sort" q A s s.heap ∧ va_OF "java/lang/Enum" "ordinal" "I" (.int (Int32.ofNat k)) q A s s.heap := fun k => by
    by_cases hk : k < 5
    · obtain ⟨a, q1, hO⟩ := o_of (hs _ (inR nw_ox hk)) hA
      exact ⟨a, fun _ => ⟨q1, hO, vk_OFof q1 (va_eqt (hs _ (inR nw_oo hk))) hA⟩⟩
    · exact ⟨0, fun h => absurd h hk⟩
  obtain ⟨so, hso⟩ := Classical.axiomOfChoice hO
  -- the array of Value's constants
  have hVa := nw_va
  simp only [List.mem_cons, List.not_mem_nil, or_false, forall_eq_or_imp, forall_eq] at hVa
  obtain ⟨hv1, hv2, hv3⟩ := hVa
  obtain ⟨qV, hq1, hqO⟩ := o_of (hs _ hv1) hA
  obtain ⟨qV', hq1', hqT⟩ := va_T9of (N := 6) (f := fun j => .ref (va j)) (A := A) (by decide) (hs _ hv2) (va_eqt (hs _ hv3)) (fun j hj => va_eqv (hs _ (inR nw_ve hj)) (hva j hj).1) hA
  cases hq1.symm.trans hq1'
  -- what else is static
  have hSt := nw_st
  simp only [List.mem_cons, List.not_mem_nil, or_false, forall_eq_or_imp, forall_eq] at hSt
  obtain ⟨hc1, hc2, hc3, hc4, hc5, hc6⟩ := hSt
  obtain ⟨mi, hmi⟩ := va_Mi.of (hs _ hc5)
  obtain ⟨vS, hvS, hvR⟩ := Cond.isRef_spec (hs _ hc2)
  obtain ⟨si, hsi⟩ : ∃ si : Option Nat, vS = va_rf si := by
    cases vS <;> first | exact ⟨none, rfl⟩ | exact ⟨some _, rfl⟩ | (simp [Value.isRef] at hvR; done)
  subst hsi
  obtain ⟨cellV, cV, o1, o2, o3, o4⟩ : ∃ (cellV : Cell) (cV : ClassId), s.heap[qV]? = some cellV ∧ s.isArrayOf cellV (.object "TableTower$Value") ∧ s.vm.findClass "[LTableTower$Value;" = some cV ∧ cellV.cls = cV := by
    obtain ⟨cl1, r1, r2, r3, r4⟩ := hqO
    obtain ⟨cl2, u1, u2, -⟩ := hqT
    cases Option.some.inj (r1.symm.trans u1)
    exact ⟨cl1, _, r1, u2, r3, rfl⟩
  obtain ⟨g, hg⟩ : ∃ g, g = g_00 b (fun i => (ad i).1) (fun i => (ad i).2) va so qV mi si cV := ⟨_, rfl⟩
  have gK : ∀ {a : Nat}, 10 ≤ a → a < 54 → g a = some (ad (a - 10)).1 := fun {a} h1 h2 => by rw [hg]; exact g_K h1 h2
  have gV : ∀ {a : Nat}, 110 ≤ a → a < 154 → g a = some (ad (a - 110)).2 := fun {a} h1 h2 => by rw [hg]; exact g_V h1 h2
  have gva : ∀ {a : Nat}, 200 ≤ a → a < 206 → g a = some (va (a - 200)) := fun {a} h1 h2 => by rw [hg]; exact g_va h1 h2
  have gso : ∀ {a : Nat}, 210 ≤ a → a < 215 → g a = some (so (a - 210)) := fun {a} h1 h2 => by rw [hg]; exact g_so h1 h2
  have g0 : g 0 = some b := by rw [hg]; rfl
  have gq : g 220 = some qV := by rw [hg]; rfl
  have gm : g 230 = some mi := by rw [hg]; rfl
  have gs : g 232 = si := by rw [hg]; rfl
  have gc : g 1000 = some cV := by rw [hg]; rfl
  have hAG : A_ (s.heap.size, g) = A := hAd.symm
  have tvr : ∀ {a q : Nat}, a < 1000 → g a = some q → tv_ (s.heap.size, g) (v_R (some a)) = .ref q := fun {a q} h1 h2 => by
    show va_rf (ad_ (s.heap.size, g) a) = _
    unfold ad_
    rw [if_pos h1]
    show va_rf (g a) = _
    rw [h2]
    rfl
  have hGC : GC_ (s.heap.size, g) (w_00 L xs) s s.heap := by
    intro a ha9
    refine ⟨fun t => ?_, fun t => ?_, fun t => ?_, fun t => ?_, fun t => ?_⟩
    · rw [hAG]
      have hr : 10 ≤ a ∧ a < 54 := by
        have t : c_t a = 18 := t
        unfold c_t at t
        split at t <;> (try split at t) <;> (try split at t) <;> (try split at t) <;> (try split at t) <;> first | assumption | omega
      obtain ⟨h1, h2, h3, h4, h5⟩ := had (a - 10) (by omega)
      refine ⟨_, gK hr.1 hr.2, h2, ?_, ?_⟩
      · have e1 : w_r (w_00 L xs) a 0 = some (a + 100) := by
          show c_rr a 0 = _
          unfold c_rr
          rw [if_pos hr, if_pos rfl]
        rw [e1, tvr (by omega) (gV (by omega) (by omega)), show a + 100 - 110 = a - 10 by omega]
        exact h4
      · have e1 : w_i (w_00 L xs) a 1 = 0 := by
          show c_ii xs a 1 = 0
          unfold c_ii
          rw [if_neg (by omega), if_neg (by omega), if_neg (by omega)]
        rw [e1]
        exact h3
    · rw [hAG]
      have hr : 200 ≤ a ∧ a < 206 := by
        have t : c_t a = 17 := t
        unfold c_t at t
        split at t <;> (try split at t) <;> (try split at t) <;> (try split at t) <;> (try split at t) <;> first | assumption | omega
      obtain ⟨h1, h2, h3⟩ := hva (a - 200) (by omega)
      refine ⟨_, gva hr.1 hr.2, h2, ?_⟩
      have e1 : w_i (w_00 L xs) a 0 = Int32.ofNat (a - 200) := by
        show c_ii xs a 0 = _
        unfold c_ii
        rw [if_neg (by omega), if_neg (by omega), if_pos hr]
      rw [e1]
      exact h3
    · rw [hAG]
      have hr : a = 220 := by
        have t : c_t a = 15 := t
        unfold c_t at t
        split at t <;> (try split at t) <;> (try split at t) <;> (try split at t) <;> (try split at t) <;> first | assumption | omega
      subst hr
      refine ⟨_, gq, hqO, ?_⟩
      obtain ⟨cl, u1, u2, u3, u4, u5, u6⟩ := hqT
      refine ⟨cl, u1, u2, u3, u4, fun j hj => ?_, u6⟩
      have hj : j < 6 := hj
      have e1 : w_r (w_00 L xs) 220 j = some (200 + j) := by
        show c_rr 220 j = _
        unfold c_rr
        rw [if_neg (by omega), if_pos rfl, if_pos hj]
      show _ = some (va_rf ((w_r (w_00 L xs) 220 j).bind (ad_ (s.heap.size, g))))
      rw [e1]
      have e2 := tvr (a := 200 + j) (by omega) (gva (by omega) (by omega))
      rw [show 200 + j - 200 = j by omega] at e2
      show _ = some (tv_ (s.heap.size, g) (v_R (some (200 + j))))
      rw [e2]
      exact u5 j hj
    · rw [hAG]
      have hr : 110 ≤ a ∧ a < 154 := by
        have t : c_t a = 9 := t
        unfold c_t at t
        split at t <;> (try split at t) <;> (try split at t) <;> (try split at t) <;> (try split at t) <;> first | assumption | omega
      obtain ⟨h1, h2, h3, h4, h5⟩ := had (a - 110) (by omega)
      refine ⟨_, gV hr.1 hr.2, ?_⟩
      have e1 : w_n (w_00 L xs) a = t_l (a - 110) := by
        show c_nn L a = _
        unfold c_nn
        rw [if_neg (by omega), if_pos hr]
      have e2 : (fun j => Value.int (w_i (w_00 L xs) a j)) = fun j => .int ((t_b.getD (a - 110) []).getD j 0) := by
        funext j
        show Value.int (c_ii xs a j) = _
        unfold c_ii
        rw [if_neg (by omega), if_pos hr]
      rw [e1, e2]
      exact h5
    · have hr : a = 0 := by
        have t : c_t a = 8 := t
        unfold c_t at t
        split at t <;> (try split at t) <;> (try split at t) <;> (try split at t) <;> (try split at t) <;> first | assumption | omega
      subst hr
      exact ⟨b, g0, hX, hbl, hbl⟩
  have hGN : GN_ (s.heap.size, g) (w_00 L xs) := by
    refine ⟨fun a ha9 => ?_, fun a q h1 h2 h3 h4 => ?_, fun a h1 h2 => ?_, fun a b9 h1 h2 h3 h4 h5 => ?_⟩
    · show c_t a = 0 ∨ (8 ≤ c_t a ∧ c_t a ≤ 9) ∨ (15 ≤ c_t a ∧ c_t a ≤ 18)
      unfold c_t
      split <;> (try split) <;> (try split) <;> (try split) <;> (try split) <;> omega
    · have h4 : g a = some q := h4
      show q < s.heap.size
      rw [hg] at h4
      unfold g_00 at h4
      split at h4
      · cases h4; exact hbl
      split at h4
      · rename_i hr; cases h4; exact o_lt (had (a - 10) (by omega)).2.1
      split at h4
      · rename_i hr
        cases h4
        obtain ⟨cl, e, -⟩ := (had (a - 110) (by omega)).2.2.2.2
        exact (Array.getElem?_eq_some_iff.mp e).1
      split at h4
      · rename_i hr; cases h4; exact o_lt (hva (a - 200) (by omega)).2.1
      split at h4
      · rename_i hr; cases h4; exact o_lt (hso (a - 210) (by omega)).2.1
      split at h4
      · cases h4; exact o_lt hqO
      split at h4
      · omega
      cases h4; exact hbl
    · have h2 : g a = none := h2
      rw [hg] at h2
      unfold g_00 at h2
      split at h2
      · cases h2
      split at h2
      · cases h2
      split at h2
      · cases h2
      split at h2
      · cases h2
      split at h2
      · cases h2
      split at h2
      · cases h2
      split at h2
      · cases h2
      split at h2
      · omega
      split at h2 <;> cases h2
    · have h5 : g a = g b9 := h5
      rw [gso h1 h2, gso h3 h4] at h5
      have e := Option.some.inj h5
      have f1 := (hso (a - 210) (by omega)).2.2
      have f2 := (hso (b9 - 210) (by omega)).2.2
      rw [e] at f1
      have f3 := Value.int.inj (of_eq f1 f2)
      have f4 := congrArg Int32.toNatClampNeg f3
      rw [Int32.toNatClampNeg_ofNat_of_lt (by omega), Int32.toNatClampNeg_ofNat_of_lt (by omega)] at f4
      omega
  have hL : ∀ (n : Nat) (f : Nat → Cond), (∀ w ∈ (List.range n).map f, w ∈ lw_tbl) → ∀ i, i < n → (f i).before args s = true := fun n f h i hi => hts _ (inR h hi)
  refine ⟨D, g, g0, hGN, ⟨fun e he => va_Nw.of rfl (hts _ (tb_F _ (List.mem_map.mpr ⟨e, he, rfl⟩))), fun e he => va_Nw.of rfl (hts _ (tb_M _ (List.mem_map.mpr ⟨e, he, rfl⟩))), fun e he => va_Nw.of rfl (hts _ (tb_C _ (List.mem_map.mpr ⟨e, he, rfl⟩))), fun e he => va_Nw.of rfl (hts _ (tb_D _ (List.mem_map.mpr ⟨e, he, rfl⟩))), fun e he => ?_, fun e he => ?_, va_AO.of (hts _ q175), va_AO.of (hts _ q1719), ⟨mi, gm, hmi⟩, va_Nc.of (hs _ hc6), ?_, ?_, hGC, Nat.le_refl _, fun e he => va_any rfl (sel_P hts e he), cV, gc, o3, ?_⟩, ?_⟩
  · rw [hAG]
    simp only [nS_L, List.mem_cons, List.not_mem_nil, or_false] at he
    rcases he with rfl | rfl | rfl | rfl | rfl | rfl | rfl | rfl | rfl | rfl | rfl | rfl | rfl | rfl
    · exact va_Zof (hL 6 _ tb_v 0 (by decide)) (ha _ q130) (by rw [tvr (by decide) (gva (by decide) (by decide))]; exact (hva 0 (by decide)).1) hA
    · exact va_Zof (hL 6 _ tb_v 1 (by decide)) (ha _ q130) (by rw [tvr (by decide) (gva (by decide) (by decide))]; exact (hva 1 (by decide)).1) hA
    · exact va_Zof (hL 6 _ tb_v 2 (by decide)) (ha _ q130) (by rw [tvr (by decide) (gva (by decide) (by decide))]; exact (hva 2 (by decide)).1) hA
    · exact va_Zof (hL 6 _ tb_v 3 (by decide)) (ha _ q130) (by rw [tvr (by decide) (gva (by decide) (by decide))]; exact (hva 3 (by decide)).1) hA
    · exact va_Zof (hL 6 _ tb_v 4 (by decide)) (ha _ q130) (by rw [tvr (by decide) (gva (by decide) (by decide))]; exact (hva 4 (by decide)).1) hA
    · exact va_Zof (hL 6 _ tb_v 5 (by decide)) (ha _ q130) (by rw [tvr (by decide) (gva (by decide) (by decide))]; exact (hva 5 (by decide)).1) hA
    · exact va_Zof (hts _ q512) (ha _ q130) (by rw [tvr (by decide) gq]; exact hq1) hA
    · exact va_Zof (hL 5 _ tb_o 4 (by decide)) (ha _ q136) (by rw [tvr (by decide) (gso (by decide) (by decide))]; exact (hso 4 (by decide)).1) hA
    · exact va_Zof (hL 5 _ tb_o 0 (by decide)) (ha _ q136) (by rw [tvr (by decide) (gso (by decide) (by decide))]; exact (hso 0 (by decide)).1) hA
    · exact va_Zof (hL 5 _ tb_o 1 (by decide)) (ha _ q136) (by rw [tvr (by decide) (gso (by decide) (by decide))]; exact (hso 1 (by decide)).1) hA
    · exact va_Zof (hL 5 _ tb_o 2 (by decide)) (ha _ q136) (by rw [tvr (by decide) (gso (by decide) (by decide))]; exact (hso 2 (by decide)).1) hA
    · exact va_Zof (hL 5 _ tb_o 3 (by decide)) (ha _ q136) (by rw [tvr (by decide) (gso (by decide) (by decide))]; exact (hso 3 (by decide)).1) hA
    · exact va_Zof (hts _ q229) (ha _ q118) (va_eqi (hs _ hc1)) hA
    · refine va_Zof (hts _ q316) (ha _ q124) ?_ hA
      have e9 : tv_ (s.heap.size, g) (v_R (some 232)) = va_rf si := by
        show va_rf (ad_ (s.heap.size, g) 232) = _
        unfold ad_
        rw [if_pos (by decide)]
        show va_rf (g 232) = _
        rw [gs]
      rw [e9]
      exact hvS
  · obtain ⟨i, hi, hei⟩ := List.getElem_of_mem he
    have hi44 : i < 44 := hi
    have e1 : t_n i = e := by
      unfold t_n
      rw [List.getD_eq_getElem?_getD, List.getElem?_eq_getElem hi, hei]
      rfl
    have e2 := t_nI i hi44
    rw [e1] at e2
    refine ⟨(ad i).1, ?_, vk_R.of (A := args) (hts _ (tb_S _ (List.mem_map.mpr ⟨e, he, rfl⟩))) ?_⟩
    · show g e.2.2.2 = _
      rw [e2, gK (by omega) (by omega), show 10 + i - 10 = i by omega]
    · have e3 := (had i hi44).1
      unfold t_m at e3
      rw [e1] at e3
      exact e3
  · rw [hAG]; exact vx_Zqof (hts _ q205) (ha _ q112) (hs _ hc3) hA
  · rw [hAG]; exact vx_Zqof (hts _ q207) (ha _ q112) (hs _ hc4) hA
  · intro n z
    obtain ⟨-, k9, hk9, comp, hkind⟩ := o2
    rw [o4] at hk9
    exact ⟨fun _ h => by simp [arrV] at h, k9, hk9, comp, hkind⟩
  · exact ⟨[], [], ⟨hK, fun k q h => by simp at h⟩, fun k q h => by simp at h, ⟨fun i j p q h => by simp at h, fun k q h => by simp at h⟩, fun a h1 h2 => by
      have h2 : a < 1000 := h2
      omega, by show s.heap.size = s.heap.size + (1000 - 1000); omega, Nat.le_refl _, fun a h1 => by
      have h1 : 1000 ≤ a := h1
      show c_t a = 0
      unfold c_t
      rw [if_neg (by omega), if_neg (by omega), if_neg (by omega), if_neg (by omega), if_neg (by omega)], fun a _ => ⟨rfl, rfl, fun _ => rfl, fun _ => rfl⟩⟩

