/-! CONSTRUCTORS: the model, made -/
set_option maxRecDepth 100000
section
variable {w : Wd}
theorem wfa_k (hz : w_z w = 1441) : Kp_ (fun b => b < 1441 ∧ b ≠ 1440) w (wfa_ w) := by
  unfold wfa_
  repeat first | exact kp_n (fun b h => by omega) | refine kp_tr ?_ (kp_r fun b h => (by omega)) | refine kp_tr ?_ (kp_i fun b h => (by omega))
theorem wfb_k (hz : w_z w = 1442) : Kp_ (fun b => b < 1442 ∧ b ≠ 1440) w (wfb_ w) := by
  unfold wfb_
  repeat first | exact kp_n (fun b h => by omega) | refine kp_tr ?_ (kp_r fun b h => (by omega)) | refine kp_tr ?_ (kp_i fun b h => (by omega))
theorem wfc_k (hz : w_z w = 1443) : Kp_ (fun b => b < 1443 ∧ b ≠ 1440) w (wfc_ w) := by
  unfold wfc_
  repeat first | exact kp_n (fun b h => by omega) | refine kp_tr ?_ (kp_r fun b h => (by omega)) | refine kp_tr ?_ (kp_i fun b h => (by omega))
theorem wfd_k (hz : w_z w = 1444) : Kp_ (fun b => b < 1444 ∧ b ≠ 1440) w (wfd_ w) := by
  unfold wfd_
  repeat first | exact kp_n (fun b h => by omega) | refine kp_tr ?_ (kp_r fun b h => (by omega)) | refine kp_tr ?_ (kp_i fun b h => (by omega))
set_option maxHeartbeats 2000000 in
/-- a new model -/
theorem c_model0 (ht : w_t w 1440 = 25) (hz : w_z w = 1441) (hi : ∀ k, w_i w 1440 k = Int32.ofNat 0) (hs : ∀ i, i < 10 → w_t w (38 + i) = 18) {d : Nat} : ∃ w1, (Nb_ 1440 w w1 ∧ w_z w1 = 1476 ∧ w_s w1 = w_s w + 9430 ∧ ∀ v, Kp_ (fun b => 1440 ≤ b ∧ b < 1476) w1 v → RM_ v S00_ ∧ (∀ k, k < 4 → w_r v 1441 k = some (38 + k)) ∧ ∀ k, k < 6 → w_r v 1442 k = some (42 + k)) ∧ ∀ Q, cl d 149 [v_R (some 1440)] w Q = Q (Sum.inl none) w1 := by
  obtain ⟨a, ha⟩ : ∃ a, a = wfa_ w := ⟨_, rfl⟩
  obtain ⟨za, sa, ta, ra, ia, ta2, na2, ca⟩ := wfa_f hz ht
  have ka := wfa_k hz
  rw [← ha] at za sa ta ra ia ta2 na2 ca ka
  obtain ⟨b, hb⟩ : ∃ b, b = wfb_ a := ⟨_, rfl⟩
  obtain ⟨zb, sb, tb, rb, ib, tb2, nb2, cb, ob⟩ := wfb_f za ta
  have kb := wfb_k za
  rw [← hb] at zb sb tb rb ib tb2 nb2 cb ob kb
  obtain ⟨c, hc⟩ : ∃ c, c = wfc_ b := ⟨_, rfl⟩
  obtain ⟨zc, sc, tc, rc, ic, tc2, nc2, cc, oc⟩ := wfc_f zb tb
  have kc := wfc_k zb
  rw [← hc] at zc sc tc rc ic tc2 nc2 cc oc kc
  obtain ⟨e, he⟩ : ∃ e, e = wfd_ c := ⟨_, rfl⟩
  obtain ⟨ze, se, te, re, ie, te2, ne2, e0, e1, e2, e3, oe⟩ := wfd_f zc tc
  have ke := wfd_k zc
  rw [← he] at ze se te re ie te2 ne2 e0 e1 e2 e3 oe ke
  obtain ⟨m1, h1⟩ : ∃ m, m = mk_ L1_ e := ⟨_, rfl⟩
  have f1 := mk_at L1_ e 1445 ze (by omega) (by decide)
  have z1 := mk_z L1_ e
  have s1 := mk_s L1_ e
  have k1 := mk_kp L1_ e 1445 (by omega)
  obtain ⟨t1, i1, o1⟩ := mkq_ L1_ e (by omega)
  rw [← h1] at f1 z1 s1 k1 t1 i1 o1
  obtain ⟨u1, g1⟩ : ∃ u, u = s_i m1 1440 22 (Int32.ofInt (-1)) := ⟨_, rfl⟩
  have zu1 : w_z u1 = 1453 := by rw [g1, z_si, z1, ze]; rfl
  obtain ⟨m2, h2⟩ : ∃ m, m = mk_ L2_ u1 := ⟨_, rfl⟩
  have f2 := mk_at L2_ u1 1453 zu1 (by omega) (by decide)
  have z2 := mk_z L2_ u1
  have s2 := mk_s L2_ u1
  have k2 := mk_kp L2_ u1 1453 (by omega)
  obtain ⟨t2, i2, o2⟩ := mkq_ L2_ u1 (by omega)
  rw [← h2] at f2 z2 s2 k2 t2 i2 o2
  obtain ⟨u2, g2⟩ : ∃ u, u = s_i m2 1440 30 (Int32.ofInt (-1)) := ⟨_, rfl⟩
  have zu2 : w_z u2 = 1458 := by rw [g2, z_si, z2, zu1]; rfl
  obtain ⟨m3, h3⟩ : ∃ m, m = mk_ L3_ u2 := ⟨_, rfl⟩
  have f3 := mk_at L3_ u2 1458 zu2 (by omega) (by decide)
  have z3 := mk_z L3_ u2
  have s3 := mk_s L3_ u2
  have k3 := mk_kp L3_ u2 1458 (by omega)
  obtain ⟨t3, i3, o3⟩ := mkq_ L3_ u2 (by omega)
  rw [← h3] at f3 z3 s3 k3 t3 i3 o3
  have zm3 : w_z m3 = 1467 := by rw [z3, zu2]; rfl
  obtain ⟨m4, h4⟩ : ∃ m, m = mk_ L4_ m3 := ⟨_, rfl⟩
  have f4 := mk_at L4_ m3 1467 zm3 (by omega) (by decide)
  have z4 := mk_z L4_ m3
  have s4 := mk_s L4_ m3
  have k4 := mk_kp L4_ m3 1467 (by omega)
  obtain ⟨t4, i4, o4⟩ := mkq_ L4_ m3 (by omega)
  rw [← h4] at f4 z4 s4 k4 t4 i4 o4
  have kg1 : Kp_ (fun b => b < 1453 ∧ b ≠ 1440) m1 u1 := by rw [g1]; exact kp_i fun b h => h.2
  have kg2 : Kp_ (fun b => b < 1458 ∧ b ≠ 1440) m2 u2 := by rw [g2]; exact kp_i fun b h => h.2
  have tu1 : w_t u1 1440 = 25 := by rw [g1, t_si, t1]; exact te
  have tu2 : w_t u2 1440 = 25 := by rw [g2, t_si, t2]; exact tu1
  have tm3 : w_t m3 1440 = 25 := t3.trans tu2
  have tm4 : w_t m4 1440 = 25 := t4.trans tm3
  refine ⟨m4, ⟨fun b h => ?_, ?_, ?_, fun v hv => ?_⟩, fun Q => ?_⟩
  · exact kp_tr ka (kp_tr (kp_mo kb fun b h => by omega) (kp_tr (kp_mo kc fun b h => by omega) (kp_tr (kp_mo ke fun b h => by omega) (kp_tr (kp_mo k1 fun b h => by omega) (kp_tr (kp_mo kg1 fun b h => by omega) (kp_tr (kp_mo k2 fun b h => by omega) (kp_tr (kp_mo kg2 fun b h => by omega) (kp_tr (kp_mo k3 fun b h => by omega) (kp_mo k4 fun b h => by omega))))))))) b (by omega)
  · rw [z4, zm3]; rfl
  · rw [s4, s3, g2, s_si, s2, g1, s_si, s1, se, sc, sb, sa]
    simp only [L1_, L2_, L3_, L4_, List.map_cons, List.map_nil, List.sum_cons, List.sum_nil]
    omega
  · have kt4 : Kp_ (fun b => 1440 < b ∧ b < 1476) m4 v := kp_mo hv fun b h => by omega
    have kt3 : Kp_ (fun b => 1440 < b ∧ b < 1467) m3 v := kp_tr (kp_mo k4 fun b h => by omega) (kp_mo kt4 fun b h => by omega)
    have kt2 : Kp_ (fun b => 1440 < b ∧ b < 1458) m2 v := kp_tr (kp_mo kg2 fun b h => by omega) (kp_tr (kp_mo k3 fun b h => by omega) (kp_mo kt3 fun b h => by omega))
    have kt1 : Kp_ (fun b => 1440 < b ∧ b < 1453) m1 v := kp_tr (kp_mo kg1 fun b h => by omega) (kp_tr (kp_mo k2 fun b h => by omega) (kp_mo kt2 fun b h => by omega))
    have kte : Kp_ (fun b => 1440 < b ∧ b < 1445) e v := kp_tr (kp_mo k1 fun b h => by omega) (kp_mo kt1 fun b h => by omega)
    have ktc : Kp_ (fun b => 1440 < b ∧ b < 1444) c v := kp_tr (kp_mo ke fun b h => by omega) (kp_mo kte fun b h => by omega)
    have ktb : Kp_ (fun b => 1440 < b ∧ b < 1443) b v := kp_tr (kp_mo kc fun b h => by omega) (kp_mo ktc fun b h => by omega)
    have kta : Kp_ (fun b => 1440 < b ∧ b < 1442) a v := kp_tr (kp_mo kb fun b h => by omega) (kp_mo ktb fun b h => by omega)
    have v14 := hv 1440 (by omega)
    have rr4 : ∀ k, k < 1000 → w_r v 1440 k = w_r m4 1440 k := fun k _ => v14.2.2.2.1 k
    have rr3 : ∀ k, k < 44 → w_r v 1440 k = w_r m3 1440 k := fun k hk => (rr4 k (by omega)).trans (o4 k (by
      have g : ∀ e, e ∈ L4_ → 44 ≤ e.1 := by decide
      intro e he; have := g e he; omega))
    have rr2 : ∀ k, k < 33 → w_r v 1440 k = w_r m2 1440 k := fun k hk => (rr3 k (by omega)).trans ((o3 k (by
      have g : ∀ e, e ∈ L3_ → 33 ≤ e.1 := by decide
      intro e he; have := g e he; omega)).trans (by rw [g2]; rfl))
    have rr1 : ∀ k, k < 23 → w_r v 1440 k = w_r m1 1440 k := fun k hk => (rr2 k (by omega)).trans ((o2 k (by
      have g : ∀ e, e ∈ L2_ → 23 ≤ e.1 := by decide
      intro e he; have := g e he; omega)).trans (by rw [g1]; rfl))
    have rre : ∀ k, k < 5 → w_r v 1440 k = w_r e 1440 k := fun k hk => (rr1 k (by omega)).trans (o1 k (by
      have g : ∀ e, e ∈ L1_ → 5 ≤ e.1 := by decide
      intro e he; have := g e he; omega))
    have r4 : w_r v 1440 4 = some 1444 := (rre 4 (by omega)).trans re
    have r2 : w_r v 1440 2 = some 1443 := (rre 2 (by omega)).trans ((oe 2 (by omega)).trans rc)
    have r1 : w_r v 1440 1 = some 1442 := (rre 1 (by omega)).trans ((oe 1 (by omega)).trans ((oc 1 (by omega)).trans rb))
    have r0 : w_r v 1440 0 = some 1441 := (rre 0 (by omega)).trans ((oe 0 (by omega)).trans ((oc 0 (by omega)).trans (ob.trans ra)))
    have t1440 : w_t v 1440 = 25 := v14.1.trans tm4
    have t1441 : w_t v 1441 = 6 := (kta 1441 (by omega)).1.trans ta2
    have n1441 : w_n v 1441 = 4 := (kta 1441 (by omega)).2.1.trans na2
    have t1442 : w_t v 1442 = 6 := (ktb 1442 (by omega)).1.trans tb2
    have n1442 : w_n v 1442 = 6 := (ktb 1442 (by omega)).2.1.trans nb2
    have t1443 : w_t v 1443 = 1 := (ktc 1443 (by omega)).1.trans tc2
    have n1443 : w_n v 1443 = 4 := (ktc 1443 (by omega)).2.1.trans nc2
    have t1444 : w_t v 1444 = 1 := (kte 1444 (by omega)).1.trans te2
    have n1444 : w_n v 1444 = 8 := (kte 1444 (by omega)).2.1.trans ne2
    have ih : ∀ k, w_i e 1440 k = Int32.ofNat 0 := fun k => (ie k).trans ((ic k).trans ((ib k).trans ((ia k).trans (hi k))))
    have iu2 : ∀ k, w_i v 1440 k = w_i u2 1440 k := fun k => (v14.2.2.1 k).trans ((i4 k).trans (i3 k))
    have i30 : w_i v 1440 30 = Int32.ofInt (-1) := by rw [iu2, g2, i_si, if_pos ⟨rfl, rfl⟩]
    have iu1 : ∀ k, k ≠ 30 → w_i v 1440 k = w_i u1 1440 k := fun k hk => by rw [iu2, g2, i_si, if_neg (fun z => hk z.2), i2]
    have i22 : w_i v 1440 22 = Int32.ofInt (-1) := by rw [iu1 _ (by omega), g1, i_si, if_pos ⟨rfl, rfl⟩]
    have iz : ∀ k, k ≠ 30 → k ≠ 22 → w_i v 1440 k = Int32.ofNat 0 := fun k hk hk2 => by rw [iu1 _ hk, g1, i_si, if_neg (fun z => hk2 z.2), i1, ih]
    have ig : ∀ k, k < 8 → w_i v 1444 k = w_i e 1444 k := fun k _ => (kte 1444 (by omega)).2.2.1 k
    refine ⟨⟨⟨t1440, r0, r1, r2, t1443, n1443, r4, t1444, n1444, (rr1 5 (by omega)).trans (f1 0 (5, 1, 20) rfl).1, (kt1 1445 (by omega)).1.trans (f1 0 (5, 1, 20) rfl).2.1, (kt1 1445 (by omega)).2.1.trans (f1 0 (5, 1, 20) rfl).2.2.1, (rr1 6 (by omega)).trans (f1 1 (6, 1, 20) rfl).1, (kt1 1446 (by omega)).1.trans (f1 1 (6, 1, 20) rfl).2.1, (kt1 1446 (by omega)).2.1.trans (f1 1 (6, 1, 20) rfl).2.2.1, (rr1 7 (by omega)).trans (f1 2 (7, 1, 20) rfl).1, (kt1 1447 (by omega)).1.trans (f1 2 (7, 1, 20) rfl).2.1, (kt1 1447 (by omega)).2.1.trans (f1 2 (7, 1, 20) rfl).2.2.1, (rr1 8 (by omega)).trans (f1 3 (8, 1, 20) rfl).1, (kt1 1448 (by omega)).1.trans (f1 3 (8, 1, 20) rfl).2.1, (kt1 1448 (by omega)).2.1.trans (f1 3 (8, 1, 20) rfl).2.2.1, (rr1 9 (by omega)).trans (f1 4 (9, 1, 20) rfl).1, (kt1 1449 (by omega)).1.trans (f1 4 (9, 1, 20) rfl).2.1, (kt1 1449 (by omega)).2.1.trans (f1 4 (9, 1, 20) rfl).2.2.1, (rr1 10 (by omega)).trans (f1 5 (10, 1, 1200) rfl).1, (kt1 1450 (by omega)).1.trans (f1 5 (10, 1, 1200) rfl).2.1, (kt1 1450 (by omega)).2.1.trans (f1 5 (10, 1, 1200) rfl).2.2.1, (rr1 11 (by omega)).trans (f1 6 (11, 1, 3) rfl).1, (kt1 1451 (by omega)).1.trans (f1 6 (11, 1, 3) rfl).2.1, (kt1 1451 (by omega)).2.1.trans (f1 6 (11, 1, 3) rfl).2.2.1, (rr1 12 (by omega)).trans (f1 7 (12, 1, 600) rfl).1, (kt1 1452 (by omega)).1.trans (f1 7 (12, 1, 600) rfl).2.1, (kt1 1452 (by omega)).2.1.trans (f1 7 (12, 1, 600) rfl).2.2.1, (rr2 23 (by omega)).trans (f2 0 (23, 1, 10) rfl).1, (kt2 1453 (by omega)).1.trans (f2 0 (23, 1, 10) rfl).2.1, (kt2 1453 (by omega)).2.1.trans (f2 0 (23, 1, 10) rfl).2.2.1, (rr2 24 (by omega)).trans (f2 1 (24, 1, 10) rfl).1, (kt2 1454 (by omega)).1.trans (f2 1 (24, 1, 10) rfl).2.1, (kt2 1454 (by omega)).2.1.trans (f2 1 (24, 1, 10) rfl).2.2.1, (rr2 25 (by omega)).trans (f2 2 (25, 1, 10) rfl).1, (kt2 1455 (by omega)).1.trans (f2 2 (25, 1, 10) rfl).2.1, (kt2 1455 (by omega)).2.1.trans (f2 2 (25, 1, 10) rfl).2.2.1, (rr2 26 (by omega)).trans (f2 3 (26, 1, 10) rfl).1, (kt2 1456 (by omega)).1.trans (f2 3 (26, 1, 10) rfl).2.1, (kt2 1456 (by omega)).2.1.trans (f2 3 (26, 1, 10) rfl).2.2.1, (rr2 27 (by omega)).trans (f2 4 (27, 1, 1720) rfl).1, (kt2 1457 (by omega)).1.trans (f2 4 (27, 1, 1720) rfl).2.1, (kt2 1457 (by omega)).2.1.trans (f2 4 (27, 1, 1720) rfl).2.2.1, (rr3 33 (by omega)).trans (f3 0 (33, 1, 6) rfl).1, (kt3 1458 (by omega)).1.trans (f3 0 (33, 1, 6) rfl).2.1, (kt3 1458 (by omega)).2.1.trans (f3 0 (33, 1, 6) rfl).2.2.1, (rr3 34 (by omega)).trans (f3 1 (34, 1, 64) rfl).1, (kt3 1459 (by omega)).1.trans (f3 1 (34, 1, 64) rfl).2.1, (kt3 1459 (by omega)).2.1.trans (f3 1 (34, 1, 64) rfl).2.2.1, (rr3 35 (by omega)).trans (f3 2 (35, 1, 43) rfl).1, (kt3 1460 (by omega)).1.trans (f3 2 (35, 1, 43) rfl).2.1, (kt3 1460 (by omega)).2.1.trans (f3 2 (35, 1, 43) rfl).2.2.1, (rr3 36 (by omega)).trans (f3 3 (36, 1, 1024) rfl).1, (kt3 1461 (by omega)).1.trans (f3 3 (36, 1, 1024) rfl).2.1, (kt3 1461 (by omega)).2.1.trans (f3 3 (36, 1, 1024) rfl).2.2.1, (rr3 37 (by omega)).trans (f3 4 (37, 1, 1024) rfl).1, (kt3 1462 (by omega)).1.trans (f3 4 (37, 1, 1024) rfl).2.1, (kt3 1462 (by omega)).2.1.trans (f3 4 (37, 1, 1024) rfl).2.2.1, (rr3 38 (by omega)).trans (f3 5 (38, 4, 1024) rfl).1, (kt3 1463 (by omega)).1.trans (f3 5 (38, 4, 1024) rfl).2.1, (kt3 1463 (by omega)).2.1.trans (f3 5 (38, 4, 1024) rfl).2.2.1, (rr3 41 (by omega)).trans (f3 6 (41, 1, 81) rfl).1, (kt3 1464 (by omega)).1.trans (f3 6 (41, 1, 81) rfl).2.1, (kt3 1464 (by omega)).2.1.trans (f3 6 (41, 1, 81) rfl).2.2.1, (rr3 42 (by omega)).trans (f3 7 (42, 1, 81) rfl).1, (kt3 1465 (by omega)).1.trans (f3 7 (42, 1, 81) rfl).2.1, (kt3 1465 (by omega)).2.1.trans (f3 7 (42, 1, 81) rfl).2.2.1, (rr3 43 (by omega)).trans (f3 8 (43, 1, 8) rfl).1, (kt3 1466 (by omega)).1.trans (f3 8 (43, 1, 8) rfl).2.1, (kt3 1466 (by omega)).2.1.trans (f3 8 (43, 1, 8) rfl).2.2.1, (rr4 44 (by omega)).trans (f4 0 (44, 1, 8) rfl).1, (kt4 1467 (by omega)).1.trans (f4 0 (44, 1, 8) rfl).2.1, (kt4 1467 (by omega)).2.1.trans (f4 0 (44, 1, 8) rfl).2.2.1, (rr4 45 (by omega)).trans (f4 1 (45, 1, 200) rfl).1, (kt4 1468 (by omega)).1.trans (f4 1 (45, 1, 200) rfl).2.1, (kt4 1468 (by omega)).2.1.trans (f4 1 (45, 1, 200) rfl).2.2.1, (rr4 46 (by omega)).trans (f4 2 (46, 1, 200) rfl).1, (kt4 1469 (by omega)).1.trans (f4 2 (46, 1, 200) rfl).2.1, (kt4 1469 (by omega)).2.1.trans (f4 2 (46, 1, 200) rfl).2.2.1, (rr4 48 (by omega)).trans (f4 3 (48, 1, 200) rfl).1, (kt4 1470 (by omega)).1.trans (f4 3 (48, 1, 200) rfl).2.1, (kt4 1470 (by omega)).2.1.trans (f4 3 (48, 1, 200) rfl).2.2.1, (rr4 53 (by omega)).trans (f4 4 (53, 1, 43) rfl).1, (kt4 1471 (by omega)).1.trans (f4 4 (53, 1, 43) rfl).2.1, (kt4 1471 (by omega)).2.1.trans (f4 4 (53, 1, 43) rfl).2.2.1, (rr4 54 (by omega)).trans (f4 5 (54, 1, 1720) rfl).1, (kt4 1472 (by omega)).1.trans (f4 5 (54, 1, 1720) rfl).2.1, (kt4 1472 (by omega)).2.1.trans (f4 5 (54, 1, 1720) rfl).2.2.1, (rr4 55 (by omega)).trans (f4 6 (55, 1, 8) rfl).1, (kt4 1473 (by omega)).1.trans (f4 6 (55, 1, 8) rfl).2.1, (kt4 1473 (by omega)).2.1.trans (f4 6 (55, 1, 8) rfl).2.2.1, (rr4 56 (by omega)).trans (f4 7 (56, 1, 8) rfl).1, (kt4 1474 (by omega)).1.trans (f4 7 (56, 1, 8) rfl).2.1, (kt4 1474 (by omega)).2.1.trans (f4 7 (56, 1, 8) rfl).2.2.1, (rr4 57 (by omega)).trans (f4 8 (57, 1, 3) rfl).1, (kt4 1475 (by omega)).1.trans (f4 8 (57, 1, 3) rfl).2.1, (kt4 1475 (by omega)).2.1.trans (f4 8 (57, 1, 3) rfl).2.2.1, t1441, n1441, t1442, n1442⟩, ⟨(ig 0 (by omega)).trans e0, (ig 1 (by omega)).trans e1, (ig 2 (by omega)).trans e2, (ig 3 (by omega)).trans e3, fun t h => absurd h (Nat.not_lt_zero _), fun t h => absurd h (Nat.not_lt_zero _), fun t h => absurd h (Nat.not_lt_zero _), fun t h => absurd h (Nat.not_lt_zero _), fun t h => absurd h (Nat.not_lt_zero _), fun t h => absurd h (Nat.not_lt_zero _), fun k hk => ((ktc 1443 (by omega)).2.2.1 k).trans (cc k hk)⟩, ⟨⟨iz 28 (by omega) (by omega), iz 29 (by omega) (by omega), i30, fun t h => absurd h (Nat.not_lt_zero _), fun t h => absurd h (Nat.not_lt_zero _), fun t h => absurd h (Nat.not_lt_zero _), fun t h => absurd h (Nat.not_lt_zero _)⟩, iz 31 (by omega) (by omega), fun t h => absurd h (Nat.not_lt_zero _), iz 32 (by omega) (by omega), fun t h => absurd h (Nat.not_lt_zero _), fun t h => absurd h (Nat.not_lt_zero _), fun k hk => ((kt1 1451 (by omega)).2.2.1 k).trans ((f1 6 (11, 1, 3) rfl).2.2.2 k)⟩, iz 50 (by omega) (by omega), fun B h => (by cases h), fun k hk => ((kt1 1452 (by omega)).2.2.1 k).trans ((f1 7 (12, 1, 600) rfl).2.2.2 k), iz 13 (by omega) (by omega), i22⟩, fun k hk => ((kta 1441 (by omega)).2.2.2.1 k).trans (ca k hk), fun k hk => ((ktb 1442 (by omega)).2.2.2.1 k).trans (cb k hk)⟩
  · have hsa : ∀ i, i < 10 → w_t a (38 + i) = 18 := fun i hi => (ka (38 + i) (by omega)).1.trans (hs i hi)
    simp only [x_149_e, x_149_0]
    rw [x_149_1 _ _ _ _ _ (by omega), wfa_w hz ht hs, ← ha, wfb_w za ta hsa, ← hb, wfc_w zb tb, ← hc, wfd_w zc tc, ← he, L1_w (by omega) te, ← h1]
    rw [x_149_205, x_149_206, x_149_207 _ _ _ _ _ _ _ (t1.trans te), ← g1, L2_w (by omega) tu1, ← h2]
    rw [x_149_251, x_149_252, x_149_253 _ _ _ _ _ _ _ (t2.trans tu1), ← g2, L3_w (by omega) tu2, ← h3, L4_w (by omega) tm3, ← h4, x_149_406]
end
