/-! CONSTRUCTORS: the component -/
set_option maxRecDepth 100000
def T00_ : Tm := (0, Int32.ofNat 9, Int32.ofNat 100, fun _ => 0, fun _ => 0, fun _ => 0, fun _ => 0, fun _ => 0, [])
def X00_ : Xm := (0, fun _ => 0, fun _ => 0, fun _ => 0, fun _ => 0, Int32.ofNat 0, Int32.ofInt (-1))
def B00_ : Bm := (X00_, 0, fun _ => X00_, 0, fun _ => 0, fun _ => 0, fun _ => Int32.ofNat 0)
/-- the first state -/
def S00_ : Sm := (T00_, B00_, none, fun _ => 0, 0, Int32.ofInt (-1))
def G00_ : Gm := (1001, 1002, 1003, 1004, 1006, fun _ => 0, none)
theorem WS_00 : WS_ S00_ := by
  refine ⟨⟨Nat.zero_le _, fun t h => absurd h (Nat.not_lt_zero _)⟩, ⟨9, by omega, rfl⟩, fun t h => absurd h (Nat.not_lt_zero _), ⟨⟨Nat.zero_le _, fun t h => absurd h (Nat.not_lt_zero _), fun i j h => absurd h (Nat.not_lt_zero _)⟩, ⟨fun t h => absurd h (Nat.not_lt_zero _), fun t h => absurd h (Nat.not_lt_zero _)⟩, Nat.zero_le _, fun t h => absurd h (Nat.not_lt_zero _), fun t h => absurd h (Nat.not_lt_zero _), Nat.zero_le _, fun t h => absurd h (Nat.not_lt_zero _)⟩, fun B h => (by cases h), Nat.zero_le _, fun k => ?_⟩
  show 0 < 256
  omega
theorem WE_00 : WE_ (sm_T S00_) := ⟨Nat.zero_le _, fun t h => absurd h (Nat.not_lt_zero _), by decide, Or.inl rfl⟩
/-- the component's own part, filled -/
def we_ (w : Wd) : Wd := s_r (s_n (s_r (s_n (s_r (s_n (s_r (s_n (s_r (s_n (s_i (s_r (s_n (s_r w 1000 4 (some 1429)) 2 600) 1000 6 (some 1434)) 1000 8 (Int32.ofInt (-1))) 4 1024) 1000 9 (some 1435)) 1 10) 1000 10 (some 1436)) 1 810) 1000 11 (some 1437)) 1 1024) 1000 12 (some 1438)) 3 1001) 1000 13 (some 1439)
theorem we_z {w : Wd} (hz : w_z w = 1434) : w_z (we_ w) = 1440 := by
  unfold we_
  simp only [z_sr, z_sn, z_si, hz]
theorem we_s {w : Wd} : w_s (we_ w) = w_s w + 4469 := by
  unfold we_
  simp only [s_sr, s_sn, s_si]
theorem we_kp {w : Wd} (hz : w_z w = 1434) : Kp_ (fun b => b < 1434 ∧ b ≠ 1000) w (we_ w) := by
  unfold we_
  refine kp_tr (kp_r fun b h => h.2) (kp_tr (kp_n fun b h => ?_) (kp_tr (kp_r fun b h => h.2) (kp_tr (kp_i fun b h => h.2) (kp_tr (kp_n fun b h => ?_) (kp_tr (kp_r fun b h => h.2) (kp_tr (kp_n fun b h => ?_) (kp_tr (kp_r fun b h => h.2) (kp_tr (kp_n fun b h => ?_) (kp_tr (kp_r fun b h => h.2) (kp_tr (kp_n fun b h => ?_) (kp_tr (kp_r fun b h => h.2) (kp_tr (kp_n fun b h => ?_) (kp_r fun b h => h.2)))))))))))))
  all_goals (simp only [z_sr, z_sn, z_si, hz]; omega)
theorem we_sh {w : Wd} (hz : w_z w = 1434) : w_r (we_ w) 1000 4 = some 1429 ∧ w_r (we_ w) 1000 6 = some 1434 ∧ w_r (we_ w) 1000 9 = some 1435 ∧ w_r (we_ w) 1000 10 = some 1436 ∧ w_r (we_ w) 1000 11 = some 1437 ∧ w_r (we_ w) 1000 12 = some 1438 ∧ w_r (we_ w) 1000 13 = some 1439 ∧ (∀ k, k < 4 → w_r (we_ w) 1000 k = w_r w 1000 k) ∧ w_t (we_ w) 1434 = 2 ∧ w_n (we_ w) 1434 = 600 ∧ w_t (we_ w) 1435 = 4 ∧ w_n (we_ w) 1435 = 1024 ∧ w_t (we_ w) 1436 = 1 ∧ w_n (we_ w) 1436 = 10 ∧ w_t (we_ w) 1437 = 1 ∧ w_n (we_ w) 1437 = 810 ∧ w_t (we_ w) 1438 = 1 ∧ w_n (we_ w) 1438 = 1024 ∧ w_t (we_ w) 1439 = 3 ∧ w_n (we_ w) 1439 = 1001 ∧ w_t (we_ w) 1000 = w_t w 1000 ∧ w_i (we_ w) 1000 8 = Int32.ofInt (-1) ∧ (∀ k, k ≠ 8 → w_i (we_ w) 1000 k = w_i w 1000 k) ∧ (∀ k, w_i (we_ w) 1434 k = Int32.ofNat 0) := by
  unfold we_
  refine ⟨?_, ?_, ?_, ?_, ?_, ?_, ?_, fun k hk => ?_, ?_, ?_, ?_, ?_, ?_, ?_, ?_, ?_, ?_, ?_, ?_, ?_, ?_, ?_, fun k hk => ?_, fun k => ?_⟩
  case refine_8 =>
    have e : k ≠ 4 ∧ k ≠ 6 ∧ k ≠ 9 ∧ k ≠ 10 ∧ k ≠ 11 ∧ k ≠ 12 ∧ k ≠ 13 := by omega
    obtain ⟨e1, e2, e3, e4, e5, e6, e7⟩ := e
    simp only [z_sn, z_sr, z_si, hz, Nat.reduceEqDiff, Nat.reduceAdd, if_true, if_false, r_sr, r_sn, r_si, true_and, false_and, and_false, e1, e2, e3, e4, e5, e6, e7]
  case refine_23 => simp only [z_sn, z_sr, z_si, hz, Nat.reduceEqDiff, Nat.reduceAdd, if_true, if_false, i_sr, i_sn, i_si, true_and, false_and, and_false, hk]
  case refine_24 => simp only [z_sn, z_sr, z_si, hz, Nat.reduceEqDiff, Nat.reduceAdd, if_true, if_false, i_sr, i_sn, i_si, true_and, false_and, and_false]; rfl
  all_goals simp only [t_sn, t_sr, t_si, n_sn, n_sr, n_si, z_sn, z_sr, z_si, hz, Nat.reduceEqDiff, Nat.reduceAdd, if_true, if_false, r_sr, r_sn, r_si, i_sr, i_sn, i_si, and_self, true_and, false_and, and_false]
theorem we_walk {w : Wd} (hz : w_z w = 1434) (ht : w_t w 1000 = 20) {d : Nat} {Q : Q_} : wp d 23 56 [some (v_R (some 1000))] [v_R (some 1429), v_R (some 1000)] w Q = wp d 23 117 [some (v_R (some 1000))] [] (we_ w) Q := by
  unfold we_
  simp (disch := first | omega | decide | assumption | (simp (disch := omega) only [t_sn, t_sr, t_si, t_sI, t_sR, t_sl, n_sn, n_sr, n_si, n_sI, n_sR, n_sl, z_sn, z_sr, z_si, z_sI, z_sR, z_sl, hz, nn_eqF, nn_eqT, Nat.reduceEqDiff, Nat.reduceAdd, Nat.add_assoc, if_true, if_false, eq_self]; first | done | omega)) only [x_23_e, x_23_b, x_23_56, x_23_59, x_23_60, x_23_63, x_23_65, x_23_68, x_23_69, x_23_70, x_23_73, x_23_74, x_23_77, x_23_79, x_23_82, x_23_83, x_23_85, x_23_87, x_23_90, x_23_91, x_23_94, x_23_96, x_23_99, x_23_100, x_23_103, x_23_105, x_23_108, x_23_109, x_23_112, x_23_114, bk_v, bk_n, nl_I, nl_R, nl_0, oo_lt, oo_tn, true_and, not_true_eq_false, not_false_eq_true, Nat.reduceLT, Nat.reduceLeDiff, t_sn, t_sr, t_si, t_sI, t_sR, t_sl, n_sn, n_sr, n_si, n_sI, n_sR, n_sl, z_sn, z_sr, z_si, z_sI, z_sR, z_sl, hz, nn_eqF, nn_eqT, Nat.reduceEqDiff, Nat.reduceAdd, Nat.add_assoc, if_true, if_false, eq_self]
theorem beg_walk {w : Wd} (h1 : w_t w 1001 = 21) (h2 : w_r w 1001 2 = some 1002) (h3 : w_t w 1002 = 36) (h4 : w_i w 1002 2 = Int32.ofNat 0) (h5 : w_t w 1008 = 24) {d : Nat} {Q : Q_} : cl (d + 1) 134 [v_R (some 1008), v_R (some 1001)] w Q = Q (Sum.inl none) (s_i (s_i (s_i w 1008 4 (Int32.ofNat 0)) 1008 5 (Int32.ofNat 0)) 1008 6 (Int32.ofInt (-1))) := by
  simp (disch := first | omega | decide | exact ko_b _ | assumption | (simp only [t_si, t_sl, t_sr, t_sI, t_sR, n_si, n_sl, n_sr, n_sI, n_sR, r_si, r_sl, r_sI]; first | done | omega)) only [x_134_e, x_134_b, x_134_0, x_134_1, x_134_2, x_134_5, x_134_8, x_134_11, x_134_12, x_134_13, x_134_16, x_134_17, x_134_18, x_134_21, x_134_22, x_312_e, x_312_b, x_312_0, x_312_1, x_312_4, bk_v, bk_n, nl_I, nl_R, nl_L, nl_0, oo_lt, oo_le, oo_eq, oo_add, oo_sub, oo_tn, oo_ir, nn_leT, nn_leF, nn_ltT, nn_ltF, nn_eqT, nn_eqF, bv_0, bv_1, ko_b, ko_1, ko_0, true_and, and_true, if_true, if_false, not_true_eq_false, not_false_eq_true, oo_02, decide_eq_true_eq, decide_eq_false_iff_not, ite_not, Nat.reduceAdd, Nat.reduceLT, Nat.reduceSub, Nat.reduceLeDiff, reduceIte, Bool.true_eq_false, Bool.false_eq_true, reduceCtorEq, eq_self, decide_true, decide_false, bv_t, bv_f, and_self, t_si, t_sl, t_sr, t_sI, t_sR, n_si, n_sl, n_sr, n_sI, n_sR, r_si, r_sl, r_sI, h2, h4]
  rw [x_134_23]
  simp (disch := first | omega | decide | exact ko_b _ | assumption | (simp only [t_si, t_sl, t_sr, t_sI, t_sR, n_si, n_sl, n_sr, n_sI, n_sR, r_si, r_sl, r_sI]; first | done | omega)) only [x_134_e, x_134_b, x_134_24, x_134_25, x_134_28, x_134_e, x_134_b, x_134_78, bk_v, bk_n, nl_I, nl_R, nl_L, nl_0, oo_lt, oo_le, oo_eq, oo_add, oo_sub, oo_tn, oo_ir, nn_leT, nn_leF, nn_ltT, nn_ltF, nn_eqT, nn_eqF, bv_0, bv_1, ko_b, ko_1, ko_0, true_and, and_true, if_true, if_false, not_true_eq_false, not_false_eq_true, oo_02, decide_eq_true_eq, decide_eq_false_iff_not, ite_not, Nat.reduceAdd, Nat.reduceLT, Nat.reduceSub, Nat.reduceLeDiff, reduceIte, Bool.true_eq_false, Bool.false_eq_true, reduceCtorEq, eq_self, decide_true, decide_false, bv_t, bv_f, and_self, t_si, t_sl, t_sr, t_sI, t_sR, n_si, n_sl, n_sr, n_sI, n_sR, r_si, r_sl, r_sI, i_si, Nat.reduceEqDiff, and_false]
set_option maxHeartbeats 2000000 in
/-- a new component -/
theorem c_table0 {w : Wd} (ht : w_t w 1000 = 20) (hz : w_z w = 1001) (hi : ∀ k, w_i w 1000 k = Int32.ofNat 0) (h220 : w_t w 220 = 15) (hn220 : w_n w 220 = 6) {d : Nat} : ∃ w1, (Nb_ 1000 w w1 ∧ w_z w1 = 1440 ∧ w_s w1 = w_s w + 8530 ∧ ∀ v, Kp_ (fun b => 1000 ≤ b ∧ b < 1440) w1 v → 1477 ≤ w_z v → RC_ v G00_ id S00_) ∧ ∀ Q, cl (d + 5) 23 [v_R (some 1000)] w Q = Q (Sum.inl none) w1 := by
  obtain ⟨A, ⟨a1, a2, a3, a4⟩, qA⟩ := c_town0 (w := s_n w 21 5) (a := 1001) (d := d + 1) (by rw [t_sn, if_pos hz.symm]) (by rw [z_sn, hz]) (by rw [r_sn, if_pos hz.symm]) (by rw [t_sn, if_neg (by omega)]; exact h220) (by rw [n_sn, if_neg (by omega)]; exact hn220) (by omega)
  have kA : Nb_ 1001 w A := nb_tr (nb_n (by omega)) a1
  obtain ⟨B0, hB0⟩ : ∃ B0, B0 = s_n (s_r A 1000 0 (some 1001)) 23 7 := ⟨_, rfl⟩
  have zA : w_z A = 1007 := a2
  obtain ⟨B, ⟨b1, b2, b3, b4, b5, b6, b7, b10, b9⟩, qB⟩ := c_book0 (w := B0) (u := 1007) (d := d) (Or.inl rfl) (by rw [hB0, t_sn, if_pos (by rw [z_sr, zA])]) (by rw [hB0, z_sn, z_sr, zA])
  have kB : Kp_ (fun b => b < 1007 ∧ b ≠ 1000) A B := kp_tr (kp_tr (kp_r fun b h => h.2) (kp_n fun b h => by rw [z_sr, zA]; omega)) (kp_mo (hB0 ▸ b1) fun b h => h.1)
  have rB : ∀ k, w_r B 1000 k = if k = 0 then some 1001 else w_r A 1000 k := fun k => by
    rw [(b1 1000 (by omega)).2.2.2.1 k, hB0, r_sn, if_neg (by rw [z_sr, zA]; omega), r_sr]
    simp only [true_and]
  have tB : w_t B 1000 = 20 := by
    rw [(b1 1000 (by omega)).1, hB0, t_sn, if_neg (by rw [z_sr, zA]; omega), t_sr, (kA 1000 (by omega)).1]; exact ht
  have iB : ∀ k, w_i B 1000 k = Int32.ofNat 0 := fun k => by
    rw [(b1 1000 (by omega)).2.2.1 k, hB0, i_sn, if_neg (by rw [z_sr, zA]; omega), i_sr, (kA 1000 (by omega)).2.2.1 k]; exact hi k
  obtain ⟨C0, hC0⟩ : ∃ C0, C0 = s_n (s_r B 1000 1 (some 1007)) 23 7 := ⟨_, rfl⟩
  have zB : w_z B = 1218 := b2
  obtain ⟨C, ⟨c1, c2, c3, c4, c5, c6, c7, c8, c9⟩, qC⟩ := c_book0 (w := C0) (u := 1218) (d := d) (Or.inr rfl) (by rw [hC0, t_sn, if_pos (by rw [z_sr, zB])]) (by rw [hC0, z_sn, z_sr, zB])
  have kC : Kp_ (fun b => b < 1218 ∧ b ≠ 1000) B C := kp_tr (kp_tr (kp_r fun b h => h.2) (kp_n fun b h => by rw [z_sr, zB]; omega)) (kp_mo (hC0 ▸ c1) fun b h => h.1)
  have rC : ∀ k, w_r C 1000 k = if k = 1 then some 1007 else w_r B 1000 k := fun k => by
    rw [(c1 1000 (by omega)).2.2.2.1 k, hC0, r_sn, if_neg (by rw [z_sr, zB]; omega), r_sr]
    simp only [true_and]
  have tC : w_t C 1000 = 20 := by
    rw [(c1 1000 (by omega)).1, hC0, t_sn, if_neg (by rw [z_sr, zB]; omega), t_sr]; exact tB
  have iC : ∀ k, w_i C 1000 k = Int32.ofNat 0 := fun k => by
    rw [(c1 1000 (by omega)).2.2.1 k, hC0, i_sn, if_neg (by rw [z_sr, zB]; omega), i_sr]; exact iB k
  obtain ⟨D0, hD0⟩ : ∃ D0, D0 = s_n (s_r (s_r C 1000 2 (some 1218)) 1000 3 (some 1008)) 24 7 := ⟨_, rfl⟩
  have zC : w_z C = 1429 := c2
  obtain ⟨D, ⟨d1, d2, d3, d4, d5, d6⟩, qD⟩ := c_state0 (w := D0) (a := 1429) (d := d + 4) (by rw [hD0, t_sn, if_pos (by rw [z_sr, z_sr, zC])]) (by rw [hD0, z_sn, z_sr, z_sr, zC])
  have kD : Kp_ (fun b => b < 1429 ∧ b ≠ 1000) C D := kp_tr (kp_tr (kp_tr (kp_r fun b h => h.2) (kp_r fun b h => h.2)) (kp_n fun b h => by rw [z_sr, z_sr, zC]; omega)) (kp_mo (P := fun b => b < 1429) (fun b h => (hD0 ▸ d1) b h) fun b h => h.1)
  have rD : ∀ k, w_r D 1000 k = if k = 3 then some 1008 else if k = 2 then some 1218 else w_r C 1000 k := fun k => by
    rw [(d1 1000 (by omega)).2.2.2.1 k, hD0, r_sn, if_neg (by rw [z_sr, z_sr, zC]; omega), r_sr, r_sr]
    simp only [true_and]
  have tD : w_t D 1000 = 20 := by
    rw [(d1 1000 (by omega)).1, hD0, t_sn, if_neg (by rw [z_sr, z_sr, zC]; omega), t_sr, t_sr]; exact tC
  have iD : ∀ k, w_i D 1000 k = Int32.ofNat 0 := fun k => by
    rw [(d1 1000 (by omega)).2.2.1 k, hD0, i_sn, if_neg (by rw [z_sr, z_sr, zC]; omega), i_sr, i_sr]; exact iC k
  have zD : w_z D = 1434 := d3
  have kE := we_kp zD
  have sE := we_sh zD
  have zE := we_z zD
  obtain ⟨E, hE⟩ : ∃ E, E = we_ D := ⟨_, rfl⟩
  rw [← hE] at kE sE zE
  obtain ⟨e1, e2, e3, e4, e5, e6, e7, e8, e9, e10, e11, e12, e13, e14, e15, e16, e17, e18, e19, e20, e21, e22, e23, e24⟩ := sE
  have kF : Kp_ (fun b => b ≠ 1008) E (s_i (s_i (s_i E 1008 4 (Int32.ofNat 0)) 1008 5 (Int32.ofNat 0)) 1008 6 (Int32.ofInt (-1))) := kp_tr (kp_tr (kp_i fun b h => h) (kp_i fun b h => h)) (kp_i fun b h => h)
  obtain ⟨F, hF⟩ : ∃ F, F = s_i (s_i (s_i E 1008 4 (Int32.ofNat 0)) 1008 5 (Int32.ofNat 0)) 1008 6 (Int32.ofInt (-1)) := ⟨_, rfl⟩
  rw [← hF] at kF
  have tF : ∀ b, w_t F b = w_t E b := fun b => by rw [hF]; rfl
  have nF : ∀ b, w_n F b = w_n E b := fun b => by rw [hF]; rfl
  have rF : ∀ b k, w_r F b k = w_r E b k := fun b k => by rw [hF]; rfl
  refine ⟨F, ⟨?_, ?_, ?_, fun v hv hvz => ?_⟩, fun Q => ?_⟩
  · refine nb_tr (nb_le kA (by omega)) (nb_tr (fun b h => kB b (by omega)) (nb_tr (fun b h => kC b (by omega)) (nb_tr (fun b h => kD b (by omega)) (nb_tr (fun b h => kE b (by omega)) fun b h => kF b (by omega)))))
  · rw [hF, z_si, z_si, z_si]; exact zE
  · rw [hF, s_si, s_si, s_si, hE, we_s, d4, hD0, s_sn, s_sr, s_sr, c3, hC0, s_sn, s_sr, b3, hB0, s_sn, s_sr, a3, s_sn]
  · have kFv : Kp_ (fun b => 1000 ≤ b ∧ b < 1440 ∧ b ≠ 1008) E v := kp_tr (kp_mo kF fun b h => by omega) (kp_mo hv fun b h => by omega)
    have kDv : Kp_ (fun b => 1000 < b ∧ b < 1434 ∧ b ≠ 1008) D v := kp_tr (kp_mo kE fun b h => by omega) (kp_mo kFv fun b h => by omega)
    have kCv : Kp_ (fun b => 1000 < b ∧ b < 1429 ∧ b ≠ 1008) C v := kp_tr (kp_mo kD fun b h => by omega) (kp_mo kDv fun b h => by omega)
    have kBv : Kp_ (fun b => 1000 < b ∧ b < 1218 ∧ b ≠ 1008) B v := kp_tr (kp_mo kC fun b h => by omega) (kp_mo kCv fun b h => by omega)
    have kAv : Kp_ (fun b => 1000 < b ∧ b < 1007) A v := kp_tr (kp_mo kB fun b h => by omega) (kp_mo kBv fun b h => by omega)
    have v8 : Sh_ E v 1008 := ⟨(hv 1008 (by omega)).1.trans (tF _), (hv 1008 (by omega)).2.1.trans (nF _), fun k => ((hv 1008 (by omega)).2.2.2.1 k).trans (rF _ k)⟩
    have b8 : Sh_ B E 1008 := ⟨(kE 1008 (by omega)).1.trans ((kD 1008 (by omega)).1.trans (kC 1008 (by omega)).1), (kE 1008 (by omega)).2.1.trans ((kD 1008 (by omega)).2.1.trans (kC 1008 (by omega)).2.1), fun k => ((kE 1008 (by omega)).2.2.2.1 k).trans (((kD 1008 (by omega)).2.2.2.1 k).trans ((kC 1008 (by omega)).2.2.2.1 k))⟩
    have shB : ∀ b, 1007 ≤ b → b < 1218 → Sh_ B v b := fun b h1 h2 => by
      by_cases e : b = 1008
      · rw [e]; exact ⟨v8.1.trans b8.1, v8.2.1.trans b8.2.1, fun k => (v8.2.2 k).trans (b8.2.2 k)⟩
      · exact ⟨(kBv b (by omega)).1, (kBv b (by omega)).2.1, (kBv b (by omega)).2.2.2.1⟩
    have shC : ∀ b, 1218 ≤ b → b < 1429 → Sh_ C v b := fun b h1 h2 => ⟨(kCv b (by omega)).1, (kCv b (by omega)).2.1, (kCv b (by omega)).2.2.2.1⟩
    have shD : ∀ b, 1429 ≤ b → b < 1434 → Sh_ D v b := fun b h1 h2 => ⟨(kDv b (by omega)).1, (kDv b (by omega)).2.1, (kDv b (by omega)).2.2.2.1⟩
    have rv : ∀ k, w_r v 1000 k = w_r E 1000 k := fun k => (kFv 1000 (by omega)).2.2.2.1 k
    have iv : ∀ k, w_i v 1000 k = w_i E 1000 k := fun k => (kFv 1000 (by omega)).2.2.1 k
    have tv : ∀ b, 1434 ≤ b → b < 1440 → w_t v b = w_t E b := fun b h1 h2 => (kFv b (by omega)).1
    have nv : ∀ b, 1434 ≤ b → b < 1440 → w_n v b = w_n E b := fun b h1 h2 => (kFv b (by omega)).2.1
    have tA : ∀ b, 1000 < b → b < 1007 → w_t v b = w_t A b := fun b h1 h2 => (kAv b (by omega)).1
    have nA : ∀ b, 1000 < b → b < 1007 → w_n v b = w_n A b := fun b h1 h2 => (kAv b (by omega)).2.1
    have rA : ∀ b k, 1000 < b → b < 1007 → w_r v b k = w_r A b k := fun b k h1 h2 => (kAv b (by omega)).2.2.2.1 k
    have iA : ∀ b k, 1000 < b → b < 1007 → w_i v b k = w_i A b k := fun b k h1 h2 => (kAv b (by omega)).2.2.1 k
    have i8 : ∀ k, w_i v 1008 k = w_i F 1008 k := fun k => (hv 1008 (by omega)).2.2.1 k
    have iE8 : w_i F 1008 4 = Int32.ofNat 0 ∧ w_i F 1008 5 = Int32.ofNat 0 ∧ w_i F 1008 6 = Int32.ofInt (-1) := by
      rw [hF]
      simp only [i_si, Nat.reduceEqDiff, and_self, and_false, true_and, if_true, if_false]
    have t1000 : w_t v 1000 = 20 := by rw [(kFv 1000 (by omega)).1, e21]; exact tD
    unfold TN_ at a4
    simp only [Nat.reduceAdd] at a4
    obtain ⟨t1, t2, t3, t4, t5, t6, t7, t8, t9, t10, t11, t12, t13, t14, t15⟩ := a4
    refine ⟨?_, ⟨?_, ?_, ?_, ?_, ?_⟩, ?_, ?_, Or.inl ⟨rfl, rfl⟩, ?_, ?_, ?_, ?_, ?_, fun B h => (by cases h), fun k hk => ?_, ?_, ?_⟩
    · unfold sh_C
      simp only [rv, e1, e2, e3, e4, e5, e6, e7, e8 0 (by omega), e8 1 (by omega), e8 2 (by omega), e8 3 (by omega), rD, rC, rB, Nat.reduceEqDiff, if_true, if_false, reduceCtorEq, t1000, true_and, tv 1434 (by omega) (by omega), tv 1435 (by omega) (by omega), tv 1436 (by omega) (by omega), tv 1437 (by omega) (by omega), tv 1438 (by omega) (by omega), tv 1439 (by omega) (by omega), nv 1434 (by omega) (by omega), nv 1435 (by omega) (by omega), nv 1436 (by omega) (by omega), nv 1437 (by omega) (by omega), nv 1438 (by omega) (by omega), nv 1439 (by omega) (by omega), e9, e10, e11, e12, e13, e14, e15, e16, e17, e18, e19, e20]
      first | exact hvz | exact ⟨trivial, hvz⟩ | (decide +revert)
    · exact sh_B_ag b4 fun b h1 h2 => shB b (by omega) (by omega)
    · exact sh_K_ag b5 fun b h1 h2 => shB b (by omega) (by omega)
    · exact sh_B_ag c4 fun b h1 h2 => shC b (by omega) (by omega)
    · exact sh_K_ag c5 fun b h1 h2 => shC b (by omega) (by omega)
    · exact SO_ag d5 fun b h1 h2 => shD b (by omega) (by omega)
    · rw [rv, e8 0 (by omega), rD, if_neg (by omega), if_neg (by omega), rC, if_neg (by omega), rB, if_pos rfl]; rfl
    · refine ⟨?_, ?_, ?_, ?_, ?_, ?_, ?_, ?_, ?_, ?_, Nat.zero_le _, ?_, ?_, ?_, ?_, ?_, fun t h => absurd h (Nat.not_lt_zero _), fun t h => absurd h (Nat.not_lt_zero _), fun t h => absurd h (Nat.not_lt_zero _), fun t h => absurd h (Nat.not_lt_zero _), fun t h => absurd h (Nat.not_lt_zero _), fun t h => absurd h (Nat.not_lt_zero _)⟩
      · exact (tA 1001 (by omega) (by omega)).trans t1
      · exact (rA 1001 2 (by omega) (by omega)).trans t2
      · exact (rA 1001 3 (by omega) (by omega)).trans t3
      · exact (rA 1001 4 (by omega) (by omega)).trans t4
      · exact (iA 1001 0 (by omega) (by omega)).trans t5
      · exact (iA 1001 1 (by omega) (by omega)).trans t6
      · exact (tA 1002 (by omega) (by omega)).trans t7
      · exact (rA 1002 1 (by omega) (by omega)).trans t8
      · exact (iA 1002 2 (by omega) (by omega)).trans t9
      · exact (tA 1003 (by omega) (by omega)).trans t10
      · show w_n v 1003 < _
        rw [nA 1003 (by omega) (by omega), t11]; omega
      · exact (tA 1004 (by omega) (by omega)).trans t12
      · exact (rA 1004 0 (by omega) (by omega)).trans t13
      · exact (tA 1006 (by omega) (by omega)).trans t14
      · exact (nA 1006 (by omega) (by omega)).trans t15
    · exact ⟨⟨Or.inl (by show 1001 ≤ 1001 ∧ 1001 ≤ 1006; omega), by show 1001 < _; omega⟩, ⟨Or.inl (by show 1001 ≤ 1002 ∧ 1002 ≤ 1006; omega), by show 1002 < _; omega⟩, ⟨Or.inl (by show 1001 ≤ 1003 ∧ 1003 ≤ 1006; omega), by show 1003 < _; omega⟩, ⟨Or.inl (by show 1001 ≤ 1004 ∧ 1004 ≤ 1006; omega), by show 1004 < _; omega⟩, ⟨Or.inl (by show 1001 ≤ 1006 ∧ 1006 ≤ 1006; omega), by show 1006 < _; omega⟩, fun t h => absurd h (Nat.not_lt_zero _), fun t h => absurd h (Nat.not_lt_zero _)⟩
    · exact CL_ag b6 ((kBv (1007 + 6) (by omega)).2.2.1 2) fun k => (shB (1007 + 7) (by omega) (by omega)).2.2 k
    · refine ⟨⟨(i8 4).trans iE8.1, (i8 5).trans iE8.2.1, (i8 6).trans iE8.2.2, fun t h => absurd h (Nat.not_lt_zero _), fun t h => absurd h (Nat.not_lt_zero _), fun t h => absurd h (Nat.not_lt_zero _), fun t h => absurd h (Nat.not_lt_zero _)⟩, ?_, fun t h => absurd h (Nat.not_lt_zero _), ?_, fun t h => absurd h (Nat.not_lt_zero _), fun t h => absurd h (Nat.not_lt_zero _), fun k hk => ?_⟩
      · rw [(kBv 1007 (by omega)).2.2.1 5, b7 5, hB0, i_sn, if_pos (by rw [z_sr, zA])]; rfl
      · rw [(kBv 1007 (by omega)).2.2.1 6, b7 6, hB0, i_sn, if_pos (by rw [z_sr, zA])]; rfl
      · exact ((kBv (1007 + 10) (by omega)).2.2.1 k).trans (b10 k)
    · exact CL_ag c6 ((kCv (1218 + 6) (by omega)).2.2.1 2) fun k => (shC (1218 + 7) (by omega) (by omega)).2.2 k
    · rw [iv, e23 5 (by omega), iD]; rfl
    · exact ((kFv 1434 (by omega)).2.2.1 k).trans (e24 k)
    · rw [iv, e23 7 (by omega), iD]; rfl
    · rw [iv, e22]; rfl
  · have tC0 : w_t (s_n w 21 5) 1001 = 21 := by rw [t_sn, if_pos hz.symm]
    have tA0 : w_t A 1000 = 20 := (kA 1000 (by omega)).1.trans ht
    have tB0 : w_t B0 1007 = 23 := by rw [hB0, t_sn, if_pos (by rw [z_sr, zA])]
    have tC1 : w_t C0 1218 = 23 := by rw [hC0, t_sn, if_pos (by rw [z_sr, zB])]
    have tD0 : w_t D0 1429 = 24 := by rw [hD0, t_sn, if_pos (by rw [z_sr, z_sr, zC])]
    have zA1 : w_z (s_r A 1000 0 (some 1001)) = 1007 := zA
    have zB1 : w_z (s_r B 1000 1 (some 1007)) = 1218 := zB
    have zC1 : w_z (s_r (s_r C 1000 2 (some 1218)) 1000 3 (some 1008)) = 1429 := zC
    have rC1 : w_r (s_r C 1000 2 (some 1218)) 1000 1 = some 1007 := by rw [r_sr, if_neg (by omega), rC, if_pos rfl]
    have tC7 : w_t C 1007 = 23 := (kC 1007 (by omega)).1.trans b4.1
    have rC7 : w_r C 1007 0 = some 1008 := ((kC 1007 (by omega)).2.2.2.1 0).trans b4.2.1
    have tE : w_t E 1000 = 20 := e21.trans tD
    have rE3 : w_r E 1000 3 = some 1008 := by rw [e8 3 (by omega), rD, if_pos rfl]
    have rE0 : w_r E 1000 0 = some 1001 := by rw [e8 0 (by omega), rD, if_neg (by omega), if_neg (by omega), rC, if_neg (by omega), rB, if_pos rfl]
    have kAE : Kp_ (fun b => 1000 < b ∧ b < 1007) A E := kp_tr (kp_mo kB fun b h => by omega) (kp_tr (kp_mo kC fun b h => by omega) (kp_tr (kp_mo kD fun b h => by omega) (kp_mo kE fun b h => by omega)))
    have kBE : Kp_ (fun b => 1006 < b ∧ b < 1218) B E := kp_tr (kp_mo kC fun b h => by omega) (kp_tr (kp_mo kD fun b h => by omega) (kp_mo kE fun b h => by omega))
    unfold TN_ at a4
    simp only [Nat.reduceAdd] at a4
    have tE1 : w_t E 1001 = 21 := (kAE 1001 (by omega)).1.trans a4.1
    have rE1 : w_r E 1001 2 = some 1002 := ((kAE 1001 (by omega)).2.2.2.1 2).trans a4.2.1
    have tE2 : w_t E 1002 = 36 := (kAE 1002 (by omega)).1.trans a4.2.2.2.2.2.2.1
    have iE2 : w_i E 1002 2 = Int32.ofNat 0 := ((kAE 1002 (by omega)).2.2.1 2).trans a4.2.2.2.2.2.2.2.2.1
    have tE8 : w_t E 1008 = 24 := (kBE 1008 (by omega)).1.trans b5.1.1
    have beg : ∀ Q, cl (d + 4) 134 [v_R (some 1008), v_R (some 1001)] E Q = Q (Sum.inl none) F := fun Q => by
      rw [beg_walk tE1 rE1 tE2 iE2 tE8, hF]
    have tC2 : w_t (s_r C 1000 2 (some 1218)) 1000 = 20 := tC
    have tC3 : w_t (s_r C 1000 2 (some 1218)) 1007 = 23 := tC7
    have rC3 : w_r (s_r C 1000 2 (some 1218)) 1007 0 = some 1008 := by rw [r_sr, if_neg (by omega)]; exact rC7
    simp (disch := first | omega | decide | assumption | (simp (disch := omega) only [t_sn, t_sr, t_si, t_sI, t_sR, t_sl, n_sn, n_sr, n_si, n_sI, n_sR, n_sl, z_sn, z_sr, z_si, z_sI, z_sR, z_sl, hz, nn_eqF, nn_eqT, Nat.reduceEqDiff, Nat.reduceAdd, Nat.add_assoc, if_true, if_false, eq_self]; first | done | omega)) only [x_23_e, x_23_b, x_23_0, x_23_1, x_23_4, x_23_5, x_23_8, x_23_9, bk_v, bk_n, nl_I, nl_R, nl_0, Nat.reduceAdd, hz]
    rw [qA]
    simp (disch := first | omega | decide | assumption | (simp (disch := omega) only [t_sn, t_sr, t_si, t_sI, t_sR, t_sl, n_sn, n_sr, n_si, n_sI, n_sR, n_sl, z_sn, z_sr, z_si, z_sI, z_sR, z_sl, hz, nn_eqF, nn_eqT, Nat.reduceEqDiff, Nat.reduceAdd, Nat.add_assoc, if_true, if_false, eq_self]; first | done | omega)) only [x_23_e, x_23_b, x_23_12, x_23_15, x_23_16, x_23_19, x_23_20, bk_v, bk_n, nl_I, nl_R, nl_0, Nat.reduceAdd, zA1]
    rw [← hB0, qB]
    simp (disch := first | omega | decide | assumption | (simp (disch := omega) only [t_sn, t_sr, t_si, t_sI, t_sR, t_sl, n_sn, n_sr, n_si, n_sI, n_sR, n_sl, z_sn, z_sr, z_si, z_sI, z_sR, z_sl, hz, nn_eqF, nn_eqT, Nat.reduceEqDiff, Nat.reduceAdd, Nat.add_assoc, if_true, if_false, eq_self]; first | done | omega)) only [x_23_e, x_23_b, x_23_23, x_23_26, x_23_27, x_23_30, x_23_31, bk_v, bk_n, nl_I, nl_R, nl_0, Nat.reduceAdd, zB1]
    rw [← hC0, qC]
    simp (disch := first | omega | decide | assumption | (simp (disch := omega) only [t_sn, t_sr, t_si, t_sI, t_sR, t_sl, n_sn, n_sr, n_si, n_sI, n_sR, n_sl, z_sn, z_sr, z_si, z_sI, z_sR, z_sl, hz, nn_eqF, nn_eqT, Nat.reduceEqDiff, Nat.reduceAdd, Nat.add_assoc, if_true, if_false, eq_self]; first | done | omega)) only [x_23_e, x_23_b, x_23_34, x_23_37, x_23_38, x_23_39, x_23_42, x_23_45, x_23_48, x_23_49, x_23_52, x_23_53, bk_v, bk_n, nl_I, nl_R, nl_0, Nat.reduceAdd, rC1, rC3, zC1]
    rw [← hD0, qD]
    simp only [bk_v, bk_n, x_23_b, Nat.reduceAdd]
    rw [we_walk zD tD, ← hE]
    simp (disch := first | omega | decide | assumption | (simp (disch := omega) only [t_sn, t_sr, t_si, t_sI, t_sR, t_sl, n_sn, n_sr, n_si, n_sI, n_sR, n_sl, z_sn, z_sr, z_si, z_sI, z_sR, z_sl, hz, nn_eqF, nn_eqT, Nat.reduceEqDiff, Nat.reduceAdd, Nat.add_assoc, if_true, if_false, eq_self]; first | done | omega)) only [x_23_e, x_23_b, x_23_117, x_23_118, x_23_121, x_23_122, x_23_125, x_23_128, bk_v, bk_n, nl_I, nl_R, nl_0, Nat.reduceAdd, rE3, rE0, beg]
