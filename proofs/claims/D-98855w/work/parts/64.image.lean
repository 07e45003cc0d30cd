/-! IMAGE AND RESTORE: the model -/
set_option maxRecDepth 100000
def s_img (S : Sm) : Sm := (sm_T S, sm_B S, some (sm_B S), sm_tp S, sm_n S, sm_f S)
def p_im (a k : Nat) : Prop := (a = 1440 ∧ (k = 3 ∨ k = 50 ∨ k = 51 ∨ k = 52)) ∨ (1471 ≤ a ∧ a ≤ 1475)
section
variable {w : Wd} {S : Sm}
theorem m_be {d A B N : Nat} (hA : w_t w A = 1) (hB : w_t w B = 1) (nA : w_n w A = N) (nB : w_n w B = N) (hN : N < 2147483648) (hab : A ≠ B) : ∃ w1, Fr_ (fun a _ => a = A) w w1 ∧ (∀ k, k < N → w_i w1 A k = w_i w B k) ∧ ∀ Q, cl d 262 [v_R (some A), v_R (some B)] w Q = Q (Sum.inl none) w1 := by
  obtain ⟨w1, ⟨i1, i2⟩, q1⟩ := lp_ex (fun k (w1 : Wd) (Q : Q_) => wp d 262 2 [some (v_R (some A)), some (v_R (some B)), some (v_I (Int32.ofNat k))] [] w1 Q) (fun k w1 => Fr_ (fun a _ => a = A) w w1 ∧ ∀ j, j < k → w_i w1 A j = w_i w B j) N (fun k w1 hk hI => by
    obtain ⟨i1, i2⟩ := hI
    have u1 : w_t w1 A = 1 := by rw [i1.1]; exact hA
    have u2 : w_t w1 B = 1 := by rw [i1.1]; exact hB
    have u3 : w_n w1 A = N := by rw [i1.2.1]; exact nA
    have u4 : w_n w1 B = N := by rw [i1.2.1]; exact nB
    have u5 : ∀ j, w_i w1 B j = w_i w B j := fun j => i1.2.2.2.2.2 _ _ (fun z => hab z.symm)
    refine ⟨s_i w1 A k (w_i w B k), ⟨fr_si i1 rfl, fun j hj => ?_⟩, fun Q => ?_⟩
    · rw [i_si]
      by_cases c : j = k
      · rw [if_pos ⟨rfl, c⟩, c]
      · rw [if_neg (fun z => c z.2)]; exact i2 j (by omega)
    · rw [x_262_2]
      simp (disch := first | omega | decide | exact ko_b _ | assumption | (simp only [t_si, t_sl, t_sr, t_sI, t_sR, n_si, n_sl, n_sr, n_sI, n_sR, r_si, r_sl, r_sI]; first | done | omega)) only [x_262_e, x_262_b, x_262_3, x_262_4, x_262_5, x_262_8, x_262_9, x_262_10, x_262_11, x_262_12, x_262_13, x_262_14, x_262_17, bk_v, bk_n, nl_I, nl_R, nl_L, nl_0, oo_lt, oo_le, oo_eq, oo_add, oo_sub, oo_tn, oo_ir, nn_leT, nn_leF, nn_ltT, nn_ltF, nn_eqT, nn_eqF, bv_0, bv_1, ko_b, ko_1, ko_0, true_and, and_true, if_true, if_false, not_true_eq_false, not_false_eq_true, oo_02, decide_eq_true_eq, decide_eq_false_iff_not, ite_not, Nat.reduceAdd, Nat.reduceLT, Nat.reduceSub, Nat.reduceLeDiff, reduceIte, Bool.true_eq_false, Bool.false_eq_true, reduceCtorEq, eq_self, decide_true, decide_false, bv_t, bv_f, and_self, t_si, t_sl, t_sr, t_sI, t_sR, n_si, n_sl, n_sr, n_sI, n_sR, r_si, r_sl, r_sI, u3, u4, u5]) N 0 w (Nat.zero_add _) ⟨fr_rf _ _, fun j hj => absurd hj (Nat.not_lt_zero j)⟩
  refine ⟨w1, i1, i2, fun Q => ?_⟩
  have u1 : w_t w1 A = 1 := by rw [i1.1]; exact hA
  have u3 : w_n w1 A = N := by rw [i1.2.1]; exact nA
  have fin : wp d 262 2 [some (v_R (some A)), some (v_R (some B)), some (v_I (Int32.ofNat N))] [] w1 Q = Q (Sum.inl none) w1 := by
    rw [x_262_2]
    simp (disch := first | omega | decide | exact ko_b _ | assumption | (simp only [t_si, t_sl, t_sr, t_sI, t_sR, n_si, n_sl, n_sr, n_sI, n_sR, r_si, r_sl, r_sI]; first | done | omega)) only [x_262_e, x_262_b, x_262_3, x_262_4, x_262_5, x_262_8, x_262_9, x_262_10, x_262_11, x_262_12, x_262_13, x_262_14, x_262_17, x_262_20, bk_v, bk_n, nl_I, nl_R, nl_L, nl_0, oo_lt, oo_le, oo_eq, oo_add, oo_sub, oo_tn, oo_ir, nn_leT, nn_leF, nn_ltT, nn_ltF, nn_eqT, nn_eqF, bv_0, bv_1, ko_b, ko_1, ko_0, true_and, and_true, if_true, if_false, not_true_eq_false, not_false_eq_true, oo_02, decide_eq_true_eq, decide_eq_false_iff_not, ite_not, Nat.reduceAdd, Nat.reduceLT, Nat.reduceSub, Nat.reduceLeDiff, reduceIte, Bool.true_eq_false, Bool.false_eq_true, reduceCtorEq, eq_self, decide_true, decide_false, bv_t, bv_f, and_self, t_si, t_sl, t_sr, t_sI, t_sR, n_si, n_sl, n_sr, n_sI, n_sR, r_si, r_sl, r_sI, u3]
  refine Eq.trans ?_ ((q1 Q).trans fin)
  simp (disch := first | omega | decide | exact ko_b _ | assumption | (simp only [t_si, t_sl, t_sr, t_sI, t_sR, n_si, n_sl, n_sr, n_sI, n_sR, r_si, r_sl, r_sI]; first | done | omega)) only [x_262_e, x_262_b, x_262_0, x_262_1, bk_v, bk_n, nl_I, nl_R, nl_L, nl_0, oo_lt, oo_le, oo_eq, oo_add, oo_sub, oo_tn, oo_ir, nn_leT, nn_leF, nn_ltT, nn_ltF, nn_eqT, nn_eqF, bv_0, bv_1, ko_b, ko_1, ko_0, true_and, and_true, if_true, if_false, not_true_eq_false, not_false_eq_true, oo_02, decide_eq_true_eq, decide_eq_false_iff_not, ite_not, Nat.reduceAdd, Nat.reduceLT, Nat.reduceSub, Nat.reduceLeDiff, reduceIte, Bool.true_eq_false, Bool.false_eq_true, reduceCtorEq, eq_self, decide_true, decide_false, bv_t, bv_f, and_self, t_si, t_sl, t_sr, t_sI, t_sR, n_si, n_sl, n_sr, n_sI, n_sR, r_si, r_sl, r_sI]
theorem m_image (h : RM_ w S) (hV : WS_ S) {d : Nat} : ∃ w1, Fr_ mz_ w w1 ∧ RM_ w1 (s_img S) ∧ ∀ Q, cl (d + 1) 261 [v_R (some 1440)] w Q = Q (Sum.inl none) w1 := by
  have hn10 := hV.1.1
  have hL10 := hV.2.2.2.1.1.1
  have hM := h.1
  have g31 : w_i w 1440 31 = Int32.ofNat (bm_a (sm_B S)) := h.2.2.1.2.1
  have g32 : w_i w 1440 32 = Int32.ofNat (bm_m (sm_B S)) := h.2.2.1.2.2.2.1
  have hf0 : Fr_ p_im w (s_i (s_i (s_i (s_i w 1440 3 (Int32.ofNat 0)) 1440 50 (Int32.ofNat 1)) 1440 51 (Int32.ofNat (bm_a (sm_B S)))) 1440 52 (Int32.ofNat (bm_m (sm_B S)))) := fr_si (fr_si (fr_si (fr_si (fr_rf _ _) (by unfold p_im; omega)) (by unfold p_im; omega)) (by unfold p_im; omega)) (by unfold p_im; omega)
  have b50 : w_i (s_i (s_i (s_i (s_i w 1440 3 (Int32.ofNat 0)) 1440 50 (Int32.ofNat 1)) 1440 51 (Int32.ofNat (bm_a (sm_B S)))) 1440 52 (Int32.ofNat (bm_m (sm_B S)))) 1440 50 = Int32.ofNat 1 := by simp only [i_si, Nat.reduceEqDiff, and_false, if_false, and_self, if_true]
  have b51 : w_i (s_i (s_i (s_i (s_i w 1440 3 (Int32.ofNat 0)) 1440 50 (Int32.ofNat 1)) 1440 51 (Int32.ofNat (bm_a (sm_B S)))) 1440 52 (Int32.ofNat (bm_m (sm_B S)))) 1440 51 = Int32.ofNat (bm_a (sm_B S)) := by simp only [i_si, Nat.reduceEqDiff, and_false, if_false, and_self, if_true]
  have b52 : w_i (s_i (s_i (s_i (s_i w 1440 3 (Int32.ofNat 0)) 1440 50 (Int32.ofNat 1)) 1440 51 (Int32.ofNat (bm_a (sm_B S)))) 1440 52 (Int32.ofNat (bm_m (sm_B S)))) 1440 52 = Int32.ofNat (bm_m (sm_B S)) := by simp only [i_si, and_self, if_true]
  have t9 : w_t w 1440 = 25 := hM.1
  have hst : ∀ Q, cl (d + 1) 261 [v_R (some 1440)] w Q = wp (d + 1) 261 26 [some (v_R (some 1440))] [] (s_i (s_i (s_i (s_i w 1440 3 (Int32.ofNat 0)) 1440 50 (Int32.ofNat 1)) 1440 51 (Int32.ofNat (bm_a (sm_B S)))) 1440 52 (Int32.ofNat (bm_m (sm_B S)))) Q := fun Q => by
    simp (disch := first | omega | decide | exact ko_b _ | assumption | (simp only [t_si, t_sl, t_sr, t_sI, t_sR, n_si, n_sl, n_sr, n_sI, n_sR, r_si, r_sl, r_sI]; first | done | omega)) only [x_261_e, x_261_b, x_261_0, x_261_1, x_261_2, x_261_5, x_261_6, x_261_7, x_261_10, x_261_11, x_261_12, x_261_15, x_261_18, x_261_19, x_261_20, x_261_23, bk_v, bk_n, nl_I, nl_R, nl_L, nl_0, oo_lt, oo_le, oo_eq, oo_add, oo_sub, oo_tn, oo_ir, nn_leT, nn_leF, nn_ltT, nn_ltF, nn_eqT, nn_eqF, bv_0, bv_1, ko_b, ko_1, ko_0, true_and, and_true, if_true, if_false, not_true_eq_false, not_false_eq_true, oo_02, decide_eq_true_eq, decide_eq_false_iff_not, ite_not, Nat.reduceAdd, Nat.reduceLT, Nat.reduceSub, Nat.reduceLeDiff, reduceIte, Bool.true_eq_false, Bool.false_eq_true, reduceCtorEq, eq_self, decide_true, decide_false, bv_t, bv_f, and_self, t_si, t_sl, t_sr, t_sI, t_sR, n_si, n_sl, n_sr, n_sI, n_sR, r_si, r_sl, r_sI, i_si, g31, g32, Nat.reduceEqDiff, and_false, false_and]
  generalize hw0 : s_i (s_i (s_i (s_i w 1440 3 (Int32.ofNat 0)) 1440 50 (Int32.ofNat 1)) 1440 51 (Int32.ofNat (bm_a (sm_B S)))) 1440 52 (Int32.ofNat (bm_m (sm_B S))) = w0 at *
  have hM0 := sh_fr hM hf0
  have tt : w_t w0 1440 = 25 ∧ w_r w0 1440 53 = some 1471 ∧ w_r w0 1440 54 = some 1472 ∧ w_r w0 1440 27 = some 1457 ∧ w_r w0 1440 55 = some 1473 ∧ w_r w0 1440 43 = some 1466 ∧ w_r w0 1440 56 = some 1474 ∧ w_r w0 1440 44 = some 1467 ∧ w_r w0 1440 57 = some 1475 ∧ w_r w0 1440 11 = some 1451 ∧ (w_t w0 1471 = 1 ∧ w_n w0 1471 = 43) ∧ (w_t w0 1472 = 1 ∧ w_n w0 1472 = 1720) ∧ (w_t w0 1457 = 1 ∧ w_n w0 1457 = 1720) ∧ (w_t w0 1473 = 1 ∧ w_n w0 1473 = 8) ∧ (w_t w0 1466 = 1 ∧ w_n w0 1466 = 8) ∧ (w_t w0 1474 = 1 ∧ w_n w0 1474 = 8) ∧ (w_t w0 1467 = 1 ∧ w_n w0 1467 = 8) ∧ (w_t w0 1475 = 1 ∧ w_n w0 1475 = 3) ∧ (w_t w0 1451 = 1 ∧ w_n w0 1451 = 3) := by
    unfold sh_M at hM0
    simp only [hM0, and_self]
  obtain ⟨t0, r53, r54, r27, r55, r43, r56, r44, r57, r11, ⟨x1, y1⟩, ⟨x2, y2⟩, ⟨x3, y3⟩, ⟨x4, y4⟩, ⟨x5, y5⟩, ⟨x6, y6⟩, ⟨x7, y7⟩, ⟨x8, y8⟩, ⟨x9, y9⟩⟩ := tt
  obtain ⟨w1, f1, p1, q1⟩ := m_pack (d := d) hM0 (A := 1471) (f := 0) x1 (by omega) (by omega) (by omega)
  obtain ⟨w2, f2, p2, q2⟩ := m_be (w := w1) (d := d) (A := 1472) (B := 1457) (N := 1720) (by rw [f1.1]; exact x2) (by rw [f1.1]; exact x3) (by rw [f1.2.1]; exact y2) (by rw [f1.2.1]; exact y3) (by omega) (by omega)
  obtain ⟨w3, f3, p3, q3⟩ := m_be (w := w2) (d := d) (A := 1473) (B := 1466) (N := 8) (by rw [f2.1, f1.1]; exact x4) (by rw [f2.1, f1.1]; exact x5) (by rw [f2.2.1, f1.2.1]; exact y4) (by rw [f2.2.1, f1.2.1]; exact y5) (by omega) (by omega)
  obtain ⟨w4, f4, p4, q4⟩ := m_be (w := w3) (d := d) (A := 1474) (B := 1467) (N := 8) (by rw [f3.1, f2.1, f1.1]; exact x6) (by rw [f3.1, f2.1, f1.1]; exact x7) (by rw [f3.2.1, f2.2.1, f1.2.1]; exact y6) (by rw [f3.2.1, f2.2.1, f1.2.1]; exact y7) (by omega) (by omega)
  obtain ⟨w5, f5, p5, q5⟩ := m_be (w := w4) (d := d) (A := 1475) (B := 1451) (N := 3) (by rw [f4.1, f3.1, f2.1, f1.1]; exact x8) (by rw [f4.1, f3.1, f2.1, f1.1]; exact x9) (by rw [f4.2.1, f3.2.1, f2.2.1, f1.2.1]; exact y8) (by rw [f4.2.1, f3.2.1, f2.2.1, f1.2.1]; exact y9) (by omega) (by omega)
  have F1 : Fr_ p_im w0 w1 := fr_mo f1 (fun a k z => by unfold p_im; omega)
  have F2 : Fr_ p_im w1 w2 := fr_mo f2 (fun a k z => by unfold p_im; omega)
  have F3 : Fr_ p_im w2 w3 := fr_mo f3 (fun a k z => by unfold p_im; omega)
  have F4 : Fr_ p_im w3 w4 := fr_mo f4 (fun a k z => by unfold p_im; omega)
  have F5 : Fr_ p_im w4 w5 := fr_mo f5 (fun a k z => by unfold p_im; omega)
  have FF := fr_tr hf0 (fr_tr F1 (fr_tr F2 (fr_tr F3 (fr_tr F4 F5))))
  have g : ∀ a k, (a ≠ 1440 ∨ (k ≠ 3 ∧ k ≠ 50 ∧ k ≠ 51 ∧ k ≠ 52)) → (a < 1471 ∨ 1475 < a) → w_i w5 a k = w_i w a k := fun a k z y => FF.2.2.2.2.2 a k (by unfold p_im; omega)
  have g0 : ∀ a k, (a ≠ 1440 ∨ (k ≠ 3 ∧ k ≠ 50 ∧ k ≠ 51 ∧ k ≠ 52)) → (a < 1471 ∨ 1475 < a) → w_i w0 a k = w_i w a k := fun a k z y => hf0.2.2.2.2.2 a k (by unfold p_im; omega)
  have l0 : ∀ k, w_i w5 1440 k = w_i w0 1440 k := fun k => by rw [f5.2.2.2.2.2 _ _ (by omega), f4.2.2.2.2.2 _ _ (by omega), f3.2.2.2.2.2 _ _ (by omega), f2.2.2.2.2.2 _ _ (by omega), f1.2.2.2.2.2 _ _ (by omega)]
  have l1 : ∀ k, w_i w5 1471 k = w_i w1 1471 k := fun k => by rw [f5.2.2.2.2.2 _ _ (by omega), f4.2.2.2.2.2 _ _ (by omega), f3.2.2.2.2.2 _ _ (by omega), f2.2.2.2.2.2 _ _ (by omega)]
  have l2 : ∀ k, k < 1720 → w_i w5 1472 k = w_i w 1457 k := fun k hk => by rw [f5.2.2.2.2.2 _ _ (by omega), f4.2.2.2.2.2 _ _ (by omega), f3.2.2.2.2.2 _ _ (by omega), p2 k hk, f1.2.2.2.2.2 _ _ (by omega), g0 _ _ (by omega) (by omega)]
  have l3 : ∀ k, k < 8 → w_i w5 1473 k = w_i w 1466 k := fun k hk => by rw [f5.2.2.2.2.2 _ _ (by omega), f4.2.2.2.2.2 _ _ (by omega), p3 k hk, f2.2.2.2.2.2 _ _ (by omega), f1.2.2.2.2.2 _ _ (by omega), g0 _ _ (by omega) (by omega)]
  have l4 : ∀ k, k < 8 → w_i w5 1474 k = w_i w 1467 k := fun k hk => by rw [f5.2.2.2.2.2 _ _ (by omega), p4 k hk, f3.2.2.2.2.2 _ _ (by omega), f2.2.2.2.2.2 _ _ (by omega), f1.2.2.2.2.2 _ _ (by omega), g0 _ _ (by omega) (by omega)]
  have l5 : ∀ k, k < 3 → w_i w5 1475 k = w_i w 1451 k := fun k hk => by rw [p5 k hk, f4.2.2.2.2.2 _ _ (by omega), f3.2.2.2.2.2 _ _ (by omega), f2.2.2.2.2.2 _ _ (by omega), f1.2.2.2.2.2 _ _ (by omega), g0 _ _ (by omega) (by omega)]
  obtain ⟨h1, h2, h3, h4, h5, h6, h7, h8⟩ := h
  have h39 := h3
  obtain ⟨k1, k2, k3, k4, k5, k6, k7⟩ := h39
  have ha40 := hV.2.2.2.1.2.2.1
  have hm8 := hV.2.2.2.1.2.2.2.2.2.1
  have kS : MS_ w0 (tm_n (sm_T S)) (bm_X (sm_B S)) := by
    unfold MS_ at k1 ⊢
    simp (disch := omega) only [g0]
    exact k1
  refine ⟨w5, fr_mo FF (fun a k z => by unfold p_im at z; unfold mz_; omega), ⟨sh_fr h1 FF, ?_, ?_, ?_, fun B hB => ?_, ?_, ?_, ?_⟩, fun Q => ?_⟩
  · show MT_ w5 (sm_T S)
    unfold MT_ at h2 ⊢
    simp (disch := omega) only [g]
    exact h2
  · show MB_ w5 (tm_n (sm_T S)) (sm_B S)
    unfold MB_ MS_ PK_ at h3 ⊢
    simp (disch := omega) only [g]
    exact h3
  · show w_i w5 1440 50 = b_v true
    rw [l0]; exact b50
  · have hB : some (sm_B S) = some B := hB
    cases hB
    show MI_ w5 (tm_n (sm_T S)) (sm_B S)
    refine ⟨PK_tr (RR_PK p1 kS (by omega) hn10) (by omega) hn10 (fun i hi => l1 _), by rw [l0]; exact b51, fun k hk => ?_, by rw [l0]; exact b52, fun k hk => by rw [l3 k (by omega)]; exact k5 k hk, fun k hk => by rw [l4 k (by omega)]; exact k6 k hk, fun k hk => by rw [l5 k hk]; exact k7 k hk⟩
    exact PK_tr (k3 k hk) (Nat.le_trans (hV.2.2.2.1.2.2.2.1 k hk).1 hn10) hn10 (fun i hi => l2 _ (by omega))
  · show ∀ k, k < 600 → w_i w5 1452 k = Int32.ofNat (sm_tp S k)
    simp (disch := omega) only [g]
    exact h6
  · show w_i w5 1440 13 = Int32.ofNat (sm_n S)
    rw [g _ _ (by omega) (by omega)]; exact h7
  · show w_i w5 1440 22 = sm_f S
    rw [g _ _ (by omega) (by omega)]; exact h8
  · rw [hst Q]
    have e1 : w_t w1 = w_t w0 := f1.1
    have e2 : w_t w2 = w_t w0 := by rw [f2.1, f1.1]
    have e3 : w_t w3 = w_t w0 := by rw [f3.1, f2.1, f1.1]
    have e4 : w_t w4 = w_t w0 := by rw [f4.1, f3.1, f2.1, f1.1]
    have e5 : w_t w5 = w_t w0 := by rw [f5.1, f4.1, f3.1, f2.1, f1.1]
    have m1 : w_r w1 = w_r w0 := f1.2.2.1
    have m2 : w_r w2 = w_r w0 := by rw [f2.2.2.1, f1.2.2.1]
    have m3 : w_r w3 = w_r w0 := by rw [f3.2.2.1, f2.2.2.1, f1.2.2.1]
    have m4 : w_r w4 = w_r w0 := by rw [f4.2.2.1, f3.2.2.1, f2.2.2.1, f1.2.2.1]
    have a1 : w_t w1 1440 = 25 := by rw [e1]; exact t0
    have a2 : w_t w2 1440 = 25 := by rw [e2]; exact t0
    have a3 : w_t w3 1440 = 25 := by rw [e3]; exact t0
    have a4 : w_t w4 1440 = 25 := by rw [e4]; exact t0
    simp (disch := first | omega | decide | exact ko_b _ | assumption | (simp only [t_si, t_sl, t_sr, t_sI, t_sR, n_si, n_sl, n_sr, n_sI, n_sR, r_si, r_sl, r_sI]; first | done | omega)) only [x_261_e, x_261_b, x_261_26, x_261_27, x_261_28, x_261_31, x_261_32, x_261_35, x_261_36, x_261_39, x_261_40, x_261_43, x_261_46, x_261_47, x_261_50, x_261_51, x_261_54, x_261_57, x_261_58, x_261_61, x_261_62, x_261_65, x_261_68, x_261_69, x_261_72, x_261_73, x_261_76, x_261_79, bk_v, bk_n, nl_I, nl_R, nl_L, nl_0, oo_lt, oo_le, oo_eq, oo_add, oo_sub, oo_tn, oo_ir, nn_leT, nn_leF, nn_ltT, nn_ltF, nn_eqT, nn_eqF, bv_0, bv_1, ko_b, ko_1, ko_0, true_and, and_true, if_true, if_false, not_true_eq_false, not_false_eq_true, oo_02, decide_eq_true_eq, decide_eq_false_iff_not, ite_not, Nat.reduceAdd, Nat.reduceLT, Nat.reduceSub, Nat.reduceLeDiff, reduceIte, Bool.true_eq_false, Bool.false_eq_true, reduceCtorEq, eq_self, decide_true, decide_false, bv_t, bv_f, and_self, t_si, t_sl, t_sr, t_sI, t_sR, n_si, n_sl, n_sr, n_sI, n_sR, r_si, r_sl, r_sI, r53, q1, m1, r54, r27, q2, m2, r55, r43, q3, m3, r56, r44, q4, m4, r57, r11, q5]
end
