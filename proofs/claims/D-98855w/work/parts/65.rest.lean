/-! RESTORE: the model -/
set_option maxRecDepth 100000
section
variable {w : Wd} {S : Sm}
theorem m_rst_no (h9 : RM_ w S) (hV : WS_ S) {d : Nat} (hI : sm_I S = none) : MR_ (d + 6) 263 [v_R (some 1440)] w (v_I (b_v false)) 0 := by
  refine mr_go (ls := [some (v_R (some 1440))]) (fun Q => ?_) (fun w0 hf hc => mr_0 hc (fun Q => ?_))
  · have h := h9
    have hq := RM_MQ h hV
    have hMM := hq
    obtain ⟨hM, hT, hS, ⟨hn, hk4⟩, hW1, hW2, hW3⟩ := hMM
    unfold sh_M at hM
    unfold MT_ at hT
    unfold MS_ at hS
    have hB := h.2.2.1.2
    unfold PK_ at hB
    have hR := h.2.2.2
    simp (disch := first | omega | decide | exact ko_b _ | assumption | (simp only [t_si, t_sl, t_sr, t_sI, t_sR, n_si, n_sl, n_sr, n_sI, n_sR, r_si, r_sl, r_sI]; first | done | omega)) only [x_263_e, x_263_b, x_263_0, x_263_1, x_263_2, x_263_6, x_263_9, x_263_12, x_263_13, x_263_14, x_263_15, x_263_16, x_263_19, x_263_22, x_263_23, x_263_24, x_263_27, x_263_30, x_263_31, x_263_32, x_263_35, x_263_36, x_263_39, x_263_40, x_263_43, x_263_44, x_263_47, x_263_50, x_263_51, x_263_54, x_263_55, x_263_58, x_263_61, x_263_62, x_263_65, x_263_66, x_263_69, x_263_72, x_263_73, x_263_76, x_263_77, x_263_80, x_263_83, x_263_84, bk_v, bk_n, nl_I, nl_R, nl_L, nl_0, oo_lt, oo_le, oo_eq, oo_add, oo_sub, oo_tn, oo_ir, nn_leT, nn_leF, nn_ltT, nn_ltF, nn_eqT, nn_eqF, bv_0, bv_1, ko_b, ko_1, ko_0, true_and, and_true, if_true, if_false, not_true_eq_false, not_false_eq_true, oo_02, decide_eq_true_eq, decide_eq_false_iff_not, ite_not, Nat.reduceAdd, Nat.reduceLT, Nat.reduceSub, Nat.reduceLeDiff, reduceIte, Bool.true_eq_false, Bool.false_eq_true, reduceCtorEq, eq_self, decide_true, decide_false, bv_t, bv_f, and_self, t_si, t_sl, t_sr, t_sI, t_sR, n_si, n_sl, n_sr, n_sI, n_sR, r_si, r_sl, r_sI, hM, hT, hS, hB, hR]
  · have h := RM_fr h9 hV hf
    have e50 : w_i w0 1440 50 = Int32.ofNat 0 := by rw [h.2.2.2.1, hI]; rfl
    have t0 := h.1.1
    simp (disch := first | omega | decide | exact ko_b _ | assumption | (simp only [t_si, t_sl, t_sr, t_sI, t_sR, n_si, n_sl, n_sr, n_sI, n_sR, r_si, r_sl, r_sI]; first | done | omega)) only [x_263_e, x_263_b, x_263_0, x_263_1, x_263_2, x_263_5, x_263_6, x_263_9, x_263_12, x_263_13, x_263_14, x_263_15, x_263_16, x_263_19, x_263_22, x_263_23, x_263_24, x_263_27, x_263_30, x_263_31, x_263_32, x_263_35, x_263_36, x_263_39, x_263_40, x_263_43, x_263_44, x_263_47, x_263_50, x_263_51, x_263_54, x_263_55, x_263_58, x_263_61, x_263_62, x_263_65, x_263_66, x_263_69, x_263_72, x_263_73, x_263_76, x_263_77, x_263_80, x_263_83, x_263_84, bk_v, bk_n, nl_I, nl_R, nl_L, nl_0, oo_lt, oo_le, oo_eq, oo_add, oo_sub, oo_tn, oo_ir, nn_leT, nn_leF, nn_ltT, nn_ltF, nn_eqT, nn_eqF, bv_0, bv_1, ko_b, ko_1, ko_0, true_and, and_true, if_true, if_false, not_true_eq_false, not_false_eq_true, oo_02, decide_eq_true_eq, decide_eq_false_iff_not, ite_not, Nat.reduceAdd, Nat.reduceLT, Nat.reduceSub, Nat.reduceLeDiff, reduceIte, Bool.true_eq_false, Bool.false_eq_true, reduceCtorEq, eq_self, decide_true, decide_false, bv_t, bv_f, and_self, t_si, t_sl, t_sr, t_sI, t_sR, n_si, n_sl, n_sr, n_sI, n_sR, r_si, r_sl, r_sI, e50]
theorem m_rst (h9 : RM_ w S) (hV : WS_ S) {d : Nat} {B : Bm} (hI : sm_I S = some B) : MA_ (d + 6) 263 [v_R (some 1440)] w (v_I (b_v true)) 0 (s_set S B) := by
  refine ma_go (ls := [some (v_R (some 1440))]) h9 (fun Q => ?_) (fun w' h hc => ?_)
  · have h := h9
    have hq := RM_MQ h hV
    have hMM := hq
    obtain ⟨hM, hT, hS, ⟨hn, hk4⟩, hW1, hW2, hW3⟩ := hMM
    unfold sh_M at hM
    unfold MT_ at hT
    unfold MS_ at hS
    have hB := h.2.2.1.2
    unfold PK_ at hB
    have hR := h.2.2.2
    simp (disch := first | omega | decide | exact ko_b _ | assumption | (simp only [t_si, t_sl, t_sr, t_sI, t_sR, n_si, n_sl, n_sr, n_sI, n_sR, r_si, r_sl, r_sI]; first | done | omega)) only [x_263_e, x_263_b, x_263_0, x_263_1, x_263_2, x_263_6, x_263_9, x_263_12, x_263_13, x_263_14, x_263_15, x_263_16, x_263_19, x_263_22, x_263_23, x_263_24, x_263_27, x_263_30, x_263_31, x_263_32, x_263_35, x_263_36, x_263_39, x_263_40, x_263_43, x_263_44, x_263_47, x_263_50, x_263_51, x_263_54, x_263_55, x_263_58, x_263_61, x_263_62, x_263_65, x_263_66, x_263_69, x_263_72, x_263_73, x_263_76, x_263_77, x_263_80, x_263_83, x_263_84, bk_v, bk_n, nl_I, nl_R, nl_L, nl_0, oo_lt, oo_le, oo_eq, oo_add, oo_sub, oo_tn, oo_ir, nn_leT, nn_leF, nn_ltT, nn_ltF, nn_eqT, nn_eqF, bv_0, bv_1, ko_b, ko_1, ko_0, true_and, and_true, if_true, if_false, not_true_eq_false, not_false_eq_true, oo_02, decide_eq_true_eq, decide_eq_false_iff_not, ite_not, Nat.reduceAdd, Nat.reduceLT, Nat.reduceSub, Nat.reduceLeDiff, reduceIte, Bool.true_eq_false, Bool.false_eq_true, reduceCtorEq, eq_self, decide_true, decide_false, bv_t, bv_f, and_self, t_si, t_sl, t_sr, t_sI, t_sR, n_si, n_sl, n_sr, n_sI, n_sR, r_si, r_sl, r_sI, hM, hT, hS, hB, hR]
  · have hn10 := hV.1.1
    have hVB := hV.2.2.2.2.1 B hI
    have hL10 := hVB.1.1
    have ha40 := hVB.2.2.1
    have hm8 := hVB.2.2.2.2.2.1
    have hM := h.1
    have e50 : w_i w' 1440 50 = Int32.ofNat 1 := by rw [h.2.2.2.1, hI]; rfl
    obtain ⟨k1, k2, k3, k4, k5, k6, k7⟩ := h.2.2.2.2.1 B hI
    have hf0 : Fr_ pb_ w' (s_i (s_i w' 1440 31 (Int32.ofNat (bm_a B))) 1440 32 (Int32.ofNat (bm_m B))) := fr_si (fr_si (fr_rf _ _) (by unfold pb_; omega)) (by unfold pb_; omega)
    have b31 : w_i (s_i (s_i w' 1440 31 (Int32.ofNat (bm_a B))) 1440 32 (Int32.ofNat (bm_m B))) 1440 31 = Int32.ofNat (bm_a B) := by simp only [i_si, Nat.reduceEqDiff, and_false, if_false, and_self, if_true]
    have b32 : w_i (s_i (s_i w' 1440 31 (Int32.ofNat (bm_a B))) 1440 32 (Int32.ofNat (bm_m B))) 1440 32 = Int32.ofNat (bm_m B) := by simp only [i_si, and_self, if_true]
    have t9 : w_t w' 1440 = 25 := hM.1
    have hst : ∀ Q, wp (d + 6) 263 5 [some (v_R (some 1440))] [] w' Q = wp (d + 6) 263 30 [some (v_R (some 1440))] [] (s_i (s_i w' 1440 31 (Int32.ofNat (bm_a B))) 1440 32 (Int32.ofNat (bm_m B))) Q := fun Q => by
      simp (disch := first | omega | decide | exact ko_b _ | assumption | (simp only [t_si, t_sl, t_sr, t_sI, t_sR, n_si, n_sl, n_sr, n_sI, n_sR, r_si, r_sl, r_sI]; first | done | omega)) only [x_263_e, x_263_b, x_263_5, x_263_6, x_263_9, x_263_12, x_263_13, x_263_14, x_263_15, x_263_16, x_263_19, x_263_22, x_263_23, x_263_24, x_263_27, bk_v, bk_n, nl_I, nl_R, nl_L, nl_0, oo_lt, oo_le, oo_eq, oo_add, oo_sub, oo_tn, oo_ir, nn_leT, nn_leF, nn_ltT, nn_ltF, nn_eqT, nn_eqF, bv_0, bv_1, ko_b, ko_1, ko_0, true_and, and_true, if_true, if_false, not_true_eq_false, not_false_eq_true, oo_02, decide_eq_true_eq, decide_eq_false_iff_not, ite_not, Nat.reduceAdd, Nat.reduceLT, Nat.reduceSub, Nat.reduceLeDiff, reduceIte, Bool.true_eq_false, Bool.false_eq_true, reduceCtorEq, eq_self, decide_true, decide_false, bv_t, bv_f, and_self, t_si, t_sl, t_sr, t_sI, t_sR, n_si, n_sl, n_sr, n_sI, n_sR, r_si, r_sl, r_sI, e50, i_si, k2, k4, Nat.reduceEqDiff, and_false, false_and]
    have g0 : ∀ a k, (a ≠ 1440 ∨ (k ≠ 31 ∧ k ≠ 32)) → w_i (s_i (s_i w' 1440 31 (Int32.ofNat (bm_a B))) 1440 32 (Int32.ofNat (bm_m B))) a k = w_i w' a k := fun a k z => by rw [i_si, if_neg (by omega), i_si, if_neg (by omega)]
    generalize hw0 : s_i (s_i w' 1440 31 (Int32.ofNat (bm_a B))) 1440 32 (Int32.ofNat (bm_m B)) = w0 at *
    have hM0 := sh_fr hM hf0
    have tt : w_t w0 1440 = 25 ∧ w_r w0 1440 53 = some 1471 ∧ w_r w0 1440 54 = some 1472 ∧ w_r w0 1440 27 = some 1457 ∧ w_r w0 1440 55 = some 1473 ∧ w_r w0 1440 43 = some 1466 ∧ w_r w0 1440 56 = some 1474 ∧ w_r w0 1440 44 = some 1467 ∧ w_r w0 1440 57 = some 1475 ∧ w_r w0 1440 11 = some 1451 ∧ (w_t w0 1471 = 1 ∧ w_n w0 1471 = 43) ∧ (w_t w0 1472 = 1 ∧ w_n w0 1472 = 1720) ∧ (w_t w0 1457 = 1 ∧ w_n w0 1457 = 1720) ∧ (w_t w0 1473 = 1 ∧ w_n w0 1473 = 8) ∧ (w_t w0 1466 = 1 ∧ w_n w0 1466 = 8) ∧ (w_t w0 1474 = 1 ∧ w_n w0 1474 = 8) ∧ (w_t w0 1467 = 1 ∧ w_n w0 1467 = 8) ∧ (w_t w0 1475 = 1 ∧ w_n w0 1475 = 3) ∧ (w_t w0 1451 = 1 ∧ w_n w0 1451 = 3) := by
      unfold sh_M at hM0
      simp only [hM0, and_self]
    obtain ⟨t0, r53, r54, r27, r55, r43, r56, r44, r57, r11, ⟨x1, y1⟩, ⟨x2, y2⟩, ⟨x3, y3⟩, ⟨x4, y4⟩, ⟨x5, y5⟩, ⟨x6, y6⟩, ⟨x7, y7⟩, ⟨x8, y8⟩, ⟨x9, y9⟩⟩ := tt
    obtain ⟨w1, f1, p1, q1⟩ := m_unpack (d := d + 5) hM0 (A := 1471) (f := 0) x1 (by omega) (by omega) (by omega)
    obtain ⟨w2, f2, p2, q2⟩ := m_be (w := w1) (d := d + 5) (A := 1457) (B := 1472) (N := 1720) (by rw [f1.1]; exact x3) (by rw [f1.1]; exact x2) (by rw [f1.2.1]; exact y3) (by rw [f1.2.1]; exact y2) (by omega) (by omega)
    obtain ⟨w3, f3, p3, q3⟩ := m_be (w := w2) (d := d + 5) (A := 1466) (B := 1473) (N := 8) (by rw [f2.1, f1.1]; exact x5) (by rw [f2.1, f1.1]; exact x4) (by rw [f2.2.1, f1.2.1]; exact y5) (by rw [f2.2.1, f1.2.1]; exact y4) (by omega) (by omega)
    obtain ⟨w4, f4, p4, q4⟩ := m_be (w := w3) (d := d + 5) (A := 1467) (B := 1474) (N := 8) (by rw [f3.1, f2.1, f1.1]; exact x7) (by rw [f3.1, f2.1, f1.1]; exact x6) (by rw [f3.2.1, f2.2.1, f1.2.1]; exact y7) (by rw [f3.2.1, f2.2.1, f1.2.1]; exact y6) (by omega) (by omega)
    obtain ⟨w5, f5, p5, q5⟩ := m_be (w := w4) (d := d + 5) (A := 1451) (B := 1475) (N := 3) (by rw [f4.1, f3.1, f2.1, f1.1]; exact x9) (by rw [f4.1, f3.1, f2.1, f1.1]; exact x8) (by rw [f4.2.1, f3.2.1, f2.2.1, f1.2.1]; exact y9) (by rw [f4.2.1, f3.2.1, f2.2.1, f1.2.1]; exact y8) (by omega) (by omega)
    have F1 : Fr_ pb_ w0 w1 := fr_mo f1 (fun a k => p_st_pb)
    have F2 : Fr_ pb_ w1 w2 := fr_mo f2 (fun a k z => by unfold pb_; omega)
    have F3 : Fr_ pb_ w2 w3 := fr_mo f3 (fun a k z => by unfold pb_; omega)
    have F4 : Fr_ pb_ w3 w4 := fr_mo f4 (fun a k z => by unfold pb_; omega)
    have F5 : Fr_ pb_ w4 w5 := fr_mo f5 (fun a k z => by unfold pb_; omega)
    have FF := fr_tr hf0 (fr_tr F1 (fr_tr F2 (fr_tr F3 (fr_tr F4 F5))))
    have n1 : ∀ a k, (a ≠ 1440 ∨ k < 28 ∨ 30 < k) → (a < 1453 ∨ 1456 < a) → w_i w1 a k = w_i w0 a k := fun a k z y => f1.2.2.2.2.2 a k (by unfold p_st; omega)
    have ls : ∀ a k, a ≠ 1457 → a ≠ 1466 → a ≠ 1467 → a ≠ 1451 → w_i w5 a k = w_i w1 a k := fun a k z1 z2 z3 z4 => by rw [f5.2.2.2.2.2 _ _ (by omega), f4.2.2.2.2.2 _ _ (by omega), f3.2.2.2.2.2 _ _ (by omega), f2.2.2.2.2.2 _ _ (by omega)]
    have l2 : ∀ k, k < 1720 → w_i w5 1457 k = w_i w' 1472 k := fun k hk => by rw [f5.2.2.2.2.2 _ _ (by omega), f4.2.2.2.2.2 _ _ (by omega), f3.2.2.2.2.2 _ _ (by omega), p2 k hk, n1 _ _ (by omega) (by omega), g0 _ _ (by omega)]
    have l3 : ∀ k, k < 8 → w_i w5 1466 k = w_i w' 1473 k := fun k hk => by rw [f5.2.2.2.2.2 _ _ (by omega), f4.2.2.2.2.2 _ _ (by omega), p3 k hk, f2.2.2.2.2.2 _ _ (by omega), n1 _ _ (by omega) (by omega), g0 _ _ (by omega)]
    have l4 : ∀ k, k < 8 → w_i w5 1467 k = w_i w' 1474 k := fun k hk => by rw [f5.2.2.2.2.2 _ _ (by omega), p4 k hk, f3.2.2.2.2.2 _ _ (by omega), f2.2.2.2.2.2 _ _ (by omega), n1 _ _ (by omega) (by omega), g0 _ _ (by omega)]
    have l5 : ∀ k, k < 3 → w_i w5 1451 k = w_i w' 1475 k := fun k hk => by rw [p5 k hk, f4.2.2.2.2.2 _ _ (by omega), f3.2.2.2.2.2 _ _ (by omega), f2.2.2.2.2.2 _ _ (by omega), n1 _ _ (by omega) (by omega), g0 _ _ (by omega)]
    have kS : MS_ w1 (tm_n (sm_T S)) (bm_X B) := RR_MS p1 (PK_tr k1 (by omega) hn10 (fun i hi => g0 _ _ (by omega))) (by omega) hn10
    refine ⟨w5, FF, RM_B h FF ⟨?_, ?_, fun k hk => ?_, ?_, fun k hk => ?_, fun k hk => ?_, fun k hk => ?_⟩, ?_, fun Q => ?_⟩
    · unfold MS_ at kS ⊢
      simp (disch := omega) only [ls]
      exact kS
    · rw [ls _ _ (by omega) (by omega) (by omega) (by omega), n1 _ _ (by omega) (by omega)]; exact b31
    · exact PK_tr (k3 k hk) (Nat.le_trans (hVB.2.2.2.1 k hk).1 hn10) hn10 (fun i hi => l2 _ (by omega))
    · rw [ls _ _ (by omega) (by omega) (by omega) (by omega), n1 _ _ (by omega) (by omega)]; exact b32
    · rw [l3 k (by omega)]; exact k5 k hk
    · rw [l4 k (by omega)]; exact k6 k hk
    · rw [l5 k hk]; exact k7 k hk
    · rw [ls _ _ (by omega) (by omega) (by omega) (by omega), n1 _ _ (by omega) (by omega), g0 _ _ (by omega)]; exact hc
    · rw [hst Q]
      have e2 : w_t w2 = w_t w0 := by rw [f2.1, f1.1]
      have e3 : w_t w3 = w_t w0 := by rw [f3.1, f2.1, f1.1]
      have e4 : w_t w4 = w_t w0 := by rw [f4.1, f3.1, f2.1, f1.1]
      have m1 : w_r w1 = w_r w0 := f1.2.2.1
      have m2 : w_r w2 = w_r w0 := by rw [f2.2.2.1, f1.2.2.1]
      have m3 : w_r w3 = w_r w0 := by rw [f3.2.2.1, f2.2.2.1, f1.2.2.1]
      have m4 : w_r w4 = w_r w0 := by rw [f4.2.2.1, f3.2.2.1, f2.2.2.1, f1.2.2.1]
      have a1 : w_t w1 1440 = 25 := by rw [f1.1]; exact t0
      have a2 : w_t w2 1440 = 25 := by rw [e2]; exact t0
      have a3 : w_t w3 1440 = 25 := by rw [e3]; exact t0
      have a4 : w_t w4 1440 = 25 := by rw [e4]; exact t0
      simp (disch := first | omega | decide | exact ko_b _ | assumption | (simp only [t_si, t_sl, t_sr, t_sI, t_sR, n_si, n_sl, n_sr, n_sI, n_sR, r_si, r_sl, r_sI]; first | done | omega)) only [x_263_e, x_263_b, x_263_30, x_263_31, x_263_32, x_263_35, x_263_36, x_263_39, x_263_40, x_263_43, x_263_44, x_263_47, x_263_50, x_263_51, x_263_54, x_263_55, x_263_58, x_263_61, x_263_62, x_263_65, x_263_66, x_263_69, x_263_72, x_263_73, x_263_76, x_263_77, x_263_80, x_263_83, x_263_84, bk_v, bk_n, nl_I, nl_R, nl_L, nl_0, oo_lt, oo_le, oo_eq, oo_add, oo_sub, oo_tn, oo_ir, nn_leT, nn_leF, nn_ltT, nn_ltF, nn_eqT, nn_eqF, bv_0, bv_1, ko_b, ko_1, ko_0, true_and, and_true, if_true, if_false, not_true_eq_false, not_false_eq_true, oo_02, decide_eq_true_eq, decide_eq_false_iff_not, ite_not, Nat.reduceAdd, Nat.reduceLT, Nat.reduceSub, Nat.reduceLeDiff, reduceIte, Bool.true_eq_false, Bool.false_eq_true, reduceCtorEq, eq_self, decide_true, decide_false, bv_t, bv_f, and_self, t_si, t_sl, t_sr, t_sI, t_sR, n_si, n_sl, n_sr, n_sI, n_sR, r_si, r_sl, r_sI, r53, q1, m1, r54, r27, q2, m2, r55, r43, q3, m3, r56, r44, q4, m4, r57, r11, q5]
end
