/-! GAMES: whether it stands if the lowest and the highest eat more -/
set_option maxRecDepth 100000
def f_gX (X : Xm) (lo hi : Int32) : Xm := x_mea (x_mea X (xm_t X 0) (xm_m X (xm_t X 0) + lo)) (xm_t X (xm_L X - 1)) (xm_m X (xm_t X (xm_L X - 1)) + hi)
section
variable {w : Wd} {S : Sm} {G : Gm} {σ : Nat → Nat}
theorem c_stby2 (h : RC_ w G σ S) (hV : WS_ S) (hS2 : CS_ w 1429 (tm_n (sm_T S)) (bm_X (sm_B S))) {d : Nat} {lo hi : Int32} {Q : Q_} (hL : 1 < xm_L (bm_X (sm_B S))) : wp (d + 12) 93 11 [some (v_R (some 1000)), some (v_I lo), some (v_I hi)] [] w Q = Q (Sum.inl (some (v_I (b_v (f_st (sm_T S) (f_gX (bm_X (sm_B S)) lo hi)))))) (s_i (s_i w 1431 (xm_t (bm_X (sm_B S)) 0) (xm_m (bm_X (sm_B S)) (xm_t (bm_X (sm_B S)) 0) + lo)) 1431 (xm_t (bm_X (sm_B S)) (xm_L (bm_X (sm_B S)) - 1)) (xm_m (bm_X (sm_B S)) (xm_t (bm_X (sm_B S)) (xm_L (bm_X (sm_B S)) - 1)) + hi)) := by
  have hX9 := hV.2.2.2.1.1
  have h0 := hX9.2.1 0 (by omega)
  have h1 := hX9.2.1 (xm_L (bm_X (sm_B S)) - 1) (by omega)
  have hne : xm_t (bm_X (sm_B S)) (xm_L (bm_X (sm_B S)) - 1) ≠ xm_t (bm_X (sm_B S)) 0 := fun z => by have := hX9.2.2 _ _ (by omega) (by omega) z; omega
  have f1 : Fr_ tz_ w (s_i (s_i w 1431 (xm_t (bm_X (sm_B S)) 0) (xm_m (bm_X (sm_B S)) (xm_t (bm_X (sm_B S)) 0) + lo)) 1431 (xm_t (bm_X (sm_B S)) (xm_L (bm_X (sm_B S)) - 1)) (xm_m (bm_X (sm_B S)) (xm_t (bm_X (sm_B S)) (xm_L (bm_X (sm_B S)) - 1)) + hi)) := fr_si (fr_si (fr_rf _ _) (by unfold tz_; omega)) (by unfold tz_; omega)
  have hq1 := tr_q (RC_tz h hV f1) hV (CS_mea (t := xm_t (bm_X (sm_B S)) (xm_L (bm_X (sm_B S)) - 1)) (v := xm_m (bm_X (sm_B S)) (xm_t (bm_X (sm_B S)) (xm_L (bm_X (sm_B S)) - 1)) + hi) (CS_mea (t := xm_t (bm_X (sm_B S)) 0) (v := xm_m (bm_X (sm_B S)) (xm_t (bm_X (sm_B S)) 0) + lo) hS2)) (WX_mea (WX_mea hX9))
  have e5 := hS2.2.2.2.2.1 _ h0
  have e6 := hS2.2.2.2.2.1 _ h1
  simp only [Nat.reduceAdd] at e5 e6
  unfold f_gX
  have hq := RC_CQ h hV
  have hC := h.1
  unfold sh_C at hC
  have hr0 : w_r w 1000 0 = some (gm_b G) := h.2.2.1
  have hT := h.2.2.2.1
  unfold CT_ at hT
  have hA : SO_ w 1008 := h.2.1.2.1.1
  unfold SO_ at hA
  have hA2 : SO_ w 1429 := h.2.1.2.2.2.2
  unfold SO_ at hA2
  have hS : CS_ w 1008 (tm_n (sm_T S)) (bm_X (sm_B S)) := h.2.2.2.2.2.2.2.1.1
  unfold CS_ at hS
  have hK : sh_B w 1007 := h.2.1.1
  unfold sh_B at hK
  have hB := h.2.2.2.2.2.2.2.1.2
  have hR := h.2.2.2.2.2.2.2.2.2
  simp only [Nat.reduceAdd] at hA hA2 hS hK hB
  obtain ⟨hn, hk4⟩ := hV.1
  obtain ⟨hW1, hW2, hW3⟩ := hV.2.2.2.1.1
  simp (disch := first | omega | decide | exact ko_b _ | assumption | (simp only [t_si, t_sl, t_sr, t_sI, t_sR, n_si, n_sl, n_sr, n_sI, n_sR, r_si, r_sl, r_sI]; first | done | omega)) only [x_93_e, x_93_b, x_93_11, x_93_12, x_93_15, x_93_18, x_93_19, x_93_22, x_93_25, x_93_26, x_93_27, x_93_28, x_93_29, x_93_30, x_93_31, x_93_32, x_93_33, x_93_36, x_93_39, x_93_40, x_93_43, x_93_46, x_93_47, x_93_50, x_93_53, x_93_54, x_93_55, x_93_56, x_93_57, x_93_58, x_93_59, x_93_60, x_93_61, x_93_62, x_93_65, x_93_66, x_93_69, x_93_72, bk_v, bk_n, nl_I, nl_R, nl_L, nl_0, oo_lt, oo_le, oo_eq, oo_add, oo_sub, oo_tn, oo_ir, nn_leT, nn_leF, nn_ltT, nn_ltF, nn_eqT, nn_eqF, bv_0, bv_1, ko_b, ko_1, ko_0, true_and, and_true, if_true, if_false, not_true_eq_false, not_false_eq_true, oo_02, decide_eq_true_eq, decide_eq_false_iff_not, ite_not, Nat.reduceAdd, Nat.reduceLT, Nat.reduceSub, Nat.reduceLeDiff, reduceIte, Bool.true_eq_false, Bool.false_eq_true, reduceCtorEq, eq_self, decide_true, decide_false, bv_t, bv_f, and_self, t_si, t_sl, t_sr, t_sI, t_sR, n_si, n_sl, n_sr, n_sI, n_sR, r_si, r_sl, r_sI, hC, hr0, hA, hA2, hS, e5, e6, i_si, hne, Nat.reduceEqDiff, false_and, and_false, c_st hq1]
theorem c_stby (h : RC_ w G σ S) (hV : WS_ S) {d : Nat} {lo hi : Int32} (hL : 1 < xm_L (bm_X (sm_B S))) : ∃ w1, Fr_ tz_ w w1 ∧ ∀ Q, cl (d + 12) 93 [v_R (some 1000), v_I lo, v_I hi] w Q = Q (Sum.inl (some (v_I (b_v (f_st (sm_T S) (f_gX (bm_X (sm_B S)) lo hi)))))) w1 := by
  obtain ⟨w1, f1, r1, s1, q1⟩ := c_tr h hV (d := d + 11)
  refine ⟨_, fr_si (fr_si f1 (by unfold tz_; omega)) (by unfold tz_; omega), fun Q => Eq.trans ?_ (c_stby2 (d := d) (lo := lo) (hi := hi) r1 hV s1 hL)⟩
  have hq := RC_CQ h hV
  have hC := h.1
  unfold sh_C at hC
  have hr0 : w_r w 1000 0 = some (gm_b G) := h.2.2.1
  have hT := h.2.2.2.1
  unfold CT_ at hT
  have hA : SO_ w 1008 := h.2.1.2.1.1
  unfold SO_ at hA
  have hA2 : SO_ w 1429 := h.2.1.2.2.2.2
  unfold SO_ at hA2
  have hS : CS_ w 1008 (tm_n (sm_T S)) (bm_X (sm_B S)) := h.2.2.2.2.2.2.2.1.1
  unfold CS_ at hS
  have hK : sh_B w 1007 := h.2.1.1
  unfold sh_B at hK
  have hB := h.2.2.2.2.2.2.2.1.2
  have hR := h.2.2.2.2.2.2.2.2.2
  simp only [Nat.reduceAdd] at hA hA2 hS hK hB
  obtain ⟨hn, hk4⟩ := hV.1
  obtain ⟨hW1, hW2, hW3⟩ := hV.2.2.2.1.1
  simp (disch := first | omega | decide | exact ko_b _ | assumption | (simp only [t_si, t_sl, t_sr, t_sI, t_sR, n_si, n_sl, n_sr, n_sI, n_sR, r_si, r_sl, r_sI]; first | done | omega)) only [x_93_e, x_93_b, x_93_0, x_93_1, x_93_4, x_93_5, x_93_8, bk_v, bk_n, nl_I, nl_R, nl_L, nl_0, oo_lt, oo_le, oo_eq, oo_add, oo_sub, oo_tn, oo_ir, nn_leT, nn_leF, nn_ltT, nn_ltF, nn_eqT, nn_eqF, bv_0, bv_1, ko_b, ko_1, ko_0, true_and, and_true, if_true, if_false, not_true_eq_false, not_false_eq_true, oo_02, decide_eq_true_eq, decide_eq_false_iff_not, ite_not, Nat.reduceAdd, Nat.reduceLT, Nat.reduceSub, Nat.reduceLeDiff, reduceIte, Bool.true_eq_false, Bool.false_eq_true, reduceCtorEq, eq_self, decide_true, decide_false, bv_t, bv_f, and_self, t_si, t_sl, t_sr, t_sI, t_sR, n_si, n_sl, n_sr, n_sI, n_sR, r_si, r_sl, r_sI, hC, hr0, hT, hA, hS, hK, hB, hR, q1]
end
