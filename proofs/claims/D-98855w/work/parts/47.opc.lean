/-! FIRST OPERATIONS: the component's half -/
set_option maxRecDepth 100000
abbrev no_in (x : Int32) (n : Nat) : Prop := x < Int32.ofNat 0 ∨ ∃ k, n ≤ k ∧ k < 2147483648 ∧ x = Int32.ofNat k
section
variable {w : Wd} {S : Sm} {G : Gm} {σ : Nat → Nat}
theorem c_in {d : Nat} {x y z : Int32} {Q : Q_} : cl d 31 [v_I x, v_I y, v_I z] w Q = Q (Sum.inl (some (v_I (b_v (decide (y ≤ x ∧ x ≤ z)))))) w := by
  simp (disch := first | omega | decide | exact ko_b _ | assumption | (simp only [t_si, t_sl, t_sr, t_sI, t_sR, n_si, n_sl, n_sr, n_sI, n_sR, r_si, r_sl, r_sI]; first | done | omega)) only [x_31_e, x_31_b, x_31_0, x_31_1, x_31_2, x_31_5, x_31_6, x_31_7, x_31_10, x_31_11, x_31_14, x_31_15, bk_v, bk_n, nl_I, nl_R, nl_L, nl_0, oo_lt, oo_le, oo_eq, oo_add, oo_sub, oo_tn, oo_ir, nn_leT, nn_leF, nn_ltT, nn_ltF, nn_eqT, nn_eqF, bv_0, bv_1, ko_b, ko_1, ko_0, true_and, and_true, if_true, if_false, not_true_eq_false, not_false_eq_true, oo_02, decide_eq_true_eq, decide_eq_false_iff_not, ite_not, Nat.reduceAdd, Nat.reduceLT, Nat.reduceSub, Nat.reduceLeDiff, reduceIte, Bool.true_eq_false, Bool.false_eq_true, reduceCtorEq, eq_self, decide_true, decide_false, bv_t, bv_f, and_self, t_si, t_sl, t_sr, t_sI, t_sR, n_si, n_sl, n_sr, n_sI, n_sR, r_si, r_sl, r_sI]
  by_cases h1 : x < y
  · rw [if_pos h1, decide_eq_false (fun h => absurd h1 (Int32.not_lt.mpr h.1))]; rfl
  · rw [if_neg h1]
    by_cases h2 : z < x
    · rw [if_pos h2, decide_eq_false (fun h => absurd h2 (Int32.not_lt.mpr h.2))]; rfl
    · rw [if_neg h2, decide_eq_true ⟨Int32.not_lt.mp h1, Int32.not_lt.mp h2⟩]; rfl
theorem c_th1 {d : Nat} {Q : Q_} : cl d 68 [v_I (Int32.ofNat 1)] w Q = Q (Sum.inl none) w := by
  simp (disch := first | omega | decide | exact ko_b _ | assumption | (simp only [t_si, t_sl, t_sr, t_sI, t_sR, n_si, n_sl, n_sr, n_sI, n_sR, r_si, r_sl, r_sI]; first | done | omega)) only [x_68_e, x_68_b, x_68_0, x_68_1, x_68_4, x_68_7, x_68_11, x_68_12, bk_v, bk_n, nl_I, nl_R, nl_L, nl_0, oo_lt, oo_le, oo_eq, oo_add, oo_sub, oo_tn, oo_ir, nn_leT, nn_leF, nn_ltT, nn_ltF, nn_eqT, nn_eqF, bv_0, bv_1, ko_b, ko_1, ko_0, true_and, and_true, if_true, if_false, not_true_eq_false, not_false_eq_true, oo_02, decide_eq_true_eq, decide_eq_false_iff_not, ite_not, Nat.reduceAdd, Nat.reduceLT, Nat.reduceSub, Nat.reduceLeDiff, reduceIte, Bool.true_eq_false, Bool.false_eq_true, reduceCtorEq, eq_self, decide_true, decide_false, bv_t, bv_f, and_self, t_si, t_sl, t_sr, t_sI, t_sR, n_si, n_sl, n_sr, n_sI, n_sR, r_si, r_sl, r_sI]
theorem c_th0 {d : Nat} {Q : Q_} : cl d 68 [v_I (Int32.ofNat 0)] w Q = Q (Sum.inr (w_z w)) (s_n w 40 6) := by
  have : w_t (s_n w 40 6) (w_z w) = 40 := by rw [t_sn, if_pos rfl]
  simp (disch := first | omega | decide | exact ko_b _ | assumption | (simp only [t_si, t_sl, t_sr, t_sI, t_sR, n_si, n_sl, n_sr, n_sI, n_sR, r_si, r_sl, r_sI]; first | done | omega)) only [x_68_e, x_68_b, x_68_0, x_68_1, x_68_4, x_68_7, x_68_11, x_68_12, bk_v, bk_n, nl_I, nl_R, nl_L, nl_0, oo_lt, oo_le, oo_eq, oo_add, oo_sub, oo_tn, oo_ir, nn_leT, nn_leF, nn_ltT, nn_ltF, nn_eqT, nn_eqF, bv_0, bv_1, ko_b, ko_1, ko_0, true_and, and_true, if_true, if_false, not_true_eq_false, not_false_eq_true, oo_02, decide_eq_true_eq, decide_eq_false_iff_not, ite_not, Nat.reduceAdd, Nat.reduceLT, Nat.reduceSub, Nat.reduceLeDiff, reduceIte, Bool.true_eq_false, Bool.false_eq_true, reduceCtorEq, eq_self, decide_true, decide_false, bv_t, bv_f, and_self, t_si, t_sl, t_sr, t_sI, t_sR, n_si, n_sl, n_sr, n_sI, n_sR, r_si, r_sl, r_sI]
theorem c_ri1 {d : Nat} {Q : Q_} : cl d 66 [v_I (Int32.ofNat 1)] w Q = Q (Sum.inl none) w := by
  simp (disch := first | omega | decide | exact ko_b _ | assumption | (simp only [t_si, t_sl, t_sr, t_sI, t_sR, n_si, n_sl, n_sr, n_sI, n_sR, r_si, r_sl, r_sI]; first | done | omega)) only [x_66_e, x_66_b, x_66_0, x_66_1, x_66_4, x_66_7, x_66_11, x_66_12, bk_v, bk_n, nl_I, nl_R, nl_L, nl_0, oo_lt, oo_le, oo_eq, oo_add, oo_sub, oo_tn, oo_ir, nn_leT, nn_leF, nn_ltT, nn_ltF, nn_eqT, nn_eqF, bv_0, bv_1, ko_b, ko_1, ko_0, true_and, and_true, if_true, if_false, not_true_eq_false, not_false_eq_true, oo_02, decide_eq_true_eq, decide_eq_false_iff_not, ite_not, Nat.reduceAdd, Nat.reduceLT, Nat.reduceSub, Nat.reduceLeDiff, reduceIte, Bool.true_eq_false, Bool.false_eq_true, reduceCtorEq, eq_self, decide_true, decide_false, bv_t, bv_f, and_self, t_si, t_sl, t_sr, t_sI, t_sR, n_si, n_sl, n_sr, n_sI, n_sR, r_si, r_sl, r_sI]
theorem c_ri0 {d : Nat} {Q : Q_} : cl d 66 [v_I (Int32.ofNat 0)] w Q = Q (Sum.inr (w_z w)) (s_n w 39 6) := by
  have : w_t (s_n w 39 6) (w_z w) = 39 := by rw [t_sn, if_pos rfl]
  simp (disch := first | omega | decide | exact ko_b _ | assumption | (simp only [t_si, t_sl, t_sr, t_sI, t_sR, n_si, n_sl, n_sr, n_sI, n_sR, r_si, r_sl, r_sI]; first | done | omega)) only [x_66_e, x_66_b, x_66_0, x_66_1, x_66_4, x_66_7, x_66_11, x_66_12, bk_v, bk_n, nl_I, nl_R, nl_L, nl_0, oo_lt, oo_le, oo_eq, oo_add, oo_sub, oo_tn, oo_ir, nn_leT, nn_leF, nn_ltT, nn_ltF, nn_eqT, nn_eqF, bv_0, bv_1, ko_b, ko_1, ko_0, true_and, and_true, if_true, if_false, not_true_eq_false, not_false_eq_true, oo_02, decide_eq_true_eq, decide_eq_false_iff_not, ite_not, Nat.reduceAdd, Nat.reduceLT, Nat.reduceSub, Nat.reduceLeDiff, reduceIte, Bool.true_eq_false, Bool.false_eq_true, reduceCtorEq, eq_self, decide_true, decide_false, bv_t, bv_f, and_self, t_si, t_sl, t_sr, t_sI, t_sR, n_si, n_sl, n_sr, n_sI, n_sR, r_si, r_sl, r_sI]
theorem c_tables (h : RC_ w G σ S) (hV : WS_ S) {d : Nat} {Q : Q_} : cl (d + 1) 28 [v_R (some 1000)] w Q = Q (Sum.inl (some (v_I (Int32.ofNat (tm_n (sm_T S)))))) w := by
  have hq := RC_CQ h hV
  have hC := h.1
  unfold sh_C at hC
  have hr0 : w_r w 1000 0 = some (gm_b G) := h.2.2.1
  have hT := h.2.2.2.1
  unfold CT_ at hT
  have hA : SO_ w 1008 := h.2.1.2.1.1
  unfold SO_ at hA
  have hA2 : SO_ w 1429 := h.2.1.2.2.2.2
  unfold SO_ at hA2
  have hS : CS_ w 1008 (tm_n (sm_T S)) (bm_X (sm_B S)) := h.2.2.2.2.2.2.2.1.1
  unfold CS_ at hS
  have hK : sh_B w 1007 := h.2.1.1
  unfold sh_B at hK
  have hB := h.2.2.2.2.2.2.2.1.2
  have hR := h.2.2.2.2.2.2.2.2.2
  simp only [Nat.reduceAdd] at hA hA2 hS hK hB
  obtain ⟨hn, hk4⟩ := hV.1
  obtain ⟨hW1, hW2, hW3⟩ := hV.2.2.2.1.1
  simp (disch := first | omega | decide | exact ko_b _ | assumption | (simp only [t_si, t_sl, t_sr, t_sI, t_sR, n_si, n_sl, n_sr, n_sI, n_sR, r_si, r_sl, r_sI]; first | done | omega)) only [x_28_e, x_28_b, x_28_0, x_28_1, x_28_4, x_28_7, x_28_10, bk_v, bk_n, nl_I, nl_R, nl_L, nl_0, oo_lt, oo_le, oo_eq, oo_add, oo_sub, oo_tn, oo_ir, nn_leT, nn_leF, nn_ltT, nn_ltF, nn_eqT, nn_eqF, bv_0, bv_1, ko_b, ko_1, ko_0, true_and, and_true, if_true, if_false, not_true_eq_false, not_false_eq_true, oo_02, decide_eq_true_eq, decide_eq_false_iff_not, ite_not, Nat.reduceAdd, Nat.reduceLT, Nat.reduceSub, Nat.reduceLeDiff, reduceIte, Bool.true_eq_false, Bool.false_eq_true, reduceCtorEq, eq_self, decide_true, decide_false, bv_t, bv_f, and_self, t_si, t_sl, t_sr, t_sI, t_sR, n_si, n_sl, n_sr, n_sI, n_sR, r_si, r_sl, r_sI, hC, hr0, hT, hA, hS, hK, hB, hR, c_sz hq.1]
theorem c_tabAt (h : RC_ w G σ S) (hV : WS_ S) {d t : Nat} {Q : Q_} (ht : t < tm_n (sm_T S)) : cl (d + 3) 70 [v_R (some 1000), v_I (Int32.ofNat t)] w Q = Q (Sum.inl (some (v_R (some (gm_pn G t))))) w := by
  have hq := RC_CQ h hV
  have hC := h.1
  unfold sh_C at hC
  have hr0 : w_r w 1000 0 = some (gm_b G) := h.2.2.1
  have hT := h.2.2.2.1
  unfold CT_ at hT
  have hA : SO_ w 1008 := h.2.1.2.1.1
  unfold SO_ at hA
  have hA2 : SO_ w 1429 := h.2.1.2.2.2.2
  unfold SO_ at hA2
  have hS : CS_ w 1008 (tm_n (sm_T S)) (bm_X (sm_B S)) := h.2.2.2.2.2.2.2.1.1
  unfold CS_ at hS
  have hK : sh_B w 1007 := h.2.1.1
  unfold sh_B at hK
  have hB := h.2.2.2.2.2.2.2.1.2
  have hR := h.2.2.2.2.2.2.2.2.2
  simp only [Nat.reduceAdd] at hA hA2 hS hK hB
  obtain ⟨hn, hk4⟩ := hV.1
  obtain ⟨hW1, hW2, hW3⟩ := hV.2.2.2.1.1
  have h3 := hk4 _ ht
  have h4 : w_t w (gm_pn G t) = 32 + tm_kd (sm_T S) t := by simp (disch := omega) only [hT]
  simp (disch := first | omega | decide | exact ko_b _ | assumption | (simp only [t_si, t_sl, t_sr, t_sI, t_sR, n_si, n_sl, n_sr, n_sI, n_sR, r_si, r_sl, r_sI]; first | done | omega)) only [x_70_e, x_70_b, x_70_0, x_70_1, x_70_4, x_70_5, x_70_6, x_70_9, x_70_12, x_70_13, x_70_16, x_70_17, x_70_20, x_70_21, x_70_24, x_70_27, x_70_28, x_70_31, x_70_34, bk_v, bk_n, nl_I, nl_R, nl_L, nl_0, oo_lt, oo_le, oo_eq, oo_add, oo_sub, oo_tn, oo_ir, nn_leT, nn_leF, nn_ltT, nn_ltF, nn_eqT, nn_eqF, bv_0, bv_1, ko_b, ko_1, ko_0, true_and, and_true, if_true, if_false, not_true_eq_false, not_false_eq_true, oo_02, decide_eq_true_eq, decide_eq_false_iff_not, ite_not, Nat.reduceAdd, Nat.reduceLT, Nat.reduceSub, Nat.reduceLeDiff, reduceIte, Bool.true_eq_false, Bool.false_eq_true, reduceCtorEq, eq_self, decide_true, decide_false, bv_t, bv_f, and_self, t_si, t_sl, t_sr, t_sI, t_sR, n_si, n_sl, n_sr, n_sI, n_sR, r_si, r_sl, r_sI, hC, hr0, hT, hA, hS, hK, hB, hR, c_tables h hV, c_th1, c_tab hq.1 hV.1]
theorem c_tabAt_x (h : RC_ w G σ S) (hV : WS_ S) {d : Nat} {x : Int32} {Q : Q_} (hx : no_in x (tm_n (sm_T S))) : cl (d + 3) 70 [v_R (some 1000), v_I x] w Q = Q (Sum.inr (w_z w)) (s_n w 40 6) := by
  have hq := RC_CQ h hV
  have hC := h.1
  unfold sh_C at hC
  have hr0 : w_r w 1000 0 = some (gm_b G) := h.2.2.1
  have hT := h.2.2.2.1
  unfold CT_ at hT
  have hA : SO_ w 1008 := h.2.1.2.1.1
  unfold SO_ at hA
  have hA2 : SO_ w 1429 := h.2.1.2.2.2.2
  unfold SO_ at hA2
  have hS : CS_ w 1008 (tm_n (sm_T S)) (bm_X (sm_B S)) := h.2.2.2.2.2.2.2.1.1
  unfold CS_ at hS
  have hK : sh_B w 1007 := h.2.1.1
  unfold sh_B at hK
  have hB := h.2.2.2.2.2.2.2.1.2
  have hR := h.2.2.2.2.2.2.2.2.2
  simp only [Nat.reduceAdd] at hA hA2 hS hK hB
  obtain ⟨hn, hk4⟩ := hV.1
  obtain ⟨hW1, hW2, hW3⟩ := hV.2.2.2.1.1
  rcases hx with hx | ⟨k, h1, h2, rfl⟩
  · simp (disch := first | omega | decide | exact ko_b _ | assumption | (simp only [t_si, t_sl, t_sr, t_sI, t_sR, n_si, n_sl, n_sr, n_sI, n_sR, r_si, r_sl, r_sI]; first | done | omega)) only [x_70_e, x_70_b, x_70_0, x_70_1, x_70_4, x_70_5, x_70_6, x_70_9, x_70_12, x_70_13, x_70_16, x_70_17, x_70_20, x_70_21, x_70_24, x_70_27, x_70_28, x_70_31, x_70_34, bk_v, bk_n, nl_I, nl_R, nl_L, nl_0, oo_lt, oo_le, oo_eq, oo_add, oo_sub, oo_tn, oo_ir, nn_leT, nn_leF, nn_ltT, nn_ltF, nn_eqT, nn_eqF, bv_0, bv_1, ko_b, ko_1, ko_0, true_and, and_true, if_true, if_false, not_true_eq_false, not_false_eq_true, oo_02, decide_eq_true_eq, decide_eq_false_iff_not, ite_not, Nat.reduceAdd, Nat.reduceLT, Nat.reduceSub, Nat.reduceLeDiff, reduceIte, Bool.true_eq_false, Bool.false_eq_true, reduceCtorEq, eq_self, decide_true, decide_false, bv_t, bv_f, and_self, t_si, t_sl, t_sr, t_sI, t_sR, n_si, n_sl, n_sr, n_sI, n_sR, r_si, r_sl, r_sI, hC, hr0, hT, hA, hS, hK, hB, hR, hx, c_th0]
  · simp (disch := first | omega | decide | exact ko_b _ | assumption | (simp only [t_si, t_sl, t_sr, t_sI, t_sR, n_si, n_sl, n_sr, n_sI, n_sR, r_si, r_sl, r_sI]; first | done | omega)) only [x_70_e, x_70_b, x_70_0, x_70_1, x_70_4, x_70_5, x_70_6, x_70_9, x_70_12, x_70_13, x_70_16, x_70_17, x_70_20, x_70_21, x_70_24, x_70_27, x_70_28, x_70_31, x_70_34, bk_v, bk_n, nl_I, nl_R, nl_L, nl_0, oo_lt, oo_le, oo_eq, oo_add, oo_sub, oo_tn, oo_ir, nn_leT, nn_leF, nn_ltT, nn_ltF, nn_eqT, nn_eqF, bv_0, bv_1, ko_b, ko_1, ko_0, true_and, and_true, if_true, if_false, not_true_eq_false, not_false_eq_true, oo_02, decide_eq_true_eq, decide_eq_false_iff_not, ite_not, Nat.reduceAdd, Nat.reduceLT, Nat.reduceSub, Nat.reduceLeDiff, reduceIte, Bool.true_eq_false, Bool.false_eq_true, reduceCtorEq, eq_self, decide_true, decide_false, bv_t, bv_f, and_self, t_si, t_sl, t_sr, t_sI, t_sR, n_si, n_sl, n_sr, n_sI, n_sR, r_si, r_sl, r_sI, hC, hr0, hT, hA, hS, hK, hB, hR, c_tables h hV, c_th0]
theorem c_levAt (h : RC_ w G σ S) (hV : WS_ S) {d l : Nat} {Q : Q_} (hl : l < xm_L (bm_X (sm_B S))) : cl (d + 3) 72 [v_R (some 1000), v_I (Int32.ofNat l)] w Q = Q (Sum.inl none) w := by
  have hq := RC_CQ h hV
  have hC := h.1
  unfold sh_C at hC
  have hr0 : w_r w 1000 0 = some (gm_b G) := h.2.2.1
  have hT := h.2.2.2.1
  unfold CT_ at hT
  have hA : SO_ w 1008 := h.2.1.2.1.1
  unfold SO_ at hA
  have hA2 : SO_ w 1429 := h.2.1.2.2.2.2
  unfold SO_ at hA2
  have hS : CS_ w 1008 (tm_n (sm_T S)) (bm_X (sm_B S)) := h.2.2.2.2.2.2.2.1.1
  unfold CS_ at hS
  have hK : sh_B w 1007 := h.2.1.1
  unfold sh_B at hK
  have hB := h.2.2.2.2.2.2.2.1.2
  have hR := h.2.2.2.2.2.2.2.2.2
  simp only [Nat.reduceAdd] at hA hA2 hS hK hB
  obtain ⟨hn, hk4⟩ := hV.1
  obtain ⟨hW1, hW2, hW3⟩ := hV.2.2.2.1.1
  simp (disch := first | omega | decide | exact ko_b _ | assumption | (simp only [t_si, t_sl, t_sr, t_sI, t_sR, n_si, n_sl, n_sr, n_sI, n_sR, r_si, r_sl, r_sI]; first | done | omega)) only [x_72_e, x_72_b, x_72_0, x_72_1, x_72_4, x_72_5, x_72_6, x_72_9, x_72_12, x_72_15, x_72_16, x_72_19, x_72_20, x_72_23, bk_v, bk_n, nl_I, nl_R, nl_L, nl_0, oo_lt, oo_le, oo_eq, oo_add, oo_sub, oo_tn, oo_ir, nn_leT, nn_leF, nn_ltT, nn_ltF, nn_eqT, nn_eqF, bv_0, bv_1, ko_b, ko_1, ko_0, true_and, and_true, if_true, if_false, not_true_eq_false, not_false_eq_true, oo_02, decide_eq_true_eq, decide_eq_false_iff_not, ite_not, Nat.reduceAdd, Nat.reduceLT, Nat.reduceSub, Nat.reduceLeDiff, reduceIte, Bool.true_eq_false, Bool.false_eq_true, reduceCtorEq, eq_self, decide_true, decide_false, bv_t, bv_f, and_self, t_si, t_sl, t_sr, t_sI, t_sR, n_si, n_sl, n_sr, n_sI, n_sR, r_si, r_sl, r_sI, hC, hr0, hT, hA, hS, hK, hB, hR, c_th1]
theorem c_levAt_x (h : RC_ w G σ S) (hV : WS_ S) {d : Nat} {x : Int32} {Q : Q_} (hx : no_in x (xm_L (bm_X (sm_B S)))) : cl (d + 3) 72 [v_R (some 1000), v_I x] w Q = Q (Sum.inr (w_z w)) (s_n w 40 6) := by
  have hq := RC_CQ h hV
  have hC := h.1
  unfold sh_C at hC
  have hr0 : w_r w 1000 0 = some (gm_b G) := h.2.2.1
  have hT := h.2.2.2.1
  unfold CT_ at hT
  have hA : SO_ w 1008 := h.2.1.2.1.1
  unfold SO_ at hA
  have hA2 : SO_ w 1429 := h.2.1.2.2.2.2
  unfold SO_ at hA2
  have hS : CS_ w 1008 (tm_n (sm_T S)) (bm_X (sm_B S)) := h.2.2.2.2.2.2.2.1.1
  unfold CS_ at hS
  have hK : sh_B w 1007 := h.2.1.1
  unfold sh_B at hK
  have hB := h.2.2.2.2.2.2.2.1.2
  have hR := h.2.2.2.2.2.2.2.2.2
  simp only [Nat.reduceAdd] at hA hA2 hS hK hB
  obtain ⟨hn, hk4⟩ := hV.1
  obtain ⟨hW1, hW2, hW3⟩ := hV.2.2.2.1.1
  rcases hx with hx | ⟨k, h1, h2, rfl⟩
  · simp (disch := first | omega | decide | exact ko_b _ | assumption | (simp only [t_si, t_sl, t_sr, t_sI, t_sR, n_si, n_sl, n_sr, n_sI, n_sR, r_si, r_sl, r_sI]; first | done | omega)) only [x_72_e, x_72_b, x_72_0, x_72_1, x_72_4, x_72_5, x_72_6, x_72_9, x_72_12, x_72_15, x_72_16, x_72_19, x_72_20, x_72_23, bk_v, bk_n, nl_I, nl_R, nl_L, nl_0, oo_lt, oo_le, oo_eq, oo_add, oo_sub, oo_tn, oo_ir, nn_leT, nn_leF, nn_ltT, nn_ltF, nn_eqT, nn_eqF, bv_0, bv_1, ko_b, ko_1, ko_0, true_and, and_true, if_true, if_false, not_true_eq_false, not_false_eq_true, oo_02, decide_eq_true_eq, decide_eq_false_iff_not, ite_not, Nat.reduceAdd, Nat.reduceLT, Nat.reduceSub, Nat.reduceLeDiff, reduceIte, Bool.true_eq_false, Bool.false_eq_true, reduceCtorEq, eq_self, decide_true, decide_false, bv_t, bv_f, and_self, t_si, t_sl, t_sr, t_sI, t_sR, n_si, n_sl, n_sr, n_sI, n_sR, r_si, r_sl, r_sI, hC, hr0, hT, hA, hS, hK, hB, hR, hx, c_th0]
  · simp (disch := first | omega | decide | exact ko_b _ | assumption | (simp only [t_si, t_sl, t_sr, t_sI, t_sR, n_si, n_sl, n_sr, n_sI, n_sR, r_si, r_sl, r_sI]; first | done | omega)) only [x_72_e, x_72_b, x_72_0, x_72_1, x_72_4, x_72_5, x_72_6, x_72_9, x_72_12, x_72_15, x_72_16, x_72_19, x_72_20, x_72_23, bk_v, bk_n, nl_I, nl_R, nl_L, nl_0, oo_lt, oo_le, oo_eq, oo_add, oo_sub, oo_tn, oo_ir, nn_leT, nn_leF, nn_ltT, nn_ltF, nn_eqT, nn_eqF, bv_0, bv_1, ko_b, ko_1, ko_0, true_and, and_true, if_true, if_false, not_true_eq_false, not_false_eq_true, oo_02, decide_eq_true_eq, decide_eq_false_iff_not, ite_not, Nat.reduceAdd, Nat.reduceLT, Nat.reduceSub, Nat.reduceLeDiff, reduceIte, Bool.true_eq_false, Bool.false_eq_true, reduceCtorEq, eq_self, decide_true, decide_false, bv_t, bv_f, and_self, t_si, t_sl, t_sr, t_sI, t_sR, n_si, n_sl, n_sr, n_sI, n_sR, r_si, r_sl, r_sI, hC, hr0, hT, hA, hS, hK, hB, hR, c_th0]
theorem in_yes {k n : Nat} (hk : k ≤ n) (hn : n < 2147483648) : decide (Int32.ofNat 0 ≤ Int32.ofNat k ∧ Int32.ofNat k ≤ Int32.ofNat n) = true := by
  exact decide_eq_true ⟨by rw [oo_le (by omega) (by omega)]; omega, by rw [oo_le (by omega) (by omega)]; omega⟩
theorem in_no {x : Int32} {n : Nat} (hn : n < 2147483647) (hx : no_in x (n + 1)) : decide (Int32.ofNat 0 ≤ x ∧ x ≤ Int32.ofNat n) = false := by
  refine decide_eq_false ?_
  have := oo_no (n := n + 1) (by omega) hx
  rwa [oo_sub (by omega), Nat.add_sub_cancel] at this
/-- what changes nothing -/
theorem cr_0 {d t : Nat} {as : S_} {r : Vl} (h : ∀ Q, cl d t as w Q = Q (Sum.inl (some r)) w) : CR_ G d t as w r := ⟨w, fr_rf _ _, h⟩
theorem cx_0 {d t g : Nat} {as : S_} (h : ∀ Q, cl d t as w Q = Q (Sum.inr (w_z w)) (s_n w g 6)) : CX_ G d t as w g := ⟨w, fr_rf _ _, h⟩
theorem c_fault (h : RC_ w G σ S) (hV : WS_ S) {d : Nat} : CR_ G d 26 [v_R (some 1000)] w (v_I (sm_f S)) := cr_0 fun Q => by
  have hq := RC_CQ h hV
  have hC := h.1
  unfold sh_C at hC
  have hr0 : w_r w 1000 0 = some (gm_b G) := h.2.2.1
  have hT := h.2.2.2.1
  unfold CT_ at hT
  have hA : SO_ w 1008 := h.2.1.2.1.1
  unfold SO_ at hA
  have hA2 : SO_ w 1429 := h.2.1.2.2.2.2
  unfold SO_ at hA2
  have hS : CS_ w 1008 (tm_n (sm_T S)) (bm_X (sm_B S)) := h.2.2.2.2.2.2.2.1.1
  unfold CS_ at hS
  have hK : sh_B w 1007 := h.2.1.1
  unfold sh_B at hK
  have hB := h.2.2.2.2.2.2.2.1.2
  have hR := h.2.2.2.2.2.2.2.2.2
  simp only [Nat.reduceAdd] at hA hA2 hS hK hB
  obtain ⟨hn, hk4⟩ := hV.1
  obtain ⟨hW1, hW2, hW3⟩ := hV.2.2.2.1.1
  simp (disch := first | omega | decide | exact ko_b _ | assumption | (simp only [t_si, t_sl, t_sr, t_sI, t_sR, n_si, n_sl, n_sr, n_sI, n_sR, r_si, r_sl, r_sI]; first | done | omega)) only [x_26_e, x_26_b, x_26_0, x_26_1, x_26_4, bk_v, bk_n, nl_I, nl_R, nl_L, nl_0, oo_lt, oo_le, oo_eq, oo_add, oo_sub, oo_tn, oo_ir, nn_leT, nn_leF, nn_ltT, nn_ltF, nn_eqT, nn_eqF, bv_0, bv_1, ko_b, ko_1, ko_0, true_and, and_true, if_true, if_false, not_true_eq_false, not_false_eq_true, oo_02, decide_eq_true_eq, decide_eq_false_iff_not, ite_not, Nat.reduceAdd, Nat.reduceLT, Nat.reduceSub, Nat.reduceLeDiff, reduceIte, Bool.true_eq_false, Bool.false_eq_true, reduceCtorEq, eq_self, decide_true, decide_false, bv_t, bv_f, and_self, t_si, t_sl, t_sr, t_sI, t_sR, n_si, n_sl, n_sr, n_sI, n_sR, r_si, r_sl, r_sI, hC, hr0, hT, hA, hS, hK, hB, hR]
theorem c_count (h : RC_ w G σ S) (hV : WS_ S) {d k : Nat} (hk : k < 15) : CR_ G (d + 12) 67 [v_R (some 1000), v_I (Int32.ofNat k)] w (v_I (q_count S k)) := cr_0 fun Q => by
  have hq := RC_CQ h hV
  have hC := h.1
  unfold sh_C at hC
  have hr0 : w_r w 1000 0 = some (gm_b G) := h.2.2.1
  have hT := h.2.2.2.1
  unfold CT_ at hT
  have hA : SO_ w 1008 := h.2.1.2.1.1
  unfold SO_ at hA
  have hA2 : SO_ w 1429 := h.2.1.2.2.2.2
  unfold SO_ at hA2
  have hS : CS_ w 1008 (tm_n (sm_T S)) (bm_X (sm_B S)) := h.2.2.2.2.2.2.2.1.1
  unfold CS_ at hS
  have hK : sh_B w 1007 := h.2.1.1
  unfold sh_B at hK
  have hB := h.2.2.2.2.2.2.2.1.2
  have hR := h.2.2.2.2.2.2.2.2.2
  simp only [Nat.reduceAdd] at hA hA2 hS hK hB
  obtain ⟨hn, hk4⟩ := hV.1
  obtain ⟨hW1, hW2, hW3⟩ := hV.2.2.2.1.1
  have hy := in_yes (by omega : k ≤ 14) (by omega)
  rcases (by omega : k = 0 ∨ k = 1 ∨ k = 2 ∨ k = 3 ∨ k = 4 ∨ k = 5 ∨ k = 6 ∨ k = 7 ∨ k = 8 ∨ k = 9 ∨ k = 10 ∨ k = 11 ∨ 12 ≤ k) with rfl | rfl | rfl | rfl | rfl | rfl | rfl | rfl | rfl | rfl | rfl | rfl | h12
  case inr.inr.inr.inr.inr.inr.inr.inr.inr.inr.inr.inr =>
    have hz : (Int32.ofNat k).toInt < 0 ∨ ((12 - 1 : Nat) : Int) < (Int32.ofNat k).toInt := ts_no (by omega) (by omega) (Or.inr ⟨k, h12, by omega, rfl⟩)
    have e : q_count S k = bm_r (sm_B S) (k - 12) := by
      rcases (by omega : k = 12 ∨ k = 13 ∨ k = 14) with rfl | rfl | rfl <;> rfl
    simp (disch := first | omega | decide | exact ko_b _ | assumption | (simp only [t_si, t_sl, t_sr, t_sI, t_sR, n_si, n_sl, n_sr, n_sI, n_sR, r_si, r_sl, r_sI]; first | done | omega)) only [x_67_e, x_67_b, x_67_0, x_67_1, x_67_2, x_67_4, x_67_7, x_67_10, x_67_72, x_67_73, x_67_76, x_67_77, x_67_78, x_67_81, x_67_84, x_67_85, x_67_86, x_67_89, x_67_92, x_67_93, x_67_94, x_67_97, x_67_100, x_67_101, x_67_102, x_67_105, x_67_106, x_67_109, x_67_112, x_67_115, x_67_116, x_67_119, x_67_120, x_67_121, x_67_122, x_67_125, x_67_126, x_67_129, x_67_132, x_67_133, x_67_134, x_67_137, x_67_140, x_67_141, x_67_142, x_67_145, x_67_146, x_67_149, x_67_152, x_67_153, x_67_154, x_67_157, x_67_160, x_67_161, x_67_162, x_67_165, x_67_168, x_67_169, x_67_170, x_67_173, x_67_176, x_67_177, x_67_178, x_67_181, x_67_182, x_67_183, x_67_186, x_67_189, x_67_190, x_67_192, x_67_193, x_67_194, bk_v, bk_n, nl_I, nl_R, nl_L, nl_0, oo_lt, oo_le, oo_eq, oo_add, oo_sub, oo_tn, oo_ir, nn_leT, nn_leF, nn_ltT, nn_ltF, nn_eqT, nn_eqF, bv_0, bv_1, ko_b, ko_1, ko_0, true_and, and_true, if_true, if_false, not_true_eq_false, not_false_eq_true, oo_02, decide_eq_true_eq, decide_eq_false_iff_not, ite_not, Nat.reduceAdd, Nat.reduceLT, Nat.reduceSub, Nat.reduceLeDiff, reduceIte, Bool.true_eq_false, Bool.false_eq_true, reduceCtorEq, eq_self, decide_true, decide_false, bv_t, bv_f, and_self, t_si, t_sl, t_sr, t_sI, t_sR, n_si, n_sl, n_sr, n_sI, n_sR, r_si, r_sl, r_sI, c_in, hy, bv_t, c_th1]
    rw [x_67_11.2.2.2.2.2.2.2.2.2.2.2.2 _ _ _ _ _ _ hz, e]
    simp (disch := first | omega | decide | exact ko_b _ | assumption | (simp only [t_si, t_sl, t_sr, t_sI, t_sR, n_si, n_sl, n_sr, n_sI, n_sR, r_si, r_sl, r_sI]; first | done | omega)) only [x_67_e, x_67_b, x_67_0, x_67_1, x_67_2, x_67_4, x_67_7, x_67_10, x_67_72, x_67_73, x_67_76, x_67_77, x_67_78, x_67_81, x_67_84, x_67_85, x_67_86, x_67_89, x_67_92, x_67_93, x_67_94, x_67_97, x_67_100, x_67_101, x_67_102, x_67_105, x_67_106, x_67_109, x_67_112, x_67_115, x_67_116, x_67_119, x_67_120, x_67_121, x_67_122, x_67_125, x_67_126, x_67_129, x_67_132, x_67_133, x_67_134, x_67_137, x_67_140, x_67_141, x_67_142, x_67_145, x_67_146, x_67_149, x_67_152, x_67_153, x_67_154, x_67_157, x_67_160, x_67_161, x_67_162, x_67_165, x_67_168, x_67_169, x_67_170, x_67_173, x_67_176, x_67_177, x_67_178, x_67_181, x_67_182, x_67_183, x_67_186, x_67_189, x_67_190, x_67_192, x_67_193, x_67_194, bk_v, bk_n, nl_I, nl_R, nl_L, nl_0, oo_lt, oo_le, oo_eq, oo_add, oo_sub, oo_tn, oo_ir, nn_leT, nn_leF, nn_ltT, nn_ltF, nn_eqT, nn_eqF, bv_0, bv_1, ko_b, ko_1, ko_0, true_and, and_true, if_true, if_false, not_true_eq_false, not_false_eq_true, oo_02, decide_eq_true_eq, decide_eq_false_iff_not, ite_not, Nat.reduceAdd, Nat.reduceLT, Nat.reduceSub, Nat.reduceLeDiff, reduceIte, Bool.true_eq_false, Bool.false_eq_true, reduceCtorEq, eq_self, decide_true, decide_false, bv_t, bv_f, and_self, t_si, t_sl, t_sr, t_sI, t_sR, n_si, n_sl, n_sr, n_sI, n_sR, r_si, r_sl, r_sI, hC, hr0, hT, hA, hS, hK, hB, hR]
  all_goals simp (disch := first | omega | decide | exact ko_b _ | assumption | (simp only [t_si, t_sl, t_sr, t_sI, t_sR, n_si, n_sl, n_sr, n_sI, n_sR, r_si, r_sl, r_sI]; first | done | omega)) only [x_67_e, x_67_b, x_67_0, x_67_1, x_67_2, x_67_4, x_67_7, x_67_10, x_67_11, x_67_72, x_67_73, x_67_76, x_67_77, x_67_78, x_67_81, x_67_84, x_67_85, x_67_86, x_67_89, x_67_92, x_67_93, x_67_94, x_67_97, x_67_100, x_67_101, x_67_102, x_67_105, x_67_106, x_67_109, x_67_112, x_67_115, x_67_116, x_67_119, x_67_120, x_67_121, x_67_122, x_67_125, x_67_126, x_67_129, x_67_132, x_67_133, x_67_134, x_67_137, x_67_140, x_67_141, x_67_142, x_67_145, x_67_146, x_67_149, x_67_152, x_67_153, x_67_154, x_67_157, x_67_160, x_67_161, x_67_162, x_67_165, x_67_168, x_67_169, x_67_170, x_67_173, x_67_176, x_67_177, x_67_178, x_67_181, x_67_182, x_67_183, x_67_186, x_67_189, x_67_190, x_67_192, x_67_193, x_67_194, bk_v, bk_n, nl_I, nl_R, nl_L, nl_0, oo_lt, oo_le, oo_eq, oo_add, oo_sub, oo_tn, oo_ir, nn_leT, nn_leF, nn_ltT, nn_ltF, nn_eqT, nn_eqF, bv_0, bv_1, ko_b, ko_1, ko_0, true_and, and_true, if_true, if_false, not_true_eq_false, not_false_eq_true, oo_02, decide_eq_true_eq, decide_eq_false_iff_not, ite_not, Nat.reduceAdd, Nat.reduceLT, Nat.reduceSub, Nat.reduceLeDiff, reduceIte, Bool.true_eq_false, Bool.false_eq_true, reduceCtorEq, eq_self, decide_true, decide_false, bv_t, bv_f, and_self, t_si, t_sl, t_sr, t_sI, t_sR, n_si, n_sl, n_sr, n_sI, n_sR, r_si, r_sl, r_sI, c_in, hy, bv_t, c_th1, hC, hr0, hT, hA, hS, hK, hB, hR, q_count, c_tables h hV, c_st hq, c_brk hq, c_full hq]
  cases f_st (sm_T S) (bm_X (sm_B S)) <;> rfl
theorem c_count_x (h : RC_ w G σ S) (hV : WS_ S) {d : Nat} {x : Int32} (hx : no_in x 15) : CX_ G (d + 12) 67 [v_R (some 1000), v_I x] w 40 := cx_0 fun Q => by
  have hq := RC_CQ h hV
  have hC := h.1
  unfold sh_C at hC
  have hr0 : w_r w 1000 0 = some (gm_b G) := h.2.2.1
  have hT := h.2.2.2.1
  unfold CT_ at hT
  have hA : SO_ w 1008 := h.2.1.2.1.1
  unfold SO_ at hA
  have hA2 : SO_ w 1429 := h.2.1.2.2.2.2
  unfold SO_ at hA2
  have hS : CS_ w 1008 (tm_n (sm_T S)) (bm_X (sm_B S)) := h.2.2.2.2.2.2.2.1.1
  unfold CS_ at hS
  have hK : sh_B w 1007 := h.2.1.1
  unfold sh_B at hK
  have hB := h.2.2.2.2.2.2.2.1.2
  have hR := h.2.2.2.2.2.2.2.2.2
  simp only [Nat.reduceAdd] at hA hA2 hS hK hB
  obtain ⟨hn, hk4⟩ := hV.1
  obtain ⟨hW1, hW2, hW3⟩ := hV.2.2.2.1.1
  have hy := in_no (n := 14) (by omega) hx
  simp (disch := first | omega | decide | exact ko_b _ | assumption | (simp only [t_si, t_sl, t_sr, t_sI, t_sR, n_si, n_sl, n_sr, n_sI, n_sR, r_si, r_sl, r_sI]; first | done | omega)) only [x_67_e, x_67_b, x_67_0, x_67_1, x_67_2, x_67_4, x_67_7, x_67_10, x_67_11, x_67_72, x_67_73, x_67_76, x_67_77, x_67_78, x_67_81, x_67_84, x_67_85, x_67_86, x_67_89, x_67_92, x_67_93, x_67_94, x_67_97, x_67_100, x_67_101, x_67_102, x_67_105, x_67_106, x_67_109, x_67_112, x_67_115, x_67_116, x_67_119, x_67_120, x_67_121, x_67_122, x_67_125, x_67_126, x_67_129, x_67_132, x_67_133, x_67_134, x_67_137, x_67_140, x_67_141, x_67_142, x_67_145, x_67_146, x_67_149, x_67_152, x_67_153, x_67_154, x_67_157, x_67_160, x_67_161, x_67_162, x_67_165, x_67_168, x_67_169, x_67_170, x_67_173, x_67_176, x_67_177, x_67_178, x_67_181, x_67_182, x_67_183, x_67_186, x_67_189, x_67_190, x_67_192, x_67_193, x_67_194, bk_v, bk_n, nl_I, nl_R, nl_L, nl_0, oo_lt, oo_le, oo_eq, oo_add, oo_sub, oo_tn, oo_ir, nn_leT, nn_leF, nn_ltT, nn_ltF, nn_eqT, nn_eqF, bv_0, bv_1, ko_b, ko_1, ko_0, true_and, and_true, if_true, if_false, not_true_eq_false, not_false_eq_true, oo_02, decide_eq_true_eq, decide_eq_false_iff_not, ite_not, Nat.reduceAdd, Nat.reduceLT, Nat.reduceSub, Nat.reduceLeDiff, reduceIte, Bool.true_eq_false, Bool.false_eq_true, reduceCtorEq, eq_self, decide_true, decide_false, bv_t, bv_f, and_self, t_si, t_sl, t_sr, t_sI, t_sR, n_si, n_sl, n_sr, n_sI, n_sR, r_si, r_sl, r_sI, c_in, hy, bv_f, c_th0]
theorem c_table (h : RC_ w G σ S) (hV : WS_ S) {d t k : Nat} (ht : t < tm_n (sm_T S)) (hk : k < 8) : CR_ G (d + 12) 69 [v_R (some 1000), v_I (Int32.ofNat t), v_I (Int32.ofNat k)] w (v_I (q_table S t k)) := cr_0 fun Q => by
  have hq := RC_CQ h hV
  have hC := h.1
  unfold sh_C at hC
  have hr0 : w_r w 1000 0 = some (gm_b G) := h.2.2.1
  have hT := h.2.2.2.1
  unfold CT_ at hT
  have hA : SO_ w 1008 := h.2.1.2.1.1
  unfold SO_ at hA
  have hA2 : SO_ w 1429 := h.2.1.2.2.2.2
  unfold SO_ at hA2
  have hS : CS_ w 1008 (tm_n (sm_T S)) (bm_X (sm_B S)) := h.2.2.2.2.2.2.2.1.1
  unfold CS_ at hS
  have hK : sh_B w 1007 := h.2.1.1
  unfold sh_B at hK
  have hB := h.2.2.2.2.2.2.2.1.2
  have hR := h.2.2.2.2.2.2.2.2.2
  simp only [Nat.reduceAdd] at hA hA2 hS hK hB
  obtain ⟨hn, hk4⟩ := hV.1
  obtain ⟨hW1, hW2, hW3⟩ := hV.2.2.2.1.1
  have hy := in_yes (by omega : k ≤ 7) (by omega)
  have h3 := hk4 _ ht
  have h4 : w_t w (gm_pn G t) = 32 + tm_kd (sm_T S) t := by simp (disch := omega) only [hT]
  rcases (by omega : k = 0 ∨ k = 1 ∨ k = 2 ∨ k = 3 ∨ k = 4 ∨ k = 5 ∨ k = 6 ∨ k = 7) with rfl | rfl | rfl | rfl | rfl | rfl | rfl | rfl
  · have e2 := fun Q => p_kind (d := d + 10) (Q := Q) h4 h3
    rcases (by omega : tm_kd (sm_T S) t = 3 ∨ tm_kd (sm_T S) t = 2 ∨ tm_kd (sm_T S) t = 1 ∨ tm_kd (sm_T S) t = 0) with e | e | e | e
    all_goals
      simp only [e, Nat.reduceEqDiff, reduceIte, Nat.reduceAdd] at e2 h4
      simp (disch := first | omega | decide | exact ko_b _ | assumption | (simp only [t_si, t_sl, t_sr, t_sI, t_sR, n_si, n_sl, n_sr, n_sI, n_sR, r_si, r_sl, r_sI]; first | done | omega)) only [x_69_e, x_69_b, x_69_0, x_69_1, x_69_2, x_69_5, x_69_6, x_69_7, x_69_8, x_69_10, x_69_13, x_69_16, x_69_17, x_69_60, x_69_61, x_69_64, x_69_65, x_69_66, x_69_69, x_69_70, x_69_71, x_69_72, x_69_75, x_69_78, x_69_81, x_69_82, x_69_83, x_69_86, x_69_89, x_69_90, x_69_91, x_69_92, x_69_93, x_69_96, x_69_97, x_69_98, x_69_101, x_69_104, x_69_105, x_69_106, x_69_107, x_69_108, x_69_111, x_69_114, x_69_115, x_69_116, x_69_117, x_69_118, x_69_121, x_69_122, x_69_125, bk_v, bk_n, nl_I, nl_R, nl_L, nl_0, oo_lt, oo_le, oo_eq, oo_add, oo_sub, oo_tn, oo_ir, nn_leT, nn_leF, nn_ltT, nn_ltF, nn_eqT, nn_eqF, bv_0, bv_1, ko_b, ko_1, ko_0, true_and, and_true, if_true, if_false, not_true_eq_false, not_false_eq_true, oo_02, decide_eq_true_eq, decide_eq_false_iff_not, ite_not, Nat.reduceAdd, Nat.reduceLT, Nat.reduceSub, Nat.reduceLeDiff, reduceIte, Bool.true_eq_false, Bool.false_eq_true, reduceCtorEq, eq_self, decide_true, decide_false, bv_t, bv_f, and_self, t_si, t_sl, t_sr, t_sI, t_sR, n_si, n_sl, n_sr, n_sI, n_sR, r_si, r_sl, r_sI, c_tabAt h hV, c_in, hy, bv_t, c_th1, hC, hr0, hT, hA, hS, hK, hB, hR, q_table, e, e2]
  case inr.inr.inr.inr.inr.inr.inr =>
    have hz : (Int32.ofNat 7).toInt < 0 ∨ (6 : Int) < (Int32.ofNat 7).toInt := by decide
    simp (disch := first | omega | decide | exact ko_b _ | assumption | (simp only [t_si, t_sl, t_sr, t_sI, t_sR, n_si, n_sl, n_sr, n_sI, n_sR, r_si, r_sl, r_sI]; first | done | omega)) only [x_69_e, x_69_b, x_69_0, x_69_1, x_69_2, x_69_5, x_69_6, x_69_7, x_69_8, x_69_10, x_69_13, x_69_16, x_69_60, x_69_61, x_69_64, x_69_65, x_69_66, x_69_69, x_69_70, x_69_71, x_69_72, x_69_75, x_69_78, x_69_81, x_69_82, x_69_83, x_69_86, x_69_89, x_69_90, x_69_91, x_69_92, x_69_93, x_69_96, x_69_97, x_69_98, x_69_101, x_69_104, x_69_105, x_69_106, x_69_107, x_69_108, x_69_111, x_69_114, x_69_115, x_69_116, x_69_117, x_69_118, x_69_121, x_69_122, x_69_125, bk_v, bk_n, nl_I, nl_R, nl_L, nl_0, oo_lt, oo_le, oo_eq, oo_add, oo_sub, oo_tn, oo_ir, nn_leT, nn_leF, nn_ltT, nn_ltF, nn_eqT, nn_eqF, bv_0, bv_1, ko_b, ko_1, ko_0, true_and, and_true, if_true, if_false, not_true_eq_false, not_false_eq_true, oo_02, decide_eq_true_eq, decide_eq_false_iff_not, ite_not, Nat.reduceAdd, Nat.reduceLT, Nat.reduceSub, Nat.reduceLeDiff, reduceIte, Bool.true_eq_false, Bool.false_eq_true, reduceCtorEq, eq_self, decide_true, decide_false, bv_t, bv_f, and_self, t_si, t_sl, t_sr, t_sI, t_sR, n_si, n_sl, n_sr, n_sI, n_sR, r_si, r_sl, r_sI, c_tabAt h hV, c_in, hy, bv_t, c_th1]
    rw [x_69_17.2.2.2.2.2.2.2 _ _ _ _ _ _ hz]
    simp (disch := first | omega | decide | exact ko_b _ | assumption | (simp only [t_si, t_sl, t_sr, t_sI, t_sR, n_si, n_sl, n_sr, n_sI, n_sR, r_si, r_sl, r_sI]; first | done | omega)) only [x_69_e, x_69_b, x_69_0, x_69_1, x_69_2, x_69_5, x_69_6, x_69_7, x_69_8, x_69_10, x_69_13, x_69_16, x_69_17, x_69_60, x_69_61, x_69_64, x_69_65, x_69_66, x_69_69, x_69_70, x_69_71, x_69_72, x_69_75, x_69_78, x_69_81, x_69_82, x_69_83, x_69_86, x_69_89, x_69_90, x_69_91, x_69_92, x_69_93, x_69_96, x_69_97, x_69_98, x_69_101, x_69_104, x_69_105, x_69_106, x_69_107, x_69_108, x_69_111, x_69_114, x_69_115, x_69_116, x_69_117, x_69_118, x_69_121, x_69_122, x_69_125, bk_v, bk_n, nl_I, nl_R, nl_L, nl_0, oo_lt, oo_le, oo_eq, oo_add, oo_sub, oo_tn, oo_ir, nn_leT, nn_leF, nn_ltT, nn_ltF, nn_eqT, nn_eqF, bv_0, bv_1, ko_b, ko_1, ko_0, true_and, and_true, if_true, if_false, not_true_eq_false, not_false_eq_true, oo_02, decide_eq_true_eq, decide_eq_false_iff_not, ite_not, Nat.reduceAdd, Nat.reduceLT, Nat.reduceSub, Nat.reduceLeDiff, reduceIte, Bool.true_eq_false, Bool.false_eq_true, reduceCtorEq, eq_self, decide_true, decide_false, bv_t, bv_f, and_self, t_si, t_sl, t_sr, t_sI, t_sR, n_si, n_sl, n_sr, n_sI, n_sR, r_si, r_sl, r_sI, hC, hr0, hT, hA, hS, hK, hB, hR, q_table, c_lv hq]
  all_goals simp (disch := first | omega | decide | exact ko_b _ | assumption | (simp only [t_si, t_sl, t_sr, t_sI, t_sR, n_si, n_sl, n_sr, n_sI, n_sR, r_si, r_sl, r_sI]; first | done | omega)) only [x_69_e, x_69_b, x_69_0, x_69_1, x_69_2, x_69_5, x_69_6, x_69_7, x_69_8, x_69_10, x_69_13, x_69_16, x_69_17, x_69_60, x_69_61, x_69_64, x_69_65, x_69_66, x_69_69, x_69_70, x_69_71, x_69_72, x_69_75, x_69_78, x_69_81, x_69_82, x_69_83, x_69_86, x_69_89, x_69_90, x_69_91, x_69_92, x_69_93, x_69_96, x_69_97, x_69_98, x_69_101, x_69_104, x_69_105, x_69_106, x_69_107, x_69_108, x_69_111, x_69_114, x_69_115, x_69_116, x_69_117, x_69_118, x_69_121, x_69_122, x_69_125, bk_v, bk_n, nl_I, nl_R, nl_L, nl_0, oo_lt, oo_le, oo_eq, oo_add, oo_sub, oo_tn, oo_ir, nn_leT, nn_leF, nn_ltT, nn_ltF, nn_eqT, nn_eqF, bv_0, bv_1, ko_b, ko_1, ko_0, true_and, and_true, if_true, if_false, not_true_eq_false, not_false_eq_true, oo_02, decide_eq_true_eq, decide_eq_false_iff_not, ite_not, Nat.reduceAdd, Nat.reduceLT, Nat.reduceSub, Nat.reduceLeDiff, reduceIte, Bool.true_eq_false, Bool.false_eq_true, reduceCtorEq, eq_self, decide_true, decide_false, bv_t, bv_f, and_self, t_si, t_sl, t_sr, t_sI, t_sR, n_si, n_sl, n_sr, n_sI, n_sR, r_si, r_sl, r_sI, c_tabAt h hV, c_in, hy, bv_t, c_th1, hC, hr0, hT, hA, hS, hK, hB, hR, q_table, p_bear h4 h3]
theorem c_table_x (h : RC_ w G σ S) (hV : WS_ S) {d t : Nat} {x : Int32} (ht : t < tm_n (sm_T S)) (hx : no_in x 8) : CX_ G (d + 12) 69 [v_R (some 1000), v_I (Int32.ofNat t), v_I x] w 40 := cx_0 fun Q => by
  have hq := RC_CQ h hV
  have hC := h.1
  unfold sh_C at hC
  have hr0 : w_r w 1000 0 = some (gm_b G) := h.2.2.1
  have hT := h.2.2.2.1
  unfold CT_ at hT
  have hA : SO_ w 1008 := h.2.1.2.1.1
  unfold SO_ at hA
  have hA2 : SO_ w 1429 := h.2.1.2.2.2.2
  unfold SO_ at hA2
  have hS : CS_ w 1008 (tm_n (sm_T S)) (bm_X (sm_B S)) := h.2.2.2.2.2.2.2.1.1
  unfold CS_ at hS
  have hK : sh_B w 1007 := h.2.1.1
  unfold sh_B at hK
  have hB := h.2.2.2.2.2.2.2.1.2
  have hR := h.2.2.2.2.2.2.2.2.2
  simp only [Nat.reduceAdd] at hA hA2 hS hK hB
  obtain ⟨hn, hk4⟩ := hV.1
  obtain ⟨hW1, hW2, hW3⟩ := hV.2.2.2.1.1
  have hy := in_no (n := 7) (by omega) hx
  simp (disch := first | omega | decide | exact ko_b _ | assumption | (simp only [t_si, t_sl, t_sr, t_sI, t_sR, n_si, n_sl, n_sr, n_sI, n_sR, r_si, r_sl, r_sI]; first | done | omega)) only [x_69_e, x_69_b, x_69_0, x_69_1, x_69_2, x_69_5, x_69_6, x_69_7, x_69_8, x_69_10, x_69_13, x_69_16, x_69_17, x_69_60, x_69_61, x_69_64, x_69_65, x_69_66, x_69_69, x_69_70, x_69_71, x_69_72, x_69_75, x_69_78, x_69_81, x_69_82, x_69_83, x_69_86, x_69_89, x_69_90, x_69_91, x_69_92, x_69_93, x_69_96, x_69_97, x_69_98, x_69_101, x_69_104, x_69_105, x_69_106, x_69_107, x_69_108, x_69_111, x_69_114, x_69_115, x_69_116, x_69_117, x_69_118, x_69_121, x_69_122, x_69_125, bk_v, bk_n, nl_I, nl_R, nl_L, nl_0, oo_lt, oo_le, oo_eq, oo_add, oo_sub, oo_tn, oo_ir, nn_leT, nn_leF, nn_ltT, nn_ltF, nn_eqT, nn_eqF, bv_0, bv_1, ko_b, ko_1, ko_0, true_and, and_true, if_true, if_false, not_true_eq_false, not_false_eq_true, oo_02, decide_eq_true_eq, decide_eq_false_iff_not, ite_not, Nat.reduceAdd, Nat.reduceLT, Nat.reduceSub, Nat.reduceLeDiff, reduceIte, Bool.true_eq_false, Bool.false_eq_true, reduceCtorEq, eq_self, decide_true, decide_false, bv_t, bv_f, and_self, t_si, t_sl, t_sr, t_sI, t_sR, n_si, n_sl, n_sr, n_sI, n_sR, r_si, r_sl, r_sI, c_tabAt h hV, c_in, hy, bv_f, c_th0]
theorem c_table_y (h : RC_ w G σ S) (hV : WS_ S) {d : Nat} {x y : Int32} (hx : no_in y (tm_n (sm_T S))) : CX_ G (d + 12) 69 [v_R (some 1000), v_I y, v_I x] w 40 := cx_0 fun Q => by
  have hq := RC_CQ h hV
  have hC := h.1
  unfold sh_C at hC
  have hr0 : w_r w 1000 0 = some (gm_b G) := h.2.2.1
  have hT := h.2.2.2.1
  unfold CT_ at hT
  have hA : SO_ w 1008 := h.2.1.2.1.1
  unfold SO_ at hA
  have hA2 : SO_ w 1429 := h.2.1.2.2.2.2
  unfold SO_ at hA2
  have hS : CS_ w 1008 (tm_n (sm_T S)) (bm_X (sm_B S)) := h.2.2.2.2.2.2.2.1.1
  unfold CS_ at hS
  have hK : sh_B w 1007 := h.2.1.1
  unfold sh_B at hK
  have hB := h.2.2.2.2.2.2.2.1.2
  have hR := h.2.2.2.2.2.2.2.2.2
  simp only [Nat.reduceAdd] at hA hA2 hS hK hB
  obtain ⟨hn, hk4⟩ := hV.1
  obtain ⟨hW1, hW2, hW3⟩ := hV.2.2.2.1.1
  simp (disch := first | omega | decide | exact ko_b _ | assumption | (simp only [t_si, t_sl, t_sr, t_sI, t_sR, n_si, n_sl, n_sr, n_sI, n_sR, r_si, r_sl, r_sI]; first | done | omega)) only [x_69_e, x_69_b, x_69_0, x_69_1, x_69_2, x_69_5, x_69_6, x_69_7, x_69_8, x_69_10, x_69_13, x_69_16, x_69_17, x_69_60, x_69_61, x_69_64, x_69_65, x_69_66, x_69_69, x_69_70, x_69_71, x_69_72, x_69_75, x_69_78, x_69_81, x_69_82, x_69_83, x_69_86, x_69_89, x_69_90, x_69_91, x_69_92, x_69_93, x_69_96, x_69_97, x_69_98, x_69_101, x_69_104, x_69_105, x_69_106, x_69_107, x_69_108, x_69_111, x_69_114, x_69_115, x_69_116, x_69_117, x_69_118, x_69_121, x_69_122, x_69_125, bk_v, bk_n, nl_I, nl_R, nl_L, nl_0, oo_lt, oo_le, oo_eq, oo_add, oo_sub, oo_tn, oo_ir, nn_leT, nn_leF, nn_ltT, nn_ltF, nn_eqT, nn_eqF, bv_0, bv_1, ko_b, ko_1, ko_0, true_and, and_true, if_true, if_false, not_true_eq_false, not_false_eq_true, oo_02, decide_eq_true_eq, decide_eq_false_iff_not, ite_not, Nat.reduceAdd, Nat.reduceLT, Nat.reduceSub, Nat.reduceLeDiff, reduceIte, Bool.true_eq_false, Bool.false_eq_true, reduceCtorEq, eq_self, decide_true, decide_false, bv_t, bv_f, and_self, t_si, t_sl, t_sr, t_sI, t_sR, n_si, n_sl, n_sr, n_sI, n_sR, r_si, r_sl, r_sI, c_tabAt_x h hV hx]
theorem c_by (h : RC_ w G σ S) (hV : WS_ S) {d : Nat} : CR_ G (d + 12) 27 [v_R (some 1000)] w (v_I (Int32.ofNat (f_by (tm_n (sm_T S)) (bm_X (sm_B S))))) := cr_0 fun Q => by
  have hq := RC_CQ h hV
  have hC := h.1
  unfold sh_C at hC
  have hr0 : w_r w 1000 0 = some (gm_b G) := h.2.2.1
  have hT := h.2.2.2.1
  unfold CT_ at hT
  have hA : SO_ w 1008 := h.2.1.2.1.1
  unfold SO_ at hA
  have hA2 : SO_ w 1429 := h.2.1.2.2.2.2
  unfold SO_ at hA2
  have hS : CS_ w 1008 (tm_n (sm_T S)) (bm_X (sm_B S)) := h.2.2.2.2.2.2.2.1.1
  unfold CS_ at hS
  have hK : sh_B w 1007 := h.2.1.1
  unfold sh_B at hK
  have hB := h.2.2.2.2.2.2.2.1.2
  have hR := h.2.2.2.2.2.2.2.2.2
  simp only [Nat.reduceAdd] at hA hA2 hS hK hB
  obtain ⟨hn, hk4⟩ := hV.1
  obtain ⟨hW1, hW2, hW3⟩ := hV.2.2.2.1.1
  simp (disch := first | omega | decide | exact ko_b _ | assumption | (simp only [t_si, t_sl, t_sr, t_sI, t_sR, n_si, n_sl, n_sr, n_sI, n_sR, r_si, r_sl, r_sI]; first | done | omega)) only [x_27_e, x_27_b, x_27_0, x_27_1, x_27_2, x_27_3, x_27_5, x_27_6, x_27_9, x_27_12, x_27_13, x_27_16, x_27_17, x_27_20, x_27_21, x_27_24, x_27_25, x_27_26, x_27_27, x_27_28, x_27_29, x_27_30, x_27_33, x_27_36, x_27_37, bk_v, bk_n, nl_I, nl_R, nl_L, nl_0, oo_lt, oo_le, oo_eq, oo_add, oo_sub, oo_tn, oo_ir, nn_leT, nn_leF, nn_ltT, nn_ltF, nn_eqT, nn_eqF, bv_0, bv_1, ko_b, ko_1, ko_0, true_and, and_true, if_true, if_false, not_true_eq_false, not_false_eq_true, oo_02, decide_eq_true_eq, decide_eq_false_iff_not, ite_not, Nat.reduceAdd, Nat.reduceLT, Nat.reduceSub, Nat.reduceLeDiff, reduceIte, Bool.true_eq_false, Bool.false_eq_true, reduceCtorEq, eq_self, decide_true, decide_false, bv_t, bv_f, and_self, t_si, t_sl, t_sr, t_sI, t_sR, n_si, n_sl, n_sr, n_sI, n_sR, r_si, r_sl, r_sI, hC, hr0, hT, hA, hS, hK, hB, hR]
  refine lp_io (fun j v => wp (d + 12) 27 4 [some (v_R (some 1000)), some (v_I (Int32.ofNat v)), some (v_I (Int32.ofNat j))] [] w Q) (fun v => Q (Sum.inl (some (v_I (Int32.ofNat v)))) w) (fun t v => if (f_lv (bm_X (sm_B S)) t).isNone = true then v ||| 2 ^ t else v) (tm_n (sm_T S)) 0 0 (fun j v h1 hj => ?_) (fun v => ?_)
  · have hb : (o_i (f_lv (bm_X (sm_B S)) j) = Int32.ofInt (-1)) = ((f_lv (bm_X (sm_B S)) j).isNone = true) := oi_m (fun k e => by have := flv_lt e; omega)
    rw [x_27_4]
    by_cases h2 : (f_lv (bm_X (sm_B S)) j).isNone = true
    · simp (disch := first | omega | decide | exact ko_b _ | assumption | (simp only [t_si, t_sl, t_sr, t_sI, t_sR, n_si, n_sl, n_sr, n_sI, n_sR, r_si, r_sl, r_sI]; first | done | omega)) only [x_27_e, x_27_b, x_27_0, x_27_1, x_27_2, x_27_3, x_27_5, x_27_6, x_27_9, x_27_12, x_27_13, x_27_16, x_27_17, x_27_20, x_27_21, x_27_24, x_27_25, x_27_26, x_27_27, x_27_28, x_27_29, x_27_30, x_27_33, x_27_36, x_27_37, bk_v, bk_n, nl_I, nl_R, nl_L, nl_0, oo_lt, oo_le, oo_eq, oo_add, oo_sub, oo_tn, oo_ir, nn_leT, nn_leF, nn_ltT, nn_ltF, nn_eqT, nn_eqF, bv_0, bv_1, ko_b, ko_1, ko_0, true_and, and_true, if_true, if_false, not_true_eq_false, not_false_eq_true, oo_02, decide_eq_true_eq, decide_eq_false_iff_not, ite_not, Nat.reduceAdd, Nat.reduceLT, Nat.reduceSub, Nat.reduceLeDiff, reduceIte, Bool.true_eq_false, Bool.false_eq_true, reduceCtorEq, eq_self, decide_true, decide_false, bv_t, bv_f, and_self, t_si, t_sl, t_sr, t_sI, t_sR, n_si, n_sl, n_sr, n_sI, n_sR, r_si, r_sl, r_sI, hC, hr0, hT, hA, hS, hK, hB, hR, c_tables h hV, c_lv hq, hb, h2, sb_s, sb_o]
    · simp (disch := first | omega | decide | exact ko_b _ | assumption | (simp only [t_si, t_sl, t_sr, t_sI, t_sR, n_si, n_sl, n_sr, n_sI, n_sR, r_si, r_sl, r_sI]; first | done | omega)) only [x_27_e, x_27_b, x_27_0, x_27_1, x_27_2, x_27_3, x_27_5, x_27_6, x_27_9, x_27_12, x_27_13, x_27_16, x_27_17, x_27_20, x_27_21, x_27_24, x_27_25, x_27_26, x_27_27, x_27_28, x_27_29, x_27_30, x_27_33, x_27_36, x_27_37, bk_v, bk_n, nl_I, nl_R, nl_L, nl_0, oo_lt, oo_le, oo_eq, oo_add, oo_sub, oo_tn, oo_ir, nn_leT, nn_leF, nn_ltT, nn_ltF, nn_eqT, nn_eqF, bv_0, bv_1, ko_b, ko_1, ko_0, true_and, and_true, if_true, if_false, not_true_eq_false, not_false_eq_true, oo_02, decide_eq_true_eq, decide_eq_false_iff_not, ite_not, Nat.reduceAdd, Nat.reduceLT, Nat.reduceSub, Nat.reduceLeDiff, reduceIte, Bool.true_eq_false, Bool.false_eq_true, reduceCtorEq, eq_self, decide_true, decide_false, bv_t, bv_f, and_self, t_si, t_sl, t_sr, t_sI, t_sR, n_si, n_sl, n_sr, n_sI, n_sR, r_si, r_sl, r_sI, hC, hr0, hT, hA, hS, hK, hB, hR, c_tables h hV, c_lv hq, hb, h2]
  · rw [x_27_4]
    simp (disch := first | omega | decide | exact ko_b _ | assumption | (simp only [t_si, t_sl, t_sr, t_sI, t_sR, n_si, n_sl, n_sr, n_sI, n_sR, r_si, r_sl, r_sI]; first | done | omega)) only [x_27_e, x_27_b, x_27_0, x_27_1, x_27_2, x_27_3, x_27_5, x_27_6, x_27_9, x_27_12, x_27_13, x_27_16, x_27_17, x_27_20, x_27_21, x_27_24, x_27_25, x_27_26, x_27_27, x_27_28, x_27_29, x_27_30, x_27_33, x_27_36, x_27_37, bk_v, bk_n, nl_I, nl_R, nl_L, nl_0, oo_lt, oo_le, oo_eq, oo_add, oo_sub, oo_tn, oo_ir, nn_leT, nn_leF, nn_ltT, nn_ltF, nn_eqT, nn_eqF, bv_0, bv_1, ko_b, ko_1, ko_0, true_and, and_true, if_true, if_false, not_true_eq_false, not_false_eq_true, oo_02, decide_eq_true_eq, decide_eq_false_iff_not, ite_not, Nat.reduceAdd, Nat.reduceLT, Nat.reduceSub, Nat.reduceLeDiff, reduceIte, Bool.true_eq_false, Bool.false_eq_true, reduceCtorEq, eq_self, decide_true, decide_false, bv_t, bv_f, and_self, t_si, t_sl, t_sr, t_sI, t_sR, n_si, n_sl, n_sr, n_sI, n_sR, r_si, r_sl, r_sI, hC, hr0, hT, hA, hS, hK, hB, hR, c_tables h hV]
theorem c_level (h : RC_ w G σ S) (hV : WS_ S) {d l k : Nat} (hl : l < xm_L (bm_X (sm_B S))) (hk : k < 5) : CR_ G (d + 12) 71 [v_R (some 1000), v_I (Int32.ofNat l), v_I (Int32.ofNat k)] w (v_I (q_level S l k)) := cr_0 fun Q => by
  have hq := RC_CQ h hV
  have hC := h.1
  unfold sh_C at hC
  have hr0 : w_r w 1000 0 = some (gm_b G) := h.2.2.1
  have hT := h.2.2.2.1
  unfold CT_ at hT
  have hA : SO_ w 1008 := h.2.1.2.1.1
  unfold SO_ at hA
  have hA2 : SO_ w 1429 := h.2.1.2.2.2.2
  unfold SO_ at hA2
  have hS : CS_ w 1008 (tm_n (sm_T S)) (bm_X (sm_B S)) := h.2.2.2.2.2.2.2.1.1
  unfold CS_ at hS
  have hK : sh_B w 1007 := h.2.1.1
  unfold sh_B at hK
  have hB := h.2.2.2.2.2.2.2.1.2
  have hR := h.2.2.2.2.2.2.2.2.2
  simp only [Nat.reduceAdd] at hA hA2 hS hK hB
  obtain ⟨hn, hk4⟩ := hV.1
  obtain ⟨hW1, hW2, hW3⟩ := hV.2.2.2.1.1
  have hy := in_yes (by omega : k ≤ 4) (by omega)
  rcases (by omega : k = 0 ∨ k = 1 ∨ k = 2 ∨ k = 3 ∨ k = 4) with rfl | rfl | rfl | rfl | rfl
  case inr.inr.inr.inr =>
    have hz : (Int32.ofNat 4).toInt < 0 ∨ (3 : Int) < (Int32.ofNat 4).toInt := by decide
    simp (disch := first | omega | decide | exact ko_b _ | assumption | (simp only [t_si, t_sl, t_sr, t_sI, t_sR, n_si, n_sl, n_sr, n_sI, n_sR, r_si, r_sl, r_sI]; first | done | omega)) only [x_71_e, x_71_b, x_71_0, x_71_1, x_71_2, x_71_5, x_71_6, x_71_7, x_71_8, x_71_11, x_71_14, x_71_44, x_71_45, x_71_48, x_71_51, x_71_52, x_71_53, x_71_54, x_71_55, x_71_58, x_71_59, x_71_62, x_71_63, x_71_66, x_71_67, x_71_68, x_71_71, x_71_72, x_71_75, x_71_76, x_71_79, x_71_80, x_71_81, x_71_84, x_71_85, x_71_88, x_71_89, x_71_92, x_71_93, x_71_94, x_71_97, x_71_98, x_71_101, x_71_102, x_71_105, x_71_108, x_71_109, x_71_112, x_71_113, bk_v, bk_n, nl_I, nl_R, nl_L, nl_0, oo_lt, oo_le, oo_eq, oo_add, oo_sub, oo_tn, oo_ir, nn_leT, nn_leF, nn_ltT, nn_ltF, nn_eqT, nn_eqF, bv_0, bv_1, ko_b, ko_1, ko_0, true_and, and_true, if_true, if_false, not_true_eq_false, not_false_eq_true, oo_02, decide_eq_true_eq, decide_eq_false_iff_not, ite_not, Nat.reduceAdd, Nat.reduceLT, Nat.reduceSub, Nat.reduceLeDiff, reduceIte, Bool.true_eq_false, Bool.false_eq_true, reduceCtorEq, eq_self, decide_true, decide_false, bv_t, bv_f, and_self, t_si, t_sl, t_sr, t_sI, t_sR, n_si, n_sl, n_sr, n_sI, n_sR, r_si, r_sl, r_sI, c_levAt h hV, c_in, hy, bv_t, c_th1]
    rw [x_71_15.2.2.2.2 _ _ _ _ _ _ hz]
    simp (disch := first | omega | decide | exact ko_b _ | assumption | (simp only [t_si, t_sl, t_sr, t_sI, t_sR, n_si, n_sl, n_sr, n_sI, n_sR, r_si, r_sl, r_sI]; first | done | omega)) only [x_71_e, x_71_b, x_71_0, x_71_1, x_71_2, x_71_5, x_71_6, x_71_7, x_71_8, x_71_11, x_71_14, x_71_15, x_71_44, x_71_45, x_71_48, x_71_51, x_71_52, x_71_53, x_71_54, x_71_55, x_71_58, x_71_59, x_71_62, x_71_63, x_71_66, x_71_67, x_71_68, x_71_71, x_71_72, x_71_75, x_71_76, x_71_79, x_71_80, x_71_81, x_71_84, x_71_85, x_71_88, x_71_89, x_71_92, x_71_93, x_71_94, x_71_97, x_71_98, x_71_101, x_71_102, x_71_105, x_71_108, x_71_109, x_71_112, x_71_113, bk_v, bk_n, nl_I, nl_R, nl_L, nl_0, oo_lt, oo_le, oo_eq, oo_add, oo_sub, oo_tn, oo_ir, nn_leT, nn_leF, nn_ltT, nn_ltF, nn_eqT, nn_eqF, bv_0, bv_1, ko_b, ko_1, ko_0, true_and, and_true, if_true, if_false, not_true_eq_false, not_false_eq_true, oo_02, decide_eq_true_eq, decide_eq_false_iff_not, ite_not, Nat.reduceAdd, Nat.reduceLT, Nat.reduceSub, Nat.reduceLeDiff, reduceIte, Bool.true_eq_false, Bool.false_eq_true, reduceCtorEq, eq_self, decide_true, decide_false, bv_t, bv_f, and_self, t_si, t_sl, t_sr, t_sI, t_sR, n_si, n_sl, n_sr, n_sI, n_sR, r_si, r_sl, r_sI, hC, hr0, hT, hA, hS, hK, hB, hR, q_level, c_held hq]
    cases f_held (sm_T S) (bm_X (sm_B S)) l <;> rfl
  all_goals simp (disch := first | omega | decide | exact ko_b _ | assumption | (simp only [t_si, t_sl, t_sr, t_sI, t_sR, n_si, n_sl, n_sr, n_sI, n_sR, r_si, r_sl, r_sI]; first | done | omega)) only [x_71_e, x_71_b, x_71_0, x_71_1, x_71_2, x_71_5, x_71_6, x_71_7, x_71_8, x_71_11, x_71_14, x_71_15, x_71_44, x_71_45, x_71_48, x_71_51, x_71_52, x_71_53, x_71_54, x_71_55, x_71_58, x_71_59, x_71_62, x_71_63, x_71_66, x_71_67, x_71_68, x_71_71, x_71_72, x_71_75, x_71_76, x_71_79, x_71_80, x_71_81, x_71_84, x_71_85, x_71_88, x_71_89, x_71_92, x_71_93, x_71_94, x_71_97, x_71_98, x_71_101, x_71_102, x_71_105, x_71_108, x_71_109, x_71_112, x_71_113, bk_v, bk_n, nl_I, nl_R, nl_L, nl_0, oo_lt, oo_le, oo_eq, oo_add, oo_sub, oo_tn, oo_ir, nn_leT, nn_leF, nn_ltT, nn_ltF, nn_eqT, nn_eqF, bv_0, bv_1, ko_b, ko_1, ko_0, true_and, and_true, if_true, if_false, not_true_eq_false, not_false_eq_true, oo_02, decide_eq_true_eq, decide_eq_false_iff_not, ite_not, Nat.reduceAdd, Nat.reduceLT, Nat.reduceSub, Nat.reduceLeDiff, reduceIte, Bool.true_eq_false, Bool.false_eq_true, reduceCtorEq, eq_self, decide_true, decide_false, bv_t, bv_f, and_self, t_si, t_sl, t_sr, t_sI, t_sR, n_si, n_sl, n_sr, n_sI, n_sR, r_si, r_sl, r_sI, c_levAt h hV, c_in, hy, bv_t, c_th1, hC, hr0, hT, hA, hS, hK, hB, hR, q_level, c_load hq, c_cb hq, c_tilt hq]
theorem c_level_x (h : RC_ w G σ S) (hV : WS_ S) {d l : Nat} {x : Int32} (hl : l < xm_L (bm_X (sm_B S))) (hx : no_in x 5) : CX_ G (d + 12) 71 [v_R (some 1000), v_I (Int32.ofNat l), v_I x] w 40 := cx_0 fun Q => by
  have hq := RC_CQ h hV
  have hC := h.1
  unfold sh_C at hC
  have hr0 : w_r w 1000 0 = some (gm_b G) := h.2.2.1
  have hT := h.2.2.2.1
  unfold CT_ at hT
  have hA : SO_ w 1008 := h.2.1.2.1.1
  unfold SO_ at hA
  have hA2 : SO_ w 1429 := h.2.1.2.2.2.2
  unfold SO_ at hA2
  have hS : CS_ w 1008 (tm_n (sm_T S)) (bm_X (sm_B S)) := h.2.2.2.2.2.2.2.1.1
  unfold CS_ at hS
  have hK : sh_B w 1007 := h.2.1.1
  unfold sh_B at hK
  have hB := h.2.2.2.2.2.2.2.1.2
  have hR := h.2.2.2.2.2.2.2.2.2
  simp only [Nat.reduceAdd] at hA hA2 hS hK hB
  obtain ⟨hn, hk4⟩ := hV.1
  obtain ⟨hW1, hW2, hW3⟩ := hV.2.2.2.1.1
  have hy := in_no (n := 4) (by omega) hx
  simp (disch := first | omega | decide | exact ko_b _ | assumption | (simp only [t_si, t_sl, t_sr, t_sI, t_sR, n_si, n_sl, n_sr, n_sI, n_sR, r_si, r_sl, r_sI]; first | done | omega)) only [x_71_e, x_71_b, x_71_0, x_71_1, x_71_2, x_71_5, x_71_6, x_71_7, x_71_8, x_71_11, x_71_14, x_71_15, x_71_44, x_71_45, x_71_48, x_71_51, x_71_52, x_71_53, x_71_54, x_71_55, x_71_58, x_71_59, x_71_62, x_71_63, x_71_66, x_71_67, x_71_68, x_71_71, x_71_72, x_71_75, x_71_76, x_71_79, x_71_80, x_71_81, x_71_84, x_71_85, x_71_88, x_71_89, x_71_92, x_71_93, x_71_94, x_71_97, x_71_98, x_71_101, x_71_102, x_71_105, x_71_108, x_71_109, x_71_112, x_71_113, bk_v, bk_n, nl_I, nl_R, nl_L, nl_0, oo_lt, oo_le, oo_eq, oo_add, oo_sub, oo_tn, oo_ir, nn_leT, nn_leF, nn_ltT, nn_ltF, nn_eqT, nn_eqF, bv_0, bv_1, ko_b, ko_1, ko_0, true_and, and_true, if_true, if_false, not_true_eq_false, not_false_eq_true, oo_02, decide_eq_true_eq, decide_eq_false_iff_not, ite_not, Nat.reduceAdd, Nat.reduceLT, Nat.reduceSub, Nat.reduceLeDiff, reduceIte, Bool.true_eq_false, Bool.false_eq_true, reduceCtorEq, eq_self, decide_true, decide_false, bv_t, bv_f, and_self, t_si, t_sl, t_sr, t_sI, t_sR, n_si, n_sl, n_sr, n_sI, n_sR, r_si, r_sl, r_sI, c_levAt h hV, c_in, hy, bv_f, c_th0]
theorem c_level_y (h : RC_ w G σ S) (hV : WS_ S) {d : Nat} {x y : Int32} (hx : no_in y (xm_L (bm_X (sm_B S)))) : CX_ G (d + 12) 71 [v_R (some 1000), v_I y, v_I x] w 40 := cx_0 fun Q => by
  have hq := RC_CQ h hV
  have hC := h.1
  unfold sh_C at hC
  have hr0 : w_r w 1000 0 = some (gm_b G) := h.2.2.1
  have hT := h.2.2.2.1
  unfold CT_ at hT
  have hA : SO_ w 1008 := h.2.1.2.1.1
  unfold SO_ at hA
  have hA2 : SO_ w 1429 := h.2.1.2.2.2.2
  unfold SO_ at hA2
  have hS : CS_ w 1008 (tm_n (sm_T S)) (bm_X (sm_B S)) := h.2.2.2.2.2.2.2.1.1
  unfold CS_ at hS
  have hK : sh_B w 1007 := h.2.1.1
  unfold sh_B at hK
  have hB := h.2.2.2.2.2.2.2.1.2
  have hR := h.2.2.2.2.2.2.2.2.2
  simp only [Nat.reduceAdd] at hA hA2 hS hK hB
  obtain ⟨hn, hk4⟩ := hV.1
  obtain ⟨hW1, hW2, hW3⟩ := hV.2.2.2.1.1
  simp (disch := first | omega | decide | exact ko_b _ | assumption | (simp only [t_si, t_sl, t_sr, t_sI, t_sR, n_si, n_sl, n_sr, n_sI, n_sR, r_si, r_sl, r_sI]; first | done | omega)) only [x_71_e, x_71_b, x_71_0, x_71_1, x_71_2, x_71_5, x_71_6, x_71_7, x_71_8, x_71_11, x_71_14, x_71_15, x_71_44, x_71_45, x_71_48, x_71_51, x_71_52, x_71_53, x_71_54, x_71_55, x_71_58, x_71_59, x_71_62, x_71_63, x_71_66, x_71_67, x_71_68, x_71_71, x_71_72, x_71_75, x_71_76, x_71_79, x_71_80, x_71_81, x_71_84, x_71_85, x_71_88, x_71_89, x_71_92, x_71_93, x_71_94, x_71_97, x_71_98, x_71_101, x_71_102, x_71_105, x_71_108, x_71_109, x_71_112, x_71_113, bk_v, bk_n, nl_I, nl_R, nl_L, nl_0, oo_lt, oo_le, oo_eq, oo_add, oo_sub, oo_tn, oo_ir, nn_leT, nn_leF, nn_ltT, nn_ltF, nn_eqT, nn_eqF, bv_0, bv_1, ko_b, ko_1, ko_0, true_and, and_true, if_true, if_false, not_true_eq_false, not_false_eq_true, oo_02, decide_eq_true_eq, decide_eq_false_iff_not, ite_not, Nat.reduceAdd, Nat.reduceLT, Nat.reduceSub, Nat.reduceLeDiff, reduceIte, Bool.true_eq_false, Bool.false_eq_true, reduceCtorEq, eq_self, decide_true, decide_false, bv_t, bv_f, and_self, t_si, t_sl, t_sr, t_sI, t_sR, n_si, n_sl, n_sr, n_sI, n_sR, r_si, r_sl, r_sI, c_levAt_x h hV hx]
theorem c_moreOf {a d : Nat} {T : Tm} {X : Xm} {Q : Q_} (hC : w_t w 1000 = 20) (hr0 : w_r w 1000 0 = some (gm_b G)) (h : CQ_ w G a T X) : cl (d + 8) 36 [v_R (some 1000), v_R (some a)] w Q = Q (Sum.inl (some (v_I (f_more T X)))) w := by
  have hq := h
  obtain ⟨hT, hA, hS, ⟨hn, hk4⟩, hW1, hW2, hW3⟩ := hq
  unfold CT_ at hT
  unfold SO_ at hA
  unfold CS_ at hS
  unfold f_more
  cases hst : f_st T X with
  | false => simp (disch := first | omega | decide | exact ko_b _ | assumption | (simp only [t_si, t_sl, t_sr, t_sI, t_sR, n_si, n_sl, n_sr, n_sI, n_sR, r_si, r_sl, r_sI]; first | done | omega)) only [x_36_e, x_36_b, x_36_0, x_36_1, x_36_2, x_36_5, x_36_8, x_36_11, x_36_12, x_36_13, x_36_16, x_36_17, x_36_18, x_36_20, x_36_21, x_36_24, x_36_27, x_36_28, x_36_29, x_36_30, x_36_33, x_36_34, x_36_37, x_36_38, x_36_39, x_36_42, x_36_43, x_36_46, x_36_47, x_36_50, x_36_51, x_36_54, x_36_57, x_36_58, bk_v, bk_n, nl_I, nl_R, nl_L, nl_0, oo_lt, oo_le, oo_eq, oo_add, oo_sub, oo_tn, oo_ir, nn_leT, nn_leF, nn_ltT, nn_ltF, nn_eqT, nn_eqF, bv_0, bv_1, ko_b, ko_1, ko_0, true_and, and_true, if_true, if_false, not_true_eq_false, not_false_eq_true, oo_02, decide_eq_true_eq, decide_eq_false_iff_not, ite_not, Nat.reduceAdd, Nat.reduceLT, Nat.reduceSub, Nat.reduceLeDiff, reduceIte, Bool.true_eq_false, Bool.false_eq_true, reduceCtorEq, eq_self, decide_true, decide_false, bv_t, bv_f, and_self, t_si, t_sl, t_sr, t_sI, t_sR, n_si, n_sl, n_sr, n_sI, n_sR, r_si, r_sl, r_sI, hT, hA, hS, hr0, c_st h, hst]
  | true =>
    simp (disch := first | omega | decide | exact ko_b _ | assumption | (simp only [t_si, t_sl, t_sr, t_sI, t_sR, n_si, n_sl, n_sr, n_sI, n_sR, r_si, r_sl, r_sI]; first | done | omega)) only [x_36_e, x_36_b, x_36_0, x_36_1, x_36_2, x_36_5, x_36_8, x_36_11, x_36_12, x_36_13, x_36_16, x_36_17, x_36_18, x_36_20, x_36_21, x_36_24, x_36_27, x_36_28, x_36_29, x_36_30, x_36_33, x_36_34, x_36_37, x_36_38, x_36_39, x_36_42, x_36_43, x_36_46, x_36_47, x_36_50, x_36_51, x_36_54, x_36_57, x_36_58, bk_v, bk_n, nl_I, nl_R, nl_L, nl_0, oo_lt, oo_le, oo_eq, oo_add, oo_sub, oo_tn, oo_ir, nn_leT, nn_leF, nn_ltT, nn_ltF, nn_eqT, nn_eqF, bv_0, bv_1, ko_b, ko_1, ko_0, true_and, and_true, if_true, if_false, not_true_eq_false, not_false_eq_true, oo_02, decide_eq_true_eq, decide_eq_false_iff_not, ite_not, Nat.reduceAdd, Nat.reduceLT, Nat.reduceSub, Nat.reduceLeDiff, reduceIte, Bool.true_eq_false, Bool.false_eq_true, reduceCtorEq, eq_self, decide_true, decide_false, bv_t, bv_f, and_self, t_si, t_sl, t_sr, t_sI, t_sR, n_si, n_sl, n_sr, n_sI, n_sR, r_si, r_sl, r_sI, hT, hA, hS, hr0, c_st h, hst]
    refine lp_io (fun j v => wp (d + 8) 36 19 [some (v_R (some 1000)), some (v_R (some a)), some (v_I v), some (v_I (Int32.ofNat j))] [] w Q) (fun v => Q (Sum.inl (some (v_I v))) w) (fun l v => i_mn v (f_cb T X l - f_load T X l)) (xm_L X) 0 _ (fun j v h1 hj => ?_) (fun v => ?_)
    · rw [x_36_19]
      simp (disch := first | omega | decide | exact ko_b _ | assumption | (simp only [t_si, t_sl, t_sr, t_sI, t_sR, n_si, n_sl, n_sr, n_sI, n_sR, r_si, r_sl, r_sI]; first | done | omega)) only [x_36_e, x_36_b, x_36_0, x_36_1, x_36_2, x_36_5, x_36_8, x_36_11, x_36_12, x_36_13, x_36_16, x_36_17, x_36_18, x_36_20, x_36_21, x_36_24, x_36_27, x_36_28, x_36_29, x_36_30, x_36_33, x_36_34, x_36_37, x_36_38, x_36_39, x_36_42, x_36_43, x_36_46, x_36_47, x_36_50, x_36_51, x_36_54, x_36_57, x_36_58, bk_v, bk_n, nl_I, nl_R, nl_L, nl_0, oo_lt, oo_le, oo_eq, oo_add, oo_sub, oo_tn, oo_ir, nn_leT, nn_leF, nn_ltT, nn_ltF, nn_eqT, nn_eqF, bv_0, bv_1, ko_b, ko_1, ko_0, true_and, and_true, if_true, if_false, not_true_eq_false, not_false_eq_true, oo_02, decide_eq_true_eq, decide_eq_false_iff_not, ite_not, Nat.reduceAdd, Nat.reduceLT, Nat.reduceSub, Nat.reduceLeDiff, reduceIte, Bool.true_eq_false, Bool.false_eq_true, reduceCtorEq, eq_self, decide_true, decide_false, bv_t, bv_f, and_self, t_si, t_sl, t_sr, t_sI, t_sR, n_si, n_sl, n_sr, n_sI, n_sR, r_si, r_sl, r_sI, hT, hA, hS, hr0, c_cb h, c_load h, i_mn]
    · rw [x_36_19]
      simp (disch := first | omega | decide | exact ko_b _ | assumption | (simp only [t_si, t_sl, t_sr, t_sI, t_sR, n_si, n_sl, n_sr, n_sI, n_sR, r_si, r_sl, r_sI]; first | done | omega)) only [x_36_e, x_36_b, x_36_0, x_36_1, x_36_2, x_36_5, x_36_8, x_36_11, x_36_12, x_36_13, x_36_16, x_36_17, x_36_18, x_36_20, x_36_21, x_36_24, x_36_27, x_36_28, x_36_29, x_36_30, x_36_33, x_36_34, x_36_37, x_36_38, x_36_39, x_36_42, x_36_43, x_36_46, x_36_47, x_36_50, x_36_51, x_36_54, x_36_57, x_36_58, bk_v, bk_n, nl_I, nl_R, nl_L, nl_0, oo_lt, oo_le, oo_eq, oo_add, oo_sub, oo_tn, oo_ir, nn_leT, nn_leF, nn_ltT, nn_ltF, nn_eqT, nn_eqF, bv_0, bv_1, ko_b, ko_1, ko_0, true_and, and_true, if_true, if_false, not_true_eq_false, not_false_eq_true, oo_02, decide_eq_true_eq, decide_eq_false_iff_not, ite_not, Nat.reduceAdd, Nat.reduceLT, Nat.reduceSub, Nat.reduceLeDiff, reduceIte, Bool.true_eq_false, Bool.false_eq_true, reduceCtorEq, eq_self, decide_true, decide_false, bv_t, bv_f, and_self, t_si, t_sl, t_sr, t_sI, t_sR, n_si, n_sl, n_sr, n_sI, n_sR, r_si, r_sl, r_sI, hT, hA, hS]
theorem c_moreop (h : RC_ w G σ S) (hV : WS_ S) {d : Nat} : CR_ G (d + 12) 35 [v_R (some 1000)] w (v_I (f_more (sm_T S) (bm_X (sm_B S)))) := cr_0 fun Q => by
  have hq := RC_CQ h hV
  have hC := h.1
  unfold sh_C at hC
  have hr0 : w_r w 1000 0 = some (gm_b G) := h.2.2.1
  have hT := h.2.2.2.1
  unfold CT_ at hT
  have hA : SO_ w 1008 := h.2.1.2.1.1
  unfold SO_ at hA
  have hA2 : SO_ w 1429 := h.2.1.2.2.2.2
  unfold SO_ at hA2
  have hS : CS_ w 1008 (tm_n (sm_T S)) (bm_X (sm_B S)) := h.2.2.2.2.2.2.2.1.1
  unfold CS_ at hS
  have hK : sh_B w 1007 := h.2.1.1
  unfold sh_B at hK
  have hB := h.2.2.2.2.2.2.2.1.2
  have hR := h.2.2.2.2.2.2.2.2.2
  simp only [Nat.reduceAdd] at hA hA2 hS hK hB
  obtain ⟨hn, hk4⟩ := hV.1
  obtain ⟨hW1, hW2, hW3⟩ := hV.2.2.2.1.1
  simp (disch := first | omega | decide | exact ko_b _ | assumption | (simp only [t_si, t_sl, t_sr, t_sI, t_sR, n_si, n_sl, n_sr, n_sI, n_sR, r_si, r_sl, r_sI]; first | done | omega)) only [x_35_e, x_35_b, x_35_0, x_35_1, x_35_2, x_35_5, x_35_8, bk_v, bk_n, nl_I, nl_R, nl_L, nl_0, oo_lt, oo_le, oo_eq, oo_add, oo_sub, oo_tn, oo_ir, nn_leT, nn_leF, nn_ltT, nn_ltF, nn_eqT, nn_eqF, bv_0, bv_1, ko_b, ko_1, ko_0, true_and, and_true, if_true, if_false, not_true_eq_false, not_false_eq_true, oo_02, decide_eq_true_eq, decide_eq_false_iff_not, ite_not, Nat.reduceAdd, Nat.reduceLT, Nat.reduceSub, Nat.reduceLeDiff, reduceIte, Bool.true_eq_false, Bool.false_eq_true, reduceCtorEq, eq_self, decide_true, decide_false, bv_t, bv_f, and_self, t_si, t_sl, t_sr, t_sI, t_sR, n_si, n_sl, n_sr, n_sI, n_sR, r_si, r_sl, r_sI, hC, hr0, hT, hA, hS, hK, hB, hR, c_moreOf hC.1 hr0 hq]
theorem c_slack (h : RC_ w G σ S) (hV : WS_ S) {d l : Nat} (hl : l < xm_L (bm_X (sm_B S))) : CR_ G (d + 12) 88 [v_R (some 1000), v_I (Int32.ofNat l)] w (v_I (f_cb (sm_T S) (bm_X (sm_B S)) l - f_load (sm_T S) (bm_X (sm_B S)) l)) := cr_0 fun Q => by
  have hq := RC_CQ h hV
  have hC := h.1
  unfold sh_C at hC
  have hr0 : w_r w 1000 0 = some (gm_b G) := h.2.2.1
  have hT := h.2.2.2.1
  unfold CT_ at hT
  have hA : SO_ w 1008 := h.2.1.2.1.1
  unfold SO_ at hA
  have hA2 : SO_ w 1429 := h.2.1.2.2.2.2
  unfold SO_ at hA2
  have hS : CS_ w 1008 (tm_n (sm_T S)) (bm_X (sm_B S)) := h.2.2.2.2.2.2.2.1.1
  unfold CS_ at hS
  have hK : sh_B w 1007 := h.2.1.1
  unfold sh_B at hK
  have hB := h.2.2.2.2.2.2.2.1.2
  have hR := h.2.2.2.2.2.2.2.2.2
  simp only [Nat.reduceAdd] at hA hA2 hS hK hB
  obtain ⟨hn, hk4⟩ := hV.1
  obtain ⟨hW1, hW2, hW3⟩ := hV.2.2.2.1.1
  simp (disch := first | omega | decide | exact ko_b _ | assumption | (simp only [t_si, t_sl, t_sr, t_sI, t_sR, n_si, n_sl, n_sr, n_sI, n_sR, r_si, r_sl, r_sI]; first | done | omega)) only [x_88_e, x_88_b, x_88_0, x_88_1, x_88_2, x_88_5, x_88_6, x_88_9, x_88_10, x_88_13, x_88_14, x_88_17, x_88_18, x_88_21, x_88_22, x_88_25, x_88_26, x_88_29, x_88_30, bk_v, bk_n, nl_I, nl_R, nl_L, nl_0, oo_lt, oo_le, oo_eq, oo_add, oo_sub, oo_tn, oo_ir, nn_leT, nn_leF, nn_ltT, nn_ltF, nn_eqT, nn_eqF, bv_0, bv_1, ko_b, ko_1, ko_0, true_and, and_true, if_true, if_false, not_true_eq_false, not_false_eq_true, oo_02, decide_eq_true_eq, decide_eq_false_iff_not, ite_not, Nat.reduceAdd, Nat.reduceLT, Nat.reduceSub, Nat.reduceLeDiff, reduceIte, Bool.true_eq_false, Bool.false_eq_true, reduceCtorEq, eq_self, decide_true, decide_false, bv_t, bv_f, and_self, t_si, t_sl, t_sr, t_sI, t_sR, n_si, n_sl, n_sr, n_sI, n_sR, r_si, r_sl, r_sI, hC, hr0, hT, hA, hS, hK, hB, hR, c_levAt h hV, c_load hq, c_cb hq]
theorem c_slack_x (h : RC_ w G σ S) (hV : WS_ S) {d : Nat} {y : Int32} (hx : no_in y (xm_L (bm_X (sm_B S)))) : CX_ G (d + 12) 88 [v_R (some 1000), v_I y] w 40 := cx_0 fun Q => by
  have hq := RC_CQ h hV
  have hC := h.1
  unfold sh_C at hC
  have hr0 : w_r w 1000 0 = some (gm_b G) := h.2.2.1
  have hT := h.2.2.2.1
  unfold CT_ at hT
  have hA : SO_ w 1008 := h.2.1.2.1.1
  unfold SO_ at hA
  have hA2 : SO_ w 1429 := h.2.1.2.2.2.2
  unfold SO_ at hA2
  have hS : CS_ w 1008 (tm_n (sm_T S)) (bm_X (sm_B S)) := h.2.2.2.2.2.2.2.1.1
  unfold CS_ at hS
  have hK : sh_B w 1007 := h.2.1.1
  unfold sh_B at hK
  have hB := h.2.2.2.2.2.2.2.1.2
  have hR := h.2.2.2.2.2.2.2.2.2
  simp only [Nat.reduceAdd] at hA hA2 hS hK hB
  obtain ⟨hn, hk4⟩ := hV.1
  obtain ⟨hW1, hW2, hW3⟩ := hV.2.2.2.1.1
  simp (disch := first | omega | decide | exact ko_b _ | assumption | (simp only [t_si, t_sl, t_sr, t_sI, t_sR, n_si, n_sl, n_sr, n_sI, n_sR, r_si, r_sl, r_sI]; first | done | omega)) only [x_88_e, x_88_b, x_88_0, x_88_1, x_88_2, x_88_5, x_88_6, x_88_9, x_88_10, x_88_13, x_88_14, x_88_17, x_88_18, x_88_21, x_88_22, x_88_25, x_88_26, x_88_29, x_88_30, bk_v, bk_n, nl_I, nl_R, nl_L, nl_0, oo_lt, oo_le, oo_eq, oo_add, oo_sub, oo_tn, oo_ir, nn_leT, nn_leF, nn_ltT, nn_ltF, nn_eqT, nn_eqF, bv_0, bv_1, ko_b, ko_1, ko_0, true_and, and_true, if_true, if_false, not_true_eq_false, not_false_eq_true, oo_02, decide_eq_true_eq, decide_eq_false_iff_not, ite_not, Nat.reduceAdd, Nat.reduceLT, Nat.reduceSub, Nat.reduceLeDiff, reduceIte, Bool.true_eq_false, Bool.false_eq_true, reduceCtorEq, eq_self, decide_true, decide_false, bv_t, bv_f, and_self, t_si, t_sl, t_sr, t_sI, t_sR, n_si, n_sl, n_sr, n_sI, n_sR, r_si, r_sl, r_sI, c_levAt_x h hV hx]
theorem c_hung (h : RC_ w G σ S) (hV : WS_ S) {d : Nat} : CR_ G (d + 12) 56 [v_R (some 1000)] w (v_I (f_hung (sm_T S) (bm_X (sm_B S))).1) := cr_0 fun Q => by
  have hq := RC_CQ h hV
  have hC := h.1
  unfold sh_C at hC
  have hr0 : w_r w 1000 0 = some (gm_b G) := h.2.2.1
  have hT := h.2.2.2.1
  unfold CT_ at hT
  have hA : SO_ w 1008 := h.2.1.2.1.1
  unfold SO_ at hA
  have hA2 : SO_ w 1429 := h.2.1.2.2.2.2
  unfold SO_ at hA2
  have hS : CS_ w 1008 (tm_n (sm_T S)) (bm_X (sm_B S)) := h.2.2.2.2.2.2.2.1.1
  unfold CS_ at hS
  have hK : sh_B w 1007 := h.2.1.1
  unfold sh_B at hK
  have hB := h.2.2.2.2.2.2.2.1.2
  have hR := h.2.2.2.2.2.2.2.2.2
  simp only [Nat.reduceAdd] at hA hA2 hS hK hB
  obtain ⟨hn, hk4⟩ := hV.1
  obtain ⟨hW1, hW2, hW3⟩ := hV.2.2.2.1.1
  simp (disch := first | omega | decide | exact ko_b _ | assumption | (simp only [t_si, t_sl, t_sr, t_sI, t_sR, n_si, n_sl, n_sr, n_sI, n_sR, r_si, r_sl, r_sI]; first | done | omega)) only [x_56_e, x_56_b, x_56_0, x_56_1, x_56_2, x_56_3, x_56_4, x_56_5, x_56_7, x_56_8, x_56_11, x_56_14, x_56_15, x_56_18, x_56_21, x_56_22, x_56_25, x_56_28, x_56_31, x_56_32, x_56_35, x_56_38, x_56_39, x_56_40, x_56_41, x_56_43, x_56_44, x_56_47, x_56_48, x_56_51, x_56_52, x_56_55, x_56_57, x_56_58, x_56_61, x_56_64, x_56_65, x_56_66, x_56_68, x_56_69, x_56_72, x_56_75, x_56_76, bk_v, bk_n, nl_I, nl_R, nl_L, nl_0, oo_lt, oo_le, oo_eq, oo_add, oo_sub, oo_tn, oo_ir, nn_leT, nn_leF, nn_ltT, nn_ltF, nn_eqT, nn_eqF, bv_0, bv_1, ko_b, ko_1, ko_0, true_and, and_true, if_true, if_false, not_true_eq_false, not_false_eq_true, oo_02, decide_eq_true_eq, decide_eq_false_iff_not, ite_not, Nat.reduceAdd, Nat.reduceLT, Nat.reduceSub, Nat.reduceLeDiff, reduceIte, Bool.true_eq_false, Bool.false_eq_true, reduceCtorEq, eq_self, decide_true, decide_false, bv_t, bv_f, and_self, t_si, t_sl, t_sr, t_sI, t_sR, n_si, n_sl, n_sr, n_sI, n_sR, r_si, r_sl, r_sI, hC, hr0, hT, hA, hS, hK, hB, hR]
  have hL : ∀ v, (∀ Q' : Q_, Q' = Q → True) → wp (d + 12) 56 6 [some (v_R (some 1000)), some (v_I (Int32.ofInt (-1))), some (v_I (Int32.ofNat 0)), some (v_I (Int32.ofNat 0)), v] [] w Q = Q (Sum.inl (some (v_I (f_hung (sm_T S) (bm_X (sm_B S))).1))) w := by
    intro v _
    refine lp_io (fun j (s : (Int32 × Int32) × Option Vl) => wp (d + 12) 56 6 [some (v_R (some 1000)), some (v_I s.1.1), some (v_I s.1.2), some (v_I (Int32.ofNat j)), s.2] [] w Q) (fun s => Q (Sum.inl (some (v_I s.1.1))) w) (fun t s => ((if (f_lv (bm_X (sm_B S)) t).isNone = true ∨ tm_hg (sm_T S) t - xm_m (bm_X (sm_B S)) t ≤ s.1.2 then s.1 else (Int32.ofNat t, tm_hg (sm_T S) t - xm_m (bm_X (sm_B S)) t)), some (v_I (tm_hg (sm_T S) t - xm_m (bm_X (sm_B S)) t)))) (tm_n (sm_T S)) 0 ((Int32.ofInt (-1), Int32.ofNat 0), v) (fun j s h1 hj => ?_) (fun s => ?_) |>.trans ?_
    · have hb : (o_i (f_lv (bm_X (sm_B S)) j) = Int32.ofInt (-1)) = ((f_lv (bm_X (sm_B S)) j).isNone = true) := oi_m (fun k e => by have := flv_lt e; omega)
      have h3 := hk4 _ (by omega : j < _)
      have h4 : w_t w (gm_pn G j) = 32 + tm_kd (sm_T S) j := by simp (disch := omega) only [hT]
      rw [x_56_6]
      by_cases h2 : (f_lv (bm_X (sm_B S)) j).isNone = true
      · simp (disch := first | omega | decide | exact ko_b _ | assumption | (simp only [t_si, t_sl, t_sr, t_sI, t_sR, n_si, n_sl, n_sr, n_sI, n_sR, r_si, r_sl, r_sI]; first | done | omega)) only [x_56_e, x_56_b, x_56_0, x_56_1, x_56_2, x_56_3, x_56_4, x_56_5, x_56_7, x_56_8, x_56_11, x_56_14, x_56_15, x_56_18, x_56_21, x_56_22, x_56_25, x_56_28, x_56_31, x_56_32, x_56_35, x_56_38, x_56_39, x_56_40, x_56_41, x_56_43, x_56_44, x_56_47, x_56_48, x_56_51, x_56_52, x_56_55, x_56_57, x_56_58, x_56_61, x_56_64, x_56_65, x_56_66, x_56_68, x_56_69, x_56_72, x_56_75, x_56_76, bk_v, bk_n, nl_I, nl_R, nl_L, nl_0, oo_lt, oo_le, oo_eq, oo_add, oo_sub, oo_tn, oo_ir, nn_leT, nn_leF, nn_ltT, nn_ltF, nn_eqT, nn_eqF, bv_0, bv_1, ko_b, ko_1, ko_0, true_and, and_true, if_true, if_false, not_true_eq_false, not_false_eq_true, oo_02, decide_eq_true_eq, decide_eq_false_iff_not, ite_not, Nat.reduceAdd, Nat.reduceLT, Nat.reduceSub, Nat.reduceLeDiff, reduceIte, Bool.true_eq_false, Bool.false_eq_true, reduceCtorEq, eq_self, decide_true, decide_false, bv_t, bv_f, and_self, t_si, t_sl, t_sr, t_sI, t_sR, n_si, n_sl, n_sr, n_sI, n_sR, r_si, r_sl, r_sI, hC, hr0, hT, hA, hS, hK, hB, hR, c_tables h hV, c_tab hq.1 hV.1, c_lv hq, hb, h2, true_or]
      · by_cases h3 : tm_hg (sm_T S) j - xm_m (bm_X (sm_B S)) j ≤ s.1.2
        · simp (disch := first | omega | decide | exact ko_b _ | assumption | (simp only [t_si, t_sl, t_sr, t_sI, t_sR, n_si, n_sl, n_sr, n_sI, n_sR, r_si, r_sl, r_sI]; first | done | omega)) only [x_56_e, x_56_b, x_56_0, x_56_1, x_56_2, x_56_3, x_56_4, x_56_5, x_56_7, x_56_8, x_56_11, x_56_14, x_56_15, x_56_18, x_56_21, x_56_22, x_56_25, x_56_28, x_56_31, x_56_32, x_56_35, x_56_38, x_56_39, x_56_40, x_56_41, x_56_43, x_56_44, x_56_47, x_56_48, x_56_51, x_56_52, x_56_55, x_56_57, x_56_58, x_56_61, x_56_64, x_56_65, x_56_66, x_56_68, x_56_69, x_56_72, x_56_75, x_56_76, bk_v, bk_n, nl_I, nl_R, nl_L, nl_0, oo_lt, oo_le, oo_eq, oo_add, oo_sub, oo_tn, oo_ir, nn_leT, nn_leF, nn_ltT, nn_ltF, nn_eqT, nn_eqF, bv_0, bv_1, ko_b, ko_1, ko_0, true_and, and_true, if_true, if_false, not_true_eq_false, not_false_eq_true, oo_02, decide_eq_true_eq, decide_eq_false_iff_not, ite_not, Nat.reduceAdd, Nat.reduceLT, Nat.reduceSub, Nat.reduceLeDiff, reduceIte, Bool.true_eq_false, Bool.false_eq_true, reduceCtorEq, eq_self, decide_true, decide_false, bv_t, bv_f, and_self, t_si, t_sl, t_sr, t_sI, t_sR, n_si, n_sl, n_sr, n_sI, n_sR, r_si, r_sl, r_sI, hC, hr0, hT, hA, hS, hK, hB, hR, c_tables h hV, c_tab hq.1 hV.1, c_lv hq, hb, h2, h3, or_true, Int32.not_lt.mpr h3]
        · simp (disch := first | omega | decide | exact ko_b _ | assumption | (simp only [t_si, t_sl, t_sr, t_sI, t_sR, n_si, n_sl, n_sr, n_sI, n_sR, r_si, r_sl, r_sI]; first | done | omega)) only [x_56_e, x_56_b, x_56_0, x_56_1, x_56_2, x_56_3, x_56_4, x_56_5, x_56_7, x_56_8, x_56_11, x_56_14, x_56_15, x_56_18, x_56_21, x_56_22, x_56_25, x_56_28, x_56_31, x_56_32, x_56_35, x_56_38, x_56_39, x_56_40, x_56_41, x_56_43, x_56_44, x_56_47, x_56_48, x_56_51, x_56_52, x_56_55, x_56_57, x_56_58, x_56_61, x_56_64, x_56_65, x_56_66, x_56_68, x_56_69, x_56_72, x_56_75, x_56_76, bk_v, bk_n, nl_I, nl_R, nl_L, nl_0, oo_lt, oo_le, oo_eq, oo_add, oo_sub, oo_tn, oo_ir, nn_leT, nn_leF, nn_ltT, nn_ltF, nn_eqT, nn_eqF, bv_0, bv_1, ko_b, ko_1, ko_0, true_and, and_true, if_true, if_false, not_true_eq_false, not_false_eq_true, oo_02, decide_eq_true_eq, decide_eq_false_iff_not, ite_not, Nat.reduceAdd, Nat.reduceLT, Nat.reduceSub, Nat.reduceLeDiff, reduceIte, Bool.true_eq_false, Bool.false_eq_true, reduceCtorEq, eq_self, decide_true, decide_false, bv_t, bv_f, and_self, t_si, t_sl, t_sr, t_sI, t_sR, n_si, n_sl, n_sr, n_sI, n_sR, r_si, r_sl, r_sI, hC, hr0, hT, hA, hS, hK, hB, hR, c_tables h hV, c_tab hq.1 hV.1, c_lv hq, hb, h2, h3, or_false, Int32.not_le.mp h3]
    · rw [x_56_6]
      simp (disch := first | omega | decide | exact ko_b _ | assumption | (simp only [t_si, t_sl, t_sr, t_sI, t_sR, n_si, n_sl, n_sr, n_sI, n_sR, r_si, r_sl, r_sI]; first | done | omega)) only [x_56_e, x_56_b, x_56_0, x_56_1, x_56_2, x_56_3, x_56_4, x_56_5, x_56_7, x_56_8, x_56_11, x_56_14, x_56_15, x_56_18, x_56_21, x_56_22, x_56_25, x_56_28, x_56_31, x_56_32, x_56_35, x_56_38, x_56_39, x_56_40, x_56_41, x_56_43, x_56_44, x_56_47, x_56_48, x_56_51, x_56_52, x_56_55, x_56_57, x_56_58, x_56_61, x_56_64, x_56_65, x_56_66, x_56_68, x_56_69, x_56_72, x_56_75, x_56_76, bk_v, bk_n, nl_I, nl_R, nl_L, nl_0, oo_lt, oo_le, oo_eq, oo_add, oo_sub, oo_tn, oo_ir, nn_leT, nn_leF, nn_ltT, nn_ltF, nn_eqT, nn_eqF, bv_0, bv_1, ko_b, ko_1, ko_0, true_and, and_true, if_true, if_false, not_true_eq_false, not_false_eq_true, oo_02, decide_eq_true_eq, decide_eq_false_iff_not, ite_not, Nat.reduceAdd, Nat.reduceLT, Nat.reduceSub, Nat.reduceLeDiff, reduceIte, Bool.true_eq_false, Bool.false_eq_true, reduceCtorEq, eq_self, decide_true, decide_false, bv_t, bv_f, and_self, t_si, t_sl, t_sr, t_sI, t_sR, n_si, n_sl, n_sr, n_sI, n_sR, r_si, r_sl, r_sI, hC, hr0, hT, hA, hS, hK, hB, hR, c_tables h hV]
    · have e : ∀ (n k : Nat) (s : (Int32 × Int32) × Option Vl), (it_ (fun t s => ((if (f_lv (bm_X (sm_B S)) t).isNone = true ∨ tm_hg (sm_T S) t - xm_m (bm_X (sm_B S)) t ≤ s.1.2 then s.1 else (Int32.ofNat t, tm_hg (sm_T S) t - xm_m (bm_X (sm_B S)) t)), some (v_I (tm_hg (sm_T S) t - xm_m (bm_X (sm_B S)) t)))) k n s).1 = it_ (fun t s => if (f_lv (bm_X (sm_B S)) t).isNone = true ∨ tm_hg (sm_T S) t - xm_m (bm_X (sm_B S)) t ≤ s.2 then s else (Int32.ofNat t, tm_hg (sm_T S) t - xm_m (bm_X (sm_B S)) t)) k n s.1 := by
        intro n
        induction n with
        | zero => intro k s; rfl
        | succ n ih => intro k s; exact ih _ _
      rw [e]
      rfl
  exact hL none (fun _ _ => trivial)
theorem c_crk (h : RC_ w G σ S) (hV : WS_ S) {d : Nat} : CR_ G (d + 12) 53 [v_R (some 1000)] w (v_I (o_i (f_crk (sm_T S) (bm_X (sm_B S))))) := cr_0 fun Q => by
  have hq := RC_CQ h hV
  have hC := h.1
  unfold sh_C at hC
  have hr0 : w_r w 1000 0 = some (gm_b G) := h.2.2.1
  have hT := h.2.2.2.1
  unfold CT_ at hT
  have hA : SO_ w 1008 := h.2.1.2.1.1
  unfold SO_ at hA
  have hA2 : SO_ w 1429 := h.2.1.2.2.2.2
  unfold SO_ at hA2
  have hS : CS_ w 1008 (tm_n (sm_T S)) (bm_X (sm_B S)) := h.2.2.2.2.2.2.2.1.1
  unfold CS_ at hS
  have hK : sh_B w 1007 := h.2.1.1
  unfold sh_B at hK
  have hB := h.2.2.2.2.2.2.2.1.2
  have hR := h.2.2.2.2.2.2.2.2.2
  simp only [Nat.reduceAdd] at hA hA2 hS hK hB
  obtain ⟨hn, hk4⟩ := hV.1
  obtain ⟨hW1, hW2, hW3⟩ := hV.2.2.2.1.1
  simp (disch := first | omega | decide | exact ko_b _ | assumption | (simp only [t_si, t_sl, t_sr, t_sI, t_sR, n_si, n_sl, n_sr, n_sI, n_sR, r_si, r_sl, r_sI]; first | done | omega)) only [x_53_e, x_53_b, x_53_0, x_53_1, x_53_2, x_53_3, x_53_5, x_53_6, x_53_9, x_53_12, x_53_15, x_53_16, x_53_17, x_53_20, x_53_21, x_53_24, x_53_25, x_53_28, x_53_29, x_53_32, x_53_35, x_53_36, x_53_39, x_53_40, x_53_43, x_53_44, x_53_47, x_53_50, x_53_53, x_53_54, x_53_55, x_53_58, x_53_61, x_53_62, bk_v, bk_n, nl_I, nl_R, nl_L, nl_0, oo_lt, oo_le, oo_eq, oo_add, oo_sub, oo_tn, oo_ir, nn_leT, nn_leF, nn_ltT, nn_ltF, nn_eqT, nn_eqF, bv_0, bv_1, ko_b, ko_1, ko_0, true_and, and_true, if_true, if_false, not_true_eq_false, not_false_eq_true, oo_02, decide_eq_true_eq, decide_eq_false_iff_not, ite_not, Nat.reduceAdd, Nat.reduceLT, Nat.reduceSub, Nat.reduceLeDiff, reduceIte, Bool.true_eq_false, Bool.false_eq_true, reduceCtorEq, eq_self, decide_true, decide_false, bv_t, bv_f, and_self, t_si, t_sl, t_sr, t_sI, t_sR, n_si, n_sl, n_sr, n_sI, n_sR, r_si, r_sl, r_sI, hC, hr0, hT, hA, hS, hK, hB, hR]
  rw [← o_i_n]
  refine lp_iv (fun j b => wp (d + 12) 53 4 [some (v_R (some 1000)), some (v_I (o_i b)), some (v_I (Int32.ofNat j))] [] w Q) (fun b => Q (Sum.inl (some (v_I (o_i b)))) w) (fun _ b => ∀ k, b = some k → k < xm_L (bm_X (sm_B S))) _ (xm_L (bm_X (sm_B S))) 0 none (fun k e => by cases e) (fun j b h1 hj hI => ?_) (fun b _ => ?_)
  · rw [x_53_4]
    cases b with
    | none =>
      refine ⟨?_, fun k e => by cases e; omega⟩
      simp (disch := first | omega | decide | exact ko_b _ | assumption | (simp only [t_si, t_sl, t_sr, t_sI, t_sR, n_si, n_sl, n_sr, n_sI, n_sR, r_si, r_sl, r_sI]; first | done | omega)) only [x_53_e, x_53_b, x_53_0, x_53_1, x_53_2, x_53_3, x_53_5, x_53_6, x_53_9, x_53_12, x_53_15, x_53_16, x_53_17, x_53_20, x_53_21, x_53_24, x_53_25, x_53_28, x_53_29, x_53_32, x_53_35, x_53_36, x_53_39, x_53_40, x_53_43, x_53_44, x_53_47, x_53_50, x_53_53, x_53_54, x_53_55, x_53_58, x_53_61, x_53_62, bk_v, bk_n, nl_I, nl_R, nl_L, nl_0, oo_lt, oo_le, oo_eq, oo_add, oo_sub, oo_tn, oo_ir, nn_leT, nn_leF, nn_ltT, nn_ltF, nn_eqT, nn_eqF, bv_0, bv_1, ko_b, ko_1, ko_0, true_and, and_true, if_true, if_false, not_true_eq_false, not_false_eq_true, oo_02, decide_eq_true_eq, decide_eq_false_iff_not, ite_not, Nat.reduceAdd, Nat.reduceLT, Nat.reduceSub, Nat.reduceLeDiff, reduceIte, Bool.true_eq_false, Bool.false_eq_true, reduceCtorEq, eq_self, decide_true, decide_false, bv_t, bv_f, and_self, t_si, t_sl, t_sr, t_sI, t_sR, n_si, n_sl, n_sr, n_sI, n_sR, r_si, r_sl, r_sI, hC, hr0, hT, hA, hS, hK, hB, hR, o_i_n, o_i_s]
    | some k =>
      have hk := hI k rfl
      have hne : (Int32.ofNat k = Int32.ofInt (-1)) = False := by
        rw [← o_i_s, oi_m (fun j e => by cases e; omega)]
        exact eq_false (fun z => by cases z)
      by_cases h2 : i_ab (f_tilt (sm_T S) (bm_X (sm_B S)) k) < i_ab (f_tilt (sm_T S) (bm_X (sm_B S)) j)
      · have h3 := Int32.not_le.mpr h2
        refine ⟨?_, fun i e => by simp only [h2, if_true] at e; cases e; omega⟩
        unfold i_ab at h2 h3 ⊢
        simp (disch := first | omega | decide | exact ko_b _ | assumption | (simp only [t_si, t_sl, t_sr, t_sI, t_sR, n_si, n_sl, n_sr, n_sI, n_sR, r_si, r_sl, r_sI]; first | done | omega)) only [x_53_e, x_53_b, x_53_0, x_53_1, x_53_2, x_53_3, x_53_5, x_53_6, x_53_9, x_53_12, x_53_15, x_53_16, x_53_17, x_53_20, x_53_21, x_53_24, x_53_25, x_53_28, x_53_29, x_53_32, x_53_35, x_53_36, x_53_39, x_53_40, x_53_43, x_53_44, x_53_47, x_53_50, x_53_53, x_53_54, x_53_55, x_53_58, x_53_61, x_53_62, bk_v, bk_n, nl_I, nl_R, nl_L, nl_0, oo_lt, oo_le, oo_eq, oo_add, oo_sub, oo_tn, oo_ir, nn_leT, nn_leF, nn_ltT, nn_ltF, nn_eqT, nn_eqF, bv_0, bv_1, ko_b, ko_1, ko_0, true_and, and_true, if_true, if_false, not_true_eq_false, not_false_eq_true, oo_02, decide_eq_true_eq, decide_eq_false_iff_not, ite_not, Nat.reduceAdd, Nat.reduceLT, Nat.reduceSub, Nat.reduceLeDiff, reduceIte, Bool.true_eq_false, Bool.false_eq_true, reduceCtorEq, eq_self, decide_true, decide_false, bv_t, bv_f, and_self, t_si, t_sl, t_sr, t_sI, t_sR, n_si, n_sl, n_sr, n_sI, n_sR, r_si, r_sl, r_sI, hC, hr0, hT, hA, hS, hK, hB, hR, o_i_s, hne, c_tilt hq, h2, h3]
      · have h3 := Int32.not_lt.mp h2
        refine ⟨?_, fun i e => by simp only [h2, if_false] at e; cases e; omega⟩
        unfold i_ab at h2 h3 ⊢
        simp (disch := first | omega | decide | exact ko_b _ | assumption | (simp only [t_si, t_sl, t_sr, t_sI, t_sR, n_si, n_sl, n_sr, n_sI, n_sR, r_si, r_sl, r_sI]; first | done | omega)) only [x_53_e, x_53_b, x_53_0, x_53_1, x_53_2, x_53_3, x_53_5, x_53_6, x_53_9, x_53_12, x_53_15, x_53_16, x_53_17, x_53_20, x_53_21, x_53_24, x_53_25, x_53_28, x_53_29, x_53_32, x_53_35, x_53_36, x_53_39, x_53_40, x_53_43, x_53_44, x_53_47, x_53_50, x_53_53, x_53_54, x_53_55, x_53_58, x_53_61, x_53_62, bk_v, bk_n, nl_I, nl_R, nl_L, nl_0, oo_lt, oo_le, oo_eq, oo_add, oo_sub, oo_tn, oo_ir, nn_leT, nn_leF, nn_ltT, nn_ltF, nn_eqT, nn_eqF, bv_0, bv_1, ko_b, ko_1, ko_0, true_and, and_true, if_true, if_false, not_true_eq_false, not_false_eq_true, oo_02, decide_eq_true_eq, decide_eq_false_iff_not, ite_not, Nat.reduceAdd, Nat.reduceLT, Nat.reduceSub, Nat.reduceLeDiff, reduceIte, Bool.true_eq_false, Bool.false_eq_true, reduceCtorEq, eq_self, decide_true, decide_false, bv_t, bv_f, and_self, t_si, t_sl, t_sr, t_sI, t_sR, n_si, n_sl, n_sr, n_sI, n_sR, r_si, r_sl, r_sI, hC, hr0, hT, hA, hS, hK, hB, hR, o_i_s, hne, c_tilt hq, h2, h3]
  · rw [x_53_4]
    simp (disch := first | omega | decide | exact ko_b _ | assumption | (simp only [t_si, t_sl, t_sr, t_sI, t_sR, n_si, n_sl, n_sr, n_sI, n_sR, r_si, r_sl, r_sI]; first | done | omega)) only [x_53_e, x_53_b, x_53_0, x_53_1, x_53_2, x_53_3, x_53_5, x_53_6, x_53_9, x_53_12, x_53_15, x_53_16, x_53_17, x_53_20, x_53_21, x_53_24, x_53_25, x_53_28, x_53_29, x_53_32, x_53_35, x_53_36, x_53_39, x_53_40, x_53_43, x_53_44, x_53_47, x_53_50, x_53_53, x_53_54, x_53_55, x_53_58, x_53_61, x_53_62, bk_v, bk_n, nl_I, nl_R, nl_L, nl_0, oo_lt, oo_le, oo_eq, oo_add, oo_sub, oo_tn, oo_ir, nn_leT, nn_leF, nn_ltT, nn_ltF, nn_eqT, nn_eqF, bv_0, bv_1, ko_b, ko_1, ko_0, true_and, and_true, if_true, if_false, not_true_eq_false, not_false_eq_true, oo_02, decide_eq_true_eq, decide_eq_false_iff_not, ite_not, Nat.reduceAdd, Nat.reduceLT, Nat.reduceSub, Nat.reduceLeDiff, reduceIte, Bool.true_eq_false, Bool.false_eq_true, reduceCtorEq, eq_self, decide_true, decide_false, bv_t, bv_f, and_self, t_si, t_sl, t_sr, t_sI, t_sR, n_si, n_sl, n_sr, n_sI, n_sR, r_si, r_sl, r_sI, hC, hr0, hT, hA, hS, hK, hB, hR]
end
