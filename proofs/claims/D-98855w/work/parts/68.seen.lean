/-! WHAT WAS SEEN: whether a state is as it was seen -/
set_option maxRecDepth 100000
def f_seen (T : Tm) (X : Xm) (B : Bm) : Bool := (ff_ (fun k => !decide (bm_l B k < xm_L X ∧ f_tilt T X (bm_l B k) = bm_t B k)) 0 (bm_m B)).isNone
section
variable {w : Wd} {S : Sm} {G : Gm} {σ : Nat → Nat}
theorem m_isL2 {T : Tm} {X : Xm} (h : MQ_ w T X) {d : Nat} {x : Int32} {Q : Q_} : cl (d + 1) 195 [v_R (some 1440), v_I x] w Q = Q (Sum.inl (some (v_I (b_v (decide (Int32.ofNat 0 ≤ x ∧ x ≤ Int32.ofNat (xm_L X) - Int32.ofNat 1)))))) w := by
  have hq := h
  obtain ⟨hM, hT, hS, ⟨hn, hk4⟩, hW1, hW2, hW3⟩ := hq
  unfold sh_M at hM
  unfold MT_ at hT
  unfold MS_ at hS
  rw [x_195_e]
  simp (disch := first | omega | decide | exact ko_b _ | assumption | (simp only [t_si, t_sl, t_sr, t_sI, t_sR, n_si, n_sl, n_sr, n_sI, n_sR, r_si, r_sl, r_sI]; first | done | omega)) only [x_195_b, x_195_0, x_195_1, x_195_2, x_195_3, x_195_4, x_195_7, x_195_8, x_195_9, x_195_10, x_195_13, bk_v, hM, hS, oo_tn, oo_ir, true_and, m_in, ll_o, ll_le, Nat.reduceAdd, ko_b]
theorem m_seen {T : Tm} {X : Xm} {B : Bm} (h : MQ_ w T X) {d : Nat} {Q : Q_} (hm : w_i w 1440 32 = Int32.ofNat (bm_m B)) (hm8 : bm_m B ≤ 8) (h66 : ∀ k, k < bm_m B → w_i w 1466 k = Int32.ofNat (bm_l B k)) (h67 : ∀ k, k < bm_m B → w_i w 1467 k = bm_t B k) (hl : ∀ k, k < bm_m B → bm_l B k < 10) : cl (d + 2) 250 [v_R (some 1440)] w Q = Q (Sum.inl (some (v_I (b_v (f_seen T X B))))) w := by
  have hq := h
  obtain ⟨hM, hT, hS, ⟨hn, hk4⟩, hW1, hW2, hW3⟩ := hq
  unfold sh_M at hM
  unfold MT_ at hT
  unfold MS_ at hS
  have key := lp_fo (fun k => wp (d + 2) 250 2 [some (v_R (some 1440)), some (v_I (Int32.ofNat k))] [] w Q) (fun o => Q (Sum.inl (some (v_I (b_v o.isNone)))) w) (fun k => !decide (bm_l B k < xm_L X ∧ f_tilt T X (bm_l B k) = bm_t B k)) (bm_m B) 0 (fun k _ hk => ?_) ?_
  · unfold f_seen
    rw [← key]
    simp (disch := first | omega | decide | exact ko_b _ | assumption | (simp only [t_si, t_sl, t_sr, t_sI, t_sR, n_si, n_sl, n_sr, n_sI, n_sR, r_si, r_sl, r_sI]; first | done | omega)) only [x_250_e, x_250_b, x_250_0, x_250_1, bk_v, bk_n, nl_I, nl_R, nl_L, nl_0, oo_lt, oo_le, oo_eq, oo_add, oo_sub, oo_tn, oo_ir, nn_leT, nn_leF, nn_ltT, nn_ltF, nn_eqT, nn_eqF, bv_0, bv_1, ko_b, ko_1, ko_0, true_and, and_true, if_true, if_false, not_true_eq_false, not_false_eq_true, oo_02, decide_eq_true_eq, decide_eq_false_iff_not, ite_not, Nat.reduceAdd, Nat.reduceLT, Nat.reduceSub, Nat.reduceLeDiff, reduceIte, Bool.true_eq_false, Bool.false_eq_true, reduceCtorEq, eq_self, decide_true, decide_false, bv_t, bv_f, and_self, t_si, t_sl, t_sr, t_sI, t_sR, n_si, n_sl, n_sr, n_sI, n_sR, r_si, r_sl, r_sI]
  · have hlk := hl k (by omega)
    rw [x_250_2]
    by_cases c : bm_l B k < xm_L X
    · have hy := oo_yes c (by omega)
      rw [oo_sub (by omega)] at hy
      by_cases c2 : f_tilt T X (bm_l B k) = bm_t B k
      · simp (disch := first | omega | decide | exact ko_b _ | assumption | (simp only [t_si, t_sl, t_sr, t_sI, t_sR, n_si, n_sl, n_sr, n_sI, n_sR, r_si, r_sl, r_sI]; first | done | omega)) only [x_250_e, x_250_b, x_250_3, x_250_4, x_250_7, x_250_10, x_250_11, x_250_12, x_250_15, x_250_16, x_250_17, x_250_20, x_250_23, x_250_24, x_250_25, x_250_28, x_250_29, x_250_30, x_250_33, x_250_34, x_250_37, x_250_38, x_250_39, x_250_42, x_250_43, x_250_44, x_250_47, x_250_50, x_250_51, bk_v, bk_n, nl_I, nl_R, nl_L, nl_0, oo_lt, oo_le, oo_eq, oo_add, oo_sub, oo_tn, oo_ir, nn_leT, nn_leF, nn_ltT, nn_ltF, nn_eqT, nn_eqF, bv_0, bv_1, ko_b, ko_1, ko_0, true_and, and_true, if_true, if_false, not_true_eq_false, not_false_eq_true, oo_02, decide_eq_true_eq, decide_eq_false_iff_not, ite_not, Nat.reduceAdd, Nat.reduceLT, Nat.reduceSub, Nat.reduceLeDiff, reduceIte, Bool.true_eq_false, Bool.false_eq_true, reduceCtorEq, eq_self, decide_true, decide_false, bv_t, bv_f, and_self, t_si, t_sl, t_sr, t_sI, t_sR, n_si, n_sl, n_sr, n_sI, n_sR, r_si, r_sl, r_sI, hM, hT, hS, hm, h66, h67, m_isL2 h, hy, c, c2, m_tilt h, Bool.not_true]
      · simp (disch := first | omega | decide | exact ko_b _ | assumption | (simp only [t_si, t_sl, t_sr, t_sI, t_sR, n_si, n_sl, n_sr, n_sI, n_sR, r_si, r_sl, r_sI]; first | done | omega)) only [x_250_e, x_250_b, x_250_3, x_250_4, x_250_7, x_250_10, x_250_11, x_250_12, x_250_15, x_250_16, x_250_17, x_250_20, x_250_23, x_250_24, x_250_25, x_250_28, x_250_29, x_250_30, x_250_33, x_250_34, x_250_37, x_250_38, x_250_39, x_250_42, x_250_43, x_250_44, x_250_47, x_250_50, x_250_51, bk_v, bk_n, nl_I, nl_R, nl_L, nl_0, oo_lt, oo_le, oo_eq, oo_add, oo_sub, oo_tn, oo_ir, nn_leT, nn_leF, nn_ltT, nn_ltF, nn_eqT, nn_eqF, bv_0, bv_1, ko_b, ko_1, ko_0, true_and, and_true, if_true, if_false, not_true_eq_false, not_false_eq_true, oo_02, decide_eq_true_eq, decide_eq_false_iff_not, ite_not, Nat.reduceAdd, Nat.reduceLT, Nat.reduceSub, Nat.reduceLeDiff, reduceIte, Bool.true_eq_false, Bool.false_eq_true, reduceCtorEq, eq_self, decide_true, decide_false, bv_t, bv_f, and_self, t_si, t_sl, t_sr, t_sI, t_sR, n_si, n_sl, n_sr, n_sI, n_sR, r_si, r_sl, r_sI, hM, hT, hS, hm, h66, h67, m_isL2 h, hy, c, c2, m_tilt h, and_false, Bool.not_false, Option.isNone_some]
    · have hy := oo_no (x := Int32.ofNat (bm_l B k)) (n := xm_L X) (by omega) (Or.inr ⟨bm_l B k, by omega, by omega, rfl⟩)
      have hy2 : ¬ Int32.ofNat (bm_l B k) ≤ Int32.ofNat (xm_L X) - Int32.ofNat 1 := fun z => hy ⟨by rw [oo_le (by omega) (by omega)]; omega, z⟩
      simp (disch := first | omega | decide | exact ko_b _ | assumption | (simp only [t_si, t_sl, t_sr, t_sI, t_sR, n_si, n_sl, n_sr, n_sI, n_sR, r_si, r_sl, r_sI]; first | done | omega)) only [x_250_e, x_250_b, x_250_3, x_250_4, x_250_7, x_250_10, x_250_11, x_250_12, x_250_15, x_250_16, x_250_17, x_250_20, x_250_23, x_250_24, x_250_25, x_250_28, x_250_29, x_250_30, x_250_33, x_250_34, x_250_37, x_250_38, x_250_39, x_250_42, x_250_43, x_250_44, x_250_47, x_250_50, x_250_51, bk_v, bk_n, nl_I, nl_R, nl_L, nl_0, oo_lt, oo_le, oo_eq, oo_add, oo_sub, oo_tn, oo_ir, nn_leT, nn_leF, nn_ltT, nn_ltF, nn_eqT, nn_eqF, bv_0, bv_1, ko_b, ko_1, ko_0, true_and, and_true, if_true, if_false, not_true_eq_false, not_false_eq_true, oo_02, decide_eq_true_eq, decide_eq_false_iff_not, ite_not, Nat.reduceAdd, Nat.reduceLT, Nat.reduceSub, Nat.reduceLeDiff, reduceIte, Bool.true_eq_false, Bool.false_eq_true, reduceCtorEq, eq_self, decide_true, decide_false, bv_t, bv_f, and_self, t_si, t_sl, t_sr, t_sI, t_sR, n_si, n_sl, n_sr, n_sI, n_sR, r_si, r_sl, r_sI, hM, hT, hS, hm, h66, h67, m_isL2 h, hy2, c, false_and, Bool.not_false, Option.isNone_some]
  · rw [x_250_2]
    simp (disch := first | omega | decide | exact ko_b _ | assumption | (simp only [t_si, t_sl, t_sr, t_sI, t_sR, n_si, n_sl, n_sr, n_sI, n_sR, r_si, r_sl, r_sI]; first | done | omega)) only [x_250_e, x_250_b, x_250_3, x_250_4, x_250_7, x_250_10, x_250_11, x_250_12, x_250_15, x_250_16, x_250_17, x_250_20, x_250_23, x_250_24, x_250_25, x_250_28, x_250_29, x_250_30, x_250_33, x_250_34, x_250_37, x_250_38, x_250_39, x_250_42, x_250_43, x_250_44, x_250_47, x_250_50, x_250_51, bk_v, bk_n, nl_I, nl_R, nl_L, nl_0, oo_lt, oo_le, oo_eq, oo_add, oo_sub, oo_tn, oo_ir, nn_leT, nn_leF, nn_ltT, nn_ltF, nn_eqT, nn_eqF, bv_0, bv_1, ko_b, ko_1, ko_0, true_and, and_true, if_true, if_false, not_true_eq_false, not_false_eq_true, oo_02, decide_eq_true_eq, decide_eq_false_iff_not, ite_not, Nat.reduceAdd, Nat.reduceLT, Nat.reduceSub, Nat.reduceLeDiff, reduceIte, Bool.true_eq_false, Bool.false_eq_true, reduceCtorEq, eq_self, decide_true, decide_false, bv_t, bv_f, and_self, t_si, t_sl, t_sr, t_sI, t_sR, n_si, n_sl, n_sr, n_sI, n_sR, r_si, r_sl, r_sI, hM, hT, hS, hm, Option.isNone_none]
theorem c_seen (h : RC_ w G σ S) (hV : WS_ S) {X : Xm} (hX : CS_ w 1429 (tm_n (sm_T S)) X) (hW : WX_ (tm_n (sm_T S)) X) {d : Nat} {Q : Q_} : cl (d + 6) 61 [v_R (some 1000)] w Q = Q (Sum.inl (some (v_I (b_v (f_seen (sm_T S) X (sm_B S)))))) w := by
  have hq2 := tr_q h hV hX hW
  have hm8 := hV.2.2.2.1.2.2.2.2.2.1
  have hl := hV.2.2.2.1.2.2.2.2.2.2
  have eL : w_i w 1429 4 = Int32.ofNat (xm_L X) := hX.1
  have hWL := hW.1
  have hq := RC_CQ h hV
  have hC := h.1
  unfold sh_C at hC
  have hr0 : w_r w 1000 0 = some (gm_b G) := h.2.2.1
  have hT := h.2.2.2.1
  unfold CT_ at hT
  have hA : SO_ w 1008 := h.2.1.2.1.1
  unfold SO_ at hA
  have hA2 : SO_ w 1429 := h.2.1.2.2.2.2
  unfold SO_ at hA2
  have hS : CS_ w 1008 (tm_n (sm_T S)) (bm_X (sm_B S)) := h.2.2.2.2.2.2.2.1.1
  unfold CS_ at hS
  have hK : sh_B w 1007 := h.2.1.1
  unfold sh_B at hK
  have hB := h.2.2.2.2.2.2.2.1.2
  have hR := h.2.2.2.2.2.2.2.2.2
  simp only [Nat.reduceAdd] at hA hA2 hS hK hB
  obtain ⟨hn, hk4⟩ := hV.1
  obtain ⟨hW1, hW2, hW3⟩ := hV.2.2.2.1.1
  have key := lp_fo (fun k => wp (d + 6) 61 2 [some (v_R (some 1000)), some (v_I (Int32.ofNat k))] [] w Q) (fun o => Q (Sum.inl (some (v_I (b_v o.isNone)))) w) (fun k => !decide (bm_l (sm_B S) k < xm_L X ∧ f_tilt (sm_T S) X (bm_l (sm_B S) k) = bm_t (sm_B S) k)) (bm_m (sm_B S)) 0 (fun k _ hk => ?_) ?_
  · unfold f_seen
    rw [← key]
    simp (disch := first | omega | decide | exact ko_b _ | assumption | (simp only [t_si, t_sl, t_sr, t_sI, t_sR, n_si, n_sl, n_sr, n_sI, n_sR, r_si, r_sl, r_sI]; first | done | omega)) only [x_61_e, x_61_b, x_61_0, x_61_1, bk_v, bk_n, nl_I, nl_R, nl_L, nl_0, oo_lt, oo_le, oo_eq, oo_add, oo_sub, oo_tn, oo_ir, nn_leT, nn_leF, nn_ltT, nn_ltF, nn_eqT, nn_eqF, bv_0, bv_1, ko_b, ko_1, ko_0, true_and, and_true, if_true, if_false, not_true_eq_false, not_false_eq_true, oo_02, decide_eq_true_eq, decide_eq_false_iff_not, ite_not, Nat.reduceAdd, Nat.reduceLT, Nat.reduceSub, Nat.reduceLeDiff, reduceIte, Bool.true_eq_false, Bool.false_eq_true, reduceCtorEq, eq_self, decide_true, decide_false, bv_t, bv_f, and_self, t_si, t_sl, t_sr, t_sI, t_sR, n_si, n_sl, n_sr, n_sI, n_sR, r_si, r_sl, r_sI]
  · have hlk := hl k (by omega)
    rw [x_61_2]
    by_cases c : bm_l (sm_B S) k < xm_L X
    · by_cases c2 : f_tilt (sm_T S) X (bm_l (sm_B S) k) = bm_t (sm_B S) k
      · simp (disch := first | omega | decide | exact ko_b _ | assumption | (simp only [t_si, t_sl, t_sr, t_sI, t_sR, n_si, n_sl, n_sr, n_sI, n_sR, r_si, r_sl, r_sI]; first | done | omega)) only [x_61_e, x_61_b, x_61_3, x_61_4, x_61_7, x_61_10, x_61_13, x_61_14, x_61_17, x_61_20, x_61_21, x_61_22, x_61_23, x_61_26, x_61_29, x_61_32, x_61_33, x_61_36, x_61_37, x_61_40, x_61_41, x_61_44, x_61_47, x_61_48, x_61_49, x_61_52, x_61_53, x_61_56, x_61_59, x_61_60, x_61_61, x_61_64, x_61_65, x_61_66, x_61_69, x_61_72, x_61_73, bk_v, bk_n, nl_I, nl_R, nl_L, nl_0, oo_lt, oo_le, oo_eq, oo_add, oo_sub, oo_tn, oo_ir, nn_leT, nn_leF, nn_ltT, nn_ltF, nn_eqT, nn_eqF, bv_0, bv_1, ko_b, ko_1, ko_0, true_and, and_true, if_true, if_false, not_true_eq_false, not_false_eq_true, oo_02, decide_eq_true_eq, decide_eq_false_iff_not, ite_not, Nat.reduceAdd, Nat.reduceLT, Nat.reduceSub, Nat.reduceLeDiff, reduceIte, Bool.true_eq_false, Bool.false_eq_true, reduceCtorEq, eq_self, decide_true, decide_false, bv_t, bv_f, and_self, t_si, t_sl, t_sr, t_sI, t_sR, n_si, n_sl, n_sr, n_sI, n_sR, r_si, r_sl, r_sI, hC, hr0, hT, hA, hS, hK, hB, hR, hA2, eL, c, c2, c_tilt hq2, Bool.not_true]
      · simp (disch := first | omega | decide | exact ko_b _ | assumption | (simp only [t_si, t_sl, t_sr, t_sI, t_sR, n_si, n_sl, n_sr, n_sI, n_sR, r_si, r_sl, r_sI]; first | done | omega)) only [x_61_e, x_61_b, x_61_3, x_61_4, x_61_7, x_61_10, x_61_13, x_61_14, x_61_17, x_61_20, x_61_21, x_61_22, x_61_23, x_61_26, x_61_29, x_61_32, x_61_33, x_61_36, x_61_37, x_61_40, x_61_41, x_61_44, x_61_47, x_61_48, x_61_49, x_61_52, x_61_53, x_61_56, x_61_59, x_61_60, x_61_61, x_61_64, x_61_65, x_61_66, x_61_69, x_61_72, x_61_73, bk_v, bk_n, nl_I, nl_R, nl_L, nl_0, oo_lt, oo_le, oo_eq, oo_add, oo_sub, oo_tn, oo_ir, nn_leT, nn_leF, nn_ltT, nn_ltF, nn_eqT, nn_eqF, bv_0, bv_1, ko_b, ko_1, ko_0, true_and, and_true, if_true, if_false, not_true_eq_false, not_false_eq_true, oo_02, decide_eq_true_eq, decide_eq_false_iff_not, ite_not, Nat.reduceAdd, Nat.reduceLT, Nat.reduceSub, Nat.reduceLeDiff, reduceIte, Bool.true_eq_false, Bool.false_eq_true, reduceCtorEq, eq_self, decide_true, decide_false, bv_t, bv_f, and_self, t_si, t_sl, t_sr, t_sI, t_sR, n_si, n_sl, n_sr, n_sI, n_sR, r_si, r_sl, r_sI, hC, hr0, hT, hA, hS, hK, hB, hR, hA2, eL, c, c2, c_tilt hq2, and_false, Bool.not_false, Option.isNone_some]
    · simp (disch := first | omega | decide | exact ko_b _ | assumption | (simp only [t_si, t_sl, t_sr, t_sI, t_sR, n_si, n_sl, n_sr, n_sI, n_sR, r_si, r_sl, r_sI]; first | done | omega)) only [x_61_e, x_61_b, x_61_3, x_61_4, x_61_7, x_61_10, x_61_13, x_61_14, x_61_17, x_61_20, x_61_21, x_61_22, x_61_23, x_61_26, x_61_29, x_61_32, x_61_33, x_61_36, x_61_37, x_61_40, x_61_41, x_61_44, x_61_47, x_61_48, x_61_49, x_61_52, x_61_53, x_61_56, x_61_59, x_61_60, x_61_61, x_61_64, x_61_65, x_61_66, x_61_69, x_61_72, x_61_73, bk_v, bk_n, nl_I, nl_R, nl_L, nl_0, oo_lt, oo_le, oo_eq, oo_add, oo_sub, oo_tn, oo_ir, nn_leT, nn_leF, nn_ltT, nn_ltF, nn_eqT, nn_eqF, bv_0, bv_1, ko_b, ko_1, ko_0, true_and, and_true, if_true, if_false, not_true_eq_false, not_false_eq_true, oo_02, decide_eq_true_eq, decide_eq_false_iff_not, ite_not, Nat.reduceAdd, Nat.reduceLT, Nat.reduceSub, Nat.reduceLeDiff, reduceIte, Bool.true_eq_false, Bool.false_eq_true, reduceCtorEq, eq_self, decide_true, decide_false, bv_t, bv_f, and_self, t_si, t_sl, t_sr, t_sI, t_sR, n_si, n_sl, n_sr, n_sI, n_sR, r_si, r_sl, r_sI, hC, hr0, hT, hA, hS, hK, hB, hR, hA2, eL, c, false_and, Bool.not_false, Option.isNone_some]
  · rw [x_61_2]
    simp (disch := first | omega | decide | exact ko_b _ | assumption | (simp only [t_si, t_sl, t_sr, t_sI, t_sR, n_si, n_sl, n_sr, n_sI, n_sR, r_si, r_sl, r_sI]; first | done | omega)) only [x_61_e, x_61_b, x_61_3, x_61_4, x_61_7, x_61_10, x_61_13, x_61_14, x_61_17, x_61_20, x_61_21, x_61_22, x_61_23, x_61_26, x_61_29, x_61_32, x_61_33, x_61_36, x_61_37, x_61_40, x_61_41, x_61_44, x_61_47, x_61_48, x_61_49, x_61_52, x_61_53, x_61_56, x_61_59, x_61_60, x_61_61, x_61_64, x_61_65, x_61_66, x_61_69, x_61_72, x_61_73, bk_v, bk_n, nl_I, nl_R, nl_L, nl_0, oo_lt, oo_le, oo_eq, oo_add, oo_sub, oo_tn, oo_ir, nn_leT, nn_leF, nn_ltT, nn_ltF, nn_eqT, nn_eqF, bv_0, bv_1, ko_b, ko_1, ko_0, true_and, and_true, if_true, if_false, not_true_eq_false, not_false_eq_true, oo_02, decide_eq_true_eq, decide_eq_false_iff_not, ite_not, Nat.reduceAdd, Nat.reduceLT, Nat.reduceSub, Nat.reduceLeDiff, reduceIte, Bool.true_eq_false, Bool.false_eq_true, reduceCtorEq, eq_self, decide_true, decide_false, bv_t, bv_f, and_self, t_si, t_sl, t_sr, t_sI, t_sR, n_si, n_sl, n_sr, n_sI, n_sR, r_si, r_sl, r_sI, hC, hr0, hT, hA, hS, hK, hB, hR, Option.isNone_none]
end
