/-! FIRST OPERATIONS: the model's half -/
set_option maxRecDepth 100000
section
variable {w : Wd} {S : Sm}
theorem m_fail {d : Nat} {k : Nat} {Q : Q_} (hM : w_t w 1440 = 25) : cl d 153 [v_R (some 1440), v_I (Int32.ofNat k)] w Q = Q (Sum.inl (some (v_I (Int32.ofNat 0)))) (s_i w 1440 3 (Int32.ofNat k)) := by
  simp (disch := first | omega | decide | exact ko_b _ | assumption | (simp only [t_si, t_sl, t_sr, t_sI, t_sR, n_si, n_sl, n_sr, n_sI, n_sR, r_si, r_sl, r_sI]; first | done | omega)) only [x_153_e, x_153_b, x_153_0, x_153_1, x_153_2, x_153_5, x_153_6, bk_v, bk_n, nl_I, nl_R, nl_L, nl_0, oo_lt, oo_le, oo_eq, oo_add, oo_sub, oo_tn, oo_ir, nn_leT, nn_leF, nn_ltT, nn_ltF, nn_eqT, nn_eqF, bv_0, bv_1, ko_b, ko_1, ko_0, true_and, and_true, if_true, if_false, not_true_eq_false, not_false_eq_true, oo_02, decide_eq_true_eq, decide_eq_false_iff_not, ite_not, Nat.reduceAdd, Nat.reduceLT, Nat.reduceSub, Nat.reduceLeDiff, reduceIte, Bool.true_eq_false, Bool.false_eq_true, reduceCtorEq, eq_self, decide_true, decide_false, bv_t, bv_f, and_self, t_si, t_sl, t_sr, t_sI, t_sR, n_si, n_sl, n_sr, n_sI, n_sR, r_si, r_sl, r_sI]
theorem m_failb {d : Nat} {k : Nat} {Q : Q_} (hM : w_t w 1440 = 25) : cl d 203 [v_R (some 1440), v_I (Int32.ofNat k)] w Q = Q (Sum.inl (some (v_I (b_v false)))) (s_i w 1440 3 (Int32.ofNat k)) := by
  simp (disch := first | omega | decide | exact ko_b _ | assumption | (simp only [t_si, t_sl, t_sr, t_sI, t_sR, n_si, n_sl, n_sr, n_sI, n_sR, r_si, r_sl, r_sI]; first | done | omega)) only [x_203_e, x_203_b, x_203_0, x_203_1, x_203_2, x_203_5, x_203_6, bk_v, bk_n, nl_I, nl_R, nl_L, nl_0, oo_lt, oo_le, oo_eq, oo_add, oo_sub, oo_tn, oo_ir, nn_leT, nn_leF, nn_ltT, nn_ltF, nn_eqT, nn_eqF, bv_0, bv_1, ko_b, ko_1, ko_0, true_and, and_true, if_true, if_false, not_true_eq_false, not_false_eq_true, oo_02, decide_eq_true_eq, decide_eq_false_iff_not, ite_not, Nat.reduceAdd, Nat.reduceLT, Nat.reduceSub, Nat.reduceLeDiff, reduceIte, Bool.true_eq_false, Bool.false_eq_true, reduceCtorEq, eq_self, decide_true, decide_false, bv_t, bv_f, and_self, t_si, t_sl, t_sr, t_sI, t_sR, n_si, n_sl, n_sr, n_sI, n_sR, r_si, r_sl, r_sI, bv_f]
theorem m_isT (h : RM_ w S) (hV : WS_ S) {d : Nat} {x : Int32} {Q : Q_} : cl (d + 1) 189 [v_R (some 1440), v_I x] w Q = Q (Sum.inl (some (v_I (b_v (decide (Int32.ofNat 0 ≤ x ∧ x ≤ Int32.ofNat (tm_n (sm_T S)) - Int32.ofNat 1)))))) w := by
  have hq := RM_MQ h hV
  have hMM := hq
  obtain ⟨hM, hT, hS, ⟨hn, hk4⟩, hW1, hW2, hW3⟩ := hMM
  unfold sh_M at hM
  unfold MT_ at hT
  unfold MS_ at hS
  have hB := h.2.2.1.2
  unfold PK_ at hB
  have hR := h.2.2.2
  rw [x_189_e]
  simp (disch := first | omega | decide | exact ko_b _ | assumption | (simp only [t_si, t_sl, t_sr, t_sI, t_sR, n_si, n_sl, n_sr, n_sI, n_sR, r_si, r_sl, r_sI]; first | done | omega)) only [x_189_b, x_189_0, x_189_1, x_189_2, x_189_3, x_189_4, x_189_7, x_189_8, x_189_9, x_189_10, x_189_11, x_189_12, x_189_15, bk_v, hM, hT, oo_tn, oo_ir, true_and, m_in, ll_o, ll_le, Nat.reduceAdd, ko_b]
theorem m_isL (h : RM_ w S) (hV : WS_ S) {d : Nat} {x : Int32} {Q : Q_} : cl (d + 1) 195 [v_R (some 1440), v_I x] w Q = Q (Sum.inl (some (v_I (b_v (decide (Int32.ofNat 0 ≤ x ∧ x ≤ Int32.ofNat (xm_L (bm_X (sm_B S))) - Int32.ofNat 1)))))) w := by
  have hq := RM_MQ h hV
  have hMM := hq
  obtain ⟨hM, hT, hS, ⟨hn, hk4⟩, hW1, hW2, hW3⟩ := hMM
  unfold sh_M at hM
  unfold MT_ at hT
  unfold MS_ at hS
  have hB := h.2.2.1.2
  unfold PK_ at hB
  have hR := h.2.2.2
  rw [x_195_e]
  simp (disch := first | omega | decide | exact ko_b _ | assumption | (simp only [t_si, t_sl, t_sr, t_sI, t_sR, n_si, n_sl, n_sr, n_sI, n_sR, r_si, r_sl, r_sI]; first | done | omega)) only [x_195_b, x_195_0, x_195_1, x_195_2, x_195_3, x_195_4, x_195_7, x_195_8, x_195_9, x_195_10, x_195_13, bk_v, hM, hS, oo_tn, oo_ir, true_and, m_in, ll_o, ll_le, Nat.reduceAdd, ko_b]
theorem oo_yes {k n : Nat} (hk : k < n) (hn : n < 2147483648) : Int32.ofNat 0 ≤ Int32.ofNat k ∧ Int32.ofNat k ≤ Int32.ofNat n - Int32.ofNat 1 := by
  rw [oo_sub (by omega), oo_le (by omega) (by omega), oo_le (by omega) (by omega)]
  omega
theorem m_thrown {d : Nat} {Q : Q_} (hM : w_t w 1440 = 25) : cl d 150 [v_R (some 1440)] w Q = Q (Sum.inl (some (v_I (w_i w 1440 3)))) w := by
  simp (disch := first | omega | decide | exact ko_b _ | assumption | (simp only [t_si, t_sl, t_sr, t_sI, t_sR, n_si, n_sl, n_sr, n_sI, n_sR, r_si, r_sl, r_sI]; first | done | omega)) only [x_150_e, x_150_b, x_150_0, x_150_1, x_150_4, bk_v, bk_n, nl_I, nl_R, nl_L, nl_0, oo_lt, oo_le, oo_eq, oo_add, oo_sub, oo_tn, oo_ir, nn_leT, nn_leF, nn_ltT, nn_ltF, nn_eqT, nn_eqF, bv_0, bv_1, ko_b, ko_1, ko_0, true_and, and_true, if_true, if_false, not_true_eq_false, not_false_eq_true, oo_02, decide_eq_true_eq, decide_eq_false_iff_not, ite_not, Nat.reduceAdd, Nat.reduceLT, Nat.reduceSub, Nat.reduceLeDiff, reduceIte, Bool.true_eq_false, Bool.false_eq_true, reduceCtorEq, eq_self, decide_true, decide_false, bv_t, bv_f, and_self, t_si, t_sl, t_sr, t_sI, t_sR, n_si, n_sl, n_sr, n_sI, n_sR, r_si, r_sl, r_sI]
theorem m_fault (h : RM_ w S) (hV : WS_ S) {d : Nat} : MR_ d 176 [v_R (some 1440)] w (v_I (sm_f S)) 0 := by
  refine mr_go (ls := [some (v_R (some 1440))]) (fun Q => ?_) (fun w0 hf hc => mr_0 hc (fun Q => ?_))
  · have hq := RM_MQ h hV
    have hMM := hq
    obtain ⟨hM, hT, hS, ⟨hn, hk4⟩, hW1, hW2, hW3⟩ := hMM
    unfold sh_M at hM
    unfold MT_ at hT
    unfold MS_ at hS
    have hB := h.2.2.1.2
    unfold PK_ at hB
    have hR := h.2.2.2
    simp (disch := first | omega | decide | exact ko_b _ | assumption | (simp only [t_si, t_sl, t_sr, t_sI, t_sR, n_si, n_sl, n_sr, n_sI, n_sR, r_si, r_sl, r_sI]; first | done | omega)) only [x_176_e, x_176_b, x_176_0, x_176_1, x_176_2, x_176_6, x_176_9, bk_v, bk_n, nl_I, nl_R, nl_L, nl_0, oo_lt, oo_le, oo_eq, oo_add, oo_sub, oo_tn, oo_ir, nn_leT, nn_leF, nn_ltT, nn_ltF, nn_eqT, nn_eqF, bv_0, bv_1, ko_b, ko_1, ko_0, true_and, and_true, if_true, if_false, not_true_eq_false, not_false_eq_true, oo_02, decide_eq_true_eq, decide_eq_false_iff_not, ite_not, Nat.reduceAdd, Nat.reduceLT, Nat.reduceSub, Nat.reduceLeDiff, reduceIte, Bool.true_eq_false, Bool.false_eq_true, reduceCtorEq, eq_self, decide_true, decide_false, bv_t, bv_f, and_self, t_si, t_sl, t_sr, t_sI, t_sR, n_si, n_sl, n_sr, n_sI, n_sR, r_si, r_sl, r_sI, hM, hT, hS, hB, hR]
  · have h := RM_fr h hV hf
    have hq := RM_MQ h hV
    have hMM := hq
    obtain ⟨hM, hT, hS, ⟨hn, hk4⟩, hW1, hW2, hW3⟩ := hMM
    unfold sh_M at hM
    unfold MT_ at hT
    unfold MS_ at hS
    have hB := h.2.2.1.2
    unfold PK_ at hB
    have hR := h.2.2.2
    simp (disch := first | omega | decide | exact ko_b _ | assumption | (simp only [t_si, t_sl, t_sr, t_sI, t_sR, n_si, n_sl, n_sr, n_sI, n_sR, r_si, r_sl, r_sI]; first | done | omega)) only [x_176_e, x_176_b, x_176_0, x_176_1, x_176_2, x_176_5, x_176_6, x_176_9, bk_v, bk_n, nl_I, nl_R, nl_L, nl_0, oo_lt, oo_le, oo_eq, oo_add, oo_sub, oo_tn, oo_ir, nn_leT, nn_leF, nn_ltT, nn_ltF, nn_eqT, nn_eqF, bv_0, bv_1, ko_b, ko_1, ko_0, true_and, and_true, if_true, if_false, not_true_eq_false, not_false_eq_true, oo_02, decide_eq_true_eq, decide_eq_false_iff_not, ite_not, Nat.reduceAdd, Nat.reduceLT, Nat.reduceSub, Nat.reduceLeDiff, reduceIte, Bool.true_eq_false, Bool.false_eq_true, reduceCtorEq, eq_self, decide_true, decide_false, bv_t, bv_f, and_self, t_si, t_sl, t_sr, t_sI, t_sR, n_si, n_sl, n_sr, n_sI, n_sR, r_si, r_sl, r_sI, hM, hT, hS, hB, hR]
theorem m_count (h : RM_ w S) (hV : WS_ S) {d k : Nat} (hk : k < 15) : MR_ (d + 6) 177 [v_R (some 1440), v_I (Int32.ofNat k)] w (v_I (q_count S k)) 0 := by
  refine mr_go (ls := [some (v_R (some 1440)), some (v_I (Int32.ofNat k))]) (fun Q => ?_) (fun w0 hf hc => mr_0 hc (fun Q => ?_))
  · have hq := RM_MQ h hV
    have hMM := hq
    obtain ⟨hM, hT, hS, ⟨hn, hk4⟩, hW1, hW2, hW3⟩ := hMM
    unfold sh_M at hM
    unfold MT_ at hT
    unfold MS_ at hS
    have hB := h.2.2.1.2
    unfold PK_ at hB
    have hR := h.2.2.2
    simp (disch := first | omega | decide | exact ko_b _ | assumption | (simp only [t_si, t_sl, t_sr, t_sI, t_sR, n_si, n_sl, n_sr, n_sI, n_sR, r_si, r_sl, r_sI]; first | done | omega)) only [x_177_e, x_177_b, x_177_0, x_177_1, x_177_2, x_177_6, x_177_80, x_177_81, x_177_84, x_177_85, x_177_86, x_177_87, x_177_88, x_177_91, x_177_92, x_177_93, x_177_96, x_177_97, x_177_98, x_177_99, x_177_100, x_177_101, x_177_102, x_177_105, x_177_108, x_177_109, x_177_112, x_177_113, x_177_114, x_177_115, x_177_118, x_177_119, x_177_120, x_177_123, x_177_124, x_177_125, x_177_128, x_177_129, x_177_130, x_177_133, x_177_134, x_177_135, x_177_138, x_177_139, x_177_140, x_177_143, x_177_144, x_177_145, x_177_148, x_177_149, x_177_150, x_177_153, x_177_154, x_177_156, x_177_157, x_177_158, x_177_159, x_177_160, x_177_161, x_177_164, bk_v, bk_n, nl_I, nl_R, nl_L, nl_0, oo_lt, oo_le, oo_eq, oo_add, oo_sub, oo_tn, oo_ir, nn_leT, nn_leF, nn_ltT, nn_ltF, nn_eqT, nn_eqF, bv_0, bv_1, ko_b, ko_1, ko_0, true_and, and_true, if_true, if_false, not_true_eq_false, not_false_eq_true, oo_02, decide_eq_true_eq, decide_eq_false_iff_not, ite_not, Nat.reduceAdd, Nat.reduceLT, Nat.reduceSub, Nat.reduceLeDiff, reduceIte, Bool.true_eq_false, Bool.false_eq_true, reduceCtorEq, eq_self, decide_true, decide_false, bv_t, bv_f, and_self, t_si, t_sl, t_sr, t_sI, t_sR, n_si, n_sl, n_sr, n_sI, n_sR, r_si, r_sl, r_sI, hM, hT, hS, hB, hR]
  · have h := RM_fr h hV hf
    have hq := RM_MQ h hV
    have hMM := hq
    obtain ⟨hM, hT, hS, ⟨hn, hk4⟩, hW1, hW2, hW3⟩ := hMM
    unfold sh_M at hM
    unfold MT_ at hT
    unfold MS_ at hS
    have hB := h.2.2.1.2
    unfold PK_ at hB
    have hR := h.2.2.2
    rcases (by omega : k = 0 ∨ k = 1 ∨ k = 2 ∨ k = 3 ∨ k = 4 ∨ k = 5 ∨ k = 6 ∨ k = 7 ∨ k = 8 ∨ k = 9 ∨ k = 10 ∨ k = 11 ∨ k = 12 ∨ k = 13 ∨ k = 14) with rfl | rfl | rfl | rfl | rfl | rfl | rfl | rfl | rfl | rfl | rfl | rfl | rfl | rfl | rfl
    all_goals simp (disch := first | omega | decide | exact ko_b _ | assumption | (simp only [t_si, t_sl, t_sr, t_sI, t_sR, n_si, n_sl, n_sr, n_sI, n_sR, r_si, r_sl, r_sI]; first | done | omega)) only [x_177_e, x_177_b, x_177_0, x_177_1, x_177_2, x_177_5, x_177_6, x_177_80, x_177_81, x_177_84, x_177_85, x_177_86, x_177_87, x_177_88, x_177_91, x_177_92, x_177_93, x_177_96, x_177_97, x_177_98, x_177_99, x_177_100, x_177_101, x_177_102, x_177_105, x_177_108, x_177_109, x_177_112, x_177_113, x_177_114, x_177_115, x_177_118, x_177_119, x_177_120, x_177_123, x_177_124, x_177_125, x_177_128, x_177_129, x_177_130, x_177_133, x_177_134, x_177_135, x_177_138, x_177_139, x_177_140, x_177_143, x_177_144, x_177_145, x_177_148, x_177_149, x_177_150, x_177_153, x_177_154, x_177_156, x_177_157, x_177_158, x_177_159, x_177_160, x_177_161, x_177_164, bk_v, bk_n, nl_I, nl_R, nl_L, nl_0, oo_lt, oo_le, oo_eq, oo_add, oo_sub, oo_tn, oo_ir, nn_leT, nn_leF, nn_ltT, nn_ltF, nn_eqT, nn_eqF, bv_0, bv_1, ko_b, ko_1, ko_0, true_and, and_true, if_true, if_false, not_true_eq_false, not_false_eq_true, oo_02, decide_eq_true_eq, decide_eq_false_iff_not, ite_not, Nat.reduceAdd, Nat.reduceLT, Nat.reduceSub, Nat.reduceLeDiff, reduceIte, Bool.true_eq_false, Bool.false_eq_true, reduceCtorEq, eq_self, decide_true, decide_false, bv_t, bv_f, and_self, t_si, t_sl, t_sr, t_sI, t_sR, n_si, n_sl, n_sr, n_sI, n_sR, r_si, r_sl, r_sI, hM, hT, hS, hB, hR, q_count, m_st hq, m_brk hq, m_full hq, if_bv]
    cases f_st (sm_T S) (bm_X (sm_B S)) <;> rfl
theorem ts_no {x : Int32} {n : Nat} (hn : n < 2147483648) (hp : 0 < n) (h : x < Int32.ofNat 0 ∨ ∃ k, n ≤ k ∧ k < 2147483648 ∧ x = Int32.ofNat k) : x.toInt < 0 ∨ ((n - 1 : Nat) : Int) < x.toInt := by
  rcases h with h | ⟨k, hk, hk2, rfl⟩
  · left
    have := Int32.lt_iff_toInt_lt.mp h
    rw [oo_in (by omega)] at this
    omega
  · right
    rw [oo_in hk2]
    omega
theorem m_count_x (h : RM_ w S) (hV : WS_ S) {d : Nat} {x : Int32} (hx : x < Int32.ofNat 0 ∨ ∃ k, 15 ≤ k ∧ k < 2147483648 ∧ x = Int32.ofNat k) : MR_ (d + 6) 177 [v_R (some 1440), v_I x] w (v_I (Int32.ofNat 0)) 1 := by
  refine mr_go (ls := [some (v_R (some 1440)), some (v_I x)]) (fun Q => ?_) (fun w0 hf hc => mr_f (fun Q => ?_))
  · have hq := RM_MQ h hV
    have hMM := hq
    obtain ⟨hM, hT, hS, ⟨hn, hk4⟩, hW1, hW2, hW3⟩ := hMM
    unfold sh_M at hM
    unfold MT_ at hT
    unfold MS_ at hS
    have hB := h.2.2.1.2
    unfold PK_ at hB
    have hR := h.2.2.2
    simp (disch := first | omega | decide | exact ko_b _ | assumption | (simp only [t_si, t_sl, t_sr, t_sI, t_sR, n_si, n_sl, n_sr, n_sI, n_sR, r_si, r_sl, r_sI]; first | done | omega)) only [x_177_e, x_177_b, x_177_0, x_177_1, x_177_2, x_177_6, x_177_80, x_177_81, x_177_84, x_177_85, x_177_86, x_177_87, x_177_88, x_177_91, x_177_92, x_177_93, x_177_96, x_177_97, x_177_98, x_177_99, x_177_100, x_177_101, x_177_102, x_177_105, x_177_108, x_177_109, x_177_112, x_177_113, x_177_114, x_177_115, x_177_118, x_177_119, x_177_120, x_177_123, x_177_124, x_177_125, x_177_128, x_177_129, x_177_130, x_177_133, x_177_134, x_177_135, x_177_138, x_177_139, x_177_140, x_177_143, x_177_144, x_177_145, x_177_148, x_177_149, x_177_150, x_177_153, x_177_154, x_177_156, x_177_157, x_177_158, x_177_159, x_177_160, x_177_161, x_177_164, bk_v, bk_n, nl_I, nl_R, nl_L, nl_0, oo_lt, oo_le, oo_eq, oo_add, oo_sub, oo_tn, oo_ir, nn_leT, nn_leF, nn_ltT, nn_ltF, nn_eqT, nn_eqF, bv_0, bv_1, ko_b, ko_1, ko_0, true_and, and_true, if_true, if_false, not_true_eq_false, not_false_eq_true, oo_02, decide_eq_true_eq, decide_eq_false_iff_not, ite_not, Nat.reduceAdd, Nat.reduceLT, Nat.reduceSub, Nat.reduceLeDiff, reduceIte, Bool.true_eq_false, Bool.false_eq_true, reduceCtorEq, eq_self, decide_true, decide_false, bv_t, bv_f, and_self, t_si, t_sl, t_sr, t_sI, t_sR, n_si, n_sl, n_sr, n_sI, n_sR, r_si, r_sl, r_sI, hM, hT, hS, hB, hR]
  · have h := RM_fr h hV hf
    have hq := RM_MQ h hV
    have hMM := hq
    obtain ⟨hM, hT, hS, ⟨hn, hk4⟩, hW1, hW2, hW3⟩ := hMM
    unfold sh_M at hM
    unfold MT_ at hT
    unfold MS_ at hS
    have hB := h.2.2.1.2
    unfold PK_ at hB
    have hR := h.2.2.2
    have hM0 := hM.1
    rw [x_177_5, x_177_6.2.2.2.2.2.2.2.2.2.2.2.2.2.2.2 _ _ _ _ _ _ (ts_no (by omega) (by omega) hx)]
    simp (disch := first | omega | decide | exact ko_b _ | assumption | (simp only [t_si, t_sl, t_sr, t_sI, t_sR, n_si, n_sl, n_sr, n_sI, n_sR, r_si, r_sl, r_sI]; first | done | omega)) only [x_177_e, x_177_b, x_177_0, x_177_1, x_177_2, x_177_5, x_177_6, x_177_80, x_177_81, x_177_84, x_177_85, x_177_86, x_177_87, x_177_88, x_177_91, x_177_92, x_177_93, x_177_96, x_177_97, x_177_98, x_177_99, x_177_100, x_177_101, x_177_102, x_177_105, x_177_108, x_177_109, x_177_112, x_177_113, x_177_114, x_177_115, x_177_118, x_177_119, x_177_120, x_177_123, x_177_124, x_177_125, x_177_128, x_177_129, x_177_130, x_177_133, x_177_134, x_177_135, x_177_138, x_177_139, x_177_140, x_177_143, x_177_144, x_177_145, x_177_148, x_177_149, x_177_150, x_177_153, x_177_154, x_177_156, x_177_157, x_177_158, x_177_159, x_177_160, x_177_161, x_177_164, bk_v, bk_n, nl_I, nl_R, nl_L, nl_0, oo_lt, oo_le, oo_eq, oo_add, oo_sub, oo_tn, oo_ir, nn_leT, nn_leF, nn_ltT, nn_ltF, nn_eqT, nn_eqF, bv_0, bv_1, ko_b, ko_1, ko_0, true_and, and_true, if_true, if_false, not_true_eq_false, not_false_eq_true, oo_02, decide_eq_true_eq, decide_eq_false_iff_not, ite_not, Nat.reduceAdd, Nat.reduceLT, Nat.reduceSub, Nat.reduceLeDiff, reduceIte, Bool.true_eq_false, Bool.false_eq_true, reduceCtorEq, eq_self, decide_true, decide_false, bv_t, bv_f, and_self, t_si, t_sl, t_sr, t_sI, t_sR, n_si, n_sl, n_sr, n_sI, n_sR, r_si, r_sl, r_sI, hM, m_fail hM0]
theorem m_table (h : RM_ w S) (hV : WS_ S) {d t k : Nat} (ht : t < tm_n (sm_T S)) (hk : k < 8) : MR_ (d + 6) 188 [v_R (some 1440), v_I (Int32.ofNat t), v_I (Int32.ofNat k)] w (v_I (q_table S t k)) 0 := by
  refine mr_go (ls := [some (v_R (some 1440)), some (v_I (Int32.ofNat t)), some (v_I (Int32.ofNat k))]) (fun Q => ?_) (fun w0 hf hc => mr_0 hc (fun Q => ?_))
  · have hq := RM_MQ h hV
    have hMM := hq
    obtain ⟨hM, hT, hS, ⟨hn, hk4⟩, hW1, hW2, hW3⟩ := hMM
    unfold sh_M at hM
    unfold MT_ at hT
    unfold MS_ at hS
    have hB := h.2.2.1.2
    unfold PK_ at hB
    have hR := h.2.2.2
    simp (disch := first | omega | decide | exact ko_b _ | assumption | (simp only [t_si, t_sl, t_sr, t_sI, t_sR, n_si, n_sl, n_sr, n_sI, n_sR, r_si, r_sl, r_sI]; first | done | omega)) only [x_188_e, x_188_b, x_188_0, x_188_1, x_188_2, x_188_6, x_188_7, x_188_10, x_188_13, x_188_14, x_188_15, x_188_18, x_188_19, x_188_20, x_188_68, x_188_69, x_188_72, x_188_73, x_188_74, x_188_75, x_188_76, x_188_79, x_188_80, x_188_81, x_188_82, x_188_83, x_188_84, x_188_87, x_188_88, x_188_89, x_188_90, x_188_91, x_188_94, x_188_95, x_188_98, x_188_99, x_188_100, x_188_103, x_188_104, x_188_105, x_188_106, x_188_107, x_188_110, x_188_111, x_188_112, x_188_113, x_188_114, x_188_117, x_188_118, x_188_119, x_188_120, x_188_121, x_188_124, x_188_125, x_188_126, x_188_127, x_188_128, x_188_129, x_188_132, x_188_133, x_188_134, x_188_135, x_188_138, bk_v, bk_n, nl_I, nl_R, nl_L, nl_0, oo_lt, oo_le, oo_eq, oo_add, oo_sub, oo_tn, oo_ir, nn_leT, nn_leF, nn_ltT, nn_ltF, nn_eqT, nn_eqF, bv_0, bv_1, ko_b, ko_1, ko_0, true_and, and_true, if_true, if_false, not_true_eq_false, not_false_eq_true, oo_02, decide_eq_true_eq, decide_eq_false_iff_not, ite_not, Nat.reduceAdd, Nat.reduceLT, Nat.reduceSub, Nat.reduceLeDiff, reduceIte, Bool.true_eq_false, Bool.false_eq_true, reduceCtorEq, eq_self, decide_true, decide_false, bv_t, bv_f, and_self, t_si, t_sl, t_sr, t_sI, t_sR, n_si, n_sl, n_sr, n_sI, n_sR, r_si, r_sl, r_sI, hM, hT, hS, hB, hR]
  · have h := RM_fr h hV hf
    have hq := RM_MQ h hV
    have hMM := hq
    obtain ⟨hM, hT, hS, ⟨hn, hk4⟩, hW1, hW2, hW3⟩ := hMM
    unfold sh_M at hM
    unfold MT_ at hT
    unfold MS_ at hS
    have hB := h.2.2.1.2
    unfold PK_ at hB
    have hR := h.2.2.2
    have hy := oo_yes ht (by omega)
    rcases (by omega : k = 0 ∨ k = 1 ∨ k = 2 ∨ k = 3 ∨ k = 4 ∨ k = 5 ∨ k = 6 ∨ k = 7) with rfl | rfl | rfl | rfl | rfl | rfl | rfl | rfl
    all_goals simp (disch := first | omega | decide | exact ko_b _ | assumption | (simp only [t_si, t_sl, t_sr, t_sI, t_sR, n_si, n_sl, n_sr, n_sI, n_sR, r_si, r_sl, r_sI]; first | done | omega)) only [x_188_e, x_188_b, x_188_0, x_188_1, x_188_2, x_188_5, x_188_6, x_188_7, x_188_10, x_188_13, x_188_14, x_188_15, x_188_18, x_188_19, x_188_20, x_188_68, x_188_69, x_188_72, x_188_73, x_188_74, x_188_75, x_188_76, x_188_79, x_188_80, x_188_81, x_188_82, x_188_83, x_188_84, x_188_87, x_188_88, x_188_89, x_188_90, x_188_91, x_188_94, x_188_95, x_188_98, x_188_99, x_188_100, x_188_103, x_188_104, x_188_105, x_188_106, x_188_107, x_188_110, x_188_111, x_188_112, x_188_113, x_188_114, x_188_117, x_188_118, x_188_119, x_188_120, x_188_121, x_188_124, x_188_125, x_188_126, x_188_127, x_188_128, x_188_129, x_188_132, x_188_133, x_188_134, x_188_135, x_188_138, bk_v, bk_n, nl_I, nl_R, nl_L, nl_0, oo_lt, oo_le, oo_eq, oo_add, oo_sub, oo_tn, oo_ir, nn_leT, nn_leF, nn_ltT, nn_ltF, nn_eqT, nn_eqF, bv_0, bv_1, ko_b, ko_1, ko_0, true_and, and_true, if_true, if_false, not_true_eq_false, not_false_eq_true, oo_02, decide_eq_true_eq, decide_eq_false_iff_not, ite_not, Nat.reduceAdd, Nat.reduceLT, Nat.reduceSub, Nat.reduceLeDiff, reduceIte, Bool.true_eq_false, Bool.false_eq_true, reduceCtorEq, eq_self, decide_true, decide_false, bv_t, bv_f, and_self, t_si, t_sl, t_sr, t_sI, t_sR, n_si, n_sl, n_sr, n_sI, n_sR, r_si, r_sl, r_sI, hM, hT, hS, hB, hR, q_table, m_isT h hV, hy, and_self, decide_true, m_worm hq, m_lv hq, i_mx]
theorem m_table_x (h : RM_ w S) (hV : WS_ S) {d t : Nat} {x : Int32} (ht : t < tm_n (sm_T S)) (hx : x < Int32.ofNat 0 ∨ ∃ k, 8 ≤ k ∧ k < 2147483648 ∧ x = Int32.ofNat k) : MR_ (d + 6) 188 [v_R (some 1440), v_I (Int32.ofNat t), v_I x] w (v_I (Int32.ofNat 0)) 1 := by
  refine mr_go (ls := [some (v_R (some 1440)), some (v_I (Int32.ofNat t)), some (v_I x)]) (fun Q => ?_) (fun w0 hf hc => mr_f (fun Q => ?_))
  · have hq := RM_MQ h hV
    have hMM := hq
    obtain ⟨hM, hT, hS, ⟨hn, hk4⟩, hW1, hW2, hW3⟩ := hMM
    unfold sh_M at hM
    unfold MT_ at hT
    unfold MS_ at hS
    have hB := h.2.2.1.2
    unfold PK_ at hB
    have hR := h.2.2.2
    simp (disch := first | omega | decide | exact ko_b _ | assumption | (simp only [t_si, t_sl, t_sr, t_sI, t_sR, n_si, n_sl, n_sr, n_sI, n_sR, r_si, r_sl, r_sI]; first | done | omega)) only [x_188_e, x_188_b, x_188_0, x_188_1, x_188_2, x_188_6, x_188_7, x_188_10, x_188_13, x_188_14, x_188_15, x_188_18, x_188_19, x_188_20, x_188_68, x_188_69, x_188_72, x_188_73, x_188_74, x_188_75, x_188_76, x_188_79, x_188_80, x_188_81, x_188_82, x_188_83, x_188_84, x_188_87, x_188_88, x_188_89, x_188_90, x_188_91, x_188_94, x_188_95, x_188_98, x_188_99, x_188_100, x_188_103, x_188_104, x_188_105, x_188_106, x_188_107, x_188_110, x_188_111, x_188_112, x_188_113, x_188_114, x_188_117, x_188_118, x_188_119, x_188_120, x_188_121, x_188_124, x_188_125, x_188_126, x_188_127, x_188_128, x_188_129, x_188_132, x_188_133, x_188_134, x_188_135, x_188_138, bk_v, bk_n, nl_I, nl_R, nl_L, nl_0, oo_lt, oo_le, oo_eq, oo_add, oo_sub, oo_tn, oo_ir, nn_leT, nn_leF, nn_ltT, nn_ltF, nn_eqT, nn_eqF, bv_0, bv_1, ko_b, ko_1, ko_0, true_and, and_true, if_true, if_false, not_true_eq_false, not_false_eq_true, oo_02, decide_eq_true_eq, decide_eq_false_iff_not, ite_not, Nat.reduceAdd, Nat.reduceLT, Nat.reduceSub, Nat.reduceLeDiff, reduceIte, Bool.true_eq_false, Bool.false_eq_true, reduceCtorEq, eq_self, decide_true, decide_false, bv_t, bv_f, and_self, t_si, t_sl, t_sr, t_sI, t_sR, n_si, n_sl, n_sr, n_sI, n_sR, r_si, r_sl, r_sI, hM, hT, hS, hB, hR]
  · have h := RM_fr h hV hf
    have hq := RM_MQ h hV
    have hMM := hq
    obtain ⟨hM, hT, hS, ⟨hn, hk4⟩, hW1, hW2, hW3⟩ := hMM
    unfold sh_M at hM
    unfold MT_ at hT
    unfold MS_ at hS
    have hB := h.2.2.1.2
    unfold PK_ at hB
    have hR := h.2.2.2
    have hy := oo_yes ht (by omega)
    have hM0 := hM.1
    simp (disch := first | omega | decide | exact ko_b _ | assumption | (simp only [t_si, t_sl, t_sr, t_sI, t_sR, n_si, n_sl, n_sr, n_sI, n_sR, r_si, r_sl, r_sI]; first | done | omega)) only [x_188_e, x_188_b, x_188_0, x_188_1, x_188_2, x_188_5, x_188_6, x_188_7, x_188_10, x_188_13, x_188_14, x_188_15, x_188_18, x_188_19, x_188_68, x_188_69, x_188_72, x_188_73, x_188_74, x_188_75, x_188_76, x_188_79, x_188_80, x_188_81, x_188_82, x_188_83, x_188_84, x_188_87, x_188_88, x_188_89, x_188_90, x_188_91, x_188_94, x_188_95, x_188_98, x_188_99, x_188_100, x_188_103, x_188_104, x_188_105, x_188_106, x_188_107, x_188_110, x_188_111, x_188_112, x_188_113, x_188_114, x_188_117, x_188_118, x_188_119, x_188_120, x_188_121, x_188_124, x_188_125, x_188_126, x_188_127, x_188_128, x_188_129, x_188_132, x_188_133, x_188_134, x_188_135, x_188_138, bk_v, bk_n, nl_I, nl_R, nl_L, nl_0, oo_lt, oo_le, oo_eq, oo_add, oo_sub, oo_tn, oo_ir, nn_leT, nn_leF, nn_ltT, nn_ltF, nn_eqT, nn_eqF, bv_0, bv_1, ko_b, ko_1, ko_0, true_and, and_true, if_true, if_false, not_true_eq_false, not_false_eq_true, oo_02, decide_eq_true_eq, decide_eq_false_iff_not, ite_not, Nat.reduceAdd, Nat.reduceLT, Nat.reduceSub, Nat.reduceLeDiff, reduceIte, Bool.true_eq_false, Bool.false_eq_true, reduceCtorEq, eq_self, decide_true, decide_false, bv_t, bv_f, and_self, t_si, t_sl, t_sr, t_sI, t_sR, n_si, n_sl, n_sr, n_sI, n_sR, r_si, r_sl, r_sI, hM, hT, hS, hB, hR, m_isT h hV, hy, and_self, decide_true]
    rw [x_188_20.2.2.2.2.2.2.2.2 _ _ _ _ _ _ (ts_no (by omega) (by omega) hx)]
    simp (disch := first | omega | decide | exact ko_b _ | assumption | (simp only [t_si, t_sl, t_sr, t_sI, t_sR, n_si, n_sl, n_sr, n_sI, n_sR, r_si, r_sl, r_sI]; first | done | omega)) only [x_188_e, x_188_b, x_188_0, x_188_1, x_188_2, x_188_5, x_188_6, x_188_7, x_188_10, x_188_13, x_188_14, x_188_15, x_188_18, x_188_19, x_188_20, x_188_68, x_188_69, x_188_72, x_188_73, x_188_74, x_188_75, x_188_76, x_188_79, x_188_80, x_188_81, x_188_82, x_188_83, x_188_84, x_188_87, x_188_88, x_188_89, x_188_90, x_188_91, x_188_94, x_188_95, x_188_98, x_188_99, x_188_100, x_188_103, x_188_104, x_188_105, x_188_106, x_188_107, x_188_110, x_188_111, x_188_112, x_188_113, x_188_114, x_188_117, x_188_118, x_188_119, x_188_120, x_188_121, x_188_124, x_188_125, x_188_126, x_188_127, x_188_128, x_188_129, x_188_132, x_188_133, x_188_134, x_188_135, x_188_138, bk_v, bk_n, nl_I, nl_R, nl_L, nl_0, oo_lt, oo_le, oo_eq, oo_add, oo_sub, oo_tn, oo_ir, nn_leT, nn_leF, nn_ltT, nn_ltF, nn_eqT, nn_eqF, bv_0, bv_1, ko_b, ko_1, ko_0, true_and, and_true, if_true, if_false, not_true_eq_false, not_false_eq_true, oo_02, decide_eq_true_eq, decide_eq_false_iff_not, ite_not, Nat.reduceAdd, Nat.reduceLT, Nat.reduceSub, Nat.reduceLeDiff, reduceIte, Bool.true_eq_false, Bool.false_eq_true, reduceCtorEq, eq_self, decide_true, decide_false, bv_t, bv_f, and_self, t_si, t_sl, t_sr, t_sI, t_sR, n_si, n_sl, n_sr, n_sI, n_sR, r_si, r_sl, r_sI, hM, m_fail hM0]
theorem m_table_y (h : RM_ w S) (hV : WS_ S) {d : Nat} {y x : Int32} (hx : y < Int32.ofNat 0 ∨ ∃ k, tm_n (sm_T S) ≤ k ∧ k < 2147483648 ∧ y = Int32.ofNat k) : MR_ (d + 6) 188 [v_R (some 1440), v_I y, v_I x] w (v_I (Int32.ofNat 0)) 1 := by
  refine mr_go (ls := [some (v_R (some 1440)), some (v_I y), some (v_I x)]) (fun Q => ?_) (fun w0 hf hc => mr_f (fun Q => ?_))
  · have hq := RM_MQ h hV
    have hMM := hq
    obtain ⟨hM, hT, hS, ⟨hn, hk4⟩, hW1, hW2, hW3⟩ := hMM
    unfold sh_M at hM
    unfold MT_ at hT
    unfold MS_ at hS
    have hB := h.2.2.1.2
    unfold PK_ at hB
    have hR := h.2.2.2
    simp (disch := first | omega | decide | exact ko_b _ | assumption | (simp only [t_si, t_sl, t_sr, t_sI, t_sR, n_si, n_sl, n_sr, n_sI, n_sR, r_si, r_sl, r_sI]; first | done | omega)) only [x_188_e, x_188_b, x_188_0, x_188_1, x_188_2, x_188_6, x_188_7, x_188_10, x_188_13, x_188_14, x_188_15, x_188_18, x_188_19, x_188_20, x_188_68, x_188_69, x_188_72, x_188_73, x_188_74, x_188_75, x_188_76, x_188_79, x_188_80, x_188_81, x_188_82, x_188_83, x_188_84, x_188_87, x_188_88, x_188_89, x_188_90, x_188_91, x_188_94, x_188_95, x_188_98, x_188_99, x_188_100, x_188_103, x_188_104, x_188_105, x_188_106, x_188_107, x_188_110, x_188_111, x_188_112, x_188_113, x_188_114, x_188_117, x_188_118, x_188_119, x_188_120, x_188_121, x_188_124, x_188_125, x_188_126, x_188_127, x_188_128, x_188_129, x_188_132, x_188_133, x_188_134, x_188_135, x_188_138, bk_v, bk_n, nl_I, nl_R, nl_L, nl_0, oo_lt, oo_le, oo_eq, oo_add, oo_sub, oo_tn, oo_ir, nn_leT, nn_leF, nn_ltT, nn_ltF, nn_eqT, nn_eqF, bv_0, bv_1, ko_b, ko_1, ko_0, true_and, and_true, if_true, if_false, not_true_eq_false, not_false_eq_true, oo_02, decide_eq_true_eq, decide_eq_false_iff_not, ite_not, Nat.reduceAdd, Nat.reduceLT, Nat.reduceSub, Nat.reduceLeDiff, reduceIte, Bool.true_eq_false, Bool.false_eq_true, reduceCtorEq, eq_self, decide_true, decide_false, bv_t, bv_f, and_self, t_si, t_sl, t_sr, t_sI, t_sR, n_si, n_sl, n_sr, n_sI, n_sR, r_si, r_sl, r_sI, hM, hT, hS, hB, hR]
  · have h := RM_fr h hV hf
    have hq := RM_MQ h hV
    have hMM := hq
    obtain ⟨hM, hT, hS, ⟨hn, hk4⟩, hW1, hW2, hW3⟩ := hMM
    unfold sh_M at hM
    unfold MT_ at hT
    unfold MS_ at hS
    have hB := h.2.2.1.2
    unfold PK_ at hB
    have hR := h.2.2.2
    have hy := decide_eq_false (oo_no (by omega) hx)
    have hM0 := hM.1
    simp (disch := first | omega | decide | exact ko_b _ | assumption | (simp only [t_si, t_sl, t_sr, t_sI, t_sR, n_si, n_sl, n_sr, n_sI, n_sR, r_si, r_sl, r_sI]; first | done | omega)) only [x_188_e, x_188_b, x_188_0, x_188_1, x_188_2, x_188_5, x_188_6, x_188_7, x_188_10, x_188_13, x_188_14, x_188_15, x_188_18, x_188_19, x_188_68, x_188_69, x_188_72, x_188_73, x_188_74, x_188_75, x_188_76, x_188_79, x_188_80, x_188_81, x_188_82, x_188_83, x_188_84, x_188_87, x_188_88, x_188_89, x_188_90, x_188_91, x_188_94, x_188_95, x_188_98, x_188_99, x_188_100, x_188_103, x_188_104, x_188_105, x_188_106, x_188_107, x_188_110, x_188_111, x_188_112, x_188_113, x_188_114, x_188_117, x_188_118, x_188_119, x_188_120, x_188_121, x_188_124, x_188_125, x_188_126, x_188_127, x_188_128, x_188_129, x_188_132, x_188_133, x_188_134, x_188_135, x_188_138, bk_v, bk_n, nl_I, nl_R, nl_L, nl_0, oo_lt, oo_le, oo_eq, oo_add, oo_sub, oo_tn, oo_ir, nn_leT, nn_leF, nn_ltT, nn_ltF, nn_eqT, nn_eqF, bv_0, bv_1, ko_b, ko_1, ko_0, true_and, and_true, if_true, if_false, not_true_eq_false, not_false_eq_true, oo_02, decide_eq_true_eq, decide_eq_false_iff_not, ite_not, Nat.reduceAdd, Nat.reduceLT, Nat.reduceSub, Nat.reduceLeDiff, reduceIte, Bool.true_eq_false, Bool.false_eq_true, reduceCtorEq, eq_self, decide_true, decide_false, bv_t, bv_f, and_self, t_si, t_sl, t_sr, t_sI, t_sR, n_si, n_sl, n_sr, n_sI, n_sR, r_si, r_sl, r_sI, hM, hT, hS, hB, hR, m_isT h hV, hy, m_fail hM0]
theorem m_by (h : RM_ w S) (hV : WS_ S) {d : Nat} : MR_ (d + 6) 192 [v_R (some 1440)] w (v_I (Int32.ofNat (f_by (tm_n (sm_T S)) (bm_X (sm_B S))))) 0 := by
  refine mr_go (ls := [some (v_R (some 1440))]) (fun Q => ?_) (fun w0 hf hc => mr_0 hc (fun Q => ?_))
  · have hq := RM_MQ h hV
    have hMM := hq
    obtain ⟨hM, hT, hS, ⟨hn, hk4⟩, hW1, hW2, hW3⟩ := hMM
    unfold sh_M at hM
    unfold MT_ at hT
    unfold MS_ at hS
    have hB := h.2.2.1.2
    unfold PK_ at hB
    have hR := h.2.2.2
    simp (disch := first | omega | decide | exact ko_b _ | assumption | (simp only [t_si, t_sl, t_sr, t_sI, t_sR, n_si, n_sl, n_sr, n_sI, n_sR, r_si, r_sl, r_sI]; first | done | omega)) only [x_192_e, x_192_b, x_192_0, x_192_1, x_192_2, x_192_6, x_192_7, x_192_10, x_192_11, x_192_12, x_192_13, x_192_14, x_192_15, x_192_16, x_192_19, x_192_20, x_192_21, x_192_22, bk_v, bk_n, nl_I, nl_R, nl_L, nl_0, oo_lt, oo_le, oo_eq, oo_add, oo_sub, oo_tn, oo_ir, nn_leT, nn_leF, nn_ltT, nn_ltF, nn_eqT, nn_eqF, bv_0, bv_1, ko_b, ko_1, ko_0, true_and, and_true, if_true, if_false, not_true_eq_false, not_false_eq_true, oo_02, decide_eq_true_eq, decide_eq_false_iff_not, ite_not, Nat.reduceAdd, Nat.reduceLT, Nat.reduceSub, Nat.reduceLeDiff, reduceIte, Bool.true_eq_false, Bool.false_eq_true, reduceCtorEq, eq_self, decide_true, decide_false, bv_t, bv_f, and_self, t_si, t_sl, t_sr, t_sI, t_sR, n_si, n_sl, n_sr, n_sI, n_sR, r_si, r_sl, r_sI, hM, hT, hS, hB, hR]
  · have h := RM_fr h hV hf
    have hq := RM_MQ h hV
    have hMM := hq
    obtain ⟨hM, hT, hS, ⟨hn, hk4⟩, hW1, hW2, hW3⟩ := hMM
    unfold sh_M at hM
    unfold MT_ at hT
    unfold MS_ at hS
    have hB := h.2.2.1.2
    unfold PK_ at hB
    have hR := h.2.2.2
    rw [← by_1 hn ⟨hW1, hW2, hW3⟩]
    simp (disch := first | omega | decide | exact ko_b _ | assumption | (simp only [t_si, t_sl, t_sr, t_sI, t_sR, n_si, n_sl, n_sr, n_sI, n_sR, r_si, r_sl, r_sI]; first | done | omega)) only [x_192_e, x_192_b, x_192_0, x_192_1, x_192_2, x_192_5, x_192_6, x_192_7, x_192_10, x_192_11, x_192_12, x_192_13, x_192_14, x_192_15, x_192_16, x_192_19, x_192_20, x_192_21, x_192_22, bk_v, oo_tn, oo_ir, true_and, hM, hT, hS, hB, hR, m_all hq, sb_s, Nat.reduceAdd]
theorem m_level (h : RM_ w S) (hV : WS_ S) {d l k : Nat} (hl : l < xm_L (bm_X (sm_B S))) (hk : k < 5) : MR_ (d + 6) 194 [v_R (some 1440), v_I (Int32.ofNat l), v_I (Int32.ofNat k)] w (v_I (q_level S l k)) 0 := by
  refine mr_go (ls := [some (v_R (some 1440)), some (v_I (Int32.ofNat l)), some (v_I (Int32.ofNat k))]) (fun Q => ?_) (fun w0 hf hc => mr_0 hc (fun Q => ?_))
  · have hq := RM_MQ h hV
    have hMM := hq
    obtain ⟨hM, hT, hS, ⟨hn, hk4⟩, hW1, hW2, hW3⟩ := hMM
    unfold sh_M at hM
    unfold MT_ at hT
    unfold MS_ at hS
    have hB := h.2.2.1.2
    unfold PK_ at hB
    have hR := h.2.2.2
    simp (disch := first | omega | decide | exact ko_b _ | assumption | (simp only [t_si, t_sl, t_sr, t_sI, t_sR, n_si, n_sl, n_sr, n_sI, n_sR, r_si, r_sl, r_sI]; first | done | omega)) only [x_194_e, x_194_b, x_194_0, x_194_1, x_194_2, x_194_6, x_194_7, x_194_10, x_194_13, x_194_14, x_194_15, x_194_16, x_194_19, x_194_22, x_194_25, x_194_26, x_194_27, x_194_30, x_194_31, x_194_32, x_194_35, x_194_36, x_194_39, x_194_40, x_194_41, x_194_44, x_194_45, x_194_46, x_194_49, x_194_50, x_194_51, x_194_54, x_194_57, x_194_58, x_194_59, x_194_62, x_194_63, x_194_64, x_194_67, x_194_70, x_194_71, x_194_72, x_194_75, x_194_76, x_194_77, x_194_80, x_194_83, x_194_84, x_194_85, x_194_88, x_194_91, x_194_92, x_194_95, x_194_96, bk_v, bk_n, nl_I, nl_R, nl_L, nl_0, oo_lt, oo_le, oo_eq, oo_add, oo_sub, oo_tn, oo_ir, nn_leT, nn_leF, nn_ltT, nn_ltF, nn_eqT, nn_eqF, bv_0, bv_1, ko_b, ko_1, ko_0, true_and, and_true, if_true, if_false, not_true_eq_false, not_false_eq_true, oo_02, decide_eq_true_eq, decide_eq_false_iff_not, ite_not, Nat.reduceAdd, Nat.reduceLT, Nat.reduceSub, Nat.reduceLeDiff, reduceIte, Bool.true_eq_false, Bool.false_eq_true, reduceCtorEq, eq_self, decide_true, decide_false, bv_t, bv_f, and_self, t_si, t_sl, t_sr, t_sI, t_sR, n_si, n_sl, n_sr, n_sI, n_sR, r_si, r_sl, r_sI, hM, hT, hS, hB, hR]
  · have h := RM_fr h hV hf
    have hq := RM_MQ h hV
    have hMM := hq
    obtain ⟨hM, hT, hS, ⟨hn, hk4⟩, hW1, hW2, hW3⟩ := hMM
    unfold sh_M at hM
    unfold MT_ at hT
    unfold MS_ at hS
    have hB := h.2.2.1.2
    unfold PK_ at hB
    have hR := h.2.2.2
    have hy := oo_yes hl (by omega)
    rcases (by omega : k = 0 ∨ k = 1 ∨ k = 2 ∨ k = 3 ∨ k = 4) with rfl | rfl | rfl | rfl | rfl
    all_goals simp (disch := first | omega | decide | exact ko_b _ | assumption | (simp only [t_si, t_sl, t_sr, t_sI, t_sR, n_si, n_sl, n_sr, n_sI, n_sR, r_si, r_sl, r_sI]; first | done | omega)) only [x_194_e, x_194_b, x_194_0, x_194_1, x_194_2, x_194_5, x_194_6, x_194_7, x_194_10, x_194_13, x_194_14, x_194_15, x_194_16, x_194_19, x_194_22, x_194_25, x_194_26, x_194_27, x_194_30, x_194_31, x_194_32, x_194_35, x_194_36, x_194_39, x_194_40, x_194_41, x_194_44, x_194_45, x_194_46, x_194_49, x_194_50, x_194_51, x_194_54, x_194_57, x_194_58, x_194_59, x_194_62, x_194_63, x_194_64, x_194_67, x_194_70, x_194_71, x_194_72, x_194_75, x_194_76, x_194_77, x_194_80, x_194_83, x_194_84, x_194_85, x_194_88, x_194_91, x_194_92, x_194_95, x_194_96, bk_v, bk_n, nl_I, nl_R, nl_L, nl_0, oo_lt, oo_le, oo_eq, oo_add, oo_sub, oo_tn, oo_ir, nn_leT, nn_leF, nn_ltT, nn_ltF, nn_eqT, nn_eqF, bv_0, bv_1, ko_b, ko_1, ko_0, true_and, and_true, if_true, if_false, not_true_eq_false, not_false_eq_true, oo_02, decide_eq_true_eq, decide_eq_false_iff_not, ite_not, Nat.reduceAdd, Nat.reduceLT, Nat.reduceSub, Nat.reduceLeDiff, reduceIte, Bool.true_eq_false, Bool.false_eq_true, reduceCtorEq, eq_self, decide_true, decide_false, bv_t, bv_f, and_self, t_si, t_sl, t_sr, t_sI, t_sR, n_si, n_sl, n_sr, n_sI, n_sR, r_si, r_sl, r_sI, hM, hT, hS, hB, hR, q_level, m_isL h hV, hy, and_self, decide_true, m_in, ll_o, ll_le, m_load hq, m_cb hq, m_tilt hq, m_held hq]
    cases f_held (sm_T S) (bm_X (sm_B S)) l <;> rfl
theorem m_level_y (h : RM_ w S) (hV : WS_ S) {d : Nat} {y x : Int32} (hx : y < Int32.ofNat 0 ∨ ∃ k, xm_L (bm_X (sm_B S)) ≤ k ∧ k < 2147483648 ∧ y = Int32.ofNat k) : MR_ (d + 6) 194 [v_R (some 1440), v_I y, v_I x] w (v_I (Int32.ofNat 0)) 1 := by
  refine mr_go (ls := [some (v_R (some 1440)), some (v_I y), some (v_I x)]) (fun Q => ?_) (fun w0 hf hc => mr_f (fun Q => ?_))
  · have hq := RM_MQ h hV
    have hMM := hq
    obtain ⟨hM, hT, hS, ⟨hn, hk4⟩, hW1, hW2, hW3⟩ := hMM
    unfold sh_M at hM
    unfold MT_ at hT
    unfold MS_ at hS
    have hB := h.2.2.1.2
    unfold PK_ at hB
    have hR := h.2.2.2
    simp (disch := first | omega | decide | exact ko_b _ | assumption | (simp only [t_si, t_sl, t_sr, t_sI, t_sR, n_si, n_sl, n_sr, n_sI, n_sR, r_si, r_sl, r_sI]; first | done | omega)) only [x_194_e, x_194_b, x_194_0, x_194_1, x_194_2, x_194_6, x_194_7, x_194_10, x_194_13, x_194_14, x_194_15, x_194_16, x_194_19, x_194_22, x_194_25, x_194_26, x_194_27, x_194_30, x_194_31, x_194_32, x_194_35, x_194_36, x_194_39, x_194_40, x_194_41, x_194_44, x_194_45, x_194_46, x_194_49, x_194_50, x_194_51, x_194_54, x_194_57, x_194_58, x_194_59, x_194_62, x_194_63, x_194_64, x_194_67, x_194_70, x_194_71, x_194_72, x_194_75, x_194_76, x_194_77, x_194_80, x_194_83, x_194_84, x_194_85, x_194_88, x_194_91, x_194_92, x_194_95, x_194_96, bk_v, bk_n, nl_I, nl_R, nl_L, nl_0, oo_lt, oo_le, oo_eq, oo_add, oo_sub, oo_tn, oo_ir, nn_leT, nn_leF, nn_ltT, nn_ltF, nn_eqT, nn_eqF, bv_0, bv_1, ko_b, ko_1, ko_0, true_and, and_true, if_true, if_false, not_true_eq_false, not_false_eq_true, oo_02, decide_eq_true_eq, decide_eq_false_iff_not, ite_not, Nat.reduceAdd, Nat.reduceLT, Nat.reduceSub, Nat.reduceLeDiff, reduceIte, Bool.true_eq_false, Bool.false_eq_true, reduceCtorEq, eq_self, decide_true, decide_false, bv_t, bv_f, and_self, t_si, t_sl, t_sr, t_sI, t_sR, n_si, n_sl, n_sr, n_sI, n_sR, r_si, r_sl, r_sI, hM, hT, hS, hB, hR]
  · have h := RM_fr h hV hf
    have hq := RM_MQ h hV
    have hMM := hq
    obtain ⟨hM, hT, hS, ⟨hn, hk4⟩, hW1, hW2, hW3⟩ := hMM
    unfold sh_M at hM
    unfold MT_ at hT
    unfold MS_ at hS
    have hB := h.2.2.1.2
    unfold PK_ at hB
    have hR := h.2.2.2
    have hy := decide_eq_false (oo_no (by omega) hx)
    have hM0 := hM.1
    simp (disch := first | omega | decide | exact ko_b _ | assumption | (simp only [t_si, t_sl, t_sr, t_sI, t_sR, n_si, n_sl, n_sr, n_sI, n_sR, r_si, r_sl, r_sI]; first | done | omega)) only [x_194_e, x_194_b, x_194_0, x_194_1, x_194_2, x_194_5, x_194_6, x_194_7, x_194_10, x_194_13, x_194_14, x_194_15, x_194_16, x_194_19, x_194_22, x_194_25, x_194_26, x_194_27, x_194_30, x_194_31, x_194_32, x_194_35, x_194_36, x_194_39, x_194_40, x_194_41, x_194_44, x_194_45, x_194_46, x_194_49, x_194_50, x_194_51, x_194_54, x_194_57, x_194_58, x_194_59, x_194_62, x_194_63, x_194_64, x_194_67, x_194_70, x_194_71, x_194_72, x_194_75, x_194_76, x_194_77, x_194_80, x_194_83, x_194_84, x_194_85, x_194_88, x_194_91, x_194_92, x_194_95, x_194_96, bk_v, bk_n, nl_I, nl_R, nl_L, nl_0, oo_lt, oo_le, oo_eq, oo_add, oo_sub, oo_tn, oo_ir, nn_leT, nn_leF, nn_ltT, nn_ltF, nn_eqT, nn_eqF, bv_0, bv_1, ko_b, ko_1, ko_0, true_and, and_true, if_true, if_false, not_true_eq_false, not_false_eq_true, oo_02, decide_eq_true_eq, decide_eq_false_iff_not, ite_not, Nat.reduceAdd, Nat.reduceLT, Nat.reduceSub, Nat.reduceLeDiff, reduceIte, Bool.true_eq_false, Bool.false_eq_true, reduceCtorEq, eq_self, decide_true, decide_false, bv_t, bv_f, and_self, t_si, t_sl, t_sr, t_sI, t_sR, n_si, n_sl, n_sr, n_sI, n_sR, r_si, r_sl, r_sI, hM, hT, hS, hB, hR, m_isL h hV, hy, m_fail hM0]
theorem m_level_x (h : RM_ w S) (hV : WS_ S) {d l : Nat} {x : Int32} (hl : l < xm_L (bm_X (sm_B S))) (hx : x < Int32.ofNat 0 ∨ ∃ k, 5 ≤ k ∧ k < 2147483648 ∧ x = Int32.ofNat k) : MR_ (d + 6) 194 [v_R (some 1440), v_I (Int32.ofNat l), v_I x] w (v_I (Int32.ofNat 0)) 1 := by
  refine mr_go (ls := [some (v_R (some 1440)), some (v_I (Int32.ofNat l)), some (v_I x)]) (fun Q => ?_) (fun w0 hf hc => mr_f (fun Q => ?_))
  · have hq := RM_MQ h hV
    have hMM := hq
    obtain ⟨hM, hT, hS, ⟨hn, hk4⟩, hW1, hW2, hW3⟩ := hMM
    unfold sh_M at hM
    unfold MT_ at hT
    unfold MS_ at hS
    have hB := h.2.2.1.2
    unfold PK_ at hB
    have hR := h.2.2.2
    simp (disch := first | omega | decide | exact ko_b _ | assumption | (simp only [t_si, t_sl, t_sr, t_sI, t_sR, n_si, n_sl, n_sr, n_sI, n_sR, r_si, r_sl, r_sI]; first | done | omega)) only [x_194_e, x_194_b, x_194_0, x_194_1, x_194_2, x_194_6, x_194_7, x_194_10, x_194_13, x_194_14, x_194_15, x_194_16, x_194_19, x_194_22, x_194_25, x_194_26, x_194_27, x_194_30, x_194_31, x_194_32, x_194_35, x_194_36, x_194_39, x_194_40, x_194_41, x_194_44, x_194_45, x_194_46, x_194_49, x_194_50, x_194_51, x_194_54, x_194_57, x_194_58, x_194_59, x_194_62, x_194_63, x_194_64, x_194_67, x_194_70, x_194_71, x_194_72, x_194_75, x_194_76, x_194_77, x_194_80, x_194_83, x_194_84, x_194_85, x_194_88, x_194_91, x_194_92, x_194_95, x_194_96, bk_v, bk_n, nl_I, nl_R, nl_L, nl_0, oo_lt, oo_le, oo_eq, oo_add, oo_sub, oo_tn, oo_ir, nn_leT, nn_leF, nn_ltT, nn_ltF, nn_eqT, nn_eqF, bv_0, bv_1, ko_b, ko_1, ko_0, true_and, and_true, if_true, if_false, not_true_eq_false, not_false_eq_true, oo_02, decide_eq_true_eq, decide_eq_false_iff_not, ite_not, Nat.reduceAdd, Nat.reduceLT, Nat.reduceSub, Nat.reduceLeDiff, reduceIte, Bool.true_eq_false, Bool.false_eq_true, reduceCtorEq, eq_self, decide_true, decide_false, bv_t, bv_f, and_self, t_si, t_sl, t_sr, t_sI, t_sR, n_si, n_sl, n_sr, n_sI, n_sR, r_si, r_sl, r_sI, hM, hT, hS, hB, hR]
  · have h := RM_fr h hV hf
    have hq := RM_MQ h hV
    have hMM := hq
    obtain ⟨hM, hT, hS, ⟨hn, hk4⟩, hW1, hW2, hW3⟩ := hMM
    unfold sh_M at hM
    unfold MT_ at hT
    unfold MS_ at hS
    have hB := h.2.2.1.2
    unfold PK_ at hB
    have hR := h.2.2.2
    have hy := oo_yes hl (by omega)
    have hM0 := hM.1
    have hz : decide (Int32.ofNat 0 ≤ x ∧ x ≤ Int32.ofNat 4) = false := decide_eq_false (oo_no (n := 5) (by omega) hx)
    simp (disch := first | omega | decide | exact ko_b _ | assumption | (simp only [t_si, t_sl, t_sr, t_sI, t_sR, n_si, n_sl, n_sr, n_sI, n_sR, r_si, r_sl, r_sI]; first | done | omega)) only [x_194_e, x_194_b, x_194_0, x_194_1, x_194_2, x_194_5, x_194_6, x_194_7, x_194_10, x_194_13, x_194_14, x_194_15, x_194_16, x_194_19, x_194_22, x_194_25, x_194_26, x_194_27, x_194_30, x_194_31, x_194_32, x_194_35, x_194_36, x_194_39, x_194_40, x_194_41, x_194_44, x_194_45, x_194_46, x_194_49, x_194_50, x_194_51, x_194_54, x_194_57, x_194_58, x_194_59, x_194_62, x_194_63, x_194_64, x_194_67, x_194_70, x_194_71, x_194_72, x_194_75, x_194_76, x_194_77, x_194_80, x_194_83, x_194_84, x_194_85, x_194_88, x_194_91, x_194_92, x_194_95, x_194_96, bk_v, bk_n, nl_I, nl_R, nl_L, nl_0, oo_lt, oo_le, oo_eq, oo_add, oo_sub, oo_tn, oo_ir, nn_leT, nn_leF, nn_ltT, nn_ltF, nn_eqT, nn_eqF, bv_0, bv_1, ko_b, ko_1, ko_0, true_and, and_true, if_true, if_false, not_true_eq_false, not_false_eq_true, oo_02, decide_eq_true_eq, decide_eq_false_iff_not, ite_not, Nat.reduceAdd, Nat.reduceLT, Nat.reduceSub, Nat.reduceLeDiff, reduceIte, Bool.true_eq_false, Bool.false_eq_true, reduceCtorEq, eq_self, decide_true, decide_false, bv_t, bv_f, and_self, t_si, t_sl, t_sr, t_sI, t_sR, n_si, n_sl, n_sr, n_sI, n_sR, r_si, r_sl, r_sI, hM, hT, hS, hB, hR, m_isL h hV, hy, and_self, decide_true, m_in, ll_o, ll_le, hz, m_fail hM0]
theorem m_moreop (h : RM_ w S) (hV : WS_ S) {d : Nat} : MR_ (d + 7) 215 [v_R (some 1440)] w (v_I (f_more (sm_T S) (bm_X (sm_B S)))) 0 := by
  refine mr_go (ls := [some (v_R (some 1440))]) (fun Q => ?_) (fun w0 hf hc => mr_0 hc (fun Q => ?_))
  · have hq := RM_MQ h hV
    have hMM := hq
    obtain ⟨hM, hT, hS, ⟨hn, hk4⟩, hW1, hW2, hW3⟩ := hMM
    unfold sh_M at hM
    unfold MT_ at hT
    unfold MS_ at hS
    have hB := h.2.2.1.2
    unfold PK_ at hB
    have hR := h.2.2.2
    simp (disch := first | omega | decide | exact ko_b _ | assumption | (simp only [t_si, t_sl, t_sr, t_sI, t_sR, n_si, n_sl, n_sr, n_sI, n_sR, r_si, r_sl, r_sI]; first | done | omega)) only [x_215_e, x_215_b, x_215_0, x_215_1, x_215_2, x_215_6, x_215_9, bk_v, bk_n, nl_I, nl_R, nl_L, nl_0, oo_lt, oo_le, oo_eq, oo_add, oo_sub, oo_tn, oo_ir, nn_leT, nn_leF, nn_ltT, nn_ltF, nn_eqT, nn_eqF, bv_0, bv_1, ko_b, ko_1, ko_0, true_and, and_true, if_true, if_false, not_true_eq_false, not_false_eq_true, oo_02, decide_eq_true_eq, decide_eq_false_iff_not, ite_not, Nat.reduceAdd, Nat.reduceLT, Nat.reduceSub, Nat.reduceLeDiff, reduceIte, Bool.true_eq_false, Bool.false_eq_true, reduceCtorEq, eq_self, decide_true, decide_false, bv_t, bv_f, and_self, t_si, t_sl, t_sr, t_sI, t_sR, n_si, n_sl, n_sr, n_sI, n_sR, r_si, r_sl, r_sI, hM, hT, hS, hB, hR]
  · have h := RM_fr h hV hf
    have hq := RM_MQ h hV
    have hMM := hq
    obtain ⟨hM, hT, hS, ⟨hn, hk4⟩, hW1, hW2, hW3⟩ := hMM
    unfold sh_M at hM
    unfold MT_ at hT
    unfold MS_ at hS
    have hB := h.2.2.1.2
    unfold PK_ at hB
    have hR := h.2.2.2
    simp (disch := first | omega | decide | exact ko_b _ | assumption | (simp only [t_si, t_sl, t_sr, t_sI, t_sR, n_si, n_sl, n_sr, n_sI, n_sR, r_si, r_sl, r_sI]; first | done | omega)) only [x_215_e, x_215_b, x_215_0, x_215_1, x_215_2, x_215_5, x_215_6, x_215_9, bk_v, bk_n, nl_I, nl_R, nl_L, nl_0, oo_lt, oo_le, oo_eq, oo_add, oo_sub, oo_tn, oo_ir, nn_leT, nn_leF, nn_ltT, nn_ltF, nn_eqT, nn_eqF, bv_0, bv_1, ko_b, ko_1, ko_0, true_and, and_true, if_true, if_false, not_true_eq_false, not_false_eq_true, oo_02, decide_eq_true_eq, decide_eq_false_iff_not, ite_not, Nat.reduceAdd, Nat.reduceLT, Nat.reduceSub, Nat.reduceLeDiff, reduceIte, Bool.true_eq_false, Bool.false_eq_true, reduceCtorEq, eq_self, decide_true, decide_false, bv_t, bv_f, and_self, t_si, t_sl, t_sr, t_sI, t_sR, n_si, n_sl, n_sr, n_sI, n_sR, r_si, r_sl, r_sI, hM, hT, hS, hB, hR, m_more hq]
theorem m_slack (h : RM_ w S) (hV : WS_ S) {d l : Nat} (hl : l < xm_L (bm_X (sm_B S))) : MR_ (d + 6) 246 [v_R (some 1440), v_I (Int32.ofNat l)] w (v_I (f_cb (sm_T S) (bm_X (sm_B S)) l - f_load (sm_T S) (bm_X (sm_B S)) l)) 0 := by
  refine mr_go (ls := [some (v_R (some 1440)), some (v_I (Int32.ofNat l))]) (fun Q => ?_) (fun w0 hf hc => mr_0 hc (fun Q => ?_))
  · have hq := RM_MQ h hV
    have hMM := hq
    obtain ⟨hM, hT, hS, ⟨hn, hk4⟩, hW1, hW2, hW3⟩ := hMM
    unfold sh_M at hM
    unfold MT_ at hT
    unfold MS_ at hS
    have hB := h.2.2.1.2
    unfold PK_ at hB
    have hR := h.2.2.2
    simp (disch := first | omega | decide | exact ko_b _ | assumption | (simp only [t_si, t_sl, t_sr, t_sI, t_sR, n_si, n_sl, n_sr, n_sI, n_sR, r_si, r_sl, r_sI]; first | done | omega)) only [x_246_e, x_246_b, x_246_0, x_246_1, x_246_2, x_246_6, x_246_7, x_246_10, x_246_13, x_246_14, x_246_15, x_246_18, x_246_19, x_246_20, x_246_23, x_246_24, x_246_27, x_246_28, x_246_29, x_246_32, bk_v, bk_n, nl_I, nl_R, nl_L, nl_0, oo_lt, oo_le, oo_eq, oo_add, oo_sub, oo_tn, oo_ir, nn_leT, nn_leF, nn_ltT, nn_ltF, nn_eqT, nn_eqF, bv_0, bv_1, ko_b, ko_1, ko_0, true_and, and_true, if_true, if_false, not_true_eq_false, not_false_eq_true, oo_02, decide_eq_true_eq, decide_eq_false_iff_not, ite_not, Nat.reduceAdd, Nat.reduceLT, Nat.reduceSub, Nat.reduceLeDiff, reduceIte, Bool.true_eq_false, Bool.false_eq_true, reduceCtorEq, eq_self, decide_true, decide_false, bv_t, bv_f, and_self, t_si, t_sl, t_sr, t_sI, t_sR, n_si, n_sl, n_sr, n_sI, n_sR, r_si, r_sl, r_sI, hM, hT, hS, hB, hR]
  · have h := RM_fr h hV hf
    have hq := RM_MQ h hV
    have hMM := hq
    obtain ⟨hM, hT, hS, ⟨hn, hk4⟩, hW1, hW2, hW3⟩ := hMM
    unfold sh_M at hM
    unfold MT_ at hT
    unfold MS_ at hS
    have hB := h.2.2.1.2
    unfold PK_ at hB
    have hR := h.2.2.2
    have hy := oo_yes hl (by omega)
    simp (disch := first | omega | decide | exact ko_b _ | assumption | (simp only [t_si, t_sl, t_sr, t_sI, t_sR, n_si, n_sl, n_sr, n_sI, n_sR, r_si, r_sl, r_sI]; first | done | omega)) only [x_246_e, x_246_b, x_246_0, x_246_1, x_246_2, x_246_5, x_246_6, x_246_7, x_246_10, x_246_13, x_246_14, x_246_15, x_246_18, x_246_19, x_246_20, x_246_23, x_246_24, x_246_27, x_246_28, x_246_29, x_246_32, bk_v, bk_n, nl_I, nl_R, nl_L, nl_0, oo_lt, oo_le, oo_eq, oo_add, oo_sub, oo_tn, oo_ir, nn_leT, nn_leF, nn_ltT, nn_ltF, nn_eqT, nn_eqF, bv_0, bv_1, ko_b, ko_1, ko_0, true_and, and_true, if_true, if_false, not_true_eq_false, not_false_eq_true, oo_02, decide_eq_true_eq, decide_eq_false_iff_not, ite_not, Nat.reduceAdd, Nat.reduceLT, Nat.reduceSub, Nat.reduceLeDiff, reduceIte, Bool.true_eq_false, Bool.false_eq_true, reduceCtorEq, eq_self, decide_true, decide_false, bv_t, bv_f, and_self, t_si, t_sl, t_sr, t_sI, t_sR, n_si, n_sl, n_sr, n_sI, n_sR, r_si, r_sl, r_sI, hM, hT, hS, hB, hR, m_isL h hV, hy, and_self, decide_true, m_load hq, m_cb hq]
theorem m_slack_x (h : RM_ w S) (hV : WS_ S) {d : Nat} {y : Int32} (hx : y < Int32.ofNat 0 ∨ ∃ k, xm_L (bm_X (sm_B S)) ≤ k ∧ k < 2147483648 ∧ y = Int32.ofNat k) : MR_ (d + 6) 246 [v_R (some 1440), v_I y] w (v_I (Int32.ofNat 0)) 1 := by
  refine mr_go (ls := [some (v_R (some 1440)), some (v_I y)]) (fun Q => ?_) (fun w0 hf hc => mr_f (fun Q => ?_))
  · have hq := RM_MQ h hV
    have hMM := hq
    obtain ⟨hM, hT, hS, ⟨hn, hk4⟩, hW1, hW2, hW3⟩ := hMM
    unfold sh_M at hM
    unfold MT_ at hT
    unfold MS_ at hS
    have hB := h.2.2.1.2
    unfold PK_ at hB
    have hR := h.2.2.2
    simp (disch := first | omega | decide | exact ko_b _ | assumption | (simp only [t_si, t_sl, t_sr, t_sI, t_sR, n_si, n_sl, n_sr, n_sI, n_sR, r_si, r_sl, r_sI]; first | done | omega)) only [x_246_e, x_246_b, x_246_0, x_246_1, x_246_2, x_246_6, x_246_7, x_246_10, x_246_13, x_246_14, x_246_15, x_246_18, x_246_19, x_246_20, x_246_23, x_246_24, x_246_27, x_246_28, x_246_29, x_246_32, bk_v, bk_n, nl_I, nl_R, nl_L, nl_0, oo_lt, oo_le, oo_eq, oo_add, oo_sub, oo_tn, oo_ir, nn_leT, nn_leF, nn_ltT, nn_ltF, nn_eqT, nn_eqF, bv_0, bv_1, ko_b, ko_1, ko_0, true_and, and_true, if_true, if_false, not_true_eq_false, not_false_eq_true, oo_02, decide_eq_true_eq, decide_eq_false_iff_not, ite_not, Nat.reduceAdd, Nat.reduceLT, Nat.reduceSub, Nat.reduceLeDiff, reduceIte, Bool.true_eq_false, Bool.false_eq_true, reduceCtorEq, eq_self, decide_true, decide_false, bv_t, bv_f, and_self, t_si, t_sl, t_sr, t_sI, t_sR, n_si, n_sl, n_sr, n_sI, n_sR, r_si, r_sl, r_sI, hM, hT, hS, hB, hR]
  · have h := RM_fr h hV hf
    have hq := RM_MQ h hV
    have hMM := hq
    obtain ⟨hM, hT, hS, ⟨hn, hk4⟩, hW1, hW2, hW3⟩ := hMM
    unfold sh_M at hM
    unfold MT_ at hT
    unfold MS_ at hS
    have hB := h.2.2.1.2
    unfold PK_ at hB
    have hR := h.2.2.2
    have hy := decide_eq_false (oo_no (by omega) hx)
    have hM0 := hM.1
    simp (disch := first | omega | decide | exact ko_b _ | assumption | (simp only [t_si, t_sl, t_sr, t_sI, t_sR, n_si, n_sl, n_sr, n_sI, n_sR, r_si, r_sl, r_sI]; first | done | omega)) only [x_246_e, x_246_b, x_246_0, x_246_1, x_246_2, x_246_5, x_246_6, x_246_7, x_246_10, x_246_13, x_246_14, x_246_15, x_246_18, x_246_19, x_246_20, x_246_23, x_246_24, x_246_27, x_246_28, x_246_29, x_246_32, bk_v, bk_n, nl_I, nl_R, nl_L, nl_0, oo_lt, oo_le, oo_eq, oo_add, oo_sub, oo_tn, oo_ir, nn_leT, nn_leF, nn_ltT, nn_ltF, nn_eqT, nn_eqF, bv_0, bv_1, ko_b, ko_1, ko_0, true_and, and_true, if_true, if_false, not_true_eq_false, not_false_eq_true, oo_02, decide_eq_true_eq, decide_eq_false_iff_not, ite_not, Nat.reduceAdd, Nat.reduceLT, Nat.reduceSub, Nat.reduceLeDiff, reduceIte, Bool.true_eq_false, Bool.false_eq_true, reduceCtorEq, eq_self, decide_true, decide_false, bv_t, bv_f, and_self, t_si, t_sl, t_sr, t_sI, t_sR, n_si, n_sl, n_sr, n_sI, n_sR, r_si, r_sl, r_sI, hM, hT, hS, hB, hR, m_isL h hV, hy, m_fail hM0]
theorem m_hung (h : RM_ w S) (hV : WS_ S) {d : Nat} : MR_ (d + 6) 240 [v_R (some 1440)] w (v_I (f_hung (sm_T S) (bm_X (sm_B S))).1) 0 := by
  refine mr_go (ls := [some (v_R (some 1440)), none, none, none]) (fun Q => ?_) (fun w0 hf hc => mr_0 hc (fun Q => ?_))
  · have hq := RM_MQ h hV
    have hMM := hq
    obtain ⟨hM, hT, hS, ⟨hn, hk4⟩, hW1, hW2, hW3⟩ := hMM
    unfold sh_M at hM
    unfold MT_ at hT
    unfold MS_ at hS
    have hB := h.2.2.1.2
    unfold PK_ at hB
    have hR := h.2.2.2
    simp (disch := first | omega | decide | exact ko_b _ | assumption | (simp only [t_si, t_sl, t_sr, t_sI, t_sR, n_si, n_sl, n_sr, n_sI, n_sR, r_si, r_sl, r_sI]; first | done | omega)) only [x_240_e, x_240_b, x_240_0, x_240_1, x_240_2, x_240_6, x_240_7, x_240_8, x_240_9, x_240_10, x_240_11, x_240_12, x_240_13, x_240_16, x_240_17, x_240_18, x_240_21, x_240_22, x_240_23, x_240_26, x_240_27, x_240_30, x_240_31, x_240_34, x_240_35, x_240_36, x_240_37, x_240_40, x_240_41, x_240_42, x_240_43, x_240_44, x_240_47, x_240_50, x_240_51, x_240_52, x_240_53, x_240_56, x_240_57, x_240_58, x_240_59, x_240_62, x_240_63, x_240_64, x_240_65, x_240_66, x_240_69, x_240_72, x_240_73, bk_v, bk_n, nl_I, nl_R, nl_L, nl_0, oo_lt, oo_le, oo_eq, oo_add, oo_sub, oo_tn, oo_ir, nn_leT, nn_leF, nn_ltT, nn_ltF, nn_eqT, nn_eqF, bv_0, bv_1, ko_b, ko_1, ko_0, true_and, and_true, if_true, if_false, not_true_eq_false, not_false_eq_true, oo_02, decide_eq_true_eq, decide_eq_false_iff_not, ite_not, Nat.reduceAdd, Nat.reduceLT, Nat.reduceSub, Nat.reduceLeDiff, reduceIte, Bool.true_eq_false, Bool.false_eq_true, reduceCtorEq, eq_self, decide_true, decide_false, bv_t, bv_f, and_self, t_si, t_sl, t_sr, t_sI, t_sR, n_si, n_sl, n_sr, n_sI, n_sR, r_si, r_sl, r_sI, hM, hT, hS, hB, hR]
  · have h := RM_fr h hV hf
    have hq := RM_MQ h hV
    have hMM := hq
    obtain ⟨hM, hT, hS, ⟨hn, hk4⟩, hW1, hW2, hW3⟩ := hMM
    unfold sh_M at hM
    unfold MT_ at hT
    unfold MS_ at hS
    have hB := h.2.2.1.2
    unfold PK_ at hB
    have hR := h.2.2.2
    simp (disch := first | omega | decide | exact ko_b _ | assumption | (simp only [t_si, t_sl, t_sr, t_sI, t_sR, n_si, n_sl, n_sr, n_sI, n_sR, r_si, r_sl, r_sI]; first | done | omega)) only [x_240_e, x_240_b, x_240_0, x_240_1, x_240_2, x_240_5, x_240_6, x_240_7, x_240_8, x_240_9, x_240_10, x_240_12, x_240_13, x_240_16, x_240_17, x_240_18, x_240_21, x_240_22, x_240_23, x_240_26, x_240_27, x_240_30, x_240_31, x_240_34, x_240_35, x_240_36, x_240_37, x_240_40, x_240_41, x_240_42, x_240_43, x_240_44, x_240_47, x_240_50, x_240_51, x_240_52, x_240_53, x_240_56, x_240_57, x_240_58, x_240_59, x_240_62, x_240_63, x_240_64, x_240_65, x_240_66, x_240_69, x_240_72, x_240_73, bk_v, bk_n, nl_I, nl_R, nl_L, nl_0, oo_lt, oo_le, oo_eq, oo_add, oo_sub, oo_tn, oo_ir, nn_leT, nn_leF, nn_ltT, nn_ltF, nn_eqT, nn_eqF, bv_0, bv_1, ko_b, ko_1, ko_0, true_and, and_true, if_true, if_false, not_true_eq_false, not_false_eq_true, oo_02, decide_eq_true_eq, decide_eq_false_iff_not, ite_not, Nat.reduceAdd, Nat.reduceLT, Nat.reduceSub, Nat.reduceLeDiff, reduceIte, Bool.true_eq_false, Bool.false_eq_true, reduceCtorEq, eq_self, decide_true, decide_false, bv_t, bv_f, and_self, t_si, t_sl, t_sr, t_sI, t_sR, n_si, n_sl, n_sr, n_sI, n_sR, r_si, r_sl, r_sI, hM, hT, hS, hB, hR]
    refine lp_io (fun j s => wp (d + 6) 240 11 [some (v_R (some 1440)), some (v_I s.1), some (v_I s.2), some (v_I (Int32.ofNat j))] [] w0 Q) (fun s => Q (Sum.inl (some (v_I s.1))) w0) (fun t s => if (f_lv (bm_X (sm_B S)) t).isNone = true ∨ tm_hg (sm_T S) t - xm_m (bm_X (sm_B S)) t ≤ s.2 then s else (Int32.ofNat t, tm_hg (sm_T S) t - xm_m (bm_X (sm_B S)) t)) (tm_n (sm_T S)) 0 (Int32.ofInt (-1), Int32.ofNat 0) (fun j s h1 hj => ?_) (fun s => ?_)
    · have hb : (o_i (f_lv (bm_X (sm_B S)) j) = Int32.ofInt (-1)) = ((f_lv (bm_X (sm_B S)) j).isNone = true) := oi_m (fun k e => by have := flv_lt e; omega)
      rw [x_240_11]
      by_cases h2 : (f_lv (bm_X (sm_B S)) j).isNone = true
      · simp (disch := first | omega | decide | exact ko_b _ | assumption | (simp only [t_si, t_sl, t_sr, t_sI, t_sR, n_si, n_sl, n_sr, n_sI, n_sR, r_si, r_sl, r_sI]; first | done | omega)) only [x_240_e, x_240_b, x_240_0, x_240_1, x_240_2, x_240_5, x_240_6, x_240_7, x_240_8, x_240_9, x_240_10, x_240_12, x_240_13, x_240_16, x_240_17, x_240_18, x_240_21, x_240_22, x_240_23, x_240_26, x_240_27, x_240_30, x_240_31, x_240_34, x_240_35, x_240_36, x_240_37, x_240_40, x_240_41, x_240_42, x_240_43, x_240_44, x_240_47, x_240_50, x_240_51, x_240_52, x_240_53, x_240_56, x_240_57, x_240_58, x_240_59, x_240_62, x_240_63, x_240_64, x_240_65, x_240_66, x_240_69, x_240_72, x_240_73, bk_v, bk_n, nl_I, nl_R, nl_L, nl_0, oo_lt, oo_le, oo_eq, oo_add, oo_sub, oo_tn, oo_ir, nn_leT, nn_leF, nn_ltT, nn_ltF, nn_eqT, nn_eqF, bv_0, bv_1, ko_b, ko_1, ko_0, true_and, and_true, if_true, if_false, not_true_eq_false, not_false_eq_true, oo_02, decide_eq_true_eq, decide_eq_false_iff_not, ite_not, Nat.reduceAdd, Nat.reduceLT, Nat.reduceSub, Nat.reduceLeDiff, reduceIte, Bool.true_eq_false, Bool.false_eq_true, reduceCtorEq, eq_self, decide_true, decide_false, bv_t, bv_f, and_self, t_si, t_sl, t_sr, t_sI, t_sR, n_si, n_sl, n_sr, n_sI, n_sR, r_si, r_sl, r_sI, hM, hT, hS, hB, hR, m_lv hq, hb, h2, true_or]
      · by_cases h3 : tm_hg (sm_T S) j - xm_m (bm_X (sm_B S)) j ≤ s.2
        · simp (disch := first | omega | decide | exact ko_b _ | assumption | (simp only [t_si, t_sl, t_sr, t_sI, t_sR, n_si, n_sl, n_sr, n_sI, n_sR, r_si, r_sl, r_sI]; first | done | omega)) only [x_240_e, x_240_b, x_240_0, x_240_1, x_240_2, x_240_5, x_240_6, x_240_7, x_240_8, x_240_9, x_240_10, x_240_12, x_240_13, x_240_16, x_240_17, x_240_18, x_240_21, x_240_22, x_240_23, x_240_26, x_240_27, x_240_30, x_240_31, x_240_34, x_240_35, x_240_36, x_240_37, x_240_40, x_240_41, x_240_42, x_240_43, x_240_44, x_240_47, x_240_50, x_240_51, x_240_52, x_240_53, x_240_56, x_240_57, x_240_58, x_240_59, x_240_62, x_240_63, x_240_64, x_240_65, x_240_66, x_240_69, x_240_72, x_240_73, bk_v, bk_n, nl_I, nl_R, nl_L, nl_0, oo_lt, oo_le, oo_eq, oo_add, oo_sub, oo_tn, oo_ir, nn_leT, nn_leF, nn_ltT, nn_ltF, nn_eqT, nn_eqF, bv_0, bv_1, ko_b, ko_1, ko_0, true_and, and_true, if_true, if_false, not_true_eq_false, not_false_eq_true, oo_02, decide_eq_true_eq, decide_eq_false_iff_not, ite_not, Nat.reduceAdd, Nat.reduceLT, Nat.reduceSub, Nat.reduceLeDiff, reduceIte, Bool.true_eq_false, Bool.false_eq_true, reduceCtorEq, eq_self, decide_true, decide_false, bv_t, bv_f, and_self, t_si, t_sl, t_sr, t_sI, t_sR, n_si, n_sl, n_sr, n_sI, n_sR, r_si, r_sl, r_sI, hM, hT, hS, hB, hR, m_lv hq, hb, h2, h3, or_true, Int32.not_lt.mpr h3]
        · simp (disch := first | omega | decide | exact ko_b _ | assumption | (simp only [t_si, t_sl, t_sr, t_sI, t_sR, n_si, n_sl, n_sr, n_sI, n_sR, r_si, r_sl, r_sI]; first | done | omega)) only [x_240_e, x_240_b, x_240_0, x_240_1, x_240_2, x_240_5, x_240_6, x_240_7, x_240_8, x_240_9, x_240_10, x_240_12, x_240_13, x_240_16, x_240_17, x_240_18, x_240_21, x_240_22, x_240_23, x_240_26, x_240_27, x_240_30, x_240_31, x_240_34, x_240_35, x_240_36, x_240_37, x_240_40, x_240_41, x_240_42, x_240_43, x_240_44, x_240_47, x_240_50, x_240_51, x_240_52, x_240_53, x_240_56, x_240_57, x_240_58, x_240_59, x_240_62, x_240_63, x_240_64, x_240_65, x_240_66, x_240_69, x_240_72, x_240_73, bk_v, bk_n, nl_I, nl_R, nl_L, nl_0, oo_lt, oo_le, oo_eq, oo_add, oo_sub, oo_tn, oo_ir, nn_leT, nn_leF, nn_ltT, nn_ltF, nn_eqT, nn_eqF, bv_0, bv_1, ko_b, ko_1, ko_0, true_and, and_true, if_true, if_false, not_true_eq_false, not_false_eq_true, oo_02, decide_eq_true_eq, decide_eq_false_iff_not, ite_not, Nat.reduceAdd, Nat.reduceLT, Nat.reduceSub, Nat.reduceLeDiff, reduceIte, Bool.true_eq_false, Bool.false_eq_true, reduceCtorEq, eq_self, decide_true, decide_false, bv_t, bv_f, and_self, t_si, t_sl, t_sr, t_sI, t_sR, n_si, n_sl, n_sr, n_sI, n_sR, r_si, r_sl, r_sI, hM, hT, hS, hB, hR, m_lv hq, hb, h2, h3, or_false, Int32.not_le.mp h3]
    · rw [x_240_11]
      simp (disch := first | omega | decide | exact ko_b _ | assumption | (simp only [t_si, t_sl, t_sr, t_sI, t_sR, n_si, n_sl, n_sr, n_sI, n_sR, r_si, r_sl, r_sI]; first | done | omega)) only [x_240_e, x_240_b, x_240_0, x_240_1, x_240_2, x_240_5, x_240_6, x_240_7, x_240_8, x_240_9, x_240_10, x_240_12, x_240_13, x_240_16, x_240_17, x_240_18, x_240_21, x_240_22, x_240_23, x_240_26, x_240_27, x_240_30, x_240_31, x_240_34, x_240_35, x_240_36, x_240_37, x_240_40, x_240_41, x_240_42, x_240_43, x_240_44, x_240_47, x_240_50, x_240_51, x_240_52, x_240_53, x_240_56, x_240_57, x_240_58, x_240_59, x_240_62, x_240_63, x_240_64, x_240_65, x_240_66, x_240_69, x_240_72, x_240_73, bk_v, bk_n, nl_I, nl_R, nl_L, nl_0, oo_lt, oo_le, oo_eq, oo_add, oo_sub, oo_tn, oo_ir, nn_leT, nn_leF, nn_ltT, nn_ltF, nn_eqT, nn_eqF, bv_0, bv_1, ko_b, ko_1, ko_0, true_and, and_true, if_true, if_false, not_true_eq_false, not_false_eq_true, oo_02, decide_eq_true_eq, decide_eq_false_iff_not, ite_not, Nat.reduceAdd, Nat.reduceLT, Nat.reduceSub, Nat.reduceLeDiff, reduceIte, Bool.true_eq_false, Bool.false_eq_true, reduceCtorEq, eq_self, decide_true, decide_false, bv_t, bv_f, and_self, t_si, t_sl, t_sr, t_sI, t_sR, n_si, n_sl, n_sr, n_sI, n_sR, r_si, r_sl, r_sI, hM, hT, hS, hB, hR]
theorem m_crk (h : RM_ w S) (hV : WS_ S) {d : Nat} : MR_ (d + 6) 247 [v_R (some 1440)] w (v_I (o_i (f_crk (sm_T S) (bm_X (sm_B S))))) 0 := by
  refine mr_go (ls := [some (v_R (some 1440)), none, none]) (fun Q => ?_) (fun w0 hf hc => mr_0 hc (fun Q => ?_))
  · have hq := RM_MQ h hV
    have hMM := hq
    obtain ⟨hM, hT, hS, ⟨hn, hk4⟩, hW1, hW2, hW3⟩ := hMM
    unfold sh_M at hM
    unfold MT_ at hT
    unfold MS_ at hS
    have hB := h.2.2.1.2
    unfold PK_ at hB
    have hR := h.2.2.2
    simp (disch := first | omega | decide | exact ko_b _ | assumption | (simp only [t_si, t_sl, t_sr, t_sI, t_sR, n_si, n_sl, n_sr, n_sI, n_sR, r_si, r_sl, r_sI]; first | done | omega)) only [x_247_e, x_247_b, x_247_0, x_247_1, x_247_2, x_247_6, x_247_7, x_247_8, x_247_9, x_247_10, x_247_11, x_247_14, x_247_17, x_247_18, x_247_19, x_247_22, x_247_23, x_247_24, x_247_27, x_247_30, x_247_31, x_247_32, x_247_35, x_247_38, x_247_41, x_247_42, x_247_43, x_247_46, x_247_49, x_247_50, bk_v, bk_n, nl_I, nl_R, nl_L, nl_0, oo_lt, oo_le, oo_eq, oo_add, oo_sub, oo_tn, oo_ir, nn_leT, nn_leF, nn_ltT, nn_ltF, nn_eqT, nn_eqF, bv_0, bv_1, ko_b, ko_1, ko_0, true_and, and_true, if_true, if_false, not_true_eq_false, not_false_eq_true, oo_02, decide_eq_true_eq, decide_eq_false_iff_not, ite_not, Nat.reduceAdd, Nat.reduceLT, Nat.reduceSub, Nat.reduceLeDiff, reduceIte, Bool.true_eq_false, Bool.false_eq_true, reduceCtorEq, eq_self, decide_true, decide_false, bv_t, bv_f, and_self, t_si, t_sl, t_sr, t_sI, t_sR, n_si, n_sl, n_sr, n_sI, n_sR, r_si, r_sl, r_sI, hM, hT, hS, hB, hR]
  · have h := RM_fr h hV hf
    have hq := RM_MQ h hV
    have hMM := hq
    obtain ⟨hM, hT, hS, ⟨hn, hk4⟩, hW1, hW2, hW3⟩ := hMM
    unfold sh_M at hM
    unfold MT_ at hT
    unfold MS_ at hS
    have hB := h.2.2.1.2
    unfold PK_ at hB
    have hR := h.2.2.2
    simp (disch := first | omega | decide | exact ko_b _ | assumption | (simp only [t_si, t_sl, t_sr, t_sI, t_sR, n_si, n_sl, n_sr, n_sI, n_sR, r_si, r_sl, r_sI]; first | done | omega)) only [x_247_e, x_247_b, x_247_0, x_247_1, x_247_2, x_247_5, x_247_6, x_247_7, x_247_8, x_247_10, x_247_11, x_247_14, x_247_17, x_247_18, x_247_19, x_247_22, x_247_23, x_247_24, x_247_27, x_247_30, x_247_31, x_247_32, x_247_35, x_247_38, x_247_41, x_247_42, x_247_43, x_247_46, x_247_49, x_247_50, bk_v, bk_n, nl_I, nl_R, nl_L, nl_0, oo_lt, oo_le, oo_eq, oo_add, oo_sub, oo_tn, oo_ir, nn_leT, nn_leF, nn_ltT, nn_ltF, nn_eqT, nn_eqF, bv_0, bv_1, ko_b, ko_1, ko_0, true_and, and_true, if_true, if_false, not_true_eq_false, not_false_eq_true, oo_02, decide_eq_true_eq, decide_eq_false_iff_not, ite_not, Nat.reduceAdd, Nat.reduceLT, Nat.reduceSub, Nat.reduceLeDiff, reduceIte, Bool.true_eq_false, Bool.false_eq_true, reduceCtorEq, eq_self, decide_true, decide_false, bv_t, bv_f, and_self, t_si, t_sl, t_sr, t_sI, t_sR, n_si, n_sl, n_sr, n_sI, n_sR, r_si, r_sl, r_sI, hM, hT, hS, hB, hR]
    rw [← o_i_n]
    refine lp_iv (fun j b => wp (d + 6) 247 9 [some (v_R (some 1440)), some (v_I (o_i b)), some (v_I (Int32.ofNat j))] [] w0 Q) (fun b => Q (Sum.inl (some (v_I (o_i b)))) w0) (fun _ b => ∀ k, b = some k → k < xm_L (bm_X (sm_B S))) _ (xm_L (bm_X (sm_B S))) 0 none (fun k e => by cases e) (fun j b h1 hj hI => ?_) (fun b _ => ?_)
    · rw [x_247_9]
      cases b with
      | none =>
        refine ⟨?_, fun k e => by cases e; omega⟩
        simp (disch := first | omega | decide | exact ko_b _ | assumption | (simp only [t_si, t_sl, t_sr, t_sI, t_sR, n_si, n_sl, n_sr, n_sI, n_sR, r_si, r_sl, r_sI]; first | done | omega)) only [x_247_e, x_247_b, x_247_0, x_247_1, x_247_2, x_247_5, x_247_6, x_247_7, x_247_8, x_247_10, x_247_11, x_247_14, x_247_17, x_247_18, x_247_19, x_247_22, x_247_23, x_247_24, x_247_27, x_247_30, x_247_31, x_247_32, x_247_35, x_247_38, x_247_41, x_247_42, x_247_43, x_247_46, x_247_49, x_247_50, bk_v, bk_n, nl_I, nl_R, nl_L, nl_0, oo_lt, oo_le, oo_eq, oo_add, oo_sub, oo_tn, oo_ir, nn_leT, nn_leF, nn_ltT, nn_ltF, nn_eqT, nn_eqF, bv_0, bv_1, ko_b, ko_1, ko_0, true_and, and_true, if_true, if_false, not_true_eq_false, not_false_eq_true, oo_02, decide_eq_true_eq, decide_eq_false_iff_not, ite_not, Nat.reduceAdd, Nat.reduceLT, Nat.reduceSub, Nat.reduceLeDiff, reduceIte, Bool.true_eq_false, Bool.false_eq_true, reduceCtorEq, eq_self, decide_true, decide_false, bv_t, bv_f, and_self, t_si, t_sl, t_sr, t_sI, t_sR, n_si, n_sl, n_sr, n_sI, n_sR, r_si, r_sl, r_sI, hM, hT, hS, hB, hR, o_i_n, o_i_s]
      | some k =>
        have hk := hI k rfl
        have hne : (Int32.ofNat k = Int32.ofInt (-1)) = False := by
          rw [← o_i_s, oi_m (fun j e => by cases e; omega)]
          exact eq_false (fun z => by cases z)
        by_cases h2 : i_ab (f_tilt (sm_T S) (bm_X (sm_B S)) k) < i_ab (f_tilt (sm_T S) (bm_X (sm_B S)) j)
        · have h3 := Int32.not_le.mpr h2
          refine ⟨?_, fun i e => by simp only [h2, if_true] at e; cases e; omega⟩
          unfold i_ab at h2 h3 ⊢
          simp (disch := first | omega | decide | exact ko_b _ | assumption | (simp only [t_si, t_sl, t_sr, t_sI, t_sR, n_si, n_sl, n_sr, n_sI, n_sR, r_si, r_sl, r_sI]; first | done | omega)) only [x_247_e, x_247_b, x_247_0, x_247_1, x_247_2, x_247_5, x_247_6, x_247_7, x_247_8, x_247_10, x_247_11, x_247_14, x_247_17, x_247_18, x_247_19, x_247_22, x_247_23, x_247_24, x_247_27, x_247_30, x_247_31, x_247_32, x_247_35, x_247_38, x_247_41, x_247_42, x_247_43, x_247_46, x_247_49, x_247_50, bk_v, bk_n, nl_I, nl_R, nl_L, nl_0, oo_lt, oo_le, oo_eq, oo_add, oo_sub, oo_tn, oo_ir, nn_leT, nn_leF, nn_ltT, nn_ltF, nn_eqT, nn_eqF, bv_0, bv_1, ko_b, ko_1, ko_0, true_and, and_true, if_true, if_false, not_true_eq_false, not_false_eq_true, oo_02, decide_eq_true_eq, decide_eq_false_iff_not, ite_not, Nat.reduceAdd, Nat.reduceLT, Nat.reduceSub, Nat.reduceLeDiff, reduceIte, Bool.true_eq_false, Bool.false_eq_true, reduceCtorEq, eq_self, decide_true, decide_false, bv_t, bv_f, and_self, t_si, t_sl, t_sr, t_sI, t_sR, n_si, n_sl, n_sr, n_sI, n_sR, r_si, r_sl, r_sI, hM, hT, hS, hB, hR, o_i_s, hne, m_tilt hq, h2, h3]
        · have h3 := Int32.not_lt.mp h2
          refine ⟨?_, fun i e => by simp only [h2, if_false] at e; cases e; omega⟩
          unfold i_ab at h2 h3 ⊢
          simp (disch := first | omega | decide | exact ko_b _ | assumption | (simp only [t_si, t_sl, t_sr, t_sI, t_sR, n_si, n_sl, n_sr, n_sI, n_sR, r_si, r_sl, r_sI]; first | done | omega)) only [x_247_e, x_247_b, x_247_0, x_247_1, x_247_2, x_247_5, x_247_6, x_247_7, x_247_8, x_247_10, x_247_11, x_247_14, x_247_17, x_247_18, x_247_19, x_247_22, x_247_23, x_247_24, x_247_27, x_247_30, x_247_31, x_247_32, x_247_35, x_247_38, x_247_41, x_247_42, x_247_43, x_247_46, x_247_49, x_247_50, bk_v, bk_n, nl_I, nl_R, nl_L, nl_0, oo_lt, oo_le, oo_eq, oo_add, oo_sub, oo_tn, oo_ir, nn_leT, nn_leF, nn_ltT, nn_ltF, nn_eqT, nn_eqF, bv_0, bv_1, ko_b, ko_1, ko_0, true_and, and_true, if_true, if_false, not_true_eq_false, not_false_eq_true, oo_02, decide_eq_true_eq, decide_eq_false_iff_not, ite_not, Nat.reduceAdd, Nat.reduceLT, Nat.reduceSub, Nat.reduceLeDiff, reduceIte, Bool.true_eq_false, Bool.false_eq_true, reduceCtorEq, eq_self, decide_true, decide_false, bv_t, bv_f, and_self, t_si, t_sl, t_sr, t_sI, t_sR, n_si, n_sl, n_sr, n_sI, n_sR, r_si, r_sl, r_sI, hM, hT, hS, hB, hR, o_i_s, hne, m_tilt hq, h2, h3]
    · rw [x_247_9]
      simp (disch := first | omega | decide | exact ko_b _ | assumption | (simp only [t_si, t_sl, t_sr, t_sI, t_sR, n_si, n_sl, n_sr, n_sI, n_sR, r_si, r_sl, r_sI]; first | done | omega)) only [x_247_e, x_247_b, x_247_0, x_247_1, x_247_2, x_247_5, x_247_6, x_247_7, x_247_8, x_247_10, x_247_11, x_247_14, x_247_17, x_247_18, x_247_19, x_247_22, x_247_23, x_247_24, x_247_27, x_247_30, x_247_31, x_247_32, x_247_35, x_247_38, x_247_41, x_247_42, x_247_43, x_247_46, x_247_49, x_247_50, bk_v, bk_n, nl_I, nl_R, nl_L, nl_0, oo_lt, oo_le, oo_eq, oo_add, oo_sub, oo_tn, oo_ir, nn_leT, nn_leF, nn_ltT, nn_ltF, nn_eqT, nn_eqF, bv_0, bv_1, ko_b, ko_1, ko_0, true_and, and_true, if_true, if_false, not_true_eq_false, not_false_eq_true, oo_02, decide_eq_true_eq, decide_eq_false_iff_not, ite_not, Nat.reduceAdd, Nat.reduceLT, Nat.reduceSub, Nat.reduceLeDiff, reduceIte, Bool.true_eq_false, Bool.false_eq_true, reduceCtorEq, eq_self, decide_true, decide_false, bv_t, bv_f, and_self, t_si, t_sl, t_sr, t_sI, t_sR, n_si, n_sl, n_sr, n_sI, n_sR, r_si, r_sl, r_sI, hM, hT, hS, hB, hR]
end
