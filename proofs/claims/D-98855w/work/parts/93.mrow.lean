/-! SETS: the model's most, row -/
set_option maxRecDepth 100000
section
variable {w : Wd} {T : Tm} {X : Xm} {S : Sm}
theorem m_mset (h : MQ_ w T X) {d : Nat} : ∃ w1, Fr_ Psl_ w w1 ∧ WM_ w1 T X ∧ LS_ w1 0 0 ∧ ∀ Q, cl (d + 6) 219 [v_R (some 1440)] w Q = Q (Sum.inl (some (v_I (Int32.ofNat (f_mst T X))))) w1 := by
  have hn10 := h.2.2.2.1.1
  obtain ⟨P, hP⟩ : ∃ P, P = 2 ^ tm_n T := ⟨_, rfl⟩
  have hP1 : 1 ≤ P := by rw [hP]; exact Nat.two_pow_pos _
  have hP2 : P ≤ 1024 := by rw [hP]; exact p2_le hn10
  have sbN : Int32.ofNat 1 <<< (Int32.ofNat (tm_n T) &&& 31) = Int32.ofNat P := by rw [sb_s (by omega), hP]
  have f0 : Fr_ Psl_ w (s_i w 1440 39 (Int32.ofNat 0)) := fr_si (fr_rf _ _) (by unfold Psl_; omega)
  have h0 := MQ_fr h (fr_mo f0 (fun a k z => Psl_pm z))
  obtain ⟨w1, f1, hW, q1⟩ := m_sums h0 (d := d + 4)
  have h1 := MQ_fr h0 (fr_mo f1 (fun a k z => by unfold P62_ at z; unfold pm_; omega))
  have hl1 : LS_ w1 0 0 := ⟨by rw [f1.2.2.2.2.2 _ _ (by unfold P62_; omega), i_si, if_pos ⟨rfl, rfl⟩], Or.inl rfl⟩
  have fac : ∀ u, MQ_ u T X → w_t u 1440 = 25 ∧ w_r u 1440 4 = some 1444 ∧ w_t u 1444 = 1 ∧ w_n u 1444 = 8 ∧ w_r u 1440 38 = some 1463 ∧ w_t u 1463 = 4 ∧ w_n u 1463 = 1024 := fun u hu => by
    have hM := hu.1
    unfold sh_M at hM
    simp only [hM, and_self]
  obtain ⟨u, ⟨i1, i2⟩, q2⟩ := lp_ig (fun s (b : Nat) (u : Wd) Q => wp (d + 6) 219 13 [some (v_R (some 1440)), some (v_I (Int32.ofNat b)), some (v_I (Int32.ofNat s))] [] u Q) (fun s b u => Fr_ Pn_ w1 u ∧ b < 1024) (f_ms1 T X) (P - 1) 1 0 w1 (fun s b u hs1 hs2 hC => by
    have hq := MQ_n h1 hC.1
    have hs : s < 1024 := by omega
    obtain ⟨a1, a2, a3, a4, a5, a6, a7⟩ := fac u hq
    have e0 : w_i u 1444 0 = Int32.ofNat (tm_n T) := hq.2.1.1
    have jb := fun d Q => m_bits (w := u) (d := d) (Q := Q) hs
    have jx := fun d Q => m_bits (w := u) (d := d) (Q := Q) hC.2
    have b2 := bt_10 hs
    have b3 := bt_10 hC.2
    unfold f_ms1
    by_cases c : bt_n b < bt_n s
    · obtain ⟨w2, f2, hD, q2⟩ := m_tw hq (WM_fr hW hC.1 (fun k => ⟨fun z => z, fun z => z⟩)) (d := d + 1) (all := s) (some := 0) (sea := 0) (by rw [← hP]; omega) (by omega) (LS_n hl1 hC.1)
      refine ⟨w2, ⟨fr_tr hC.1 f2, by split <;> omega⟩, fun Q => ?_⟩
      have hq2 := MQ_n hq f2
      obtain ⟨c1, c2, c3, c4, c5, c6, c7⟩ := fac w2 hq2
      have ed : w_l w2 1463 0 = Int64.ofNat (wy_ T X 0 0 s) := DW_0 hD
      have hB : wy_ T X 0 0 s ≤ 10000000000 := wk_b hn10 b2
      rw [x_219_13]
      by_cases z2 : 0 < wy_ T X 0 0 s
      · have z3 : (Int64.ofNat (wy_ T X 0 0 s) ≤ Int64.ofNat 0) = False := by
          rw [l_le (by omega) (by omega)]; exact eq_false (by omega)
        rw [if_pos ⟨c, z2⟩]
        simp (disch := first | omega | decide | exact ko_b _ | assumption | (simp only [t_si, t_sl, t_sr, t_sI, t_sR, n_si, n_sl, n_sr, n_sI, n_sR, r_si, r_sl, r_sI]; first | done | omega)) only [x_219_e, x_219_b, x_219_14, x_219_15, x_219_16, x_219_19, x_219_20, x_219_21, x_219_22, x_219_25, x_219_26, x_219_29, x_219_30, x_219_33, x_219_36, x_219_39, x_219_40, x_219_41, x_219_44, x_219_45, x_219_48, x_219_49, x_219_50, x_219_51, x_219_52, x_219_55, x_219_56, x_219_57, x_219_60, bk_v, bk_n, nl_I, nl_R, nl_L, nl_0, oo_lt, oo_le, oo_eq, oo_add, oo_sub, oo_tn, oo_ir, nn_leT, nn_leF, nn_ltT, nn_ltF, nn_eqT, nn_eqF, bv_0, bv_1, ko_b, ko_1, ko_0, true_and, and_true, if_true, if_false, not_true_eq_false, not_false_eq_true, oo_02, decide_eq_true_eq, decide_eq_false_iff_not, ite_not, Nat.reduceAdd, Nat.reduceLT, Nat.reduceSub, Nat.reduceLeDiff, reduceIte, Bool.true_eq_false, Bool.false_eq_true, reduceCtorEq, eq_self, decide_true, decide_false, bv_t, bv_f, and_self, t_si, t_sl, t_sr, t_sI, t_sR, n_si, n_sl, n_sr, n_sI, n_sR, r_si, r_sl, r_sI, a2, a4, e0, sbN, jb, jx, q2, c5, c7, ed, lg_le, z3]
      · have z3 : (Int64.ofNat (wy_ T X 0 0 s) ≤ Int64.ofNat 0) = True := by
          rw [l_le (by omega) (by omega)]; exact eq_true (by omega)
        rw [if_neg (fun z => z2 z.2)]
        simp (disch := first | omega | decide | exact ko_b _ | assumption | (simp only [t_si, t_sl, t_sr, t_sI, t_sR, n_si, n_sl, n_sr, n_sI, n_sR, r_si, r_sl, r_sI]; first | done | omega)) only [x_219_e, x_219_b, x_219_14, x_219_15, x_219_16, x_219_19, x_219_20, x_219_21, x_219_22, x_219_25, x_219_26, x_219_29, x_219_30, x_219_33, x_219_36, x_219_39, x_219_40, x_219_41, x_219_44, x_219_45, x_219_48, x_219_49, x_219_50, x_219_51, x_219_52, x_219_55, x_219_56, x_219_57, x_219_60, bk_v, bk_n, nl_I, nl_R, nl_L, nl_0, oo_lt, oo_le, oo_eq, oo_add, oo_sub, oo_tn, oo_ir, nn_leT, nn_leF, nn_ltT, nn_ltF, nn_eqT, nn_eqF, bv_0, bv_1, ko_b, ko_1, ko_0, true_and, and_true, if_true, if_false, not_true_eq_false, not_false_eq_true, oo_02, decide_eq_true_eq, decide_eq_false_iff_not, ite_not, Nat.reduceAdd, Nat.reduceLT, Nat.reduceSub, Nat.reduceLeDiff, reduceIte, Bool.true_eq_false, Bool.false_eq_true, reduceCtorEq, eq_self, decide_true, decide_false, bv_t, bv_f, and_self, t_si, t_sl, t_sr, t_sI, t_sR, n_si, n_sl, n_sr, n_sI, n_sR, r_si, r_sl, r_sI, a2, a4, e0, sbN, jb, jx, q2, c5, c7, ed, lg_le, z3]
    · rw [if_neg (fun z => c z.1)]
      refine ⟨u, hC, fun Q => ?_⟩
      rw [x_219_13]
      simp (disch := first | omega | decide | exact ko_b _ | assumption | (simp only [t_si, t_sl, t_sr, t_sI, t_sR, n_si, n_sl, n_sr, n_sI, n_sR, r_si, r_sl, r_sI]; first | done | omega)) only [x_219_e, x_219_b, x_219_14, x_219_15, x_219_16, x_219_19, x_219_20, x_219_21, x_219_22, x_219_25, x_219_26, x_219_29, x_219_30, x_219_33, x_219_36, x_219_39, x_219_40, x_219_41, x_219_44, x_219_45, x_219_48, x_219_49, x_219_50, x_219_51, x_219_52, x_219_55, x_219_56, x_219_57, x_219_60, bk_v, bk_n, nl_I, nl_R, nl_L, nl_0, oo_lt, oo_le, oo_eq, oo_add, oo_sub, oo_tn, oo_ir, nn_leT, nn_leF, nn_ltT, nn_ltF, nn_eqT, nn_eqF, bv_0, bv_1, ko_b, ko_1, ko_0, true_and, and_true, if_true, if_false, not_true_eq_false, not_false_eq_true, oo_02, decide_eq_true_eq, decide_eq_false_iff_not, ite_not, Nat.reduceAdd, Nat.reduceLT, Nat.reduceSub, Nat.reduceLeDiff, reduceIte, Bool.true_eq_false, Bool.false_eq_true, reduceCtorEq, eq_self, decide_true, decide_false, bv_t, bv_f, and_self, t_si, t_sl, t_sr, t_sI, t_sR, n_si, n_sl, n_sr, n_sI, n_sR, r_si, r_sl, r_sI, a2, a4, e0, sbN, jb, jx]) ⟨fr_rf _ _, by omega⟩
  refine ⟨u, fr_tr (fr_tr f0 (fr_mo f1 (fun a k z => Or.inl z))) (fr_mo i1 (fun a k z => z.elim)), WM_fr hW i1 (fun k => ⟨fun z => z, fun z => z⟩), LS_n hl1 i1, fun Q => ?_⟩
  obtain ⟨a1, a2, a3, a4, a5, a6, a7⟩ := fac u (MQ_n h1 i1)
  have e0 : w_i u 1444 0 = Int32.ofNat (tm_n T) := (MQ_n h1 i1).2.1.1
  have fin : wp (d + 6) 219 13 [some (v_R (some 1440)), some (v_I (Int32.ofNat (it_ (f_ms1 T X) 1 (P - 1) 0))), some (v_I (Int32.ofNat (1 + (P - 1))))] [] u Q = Q (Sum.inl (some (v_I (Int32.ofNat (f_mst T X))))) u := by
    unfold f_mst
    rw [x_219_13, ← hP]
    simp (disch := first | omega | decide | exact ko_b _ | assumption | (simp only [t_si, t_sl, t_sr, t_sI, t_sR, n_si, n_sl, n_sr, n_sI, n_sR, r_si, r_sl, r_sI]; first | done | omega)) only [x_219_e, x_219_b, x_219_14, x_219_15, x_219_16, x_219_19, x_219_20, x_219_21, x_219_22, x_219_e, x_219_b, x_219_63, x_219_64, bk_v, bk_n, nl_I, nl_R, nl_L, nl_0, oo_lt, oo_le, oo_eq, oo_add, oo_sub, oo_tn, oo_ir, nn_leT, nn_leF, nn_ltT, nn_ltF, nn_eqT, nn_eqF, bv_0, bv_1, ko_b, ko_1, ko_0, true_and, and_true, if_true, if_false, not_true_eq_false, not_false_eq_true, oo_02, decide_eq_true_eq, decide_eq_false_iff_not, ite_not, Nat.reduceAdd, Nat.reduceLT, Nat.reduceSub, Nat.reduceLeDiff, reduceIte, Bool.true_eq_false, Bool.false_eq_true, reduceCtorEq, eq_self, decide_true, decide_false, bv_t, bv_f, and_self, t_si, t_sl, t_sr, t_sI, t_sR, n_si, n_sl, n_sr, n_sI, n_sR, r_si, r_sl, r_sI, a2, a4, e0, sbN]
  refine Eq.trans ?_ ((q2 Q).trans fin)
  have u0 : w_t w 1440 = 25 := h.1.1
  simp (disch := first | omega | decide | exact ko_b _ | assumption | (simp only [t_si, t_sl, t_sr, t_sI, t_sR, n_si, n_sl, n_sr, n_sI, n_sR, r_si, r_sl, r_sI]; first | done | omega)) only [x_219_e, x_219_b, x_219_0, x_219_1, x_219_2, x_219_5, x_219_6, x_219_9, x_219_10, x_219_11, x_219_12, bk_v, bk_n, nl_I, nl_R, nl_L, nl_0, oo_lt, oo_le, oo_eq, oo_add, oo_sub, oo_tn, oo_ir, nn_leT, nn_leF, nn_ltT, nn_ltF, nn_eqT, nn_eqF, bv_0, bv_1, ko_b, ko_1, ko_0, true_and, and_true, if_true, if_false, not_true_eq_false, not_false_eq_true, oo_02, decide_eq_true_eq, decide_eq_false_iff_not, ite_not, Nat.reduceAdd, Nat.reduceLT, Nat.reduceSub, Nat.reduceLeDiff, reduceIte, Bool.true_eq_false, Bool.false_eq_true, reduceCtorEq, eq_self, decide_true, decide_false, bv_t, bv_f, and_self, t_si, t_sl, t_sr, t_sI, t_sR, n_si, n_sl, n_sr, n_sI, n_sR, r_si, r_sl, r_sI, q1]
theorem m_most (h9 : RM_ w S) (hV : WS_ S) {d : Nat} {x : Int32} (hx : Int32.ofNat 0 ≤ x ∧ x ≤ Int32.ofNat 1) : MR_ (d + 7) 218 [v_R (some 1440), v_I x] w (v_I (q_most (sm_T S) (bm_X (sm_B S)) x)) 0 := by
  refine mr_go (ls := [some (v_R (some 1440)), some (v_I x), none]) (fun Q => ?_) (fun w0 hf hc => ?_)
  · have h := h9
    have hq := RM_MQ h hV
    have hMM := hq
    obtain ⟨hM, hT, hS, ⟨hn, hk4⟩, hW1, hW2, hW3⟩ := hMM
    unfold sh_M at hM
    unfold MT_ at hT
    unfold MS_ at hS
    have hB := h.2.2.1.2
    unfold PK_ at hB
    have hR := h.2.2.2
    simp (disch := first | omega | decide | exact ko_b _ | assumption | (simp only [t_si, t_sl, t_sr, t_sI, t_sR, n_si, n_sl, n_sr, n_sI, n_sR, r_si, r_sl, r_sI]; first | done | omega)) only [x_218_e, x_218_b, x_218_0, x_218_1, x_218_2, x_218_6, x_218_9, x_218_10, x_218_11, x_218_14, x_218_15, x_218_16, x_218_19, x_218_20, x_218_21, x_218_24, x_218_25, x_218_26, x_218_29, x_218_30, x_218_33, x_218_36, x_218_37, bk_v, bk_n, nl_I, nl_R, nl_L, nl_0, oo_lt, oo_le, oo_eq, oo_add, oo_sub, oo_tn, oo_ir, nn_leT, nn_leF, nn_ltT, nn_ltF, nn_eqT, nn_eqF, bv_0, bv_1, ko_b, ko_1, ko_0, true_and, and_true, if_true, if_false, not_true_eq_false, not_false_eq_true, oo_02, decide_eq_true_eq, decide_eq_false_iff_not, ite_not, Nat.reduceAdd, Nat.reduceLT, Nat.reduceSub, Nat.reduceLeDiff, reduceIte, Bool.true_eq_false, Bool.false_eq_true, reduceCtorEq, eq_self, decide_true, decide_false, bv_t, bv_f, and_self, t_si, t_sl, t_sr, t_sI, t_sR, n_si, n_sl, n_sr, n_sI, n_sR, r_si, r_sl, r_sI, hM, hT, hS, hB, hR]
  · have h := RM_fr h9 hV hf
    have hn10 := hV.1.1
    obtain ⟨w1, f1, -, -, q1⟩ := m_mset (RM_MQ h hV) (d := d)
    have hm : f_mst (sm_T S) (bm_X (sm_B S)) < 1024 := Nat.lt_of_lt_of_le (mst_lt _ _).1 (p2_le hn10)
    have jb := fun d Q => m_bits (w := w1) (d := d) (Q := Q) hm
    refine ⟨w1, fr_mo f1 (fun a k z => Psl_pm z), by rw [f1.2.2.2.2.2 _ _ (by unfold Psl_ P62_; omega)]; exact hc, fun Q => ?_⟩
    have u0 : w_t w0 1440 = 25 := h.1.1
    have n1 := Int32.not_lt.mpr hx.1
    have n2 := hx.2
    unfold q_most
    by_cases z : x = Int32.ofNat 0
    · subst z
      simp (disch := first | omega | decide | exact ko_b _ | assumption | (simp only [t_si, t_sl, t_sr, t_sI, t_sR, n_si, n_sl, n_sr, n_sI, n_sR, r_si, r_sl, r_sI]; first | done | omega)) only [x_218_e, x_218_b, x_218_5, x_218_6, x_218_9, x_218_10, x_218_11, x_218_14, x_218_15, x_218_16, x_218_19, x_218_20, x_218_21, x_218_24, x_218_25, x_218_26, x_218_29, x_218_30, x_218_33, x_218_36, x_218_37, bk_v, bk_n, nl_I, nl_R, nl_L, nl_0, oo_lt, oo_le, oo_eq, oo_add, oo_sub, oo_tn, oo_ir, nn_leT, nn_leF, nn_ltT, nn_ltF, nn_eqT, nn_eqF, bv_0, bv_1, ko_b, ko_1, ko_0, true_and, and_true, if_true, if_false, not_true_eq_false, not_false_eq_true, oo_02, decide_eq_true_eq, decide_eq_false_iff_not, ite_not, Nat.reduceAdd, Nat.reduceLT, Nat.reduceSub, Nat.reduceLeDiff, reduceIte, Bool.true_eq_false, Bool.false_eq_true, reduceCtorEq, eq_self, decide_true, decide_false, bv_t, bv_f, and_self, t_si, t_sl, t_sr, t_sI, t_sR, n_si, n_sl, n_sr, n_sI, n_sR, r_si, r_sl, r_sI, q1, jb]
    · simp (disch := first | omega | decide | exact ko_b _ | assumption | (simp only [t_si, t_sl, t_sr, t_sI, t_sR, n_si, n_sl, n_sr, n_sI, n_sR, r_si, r_sl, r_sI]; first | done | omega)) only [x_218_e, x_218_b, x_218_5, x_218_6, x_218_9, x_218_10, x_218_11, x_218_14, x_218_15, x_218_16, x_218_19, x_218_20, x_218_21, x_218_24, x_218_25, x_218_26, x_218_29, x_218_30, x_218_33, x_218_36, x_218_37, bk_v, bk_n, nl_I, nl_R, nl_L, nl_0, oo_lt, oo_le, oo_eq, oo_add, oo_sub, oo_tn, oo_ir, nn_leT, nn_leF, nn_ltT, nn_ltF, nn_eqT, nn_eqF, bv_0, bv_1, ko_b, ko_1, ko_0, true_and, and_true, if_true, if_false, not_true_eq_false, not_false_eq_true, oo_02, decide_eq_true_eq, decide_eq_false_iff_not, ite_not, Nat.reduceAdd, Nat.reduceLT, Nat.reduceSub, Nat.reduceLeDiff, reduceIte, Bool.true_eq_false, Bool.false_eq_true, reduceCtorEq, eq_self, decide_true, decide_false, bv_t, bv_f, and_self, t_si, t_sl, t_sr, t_sI, t_sR, n_si, n_sl, n_sr, n_sI, n_sR, r_si, r_sl, r_sI, n1, n2, q1, jb, z]
theorem m_most_x (h9 : RM_ w S) (hV : WS_ S) {d : Nat} {x : Int32} (hx : ¬ (Int32.ofNat 0 ≤ x ∧ x ≤ Int32.ofNat 1)) : MR_ (d + 7) 218 [v_R (some 1440), v_I x] w (v_I (Int32.ofNat 0)) 1 := by
  refine mr_go (ls := [some (v_R (some 1440)), some (v_I x), none]) (fun Q => ?_) (fun w0 hf hc => mr_f (fun Q => ?_))
  · have h := h9
    have hq := RM_MQ h hV
    have hMM := hq
    obtain ⟨hM, hT, hS, ⟨hn, hk4⟩, hW1, hW2, hW3⟩ := hMM
    unfold sh_M at hM
    unfold MT_ at hT
    unfold MS_ at hS
    have hB := h.2.2.1.2
    unfold PK_ at hB
    have hR := h.2.2.2
    simp (disch := first | omega | decide | exact ko_b _ | assumption | (simp only [t_si, t_sl, t_sr, t_sI, t_sR, n_si, n_sl, n_sr, n_sI, n_sR, r_si, r_sl, r_sI]; first | done | omega)) only [x_218_e, x_218_b, x_218_0, x_218_1, x_218_2, x_218_6, x_218_9, x_218_10, x_218_11, x_218_14, x_218_15, x_218_16, x_218_19, x_218_20, x_218_21, x_218_24, x_218_25, x_218_26, x_218_29, x_218_30, x_218_33, x_218_36, x_218_37, bk_v, bk_n, nl_I, nl_R, nl_L, nl_0, oo_lt, oo_le, oo_eq, oo_add, oo_sub, oo_tn, oo_ir, nn_leT, nn_leF, nn_ltT, nn_ltF, nn_eqT, nn_eqF, bv_0, bv_1, ko_b, ko_1, ko_0, true_and, and_true, if_true, if_false, not_true_eq_false, not_false_eq_true, oo_02, decide_eq_true_eq, decide_eq_false_iff_not, ite_not, Nat.reduceAdd, Nat.reduceLT, Nat.reduceSub, Nat.reduceLeDiff, reduceIte, Bool.true_eq_false, Bool.false_eq_true, reduceCtorEq, eq_self, decide_true, decide_false, bv_t, bv_f, and_self, t_si, t_sl, t_sr, t_sI, t_sR, n_si, n_sl, n_sr, n_sI, n_sR, r_si, r_sl, r_sI, hM, hT, hS, hB, hR]
  · have h := RM_fr h9 hV hf
    have hM0 := h.1.1
    by_cases c : x < Int32.ofNat 0
    · simp (disch := first | omega | decide | exact ko_b _ | assumption | (simp only [t_si, t_sl, t_sr, t_sI, t_sR, n_si, n_sl, n_sr, n_sI, n_sR, r_si, r_sl, r_sI]; first | done | omega)) only [x_218_e, x_218_b, x_218_5, x_218_6, x_218_9, x_218_10, x_218_11, x_218_14, x_218_15, x_218_16, x_218_19, x_218_20, bk_v, bk_n, nl_I, nl_R, nl_L, nl_0, oo_lt, oo_le, oo_eq, oo_add, oo_sub, oo_tn, oo_ir, nn_leT, nn_leF, nn_ltT, nn_ltF, nn_eqT, nn_eqF, bv_0, bv_1, ko_b, ko_1, ko_0, true_and, and_true, if_true, if_false, not_true_eq_false, not_false_eq_true, oo_02, decide_eq_true_eq, decide_eq_false_iff_not, ite_not, Nat.reduceAdd, Nat.reduceLT, Nat.reduceSub, Nat.reduceLeDiff, reduceIte, Bool.true_eq_false, Bool.false_eq_true, reduceCtorEq, eq_self, decide_true, decide_false, bv_t, bv_f, and_self, t_si, t_sl, t_sr, t_sI, t_sR, n_si, n_sl, n_sr, n_sI, n_sR, r_si, r_sl, r_sI, c, m_fail hM0]
    · have c2 : ¬ x ≤ Int32.ofNat 1 := fun z => hx ⟨Int32.not_lt.mp c, z⟩
      simp (disch := first | omega | decide | exact ko_b _ | assumption | (simp only [t_si, t_sl, t_sr, t_sI, t_sR, n_si, n_sl, n_sr, n_sI, n_sR, r_si, r_sl, r_sI]; first | done | omega)) only [x_218_e, x_218_b, x_218_5, x_218_6, x_218_9, x_218_10, x_218_11, x_218_14, x_218_15, x_218_16, x_218_19, x_218_20, bk_v, bk_n, nl_I, nl_R, nl_L, nl_0, oo_lt, oo_le, oo_eq, oo_add, oo_sub, oo_tn, oo_ir, nn_leT, nn_leF, nn_ltT, nn_ltF, nn_eqT, nn_eqF, bv_0, bv_1, ko_b, ko_1, ko_0, true_and, and_true, if_true, if_false, not_true_eq_false, not_false_eq_true, oo_02, decide_eq_true_eq, decide_eq_false_iff_not, ite_not, Nat.reduceAdd, Nat.reduceLT, Nat.reduceSub, Nat.reduceLeDiff, reduceIte, Bool.true_eq_false, Bool.false_eq_true, reduceCtorEq, eq_self, decide_true, decide_false, bv_t, bv_f, and_self, t_si, t_sl, t_sr, t_sI, t_sR, n_si, n_sl, n_sr, n_sI, n_sR, r_si, r_sl, r_sI, c, c2, m_fail hM0]
/-- the next of a row -/
theorem m_next (h : MQ_ w T X) (hW : WM_ w T X) (hl : LS_ w 0 0) {d best A k : Nat} (hb : best < 2 ^ tm_n T) (hA : A &&& best = A) (hk : bt_n best = bt_n A + (k + 1)) (hD : DW_ w (E_ T X 0 0 best) (tm_n T) best 0) {i l : Int32} {Q : Q_} : wp (d + 5) 225 57 [some (v_R (some 1440)), some (v_I i), some (v_I (Int32.ofNat best)), some (v_I (Int32.ofNat A)), some (v_I (Int32.ofInt (-1))), some (v_I l), some (v_I (Int32.ofNat 0))] [] w Q = wp (d + 5) 225 124 [some (v_R (some 1440)), some (v_I i), some (v_I (Int32.ofNat best)), some (v_I (Int32.ofNat A)), some (v_I (o_i (gr_ (E_ T X 0 0 best) (tm_n T) best k A))), some (v_I l), some (v_I (Int32.ofNat (match gr_ (E_ T X 0 0 best) (tm_n T) best k A with | some j => j + 1 | none => tm_n T)))] [] w Q := by
  have hn10 := h.2.2.2.1.1
  have hb1024 : best < 1024 := Nat.lt_of_lt_of_le hb (p2_le hn10)
  have hA1024 : A < 1024 := Nat.lt_of_le_of_lt (sub_le hA) hb1024
  have hx : best ^^^ (best &&& A) < 1024 := Nat.xor_lt_two_pow (n := 10) hb1024 (Nat.lt_of_le_of_lt Nat.and_le_left hb1024)
  have hk10 : k + 1 ≤ 10 := by have := bt_10 hb1024; omega
  have sn := sb_n best A
  have hM := h.1
  unfold sh_M at hM
  have u0 : w_t w 1440 = 25 := hM.1
  have u4 : w_r w 1440 4 = some 1444 := by simp only [hM]
  have u38 : w_r w 1440 38 = some 1463 := by simp only [hM]
  have t44 : w_t w 1444 = 1 := by simp only [hM]
  have n44 : w_n w 1444 = 8 := by simp only [hM]
  have t63 : w_t w 1463 = 4 := by simp only [hM]
  have n63 : w_n w 1463 = 1024 := by simp only [hM]
  clear hM
  have e0 : w_i w 1444 0 = Int32.ofNat (tm_n T) := h.2.1.1
  unfold gr_
  refine lp_fo (fun t => wp (d + 5) 225 57 [some (v_R (some 1440)), some (v_I i), some (v_I (Int32.ofNat best)), some (v_I (Int32.ofNat A)), some (v_I (Int32.ofInt (-1))), some (v_I l), some (v_I (Int32.ofNat t))] [] w Q) (fun o => wp (d + 5) 225 124 [some (v_R (some 1440)), some (v_I i), some (v_I (Int32.ofNat best)), some (v_I (Int32.ofNat A)), some (v_I (o_i o)), some (v_I l), some (v_I (Int32.ofNat (match o with | some j => j + 1 | none => tm_n T)))] [] w Q) (fun t => decide (0 < dn_ (E_ T X 0 0 best) (tm_n T) best k A t)) (tm_n T) 0 (fun t _ ht => ?_) ?_
  · have ht : t < tm_n T := by omega
    have ss := sb_s (t := t) (by omega)
    have so := sb_o A (2 ^ t)
    have hor := or_lt hA1024 (by omega : t < 10)
    have jo := fun d Q => m_isOf (w := w) (d := d) (Q := Q) hx (by omega : t < 10)
    have etb : (best ^^^ (best &&& A)).testBit t = (best.testBit t && !A.testBit t) := by
      rw [Nat.testBit_xor, Nat.testBit_and]
      cases best.testBit t <;> cases A.testBit t <;> rfl
    rw [etb] at jo
    rw [x_225_57]
    cases e1 : (best.testBit t && !A.testBit t) with
    | false =>
      rw [e1] at jo
      have z0 : dn_ (E_ T X 0 0 best) (tm_n T) best k A t = 0 := by
        unfold dn_ E_
        cases a1 : best.testBit t with
        | false => rw [Bool.false_and, Bool.false_and, Bool.and_false, if_neg (by decide)]
        | true =>
          rw [a1, Bool.true_and] at e1
          rw [e1, Bool.false_and, if_neg (by decide)]
      rw [z0, if_neg (by decide)]
      simp (disch := first | omega | decide | exact ko_b _ | assumption | (simp only [t_si, t_sl, t_sr, t_sI, t_sR, n_si, n_sl, n_sr, n_sI, n_sR, r_si, r_sl, r_sI]; first | done | omega)) only [x_225_e, x_225_b, x_225_59, x_225_60, x_225_63, x_225_64, x_225_65, x_225_68, x_225_70, x_225_71, x_225_74, x_225_75, x_225_76, x_225_77, x_225_78, x_225_79, x_225_81, x_225_84, x_225_87, x_225_88, x_225_91, x_225_92, x_225_93, x_225_95, x_225_96, x_225_97, x_225_98, x_225_99, x_225_100, x_225_103, x_225_104, x_225_105, x_225_107, x_225_108, x_225_111, x_225_114, x_225_116, x_225_118, x_225_121, bk_v, bk_n, nl_I, nl_R, nl_L, nl_0, oo_lt, oo_le, oo_eq, oo_add, oo_sub, oo_tn, oo_ir, nn_leT, nn_leF, nn_ltT, nn_ltF, nn_eqT, nn_eqF, bv_0, bv_1, ko_b, ko_1, ko_0, true_and, and_true, if_true, if_false, not_true_eq_false, not_false_eq_true, oo_02, decide_eq_true_eq, decide_eq_false_iff_not, ite_not, Nat.reduceAdd, Nat.reduceLT, Nat.reduceSub, Nat.reduceLeDiff, reduceIte, Bool.true_eq_false, Bool.false_eq_true, reduceCtorEq, eq_self, decide_true, decide_false, bv_t, bv_f, and_self, t_si, t_sl, t_sr, t_sI, t_sR, n_si, n_sl, n_sr, n_sI, n_sR, r_si, r_sl, r_sI, u4, n44, e0, sn, jo]
    | true =>
      rw [e1] at jo
      rw [Bool.and_eq_true, Bool.not_eq_true'] at e1
      obtain ⟨a1, a2⟩ := e1
      have hs2 : (A ||| 2 ^ t) &&& best = A ||| 2 ^ t := tb_sub (fun i hi => by
        rw [Nat.testBit_or] at hi
        by_cases c : i = t
        · rw [c]; exact a1
        · rw [Nat.testBit_two_pow_of_ne (fun z => c z.symm), Bool.or_false] at hi
          exact sub_tb hA hi)
      have hbt := bt_or a2 (by omega : t < 10)
      have hcell := hD _ hs2 (Nat.zero_le _)
      rw [show bt_n best - bt_n (A ||| 2 ^ t) = k by omega] at hcell
      have hB := wk_b (T := T) (E := E_ T X 0 0 best) (B := best) (k := k) (A := A ||| 2 ^ t) hn10 (by omega)
      by_cases cz : wk_ (E_ T X 0 0 best) (tm_n T) best k (A ||| 2 ^ t) = 0
      · have z0 : dn_ (E_ T X 0 0 best) (tm_n T) best k A t = 0 := by
          unfold dn_
          rw [cz, ite_self]
        rw [cz] at hcell
        rw [z0, if_neg (by decide)]
        simp (disch := first | omega | decide | exact ko_b _ | assumption | (simp only [t_si, t_sl, t_sr, t_sI, t_sR, n_si, n_sl, n_sr, n_sI, n_sR, r_si, r_sl, r_sI]; first | done | omega)) only [x_225_e, x_225_b, x_225_59, x_225_60, x_225_63, x_225_64, x_225_65, x_225_68, x_225_70, x_225_71, x_225_74, x_225_75, x_225_76, x_225_77, x_225_78, x_225_79, x_225_81, x_225_84, x_225_87, x_225_88, x_225_91, x_225_92, x_225_93, x_225_95, x_225_96, x_225_97, x_225_98, x_225_99, x_225_100, x_225_103, x_225_104, x_225_105, x_225_107, x_225_108, x_225_111, x_225_114, x_225_116, x_225_118, x_225_121, bk_v, bk_n, nl_I, nl_R, nl_L, nl_0, oo_lt, oo_le, oo_eq, oo_add, oo_sub, oo_tn, oo_ir, nn_leT, nn_leF, nn_ltT, nn_ltF, nn_eqT, nn_eqF, bv_0, bv_1, ko_b, ko_1, ko_0, true_and, and_true, if_true, if_false, not_true_eq_false, not_false_eq_true, oo_02, decide_eq_true_eq, decide_eq_false_iff_not, ite_not, Nat.reduceAdd, Nat.reduceLT, Nat.reduceSub, Nat.reduceLeDiff, reduceIte, Bool.true_eq_false, Bool.false_eq_true, reduceCtorEq, eq_self, decide_true, decide_false, bv_t, bv_f, and_self, t_si, t_sl, t_sr, t_sI, t_sR, n_si, n_sl, n_sr, n_sI, n_sR, r_si, r_sl, r_sI, u4, n44, e0, sn, jo, ss, so, u38, n63, hcell, lg_le, l_le]
      · have cz2 : (Int64.ofNat (wk_ (E_ T X 0 0 best) (tm_n T) best k (A ||| 2 ^ t)) ≤ Int64.ofNat 0) = False := by
          rw [l_le (by omega) (by omega)]; exact eq_false (by omega)
        have hft := fun Q => m_ft h hW (d := d + 1) (t := t) (below := A) (all := best) (some := 0) (sea := 0) (Q := Q) ht hA hb a1 (by omega) hl.1 hl.2
        cases eE : E_ T X 0 0 best A t with
        | false =>
          rw [eE] at hft
          have z0 : dn_ (E_ T X 0 0 best) (tm_n T) best k A t = 0 := by
            unfold dn_
            rw [eE, Bool.and_false, if_neg (by decide)]
          rw [z0, if_neg (by decide)]
          simp (disch := first | omega | decide | exact ko_b _ | assumption | (simp only [t_si, t_sl, t_sr, t_sI, t_sR, n_si, n_sl, n_sr, n_sI, n_sR, r_si, r_sl, r_sI]; first | done | omega)) only [x_225_e, x_225_b, x_225_59, x_225_60, x_225_63, x_225_64, x_225_65, x_225_68, x_225_70, x_225_71, x_225_74, x_225_75, x_225_76, x_225_77, x_225_78, x_225_79, x_225_81, x_225_84, x_225_87, x_225_88, x_225_91, x_225_92, x_225_93, x_225_95, x_225_96, x_225_97, x_225_98, x_225_99, x_225_100, x_225_103, x_225_104, x_225_105, x_225_107, x_225_108, x_225_111, x_225_114, x_225_116, x_225_118, x_225_121, bk_v, bk_n, nl_I, nl_R, nl_L, nl_0, oo_lt, oo_le, oo_eq, oo_add, oo_sub, oo_tn, oo_ir, nn_leT, nn_leF, nn_ltT, nn_ltF, nn_eqT, nn_eqF, bv_0, bv_1, ko_b, ko_1, ko_0, true_and, and_true, if_true, if_false, not_true_eq_false, not_false_eq_true, oo_02, decide_eq_true_eq, decide_eq_false_iff_not, ite_not, Nat.reduceAdd, Nat.reduceLT, Nat.reduceSub, Nat.reduceLeDiff, reduceIte, Bool.true_eq_false, Bool.false_eq_true, reduceCtorEq, eq_self, decide_true, decide_false, bv_t, bv_f, and_self, t_si, t_sl, t_sr, t_sI, t_sR, n_si, n_sl, n_sr, n_sI, n_sR, r_si, r_sl, r_sI, u4, n44, e0, sn, jo, ss, so, u38, n63, hcell, lg_le, cz2, hft]
        | true =>
          rw [eE] at hft
          have z0 : dn_ (E_ T X 0 0 best) (tm_n T) best k A t = wk_ (E_ T X 0 0 best) (tm_n T) best k (A ||| 2 ^ t) := by
            unfold dn_
            rw [a2, eE]; rfl
          have hne := oi_s1 (by omega : t < 2147483648)
          rw [z0, if_pos (decide_eq_true (by omega))]
          simp (disch := first | omega | decide | exact ko_b _ | assumption | (simp only [t_si, t_sl, t_sr, t_sI, t_sR, n_si, n_sl, n_sr, n_sI, n_sR, r_si, r_sl, r_sI]; first | done | omega)) only [x_225_e, x_225_b, x_225_59, x_225_60, x_225_63, x_225_64, x_225_65, x_225_68, x_225_70, x_225_71, x_225_74, x_225_75, x_225_76, x_225_77, x_225_78, x_225_79, x_225_81, x_225_84, x_225_87, x_225_88, x_225_91, x_225_92, x_225_93, x_225_95, x_225_96, x_225_97, x_225_98, x_225_99, x_225_100, x_225_103, x_225_104, x_225_105, x_225_107, x_225_108, x_225_111, x_225_114, x_225_116, x_225_118, x_225_121, bk_v, bk_n, nl_I, nl_R, nl_L, nl_0, oo_lt, oo_le, oo_eq, oo_add, oo_sub, oo_tn, oo_ir, nn_leT, nn_leF, nn_ltT, nn_ltF, nn_eqT, nn_eqF, bv_0, bv_1, ko_b, ko_1, ko_0, true_and, and_true, if_true, if_false, not_true_eq_false, not_false_eq_true, oo_02, decide_eq_true_eq, decide_eq_false_iff_not, ite_not, Nat.reduceAdd, Nat.reduceLT, Nat.reduceSub, Nat.reduceLeDiff, reduceIte, Bool.true_eq_false, Bool.false_eq_true, reduceCtorEq, eq_self, decide_true, decide_false, bv_t, bv_f, and_self, t_si, t_sl, t_sr, t_sI, t_sR, n_si, n_sl, n_sr, n_sI, n_sR, r_si, r_sl, r_sI, u4, n44, e0, sn, jo, ss, so, u38, n63, hcell, lg_le, cz2, hft]
          rw [x_225_57]
          by_cases c3 : t + 1 < tm_n T
          · simp (disch := first | omega | decide | exact ko_b _ | assumption | (simp only [t_si, t_sl, t_sr, t_sI, t_sR, n_si, n_sl, n_sr, n_sI, n_sR, r_si, r_sl, r_sI]; first | done | omega)) only [x_225_e, x_225_b, x_225_59, x_225_60, x_225_63, x_225_64, x_225_65, x_225_68, x_225_70, x_225_71, bk_v, bk_n, nl_I, nl_R, nl_L, nl_0, oo_lt, oo_le, oo_eq, oo_add, oo_sub, oo_tn, oo_ir, nn_leT, nn_leF, nn_ltT, nn_ltF, nn_eqT, nn_eqF, bv_0, bv_1, ko_b, ko_1, ko_0, true_and, and_true, if_true, if_false, not_true_eq_false, not_false_eq_true, oo_02, decide_eq_true_eq, decide_eq_false_iff_not, ite_not, Nat.reduceAdd, Nat.reduceLT, Nat.reduceSub, Nat.reduceLeDiff, reduceIte, Bool.true_eq_false, Bool.false_eq_true, reduceCtorEq, eq_self, decide_true, decide_false, bv_t, bv_f, and_self, t_si, t_sl, t_sr, t_sI, t_sR, n_si, n_sl, n_sr, n_sI, n_sR, r_si, r_sl, r_sI, u4, n44, e0, hne, o_i_s]
          · simp (disch := first | omega | decide | exact ko_b _ | assumption | (simp only [t_si, t_sl, t_sr, t_sI, t_sR, n_si, n_sl, n_sr, n_sI, n_sR, r_si, r_sl, r_sI]; first | done | omega)) only [x_225_e, x_225_b, x_225_59, x_225_60, x_225_63, x_225_64, x_225_65, x_225_68, x_225_70, x_225_71, bk_v, bk_n, nl_I, nl_R, nl_L, nl_0, oo_lt, oo_le, oo_eq, oo_add, oo_sub, oo_tn, oo_ir, nn_leT, nn_leF, nn_ltT, nn_ltF, nn_eqT, nn_eqF, bv_0, bv_1, ko_b, ko_1, ko_0, true_and, and_true, if_true, if_false, not_true_eq_false, not_false_eq_true, oo_02, decide_eq_true_eq, decide_eq_false_iff_not, ite_not, Nat.reduceAdd, Nat.reduceLT, Nat.reduceSub, Nat.reduceLeDiff, reduceIte, Bool.true_eq_false, Bool.false_eq_true, reduceCtorEq, eq_self, decide_true, decide_false, bv_t, bv_f, and_self, t_si, t_sl, t_sr, t_sI, t_sR, n_si, n_sl, n_sr, n_sI, n_sR, r_si, r_sl, r_sI, u4, n44, e0, hne, o_i_s]
  · rw [x_225_57]
    simp (disch := first | omega | decide | exact ko_b _ | assumption | (simp only [t_si, t_sl, t_sr, t_sI, t_sR, n_si, n_sl, n_sr, n_sI, n_sR, r_si, r_sl, r_sI]; first | done | omega)) only [x_225_e, x_225_b, x_225_59, x_225_60, x_225_63, x_225_64, x_225_65, bk_v, bk_n, nl_I, nl_R, nl_L, nl_0, oo_lt, oo_le, oo_eq, oo_add, oo_sub, oo_tn, oo_ir, nn_leT, nn_leF, nn_ltT, nn_ltF, nn_eqT, nn_eqF, bv_0, bv_1, ko_b, ko_1, ko_0, true_and, and_true, if_true, if_false, not_true_eq_false, not_false_eq_true, oo_02, decide_eq_true_eq, decide_eq_false_iff_not, ite_not, Nat.reduceAdd, Nat.reduceLT, Nat.reduceSub, Nat.reduceLeDiff, reduceIte, Bool.true_eq_false, Bool.false_eq_true, reduceCtorEq, eq_self, decide_true, decide_false, bv_t, bv_f, and_self, t_si, t_sl, t_sr, t_sI, t_sR, n_si, n_sl, n_sr, n_sI, n_sR, r_si, r_sl, r_sI, u4, n44, e0, o_i_n, Nat.zero_add]
theorem m_row1 (h : MQ_ w T X) (hW : WM_ w T X) (hl : LS_ w 0 0) {d best i : Nat} (hb : best < 2 ^ tm_n T) (hi : i < bt_n best) (hD : DW_ w (E_ T X 0 0 best) (tm_n T) best 0) {Q : Q_} : ∀ (m l A : Nat) (a4 a6 : Option Vl), l + m = i → A &&& best = A → bt_n A = l → 0 < wk_ (E_ T X 0 0 best) (tm_n T) best (bt_n best - l) A → wp (d + 5) 225 45 [some (v_R (some 1440)), some (v_I (Int32.ofNat i)), some (v_I (Int32.ofNat best)), some (v_I (Int32.ofNat A)), a4, some (v_I (Int32.ofNat l)), a6] [] w Q = Q (Sum.inl (some (v_I (Int32.ofNat (rw_ (E_ T X 0 0 best) (tm_n T) best (bt_n best - l) A (i - l)))))) w := by
  have hn10 := h.2.2.2.1.1
  have hb1024 : best < 1024 := Nat.lt_of_lt_of_le hb (p2_le hn10)
  have hb10 := bt_10 hb1024
  intro m
  induction m with
  | zero =>
    intro l A a4 a6 hlm hA hbt hpos
    obtain ⟨k, hk⟩ : ∃ k, bt_n best - l = k + 1 := ⟨bt_n best - l - 1, by omega⟩
    rw [hk] at hpos ⊢
    have hg := gr_p (E := E_ T X 0 0 best) (n := tm_n T) (B := best) (k := k) (A := A)
    rw [decide_eq_true hpos] at hg
    obtain ⟨t1, ht1⟩ := Option.isSome_iff_exists.mp hg.symm
    have hn := m_next h hW hl (d := d) (best := best) (A := A) (k := k) (i := Int32.ofNat i) (l := Int32.ofNat l) (Q := Q) hb hA (by omega) hD
    rw [ht1] at hn
    have ht10 : t1 < 10 := by have := (ff_s ht1).2.1; omega
    have ss := sb_s (t := t1) (by omega)
    have so := sb_o A (2 ^ t1)
    rw [rw_, ht1, show i - l = 0 by omega]
    show _ = Q (Sum.inl (some (v_I (Int32.ofNat (if (0 : Nat) = 0 then t1 else _))))) w
    rw [if_pos rfl, x_225_45]
    simp (disch := first | omega | decide | exact ko_b _ | assumption | (simp only [t_si, t_sl, t_sr, t_sI, t_sR, n_si, n_sl, n_sr, n_sI, n_sR, r_si, r_sl, r_sI]; first | done | omega)) only [x_225_e, x_225_b, x_225_47, x_225_48, x_225_51, x_225_52, x_225_54, x_225_55, bk_v, bk_n, nl_I, nl_R, nl_L, nl_0, oo_lt, oo_le, oo_eq, oo_add, oo_sub, oo_tn, oo_ir, nn_leT, nn_leF, nn_ltT, nn_ltF, nn_eqT, nn_eqF, bv_0, bv_1, ko_b, ko_1, ko_0, true_and, and_true, if_true, if_false, not_true_eq_false, not_false_eq_true, oo_02, decide_eq_true_eq, decide_eq_false_iff_not, ite_not, Nat.reduceAdd, Nat.reduceLT, Nat.reduceSub, Nat.reduceLeDiff, reduceIte, Bool.true_eq_false, Bool.false_eq_true, reduceCtorEq, eq_self, decide_true, decide_false, bv_t, bv_f, and_self, t_si, t_sl, t_sr, t_sI, t_sR, n_si, n_sl, n_sr, n_sI, n_sR, r_si, r_sl, r_sI]
    rw [hn]
    simp (disch := first | omega | decide | exact ko_b _ | assumption | (simp only [t_si, t_sl, t_sr, t_sI, t_sR, n_si, n_sl, n_sr, n_sI, n_sR, r_si, r_sl, r_sI]; first | done | omega)) only [x_225_e, x_225_b, x_225_124, x_225_125, x_225_126, x_225_128, x_225_129, x_225_130, x_225_131, x_225_134, bk_v, bk_n, nl_I, nl_R, nl_L, nl_0, oo_lt, oo_le, oo_eq, oo_add, oo_sub, oo_tn, oo_ir, nn_leT, nn_leF, nn_ltT, nn_ltF, nn_eqT, nn_eqF, bv_0, bv_1, ko_b, ko_1, ko_0, true_and, and_true, if_true, if_false, not_true_eq_false, not_false_eq_true, oo_02, decide_eq_true_eq, decide_eq_false_iff_not, ite_not, Nat.reduceAdd, Nat.reduceLT, Nat.reduceSub, Nat.reduceLeDiff, reduceIte, Bool.true_eq_false, Bool.false_eq_true, reduceCtorEq, eq_self, decide_true, decide_false, bv_t, bv_f, and_self, t_si, t_sl, t_sr, t_sI, t_sR, n_si, n_sl, n_sr, n_sI, n_sR, r_si, r_sl, r_sI, o_i_s, ss, so]
    rw [x_225_45]
    simp (disch := first | omega | decide | exact ko_b _ | assumption | (simp only [t_si, t_sl, t_sr, t_sI, t_sR, n_si, n_sl, n_sr, n_sI, n_sR, r_si, r_sl, r_sI]; first | done | omega)) only [x_225_e, x_225_b, x_225_47, x_225_48, x_225_e, x_225_b, x_225_137, x_225_139, bk_v, bk_n, nl_I, nl_R, nl_L, nl_0, oo_lt, oo_le, oo_eq, oo_add, oo_sub, oo_tn, oo_ir, nn_leT, nn_leF, nn_ltT, nn_ltF, nn_eqT, nn_eqF, bv_0, bv_1, ko_b, ko_1, ko_0, true_and, and_true, if_true, if_false, not_true_eq_false, not_false_eq_true, oo_02, decide_eq_true_eq, decide_eq_false_iff_not, ite_not, Nat.reduceAdd, Nat.reduceLT, Nat.reduceSub, Nat.reduceLeDiff, reduceIte, Bool.true_eq_false, Bool.false_eq_true, reduceCtorEq, eq_self, decide_true, decide_false, bv_t, bv_f, and_self, t_si, t_sl, t_sr, t_sI, t_sR, n_si, n_sl, n_sr, n_sI, n_sR, r_si, r_sl, r_sI]
  | succ m ih =>
    intro l A a4 a6 hlm hA hbt hpos
    obtain ⟨k, hk⟩ : ∃ k, bt_n best - l = k + 1 := ⟨bt_n best - l - 1, by omega⟩
    rw [hk] at hpos ⊢
    have hg := gr_p (E := E_ T X 0 0 best) (n := tm_n T) (B := best) (k := k) (A := A)
    rw [decide_eq_true hpos] at hg
    obtain ⟨t1, ht1⟩ := Option.isSome_iff_exists.mp hg.symm
    have hn := m_next h hW hl (d := d) (best := best) (A := A) (k := k) (i := Int32.ofNat i) (l := Int32.ofNat l) (Q := Q) hb hA (by omega) hD
    rw [ht1] at hn
    have hp1 := (ff_s ht1).2.2.1
    have hp1 : 0 < dn_ (E_ T X 0 0 best) (tm_n T) best k A t1 := of_decide_eq_true hp1
    have ht10 : t1 < 10 := by have := (ff_s ht1).2.1; omega
    have ss := sb_s (t := t1) (by omega)
    have so := sb_o A (2 ^ t1)
    unfold dn_ at hp1
    by_cases c : (!A.testBit t1 && E_ T X 0 0 best A t1) = true
    · rw [if_pos c] at hp1
      rw [Bool.and_eq_true, Bool.not_eq_true'] at c
      obtain ⟨c1, c2⟩ := c
      have c3 : best.testBit t1 = true := by
        unfold E_ at c2
        rw [Bool.and_eq_true, Bool.and_eq_true] at c2
        exact c2.1.1
      have hs2 : (A ||| 2 ^ t1) &&& best = A ||| 2 ^ t1 := tb_sub (fun i hi => by
        rw [Nat.testBit_or] at hi
        by_cases c : i = t1
        · rw [c]; exact c3
        · rw [Nat.testBit_two_pow_of_ne (fun z => c z.symm), Bool.or_false] at hi
          exact sub_tb hA hi)
      have hbt2 := bt_or c1 ht10
      have key := ih (l + 1) (A ||| 2 ^ t1) (some (v_I (Int32.ofNat t1))) (some (v_I (Int32.ofNat (t1 + 1)))) (by omega) hs2 (by omega) (by rw [show bt_n best - (l + 1) = k by omega]; exact hp1)
      rw [show bt_n best - (l + 1) = k by omega] at key
      rw [rw_, ht1]
      show _ = Q (Sum.inl (some (v_I (Int32.ofNat (if i - l = 0 then t1 else rw_ (E_ T X 0 0 best) (tm_n T) best k (A ||| 2 ^ t1) (i - l - 1)))))) w
      rw [if_neg (by omega), show i - l - 1 = i - (l + 1) by omega, ← key, x_225_45]
      simp (disch := first | omega | decide | exact ko_b _ | assumption | (simp only [t_si, t_sl, t_sr, t_sI, t_sR, n_si, n_sl, n_sr, n_sI, n_sR, r_si, r_sl, r_sI]; first | done | omega)) only [x_225_e, x_225_b, x_225_47, x_225_48, x_225_51, x_225_52, x_225_54, x_225_55, bk_v, bk_n, nl_I, nl_R, nl_L, nl_0, oo_lt, oo_le, oo_eq, oo_add, oo_sub, oo_tn, oo_ir, nn_leT, nn_leF, nn_ltT, nn_ltF, nn_eqT, nn_eqF, bv_0, bv_1, ko_b, ko_1, ko_0, true_and, and_true, if_true, if_false, not_true_eq_false, not_false_eq_true, oo_02, decide_eq_true_eq, decide_eq_false_iff_not, ite_not, Nat.reduceAdd, Nat.reduceLT, Nat.reduceSub, Nat.reduceLeDiff, reduceIte, Bool.true_eq_false, Bool.false_eq_true, reduceCtorEq, eq_self, decide_true, decide_false, bv_t, bv_f, and_self, t_si, t_sl, t_sr, t_sI, t_sR, n_si, n_sl, n_sr, n_sI, n_sR, r_si, r_sl, r_sI]
      rw [hn]
      simp (disch := first | omega | decide | exact ko_b _ | assumption | (simp only [t_si, t_sl, t_sr, t_sI, t_sR, n_si, n_sl, n_sr, n_sI, n_sR, r_si, r_sl, r_sI]; first | done | omega)) only [x_225_e, x_225_b, x_225_124, x_225_125, x_225_126, x_225_128, x_225_129, x_225_130, x_225_131, x_225_134, bk_v, bk_n, nl_I, nl_R, nl_L, nl_0, oo_lt, oo_le, oo_eq, oo_add, oo_sub, oo_tn, oo_ir, nn_leT, nn_leF, nn_ltT, nn_ltF, nn_eqT, nn_eqF, bv_0, bv_1, ko_b, ko_1, ko_0, true_and, and_true, if_true, if_false, not_true_eq_false, not_false_eq_true, oo_02, decide_eq_true_eq, decide_eq_false_iff_not, ite_not, Nat.reduceAdd, Nat.reduceLT, Nat.reduceSub, Nat.reduceLeDiff, reduceIte, Bool.true_eq_false, Bool.false_eq_true, reduceCtorEq, eq_self, decide_true, decide_false, bv_t, bv_f, and_self, t_si, t_sl, t_sr, t_sI, t_sR, n_si, n_sl, n_sr, n_sI, n_sR, r_si, r_sl, r_sI, o_i_s, ss, so]
    · rw [if_neg c] at hp1
      exact absurd hp1 (Nat.lt_irrefl 0)
theorem row_no {x : Int32} {n : Nat} (hn : n ≤ 10) (h : no_row x n) : ¬ (Int32.ofNat 0 ≤ x ∧ x ≤ Int32.ofNat n - Int32.ofNat 1) := by
  rintro ⟨h1, h2⟩
  rcases h with h | h
  · exact absurd h (Int32.not_lt.mpr h1)
  · rw [Int32.lt_iff_toInt_lt, oo_in (by omega)] at h
    rw [Int32.le_iff_toInt_le, Int32.toInt_sub, oo_in (by omega), oo_in (by omega), Int.bmod_eq_of_le (by omega) (by omega)] at h2
    omega
theorem m_row (h9 : RM_ w S) (hV : WS_ S) {d i : Nat} (hi : i < bt_n (f_mst (sm_T S) (bm_X (sm_B S)))) : MR_ (d + 7) 225 [v_R (some 1440), v_I (Int32.ofNat i)] w (v_I (Int32.ofNat (q_row (sm_T S) (bm_X (sm_B S)) i))) 0 := by
  refine mr_go (ls := [some (v_R (some 1440)), some (v_I (Int32.ofNat i)), none, none, none, none, none]) (fun Q => ?_) (fun w0 hf hc => ?_)
  · have h := h9
    have hq := RM_MQ h hV
    have hMM := hq
    obtain ⟨hM, hT, hS, ⟨hn, hk4⟩, hW1, hW2, hW3⟩ := hMM
    unfold sh_M at hM
    unfold MT_ at hT
    unfold MS_ at hS
    have hB := h.2.2.1.2
    unfold PK_ at hB
    have hR := h.2.2.2
    simp (disch := first | omega | decide | exact ko_b _ | assumption | (simp only [t_si, t_sl, t_sr, t_sI, t_sR, n_si, n_sl, n_sr, n_sI, n_sR, r_si, r_sl, r_sI]; first | done | omega)) only [x_225_e, x_225_b, x_225_0, x_225_1, x_225_2, x_225_6, x_225_9, x_225_10, x_225_11, x_225_12, x_225_13, x_225_14, x_225_17, x_225_18, x_225_19, x_225_20, x_225_23, x_225_26, x_225_27, x_225_28, x_225_31, x_225_32, x_225_33, x_225_34, x_225_37, x_225_38, x_225_39, x_225_40, x_225_42, x_225_43, x_225_45, x_225_47, x_225_48, x_225_51, x_225_52, x_225_54, x_225_55, x_225_57, x_225_59, x_225_60, x_225_63, x_225_64, x_225_65, x_225_68, x_225_70, x_225_71, x_225_74, x_225_75, x_225_76, x_225_77, x_225_78, x_225_79, x_225_81, x_225_84, x_225_87, x_225_88, x_225_91, x_225_92, x_225_93, x_225_95, x_225_96, x_225_97, x_225_98, x_225_99, x_225_100, x_225_103, x_225_104, x_225_105, x_225_107, x_225_108, x_225_111, x_225_114, x_225_116, x_225_118, x_225_121, x_225_124, x_225_125, x_225_126, x_225_128, x_225_129, x_225_130, x_225_131, x_225_134, x_225_137, x_225_139, bk_v, bk_n, nl_I, nl_R, nl_L, nl_0, oo_lt, oo_le, oo_eq, oo_add, oo_sub, oo_tn, oo_ir, nn_leT, nn_leF, nn_ltT, nn_ltF, nn_eqT, nn_eqF, bv_0, bv_1, ko_b, ko_1, ko_0, true_and, and_true, if_true, if_false, not_true_eq_false, not_false_eq_true, oo_02, decide_eq_true_eq, decide_eq_false_iff_not, ite_not, Nat.reduceAdd, Nat.reduceLT, Nat.reduceSub, Nat.reduceLeDiff, reduceIte, Bool.true_eq_false, Bool.false_eq_true, reduceCtorEq, eq_self, decide_true, decide_false, bv_t, bv_f, and_self, t_si, t_sl, t_sr, t_sI, t_sR, n_si, n_sl, n_sr, n_sI, n_sR, r_si, r_sl, r_sI, hM, hT, hS, hB, hR]
  · have h := RM_fr h9 hV hf
    have hn10 := hV.1.1
    have hq0 := RM_MQ h hV
    obtain ⟨w1, f1, hW, hl, q1⟩ := m_mset hq0 (d := d)
    have hm1 := mst_lt (sm_T S) (bm_X (sm_B S))
    have hm : f_mst (sm_T S) (bm_X (sm_B S)) < 1024 := Nat.lt_of_lt_of_le hm1.1 (p2_le hn10)
    have hb10 := bt_10 hm
    have jb := fun d Q => m_bits (w := w1) (d := d) (Q := Q) hm
    have hq1 := MQ_fr hq0 (fr_mo f1 (fun a k z => Psl_pm z))
    obtain ⟨w2, f2, hD, q2⟩ := m_tw hq1 hW (d := d + 2) (all := f_mst (sm_T S) (bm_X (sm_B S))) (some := 0) (sea := 0) hm1.1 (by omega) hl
    have hq2 := MQ_n hq1 f2
    refine ⟨w2, fr_tr (fr_mo f1 (fun a k z => Psl_pm z)) (fr_mo f2 (fun a k z => z.elim)), by rw [f2.2.2.2.2.2 _ _ (fun z => z), f1.2.2.2.2.2 _ _ (by unfold Psl_ P62_; omega)]; exact hc, fun Q => ?_⟩
    have hpos : 0 < wk_ (E_ (sm_T S) (bm_X (sm_B S)) 0 0 (f_mst (sm_T S) (bm_X (sm_B S)))) (tm_n (sm_T S)) (f_mst (sm_T S) (bm_X (sm_B S))) (bt_n (f_mst (sm_T S) (bm_X (sm_B S))) - 0) 0 := by
      rcases hm1.2 with z | z
      · rw [z] at hi
        exact absurd hi (Nat.not_lt_zero i)
      · exact z
    have key := m_row1 hq2 (WM_fr hW f2 (fun k => ⟨fun z => z, fun z => z⟩)) (LS_n hl f2) (d := d + 2) (i := i) (Q := Q) hm1.1 hi hD i 0 0 (some (v_I (Int32.ofInt (-1)))) none (Nat.zero_add _) (Nat.zero_and _) rfl hpos
    unfold q_row
    rw [Nat.sub_zero, Nat.sub_zero] at key
    rw [← key]
    have u0 : w_t w0 1440 = 25 := h.1.1
    have u1 : w_t w1 1440 = 25 := hq1.1.1
    have g1 : Int32.ofNat 0 ≤ Int32.ofNat i ∧ Int32.ofNat i ≤ Int32.ofNat (bt_n (f_mst (sm_T S) (bm_X (sm_B S))) - 1) := by
      rw [oo_le (by omega) (by omega), oo_le (by omega) (by omega)]; omega
    simp (disch := first | omega | decide | exact ko_b _ | assumption | (simp only [t_si, t_sl, t_sr, t_sI, t_sR, n_si, n_sl, n_sr, n_sI, n_sR, r_si, r_sl, r_sI]; first | done | omega)) only [x_225_e, x_225_b, x_225_5, x_225_6, x_225_9, x_225_10, x_225_11, x_225_12, x_225_13, x_225_14, x_225_17, x_225_18, x_225_19, x_225_20, x_225_23, x_225_26, x_225_27, x_225_28, x_225_31, x_225_32, x_225_33, x_225_34, x_225_37, x_225_38, x_225_39, x_225_40, x_225_42, x_225_43, bk_v, bk_n, nl_I, nl_R, nl_L, nl_0, oo_lt, oo_le, oo_eq, oo_add, oo_sub, oo_tn, oo_ir, nn_leT, nn_leF, nn_ltT, nn_ltF, nn_eqT, nn_eqF, bv_0, bv_1, ko_b, ko_1, ko_0, true_and, and_true, if_true, if_false, not_true_eq_false, not_false_eq_true, oo_02, decide_eq_true_eq, decide_eq_false_iff_not, ite_not, Nat.reduceAdd, Nat.reduceLT, Nat.reduceSub, Nat.reduceLeDiff, reduceIte, Bool.true_eq_false, Bool.false_eq_true, reduceCtorEq, eq_self, decide_true, decide_false, bv_t, bv_f, and_self, t_si, t_sl, t_sr, t_sI, t_sR, n_si, n_sl, n_sr, n_sI, n_sR, r_si, r_sl, r_sI, q1, jb, m_in, ll_o, ll_le, g1, q2]
theorem m_row_x (h9 : RM_ w S) (hV : WS_ S) {d : Nat} {x : Int32} (hx : no_row x (bt_n (f_mst (sm_T S) (bm_X (sm_B S))))) : MR_ (d + 7) 225 [v_R (some 1440), v_I x] w (v_I (Int32.ofNat 0)) 1 := by
  refine mr_go (ls := [some (v_R (some 1440)), some (v_I x), none, none, none, none, none]) (fun Q => ?_) (fun w0 hf hc => ?_)
  · have h := h9
    have hq := RM_MQ h hV
    have hMM := hq
    obtain ⟨hM, hT, hS, ⟨hn, hk4⟩, hW1, hW2, hW3⟩ := hMM
    unfold sh_M at hM
    unfold MT_ at hT
    unfold MS_ at hS
    have hB := h.2.2.1.2
    unfold PK_ at hB
    have hR := h.2.2.2
    simp (disch := first | omega | decide | exact ko_b _ | assumption | (simp only [t_si, t_sl, t_sr, t_sI, t_sR, n_si, n_sl, n_sr, n_sI, n_sR, r_si, r_sl, r_sI]; first | done | omega)) only [x_225_e, x_225_b, x_225_0, x_225_1, x_225_2, x_225_6, x_225_9, x_225_10, x_225_11, x_225_12, x_225_13, x_225_14, x_225_17, x_225_18, x_225_19, x_225_20, x_225_23, x_225_26, x_225_27, x_225_28, x_225_31, x_225_32, x_225_33, x_225_34, x_225_37, x_225_38, x_225_39, x_225_40, x_225_42, x_225_43, x_225_45, x_225_47, x_225_48, x_225_51, x_225_52, x_225_54, x_225_55, x_225_57, x_225_59, x_225_60, x_225_63, x_225_64, x_225_65, x_225_68, x_225_70, x_225_71, x_225_74, x_225_75, x_225_76, x_225_77, x_225_78, x_225_79, x_225_81, x_225_84, x_225_87, x_225_88, x_225_91, x_225_92, x_225_93, x_225_95, x_225_96, x_225_97, x_225_98, x_225_99, x_225_100, x_225_103, x_225_104, x_225_105, x_225_107, x_225_108, x_225_111, x_225_114, x_225_116, x_225_118, x_225_121, x_225_124, x_225_125, x_225_126, x_225_128, x_225_129, x_225_130, x_225_131, x_225_134, x_225_137, x_225_139, bk_v, bk_n, nl_I, nl_R, nl_L, nl_0, oo_lt, oo_le, oo_eq, oo_add, oo_sub, oo_tn, oo_ir, nn_leT, nn_leF, nn_ltT, nn_ltF, nn_eqT, nn_eqF, bv_0, bv_1, ko_b, ko_1, ko_0, true_and, and_true, if_true, if_false, not_true_eq_false, not_false_eq_true, oo_02, decide_eq_true_eq, decide_eq_false_iff_not, ite_not, Nat.reduceAdd, Nat.reduceLT, Nat.reduceSub, Nat.reduceLeDiff, reduceIte, Bool.true_eq_false, Bool.false_eq_true, reduceCtorEq, eq_self, decide_true, decide_false, bv_t, bv_f, and_self, t_si, t_sl, t_sr, t_sI, t_sR, n_si, n_sl, n_sr, n_sI, n_sR, r_si, r_sl, r_sI, hM, hT, hS, hB, hR]
  · have h := RM_fr h9 hV hf
    have hn10 := hV.1.1
    have hq0 := RM_MQ h hV
    obtain ⟨w1, f1, hW, hl, q1⟩ := m_mset hq0 (d := d)
    have hm1 := mst_lt (sm_T S) (bm_X (sm_B S))
    have hm : f_mst (sm_T S) (bm_X (sm_B S)) < 1024 := Nat.lt_of_lt_of_le hm1.1 (p2_le hn10)
    have hb10 := bt_10 hm
    have jb := fun d Q => m_bits (w := w1) (d := d) (Q := Q) hm
    have hq1 := MQ_fr hq0 (fr_mo f1 (fun a k z => Psl_pm z))
    have u0 : w_t w0 1440 = 25 := h.1.1
    have u1 : w_t w1 1440 = 25 := hq1.1.1
    refine ⟨s_i w1 1440 3 (Int32.ofNat 1), fr_si (fr_mo f1 (fun a k z => Psl_pm z)) (by unfold pm_; omega), by rw [i_si, if_pos ⟨rfl, rfl⟩], fun Q => ?_⟩
    have hn := row_no hb10 hx
    by_cases c : 1 ≤ bt_n (f_mst (sm_T S) (bm_X (sm_B S)))
    · rw [oo_sub c] at hn
      simp (disch := first | omega | decide | exact ko_b _ | assumption | (simp only [t_si, t_sl, t_sr, t_sI, t_sR, n_si, n_sl, n_sr, n_sI, n_sR, r_si, r_sl, r_sI]; first | done | omega)) only [x_225_e, x_225_b, x_225_5, x_225_6, x_225_9, x_225_10, x_225_11, x_225_12, x_225_13, x_225_14, x_225_17, x_225_18, x_225_19, x_225_20, x_225_23, x_225_26, x_225_27, x_225_28, x_225_31, x_225_32, bk_v, bk_n, nl_I, nl_R, nl_L, nl_0, oo_lt, oo_le, oo_eq, oo_add, oo_sub, oo_tn, oo_ir, nn_leT, nn_leF, nn_ltT, nn_ltF, nn_eqT, nn_eqF, bv_0, bv_1, ko_b, ko_1, ko_0, true_and, and_true, if_true, if_false, not_true_eq_false, not_false_eq_true, oo_02, decide_eq_true_eq, decide_eq_false_iff_not, ite_not, Nat.reduceAdd, Nat.reduceLT, Nat.reduceSub, Nat.reduceLeDiff, reduceIte, Bool.true_eq_false, Bool.false_eq_true, reduceCtorEq, eq_self, decide_true, decide_false, bv_t, bv_f, and_self, t_si, t_sl, t_sr, t_sI, t_sR, n_si, n_sl, n_sr, n_sI, n_sR, r_si, r_sl, r_sI, q1, jb, m_in, ll_o, ll_le, hn, m_fail u1]
    · have e : bt_n (f_mst (sm_T S) (bm_X (sm_B S))) = 0 := by omega
      rw [e] at hn jb
      simp (disch := first | omega | decide | exact ko_b _ | assumption | (simp only [t_si, t_sl, t_sr, t_sI, t_sR, n_si, n_sl, n_sr, n_sI, n_sR, r_si, r_sl, r_sI]; first | done | omega)) only [x_225_e, x_225_b, x_225_5, x_225_6, x_225_9, x_225_10, x_225_11, x_225_12, x_225_13, x_225_14, x_225_17, x_225_18, x_225_19, x_225_20, x_225_23, x_225_26, x_225_27, x_225_28, x_225_31, x_225_32, bk_v, bk_n, nl_I, nl_R, nl_L, nl_0, oo_lt, oo_le, oo_eq, oo_add, oo_sub, oo_tn, oo_ir, nn_leT, nn_leF, nn_ltT, nn_ltF, nn_eqT, nn_eqF, bv_0, bv_1, ko_b, ko_1, ko_0, true_and, and_true, if_true, if_false, not_true_eq_false, not_false_eq_true, oo_02, decide_eq_true_eq, decide_eq_false_iff_not, ite_not, Nat.reduceAdd, Nat.reduceLT, Nat.reduceSub, Nat.reduceLeDiff, reduceIte, Bool.true_eq_false, Bool.false_eq_true, reduceCtorEq, eq_self, decide_true, decide_false, bv_t, bv_f, and_self, t_si, t_sl, t_sr, t_sI, t_sR, n_si, n_sl, n_sr, n_sI, n_sR, r_si, r_sl, r_sI, q1, jb, m_in, ll_o, ll_le, hn, m_fail u1]
end
