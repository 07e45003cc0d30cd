/-! TRIALS, part four: swap (component) -/
set_option maxRecDepth 100000
section
variable {w : Wd} {S : Sm} {G : Gm} {σ : Nat → Nat}
theorem c_sw2 (h : RC_ w G σ S) (hV : WS_ S) (hS2 : CS_ w 1429 (tm_n (sm_T S)) (bm_X (sm_B S))) {d a j : Nat} {s : Int32 × Int32} {v : Option Vl} {Q : Q_} (ha : a < j) (hj : j < xm_L (bm_X (sm_B S))) : wp (d + 12) 52 52 [some (v_R (some 1000)), some (v_I s.1), some (v_I s.2), some (v_I (Int32.ofNat a)), some (v_I (Int32.ofNat j)), v] [] w Q = wp (d + 12) 52 29 [some (v_R (some 1000)), some (v_I (f_sw1 (sm_T S) (bm_X (sm_B S)) a j s).1), some (v_I (f_sw1 (sm_T S) (bm_X (sm_B S)) a j s).2), some (v_I (Int32.ofNat a)), some (v_I (Int32.ofNat (j + 1))), some (v_I (f_more (sm_T S) (x_swp (bm_X (sm_B S)) a j)))] [] (s_i (s_i w 1430 a (Int32.ofNat (xm_t (bm_X (sm_B S)) j))) 1430 j (Int32.ofNat (xm_t (bm_X (sm_B S)) a))) Q := by
  have hX9 := hV.2.2.2.1.1
  have f1 : Fr_ tz_ w (s_i (s_i w 1430 a (Int32.ofNat (xm_t (bm_X (sm_B S)) j))) 1430 j (Int32.ofNat (xm_t (bm_X (sm_B S)) a))) := fr_si (fr_si (fr_rf _ _) (by unfold tz_; omega)) (by unfold tz_; omega)
  have hc := CS_exch hS2 (by omega : a < xm_L (bm_X (sm_B S))) hj
  have r2 := RC_tz h hV f1
  have hq2 := tr_q r2 hV hc (WX_swp hX9 (by omega) hj)
  have e3 := fun Q => c_moreOf (d := d + 3) (Q := Q) r2.1.1 r2.2.2.1 hq2
  have hq := RC_CQ h hV
  have hC := h.1
  unfold sh_C at hC
  have hr0 : w_r w 1000 0 = some (gm_b G) := h.2.2.1
  have hT := h.2.2.2.1
  unfold CT_ at hT
  have hA : SO_ w 1008 := h.2.1.2.1.1
  unfold SO_ at hA
  have hA2 : SO_ w 1429 := h.2.1.2.2.2.2
  unfold SO_ at hA2
  have hS : CS_ w 1008 (tm_n (sm_T S)) (bm_X (sm_B S)) := h.2.2.2.2.2.2.2.1.1
  unfold CS_ at hS
  have hK : sh_B w 1007 := h.2.1.1
  unfold sh_B at hK
  have hB := h.2.2.2.2.2.2.2.1.2
  have hR := h.2.2.2.2.2.2.2.2.2
  simp only [Nat.reduceAdd] at hA hA2 hS hK hB
  obtain ⟨hn, hk4⟩ := hV.1
  obtain ⟨hW1, hW2, hW3⟩ := hV.2.2.2.1.1
  unfold f_sw1
  by_cases c : f_more (sm_T S) (x_swp (bm_X (sm_B S)) a j) ≤ s.2
  · have c2 := Int32.not_lt.mpr c
    simp (disch := first | omega | decide | exact ko_b _ | assumption | (simp only [t_si, t_sl, t_sr, t_sI, t_sR, n_si, n_sl, n_sr, n_sI, n_sR, r_si, r_sl, r_sI]; first | done | omega)) only [x_52_e, x_52_b, x_52_52, x_52_53, x_52_56, x_52_59, x_52_60, x_52_61, x_52_64, x_52_67, x_52_69, x_52_70, x_52_71, x_52_72, x_52_75, x_52_78, x_52_80, x_52_81, x_52_84, x_52_87, x_52_88, x_52_89, x_52_90, x_52_91, x_52_92, x_52_95, x_52_98, x_52_100, x_52_102, x_52_103, x_52_106, x_52_109, x_52_111, x_52_112, x_52_113, x_52_115, x_52_116, x_52_117, x_52_119, x_52_120, x_52_123, bk_v, bk_n, nl_I, nl_R, nl_L, nl_0, oo_lt, oo_le, oo_eq, oo_add, oo_sub, oo_tn, oo_ir, nn_leT, nn_leF, nn_ltT, nn_ltF, nn_eqT, nn_eqF, bv_0, bv_1, ko_b, ko_1, ko_0, true_and, and_true, if_true, if_false, not_true_eq_false, not_false_eq_true, oo_02, decide_eq_true_eq, decide_eq_false_iff_not, ite_not, Nat.reduceAdd, Nat.reduceLT, Nat.reduceSub, Nat.reduceLeDiff, reduceIte, Bool.true_eq_false, Bool.false_eq_true, reduceCtorEq, eq_self, decide_true, decide_false, bv_t, bv_f, and_self, t_si, t_sl, t_sr, t_sI, t_sR, n_si, n_sl, n_sr, n_sI, n_sR, r_si, r_sl, r_sI, hC, hA, hA2, hS, i_si, Nat.reduceEqDiff, false_and, e3, c, c2]
  · have c2 := Int32.not_le.mp c
    simp (disch := first | omega | decide | exact ko_b _ | assumption | (simp only [t_si, t_sl, t_sr, t_sI, t_sR, n_si, n_sl, n_sr, n_sI, n_sR, r_si, r_sl, r_sI]; first | done | omega)) only [x_52_e, x_52_b, x_52_52, x_52_53, x_52_56, x_52_59, x_52_60, x_52_61, x_52_64, x_52_67, x_52_69, x_52_70, x_52_71, x_52_72, x_52_75, x_52_78, x_52_80, x_52_81, x_52_84, x_52_87, x_52_88, x_52_89, x_52_90, x_52_91, x_52_92, x_52_95, x_52_98, x_52_100, x_52_102, x_52_103, x_52_106, x_52_109, x_52_111, x_52_112, x_52_113, x_52_115, x_52_116, x_52_117, x_52_119, x_52_120, x_52_123, bk_v, bk_n, nl_I, nl_R, nl_L, nl_0, oo_lt, oo_le, oo_eq, oo_add, oo_sub, oo_tn, oo_ir, nn_leT, nn_leF, nn_ltT, nn_ltF, nn_eqT, nn_eqF, bv_0, bv_1, ko_b, ko_1, ko_0, true_and, and_true, if_true, if_false, not_true_eq_false, not_false_eq_true, oo_02, decide_eq_true_eq, decide_eq_false_iff_not, ite_not, Nat.reduceAdd, Nat.reduceLT, Nat.reduceSub, Nat.reduceLeDiff, reduceIte, Bool.true_eq_false, Bool.false_eq_true, reduceCtorEq, eq_self, decide_true, decide_false, bv_t, bv_f, and_self, t_si, t_sl, t_sr, t_sI, t_sR, n_si, n_sl, n_sr, n_sI, n_sR, r_si, r_sl, r_sI, hC, hA, hA2, hS, i_si, Nat.reduceEqDiff, false_and, e3, c, c2, oo_mul]
theorem c_sw1 (h : RC_ w G σ S) (hV : WS_ S) {d a j : Nat} {s : Int32 × Int32} {v : Option Vl} (ha : a < j) (hj : j < xm_L (bm_X (sm_B S))) : ∃ w2, Fr_ tz_ w w2 ∧ ∀ Q, wp (d + 12) 52 29 [some (v_R (some 1000)), some (v_I s.1), some (v_I s.2), some (v_I (Int32.ofNat a)), some (v_I (Int32.ofNat j)), v] [] w Q = wp (d + 12) 52 29 [some (v_R (some 1000)), some (v_I (f_sw1 (sm_T S) (bm_X (sm_B S)) a j s).1), some (v_I (f_sw1 (sm_T S) (bm_X (sm_B S)) a j s).2), some (v_I (Int32.ofNat a)), some (v_I (Int32.ofNat (j + 1))), some (v_I (f_more (sm_T S) (x_swp (bm_X (sm_B S)) a j)))] [] w2 Q := by
  obtain ⟨w1, f1, r1, s1, q1⟩ := c_tr h hV (d := d + 11)
  refine ⟨_, fr_si (fr_si f1 (by unfold tz_; omega)) (by unfold tz_; omega), fun Q => Eq.trans ?_ (c_sw2 (d := d) (v := v) r1 hV s1 ha hj)⟩
  have hq := RC_CQ h hV
  have hC := h.1
  unfold sh_C at hC
  have hr0 : w_r w 1000 0 = some (gm_b G) := h.2.2.1
  have hT := h.2.2.2.1
  unfold CT_ at hT
  have hA : SO_ w 1008 := h.2.1.2.1.1
  unfold SO_ at hA
  have hA2 : SO_ w 1429 := h.2.1.2.2.2.2
  unfold SO_ at hA2
  have hS : CS_ w 1008 (tm_n (sm_T S)) (bm_X (sm_B S)) := h.2.2.2.2.2.2.2.1.1
  unfold CS_ at hS
  have hK : sh_B w 1007 := h.2.1.1
  unfold sh_B at hK
  have hB := h.2.2.2.2.2.2.2.1.2
  have hR := h.2.2.2.2.2.2.2.2.2
  simp only [Nat.reduceAdd] at hA hA2 hS hK hB
  obtain ⟨hn, hk4⟩ := hV.1
  obtain ⟨hW1, hW2, hW3⟩ := hV.2.2.2.1.1
  rw [x_52_29]
  simp (disch := first | omega | decide | exact ko_b _ | assumption | (simp only [t_si, t_sl, t_sr, t_sI, t_sR, n_si, n_sl, n_sr, n_sI, n_sR, r_si, r_sl, r_sI]; first | done | omega)) only [x_52_e, x_52_b, x_52_31, x_52_32, x_52_35, x_52_38, x_52_41, x_52_42, x_52_45, x_52_46, x_52_49, bk_v, bk_n, nl_I, nl_R, nl_L, nl_0, oo_lt, oo_le, oo_eq, oo_add, oo_sub, oo_tn, oo_ir, nn_leT, nn_leF, nn_ltT, nn_ltF, nn_eqT, nn_eqF, bv_0, bv_1, ko_b, ko_1, ko_0, true_and, and_true, if_true, if_false, not_true_eq_false, not_false_eq_true, oo_02, decide_eq_true_eq, decide_eq_false_iff_not, ite_not, Nat.reduceAdd, Nat.reduceLT, Nat.reduceSub, Nat.reduceLeDiff, reduceIte, Bool.true_eq_false, Bool.false_eq_true, reduceCtorEq, eq_self, decide_true, decide_false, bv_t, bv_f, and_self, t_si, t_sl, t_sr, t_sI, t_sR, n_si, n_sl, n_sr, n_sI, n_sR, r_si, r_sl, r_sI, hC, hr0, hT, hA, hS, hK, hB, hR, q1]
theorem c_swap (h : RC_ w G σ S) (hV : WS_ S) {d : Nat} : CR_ G (d + 12) 52 [v_R (some 1000)] w (v_I (f_swap (sm_T S) (bm_X (sm_B S)))) := by
  have hX9 := hV.2.2.2.1.1
  have hn10 := hV.1.1
  have hL9 := hX9.1
  have inner : ∀ a, a < xm_L (bm_X (sm_B S)) → ∀ (s : Int32 × Int32) (v : Option Vl) (w' : Wd), Fr_ tz_ w w' → ∃ w2, Fr_ tz_ w w2 ∧ ∃ v2, ∀ Q, wp (d + 12) 52 29 [some (v_R (some 1000)), some (v_I s.1), some (v_I s.2), some (v_I (Int32.ofNat a)), some (v_I (Int32.ofNat (a + 1))), v] [] w' Q = wp (d + 12) 52 29 [some (v_R (some 1000)), some (v_I (it_ (f_sw1 (sm_T S) (bm_X (sm_B S)) a) (a + 1) (xm_L (bm_X (sm_B S)) - (a + 1)) s).1), some (v_I (it_ (f_sw1 (sm_T S) (bm_X (sm_B S)) a) (a + 1) (xm_L (bm_X (sm_B S)) - (a + 1)) s).2), some (v_I (Int32.ofNat a)), some (v_I (Int32.ofNat (a + 1 + (xm_L (bm_X (sm_B S)) - (a + 1))))), v2] [] w2 Q := by
    intro a ha s v w' hw'
    obtain ⟨w2, g1, g2⟩ := lp_iw (fun j (s : (Int32 × Int32) × Option Vl) w Q => wp (d + 12) 52 29 [some (v_R (some 1000)), some (v_I s.1.1), some (v_I s.1.2), some (v_I (Int32.ofNat a)), some (v_I (Int32.ofNat j)), s.2] [] w Q) (fun w2 => Fr_ tz_ w w2) (fun j s => (f_sw1 (sm_T S) (bm_X (sm_B S)) a j s.1, some (v_I (f_more (sm_T S) (x_swp (bm_X (sm_B S)) a j))))) (xm_L (bm_X (sm_B S)) - (a + 1)) (a + 1) (s, v) w' (fun j s w3 h1 h2 h3 => by
      obtain ⟨w4, k1, k2⟩ := c_sw1 (RC_tz h hV h3) hV (d := d) (a := a) (j := j) (s := s.1) (v := s.2) (by omega) (by omega)
      exact ⟨w4, fr_tr h3 k1, k2⟩) hw'
    have e : ∀ (n k : Nat) (s : (Int32 × Int32) × Option Vl), (it_ (fun j (s : (Int32 × Int32) × Option Vl) => (f_sw1 (sm_T S) (bm_X (sm_B S)) a j s.1, some (v_I (f_more (sm_T S) (x_swp (bm_X (sm_B S)) a j))))) k n s).1 = it_ (f_sw1 (sm_T S) (bm_X (sm_B S)) a) k n s.1 := by
      intro n
      induction n with
      | zero => intro k s; rfl
      | succ n ih => intro k s; exact ih _ _
    rw [e] at g2
    exact ⟨w2, g1, _, g2⟩
  obtain ⟨s1, ⟨i1, i2⟩, q1⟩ := lp_ex (fun k (s : (Int32 × Int32) × (Option Vl × Option Vl) × Wd) (Q : Q_) => wp (d + 12) 52 13 [some (v_R (some 1000)), some (v_I s.1.1), some (v_I s.1.2), some (v_I (Int32.ofNat k)), s.2.1.1, s.2.1.2] [] s.2.2 Q) (fun k s => s.1 = it_ (fun a s => it_ (f_sw1 (sm_T S) (bm_X (sm_B S)) a) (a + 1) (xm_L (bm_X (sm_B S)) - (a + 1)) s) 0 k (Int32.ofInt (-1), f_more (sm_T S) (bm_X (sm_B S))) ∧ Fr_ tz_ w s.2.2) (xm_L (bm_X (sm_B S))) (fun k s hk hI => by
      obtain ⟨hI1, hI2⟩ := hI
      obtain ⟨w2, g1, v2, g2⟩ := inner k hk s.1 s.2.1.2 s.2.2 hI2
      refine ⟨(it_ (f_sw1 (sm_T S) (bm_X (sm_B S)) k) (k + 1) (xm_L (bm_X (sm_B S)) - (k + 1)) s.1, (some (v_I (Int32.ofNat (k + 1 + (xm_L (bm_X (sm_B S)) - (k + 1))))), v2), w2), ⟨?_, g1⟩, fun Q => ?_⟩
      · show _ = it_ _ 0 (k + 1) _
        rw [it_1, Nat.zero_add, ← hI1]
      · have e4 : w_i s.2.2 1008 4 = Int32.ofNat (xm_L (bm_X (sm_B S))) := by rw [hI2.2.2.2.2.2 _ _ (by unfold tz_; omega)]; exact h.2.2.2.2.2.2.2.1.1.1
        have e5 : w_i w2 1008 4 = Int32.ofNat (xm_L (bm_X (sm_B S))) := by rw [g1.2.2.2.2.2 _ _ (by unfold tz_; omega)]; exact h.2.2.2.2.2.2.2.1.1.1
        have t1 : w_t s.2.2 1000 = 20 := by rw [hI2.1]; exact h.1.1
        have t2 : w_t s.2.2 1008 = 24 := by rw [hI2.1]; exact h.2.1.2.1.1.1
        have t3 : w_r s.2.2 1000 3 = some 1008 := by rw [hI2.2.2.1]; exact h.1.2.2.2.1
        have u1 : w_t w2 1000 = 20 := by rw [g1.1]; exact h.1.1
        have u2 : w_t w2 1008 = 24 := by rw [g1.1]; exact h.2.1.2.1.1.1
        have u3 : w_r w2 1000 3 = some 1008 := by rw [g1.2.2.1]; exact h.1.2.2.2.1
        rw [x_52_13]
        simp (disch := first | omega | decide | exact ko_b _ | assumption | (simp only [t_si, t_sl, t_sr, t_sI, t_sR, n_si, n_sl, n_sr, n_sI, n_sR, r_si, r_sl, r_sI]; first | done | omega)) only [x_52_e, x_52_b, x_52_14, x_52_15, x_52_18, x_52_21, x_52_24, x_52_25, x_52_26, x_52_27, bk_v, bk_n, nl_I, nl_R, nl_L, nl_0, oo_lt, oo_le, oo_eq, oo_add, oo_sub, oo_tn, oo_ir, nn_leT, nn_leF, nn_ltT, nn_ltF, nn_eqT, nn_eqF, bv_0, bv_1, ko_b, ko_1, ko_0, true_and, and_true, if_true, if_false, not_true_eq_false, not_false_eq_true, oo_02, decide_eq_true_eq, decide_eq_false_iff_not, ite_not, Nat.reduceAdd, Nat.reduceLT, Nat.reduceSub, Nat.reduceLeDiff, reduceIte, Bool.true_eq_false, Bool.false_eq_true, reduceCtorEq, eq_self, decide_true, decide_false, bv_t, bv_f, and_self, t_si, t_sl, t_sr, t_sI, t_sR, n_si, n_sl, n_sr, n_sI, n_sR, r_si, r_sl, r_sI, t3, e4]
        rw [g2, x_52_29]
        simp (disch := first | omega | decide | exact ko_b _ | assumption | (simp only [t_si, t_sl, t_sr, t_sI, t_sR, n_si, n_sl, n_sr, n_sI, n_sR, r_si, r_sl, r_sI]; first | done | omega)) only [x_52_e, x_52_b, x_52_31, x_52_32, x_52_35, x_52_38, x_52_41, x_52_42, x_52_45, x_52_46, x_52_49, x_52_52, x_52_53, x_52_56, x_52_59, x_52_60, x_52_61, x_52_64, x_52_67, x_52_69, x_52_70, x_52_71, x_52_72, x_52_75, x_52_78, x_52_80, x_52_81, x_52_84, x_52_87, x_52_88, x_52_89, x_52_90, x_52_91, x_52_92, x_52_95, x_52_98, x_52_100, x_52_102, x_52_103, x_52_106, x_52_109, x_52_111, x_52_112, x_52_113, x_52_115, x_52_116, x_52_117, x_52_119, x_52_120, x_52_123, x_52_126, x_52_129, x_52_132, x_52_133, bk_v, bk_n, nl_I, nl_R, nl_L, nl_0, oo_lt, oo_le, oo_eq, oo_add, oo_sub, oo_tn, oo_ir, nn_leT, nn_leF, nn_ltT, nn_ltF, nn_eqT, nn_eqF, bv_0, bv_1, ko_b, ko_1, ko_0, true_and, and_true, if_true, if_false, not_true_eq_false, not_false_eq_true, oo_02, decide_eq_true_eq, decide_eq_false_iff_not, ite_not, Nat.reduceAdd, Nat.reduceLT, Nat.reduceSub, Nat.reduceLeDiff, reduceIte, Bool.true_eq_false, Bool.false_eq_true, reduceCtorEq, eq_self, decide_true, decide_false, bv_t, bv_f, and_self, t_si, t_sl, t_sr, t_sI, t_sR, n_si, n_sl, n_sr, n_sI, n_sR, r_si, r_sl, r_sI, u3, e5]) (xm_L (bm_X (sm_B S))) 0 ((Int32.ofInt (-1), f_more (sm_T S) (bm_X (sm_B S))), (none, none), w) (Nat.zero_add _) ⟨rfl, fr_rf _ _⟩
  refine ⟨s1.2.2, fr_mo i2 (fun a k z => tz_pc z), fun Q => ?_⟩
  have e4 : w_i s1.2.2 1008 4 = Int32.ofNat (xm_L (bm_X (sm_B S))) := by rw [i2.2.2.2.2.2 _ _ (by unfold tz_; omega)]; exact h.2.2.2.2.2.2.2.1.1.1
  have t1 : w_t s1.2.2 1000 = 20 := by rw [i2.1]; exact h.1.1
  have t2 : w_t s1.2.2 1008 = 24 := by rw [i2.1]; exact h.2.1.2.1.1.1
  have t3 : w_r s1.2.2 1000 3 = some 1008 := by rw [i2.2.2.1]; exact h.1.2.2.2.1
  have fin : wp (d + 12) 52 13 [some (v_R (some 1000)), some (v_I s1.1.1), some (v_I s1.1.2), some (v_I (Int32.ofNat (xm_L (bm_X (sm_B S))))), s1.2.1.1, s1.2.1.2] [] s1.2.2 Q = Q (Sum.inl (some (v_I (f_swap (sm_T S) (bm_X (sm_B S)))))) s1.2.2 := by
    rw [x_52_13]
    simp (disch := first | omega | decide | exact ko_b _ | assumption | (simp only [t_si, t_sl, t_sr, t_sI, t_sR, n_si, n_sl, n_sr, n_sI, n_sR, r_si, r_sl, r_sI]; first | done | omega)) only [x_52_e, x_52_b, x_52_14, x_52_15, x_52_18, x_52_21, x_52_24, x_52_25, x_52_26, x_52_27, x_52_31, x_52_32, x_52_35, x_52_38, x_52_41, x_52_42, x_52_45, x_52_46, x_52_49, x_52_52, x_52_53, x_52_56, x_52_59, x_52_60, x_52_61, x_52_64, x_52_67, x_52_69, x_52_70, x_52_71, x_52_72, x_52_75, x_52_78, x_52_80, x_52_81, x_52_84, x_52_87, x_52_88, x_52_89, x_52_90, x_52_91, x_52_92, x_52_95, x_52_98, x_52_100, x_52_102, x_52_103, x_52_106, x_52_109, x_52_111, x_52_112, x_52_113, x_52_115, x_52_116, x_52_117, x_52_119, x_52_120, x_52_123, x_52_126, x_52_129, x_52_132, x_52_133, bk_v, bk_n, nl_I, nl_R, nl_L, nl_0, oo_lt, oo_le, oo_eq, oo_add, oo_sub, oo_tn, oo_ir, nn_leT, nn_leF, nn_ltT, nn_ltF, nn_eqT, nn_eqF, bv_0, bv_1, ko_b, ko_1, ko_0, true_and, and_true, if_true, if_false, not_true_eq_false, not_false_eq_true, oo_02, decide_eq_true_eq, decide_eq_false_iff_not, ite_not, Nat.reduceAdd, Nat.reduceLT, Nat.reduceSub, Nat.reduceLeDiff, reduceIte, Bool.true_eq_false, Bool.false_eq_true, reduceCtorEq, eq_self, decide_true, decide_false, bv_t, bv_f, and_self, t_si, t_sl, t_sr, t_sI, t_sR, n_si, n_sl, n_sr, n_sI, n_sR, r_si, r_sl, r_sI, t3, e4]
    rw [i1]
    rfl
  refine Eq.trans ?_ ((q1 Q).trans fin)
  have hq := RC_CQ h hV
  have hC := h.1
  unfold sh_C at hC
  have hr0 : w_r w 1000 0 = some (gm_b G) := h.2.2.1
  have hT := h.2.2.2.1
  unfold CT_ at hT
  have hA : SO_ w 1008 := h.2.1.2.1.1
  unfold SO_ at hA
  have hA2 : SO_ w 1429 := h.2.1.2.2.2.2
  unfold SO_ at hA2
  have hS : CS_ w 1008 (tm_n (sm_T S)) (bm_X (sm_B S)) := h.2.2.2.2.2.2.2.1.1
  unfold CS_ at hS
  have hK : sh_B w 1007 := h.2.1.1
  unfold sh_B at hK
  have hB := h.2.2.2.2.2.2.2.1.2
  have hR := h.2.2.2.2.2.2.2.2.2
  simp only [Nat.reduceAdd] at hA hA2 hS hK hB
  obtain ⟨hn, hk4⟩ := hV.1
  obtain ⟨hW1, hW2, hW3⟩ := hV.2.2.2.1.1
  have e3 := fun Q => c_moreOf (d := d + 3) (Q := Q) hC.1 hr0 hq
  simp (disch := first | omega | decide | exact ko_b _ | assumption | (simp only [t_si, t_sl, t_sr, t_sI, t_sR, n_si, n_sl, n_sr, n_sI, n_sR, r_si, r_sl, r_sI]; first | done | omega)) only [x_52_e, x_52_b, x_52_0, x_52_1, x_52_2, x_52_3, x_52_4, x_52_7, x_52_10, x_52_11, x_52_12, bk_v, bk_n, nl_I, nl_R, nl_L, nl_0, oo_lt, oo_le, oo_eq, oo_add, oo_sub, oo_tn, oo_ir, nn_leT, nn_leF, nn_ltT, nn_ltF, nn_eqT, nn_eqF, bv_0, bv_1, ko_b, ko_1, ko_0, true_and, and_true, if_true, if_false, not_true_eq_false, not_false_eq_true, oo_02, decide_eq_true_eq, decide_eq_false_iff_not, ite_not, Nat.reduceAdd, Nat.reduceLT, Nat.reduceSub, Nat.reduceLeDiff, reduceIte, Bool.true_eq_false, Bool.false_eq_true, reduceCtorEq, eq_self, decide_true, decide_false, bv_t, bv_f, and_self, t_si, t_sl, t_sr, t_sI, t_sR, n_si, n_sl, n_sr, n_sI, n_sR, r_si, r_sl, r_sI, hC, hr0, hT, hA, hS, hK, hB, hR, e3]
end
