/-! TRIALS, part six: relief -/
set_option maxRecDepth 100000
theorem m_back2 {w0 w1 w2 w3 : Wd} (h1 : Fr_ pm_ w0 w1) (r1 : RR_ w1 w0 1460 0) (h2 : Fr_ p_tr w1 w2) (h3 : Fr_ p_st w2 w3) (r3 : RR_ w2 w3 1460 0) : Fr_ pm_ w0 w3 ∧ RR_ w3 w0 1460 0 := by
  have g : ∀ k, w_i w2 1460 k = w_i w1 1460 k := fun k => h2.2.2.2.2.2 _ _ (by unfold p_tr p_st; omega)
  have g3 : ∀ k, w_i w3 1460 k = w_i w1 1460 k := fun k => (h3.2.2.2.2.2 _ _ (by unfold p_st; omega)).trans (g k)
  refine ⟨?_, ?_⟩
  · refine ⟨by rw [h3.1, h2.1, h1.1], by rw [h3.2.1, h2.2.1, h1.2.1], by rw [h3.2.2.1, h2.2.2.1, h1.2.2.1], by rw [h3.2.2.2.1, h2.2.2.2.1, h1.2.2.2.1], by rw [h3.2.2.2.2.1, h2.2.2.2.2.1, h1.2.2.2.2.1], fun a k hp => ?_⟩
    obtain ⟨a1, a2, a3, a4, a5, a6, a7⟩ := r1
    obtain ⟨b1, b2, b3, b4, b5, b6, b7⟩ := r3
    simp only [g] at b1 b2 b3 b4 b5 b6 b7
    by_cases hs : p_st a k
    · have hk : a = 1440 ∨ k < 10 := by
        unfold pm_ at hp
        unfold p_st at hs
        omega
      unfold p_st at hs
      rcases (by omega : (a = 1440 ∧ k = 28) ∨ (a = 1440 ∧ k = 29) ∨ (a = 1440 ∧ k = 30) ∨ (a = 1453 ∧ k < 10) ∨ (a = 1454 ∧ k < 10) ∨ (a = 1455 ∧ k < 10) ∨ (a = 1456 ∧ k < 10)) with ⟨rfl, rfl⟩ | ⟨rfl, rfl⟩ | ⟨rfl, rfl⟩ | ⟨rfl, hk2⟩ | ⟨rfl, hk2⟩ | ⟨rfl, hk2⟩ | ⟨rfl, hk2⟩
      · exact b1.symm.trans a1
      · exact b2.symm.trans a2
      · exact b3.symm.trans a3
      · exact (b4 k hk2).symm.trans (a4 k hk2)
      · exact (b5 k hk2).symm.trans (a5 k hk2)
      · exact (b6 k hk2).symm.trans (a6 k hk2)
      · exact (b7 k hk2).symm.trans (a7 k hk2)
    · rw [h3.2.2.2.2.2 _ _ hs, h2.2.2.2.2.2 _ _ (fun z => z.elim hs (fun y => hp y.2)), h1.2.2.2.2.2 _ _ hp]
  · unfold RR_ at r1 ⊢
    simp only [g3]
    exact r1
def f_rel1 (T : Tm) (X : Xm) (t : Nat) (s : Int32 × Int32) : Int32 × Int32 := match f_lv X t with
  | none => s
  | some l => if f_more T (x_take X l) ≤ s.2 then s else (Int32.ofNat t, f_more T (x_take X l))
def f_rel (T : Tm) (X : Xm) : Int32 := (it_ (f_rel1 T X) 0 (tm_n T) (Int32.ofInt (-1), Int32.ofInt (-1))).1
section
variable {w : Wd} {S : Sm} {G : Gm} {σ : Nat → Nat}
theorem c_rel (h : RC_ w G σ S) (hV : WS_ S) {d : Nat} : CR_ G (d + 12) 54 [v_R (some 1000)] w (v_I (f_rel (sm_T S) (bm_X (sm_B S)))) := by
  have hn10 := hV.1.1
  have hX9 := hV.2.2.2.1.1
  obtain ⟨s1, ⟨i1, i2⟩, q1⟩ := lp_ex (fun k (s : (Int32 × Int32) × Option Vl × Wd) (Q : Q_) => wp (d + 12) 54 6 [some (v_R (some 1000)), some (v_I s.1.1), some (v_I s.1.2), some (v_I (Int32.ofNat k)), s.2.1] [] s.2.2 Q) (fun k s => s.1 = it_ (f_rel1 (sm_T S) (bm_X (sm_B S))) 0 k (Int32.ofInt (-1), Int32.ofInt (-1)) ∧ Fr_ tz_ w s.2.2) (tm_n (sm_T S)) (fun k s hk hI => by
      obtain ⟨i1, i2⟩ := hI
      have r1 := RC_tz h hV i2
      have hq1 := RC_CQ r1 hV
      have t1 : w_t s.2.2 1000 = 20 := r1.1.1
      have t2 : w_r s.2.2 1000 3 = some 1008 := r1.1.2.2.2.1
      have t3 : w_t s.2.2 1008 = 24 := r1.2.1.2.1.1.1
      have hb : (o_i (f_lv (bm_X (sm_B S)) k) = Int32.ofInt (-1)) = ((f_lv (bm_X (sm_B S)) k).isNone = true) := oi_m (fun k e => by have := flv_lt e; have := hX9.1; omega)
      cases e : f_lv (bm_X (sm_B S)) k with
      | none =>
        rw [e] at hb
        refine ⟨s, ⟨?_, i2⟩, fun Q => ?_⟩
        · rw [it_1, Nat.zero_add, ← i1]
          unfold f_rel1
          rw [e]
        · rw [x_54_6]
          simp (disch := first | omega | decide | exact ko_b _ | assumption | (simp only [t_si, t_sl, t_sr, t_sI, t_sR, n_si, n_sl, n_sr, n_sI, n_sR, r_si, r_sl, r_sI]; first | done | omega)) only [x_54_e, x_54_b, x_54_7, x_54_8, x_54_11, x_54_14, x_54_15, x_54_18, x_54_19, x_54_22, x_54_23, x_54_26, x_54_29, x_54_30, x_54_31, x_54_32, x_54_33, x_54_36, x_54_37, x_54_38, x_54_41, x_54_44, x_54_46, x_54_48, x_54_49, x_54_52, x_54_55, x_54_56, x_54_57, x_54_59, x_54_60, x_54_63, bk_v, bk_n, nl_I, nl_R, nl_L, nl_0, oo_lt, oo_le, oo_eq, oo_add, oo_sub, oo_tn, oo_ir, nn_leT, nn_leF, nn_ltT, nn_ltF, nn_eqT, nn_eqF, bv_0, bv_1, ko_b, ko_1, ko_0, true_and, and_true, if_true, if_false, not_true_eq_false, not_false_eq_true, oo_02, decide_eq_true_eq, decide_eq_false_iff_not, ite_not, Nat.reduceAdd, Nat.reduceLT, Nat.reduceSub, Nat.reduceLeDiff, reduceIte, Bool.true_eq_false, Bool.false_eq_true, reduceCtorEq, eq_self, decide_true, decide_false, bv_t, bv_f, and_self, t_si, t_sl, t_sr, t_sI, t_sR, n_si, n_sl, n_sr, n_sI, n_sR, r_si, r_sl, r_sI, c_tables r1 hV, t2, c_lv hq1, e, hb, Option.isNone_none]
      | some l =>
        rw [e] at hb
        have hll := flv_lt e
        have hp2 : 2 ^ k < 1024 := Nat.lt_of_lt_of_le (Nat.pow_lt_pow_right (by omega) (by omega : k < 10)) (Nat.le_of_ble_eq_true rfl)
        obtain ⟨w2, f2, s2, hX2, q2⟩ := c_tall r1 hV (d := d + 7) (s := 2 ^ k) hp2 (fun j hj => by
          by_cases c : k = j
          · subst c; rw [e]; rfl
          · rw [Nat.testBit_two_pow_of_ne c] at hj; cases hj)
        have eo : f_toff (tm_n (sm_T S)) (2 ^ k) (bm_X (sm_B S)) = x_take (bm_X (sm_B S)) l := by
          unfold f_toff
          rw [off_one (n := 0) _ _ (Nat.zero_le _) (by omega)]
          unfold x_off
          rw [e]
        rw [eo] at s2 hX2
        have f9 := fr_tr i2 f2
        have r2 := RC_tz h hV f9
        have hq2 := tr_q r2 hV s2 hX2
        have e3 := fun Q => c_moreOf (d := d + 3) (Q := Q) r2.1.1 r2.2.2.1 hq2
        have u1 : w_t w2 1000 = 20 := r2.1.1
        have u2 : w_r w2 1000 4 = some 1429 := r2.1.2.2.2.2.1
        refine ⟨(f_rel1 (sm_T S) (bm_X (sm_B S)) k s.1, some (v_I (f_more (sm_T S) (x_take (bm_X (sm_B S)) l))), w2), ⟨?_, f9⟩, fun Q => ?_⟩
        · show _ = it_ _ 0 (k + 1) _
          rw [it_1, Nat.zero_add, ← i1]
        · rw [x_54_6]
          unfold f_rel1
          rw [e]
          by_cases c : f_more (sm_T S) (x_take (bm_X (sm_B S)) l) ≤ s.1.2
          · have c2 := Int32.not_lt.mpr c
            simp (disch := first | omega | decide | exact ko_b _ | assumption | (simp only [t_si, t_sl, t_sr, t_sI, t_sR, n_si, n_sl, n_sr, n_sI, n_sR, r_si, r_sl, r_sI]; first | done | omega)) only [x_54_e, x_54_b, x_54_7, x_54_8, x_54_11, x_54_14, x_54_15, x_54_18, x_54_19, x_54_22, x_54_23, x_54_26, x_54_29, x_54_30, x_54_31, x_54_32, x_54_33, x_54_36, x_54_37, x_54_38, x_54_41, x_54_44, x_54_46, x_54_48, x_54_49, x_54_52, x_54_55, x_54_56, x_54_57, x_54_59, x_54_60, x_54_63, bk_v, bk_n, nl_I, nl_R, nl_L, nl_0, oo_lt, oo_le, oo_eq, oo_add, oo_sub, oo_tn, oo_ir, nn_leT, nn_leF, nn_ltT, nn_ltF, nn_eqT, nn_eqF, bv_0, bv_1, ko_b, ko_1, ko_0, true_and, and_true, if_true, if_false, not_true_eq_false, not_false_eq_true, oo_02, decide_eq_true_eq, decide_eq_false_iff_not, ite_not, Nat.reduceAdd, Nat.reduceLT, Nat.reduceSub, Nat.reduceLeDiff, reduceIte, Bool.true_eq_false, Bool.false_eq_true, reduceCtorEq, eq_self, decide_true, decide_false, bv_t, bv_f, and_self, t_si, t_sl, t_sr, t_sI, t_sR, n_si, n_sl, n_sr, n_sI, n_sR, r_si, r_sl, r_sI, c_tables r1 hV, t2, c_lv hq1, e, hb, Option.isNone_some, sb_s, q2, u2, e3, c, c2]
          · have c2 := Int32.not_le.mp c
            simp (disch := first | omega | decide | exact ko_b _ | assumption | (simp only [t_si, t_sl, t_sr, t_sI, t_sR, n_si, n_sl, n_sr, n_sI, n_sR, r_si, r_sl, r_sI]; first | done | omega)) only [x_54_e, x_54_b, x_54_7, x_54_8, x_54_11, x_54_14, x_54_15, x_54_18, x_54_19, x_54_22, x_54_23, x_54_26, x_54_29, x_54_30, x_54_31, x_54_32, x_54_33, x_54_36, x_54_37, x_54_38, x_54_41, x_54_44, x_54_46, x_54_48, x_54_49, x_54_52, x_54_55, x_54_56, x_54_57, x_54_59, x_54_60, x_54_63, bk_v, bk_n, nl_I, nl_R, nl_L, nl_0, oo_lt, oo_le, oo_eq, oo_add, oo_sub, oo_tn, oo_ir, nn_leT, nn_leF, nn_ltT, nn_ltF, nn_eqT, nn_eqF, bv_0, bv_1, ko_b, ko_1, ko_0, true_and, and_true, if_true, if_false, not_true_eq_false, not_false_eq_true, oo_02, decide_eq_true_eq, decide_eq_false_iff_not, ite_not, Nat.reduceAdd, Nat.reduceLT, Nat.reduceSub, Nat.reduceLeDiff, reduceIte, Bool.true_eq_false, Bool.false_eq_true, reduceCtorEq, eq_self, decide_true, decide_false, bv_t, bv_f, and_self, t_si, t_sl, t_sr, t_sI, t_sR, n_si, n_sl, n_sr, n_sI, n_sR, r_si, r_sl, r_sI, c_tables r1 hV, t2, c_lv hq1, e, hb, Option.isNone_some, sb_s, q2, u2, e3, c, c2]) (tm_n (sm_T S)) 0 ((Int32.ofInt (-1), Int32.ofInt (-1)), none, w) (Nat.zero_add _) ⟨rfl, fr_rf _ _⟩
  refine ⟨s1.2.2, fr_mo i2 (fun a k z => tz_pc z), fun Q => ?_⟩
  have r1 := RC_tz h hV i2
  have t1 : w_t s1.2.2 1000 = 20 := r1.1.1
  have fin : wp (d + 12) 54 6 [some (v_R (some 1000)), some (v_I s1.1.1), some (v_I s1.1.2), some (v_I (Int32.ofNat (tm_n (sm_T S)))), s1.2.1] [] s1.2.2 Q = Q (Sum.inl (some (v_I (f_rel (sm_T S) (bm_X (sm_B S)))))) s1.2.2 := by
    rw [x_54_6]
    simp (disch := first | omega | decide | exact ko_b _ | assumption | (simp only [t_si, t_sl, t_sr, t_sI, t_sR, n_si, n_sl, n_sr, n_sI, n_sR, r_si, r_sl, r_sI]; first | done | omega)) only [x_54_e, x_54_b, x_54_7, x_54_8, x_54_11, x_54_14, x_54_15, x_54_18, x_54_19, x_54_22, x_54_23, x_54_26, x_54_29, x_54_30, x_54_31, x_54_32, x_54_33, x_54_36, x_54_37, x_54_38, x_54_41, x_54_44, x_54_46, x_54_48, x_54_49, x_54_52, x_54_55, x_54_56, x_54_57, x_54_59, x_54_60, x_54_63, x_54_66, x_54_67, bk_v, bk_n, nl_I, nl_R, nl_L, nl_0, oo_lt, oo_le, oo_eq, oo_add, oo_sub, oo_tn, oo_ir, nn_leT, nn_leF, nn_ltT, nn_ltF, nn_eqT, nn_eqF, bv_0, bv_1, ko_b, ko_1, ko_0, true_and, and_true, if_true, if_false, not_true_eq_false, not_false_eq_true, oo_02, decide_eq_true_eq, decide_eq_false_iff_not, ite_not, Nat.reduceAdd, Nat.reduceLT, Nat.reduceSub, Nat.reduceLeDiff, reduceIte, Bool.true_eq_false, Bool.false_eq_true, reduceCtorEq, eq_self, decide_true, decide_false, bv_t, bv_f, and_self, t_si, t_sl, t_sr, t_sI, t_sR, n_si, n_sl, n_sr, n_sI, n_sR, r_si, r_sl, r_sI, c_tables r1 hV]
    rw [i1]
    rfl
  refine Eq.trans ?_ ((q1 Q).trans fin)
  simp (disch := first | omega | decide | exact ko_b _ | assumption | (simp only [t_si, t_sl, t_sr, t_sI, t_sR, n_si, n_sl, n_sr, n_sI, n_sR, r_si, r_sl, r_sI]; first | done | omega)) only [x_54_e, x_54_b, x_54_0, x_54_1, x_54_2, x_54_3, x_54_4, x_54_5, bk_v, bk_n, nl_I, nl_R, nl_L, nl_0, oo_lt, oo_le, oo_eq, oo_add, oo_sub, oo_tn, oo_ir, nn_leT, nn_leF, nn_ltT, nn_ltF, nn_eqT, nn_eqF, bv_0, bv_1, ko_b, ko_1, ko_0, true_and, and_true, if_true, if_false, not_true_eq_false, not_false_eq_true, oo_02, decide_eq_true_eq, decide_eq_false_iff_not, ite_not, Nat.reduceAdd, Nat.reduceLT, Nat.reduceSub, Nat.reduceLeDiff, reduceIte, Bool.true_eq_false, Bool.false_eq_true, reduceCtorEq, eq_self, decide_true, decide_false, bv_t, bv_f, and_self, t_si, t_sl, t_sr, t_sI, t_sR, n_si, n_sl, n_sr, n_sI, n_sR, r_si, r_sl, r_sI]
theorem m_rel (h9 : RM_ w S) (hV : WS_ S) {d : Nat} : MR_ (d + 8) 243 [v_R (some 1440)] w (v_I (f_rel (sm_T S) (bm_X (sm_B S)))) 0 := by
  refine mr_go (ls := [some (v_R (some 1440)), none, none, none, none]) (fun Q => ?_) (fun w0 hf hc => ?_)
  · have h := h9
    have hq := RM_MQ h hV
    have hMM := hq
    obtain ⟨hM, hT, hS, ⟨hn, hk4⟩, hW1, hW2, hW3⟩ := hMM
    unfold sh_M at hM
    unfold MT_ at hT
    unfold MS_ at hS
    have hB := h.2.2.1.2
    unfold PK_ at hB
    have hR := h.2.2.2
    simp (disch := first | omega | decide | exact ko_b _ | assumption | (simp only [t_si, t_sl, t_sr, t_sI, t_sR, n_si, n_sl, n_sr, n_sI, n_sR, r_si, r_sl, r_sI]; first | done | omega)) only [x_243_e, x_243_b, x_243_0, x_243_1, x_243_2, x_243_6, x_243_7, x_243_8, x_243_9, x_243_10, x_243_11, x_243_14, x_243_15, x_243_18, x_243_19, x_243_21, x_243_22, x_243_25, x_243_26, x_243_27, x_243_30, x_243_31, x_243_32, x_243_35, x_243_36, x_243_39, x_243_42, x_243_43, x_243_44, x_243_47, x_243_48, x_243_51, x_243_53, x_243_54, x_243_55, x_243_58, x_243_59, x_243_62, x_243_64, x_243_65, x_243_68, x_243_71, x_243_72, x_243_73, x_243_75, x_243_76, x_243_79, x_243_82, x_243_83, bk_v, bk_n, nl_I, nl_R, nl_L, nl_0, oo_lt, oo_le, oo_eq, oo_add, oo_sub, oo_tn, oo_ir, nn_leT, nn_leF, nn_ltT, nn_ltF, nn_eqT, nn_eqF, bv_0, bv_1, ko_b, ko_1, ko_0, true_and, and_true, if_true, if_false, not_true_eq_false, not_false_eq_true, oo_02, decide_eq_true_eq, decide_eq_false_iff_not, ite_not, Nat.reduceAdd, Nat.reduceLT, Nat.reduceSub, Nat.reduceLeDiff, reduceIte, Bool.true_eq_false, Bool.false_eq_true, reduceCtorEq, eq_self, decide_true, decide_false, bv_t, bv_f, and_self, t_si, t_sl, t_sr, t_sI, t_sR, n_si, n_sl, n_sr, n_sI, n_sR, r_si, r_sl, r_sI, hM, hT, hS, hB, hR]
  · have h := RM_fr h9 hV hf
    have hX9 := hV.2.2.2.1.1
    have hn10 := hV.1.1
    have hq0 := RM_MQ h hV
    have hM9 := h.1
    unfold sh_M at hM9
    have a0 : w_t w0 1440 = 25 := hM9.1
    have a35 : w_r w0 1440 35 = some 1460 := by simp only [hM9]
    have a4 : w_r w0 1440 4 = some 1444 := by simp only [hM9]
    have a44 : w_t w0 1444 = 1 ∧ w_n w0 1444 = 8 := by simp only [hM9, and_self]
    have a60 : w_t w0 1460 = 1 ∧ w_n w0 1460 = 43 := by simp only [hM9, and_self]
    obtain ⟨wp1, f1, r1, q1⟩ := m_pack (d := d + 7) h.1 (A := 1460) (f := 0) a60.1 (by omega) (by omega) (by omega)
    have c1 : w_i wp1 1440 3 = Int32.ofNat 0 := by rw [f1.2.2.2.2.2 _ _ (by omega)]; exact hc
    have f1 : Fr_ pm_ w0 wp1 := fr_mo f1 (fun a k z => by unfold pm_; omega)
    clear hM9
    obtain ⟨s1, ⟨i1, i2, i3, i4⟩, q9⟩ := lp_ex (fun k (s : (Int32 × Int32) × Option Vl × Wd) (Q : Q_) => wp (d + 8) 243 20 [some (v_R (some 1440)), some (v_I s.1.1), some (v_I s.1.2), some (v_I (Int32.ofNat k)), s.2.1] [] s.2.2 Q) (fun k s => s.1 = it_ (f_rel1 (sm_T S) (bm_X (sm_B S))) 0 k (Int32.ofInt (-1), Int32.ofInt (-1)) ∧ Fr_ pm_ w0 s.2.2 ∧ RR_ s.2.2 w0 1460 0 ∧ w_i s.2.2 1440 3 = Int32.ofNat 0) (tm_n (sm_T S)) (fun k s hk hI => by
        obtain ⟨i1, i2, i3, i4⟩ := hI
        have hq1 := MQ_fr hq0 i2
        have t1 : w_t s.2.2 1440 = 25 := by rw [i2.1]; exact a0
        have t2 : w_r s.2.2 1440 4 = some 1444 := by rw [i2.2.2.1]; exact a4
        have t4 : w_t s.2.2 1444 = 1 := by rw [i2.1]; exact a44.1
        have t5 : w_n s.2.2 1444 = 8 := by rw [i2.2.1]; exact a44.2
        have e0 : w_i s.2.2 1444 0 = Int32.ofNat (tm_n (sm_T S)) := hq1.2.1.1
        have hb : (o_i (f_lv (bm_X (sm_B S)) k) = Int32.ofInt (-1)) = ((f_lv (bm_X (sm_B S)) k).isNone = true) := oi_m (fun k e => by have := flv_lt e; have := hX9.1; omega)
        cases e : f_lv (bm_X (sm_B S)) k with
        | none =>
          rw [e] at hb
          refine ⟨s, ⟨?_, i2, i3, i4⟩, fun Q => ?_⟩
          · rw [it_1, Nat.zero_add, ← i1]
            unfold f_rel1
            rw [e]
          · rw [x_243_20]
            simp (disch := first | omega | decide | exact ko_b _ | assumption | (simp only [t_si, t_sl, t_sr, t_sI, t_sR, n_si, n_sl, n_sr, n_sI, n_sR, r_si, r_sl, r_sI]; first | done | omega)) only [x_243_e, x_243_b, x_243_21, x_243_22, x_243_25, x_243_26, x_243_27, x_243_30, x_243_31, x_243_32, x_243_35, x_243_36, x_243_39, x_243_42, x_243_43, x_243_44, x_243_47, x_243_48, x_243_51, x_243_53, x_243_54, x_243_55, x_243_58, x_243_59, x_243_62, x_243_64, x_243_65, x_243_68, x_243_71, x_243_72, x_243_73, x_243_75, x_243_76, x_243_79, bk_v, bk_n, nl_I, nl_R, nl_L, nl_0, oo_lt, oo_le, oo_eq, oo_add, oo_sub, oo_tn, oo_ir, nn_leT, nn_leF, nn_ltT, nn_ltF, nn_eqT, nn_eqF, bv_0, bv_1, ko_b, ko_1, ko_0, true_and, and_true, if_true, if_false, not_true_eq_false, not_false_eq_true, oo_02, decide_eq_true_eq, decide_eq_false_iff_not, ite_not, Nat.reduceAdd, Nat.reduceLT, Nat.reduceSub, Nat.reduceLeDiff, reduceIte, Bool.true_eq_false, Bool.false_eq_true, reduceCtorEq, eq_self, decide_true, decide_false, bv_t, bv_f, and_self, t_si, t_sl, t_sr, t_sI, t_sR, n_si, n_sl, n_sr, n_sI, n_sR, r_si, r_sl, r_sI, t2, t5, e0, m_lv hq1, e, hb, Option.isNone_none]
        | some l =>
          rw [e] at hb
          have hll := flv_lt e
          obtain ⟨w2, f2, s2, q2⟩ := m_toff hq1 (d := d + 6) hk e
          have hq2 := MQ_X hq1 f2 s2 (WX_take hX9 hll)
          have e3 := fun Q => m_more hq2 (d := d + 1) (Q := Q)
          have u0 : w_t w2 1460 = 1 := by rw [f2.1, i2.1]; exact a60.1
          have u9 : w_n w2 1460 = 43 := by rw [f2.2.1, i2.2.1]; exact a60.2
          obtain ⟨w3, f3, r3, q3⟩ := m_unpack (d := d + 7) hq2.1 (A := 1460) (f := 0) u0 (by omega) (by omega) (by omega)
          obtain ⟨g1, g2⟩ := m_back2 i2 i3 (fr_mo f2 (fun a k z => p_st_tr z)) f3 r3
          have u1 : w_t w2 1440 = 25 := by rw [f2.1]; exact t1
          have u35 : w_r w2 1440 35 = some 1460 := by rw [f2.2.2.1, i2.2.2.1]; exact a35
          refine ⟨(f_rel1 (sm_T S) (bm_X (sm_B S)) k s.1, some (v_I (f_more (sm_T S) (x_take (bm_X (sm_B S)) l))), w3), ⟨?_, g1, g2, ?_⟩, fun Q => ?_⟩
          · show _ = it_ _ 0 (k + 1) _
            rw [it_1, Nat.zero_add, ← i1]
          · show w_i w3 1440 3 = _
            rw [f3.2.2.2.2.2 _ _ (by unfold p_st; omega), f2.2.2.2.2.2 _ _ (by unfold p_st; omega)]; exact i4
          · rw [x_243_20]
            unfold f_rel1
            rw [e]
            by_cases c : f_more (sm_T S) (x_take (bm_X (sm_B S)) l) ≤ s.1.2
            · have c2 := Int32.not_lt.mpr c
              simp (disch := first | omega | decide | exact ko_b _ | assumption | (simp only [t_si, t_sl, t_sr, t_sI, t_sR, n_si, n_sl, n_sr, n_sI, n_sR, r_si, r_sl, r_sI]; first | done | omega)) only [x_243_e, x_243_b, x_243_21, x_243_22, x_243_25, x_243_26, x_243_27, x_243_30, x_243_31, x_243_32, x_243_35, x_243_36, x_243_39, x_243_42, x_243_43, x_243_44, x_243_47, x_243_48, x_243_51, x_243_53, x_243_54, x_243_55, x_243_58, x_243_59, x_243_62, x_243_64, x_243_65, x_243_68, x_243_71, x_243_72, x_243_73, x_243_75, x_243_76, x_243_79, bk_v, bk_n, nl_I, nl_R, nl_L, nl_0, oo_lt, oo_le, oo_eq, oo_add, oo_sub, oo_tn, oo_ir, nn_leT, nn_leF, nn_ltT, nn_ltF, nn_eqT, nn_eqF, bv_0, bv_1, ko_b, ko_1, ko_0, true_and, and_true, if_true, if_false, not_true_eq_false, not_false_eq_true, oo_02, decide_eq_true_eq, decide_eq_false_iff_not, ite_not, Nat.reduceAdd, Nat.reduceLT, Nat.reduceSub, Nat.reduceLeDiff, reduceIte, Bool.true_eq_false, Bool.false_eq_true, reduceCtorEq, eq_self, decide_true, decide_false, bv_t, bv_f, and_self, t_si, t_sl, t_sr, t_sI, t_sR, n_si, n_sl, n_sr, n_sI, n_sR, r_si, r_sl, r_sI, t2, t5, e0, m_lv hq1, e, hb, Option.isNone_some, q2, e3, u35, q3, c, c2]
            · have c2 := Int32.not_le.mp c
              simp (disch := first | omega | decide | exact ko_b _ | assumption | (simp only [t_si, t_sl, t_sr, t_sI, t_sR, n_si, n_sl, n_sr, n_sI, n_sR, r_si, r_sl, r_sI]; first | done | omega)) only [x_243_e, x_243_b, x_243_21, x_243_22, x_243_25, x_243_26, x_243_27, x_243_30, x_243_31, x_243_32, x_243_35, x_243_36, x_243_39, x_243_42, x_243_43, x_243_44, x_243_47, x_243_48, x_243_51, x_243_53, x_243_54, x_243_55, x_243_58, x_243_59, x_243_62, x_243_64, x_243_65, x_243_68, x_243_71, x_243_72, x_243_73, x_243_75, x_243_76, x_243_79, bk_v, bk_n, nl_I, nl_R, nl_L, nl_0, oo_lt, oo_le, oo_eq, oo_add, oo_sub, oo_tn, oo_ir, nn_leT, nn_leF, nn_ltT, nn_ltF, nn_eqT, nn_eqF, bv_0, bv_1, ko_b, ko_1, ko_0, true_and, and_true, if_true, if_false, not_true_eq_false, not_false_eq_true, oo_02, decide_eq_true_eq, decide_eq_false_iff_not, ite_not, Nat.reduceAdd, Nat.reduceLT, Nat.reduceSub, Nat.reduceLeDiff, reduceIte, Bool.true_eq_false, Bool.false_eq_true, reduceCtorEq, eq_self, decide_true, decide_false, bv_t, bv_f, and_self, t_si, t_sl, t_sr, t_sI, t_sR, n_si, n_sl, n_sr, n_sI, n_sR, r_si, r_sl, r_sI, t2, t5, e0, m_lv hq1, e, hb, Option.isNone_some, q2, e3, u35, q3, c, c2]) (tm_n (sm_T S)) 0 ((Int32.ofInt (-1), Int32.ofInt (-1)), none, wp1) (Nat.zero_add _) ⟨rfl, f1, r1, c1⟩
    have hq1 := MQ_fr hq0 i2
    have t1 : w_t s1.2.2 1440 = 25 := by rw [i2.1]; exact a0
    have t2 : w_r s1.2.2 1440 4 = some 1444 := by rw [i2.2.2.1]; exact a4
    have t4 : w_t s1.2.2 1444 = 1 := by rw [i2.1]; exact a44.1
    have t5 : w_n s1.2.2 1444 = 8 := by rw [i2.2.1]; exact a44.2
    have e0 : w_i s1.2.2 1444 0 = Int32.ofNat (tm_n (sm_T S)) := hq1.2.1.1
    refine ⟨s1.2.2, i2, i4, fun Q => ?_⟩
    have fin : wp (d + 8) 243 20 [some (v_R (some 1440)), some (v_I s1.1.1), some (v_I s1.1.2), some (v_I (Int32.ofNat (tm_n (sm_T S)))), s1.2.1] [] s1.2.2 Q = Q (Sum.inl (some (v_I (f_rel (sm_T S) (bm_X (sm_B S)))))) s1.2.2 := by
      rw [x_243_20]
      simp (disch := first | omega | decide | exact ko_b _ | assumption | (simp only [t_si, t_sl, t_sr, t_sI, t_sR, n_si, n_sl, n_sr, n_sI, n_sR, r_si, r_sl, r_sI]; first | done | omega)) only [x_243_e, x_243_b, x_243_21, x_243_22, x_243_25, x_243_26, x_243_27, x_243_30, x_243_31, x_243_32, x_243_35, x_243_36, x_243_39, x_243_42, x_243_43, x_243_44, x_243_47, x_243_48, x_243_51, x_243_53, x_243_54, x_243_55, x_243_58, x_243_59, x_243_62, x_243_64, x_243_65, x_243_68, x_243_71, x_243_72, x_243_73, x_243_75, x_243_76, x_243_79, x_243_82, x_243_83, bk_v, bk_n, nl_I, nl_R, nl_L, nl_0, oo_lt, oo_le, oo_eq, oo_add, oo_sub, oo_tn, oo_ir, nn_leT, nn_leF, nn_ltT, nn_ltF, nn_eqT, nn_eqF, bv_0, bv_1, ko_b, ko_1, ko_0, true_and, and_true, if_true, if_false, not_true_eq_false, not_false_eq_true, oo_02, decide_eq_true_eq, decide_eq_false_iff_not, ite_not, Nat.reduceAdd, Nat.reduceLT, Nat.reduceSub, Nat.reduceLeDiff, reduceIte, Bool.true_eq_false, Bool.false_eq_true, reduceCtorEq, eq_self, decide_true, decide_false, bv_t, bv_f, and_self, t_si, t_sl, t_sr, t_sI, t_sR, n_si, n_sl, n_sr, n_sI, n_sR, r_si, r_sl, r_sI, t2, t5, e0]
      rw [i1]
      rfl
    refine Eq.trans ?_ ((q9 Q).trans fin)
    simp (disch := first | omega | decide | exact ko_b _ | assumption | (simp only [t_si, t_sl, t_sr, t_sI, t_sR, n_si, n_sl, n_sr, n_sI, n_sR, r_si, r_sl, r_sI]; first | done | omega)) only [x_243_e, x_243_b, x_243_5, x_243_6, x_243_7, x_243_8, x_243_9, x_243_10, x_243_11, x_243_14, x_243_15, x_243_18, x_243_19, bk_v, bk_n, nl_I, nl_R, nl_L, nl_0, oo_lt, oo_le, oo_eq, oo_add, oo_sub, oo_tn, oo_ir, nn_leT, nn_leF, nn_ltT, nn_ltF, nn_eqT, nn_eqF, bv_0, bv_1, ko_b, ko_1, ko_0, true_and, and_true, if_true, if_false, not_true_eq_false, not_false_eq_true, oo_02, decide_eq_true_eq, decide_eq_false_iff_not, ite_not, Nat.reduceAdd, Nat.reduceLT, Nat.reduceSub, Nat.reduceLeDiff, reduceIte, Bool.true_eq_false, Bool.false_eq_true, reduceCtorEq, eq_self, decide_true, decide_false, bv_t, bv_f, and_self, t_si, t_sl, t_sr, t_sI, t_sR, n_si, n_sl, n_sr, n_sI, n_sR, r_si, r_sl, r_sI, a35, q1]
end
