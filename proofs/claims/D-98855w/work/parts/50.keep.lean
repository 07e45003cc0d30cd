/-! ACTS: the model's half, keep and the rest -/
set_option maxRecDepth 100000
def MA_ (d t : Nat) (as : S_) (w : Wd) (r : Vl) (c : Nat) (S1 : Sm) : Prop := ∃ w1, Fr_ pb_ w w1 ∧ RM_ w1 S1 ∧ w_i w1 1440 3 = Int32.ofNat c ∧ ∀ Q, cl d t as w Q = Q (Sum.inl (some r)) w1
theorem ma_go {d t c : Nat} {as : S_} {ls : L_} {w : Wd} {r : Vl} {S S1 : Sm} (h9 : RM_ w S) (he : ∀ Q, cl d t as w Q = wp d t 5 ls [] (s_i w 1440 3 (Int32.ofNat 0)) Q) (h : ∀ w0, RM_ w0 S → w_i w0 1440 3 = Int32.ofNat 0 → ∃ w1, Fr_ pb_ w0 w1 ∧ RM_ w1 S1 ∧ w_i w1 1440 3 = Int32.ofNat c ∧ ∀ Q, wp d t 5 ls [] w0 Q = Q (Sum.inl (some r)) w1) : MA_ d t as w r c S1 := by
  obtain ⟨w1, h1, h2, h3, h4⟩ := h (s_i w 1440 3 (Int32.ofNat 0)) (RM_3 h9) (by rw [i_si, if_pos ⟨rfl, rfl⟩])
  exact ⟨w1, fr_tr (fr_mo (fr_3 _ _) (fun a k => p_pb)) h1, h2, h3, fun Q => (he Q).trans (h4 Q)⟩
theorem MR_MA {d t c : Nat} {as : S_} {w : Wd} {r : Vl} {S : Sm} (h9 : RM_ w S) (hV : WS_ S) (h : MR_ d t as w r c) : MA_ d t as w r c S := by
  obtain ⟨w1, h1, h2, h3⟩ := h
  exact ⟨w1, fr_mo h1 (fun a k => p_pb), RM_fr h9 hV h1, h2, h3⟩
theorem p_st_pb {a k : Nat} (h : p_st a k) : pb_ a k := by
  unfold p_st at h
  unfold pb_ pm_
  omega
theorem MB_X {w w1 : Wd} {n : Nat} {B : Bm} {X : Xm} (h : MB_ w n B) (hf : Fr_ p_st w w1) (hX : MS_ w1 n X) : MB_ w1 n (b_set B X) := by
  have f6 : ∀ a k, (a ≠ 1440 ∨ k < 28 ∨ 30 < k) ∧ (a < 1453 ∨ 1456 < a) → w_i w1 a k = w_i w a k := fun a k z => hf.2.2.2.2.2 a k (by unfold p_st; omega)
  obtain ⟨-, g2, g3, g4, g5, g6, g7⟩ := h
  refine ⟨hX, ?_, ?_, ?_, ?_, ?_, ?_⟩
  · show w_i w1 1440 31 = Int32.ofNat (bm_a B)
    rw [f6 _ _ (by omega)]; exact g2
  · show ∀ k, k < bm_a B → PK_ w1 1457 (43 * k) n (bm_h B k)
    unfold PK_ at g3 ⊢
    simp (disch := omega) only [f6]
    exact g3
  · show w_i w1 1440 32 = Int32.ofNat (bm_m B)
    rw [f6 _ _ (by omega)]; exact g4
  · show ∀ k, k < bm_m B → w_i w1 1466 k = Int32.ofNat (bm_l B k)
    simp (disch := omega) only [f6]; exact g5
  · show ∀ k, k < bm_m B → w_i w1 1467 k = bm_t B k
    simp (disch := omega) only [f6]; exact g6
  · show ∀ k, k < 3 → w_i w1 1451 k = bm_r B k
    simp (disch := omega) only [f6]; exact g7
/-- a change of the state alone -/
theorem RM_X {w w1 : Wd} {S : Sm} {X : Xm} (h : RM_ w S) (hf : Fr_ p_st w w1) (hX : MS_ w1 (tm_n (sm_T S)) X) : RM_ w1 (s_set S (b_set (sm_B S) X)) :=
  RM_B h (fr_mo hf (fun a k => p_st_pb)) (MB_X h.2.2.1 hf hX)
theorem b_a0_le {B : Bm} (h : bm_a B ≤ 40) : b_a0 B < 40 := by
  unfold b_a0
  by_cases e : bm_a B = 40
  · rw [if_pos e]; omega
  · rw [if_neg e]; omega
theorem WX_h0 {n : Nat} {B : Bm} (h : WB_ n B) {k : Nat} (hk : k < b_a0 B) : WX_ n (b_h0 B k) ∧ WL_ n (b_h0 B k) := by
  unfold b_a0 at hk
  unfold b_h0
  by_cases e : bm_a B = 40
  · rw [if_pos e] at hk ⊢; exact ⟨h.2.2.2.1 _ (by omega), h.2.2.2.2.1 _ (by omega)⟩
  · rw [if_neg e] at hk ⊢; exact ⟨h.2.2.2.1 _ hk, h.2.2.2.2.1 _ hk⟩
theorem WB_keep {n : Nat} {B : Bm} (h : WB_ n B) : WB_ n (b_keep B) := by
  have h9 := h
  obtain ⟨h1, h2, h3, h4, h5, h6, h7⟩ := h
  have := b_a0_le h3
  refine ⟨h1, h2, by show b_a0 B + 1 ≤ 40; omega, fun k hk => ?_, fun k hk => ?_, h6, h7⟩
  · show WX_ n (if k = b_a0 B then bm_X B else b_h0 B k)
    have hk : k < b_a0 B + 1 := hk
    by_cases e : k = b_a0 B
    · rw [if_pos e]; exact h1
    · rw [if_neg e]; exact (WX_h0 h9 (by omega)).1
  · show WL_ n (if k = b_a0 B then bm_X B else b_h0 B k)
    have hk : k < b_a0 B + 1 := hk
    by_cases e : k = b_a0 B
    · rw [if_pos e]; exact h2
    · rw [if_neg e]; exact (WX_h0 h9 (by omega)).2
theorem WS_set {S : Sm} {B : Bm} (h : WS_ S) (hB : WB_ (tm_n (sm_T S)) B) : WS_ (s_set S B) := ⟨h.1, h.2.1, h.2.2.1, hB, h.2.2.2.2.1, h.2.2.2.2.2⟩
theorem WB_set {n : Nat} {B : Bm} {X : Xm} (h : WB_ n B) (hX : WX_ n X) (hL : WL_ n X) : WB_ n (b_set B X) := ⟨hX, hL, h.2.2⟩
section
variable {w : Wd} {S : Sm}
theorem m_keep2 (hM : sh_M w) {d a0 : Nat} {v : Option Vl} (h31 : w_i w 1440 31 = Int32.ofNat a0) (ha0 : a0 < 40) : ∃ wB, Fr_ (fun a k => a = 1457 ∧ 43 * a0 ≤ k ∧ k < 43 * a0 + 43) w wB ∧ RR_ wB w 1457 (43 * a0) ∧ ∀ Q, wp (d + 1) 198 52 [some (v_R (some 1440)), v] [] w Q = Q (Sum.inl none) (s_i wB 1440 31 (Int32.ofNat (a0 + 1))) := by
  have hM9 := hM
  unfold sh_M at hM
  obtain ⟨wB, hB1, hB2, hB3⟩ := m_pack (d := d) hM9 (A := 1457) (f := 43 * a0) (by simp only [hM]) (by simp only [hM]; omega) (by simp only [hM]; omega) (by omega)
  refine ⟨wB, hB1, hB2, fun Q => ?_⟩
  have e31 : w_i wB 1440 31 = Int32.ofNat a0 := by rw [hB1.2.2.2.2.2 _ _ (by omega)]; exact h31
  have t1 : w_t wB 1440 = 25 := by rw [hB1.1]; exact hM.1
  simp (disch := first | omega | decide | exact ko_b _ | assumption | (simp only [t_si, t_sl, t_sr, t_sI, t_sR, n_si, n_sl, n_sr, n_sI, n_sR, r_si, r_sl, r_sI]; first | done | omega)) only [x_198_e, x_198_b, x_198_52, x_198_53, x_198_54, x_198_57, x_198_59, x_198_60, x_198_63, x_198_64, bk_v, bk_n, nl_I, nl_R, nl_L, nl_0, oo_lt, oo_le, oo_eq, oo_add, oo_sub, oo_tn, oo_ir, nn_leT, nn_leF, nn_ltT, nn_ltF, nn_eqT, nn_eqF, bv_0, bv_1, ko_b, ko_1, ko_0, true_and, and_true, if_true, if_false, not_true_eq_false, not_false_eq_true, oo_02, decide_eq_true_eq, decide_eq_false_iff_not, ite_not, Nat.reduceAdd, Nat.reduceLT, Nat.reduceSub, Nat.reduceLeDiff, reduceIte, Bool.true_eq_false, Bool.false_eq_true, reduceCtorEq, eq_self, decide_true, decide_false, bv_t, bv_f, and_self, t_si, t_sl, t_sr, t_sI, t_sR, n_si, n_sl, n_sr, n_sI, n_sR, r_si, r_sl, r_sI, hM, h31, oo_mul, hB3]
  clear hM
  simp (disch := first | omega | decide | exact ko_b _ | assumption | (simp only [t_si, t_sl, t_sr, t_sI, t_sR, n_si, n_sl, n_sr, n_sI, n_sR, r_si, r_sl, r_sI]; first | done | omega)) only [x_198_e, x_198_b, x_198_67, x_198_68, x_198_69, x_198_72, x_198_73, x_198_74, x_198_77, bk_v, bk_n, nl_I, nl_R, nl_L, nl_0, oo_lt, oo_le, oo_eq, oo_add, oo_sub, oo_tn, oo_ir, nn_leT, nn_leF, nn_ltT, nn_ltF, nn_eqT, nn_eqF, bv_0, bv_1, ko_b, ko_1, ko_0, true_and, and_true, if_true, if_false, not_true_eq_false, not_false_eq_true, oo_02, decide_eq_true_eq, decide_eq_false_iff_not, ite_not, Nat.reduceAdd, Nat.reduceLT, Nat.reduceSub, Nat.reduceLeDiff, reduceIte, Bool.true_eq_false, Bool.false_eq_true, reduceCtorEq, eq_self, decide_true, decide_false, bv_t, bv_f, and_self, t_si, t_sl, t_sr, t_sI, t_sR, n_si, n_sl, n_sr, n_sI, n_sR, r_si, r_sl, r_sI, e31]
theorem m_keep (h : RM_ w S) (hV : WS_ S) {d : Nat} : ∃ w1, Fr_ pb_ w w1 ∧ RM_ w1 (s_set S (b_keep (sm_B S))) ∧ w_i w1 1440 3 = w_i w 1440 3 ∧ ∀ Q, cl (d + 1) 198 [v_R (some 1440)] w Q = Q (Sum.inl none) w1 := by
  have hq := RM_MQ h hV
  have hMM := hq
  obtain ⟨hM, hT, hS, ⟨hn, hk4⟩, hW1, hW2, hW3⟩ := hMM
  unfold sh_M at hM
  unfold MT_ at hT
  unfold MS_ at hS
  have hB := h.2.2.1.2
  unfold PK_ at hB
  have hR := h.2.2.2
  have ha40 := hV.2.2.2.1.2.2.1
  have ha0 := b_a0_le ha40
  have hM9 := h.1
  have A : ∃ wA v, Fr_ (fun a k => a = 1457 ∨ (a = 1440 ∧ k = 31)) w wA ∧ w_i wA 1440 31 = Int32.ofNat (b_a0 (sm_B S)) ∧ (∀ k, k < b_a0 (sm_B S) → PK_ wA 1457 (43 * k) (tm_n (sm_T S)) (b_h0 (sm_B S) k)) ∧ ∀ Q, cl (d + 1) 198 [v_R (some 1440)] w Q = wp (d + 1) 198 52 [some (v_R (some 1440)), v] [] wA Q := by
    by_cases e40 : bm_a (sm_B S) = 40
    · unfold b_a0 b_h0
      simp only [e40, if_true]
      have hlp := lp_ex (fun k w1 Q => wp (d + 1) 198 12 [some (v_R (some 1440)), some (v_I (Int32.ofNat (43 + k)))] [] w1 Q) (fun k w1 => Fr_ (fun a k => a = 1457 ∨ (a = 1440 ∧ k = 31)) w w1 ∧ w_i w1 1440 31 = Int32.ofNat 40 ∧ (∀ j, j < k → w_i w1 1457 j = w_i w 1457 (j + 43)) ∧ ∀ j, k ≤ j → w_i w1 1457 j = w_i w 1457 j) 1677 (fun k w1 hk hI => ?_) 1677 0 w rfl ?_
      · obtain ⟨w1, ⟨h1, h2, h3, h4⟩, h5⟩ := hlp
        have hM1 := sh_fr hM9 h1
        unfold sh_M at hM1
        refine ⟨s_i w1 1440 31 (Int32.ofNat 39), some (v_I (Int32.ofNat 1720)), fr_si h1 (Or.inr ⟨rfl, rfl⟩), by rw [i_si, if_pos ⟨rfl, rfl⟩], fun k hk => ?_, fun Q => ?_⟩
        · have := h.2.2.1.2.2.1 (k + 1) (by omega)
          refine PK_tr this (by have := (hV.2.2.2.1.2.2.2.1 (k + 1) (by omega)).1; omega) hn (fun i hi => ?_)
          rw [i_si, if_neg (by omega), h3 _ (by omega)]
          congr 1; omega
        · have e2 : wp (d + 1) 198 12 [some (v_R (some 1440)), some (v_I (Int32.ofNat (43 + 1677)))] [] w1 Q = wp (d + 1) 198 52 [some (v_R (some 1440)), some (v_I (Int32.ofNat 1720))] [] (s_i w1 1440 31 (Int32.ofNat 39)) Q := by
            rw [x_198_12]
            clear hM hT hS hB hR
            simp (disch := first | omega | decide | exact ko_b _ | assumption | (simp only [t_si, t_sl, t_sr, t_sI, t_sR, n_si, n_sl, n_sr, n_sI, n_sR, r_si, r_sl, r_sI]; first | done | omega)) only [x_198_e, x_198_b, x_198_0, x_198_1, x_198_4, x_198_6, x_198_9, x_198_11, x_198_13, x_198_14, x_198_17, x_198_18, x_198_21, x_198_22, x_198_25, x_198_26, x_198_28, x_198_29, x_198_30, x_198_33, x_198_34, x_198_35, x_198_36, x_198_39, x_198_42, x_198_43, x_198_44, x_198_47, x_198_48, x_198_49, bk_v, bk_n, nl_I, nl_R, nl_L, nl_0, oo_lt, oo_le, oo_eq, oo_add, oo_sub, oo_tn, oo_ir, nn_leT, nn_leF, nn_ltT, nn_ltF, nn_eqT, nn_eqF, bv_0, bv_1, ko_b, ko_1, ko_0, true_and, and_true, if_true, if_false, not_true_eq_false, not_false_eq_true, oo_02, decide_eq_true_eq, decide_eq_false_iff_not, ite_not, Nat.reduceAdd, Nat.reduceLT, Nat.reduceSub, Nat.reduceLeDiff, reduceIte, Bool.true_eq_false, Bool.false_eq_true, reduceCtorEq, eq_self, decide_true, decide_false, bv_t, bv_f, and_self, t_si, t_sl, t_sr, t_sI, t_sR, n_si, n_sl, n_sr, n_sI, n_sR, r_si, r_sl, r_sI, hM1, h2]
          rw [← e2, ← h5 Q]
          simp (disch := first | omega | decide | exact ko_b _ | assumption | (simp only [t_si, t_sl, t_sr, t_sI, t_sR, n_si, n_sl, n_sr, n_sI, n_sR, r_si, r_sl, r_sI]; first | done | omega)) only [x_198_e, x_198_b, x_198_0, x_198_1, x_198_4, x_198_6, x_198_9, x_198_11, x_198_13, x_198_14, x_198_17, x_198_18, x_198_21, x_198_22, x_198_25, x_198_26, x_198_28, x_198_29, x_198_30, x_198_33, x_198_34, x_198_35, x_198_36, x_198_39, x_198_42, x_198_43, x_198_44, x_198_47, x_198_48, x_198_49, bk_v, bk_n, nl_I, nl_R, nl_L, nl_0, oo_lt, oo_le, oo_eq, oo_add, oo_sub, oo_tn, oo_ir, nn_leT, nn_leF, nn_ltT, nn_ltF, nn_eqT, nn_eqF, bv_0, bv_1, ko_b, ko_1, ko_0, true_and, and_true, if_true, if_false, not_true_eq_false, not_false_eq_true, oo_02, decide_eq_true_eq, decide_eq_false_iff_not, ite_not, Nat.reduceAdd, Nat.reduceLT, Nat.reduceSub, Nat.reduceLeDiff, reduceIte, Bool.true_eq_false, Bool.false_eq_true, reduceCtorEq, eq_self, decide_true, decide_false, bv_t, bv_f, and_self, t_si, t_sl, t_sr, t_sI, t_sR, n_si, n_sl, n_sr, n_sI, n_sR, r_si, r_sl, r_sI, hM, hT, hS, hB, hR, e40]
      · obtain ⟨h1, h2, h3, h4⟩ := hI
        have hM1 := sh_fr hM9 h1
        unfold sh_M at hM1
        refine ⟨s_i w1 1457 k (w_i w 1457 (k + 43)), ⟨fr_si h1 (Or.inl rfl), ?_, fun j hj => ?_, fun j hj => ?_⟩, fun Q => ?_⟩
        · rw [i_si, if_neg (by omega)]; exact h2
        · rw [i_si]
          by_cases e : j = k
          · subst e; rw [if_pos ⟨rfl, rfl⟩]
          · rw [if_neg (by omega)]; exact h3 j (by omega)
        · rw [i_si, if_neg (by omega)]; exact h4 j (by omega)
        · rw [x_198_12]
          have e3 : w_i w1 1457 (43 + k) = w_i w 1457 (k + 43) := by rw [h4 _ (by omega), Nat.add_comm]
          clear hM hT hS hB hR
          simp (disch := first | omega | decide | exact ko_b _ | assumption | (simp only [t_si, t_sl, t_sr, t_sI, t_sR, n_si, n_sl, n_sr, n_sI, n_sR, r_si, r_sl, r_sI]; first | done | omega)) only [x_198_e, x_198_b, x_198_0, x_198_1, x_198_4, x_198_6, x_198_9, x_198_11, x_198_13, x_198_14, x_198_17, x_198_18, x_198_21, x_198_22, x_198_25, x_198_26, x_198_28, x_198_29, x_198_30, x_198_33, x_198_34, x_198_35, x_198_36, x_198_39, x_198_42, x_198_43, x_198_44, x_198_47, x_198_48, x_198_49, bk_v, bk_n, nl_I, nl_R, nl_L, nl_0, oo_lt, oo_le, oo_eq, oo_add, oo_sub, oo_tn, oo_ir, nn_leT, nn_leF, nn_ltT, nn_ltF, nn_eqT, nn_eqF, bv_0, bv_1, ko_b, ko_1, ko_0, true_and, and_true, if_true, if_false, not_true_eq_false, not_false_eq_true, oo_02, decide_eq_true_eq, decide_eq_false_iff_not, ite_not, Nat.reduceAdd, Nat.reduceLT, Nat.reduceSub, Nat.reduceLeDiff, reduceIte, Bool.true_eq_false, Bool.false_eq_true, reduceCtorEq, eq_self, decide_true, decide_false, bv_t, bv_f, and_self, t_si, t_sl, t_sr, t_sI, t_sR, n_si, n_sl, n_sr, n_sI, n_sR, r_si, r_sl, r_sI, hM1, e3, Nat.add_sub_cancel_left, Nat.add_assoc]
      · exact ⟨fr_rf _ _, by rw [hB.1, e40], fun j hj => absurd hj (Nat.not_lt_zero j), fun j _ => rfl⟩
    · unfold b_a0 b_h0
      simp only [e40, if_false]
      refine ⟨w, none, fr_rf _ _, hB.1, h.2.2.1.2.2.1, fun Q => ?_⟩
      simp (disch := first | omega | decide | exact ko_b _ | assumption | (simp only [t_si, t_sl, t_sr, t_sI, t_sR, n_si, n_sl, n_sr, n_sI, n_sR, r_si, r_sl, r_sI]; first | done | omega)) only [x_198_e, x_198_b, x_198_0, x_198_1, x_198_4, x_198_6, x_198_9, x_198_11, x_198_13, x_198_14, x_198_17, x_198_18, x_198_21, x_198_22, x_198_25, x_198_26, x_198_28, x_198_29, x_198_30, x_198_33, x_198_34, x_198_35, x_198_36, x_198_39, x_198_42, x_198_43, x_198_44, x_198_47, x_198_48, x_198_49, bk_v, bk_n, nl_I, nl_R, nl_L, nl_0, oo_lt, oo_le, oo_eq, oo_add, oo_sub, oo_tn, oo_ir, nn_leT, nn_leF, nn_ltT, nn_ltF, nn_eqT, nn_eqF, bv_0, bv_1, ko_b, ko_1, ko_0, true_and, and_true, if_true, if_false, not_true_eq_false, not_false_eq_true, oo_02, decide_eq_true_eq, decide_eq_false_iff_not, ite_not, Nat.reduceAdd, Nat.reduceLT, Nat.reduceSub, Nat.reduceLeDiff, reduceIte, Bool.true_eq_false, Bool.false_eq_true, reduceCtorEq, eq_self, decide_true, decide_false, bv_t, bv_f, and_self, t_si, t_sl, t_sr, t_sI, t_sR, n_si, n_sl, n_sr, n_sI, n_sR, r_si, r_sl, r_sI, hM, hT, hS, hB, hR]
  obtain ⟨wA, v, hA1, hA2, hA3, hA4⟩ := A
  obtain ⟨wB, hB1, hB2, hB3⟩ := m_keep2 (d := d) (v := v) (sh_fr hM9 hA1) hA2 ha0
  have gB : ∀ a k, a ≠ 1457 → w_i wB a k = w_i wA a k := fun a k z => hB1.2.2.2.2.2 a k (fun y => z y.1)
  have gA : ∀ a k, a ≠ 1457 → (a ≠ 1440 ∨ k ≠ 31) → w_i wA a k = w_i w a k := fun a k z y => hA1.2.2.2.2.2 a k (by omega)
  have hfr : Fr_ pb_ w (s_i wB 1440 31 (Int32.ofNat (b_a0 (sm_B S) + 1))) := fr_si (fr_tr (fr_mo hA1 (fun a k z => by unfold pb_; omega)) (fr_mo hB1 (fun a k z => by unfold pb_; omega))) (by unfold pb_; omega)
  have g : ∀ a k, a ≠ 1457 → (a ≠ 1440 ∨ k ≠ 31) → w_i (s_i wB 1440 31 (Int32.ofNat (b_a0 (sm_B S) + 1))) a k = w_i w a k := fun a k z y => by rw [i_si, if_neg (by omega), gB a k z, gA a k z y]
  refine ⟨_, hfr, RM_B h hfr ?_, ?_, fun Q => ?_⟩
  · obtain ⟨g1, g2, g3, g4, g5, g6, g7⟩ := h.2.2.1
    have gS : MS_ wA (tm_n (sm_T S)) (bm_X (sm_B S)) := by
      unfold MS_ at g1 ⊢
      simp (disch := omega) only [gA]
      exact g1
    refine ⟨?_, ?_, fun k hk => ?_, ?_, ?_, ?_, ?_⟩
    · show MS_ _ (tm_n (sm_T S)) (bm_X (sm_B S))
      unfold MS_ at g1 ⊢
      simp (disch := omega) only [g]
      exact g1
    · rw [i_si, if_pos ⟨rfl, rfl⟩]; rfl
    · have hk : k < b_a0 (sm_B S) + 1 := hk
      show PK_ _ 1457 (43 * k) (tm_n (sm_T S)) (if k = b_a0 (sm_B S) then bm_X (sm_B S) else b_h0 (sm_B S) k)
      by_cases e : k = b_a0 (sm_B S)
      · rw [if_pos e]
        subst e
        refine PK_tr (RR_PK hB2 gS (by omega) hn) (by omega) hn (fun i hi => ?_)
        rw [i_si, if_neg (by omega)]
      · rw [if_neg e]
        refine PK_tr (hA3 k (by omega)) (by have := (WX_h0 hV.2.2.2.1 (by omega : k < b_a0 (sm_B S))).1.1; omega) hn (fun i hi => ?_)
        rw [i_si, if_neg (by omega)]
        exact hB1.2.2.2.2.2 _ _ (by omega)
    · rw [g _ _ (by omega) (by omega)]; exact g4
    · intro k hk
      rw [g _ _ (by omega) (by omega)]; exact g5 k hk
    · intro k hk
      rw [g _ _ (by omega) (by omega)]; exact g6 k hk
    · intro k hk
      rw [g _ _ (by omega) (by omega)]; exact g7 k hk
  · exact g _ _ (by omega) (by omega)
  · rw [hA4 Q, hB3 Q]
theorem m_exch (hM : sh_M w) {d a b : Nat} {Q : Q_} (ha : a < 10) (hb : b < 10) : cl d 204 [v_R (some 1440), v_I (Int32.ofNat a), v_I (Int32.ofNat b)] w Q = Q (Sum.inl none) (s_i (s_i w 1453 a (w_i w 1453 b)) 1453 b (w_i w 1453 a)) := by
  unfold sh_M at hM
  simp (disch := first | omega | decide | exact ko_b _ | assumption | (simp only [t_si, t_sl, t_sr, t_sI, t_sR, n_si, n_sl, n_sr, n_sI, n_sR, r_si, r_sl, r_sI]; first | done | omega)) only [x_204_e, x_204_b, x_204_0, x_204_1, x_204_4, x_204_5, x_204_6, x_204_7, x_204_8, x_204_11, x_204_12, x_204_13, x_204_16, x_204_17, x_204_18, x_204_19, x_204_20, x_204_23, x_204_24, x_204_25, x_204_26, bk_v, bk_n, nl_I, nl_R, nl_L, nl_0, oo_lt, oo_le, oo_eq, oo_add, oo_sub, oo_tn, oo_ir, nn_leT, nn_leF, nn_ltT, nn_ltF, nn_eqT, nn_eqF, bv_0, bv_1, ko_b, ko_1, ko_0, true_and, and_true, if_true, if_false, not_true_eq_false, not_false_eq_true, oo_02, decide_eq_true_eq, decide_eq_false_iff_not, ite_not, Nat.reduceAdd, Nat.reduceLT, Nat.reduceSub, Nat.reduceLeDiff, reduceIte, Bool.true_eq_false, Bool.false_eq_true, reduceCtorEq, eq_self, decide_true, decide_false, bv_t, bv_f, and_self, t_si, t_sl, t_sr, t_sI, t_sR, n_si, n_sl, n_sr, n_sI, n_sR, r_si, r_sl, r_sI, hM]
theorem MS_exch {n a b : Nat} {X : Xm} (h : MS_ w n X) (ha : a < xm_L X) (hb : b < xm_L X) : MS_ (s_i (s_i w 1453 a (w_i w 1453 b)) 1453 b (w_i w 1453 a)) n (x_swp X a b) := by
  unfold MS_ at h ⊢
  obtain ⟨h1, h2, h3, h4, h5, h6, h7⟩ := h
  simp only [i_si, Nat.reduceEqDiff, false_and, if_false, true_and]
  refine ⟨h1, h2, h3, fun k hk => ?_, h5, h6, h7⟩
  have hk : k < xm_L X := hk
  show _ = Int32.ofNat (if k = b then xm_t X a else if k = a then xm_t X b else xm_t X k)
  by_cases c1 : k = b
  · rw [if_pos c1, if_pos c1]; exact h4 a ha
  · rw [if_neg c1, if_neg c1]
    by_cases c2 : k = a
    · rw [if_pos c2, if_pos c2]; exact h4 b hb
    · rw [if_neg c2, if_neg c2]; exact h4 k hk
theorem m_toff {T : Tm} {X : Xm} (h : MQ_ w T X) {d t l : Nat} (ht : t < tm_n T) (hl : f_lv X t = some l) : ∃ w1, Fr_ p_st w w1 ∧ MS_ w1 (tm_n T) (x_take X l) ∧ ∀ Q, cl (d + 1) 201 [v_R (some 1440), v_I (Int32.ofNat t)] w Q = Q (Sum.inl none) w1 := by
  have hM9 := h.1
  have hS9 := h.2.2.1
  have hq := h
  obtain ⟨hM, hT, hS, ⟨hn, hk4⟩, hW1, hW2, hW3⟩ := hq
  unfold sh_M at hM
  unfold MT_ at hT
  unfold MS_ at hS
  obtain ⟨l1, l2, l3, l4⟩ := ff_s hl
  have l3 := of_decide_eq_true l3
  have hlp := lp_ex (fun k w1 Q => wp (d + 1) 201 18 [some (v_R (some 1440)), some (v_I (Int32.ofNat t)), some (v_I (Int32.ofNat l)), some (v_I (Int32.ofNat (l + k)))] [] w1 Q) (fun k w1 => Fr_ p_st w w1 ∧ w_i w1 1440 28 = Int32.ofNat (xm_L X - 1) ∧ (∀ a j, a ≠ 1453 → (a ≠ 1440 ∨ j ≠ 28) → w_i w1 a j = w_i w a j) ∧ (∀ j, j < l → w_i w1 1453 j = w_i w 1453 j) ∧ (∀ j, l ≤ j → j < l + k → w_i w1 1453 j = w_i w 1453 (j + 1)) ∧ ∀ j, l + k ≤ j → w_i w1 1453 j = w_i w 1453 j) (xm_L X - 1 - l) (fun k w1 hk hI => ?_) (xm_L X - 1 - l) 0 (s_i w 1440 28 (Int32.ofNat (xm_L X - 1))) (Nat.zero_add _) ?_
  · obtain ⟨w1, ⟨h1, h2, h3, h4, h5, h6⟩, h7⟩ := hlp
    have hM1 := sh_fr hM9 h1
    unfold sh_M at hM1
    refine ⟨s_i w1 1454 t (Int32.ofNat 0), fr_si h1 (by unfold p_st; omega), ?_, fun Q => ?_⟩
    · unfold MS_
      refine ⟨?_, ?_, ?_, fun k hk => ?_, fun k hk => ?_, fun k hk => ?_, fun k hk => ?_⟩
      · rw [i_si, if_neg (by omega)]; exact h2
      · rw [i_si, if_neg (by omega), h3 _ _ (by omega) (by omega)]; exact hS9.2.1
      · rw [i_si, if_neg (by omega), h3 _ _ (by omega) (by omega)]; exact hS9.2.2.1
      · have hk : k < xm_L X - 1 := hk
        rw [i_si, if_neg (by omega)]
        show _ = Int32.ofNat (if k < l then xm_t X k else xm_t X (k + 1))
        by_cases c : k < l
        · rw [if_pos c, h4 k c]; exact hS9.2.2.2.1 k (by omega)
        · rw [if_neg c, h5 k (by omega) (by omega)]; exact hS9.2.2.2.1 (k + 1) (by omega)
      · rw [i_si]
        show _ = if k = xm_t X l then Int32.ofNat 0 else xm_m X k
        by_cases c : k = t
        · rw [if_pos ⟨rfl, c⟩, if_pos (by omega)]
        · rw [if_neg (fun z => c z.2), if_neg (by omega), h3 _ _ (by omega) (by omega)]; exact hS9.2.2.2.2.1 k hk
      · rw [i_si, if_neg (by omega), h3 _ _ (by omega) (by omega)]; exact hS9.2.2.2.2.2.1 k hk
      · rw [i_si, if_neg (by omega), h3 _ _ (by omega) (by omega)]; exact hS9.2.2.2.2.2.2 k hk
    · have e : wp (d + 1) 201 18 [some (v_R (some 1440)), some (v_I (Int32.ofNat t)), some (v_I (Int32.ofNat l)), some (v_I (Int32.ofNat (l + (xm_L X - 1 - l))))] [] w1 Q = Q (Sum.inl none) (s_i w1 1454 t (Int32.ofNat 0)) := by
        rw [x_201_18]
        simp (disch := first | omega | decide | exact ko_b _ | assumption | (simp only [t_si, t_sl, t_sr, t_sI, t_sR, n_si, n_sl, n_sr, n_sI, n_sR, r_si, r_sl, r_sI]; first | done | omega)) only [x_201_e, x_201_b, x_201_0, x_201_1, x_201_2, x_201_5, x_201_6, x_201_7, x_201_8, x_201_11, x_201_12, x_201_13, x_201_16, x_201_17, x_201_19, x_201_20, x_201_23, x_201_26, x_201_27, x_201_30, x_201_31, x_201_32, x_201_35, x_201_36, x_201_37, x_201_38, x_201_39, x_201_40, x_201_43, x_201_46, x_201_47, x_201_50, x_201_51, x_201_52, x_201_53, bk_v, bk_n, nl_I, nl_R, nl_L, nl_0, oo_lt, oo_le, oo_eq, oo_add, oo_sub, oo_tn, oo_ir, nn_leT, nn_leF, nn_ltT, nn_ltF, nn_eqT, nn_eqF, bv_0, bv_1, ko_b, ko_1, ko_0, true_and, and_true, if_true, if_false, not_true_eq_false, not_false_eq_true, oo_02, decide_eq_true_eq, decide_eq_false_iff_not, ite_not, Nat.reduceAdd, Nat.reduceLT, Nat.reduceSub, Nat.reduceLeDiff, reduceIte, Bool.true_eq_false, Bool.false_eq_true, reduceCtorEq, eq_self, decide_true, decide_false, bv_t, bv_f, and_self, t_si, t_sl, t_sr, t_sI, t_sR, n_si, n_sl, n_sr, n_sI, n_sR, r_si, r_sl, r_sI, hM1, h2]
      rw [← e, ← h7 Q]
      simp (disch := first | omega | decide | exact ko_b _ | assumption | (simp only [t_si, t_sl, t_sr, t_sI, t_sR, n_si, n_sl, n_sr, n_sI, n_sR, r_si, r_sl, r_sI]; first | done | omega)) only [x_201_e, x_201_b, x_201_0, x_201_1, x_201_2, x_201_5, x_201_6, x_201_7, x_201_8, x_201_11, x_201_12, x_201_13, x_201_16, x_201_17, x_201_19, x_201_20, x_201_23, x_201_26, x_201_27, x_201_30, x_201_31, x_201_32, x_201_35, x_201_36, x_201_37, x_201_38, x_201_39, x_201_40, x_201_43, x_201_46, x_201_47, x_201_50, x_201_51, x_201_52, x_201_53, bk_v, bk_n, nl_I, nl_R, nl_L, nl_0, oo_lt, oo_le, oo_eq, oo_add, oo_sub, oo_tn, oo_ir, nn_leT, nn_leF, nn_ltT, nn_ltF, nn_eqT, nn_eqF, bv_0, bv_1, ko_b, ko_1, ko_0, true_and, and_true, if_true, if_false, not_true_eq_false, not_false_eq_true, oo_02, decide_eq_true_eq, decide_eq_false_iff_not, ite_not, Nat.reduceAdd, Nat.reduceLT, Nat.reduceSub, Nat.reduceLeDiff, reduceIte, Bool.true_eq_false, Bool.false_eq_true, reduceCtorEq, eq_self, decide_true, decide_false, bv_t, bv_f, and_self, t_si, t_sl, t_sr, t_sI, t_sR, n_si, n_sl, n_sr, n_sI, n_sR, r_si, r_sl, r_sI, hM, hT, hS, m_lv h, hl, o_i_s, Nat.add_zero]
  · obtain ⟨h1, h2, h3, h4, h5, h6⟩ := hI
    have hM1 := sh_fr hM9 h1
    unfold sh_M at hM1
    refine ⟨s_i w1 1453 (l + k) (w_i w 1453 (l + k + 1)), ⟨fr_si h1 (by unfold p_st; omega), ?_, fun a j z y => ?_, fun j hj => ?_, fun j hj hj2 => ?_, fun j hj => ?_⟩, fun Q => ?_⟩
    · rw [i_si, if_neg (by omega)]; exact h2
    · rw [i_si, if_neg (by omega)]; exact h3 a j z y
    · rw [i_si, if_neg (by omega)]; exact h4 j hj
    · rw [i_si]
      by_cases c : j = l + k
      · subst c; rw [if_pos ⟨rfl, rfl⟩]
      · rw [if_neg (fun z => c z.2)]; exact h5 j hj (by omega)
    · rw [i_si, if_neg (by omega)]; exact h6 j (by omega)
    · have e3 := h6 (l + (k + 1)) (by omega)
      rw [x_201_18]
      simp (disch := first | omega | decide | exact ko_b _ | assumption | (simp only [t_si, t_sl, t_sr, t_sI, t_sR, n_si, n_sl, n_sr, n_sI, n_sR, r_si, r_sl, r_sI]; first | done | omega)) only [x_201_e, x_201_b, x_201_0, x_201_1, x_201_2, x_201_5, x_201_6, x_201_7, x_201_8, x_201_11, x_201_12, x_201_13, x_201_16, x_201_17, x_201_19, x_201_20, x_201_23, x_201_26, x_201_27, x_201_30, x_201_31, x_201_32, x_201_35, x_201_36, x_201_37, x_201_38, x_201_39, x_201_40, x_201_43, x_201_46, x_201_47, x_201_50, x_201_51, x_201_52, x_201_53, bk_v, bk_n, nl_I, nl_R, nl_L, nl_0, oo_lt, oo_le, oo_eq, oo_add, oo_sub, oo_tn, oo_ir, nn_leT, nn_leF, nn_ltT, nn_ltF, nn_eqT, nn_eqF, bv_0, bv_1, ko_b, ko_1, ko_0, true_and, and_true, if_true, if_false, not_true_eq_false, not_false_eq_true, oo_02, decide_eq_true_eq, decide_eq_false_iff_not, ite_not, Nat.reduceAdd, Nat.reduceLT, Nat.reduceSub, Nat.reduceLeDiff, reduceIte, Bool.true_eq_false, Bool.false_eq_true, reduceCtorEq, eq_self, decide_true, decide_false, bv_t, bv_f, and_self, t_si, t_sl, t_sr, t_sI, t_sR, n_si, n_sl, n_sr, n_sI, n_sR, r_si, r_sl, r_sI, hM1, h2, e3, Nat.add_assoc]
  · exact ⟨fr_si (fr_rf _ _) (by unfold p_st; omega), by rw [i_si, if_pos ⟨rfl, rfl⟩], fun a j z y => by rw [i_si, if_neg (by omega)], fun j hj => by rw [i_si, if_neg (by omega)], fun j hj hj2 => by omega, fun j hj => by rw [i_si, if_neg (by omega)]⟩
end
