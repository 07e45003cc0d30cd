/-! THE MODEL's tokens -/
set_option maxRecDepth 100000
section
variable {w : Wd} {t : Tp} {d : Nat}
/-- the tape, as the model has it -/
def MTp_ (w : Wd) (t : Tp) : Prop := w_t w 1440 = 25 ∧ w_r w 1440 12 = some 1452 ∧ w_t w 1452 = 1 ∧ w_n w 1452 = 600 ∧ t.2 ≤ 600 ∧ (∀ k, k < 600 → w_i w 1452 k = Int32.ofNat (t.1 k)) ∧ (∀ k, t.1 k < 256) ∧ w_i w 1440 15 = Int32.ofNat t.2
def by_i (t : Tp) (k : Nat) : Int32 := if k < t.2 then Int32.ofNat (t.1 k) else Int32.ofInt (-1)
theorem m_byte (h : MTp_ w t) {p : Nat} (hp : p ≤ 600) {Q : Q_} : cl d 155 [v_R (some 1440), v_I (Int32.ofNat p)] w Q = Q (Sum.inl (some (v_I (by_i t p)))) w := by
  obtain ⟨h1, h2, h3, h4, h5, h6, h7, h8⟩ := h
  unfold by_i
  by_cases c : p < t.2
  · have := h6 p (by omega)
    simp (disch := first | omega | decide | exact ko_b _ | assumption | (simp only [t_si, t_sl, t_sr, t_sI, t_sR, n_si, n_sl, n_sr, n_sI, n_sR, r_si, r_sl, r_sI]; first | done | omega)) only [x_155_e, x_155_b, x_155_0, x_155_1, x_155_2, x_155_5, x_155_8, x_155_9, x_155_12, x_155_13, x_155_14, x_155_17, x_155_18, bk_v, bk_n, nl_I, nl_R, nl_L, nl_0, oo_lt, oo_le, oo_eq, oo_add, oo_sub, oo_tn, oo_ir, nn_leT, nn_leF, nn_ltT, nn_ltF, nn_eqT, nn_eqF, bv_0, bv_1, ko_b, ko_1, ko_0, true_and, and_true, if_true, if_false, not_true_eq_false, not_false_eq_true, oo_02, decide_eq_true_eq, decide_eq_false_iff_not, ite_not, Nat.reduceAdd, Nat.reduceLT, Nat.reduceSub, Nat.reduceLeDiff, reduceIte, Bool.true_eq_false, Bool.false_eq_true, reduceCtorEq, eq_self, decide_true, decide_false, bv_t, bv_f, and_self, t_si, t_sl, t_sr, t_sI, t_sR, n_si, n_sl, n_sr, n_sI, n_sR, r_si, r_sl, r_sI, h2, h4, h8, this, c]
  · simp (disch := first | omega | decide | exact ko_b _ | assumption | (simp only [t_si, t_sl, t_sr, t_sI, t_sR, n_si, n_sl, n_sr, n_sI, n_sR, r_si, r_sl, r_sI]; first | done | omega)) only [x_155_e, x_155_b, x_155_0, x_155_1, x_155_2, x_155_5, x_155_8, x_155_9, x_155_12, x_155_13, x_155_14, x_155_17, x_155_18, bk_v, bk_n, nl_I, nl_R, nl_L, nl_0, oo_lt, oo_le, oo_eq, oo_add, oo_sub, oo_tn, oo_ir, nn_leT, nn_leF, nn_ltT, nn_ltF, nn_eqT, nn_eqF, bv_0, bv_1, ko_b, ko_1, ko_0, true_and, and_true, if_true, if_false, not_true_eq_false, not_false_eq_true, oo_02, decide_eq_true_eq, decide_eq_false_iff_not, ite_not, Nat.reduceAdd, Nat.reduceLT, Nat.reduceSub, Nat.reduceLeDiff, reduceIte, Bool.true_eq_false, Bool.false_eq_true, reduceCtorEq, eq_self, decide_true, decide_false, bv_t, bv_f, and_self, t_si, t_sl, t_sr, t_sI, t_sR, n_si, n_sl, n_sr, n_sI, n_sR, r_si, r_sl, r_sI, h2, h4, h8, c]
theorem by_32 {k : Nat} (h7 : ∀ k, t.1 k < 256) {x : Nat} (hx : x < 256) : (by_i t k = Int32.ofNat x) = (k < t.2 ∧ t.1 k = x) := by
  unfold by_i
  by_cases c : k < t.2
  · have := h7 k
    rw [if_pos c, oo_eq (by omega) (by omega)]
    exact propext ⟨fun z => ⟨c, z⟩, fun z => z.2⟩
  · rw [if_neg c]
    refine propext ⟨fun z => ?_, fun z => absurd z.1 c⟩
    have := congrArg Int32.toInt z
    rw [oo_in (by omega)] at this
    have e : (Int32.ofInt (-1)).toInt = -1 := by decide
    omega
/-- the reader's place alone -/
def p14_ (a k : Nat) : Prop := a = 1440 ∧ k = 14
theorem MTp_fr {P : Nat → Nat → Prop} {w1 : Wd} (h : MTp_ w t) (hf : Fr_ P w w1) (hp : ∀ k, ¬ P 1452 k) (h15 : ¬ P 1440 15) : MTp_ w1 t := by
  obtain ⟨h1, h2, h3, h4, h5, h6, h7, h8⟩ := h
  obtain ⟨f1, f2, f3, -, -, f6⟩ := hf
  exact ⟨by rw [f1]; exact h1, by rw [f3]; exact h2, by rw [f1]; exact h3, by rw [f2]; exact h4, h5, fun k hk => (f6 _ _ (hp k)).trans (h6 k hk), h7, (f6 _ _ h15).trans h8⟩
theorem MTp_14 {x : Int32} (h : MTp_ w t) : MTp_ (s_i w 1440 14 x) t := MTp_fr h (fr_si (fr_rf p14_ w) ⟨rfl, rfl⟩) (fun k z => by unfold p14_ at z; omega) (fun z => by unfold p14_ at z; omega)
theorem m_sk : ∀ (f p : Nat) (w : Wd), MTp_ w t → p + f = t.2 → w_i w 1440 14 = Int32.ofNat p → ∀ a1, ∃ w1, (Fr_ p14_ w w1 ∧ MTp_ w1 t ∧ w_i w1 1440 14 = Int32.ofNat (rn_ (fun k => decide (k < t.2) && ct_b (t.1 k)) f p)) ∧ ∀ Q, wp (d + 1) 154 0 [some (v_R (some 1440)), a1] [] w Q = wp (d + 1) 154 39 [some (v_R (some 1440)), a1] [] w1 Q := by
  intro f
  induction f with
  | zero =>
    intro p w h hp hi a1
    refine ⟨w, ⟨fr_rf _ _, h, hi⟩, fun Q => ?_⟩
    have hb := fun d Q => m_byte (d := d) (p := p) (Q := Q) h (by have := h.2.2.2.2.1; omega)
    have e1 : ¬ by_i t p = Int32.ofNat 32 := by rw [by_32 h.2.2.2.2.2.2.1 (by omega)]; omega
    have e2 : ¬ by_i t p = Int32.ofNat 10 := by rw [by_32 h.2.2.2.2.2.2.1 (by omega)]; omega
    have h0 := h.1
    rw [x_154_0]
    simp (disch := first | omega | decide | exact ko_b _ | assumption | (simp only [t_si, t_sl, t_sr, t_sI, t_sR, n_si, n_sl, n_sr, n_sI, n_sR, r_si, r_sl, r_sI]; first | done | omega)) only [x_154_e, x_154_b, x_154_1, x_154_2, x_154_5, x_154_8, x_154_10, x_154_13, x_154_14, x_154_15, x_154_18, x_154_21, x_154_23, bk_v, bk_n, nl_I, nl_R, nl_L, nl_0, oo_lt, oo_le, oo_eq, oo_add, oo_sub, oo_tn, oo_ir, nn_leT, nn_leF, nn_ltT, nn_ltF, nn_eqT, nn_eqF, bv_0, bv_1, ko_b, ko_1, ko_0, true_and, and_true, if_true, if_false, not_true_eq_false, not_false_eq_true, oo_02, decide_eq_true_eq, decide_eq_false_iff_not, ite_not, Nat.reduceAdd, Nat.reduceLT, Nat.reduceSub, Nat.reduceLeDiff, reduceIte, Bool.true_eq_false, Bool.false_eq_true, reduceCtorEq, eq_self, decide_true, decide_false, bv_t, bv_f, and_self, t_si, t_sl, t_sr, t_sI, t_sR, n_si, n_sl, n_sr, n_sI, n_sR, r_si, r_sl, r_sI, hi, hb, e1, e2]
  | succ f ih =>
    intro p w h hp hi a1
    have hb := fun d Q => m_byte (d := d) (p := p) (Q := Q) h (by have := h.2.2.2.2.1; omega)
    have h0 := h.1
    have h7 := h.2.2.2.2.2.2.1
    have hN := h.2.2.2.2.1
    have e1 := by_32 (t := t) (k := p) h7 (x := 32) (by omega)
    have e2 := by_32 (t := t) (k := p) h7 (x := 10) (by omega)
    have hlt : p < t.2 := by omega
    unfold rn_
    by_cases c : (decide (p < t.2) && ct_b (t.1 p)) = true
    · rw [if_pos c]
      obtain ⟨w1, ⟨i1, i2, i3⟩, q1⟩ := ih (p + 1) (s_i w 1440 14 (Int32.ofNat (p + 1))) (MTp_14 h) (by omega) (by rw [i_si, if_pos ⟨rfl, rfl⟩]) a1
      refine ⟨w1, ⟨fr_tr (fr_si (fr_rf p14_ w) ⟨rfl, rfl⟩) i1, i2, i3⟩, fun Q => ?_⟩
      rw [← q1]
      unfold ct_b at c
      simp only [Bool.and_eq_true, decide_eq_true_eq] at c
      rcases c.2 with z | z
      · have e : by_i t p = Int32.ofNat 32 := by rw [e1]; exact ⟨hlt, z⟩
        rw [x_154_0]
        simp (disch := first | omega | decide | exact ko_b _ | assumption | (simp only [t_si, t_sl, t_sr, t_sI, t_sR, n_si, n_sl, n_sr, n_sI, n_sR, r_si, r_sl, r_sI]; first | done | omega)) only [x_154_e, x_154_b, x_154_1, x_154_2, x_154_5, x_154_8, x_154_10, x_154_13, x_154_14, x_154_15, x_154_18, x_154_21, x_154_23, x_154_26, x_154_27, x_154_28, x_154_31, x_154_32, x_154_33, x_154_36, bk_v, bk_n, nl_I, nl_R, nl_L, nl_0, oo_lt, oo_le, oo_eq, oo_add, oo_sub, oo_tn, oo_ir, nn_leT, nn_leF, nn_ltT, nn_ltF, nn_eqT, nn_eqF, bv_0, bv_1, ko_b, ko_1, ko_0, true_and, and_true, if_true, if_false, not_true_eq_false, not_false_eq_true, oo_02, decide_eq_true_eq, decide_eq_false_iff_not, ite_not, Nat.reduceAdd, Nat.reduceLT, Nat.reduceSub, Nat.reduceLeDiff, reduceIte, Bool.true_eq_false, Bool.false_eq_true, reduceCtorEq, eq_self, decide_true, decide_false, bv_t, bv_f, and_self, t_si, t_sl, t_sr, t_sI, t_sR, n_si, n_sl, n_sr, n_sI, n_sR, r_si, r_sl, r_sI, hi, hb, e]
      · have e : ¬ by_i t p = Int32.ofNat 32 := by rw [e1]; omega
        have e9 : by_i t p = Int32.ofNat 10 := by rw [e2]; exact ⟨hlt, z⟩
        rw [x_154_0]
        simp (disch := first | omega | decide | exact ko_b _ | assumption | (simp only [t_si, t_sl, t_sr, t_sI, t_sR, n_si, n_sl, n_sr, n_sI, n_sR, r_si, r_sl, r_sI]; first | done | omega)) only [x_154_e, x_154_b, x_154_1, x_154_2, x_154_5, x_154_8, x_154_10, x_154_13, x_154_14, x_154_15, x_154_18, x_154_21, x_154_23, x_154_26, x_154_27, x_154_28, x_154_31, x_154_32, x_154_33, x_154_36, bk_v, bk_n, nl_I, nl_R, nl_L, nl_0, oo_lt, oo_le, oo_eq, oo_add, oo_sub, oo_tn, oo_ir, nn_leT, nn_leF, nn_ltT, nn_ltF, nn_eqT, nn_eqF, bv_0, bv_1, ko_b, ko_1, ko_0, true_and, and_true, if_true, if_false, not_true_eq_false, not_false_eq_true, oo_02, decide_eq_true_eq, decide_eq_false_iff_not, ite_not, Nat.reduceAdd, Nat.reduceLT, Nat.reduceSub, Nat.reduceLeDiff, reduceIte, Bool.true_eq_false, Bool.false_eq_true, reduceCtorEq, eq_self, decide_true, decide_false, bv_t, bv_f, and_self, t_si, t_sl, t_sr, t_sI, t_sR, n_si, n_sl, n_sr, n_sI, n_sR, r_si, r_sl, r_sI, hi, hb, e9]
    · rw [if_neg c]
      refine ⟨w, ⟨fr_rf _ _, h, hi⟩, fun Q => ?_⟩
      unfold ct_b at c
      simp only [Bool.and_eq_true, decide_eq_true_eq, not_and, not_or] at c
      have g := c hlt
      have e3 : ¬ by_i t p = Int32.ofNat 32 := by rw [e1]; omega
      have e4 : ¬ by_i t p = Int32.ofNat 10 := by rw [e2]; omega
      rw [x_154_0]
      simp (disch := first | omega | decide | exact ko_b _ | assumption | (simp only [t_si, t_sl, t_sr, t_sI, t_sR, n_si, n_sl, n_sr, n_sI, n_sR, r_si, r_sl, r_sI]; first | done | omega)) only [x_154_e, x_154_b, x_154_1, x_154_2, x_154_5, x_154_8, x_154_10, x_154_13, x_154_14, x_154_15, x_154_18, x_154_21, x_154_23, bk_v, bk_n, nl_I, nl_R, nl_L, nl_0, oo_lt, oo_le, oo_eq, oo_add, oo_sub, oo_tn, oo_ir, nn_leT, nn_leF, nn_ltT, nn_ltF, nn_eqT, nn_eqF, bv_0, bv_1, ko_b, ko_1, ko_0, true_and, and_true, if_true, if_false, not_true_eq_false, not_false_eq_true, oo_02, decide_eq_true_eq, decide_eq_false_iff_not, ite_not, Nat.reduceAdd, Nat.reduceLT, Nat.reduceSub, Nat.reduceLeDiff, reduceIte, Bool.true_eq_false, Bool.false_eq_true, reduceCtorEq, eq_self, decide_true, decide_false, bv_t, bv_f, and_self, t_si, t_sl, t_sr, t_sI, t_sR, n_si, n_sl, n_sr, n_sI, n_sR, r_si, r_sl, r_sI, hi, hb, e3, e4]
theorem m_isl (h7 : ∀ k, t.1 k < 256) {p : Nat} {Q : Q_} : cl d 156 [v_I (by_i t p)] w Q = Q (Sum.inl (some (v_I (b_v (decide (p < t.2) && ct_l (t.1 p)))))) w := by
  have g := h7 p
  unfold by_i ct_l
  by_cases c : p < t.2
  · rw [if_pos c, decide_eq_true c, Bool.true_and]
    by_cases c1 : 97 ≤ t.1 p
    · by_cases c2 : t.1 p ≤ 122
      · rw [decide_eq_true ⟨c1, c2⟩]; simp (disch := first | omega | decide | exact ko_b _ | assumption | (simp only [t_si, t_sl, t_sr, t_sI, t_sR, n_si, n_sl, n_sr, n_sI, n_sR, r_si, r_sl, r_sI]; first | done | omega)) only [x_156_e, x_156_b, x_156_0, x_156_1, x_156_3, x_156_6, x_156_7, x_156_9, x_156_12, x_156_13, x_156_16, x_156_17, bk_v, bk_n, nl_I, nl_R, nl_L, nl_0, oo_lt, oo_le, oo_eq, oo_add, oo_sub, oo_tn, oo_ir, nn_leT, nn_leF, nn_ltT, nn_ltF, nn_eqT, nn_eqF, bv_0, bv_1, ko_b, ko_1, ko_0, true_and, and_true, if_true, if_false, not_true_eq_false, not_false_eq_true, oo_02, decide_eq_true_eq, decide_eq_false_iff_not, ite_not, Nat.reduceAdd, Nat.reduceLT, Nat.reduceSub, Nat.reduceLeDiff, reduceIte, Bool.true_eq_false, Bool.false_eq_true, reduceCtorEq, eq_self, decide_true, decide_false, bv_t, bv_f, and_self, t_si, t_sl, t_sr, t_sI, t_sR, n_si, n_sl, n_sr, n_sI, n_sR, r_si, r_sl, r_sI, c1, c2]
      · rw [decide_eq_false (fun z => c2 z.2)]; simp (disch := first | omega | decide | exact ko_b _ | assumption | (simp only [t_si, t_sl, t_sr, t_sI, t_sR, n_si, n_sl, n_sr, n_sI, n_sR, r_si, r_sl, r_sI]; first | done | omega)) only [x_156_e, x_156_b, x_156_0, x_156_1, x_156_3, x_156_6, x_156_7, x_156_9, x_156_12, x_156_13, x_156_16, x_156_17, bk_v, bk_n, nl_I, nl_R, nl_L, nl_0, oo_lt, oo_le, oo_eq, oo_add, oo_sub, oo_tn, oo_ir, nn_leT, nn_leF, nn_ltT, nn_ltF, nn_eqT, nn_eqF, bv_0, bv_1, ko_b, ko_1, ko_0, true_and, and_true, if_true, if_false, not_true_eq_false, not_false_eq_true, oo_02, decide_eq_true_eq, decide_eq_false_iff_not, ite_not, Nat.reduceAdd, Nat.reduceLT, Nat.reduceSub, Nat.reduceLeDiff, reduceIte, Bool.true_eq_false, Bool.false_eq_true, reduceCtorEq, eq_self, decide_true, decide_false, bv_t, bv_f, and_self, t_si, t_sl, t_sr, t_sI, t_sR, n_si, n_sl, n_sr, n_sI, n_sR, r_si, r_sl, r_sI, c1, c2]
    · rw [decide_eq_false (fun z => c1 z.1)]; simp (disch := first | omega | decide | exact ko_b _ | assumption | (simp only [t_si, t_sl, t_sr, t_sI, t_sR, n_si, n_sl, n_sr, n_sI, n_sR, r_si, r_sl, r_sI]; first | done | omega)) only [x_156_e, x_156_b, x_156_0, x_156_1, x_156_3, x_156_6, x_156_7, x_156_9, x_156_12, x_156_13, x_156_16, x_156_17, bk_v, bk_n, nl_I, nl_R, nl_L, nl_0, oo_lt, oo_le, oo_eq, oo_add, oo_sub, oo_tn, oo_ir, nn_leT, nn_leF, nn_ltT, nn_ltF, nn_eqT, nn_eqF, bv_0, bv_1, ko_b, ko_1, ko_0, true_and, and_true, if_true, if_false, not_true_eq_false, not_false_eq_true, oo_02, decide_eq_true_eq, decide_eq_false_iff_not, ite_not, Nat.reduceAdd, Nat.reduceLT, Nat.reduceSub, Nat.reduceLeDiff, reduceIte, Bool.true_eq_false, Bool.false_eq_true, reduceCtorEq, eq_self, decide_true, decide_false, bv_t, bv_f, and_self, t_si, t_sl, t_sr, t_sI, t_sR, n_si, n_sl, n_sr, n_sI, n_sR, r_si, r_sl, r_sI, c1]
  · rw [if_neg c, decide_eq_false c, Bool.false_and]
    have e : (Int32.ofInt (-1) < Int32.ofNat 97) = True := eq_true (by decide)
    simp (disch := first | omega | decide | exact ko_b _ | assumption | (simp only [t_si, t_sl, t_sr, t_sI, t_sR, n_si, n_sl, n_sr, n_sI, n_sR, r_si, r_sl, r_sI]; first | done | omega)) only [x_156_e, x_156_b, x_156_0, x_156_1, x_156_3, x_156_6, x_156_7, x_156_9, x_156_12, x_156_13, x_156_16, x_156_17, bk_v, bk_n, nl_I, nl_R, nl_L, nl_0, oo_lt, oo_le, oo_eq, oo_add, oo_sub, oo_tn, oo_ir, nn_leT, nn_leF, nn_ltT, nn_ltF, nn_eqT, nn_eqF, bv_0, bv_1, ko_b, ko_1, ko_0, true_and, and_true, if_true, if_false, not_true_eq_false, not_false_eq_true, oo_02, decide_eq_true_eq, decide_eq_false_iff_not, ite_not, Nat.reduceAdd, Nat.reduceLT, Nat.reduceSub, Nat.reduceLeDiff, reduceIte, Bool.true_eq_false, Bool.false_eq_true, reduceCtorEq, eq_self, decide_true, decide_false, bv_t, bv_f, and_self, t_si, t_sl, t_sr, t_sI, t_sR, n_si, n_sl, n_sr, n_sI, n_sR, r_si, r_sl, r_sI, e]
theorem m_isd (h7 : ∀ k, t.1 k < 256) {p : Nat} {Q : Q_} : cl d 157 [v_I (by_i t p)] w Q = Q (Sum.inl (some (v_I (b_v (decide (p < t.2) && ct_d (t.1 p)))))) w := by
  have g := h7 p
  unfold by_i ct_d
  by_cases c : p < t.2
  · rw [if_pos c, decide_eq_true c, Bool.true_and]
    by_cases c1 : 48 ≤ t.1 p
    · by_cases c2 : t.1 p ≤ 57
      · rw [decide_eq_true ⟨c1, c2⟩]; simp (disch := first | omega | decide | exact ko_b _ | assumption | (simp only [t_si, t_sl, t_sr, t_sI, t_sR, n_si, n_sl, n_sr, n_sI, n_sR, r_si, r_sl, r_sI]; first | done | omega)) only [x_157_e, x_157_b, x_157_0, x_157_1, x_157_3, x_157_6, x_157_7, x_157_9, x_157_12, x_157_13, x_157_16, x_157_17, bk_v, bk_n, nl_I, nl_R, nl_L, nl_0, oo_lt, oo_le, oo_eq, oo_add, oo_sub, oo_tn, oo_ir, nn_leT, nn_leF, nn_ltT, nn_ltF, nn_eqT, nn_eqF, bv_0, bv_1, ko_b, ko_1, ko_0, true_and, and_true, if_true, if_false, not_true_eq_false, not_false_eq_true, oo_02, decide_eq_true_eq, decide_eq_false_iff_not, ite_not, Nat.reduceAdd, Nat.reduceLT, Nat.reduceSub, Nat.reduceLeDiff, reduceIte, Bool.true_eq_false, Bool.false_eq_true, reduceCtorEq, eq_self, decide_true, decide_false, bv_t, bv_f, and_self, t_si, t_sl, t_sr, t_sI, t_sR, n_si, n_sl, n_sr, n_sI, n_sR, r_si, r_sl, r_sI, c1, c2]
      · rw [decide_eq_false (fun z => c2 z.2)]; simp (disch := first | omega | decide | exact ko_b _ | assumption | (simp only [t_si, t_sl, t_sr, t_sI, t_sR, n_si, n_sl, n_sr, n_sI, n_sR, r_si, r_sl, r_sI]; first | done | omega)) only [x_157_e, x_157_b, x_157_0, x_157_1, x_157_3, x_157_6, x_157_7, x_157_9, x_157_12, x_157_13, x_157_16, x_157_17, bk_v, bk_n, nl_I, nl_R, nl_L, nl_0, oo_lt, oo_le, oo_eq, oo_add, oo_sub, oo_tn, oo_ir, nn_leT, nn_leF, nn_ltT, nn_ltF, nn_eqT, nn_eqF, bv_0, bv_1, ko_b, ko_1, ko_0, true_and, and_true, if_true, if_false, not_true_eq_false, not_false_eq_true, oo_02, decide_eq_true_eq, decide_eq_false_iff_not, ite_not, Nat.reduceAdd, Nat.reduceLT, Nat.reduceSub, Nat.reduceLeDiff, reduceIte, Bool.true_eq_false, Bool.false_eq_true, reduceCtorEq, eq_self, decide_true, decide_false, bv_t, bv_f, and_self, t_si, t_sl, t_sr, t_sI, t_sR, n_si, n_sl, n_sr, n_sI, n_sR, r_si, r_sl, r_sI, c1, c2]
    · rw [decide_eq_false (fun z => c1 z.1)]; simp (disch := first | omega | decide | exact ko_b _ | assumption | (simp only [t_si, t_sl, t_sr, t_sI, t_sR, n_si, n_sl, n_sr, n_sI, n_sR, r_si, r_sl, r_sI]; first | done | omega)) only [x_157_e, x_157_b, x_157_0, x_157_1, x_157_3, x_157_6, x_157_7, x_157_9, x_157_12, x_157_13, x_157_16, x_157_17, bk_v, bk_n, nl_I, nl_R, nl_L, nl_0, oo_lt, oo_le, oo_eq, oo_add, oo_sub, oo_tn, oo_ir, nn_leT, nn_leF, nn_ltT, nn_ltF, nn_eqT, nn_eqF, bv_0, bv_1, ko_b, ko_1, ko_0, true_and, and_true, if_true, if_false, not_true_eq_false, not_false_eq_true, oo_02, decide_eq_true_eq, decide_eq_false_iff_not, ite_not, Nat.reduceAdd, Nat.reduceLT, Nat.reduceSub, Nat.reduceLeDiff, reduceIte, Bool.true_eq_false, Bool.false_eq_true, reduceCtorEq, eq_self, decide_true, decide_false, bv_t, bv_f, and_self, t_si, t_sl, t_sr, t_sI, t_sR, n_si, n_sl, n_sr, n_sI, n_sR, r_si, r_sl, r_sI, c1]
  · rw [if_neg c, decide_eq_false c, Bool.false_and]
    have e : (Int32.ofInt (-1) < Int32.ofNat 48) = True := eq_true (by decide)
    simp (disch := first | omega | decide | exact ko_b _ | assumption | (simp only [t_si, t_sl, t_sr, t_sI, t_sR, n_si, n_sl, n_sr, n_sI, n_sR, r_si, r_sl, r_sI]; first | done | omega)) only [x_157_e, x_157_b, x_157_0, x_157_1, x_157_3, x_157_6, x_157_7, x_157_9, x_157_12, x_157_13, x_157_16, x_157_17, bk_v, bk_n, nl_I, nl_R, nl_L, nl_0, oo_lt, oo_le, oo_eq, oo_add, oo_sub, oo_tn, oo_ir, nn_leT, nn_leF, nn_ltT, nn_ltF, nn_eqT, nn_eqF, bv_0, bv_1, ko_b, ko_1, ko_0, true_and, and_true, if_true, if_false, not_true_eq_false, not_false_eq_true, oo_02, decide_eq_true_eq, decide_eq_false_iff_not, ite_not, Nat.reduceAdd, Nat.reduceLT, Nat.reduceSub, Nat.reduceLeDiff, reduceIte, Bool.true_eq_false, Bool.false_eq_true, reduceCtorEq, eq_self, decide_true, decide_false, bv_t, bv_f, and_self, t_si, t_sl, t_sr, t_sI, t_sR, n_si, n_sl, n_sr, n_sI, n_sR, r_si, r_sl, r_sI, e]
theorem m_wd : ∀ (f p : Nat) (w : Wd), MTp_ w t → p + f = t.2 → w_i w 1440 14 = Int32.ofNat p → ∀ a1, ∃ w1, (Fr_ p14_ w w1 ∧ MTp_ w1 t ∧ w_i w1 1440 14 = Int32.ofNat (rn_ (fun k => decide (k < t.2) && ct_l (t.1 k)) f p)) ∧ ∀ Q, wp (d + 1) 154 76 [some (v_R (some 1440)), a1] [] w Q = wp (d + 1) 154 103 [some (v_R (some 1440)), a1] [] w1 Q := by
  intro f
  induction f with
  | zero =>
    intro p w h hp hi a1
    refine ⟨w, ⟨fr_rf _ _, h, hi⟩, fun Q => ?_⟩
    have hb := fun d Q => m_byte (d := d) (p := p) (Q := Q) h (by have := h.2.2.2.2.1; omega)
    have hl := fun d Q => m_isl (w := w) (d := d) (p := p) (Q := Q) h.2.2.2.2.2.2.1
    have e0 : (decide (p < t.2) && ct_l (t.1 p)) = false := by rw [decide_eq_false (by omega), Bool.false_and]
    rw [e0] at hl
    have h0 := h.1
    rw [x_154_76]
    simp (disch := first | omega | decide | exact ko_b _ | assumption | (simp only [t_si, t_sl, t_sr, t_sI, t_sR, n_si, n_sl, n_sr, n_sI, n_sR, r_si, r_sl, r_sI]; first | done | omega)) only [x_154_e, x_154_b, x_154_77, x_154_78, x_154_81, x_154_84, x_154_87, bk_v, bk_n, nl_I, nl_R, nl_L, nl_0, oo_lt, oo_le, oo_eq, oo_add, oo_sub, oo_tn, oo_ir, nn_leT, nn_leF, nn_ltT, nn_ltF, nn_eqT, nn_eqF, bv_0, bv_1, ko_b, ko_1, ko_0, true_and, and_true, if_true, if_false, not_true_eq_false, not_false_eq_true, oo_02, decide_eq_true_eq, decide_eq_false_iff_not, ite_not, Nat.reduceAdd, Nat.reduceLT, Nat.reduceSub, Nat.reduceLeDiff, reduceIte, Bool.true_eq_false, Bool.false_eq_true, reduceCtorEq, eq_self, decide_true, decide_false, bv_t, bv_f, and_self, t_si, t_sl, t_sr, t_sI, t_sR, n_si, n_sl, n_sr, n_sI, n_sR, r_si, r_sl, r_sI, hi, hb, hl]
  | succ f ih =>
    intro p w h hp hi a1
    have hb := fun d Q => m_byte (d := d) (p := p) (Q := Q) h (by have := h.2.2.2.2.1; omega)
    have hl := fun d Q => m_isl (w := w) (d := d) (p := p) (Q := Q) h.2.2.2.2.2.2.1
    have h0 := h.1
    have hN := h.2.2.2.2.1
    unfold rn_
    by_cases c : (decide (p < t.2) && ct_l (t.1 p)) = true
    · rw [c] at hl
      rw [if_pos c]
      obtain ⟨w1, ⟨i1, i2, i3⟩, q1⟩ := ih (p + 1) (s_i w 1440 14 (Int32.ofNat (p + 1))) (MTp_14 h) (by omega) (by rw [i_si, if_pos ⟨rfl, rfl⟩]) a1
      refine ⟨w1, ⟨fr_tr (fr_si (fr_rf p14_ w) ⟨rfl, rfl⟩) i1, i2, i3⟩, fun Q => ?_⟩
      rw [← q1, x_154_76]
      simp (disch := first | omega | decide | exact ko_b _ | assumption | (simp only [t_si, t_sl, t_sr, t_sI, t_sR, n_si, n_sl, n_sr, n_sI, n_sR, r_si, r_sl, r_sI]; first | done | omega)) only [x_154_e, x_154_b, x_154_77, x_154_78, x_154_81, x_154_84, x_154_87, x_154_90, x_154_91, x_154_92, x_154_95, x_154_96, x_154_97, x_154_100, bk_v, bk_n, nl_I, nl_R, nl_L, nl_0, oo_lt, oo_le, oo_eq, oo_add, oo_sub, oo_tn, oo_ir, nn_leT, nn_leF, nn_ltT, nn_ltF, nn_eqT, nn_eqF, bv_0, bv_1, ko_b, ko_1, ko_0, true_and, and_true, if_true, if_false, not_true_eq_false, not_false_eq_true, oo_02, decide_eq_true_eq, decide_eq_false_iff_not, ite_not, Nat.reduceAdd, Nat.reduceLT, Nat.reduceSub, Nat.reduceLeDiff, reduceIte, Bool.true_eq_false, Bool.false_eq_true, reduceCtorEq, eq_self, decide_true, decide_false, bv_t, bv_f, and_self, t_si, t_sl, t_sr, t_sI, t_sR, n_si, n_sl, n_sr, n_sI, n_sR, r_si, r_sl, r_sI, hi, hb, hl]
    · rw [Bool.eq_false_iff.mpr c] at hl
      rw [if_neg c]
      refine ⟨w, ⟨fr_rf _ _, h, hi⟩, fun Q => ?_⟩
      rw [x_154_76]
      simp (disch := first | omega | decide | exact ko_b _ | assumption | (simp only [t_si, t_sl, t_sr, t_sI, t_sR, n_si, n_sl, n_sr, n_sI, n_sR, r_si, r_sl, r_sI]; first | done | omega)) only [x_154_e, x_154_b, x_154_77, x_154_78, x_154_81, x_154_84, x_154_87, bk_v, bk_n, nl_I, nl_R, nl_L, nl_0, oo_lt, oo_le, oo_eq, oo_add, oo_sub, oo_tn, oo_ir, nn_leT, nn_leF, nn_ltT, nn_ltF, nn_eqT, nn_eqF, bv_0, bv_1, ko_b, ko_1, ko_0, true_and, and_true, if_true, if_false, not_true_eq_false, not_false_eq_true, oo_02, decide_eq_true_eq, decide_eq_false_iff_not, ite_not, Nat.reduceAdd, Nat.reduceLT, Nat.reduceSub, Nat.reduceLeDiff, reduceIte, Bool.true_eq_false, Bool.false_eq_true, reduceCtorEq, eq_self, decide_true, decide_false, bv_t, bv_f, and_self, t_si, t_sl, t_sr, t_sI, t_sR, n_si, n_sl, n_sr, n_sI, n_sR, r_si, r_sl, r_sI, hi, hb, hl]
def p17_ (a k : Nat) : Prop := a = 1440 ∧ (k = 14 ∨ k = 17)
/-- a number as the model keeps it -/
def mvd_ (t : Tp) (b : Nat) : Nat → Nat
  | 0 => 0
  | k + 1 => if 10 * mvd_ t b k + (t.1 (b + k) - 48) < 100000 then 10 * mvd_ t b k + (t.1 (b + k) - 48) else 100000
theorem mvd_le {b : Nat} : ∀ k, mvd_ t b k ≤ 100000 := by
  intro k
  cases k with
  | zero => exact Nat.zero_le _
  | succ k =>
    unfold mvd_
    split <;> omega
theorem m_dg {b : Nat} : ∀ (f k : Nat) (w : Wd), MTp_ w t → b + k + f = t.2 → w_i w 1440 14 = Int32.ofNat (b + k) → w_i w 1440 17 = Int32.ofNat (mvd_ t b k) → ∀ a1, ∃ w1, (Fr_ p17_ w w1 ∧ MTp_ w1 t ∧ w_i w1 1440 14 = Int32.ofNat (rn_ (fun k => decide (k < t.2) && ct_d (t.1 k)) f (b + k)) ∧ w_i w1 1440 17 = Int32.ofNat (mvd_ t b (rn_ (fun k => decide (k < t.2) && ct_d (t.1 k)) f (b + k) - b))) ∧ ∀ Q, wp (d + 1) 154 123 [some (v_R (some 1440)), a1] [] w Q = wp (d + 1) 154 178 [some (v_R (some 1440)), a1] [] w1 Q := by
  intro f
  induction f with
  | zero =>
    intro k w h hp hi hv a1
    refine ⟨w, ⟨fr_rf _ _, h, hi, ?_⟩, fun Q => ?_⟩
    · show _ = Int32.ofNat (mvd_ t b (b + k - b))
      rw [Nat.add_sub_cancel_left]; exact hv
    have hb := fun d Q => m_byte (d := d) (p := b + k) (Q := Q) h (by have := h.2.2.2.2.1; omega)
    have hl := fun d Q => m_isd (w := w) (d := d) (p := b + k) (Q := Q) h.2.2.2.2.2.2.1
    have e0 : (decide (b + k < t.2) && ct_d (t.1 (b + k))) = false := by rw [decide_eq_false (by omega), Bool.false_and]
    rw [e0] at hl
    have h0 := h.1
    rw [x_154_123]
    simp (disch := first | omega | decide | exact ko_b _ | assumption | (simp only [t_si, t_sl, t_sr, t_sI, t_sR, n_si, n_sl, n_sr, n_sI, n_sR, r_si, r_sl, r_sI]; first | done | omega)) only [x_154_e, x_154_b, x_154_124, x_154_125, x_154_128, x_154_131, x_154_134, bk_v, bk_n, nl_I, nl_R, nl_L, nl_0, oo_lt, oo_le, oo_eq, oo_add, oo_sub, oo_tn, oo_ir, nn_leT, nn_leF, nn_ltT, nn_ltF, nn_eqT, nn_eqF, bv_0, bv_1, ko_b, ko_1, ko_0, true_and, and_true, if_true, if_false, not_true_eq_false, not_false_eq_true, oo_02, decide_eq_true_eq, decide_eq_false_iff_not, ite_not, Nat.reduceAdd, Nat.reduceLT, Nat.reduceSub, Nat.reduceLeDiff, reduceIte, Bool.true_eq_false, Bool.false_eq_true, reduceCtorEq, eq_self, decide_true, decide_false, bv_t, bv_f, and_self, t_si, t_sl, t_sr, t_sI, t_sR, n_si, n_sl, n_sr, n_sI, n_sR, r_si, r_sl, r_sI, hi, hb, hl]
  | succ f ih =>
    intro k w h hp hi hv a1
    have hb := fun d Q => m_byte (d := d) (p := b + k) (Q := Q) h (by have := h.2.2.2.2.1; omega)
    have hl := fun d Q => m_isd (w := w) (d := d) (p := b + k) (Q := Q) h.2.2.2.2.2.2.1
    have h0 := h.1
    have hN := h.2.2.2.2.1
    unfold rn_
    by_cases c : (decide (b + k < t.2) && ct_d (t.1 (b + k))) = true
    · rw [c] at hl
      rw [if_pos c]
      have c9 := c
      unfold ct_d at c9
      simp only [Bool.and_eq_true, decide_eq_true_eq] at c9
      obtain ⟨c1, c2, c3⟩ := c9
      have hm := mvd_le (t := t) (b := b) k
      have hm1 := mvd_le (t := t) (b := b) (k + 1)
      have by1 : by_i t (b + k) = Int32.ofNat (t.1 (b + k)) := by unfold by_i; rw [if_pos c1]
      have ev : (if Int32.ofNat 10 * Int32.ofNat (mvd_ t b k) + by_i t (b + k) - Int32.ofNat 48 < Int32.ofNat 100000 then Int32.ofNat 10 * Int32.ofNat (mvd_ t b k) + by_i t (b + k) - Int32.ofNat 48 else Int32.ofNat 100000) = Int32.ofNat (mvd_ t b (k + 1)) := by
        rw [by1, ← Int32.ofNat_mul, oo_add, oo_sub (by omega), show 10 * mvd_ t b k + t.1 (b + k) - 48 = 10 * mvd_ t b k + (t.1 (b + k) - 48) from by omega]
        have q : (Int32.ofNat (10 * mvd_ t b k + (t.1 (b + k) - 48)) < Int32.ofNat 100000) = (10 * mvd_ t b k + (t.1 (b + k) - 48) < 100000) := oo_lt (by omega) (by omega)
        show _ = Int32.ofNat (if 10 * mvd_ t b k + (t.1 (b + k) - 48) < 100000 then 10 * mvd_ t b k + (t.1 (b + k) - 48) else 100000)
        by_cases z : 10 * mvd_ t b k + (t.1 (b + k) - 48) < 100000
        · rw [if_pos (by rw [q]; exact z), if_pos z]
        · rw [if_neg (by rw [q]; exact z), if_neg z]
      have hs9 := MTp_fr (P := p17_) (w1 := s_i (s_i w 1440 17 (Int32.ofNat (mvd_ t b (k + 1)))) 1440 14 (Int32.ofNat (b + k + 1))) h (fr_si (fr_si (fr_rf p17_ w) ⟨rfl, Or.inr rfl⟩) ⟨rfl, Or.inl rfl⟩) (fun k z => by unfold p17_ at z; omega) (fun z => by unfold p17_ at z; omega)
      obtain ⟨w1, ⟨i1, i2, i3, i4⟩, q1⟩ := ih (k + 1) _ hs9 (by omega) (by rw [i_si, if_pos ⟨rfl, rfl⟩]; rfl) (by rw [i_si, if_neg (by omega), i_si, if_pos ⟨rfl, rfl⟩]) a1
      refine ⟨w1, ⟨fr_tr (fr_si (fr_si (fr_rf p17_ w) ⟨rfl, Or.inr rfl⟩) ⟨rfl, Or.inl rfl⟩) i1, i2, i3, i4⟩, fun Q => ?_⟩
      rw [← q1, x_154_123]
      simp (disch := first | omega | decide | exact ko_b _ | assumption | (simp only [t_si, t_sl, t_sr, t_sI, t_sR, n_si, n_sl, n_sr, n_sI, n_sR, r_si, r_sl, r_sI]; first | done | omega)) only [x_154_e, x_154_b, x_154_124, x_154_125, x_154_128, x_154_131, x_154_134, x_154_137, x_154_138, x_154_140, x_154_142, x_154_143, x_154_146, x_154_147, x_154_148, x_154_149, x_154_152, x_154_155, x_154_156, x_154_158, x_154_159, x_154_162, x_154_165, x_154_166, x_154_167, x_154_170, x_154_171, x_154_172, x_154_175, bk_v, bk_n, nl_I, nl_R, nl_L, nl_0, oo_lt, oo_le, oo_eq, oo_add, oo_sub, oo_tn, oo_ir, nn_leT, nn_leF, nn_ltT, nn_ltF, nn_eqT, nn_eqF, bv_0, bv_1, ko_b, ko_1, ko_0, true_and, and_true, if_true, if_false, not_true_eq_false, not_false_eq_true, oo_02, decide_eq_true_eq, decide_eq_false_iff_not, ite_not, Nat.reduceAdd, Nat.reduceLT, Nat.reduceSub, Nat.reduceLeDiff, reduceIte, Bool.true_eq_false, Bool.false_eq_true, reduceCtorEq, eq_self, decide_true, decide_false, bv_t, bv_f, and_self, t_si, t_sl, t_sr, t_sI, t_sR, n_si, n_sl, n_sr, n_sI, n_sR, r_si, r_sl, r_sI, hi, hv, hb, hl, ev, i_si, Nat.reduceEqDiff, and_false]
    · rw [Bool.eq_false_iff.mpr c] at hl
      rw [if_neg c]
      refine ⟨w, ⟨fr_rf _ _, h, hi, by rw [Nat.add_sub_cancel_left]; exact hv⟩, fun Q => ?_⟩
      rw [x_154_123]
      simp (disch := first | omega | decide | exact ko_b _ | assumption | (simp only [t_si, t_sl, t_sr, t_sI, t_sR, n_si, n_sl, n_sr, n_sI, n_sR, r_si, r_sl, r_sI]; first | done | omega)) only [x_154_e, x_154_b, x_154_124, x_154_125, x_154_128, x_154_131, x_154_134, bk_v, bk_n, nl_I, nl_R, nl_L, nl_0, oo_lt, oo_le, oo_eq, oo_add, oo_sub, oo_tn, oo_ir, nn_leT, nn_leF, nn_ltT, nn_ltF, nn_eqT, nn_eqF, bv_0, bv_1, ko_b, ko_1, ko_0, true_and, and_true, if_true, if_false, not_true_eq_false, not_false_eq_true, oo_02, decide_eq_true_eq, decide_eq_false_iff_not, ite_not, Nat.reduceAdd, Nat.reduceLT, Nat.reduceSub, Nat.reduceLeDiff, reduceIte, Bool.true_eq_false, Bool.false_eq_true, reduceCtorEq, eq_self, decide_true, decide_false, bv_t, bv_f, and_self, t_si, t_sl, t_sr, t_sI, t_sR, n_si, n_sl, n_sr, n_sI, n_sR, r_si, r_sl, r_sI, hi, hb, hl]
theorem m_iss (h7 : ∀ k, t.1 k < 256) {p : Nat} (hp : p < t.2) {Q : Q_} : cl d 158 [v_I (by_i t p)] w Q = Q (Sum.inl (some (v_I (b_v (ct_s (t.1 p)))))) w := by
  have g := h7 p
  have e1 : by_i t p = Int32.ofNat (t.1 p) := by unfold by_i; rw [if_pos hp]
  rw [e1]
  by_cases c : t.1 p = 59 ∨ t.1 p = 40 ∨ t.1 p = 41 ∨ t.1 p = 43 ∨ t.1 p = 45 ∨ t.1 p = 42 ∨ t.1 p = 47 ∨ t.1 p = 60 ∨ t.1 p = 61
  · have hc : ct_s (t.1 p) = true := by unfold ct_s; exact decide_eq_true c
    rw [hc]
    rcases c with z | z | z | z | z | z | z | z | z <;> (rw [z]; simp (disch := first | omega | decide | exact ko_b _ | assumption | (simp only [t_si, t_sl, t_sr, t_sI, t_sR, n_si, n_sl, n_sr, n_sI, n_sR, r_si, r_sl, r_sI]; first | done | omega)) only [x_158_e, x_158_b, x_158_0, x_158_1, x_158_3, x_158_6, x_158_7, x_158_9, x_158_12, x_158_13, x_158_15, x_158_18, x_158_19, x_158_21, x_158_24, x_158_25, x_158_27, x_158_30, x_158_31, x_158_33, x_158_36, x_158_37, x_158_39, x_158_42, x_158_43, x_158_45, x_158_48, x_158_49, x_158_51, x_158_54, x_158_55, x_158_58, x_158_59, bk_v, bk_n, nl_I, nl_R, nl_L, nl_0, oo_lt, oo_le, oo_eq, oo_add, oo_sub, oo_tn, oo_ir, nn_leT, nn_leF, nn_ltT, nn_ltF, nn_eqT, nn_eqF, bv_0, bv_1, ko_b, ko_1, ko_0, true_and, and_true, if_true, if_false, not_true_eq_false, not_false_eq_true, oo_02, decide_eq_true_eq, decide_eq_false_iff_not, ite_not, Nat.reduceAdd, Nat.reduceLT, Nat.reduceSub, Nat.reduceLeDiff, reduceIte, Bool.true_eq_false, Bool.false_eq_true, reduceCtorEq, eq_self, decide_true, decide_false, bv_t, bv_f, and_self, t_si, t_sl, t_sr, t_sI, t_sR, n_si, n_sl, n_sr, n_sI, n_sR, r_si, r_sl, r_sI])
  · have hc : ct_s (t.1 p) = false := by unfold ct_s; exact decide_eq_false c
    rw [hc]
    simp only [not_or] at c
    obtain ⟨c1, c2, c3, c4, c5, c6, c7, c8, c9⟩ := c
    simp (disch := first | omega | decide | exact ko_b _ | assumption | (simp only [t_si, t_sl, t_sr, t_sI, t_sR, n_si, n_sl, n_sr, n_sI, n_sR, r_si, r_sl, r_sI]; first | done | omega)) only [x_158_e, x_158_b, x_158_0, x_158_1, x_158_3, x_158_6, x_158_7, x_158_9, x_158_12, x_158_13, x_158_15, x_158_18, x_158_19, x_158_21, x_158_24, x_158_25, x_158_27, x_158_30, x_158_31, x_158_33, x_158_36, x_158_37, x_158_39, x_158_42, x_158_43, x_158_45, x_158_48, x_158_49, x_158_51, x_158_54, x_158_55, x_158_58, x_158_59, bk_v, bk_n, nl_I, nl_R, nl_L, nl_0, oo_lt, oo_le, oo_eq, oo_add, oo_sub, oo_tn, oo_ir, nn_leT, nn_leF, nn_ltT, nn_ltF, nn_eqT, nn_eqF, bv_0, bv_1, ko_b, ko_1, ko_0, true_and, and_true, if_true, if_false, not_true_eq_false, not_false_eq_true, oo_02, decide_eq_true_eq, decide_eq_false_iff_not, ite_not, Nat.reduceAdd, Nat.reduceLT, Nat.reduceSub, Nat.reduceLeDiff, reduceIte, Bool.true_eq_false, Bool.false_eq_true, reduceCtorEq, eq_self, decide_true, decide_false, bv_t, bv_f, and_self, t_si, t_sl, t_sr, t_sI, t_sR, n_si, n_sl, n_sr, n_sI, n_sR, r_si, r_sl, r_sI, c1, c2, c3, c4, c5, c6, c7, c8, c9]
end
