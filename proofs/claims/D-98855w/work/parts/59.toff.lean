/-! TRIALS, part five: many taken off; relief -/
set_option maxRecDepth 100000
def x_off (X : Xm) (t : Nat) : Xm := match f_lv X t with
  | some l => x_take X l
  | none => X
def f_off1 (set t : Nat) (X : Xm) : Xm := if set.testBit t = true then x_off X t else X
def f_toff (n set : Nat) (X : Xm) : Xm := it_ (f_off1 set) 0 n X
theorem lv_is {n : Nat} {X : Xm} (h : WX_ n X) {t l : Nat} (hl : l < xm_L X) (e : xm_t X l = t) : f_lv X t = some l := by
  cases c : f_lv X t with
  | none =>
    have := ff_n c l (by omega) (by omega)
    exact absurd e (of_decide_eq_false this)
  | some k =>
    obtain ⟨_, h2, h3, _⟩ := ff_s c
    have h3 := of_decide_eq_true h3
    have := h.2.2 k l (by omega) hl (by rw [h3, e])
    rw [this]
theorem lv_take {n : Nat} {X : Xm} (h : WX_ n X) {t l j : Nat} (ht : f_lv X t = some l) (hj : j ≠ t) : (f_lv (x_take X l) j).isSome = (f_lv X j).isSome := by
  obtain ⟨_, l2, l3, _⟩ := ff_s ht
  have l3 := of_decide_eq_true l3
  have hl : l < xm_L X := by omega
  have hw := WX_take h hl
  cases c : f_lv X j with
  | none =>
    cases c2 : f_lv (x_take X l) j with
    | none => rfl
    | some k =>
      obtain ⟨_, h2, h3, _⟩ := ff_s c2
      have h3 : (if k < l then xm_t X k else xm_t X (k + 1)) = j := of_decide_eq_true h3
      have h2 : k < 0 + (xm_L X - 1) := h2
      by_cases e : k < l
      · rw [if_pos e] at h3
        have := lv_is h (by omega) h3
        rw [c] at this; cases this
      · rw [if_neg e] at h3
        have := lv_is h (by omega) h3
        rw [c] at this; cases this
  | some k =>
    obtain ⟨_, h2, h3, _⟩ := ff_s c
    have h3 := of_decide_eq_true h3
    have hne : k ≠ l := fun e => hj (by rw [← h3, e, l3])
    by_cases e : k < l
    · rw [lv_is hw (l := k) (by show k < xm_L X - 1; omega) (by show (if k < l then xm_t X k else xm_t X (k + 1)) = j; rw [if_pos e, h3])]
    · rw [lv_is hw (l := k - 1) (by show k - 1 < xm_L X - 1; omega) (by show (if k - 1 < l then xm_t X (k - 1) else xm_t X (k - 1 + 1)) = j; rw [if_neg (by omega), show k - 1 + 1 = k by omega, h3])]
      rfl
theorem off_one {n : Nat} {X : Xm} {t : Nat} : ∀ (m k : Nat) , k ≤ t → t < k + m → it_ (f_off1 (2 ^ t)) k m X = x_off X t := by
  have same : ∀ (m k : Nat) (Y : Xm), t < k → it_ (f_off1 (2 ^ t)) k m Y = Y := by
    intro m
    induction m with
    | zero => intro k Y _; rfl
    | succ m ih =>
      intro k Y hk
      show it_ (f_off1 (2 ^ t)) (k + 1) m (f_off1 (2 ^ t) k Y) = Y
      have : f_off1 (2 ^ t) k Y = Y := by
        unfold f_off1
        rw [if_neg (by rw [Nat.testBit_two_pow_of_ne (by omega)]; decide)]
      rw [this]
      exact ih (k + 1) Y (by omega)
  intro m
  induction m with
  | zero => intro k h1 h2; omega
  | succ m ih =>
    intro k h1 h2
    show it_ (f_off1 (2 ^ t)) (k + 1) m (f_off1 (2 ^ t) k X) = x_off X t
    by_cases e : k = t
    · subst e
      have : f_off1 (2 ^ k) k X = x_off X k := by
        unfold f_off1
        rw [if_pos Nat.testBit_two_pow_self]
      rw [this]
      exact same m (k + 1) _ (by omega)
    · have : f_off1 (2 ^ t) k X = X := by
        unfold f_off1
        rw [if_neg (by rw [Nat.testBit_two_pow_of_ne (by omega)]; decide)]
      rw [this]
      exact ih (k + 1) (by omega) (by omega)
section
variable {w : Wd} {S : Sm} {G : Gm} {σ : Nat → Nat}
theorem m_isOf {d s t : Nat} {Q : Q_} (hs : s < 1024) (ht : t < 10) : cl d 223 [v_I (Int32.ofNat s), v_I (Int32.ofNat t)] w Q = Q (Sum.inl (some (v_I (b_v (s.testBit t))))) w := by
  cases e : s.testBit t with
  | false =>
    have := sb_tb hs ht
    rw [e] at this
    simp (disch := first | omega | decide | exact ko_b _ | assumption | (simp only [t_si, t_sl, t_sr, t_sI, t_sR, n_si, n_sl, n_sr, n_sI, n_sR, r_si, r_sl, r_sI]; first | done | omega)) only [x_223_e, x_223_b, x_223_0, x_223_1, x_223_2, x_223_3, x_223_4, x_223_5, x_223_6, x_223_9, x_223_10, x_223_13, x_223_14, bk_v, bk_n, nl_I, nl_R, nl_L, nl_0, oo_lt, oo_le, oo_eq, oo_add, oo_sub, oo_tn, oo_ir, nn_leT, nn_leF, nn_ltT, nn_ltF, nn_eqT, nn_eqF, bv_0, bv_1, ko_b, ko_1, ko_0, true_and, and_true, if_true, if_false, not_true_eq_false, not_false_eq_true, oo_02, decide_eq_true_eq, decide_eq_false_iff_not, ite_not, Nat.reduceAdd, Nat.reduceLT, Nat.reduceSub, Nat.reduceLeDiff, reduceIte, Bool.true_eq_false, Bool.false_eq_true, reduceCtorEq, eq_self, decide_true, decide_false, bv_t, bv_f, and_self, t_si, t_sl, t_sr, t_sI, t_sR, n_si, n_sl, n_sr, n_sI, n_sR, r_si, r_sl, r_sI, this]
  | true =>
    have := sb_tb hs ht
    rw [e] at this
    simp (disch := first | omega | decide | exact ko_b _ | assumption | (simp only [t_si, t_sl, t_sr, t_sI, t_sR, n_si, n_sl, n_sr, n_sI, n_sR, r_si, r_sl, r_sI]; first | done | omega)) only [x_223_e, x_223_b, x_223_0, x_223_1, x_223_2, x_223_3, x_223_4, x_223_5, x_223_6, x_223_9, x_223_10, x_223_13, x_223_14, bk_v, bk_n, nl_I, nl_R, nl_L, nl_0, oo_lt, oo_le, oo_eq, oo_add, oo_sub, oo_tn, oo_ir, nn_leT, nn_leF, nn_ltT, nn_ltF, nn_eqT, nn_eqF, bv_0, bv_1, ko_b, ko_1, ko_0, true_and, and_true, if_true, if_false, not_true_eq_false, not_false_eq_true, oo_02, decide_eq_true_eq, decide_eq_false_iff_not, ite_not, Nat.reduceAdd, Nat.reduceLT, Nat.reduceSub, Nat.reduceLeDiff, reduceIte, Bool.true_eq_false, Bool.false_eq_true, reduceCtorEq, eq_self, decide_true, decide_false, bv_t, bv_f, and_self, t_si, t_sl, t_sr, t_sI, t_sR, n_si, n_sl, n_sr, n_sI, n_sR, r_si, r_sl, r_sI, this]
theorem m_tall {T : Tm} {X : Xm} (h : MQ_ w T X) {d s : Nat} (hs : s < 1024) (hset : ∀ j, s.testBit j = true → (f_lv X j).isSome = true) : ∃ w1, Fr_ p_st w w1 ∧ MS_ w1 (tm_n T) (f_toff (tm_n T) s X) ∧ WX_ (tm_n T) (f_toff (tm_n T) s X) ∧ ∀ Q, cl (d + 3) 242 [v_R (some 1440), v_I (Int32.ofNat s)] w Q = Q (Sum.inl none) w1 := by
  have hn10 := h.2.2.2.1.1
  have h0 := h
  obtain ⟨s1, ⟨i1, i2, i3, i4, i5⟩, q1⟩ := lp_ex (fun k (s1 : Xm × Wd) (Q : Q_) => wp (d + 3) 242 2 [some (v_R (some 1440)), some (v_I (Int32.ofNat s)), some (v_I (Int32.ofNat k))] [] s1.2 Q) (fun k s1 => s1.1 = it_ (f_off1 s) 0 k X ∧ Fr_ p_st w s1.2 ∧ MS_ s1.2 (tm_n T) s1.1 ∧ WX_ (tm_n T) s1.1 ∧ ∀ j, k ≤ j → s.testBit j = true → (f_lv s1.1 j).isSome = true) (tm_n T) (fun k s1 hk hI => by
      obtain ⟨i1, i2, i3, i4, i5⟩ := hI
      have hq1 := MQ_X h0 i2 i3 i4
      have hM1 := hq1.1
      have t1 : w_t s1.2 1440 = 25 := hM1.1
      have t2 : w_r s1.2 1440 4 = some 1444 := by unfold sh_M at hM1; simp only [hM1]
      have t3 : w_t s1.2 1444 = 1 ∧ w_n s1.2 1444 = 8 := by unfold sh_M at hM1; simp only [hM1, and_self]
      have t4 := t3.1
      have t5 := t3.2
      have e0 : w_i s1.2 1444 0 = Int32.ofNat (tm_n T) := hq1.2.1.1
      have hof := fun d Q => m_isOf (w := s1.2) (d := d) (Q := Q) hs (by omega : k < 10)
      cases e : s.testBit k with
      | false =>
        rw [e] at hof
        refine ⟨s1, ⟨?_, i2, i3, i4, fun j hj => i5 j (by omega)⟩, fun Q => ?_⟩
        · rw [it_1, Nat.zero_add, ← i1]
          unfold f_off1
          rw [if_neg (by rw [e]; decide)]
        · rw [x_242_2]
          simp (disch := first | omega | decide | exact ko_b _ | assumption | (simp only [t_si, t_sl, t_sr, t_sI, t_sR, n_si, n_sl, n_sr, n_sI, n_sR, r_si, r_sl, r_sI]; first | done | omega)) only [x_242_e, x_242_b, x_242_0, x_242_1, x_242_3, x_242_4, x_242_7, x_242_8, x_242_9, x_242_12, x_242_13, x_242_14, x_242_17, x_242_20, x_242_21, x_242_22, x_242_25, x_242_28, x_242_31, bk_v, bk_n, nl_I, nl_R, nl_L, nl_0, oo_lt, oo_le, oo_eq, oo_add, oo_sub, oo_tn, oo_ir, nn_leT, nn_leF, nn_ltT, nn_ltF, nn_eqT, nn_eqF, bv_0, bv_1, ko_b, ko_1, ko_0, true_and, and_true, if_true, if_false, not_true_eq_false, not_false_eq_true, oo_02, decide_eq_true_eq, decide_eq_false_iff_not, ite_not, Nat.reduceAdd, Nat.reduceLT, Nat.reduceSub, Nat.reduceLeDiff, reduceIte, Bool.true_eq_false, Bool.false_eq_true, reduceCtorEq, eq_self, decide_true, decide_false, bv_t, bv_f, and_self, t_si, t_sl, t_sr, t_sI, t_sR, n_si, n_sl, n_sr, n_sI, n_sR, r_si, r_sl, r_sI, t2, t5, e0, hof]
      | true =>
        rw [e] at hof
        have hsome := i5 k (Nat.le_refl _) e
        obtain ⟨l, hl⟩ := Option.isSome_iff_exists.mp hsome
        obtain ⟨w2, f2, s2, q2⟩ := m_toff hq1 (d := d + 1) hk hl
        have hll := flv_lt hl
        refine ⟨(x_take s1.1 l, w2), ⟨?_, fr_tr i2 f2, s2, WX_take i4 hll, fun j hj hb => ?_⟩, fun Q => ?_⟩
        · rw [it_1, Nat.zero_add, ← i1]
          unfold f_off1 x_off
          rw [if_pos e, hl]
        · show (f_lv (x_take s1.1 l) j).isSome = true
          rw [lv_take i4 hl (by omega)]
          exact i5 j (by omega) hb
        · rw [x_242_2]
          simp (disch := first | omega | decide | exact ko_b _ | assumption | (simp only [t_si, t_sl, t_sr, t_sI, t_sR, n_si, n_sl, n_sr, n_sI, n_sR, r_si, r_sl, r_sI]; first | done | omega)) only [x_242_e, x_242_b, x_242_0, x_242_1, x_242_3, x_242_4, x_242_7, x_242_8, x_242_9, x_242_12, x_242_13, x_242_14, x_242_17, x_242_20, x_242_21, x_242_22, x_242_25, x_242_28, x_242_31, bk_v, bk_n, nl_I, nl_R, nl_L, nl_0, oo_lt, oo_le, oo_eq, oo_add, oo_sub, oo_tn, oo_ir, nn_leT, nn_leF, nn_ltT, nn_ltF, nn_eqT, nn_eqF, bv_0, bv_1, ko_b, ko_1, ko_0, true_and, and_true, if_true, if_false, not_true_eq_false, not_false_eq_true, oo_02, decide_eq_true_eq, decide_eq_false_iff_not, ite_not, Nat.reduceAdd, Nat.reduceLT, Nat.reduceSub, Nat.reduceLeDiff, reduceIte, Bool.true_eq_false, Bool.false_eq_true, reduceCtorEq, eq_self, decide_true, decide_false, bv_t, bv_f, and_self, t_si, t_sl, t_sr, t_sI, t_sR, n_si, n_sl, n_sr, n_sI, n_sR, r_si, r_sl, r_sI, t2, t5, e0, hof, q2]) (tm_n T) 0 (X, w) (Nat.zero_add _) ⟨rfl, fr_rf _ _, h.2.2.1, h.2.2.2.2, fun j _ => hset j⟩
  refine ⟨s1.2, i2, by rw [i1] at i3; exact i3, by rw [i1] at i4; exact i4, fun Q => ?_⟩
  have hq1 := MQ_X h0 i2 i3 i4
  have hM1 := hq1.1
  have t1 : w_t s1.2 1440 = 25 := hM1.1
  have t2 : w_r s1.2 1440 4 = some 1444 := by unfold sh_M at hM1; simp only [hM1]
  have t3 : w_t s1.2 1444 = 1 ∧ w_n s1.2 1444 = 8 := by unfold sh_M at hM1; simp only [hM1, and_self]
  have t4 := t3.1
  have t5 := t3.2
  have e0 : w_i s1.2 1444 0 = Int32.ofNat (tm_n T) := hq1.2.1.1
  have fin : wp (d + 3) 242 2 [some (v_R (some 1440)), some (v_I (Int32.ofNat s)), some (v_I (Int32.ofNat (tm_n T)))] [] s1.2 Q = Q (Sum.inl none) s1.2 := by
    rw [x_242_2]
    simp (disch := first | omega | decide | exact ko_b _ | assumption | (simp only [t_si, t_sl, t_sr, t_sI, t_sR, n_si, n_sl, n_sr, n_sI, n_sR, r_si, r_sl, r_sI]; first | done | omega)) only [x_242_e, x_242_b, x_242_0, x_242_1, x_242_3, x_242_4, x_242_7, x_242_8, x_242_9, x_242_12, x_242_13, x_242_14, x_242_17, x_242_20, x_242_21, x_242_22, x_242_25, x_242_28, x_242_31, bk_v, bk_n, nl_I, nl_R, nl_L, nl_0, oo_lt, oo_le, oo_eq, oo_add, oo_sub, oo_tn, oo_ir, nn_leT, nn_leF, nn_ltT, nn_ltF, nn_eqT, nn_eqF, bv_0, bv_1, ko_b, ko_1, ko_0, true_and, and_true, if_true, if_false, not_true_eq_false, not_false_eq_true, oo_02, decide_eq_true_eq, decide_eq_false_iff_not, ite_not, Nat.reduceAdd, Nat.reduceLT, Nat.reduceSub, Nat.reduceLeDiff, reduceIte, Bool.true_eq_false, Bool.false_eq_true, reduceCtorEq, eq_self, decide_true, decide_false, bv_t, bv_f, and_self, t_si, t_sl, t_sr, t_sI, t_sR, n_si, n_sl, n_sr, n_sI, n_sR, r_si, r_sl, r_sI, t2, t5, e0]
  refine Eq.trans ?_ ((q1 Q).trans fin)
  simp (disch := first | omega | decide | exact ko_b _ | assumption | (simp only [t_si, t_sl, t_sr, t_sI, t_sR, n_si, n_sl, n_sr, n_sI, n_sR, r_si, r_sl, r_sI]; first | done | omega)) only [x_242_e, x_242_b, x_242_0, x_242_1, x_242_3, x_242_4, x_242_7, x_242_8, x_242_9, x_242_12, x_242_13, x_242_14, x_242_17, x_242_20, x_242_21, x_242_22, x_242_25, x_242_28, x_242_31, bk_v, bk_n, nl_I, nl_R, nl_L, nl_0, oo_lt, oo_le, oo_eq, oo_add, oo_sub, oo_tn, oo_ir, nn_leT, nn_leF, nn_ltT, nn_ltF, nn_eqT, nn_eqF, bv_0, bv_1, ko_b, ko_1, ko_0, true_and, and_true, if_true, if_false, not_true_eq_false, not_false_eq_true, oo_02, decide_eq_true_eq, decide_eq_false_iff_not, ite_not, Nat.reduceAdd, Nat.reduceLT, Nat.reduceSub, Nat.reduceLeDiff, reduceIte, Bool.true_eq_false, Bool.false_eq_true, reduceCtorEq, eq_self, decide_true, decide_false, bv_t, bv_f, and_self, t_si, t_sl, t_sr, t_sI, t_sR, n_si, n_sl, n_sr, n_sI, n_sR, r_si, r_sl, r_sI]
theorem c_tall (h : RC_ w G σ S) (hV : WS_ S) {d s : Nat} (hs : s < 1024) (hset : ∀ j, s.testBit j = true → (f_lv (bm_X (sm_B S)) j).isSome = true) : ∃ w1, Fr_ tz_ w w1 ∧ CS_ w1 1429 (tm_n (sm_T S)) (f_toff (tm_n (sm_T S)) s (bm_X (sm_B S))) ∧ WX_ (tm_n (sm_T S)) (f_toff (tm_n (sm_T S)) s (bm_X (sm_B S))) ∧ ∀ Q, cl (d + 4) 55 [v_R (some 1000), v_I (Int32.ofNat s)] w Q = Q (Sum.inl none) w1 := by
  have hn10 := hV.1.1
  have hX9 := hV.2.2.2.1.1
  obtain ⟨w0, f0, r0, s0, q0⟩ := c_tr h hV (d := d + 3)
  obtain ⟨s1, ⟨i1, i2, i3, i4, i5⟩, q1⟩ := lp_ex (fun k (s1 : Xm × Wd) (Q : Q_) => wp (d + 4) 55 13 [some (v_R (some 1000)), some (v_I (Int32.ofNat s)), some (v_I (Int32.ofNat k))] [] s1.2 Q) (fun k s1 => s1.1 = it_ (f_off1 s) 0 k (bm_X (sm_B S)) ∧ Fr_ tz_ w s1.2 ∧ CS_ s1.2 1429 (tm_n (sm_T S)) s1.1 ∧ WX_ (tm_n (sm_T S)) s1.1 ∧ ∀ j, k ≤ j → s.testBit j = true → (f_lv s1.1 j).isSome = true) (tm_n (sm_T S)) (fun k s1 hk hI => by
      obtain ⟨i1, i2, i3, i4, i5⟩ := hI
      have r1 := RC_tz h hV i2
      have hq1 := tr_q r1 hV i3 i4
      have t1 : w_t s1.2 1000 = 20 := r1.1.1
      have t2 : w_r s1.2 1000 4 = some 1429 := r1.1.2.2.2.2.1
      have t3 : w_t s1.2 1429 = 24 := r1.2.1.2.2.2.2.1
      have hof := sb_tb hs (by omega : k < 10)
      cases e : s.testBit k with
      | false =>
        rw [e] at hof
        refine ⟨s1, ⟨?_, i2, i3, i4, fun j hj => i5 j (by omega)⟩, fun Q => ?_⟩
        · rw [it_1, Nat.zero_add, ← i1]
          unfold f_off1
          rw [if_neg (by rw [e]; decide)]
        · rw [x_55_13]
          simp (disch := first | omega | decide | exact ko_b _ | assumption | (simp only [t_si, t_sl, t_sr, t_sI, t_sR, n_si, n_sl, n_sr, n_sI, n_sR, r_si, r_sl, r_sI]; first | done | omega)) only [x_55_e, x_55_b, x_55_0, x_55_1, x_55_4, x_55_5, x_55_8, x_55_11, x_55_12, x_55_14, x_55_15, x_55_18, x_55_21, x_55_22, x_55_23, x_55_24, x_55_25, x_55_26, x_55_27, x_55_30, x_55_31, x_55_34, x_55_35, x_55_38, x_55_39, x_55_42, x_55_45, x_55_48, x_55_51, bk_v, bk_n, nl_I, nl_R, nl_L, nl_0, oo_lt, oo_le, oo_eq, oo_add, oo_sub, oo_tn, oo_ir, nn_leT, nn_leF, nn_ltT, nn_ltF, nn_eqT, nn_eqF, bv_0, bv_1, ko_b, ko_1, ko_0, true_and, and_true, if_true, if_false, not_true_eq_false, not_false_eq_true, oo_02, decide_eq_true_eq, decide_eq_false_iff_not, ite_not, Nat.reduceAdd, Nat.reduceLT, Nat.reduceSub, Nat.reduceLeDiff, reduceIte, Bool.true_eq_false, Bool.false_eq_true, reduceCtorEq, eq_self, decide_true, decide_false, bv_t, bv_f, and_self, t_si, t_sl, t_sr, t_sI, t_sR, n_si, n_sl, n_sr, n_sI, n_sR, r_si, r_sl, r_sI, c_tables r1 hV, hof]
      | true =>
        rw [e] at hof
        have hsome := i5 k (Nat.le_refl _) e
        obtain ⟨l, hl⟩ := Option.isSome_iff_exists.mp hsome
        have hll := flv_lt hl
        obtain ⟨w2, f2, s2, q2⟩ := c_takes (d := d + 3) (l := l) r1.2.1.2.2.2.2 i3 i4 hn10 hll
        refine ⟨(x_take s1.1 l, w2), ⟨?_, fr_tr i2 f2, s2, WX_take i4 hll, fun j hj hb => ?_⟩, fun Q => ?_⟩
        · rw [it_1, Nat.zero_add, ← i1]
          unfold f_off1 x_off
          rw [if_pos e, hl]
        · show (f_lv (x_take s1.1 l) j).isSome = true
          rw [lv_take i4 hl (by omega)]
          exact i5 j (by omega) hb
        · rw [x_55_13]
          simp (disch := first | omega | decide | exact ko_b _ | assumption | (simp only [t_si, t_sl, t_sr, t_sI, t_sR, n_si, n_sl, n_sr, n_sI, n_sR, r_si, r_sl, r_sI]; first | done | omega)) only [x_55_e, x_55_b, x_55_0, x_55_1, x_55_4, x_55_5, x_55_8, x_55_11, x_55_12, x_55_14, x_55_15, x_55_18, x_55_21, x_55_22, x_55_23, x_55_24, x_55_25, x_55_26, x_55_27, x_55_30, x_55_31, x_55_34, x_55_35, x_55_38, x_55_39, x_55_42, x_55_45, x_55_48, x_55_51, bk_v, bk_n, nl_I, nl_R, nl_L, nl_0, oo_lt, oo_le, oo_eq, oo_add, oo_sub, oo_tn, oo_ir, nn_leT, nn_leF, nn_ltT, nn_ltF, nn_eqT, nn_eqF, bv_0, bv_1, ko_b, ko_1, ko_0, true_and, and_true, if_true, if_false, not_true_eq_false, not_false_eq_true, oo_02, decide_eq_true_eq, decide_eq_false_iff_not, ite_not, Nat.reduceAdd, Nat.reduceLT, Nat.reduceSub, Nat.reduceLeDiff, reduceIte, Bool.true_eq_false, Bool.false_eq_true, reduceCtorEq, eq_self, decide_true, decide_false, bv_t, bv_f, and_self, t_si, t_sl, t_sr, t_sI, t_sR, n_si, n_sl, n_sr, n_sI, n_sR, r_si, r_sl, r_sI, c_tables r1 hV, hof, t2, c_lv hq1, hl, o_i_s, q2]) (tm_n (sm_T S)) 0 (bm_X (sm_B S), w0) (Nat.zero_add _) ⟨rfl, f0, s0, hX9, fun j _ => hset j⟩
  refine ⟨s1.2, i2, by rw [i1] at i3; exact i3, by rw [i1] at i4; exact i4, fun Q => ?_⟩
  have r1 := RC_tz h hV i2
  have t1 : w_t s1.2 1000 = 20 := r1.1.1
  have fin : wp (d + 4) 55 13 [some (v_R (some 1000)), some (v_I (Int32.ofNat s)), some (v_I (Int32.ofNat (tm_n (sm_T S))))] [] s1.2 Q = Q (Sum.inl none) s1.2 := by
    rw [x_55_13]
    simp (disch := first | omega | decide | exact ko_b _ | assumption | (simp only [t_si, t_sl, t_sr, t_sI, t_sR, n_si, n_sl, n_sr, n_sI, n_sR, r_si, r_sl, r_sI]; first | done | omega)) only [x_55_e, x_55_b, x_55_0, x_55_1, x_55_4, x_55_5, x_55_8, x_55_11, x_55_12, x_55_14, x_55_15, x_55_18, x_55_21, x_55_22, x_55_23, x_55_24, x_55_25, x_55_26, x_55_27, x_55_30, x_55_31, x_55_34, x_55_35, x_55_38, x_55_39, x_55_42, x_55_45, x_55_48, x_55_51, bk_v, bk_n, nl_I, nl_R, nl_L, nl_0, oo_lt, oo_le, oo_eq, oo_add, oo_sub, oo_tn, oo_ir, nn_leT, nn_leF, nn_ltT, nn_ltF, nn_eqT, nn_eqF, bv_0, bv_1, ko_b, ko_1, ko_0, true_and, and_true, if_true, if_false, not_true_eq_false, not_false_eq_true, oo_02, decide_eq_true_eq, decide_eq_false_iff_not, ite_not, Nat.reduceAdd, Nat.reduceLT, Nat.reduceSub, Nat.reduceLeDiff, reduceIte, Bool.true_eq_false, Bool.false_eq_true, reduceCtorEq, eq_self, decide_true, decide_false, bv_t, bv_f, and_self, t_si, t_sl, t_sr, t_sI, t_sR, n_si, n_sl, n_sr, n_sI, n_sR, r_si, r_sl, r_sI, c_tables r1 hV]
  refine Eq.trans ?_ ((q1 Q).trans fin)
  have hq := RC_CQ h hV
  have hC := h.1
  unfold sh_C at hC
  have hr0 : w_r w 1000 0 = some (gm_b G) := h.2.2.1
  have hT := h.2.2.2.1
  unfold CT_ at hT
  have hA : SO_ w 1008 := h.2.1.2.1.1
  unfold SO_ at hA
  have hA2 : SO_ w 1429 := h.2.1.2.2.2.2
  unfold SO_ at hA2
  have hS : CS_ w 1008 (tm_n (sm_T S)) (bm_X (sm_B S)) := h.2.2.2.2.2.2.2.1.1
  unfold CS_ at hS
  have hK : sh_B w 1007 := h.2.1.1
  unfold sh_B at hK
  have hB := h.2.2.2.2.2.2.2.1.2
  have hR := h.2.2.2.2.2.2.2.2.2
  simp only [Nat.reduceAdd] at hA hA2 hS hK hB
  obtain ⟨hn, hk4⟩ := hV.1
  obtain ⟨hW1, hW2, hW3⟩ := hV.2.2.2.1.1
  simp (disch := first | omega | decide | exact ko_b _ | assumption | (simp only [t_si, t_sl, t_sr, t_sI, t_sR, n_si, n_sl, n_sr, n_sI, n_sR, r_si, r_sl, r_sI]; first | done | omega)) only [x_55_e, x_55_b, x_55_0, x_55_1, x_55_4, x_55_5, x_55_8, x_55_11, x_55_12, x_55_14, x_55_15, x_55_18, x_55_21, x_55_22, x_55_23, x_55_24, x_55_25, x_55_26, x_55_27, x_55_30, x_55_31, x_55_34, x_55_35, x_55_38, x_55_39, x_55_42, x_55_45, x_55_48, x_55_51, bk_v, bk_n, nl_I, nl_R, nl_L, nl_0, oo_lt, oo_le, oo_eq, oo_add, oo_sub, oo_tn, oo_ir, nn_leT, nn_leF, nn_ltT, nn_ltF, nn_eqT, nn_eqF, bv_0, bv_1, ko_b, ko_1, ko_0, true_and, and_true, if_true, if_false, not_true_eq_false, not_false_eq_true, oo_02, decide_eq_true_eq, decide_eq_false_iff_not, ite_not, Nat.reduceAdd, Nat.reduceLT, Nat.reduceSub, Nat.reduceLeDiff, reduceIte, Bool.true_eq_false, Bool.false_eq_true, reduceCtorEq, eq_self, decide_true, decide_false, bv_t, bv_f, and_self, t_si, t_sl, t_sr, t_sI, t_sR, n_si, n_sl, n_sr, n_sI, n_sR, r_si, r_sl, r_sI, hC, hr0, hT, hA, hS, hK, hB, hR, q0]
end
