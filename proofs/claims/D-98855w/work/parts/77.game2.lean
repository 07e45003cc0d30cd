/-! GAMES: both halves -/
set_option maxRecDepth 100000
def f_gn (T : Tm) (X : Xm) (own lo hi : Nat) : Int32 := if f_st T (f_gX X (Int32.ofNat lo) (Int32.ofNat hi)) = true then Int32.ofNat own else Int32.ofNat own - Int32.ofNat 20
def f_rs (T : Tm) (X : Xm) (a b k : Nat) : Bool := decide (f_gn T X k k b ≤ f_gn T X a a b ∧ f_gn T X k a k ≤ f_gn T X b a b)
def f_rest (T : Tm) (X : Xm) (a b : Nat) : Bool := (ff_ (fun k => !f_rs T X a b k) 0 10).isNone
def f_g1 (T : Tm) (X : Xm) (a b : Nat) (s : Nat × Option Nat) : Nat × Option Nat := if f_rest T X a b = true then (s.1 + 1, some (s.2.getD (10 * a + b))) else s
def f_game (T : Tm) (X : Xm) : Nat × Option Nat := if 1 < xm_L X then it_ (fun a s => it_ (f_g1 T X a) 0 10 s) 0 10 (0, none) else (0, none)
def gm_ok (s : Nat × Option Nat) : Prop := ∀ x, s.2 = some x → x < 100
theorem gm_ok1 {T : Tm} {X : Xm} {a b : Nat} {s : Nat × Option Nat} (h : gm_ok s) (ha : a < 10) (hb : b < 10) : gm_ok (f_g1 T X a b s) := by
  unfold f_g1
  split
  · intro x hx
    have hx : some (s.2.getD (10 * a + b)) = some x := hx
    cases hx
    cases e : s.2 with
    | none => show 10 * a + b < 100; omega
    | some y => exact h y e
  · exact h
section
variable {w : Wd} {S : Sm} {G : Gm} {σ : Nat → Nat}
theorem c_gains {d m : Nat} {b : Bool} {Q : Q_} : cl d 94 [v_R (some 1000), v_I (Int32.ofNat m), v_I (b_v b)] w Q = Q (Sum.inl (some (v_I (if b = true then Int32.ofNat m else Int32.ofNat m - Int32.ofNat 20)))) w := by
  cases b with
  | false => simp (disch := first | omega | decide | exact ko_b _ | assumption | (simp only [t_si, t_sl, t_sr, t_sI, t_sR, n_si, n_sl, n_sr, n_sI, n_sR, r_si, r_sl, r_sI]; first | done | omega)) only [x_94_e, x_94_b, x_94_0, x_94_1, x_94_2, x_94_5, x_94_6, x_94_9, x_94_11, x_94_12, bk_v, bk_n, nl_I, nl_R, nl_L, nl_0, oo_lt, oo_le, oo_eq, oo_add, oo_sub, oo_tn, oo_ir, nn_leT, nn_leF, nn_ltT, nn_ltF, nn_eqT, nn_eqF, bv_0, bv_1, ko_b, ko_1, ko_0, true_and, and_true, if_true, if_false, not_true_eq_false, not_false_eq_true, oo_02, decide_eq_true_eq, decide_eq_false_iff_not, ite_not, Nat.reduceAdd, Nat.reduceLT, Nat.reduceSub, Nat.reduceLeDiff, reduceIte, Bool.true_eq_false, Bool.false_eq_true, reduceCtorEq, eq_self, decide_true, decide_false, bv_t, bv_f, and_self, t_si, t_sl, t_sr, t_sI, t_sR, n_si, n_sl, n_sr, n_sI, n_sR, r_si, r_sl, r_sI]
  | true => simp (disch := first | omega | decide | exact ko_b _ | assumption | (simp only [t_si, t_sl, t_sr, t_sI, t_sR, n_si, n_sl, n_sr, n_sI, n_sR, r_si, r_sl, r_sI]; first | done | omega)) only [x_94_e, x_94_b, x_94_0, x_94_1, x_94_2, x_94_5, x_94_6, x_94_9, x_94_11, x_94_12, bk_v, bk_n, nl_I, nl_R, nl_L, nl_0, oo_lt, oo_le, oo_eq, oo_add, oo_sub, oo_tn, oo_ir, nn_leT, nn_leF, nn_ltT, nn_ltF, nn_eqT, nn_eqF, bv_0, bv_1, ko_b, ko_1, ko_0, true_and, and_true, if_true, if_false, not_true_eq_false, not_false_eq_true, oo_02, decide_eq_true_eq, decide_eq_false_iff_not, ite_not, Nat.reduceAdd, Nat.reduceLT, Nat.reduceSub, Nat.reduceLeDiff, reduceIte, Bool.true_eq_false, Bool.false_eq_true, reduceCtorEq, eq_self, decide_true, decide_false, bv_t, bv_f, and_self, t_si, t_sl, t_sr, t_sI, t_sR, n_si, n_sl, n_sr, n_sI, n_sR, r_si, r_sl, r_sI, Nat.sub_zero]
theorem c_gk (h : RC_ w G σ S) (hV : WS_ S) {d a b k : Nat} {x n f : Int32} (hL : 1 < xm_L (bm_X (sm_B S))) : ∃ w1, Fr_ tz_ w w1 ∧ ∀ Q, wp (d + 13) 92 72 [some (v_R (some 1000)), some (v_I x), some (v_I n), some (v_I f), some (v_I (Int32.ofNat a)), some (v_I (Int32.ofNat b)), some (v_I (b_v (f_st (sm_T S) (f_gX (bm_X (sm_B S)) (Int32.ofNat a) (Int32.ofNat b))))), some (v_I (Int32.ofNat 1)), some (v_I (Int32.ofNat k))] [] w Q = wp (d + 13) 92 129 [some (v_R (some 1000)), some (v_I x), some (v_I n), some (v_I f), some (v_I (Int32.ofNat a)), some (v_I (Int32.ofNat b)), some (v_I (b_v (f_st (sm_T S) (f_gX (bm_X (sm_B S)) (Int32.ofNat a) (Int32.ofNat b))))), some (v_I (b_v (f_rs (sm_T S) (bm_X (sm_B S)) a b k))), some (v_I (Int32.ofNat k))] [] w1 Q := by
  obtain ⟨w1, f1, q1⟩ := c_stby h hV (d := d) (lo := Int32.ofNat k) (hi := Int32.ofNat b) hL
  have r1 := RC_tz h hV f1
  obtain ⟨w2, f2, q2⟩ := c_stby r1 hV (d := d) (lo := Int32.ofNat a) (hi := Int32.ofNat k) hL
  have r2 := RC_tz r1 hV f2
  have t0 : w_t w 1000 = 20 := h.1.1
  have t1 : w_t w1 1000 = 20 := r1.1.1
  have t2 : w_t w2 1000 = 20 := r2.1.1
  have g1 : ∀ d Q, cl d 94 [v_R (some 1000), v_I (Int32.ofNat k), v_I (b_v (f_st (sm_T S) (f_gX (bm_X (sm_B S)) (Int32.ofNat k) (Int32.ofNat b))))] w1 Q = Q (Sum.inl (some (v_I (f_gn (sm_T S) (bm_X (sm_B S)) k k b)))) w1 := fun _ _ => c_gains
  have g2 : ∀ d Q, cl d 94 [v_R (some 1000), v_I (Int32.ofNat a), v_I (b_v (f_st (sm_T S) (f_gX (bm_X (sm_B S)) (Int32.ofNat a) (Int32.ofNat b))))] w1 Q = Q (Sum.inl (some (v_I (f_gn (sm_T S) (bm_X (sm_B S)) a a b)))) w1 := fun _ _ => c_gains
  have g3 : ∀ d Q, cl d 94 [v_R (some 1000), v_I (Int32.ofNat k), v_I (b_v (f_st (sm_T S) (f_gX (bm_X (sm_B S)) (Int32.ofNat a) (Int32.ofNat k))))] w2 Q = Q (Sum.inl (some (v_I (f_gn (sm_T S) (bm_X (sm_B S)) k a k)))) w2 := fun _ _ => c_gains
  have g4 : ∀ d Q, cl d 94 [v_R (some 1000), v_I (Int32.ofNat b), v_I (b_v (f_st (sm_T S) (f_gX (bm_X (sm_B S)) (Int32.ofNat a) (Int32.ofNat b))))] w2 Q = Q (Sum.inl (some (v_I (f_gn (sm_T S) (bm_X (sm_B S)) b a b)))) w2 := fun _ _ => c_gains
  by_cases c1 : f_gn (sm_T S) (bm_X (sm_B S)) k k b ≤ f_gn (sm_T S) (bm_X (sm_B S)) a a b
  · have d1 := Int32.not_lt.mpr c1
    refine ⟨w2, fr_tr f1 f2, fun Q => ?_⟩
    by_cases c2 : f_gn (sm_T S) (bm_X (sm_B S)) k a k ≤ f_gn (sm_T S) (bm_X (sm_B S)) b a b
    · have d2 := Int32.not_lt.mpr c2
      have e : f_rs (sm_T S) (bm_X (sm_B S)) a b k = true := decide_eq_true ⟨c1, c2⟩
      rw [e]
      simp (disch := first | omega | decide | exact ko_b _ | assumption | (simp only [t_si, t_sl, t_sr, t_sI, t_sR, n_si, n_sl, n_sr, n_sI, n_sR, r_si, r_sl, r_sI]; first | done | omega)) only [x_92_e, x_92_b, x_92_72, x_92_73, x_92_75, x_92_76, x_92_78, x_92_80, x_92_83, x_92_86, x_92_87, x_92_89, x_92_91, x_92_94, x_92_97, x_92_98, x_92_100, x_92_101, x_92_103, x_92_105, x_92_108, x_92_111, x_92_112, x_92_114, x_92_116, x_92_119, x_92_122, x_92_123, x_92_126, x_92_127, bk_v, bk_n, nl_I, nl_R, nl_L, nl_0, oo_lt, oo_le, oo_eq, oo_add, oo_sub, oo_tn, oo_ir, nn_leT, nn_leF, nn_ltT, nn_ltF, nn_eqT, nn_eqF, bv_0, bv_1, ko_b, ko_1, ko_0, true_and, and_true, if_true, if_false, not_true_eq_false, not_false_eq_true, oo_02, decide_eq_true_eq, decide_eq_false_iff_not, ite_not, Nat.reduceAdd, Nat.reduceLT, Nat.reduceSub, Nat.reduceLeDiff, reduceIte, Bool.true_eq_false, Bool.false_eq_true, reduceCtorEq, eq_self, decide_true, decide_false, bv_t, bv_f, and_self, t_si, t_sl, t_sr, t_sI, t_sR, n_si, n_sl, n_sr, n_sI, n_sR, r_si, r_sl, r_sI, q1, q2, g1, g2, g3, g4, d1, d2]
    · have d2 := Int32.not_le.mp c2
      have e : f_rs (sm_T S) (bm_X (sm_B S)) a b k = false := decide_eq_false (fun z => c2 z.2)
      rw [e]
      simp (disch := first | omega | decide | exact ko_b _ | assumption | (simp only [t_si, t_sl, t_sr, t_sI, t_sR, n_si, n_sl, n_sr, n_sI, n_sR, r_si, r_sl, r_sI]; first | done | omega)) only [x_92_e, x_92_b, x_92_72, x_92_73, x_92_75, x_92_76, x_92_78, x_92_80, x_92_83, x_92_86, x_92_87, x_92_89, x_92_91, x_92_94, x_92_97, x_92_98, x_92_100, x_92_101, x_92_103, x_92_105, x_92_108, x_92_111, x_92_112, x_92_114, x_92_116, x_92_119, x_92_122, x_92_123, x_92_126, x_92_127, bk_v, bk_n, nl_I, nl_R, nl_L, nl_0, oo_lt, oo_le, oo_eq, oo_add, oo_sub, oo_tn, oo_ir, nn_leT, nn_leF, nn_ltT, nn_ltF, nn_eqT, nn_eqF, bv_0, bv_1, ko_b, ko_1, ko_0, true_and, and_true, if_true, if_false, not_true_eq_false, not_false_eq_true, oo_02, decide_eq_true_eq, decide_eq_false_iff_not, ite_not, Nat.reduceAdd, Nat.reduceLT, Nat.reduceSub, Nat.reduceLeDiff, reduceIte, Bool.true_eq_false, Bool.false_eq_true, reduceCtorEq, eq_self, decide_true, decide_false, bv_t, bv_f, and_self, t_si, t_sl, t_sr, t_sI, t_sR, n_si, n_sl, n_sr, n_sI, n_sR, r_si, r_sl, r_sI, q1, q2, g1, g2, g3, g4, d1, d2]
  · have d1 := Int32.not_le.mp c1
    have e : f_rs (sm_T S) (bm_X (sm_B S)) a b k = false := decide_eq_false (fun z => c1 z.1)
    rw [e]
    refine ⟨w1, f1, fun Q => ?_⟩
    simp (disch := first | omega | decide | exact ko_b _ | assumption | (simp only [t_si, t_sl, t_sr, t_sI, t_sR, n_si, n_sl, n_sr, n_sI, n_sR, r_si, r_sl, r_sI]; first | done | omega)) only [x_92_e, x_92_b, x_92_72, x_92_73, x_92_75, x_92_76, x_92_78, x_92_80, x_92_83, x_92_86, x_92_87, x_92_89, x_92_91, x_92_94, x_92_97, x_92_98, x_92_100, x_92_101, x_92_103, x_92_105, x_92_108, x_92_111, x_92_112, x_92_114, x_92_116, x_92_119, x_92_122, x_92_123, x_92_126, x_92_127, bk_v, bk_n, nl_I, nl_R, nl_L, nl_0, oo_lt, oo_le, oo_eq, oo_add, oo_sub, oo_tn, oo_ir, nn_leT, nn_leF, nn_ltT, nn_ltF, nn_eqT, nn_eqF, bv_0, bv_1, ko_b, ko_1, ko_0, true_and, and_true, if_true, if_false, not_true_eq_false, not_false_eq_true, oo_02, decide_eq_true_eq, decide_eq_false_iff_not, ite_not, Nat.reduceAdd, Nat.reduceLT, Nat.reduceSub, Nat.reduceLeDiff, reduceIte, Bool.true_eq_false, Bool.false_eq_true, reduceCtorEq, eq_self, decide_true, decide_false, bv_t, bv_f, and_self, t_si, t_sl, t_sr, t_sI, t_sR, n_si, n_sl, n_sr, n_sI, n_sR, r_si, r_sl, r_sI, q1, g1, g2, d1]
theorem c_gks (h : RC_ w G σ S) (hV : WS_ S) {d a b : Nat} {x n f : Int32} {a7 a8 : Option Vl} (hL : 1 < xm_L (bm_X (sm_B S))) : ∃ s : Option Vl × Wd, Fr_ tz_ w s.2 ∧ ∀ Q, wp (d + 13) 92 54 [some (v_R (some 1000)), some (v_I x), some (v_I n), some (v_I f), some (v_I (Int32.ofNat a)), some (v_I (Int32.ofNat b)), some (v_I (b_v (f_st (sm_T S) (f_gX (bm_X (sm_B S)) (Int32.ofNat a) (Int32.ofNat b))))), a7, a8] [] w Q = wp (d + 13) 92 135 [some (v_R (some 1000)), some (v_I x), some (v_I n), some (v_I f), some (v_I (Int32.ofNat a)), some (v_I (Int32.ofNat b)), some (v_I (b_v (f_st (sm_T S) (f_gX (bm_X (sm_B S)) (Int32.ofNat a) (Int32.ofNat b))))), some (v_I (b_v (f_rest (sm_T S) (bm_X (sm_B S)) a b))), s.1] [] s.2 Q := by
  obtain ⟨w1, f1, q1⟩ := lp_fg (fun k (s : Wd) Q => wp (d + 13) 92 60 [some (v_R (some 1000)), some (v_I x), some (v_I n), some (v_I f), some (v_I (Int32.ofNat a)), some (v_I (Int32.ofNat b)), some (v_I (b_v (f_st (sm_T S) (f_gX (bm_X (sm_B S)) (Int32.ofNat a) (Int32.ofNat b))))), some (v_I (Int32.ofNat 1)), some (v_I (Int32.ofNat k))] [] s Q) (fun o s Q => wp (d + 13) 92 135 [some (v_R (some 1000)), some (v_I x), some (v_I n), some (v_I f), some (v_I (Int32.ofNat a)), some (v_I (Int32.ofNat b)), some (v_I (b_v (f_st (sm_T S) (f_gX (bm_X (sm_B S)) (Int32.ofNat a) (Int32.ofNat b))))), some (v_I (b_v o.isNone)), some (v_I (Int32.ofNat (match o with | some j => j + 1 | none => 10)))] [] s Q) (fun s => Fr_ tz_ w s) (fun k => !f_rs (sm_T S) (bm_X (sm_B S)) a b k) 10 0 w (fun k s _ hk hC => by
    obtain ⟨w1, f1, q1⟩ := c_gk (RC_tz h hV hC) hV (d := d) (a := a) (b := b) (k := k) (x := x) (n := n) (f := f) hL
    refine ⟨w1, fr_tr hC f1, fun Q => ?_⟩
    rw [x_92_60]
    simp (disch := first | omega | decide | exact ko_b _ | assumption | (simp only [t_si, t_sl, t_sr, t_sI, t_sR, n_si, n_sl, n_sr, n_sI, n_sR, r_si, r_sl, r_sI]; first | done | omega)) only [x_92_e, x_92_b, x_92_62, x_92_64, x_92_67, x_92_69, bk_v, bk_n, nl_I, nl_R, nl_L, nl_0, oo_lt, oo_le, oo_eq, oo_add, oo_sub, oo_tn, oo_ir, nn_leT, nn_leF, nn_ltT, nn_ltF, nn_eqT, nn_eqF, bv_0, bv_1, ko_b, ko_1, ko_0, true_and, and_true, if_true, if_false, not_true_eq_false, not_false_eq_true, oo_02, decide_eq_true_eq, decide_eq_false_iff_not, ite_not, Nat.reduceAdd, Nat.reduceLT, Nat.reduceSub, Nat.reduceLeDiff, reduceIte, Bool.true_eq_false, Bool.false_eq_true, reduceCtorEq, eq_self, decide_true, decide_false, bv_t, bv_f, and_self, t_si, t_sl, t_sr, t_sI, t_sR, n_si, n_sl, n_sr, n_sI, n_sR, r_si, r_sl, r_sI, q1]
    cases f_rs (sm_T S) (bm_X (sm_B S)) a b k with
    | true =>
      simp (disch := first | omega | decide | exact ko_b _ | assumption | (simp only [t_si, t_sl, t_sr, t_sI, t_sR, n_si, n_sl, n_sr, n_sI, n_sR, r_si, r_sl, r_sI]; first | done | omega)) only [x_92_e, x_92_b, x_92_129, x_92_132, bk_v, bk_n, nl_I, nl_R, nl_L, nl_0, oo_lt, oo_le, oo_eq, oo_add, oo_sub, oo_tn, oo_ir, nn_leT, nn_leF, nn_ltT, nn_ltF, nn_eqT, nn_eqF, bv_0, bv_1, ko_b, ko_1, ko_0, true_and, and_true, if_true, if_false, not_true_eq_false, not_false_eq_true, oo_02, decide_eq_true_eq, decide_eq_false_iff_not, ite_not, Nat.reduceAdd, Nat.reduceLT, Nat.reduceSub, Nat.reduceLeDiff, reduceIte, Bool.true_eq_false, Bool.false_eq_true, reduceCtorEq, eq_self, decide_true, decide_false, bv_t, bv_f, and_self, t_si, t_sl, t_sr, t_sI, t_sR, n_si, n_sl, n_sr, n_sI, n_sR, r_si, r_sl, r_sI, Bool.not_true]
    | false =>
      simp (disch := first | omega | decide | exact ko_b _ | assumption | (simp only [t_si, t_sl, t_sr, t_sI, t_sR, n_si, n_sl, n_sr, n_sI, n_sR, r_si, r_sl, r_sI]; first | done | omega)) only [x_92_e, x_92_b, x_92_129, x_92_132, bk_v, bk_n, nl_I, nl_R, nl_L, nl_0, oo_lt, oo_le, oo_eq, oo_add, oo_sub, oo_tn, oo_ir, nn_leT, nn_leF, nn_ltT, nn_ltF, nn_eqT, nn_eqF, bv_0, bv_1, ko_b, ko_1, ko_0, true_and, and_true, if_true, if_false, not_true_eq_false, not_false_eq_true, oo_02, decide_eq_true_eq, decide_eq_false_iff_not, ite_not, Nat.reduceAdd, Nat.reduceLT, Nat.reduceSub, Nat.reduceLeDiff, reduceIte, Bool.true_eq_false, Bool.false_eq_true, reduceCtorEq, eq_self, decide_true, decide_false, bv_t, bv_f, and_self, t_si, t_sl, t_sr, t_sI, t_sR, n_si, n_sl, n_sr, n_sI, n_sR, r_si, r_sl, r_sI, Bool.not_false, Option.isNone_some]
      rw [x_92_60]
      by_cases c : k + 1 ≤ 9
      · simp (disch := first | omega | decide | exact ko_b _ | assumption | (simp only [t_si, t_sl, t_sr, t_sI, t_sR, n_si, n_sl, n_sr, n_sI, n_sR, r_si, r_sl, r_sI]; first | done | omega)) only [x_92_e, x_92_b, x_92_62, x_92_64, x_92_67, x_92_69, bk_v, bk_n, nl_I, nl_R, nl_L, nl_0, oo_lt, oo_le, oo_eq, oo_add, oo_sub, oo_tn, oo_ir, nn_leT, nn_leF, nn_ltT, nn_ltF, nn_eqT, nn_eqF, bv_0, bv_1, ko_b, ko_1, ko_0, true_and, and_true, if_true, if_false, not_true_eq_false, not_false_eq_true, oo_02, decide_eq_true_eq, decide_eq_false_iff_not, ite_not, Nat.reduceAdd, Nat.reduceLT, Nat.reduceSub, Nat.reduceLeDiff, reduceIte, Bool.true_eq_false, Bool.false_eq_true, reduceCtorEq, eq_self, decide_true, decide_false, bv_t, bv_f, and_self, t_si, t_sl, t_sr, t_sI, t_sR, n_si, n_sl, n_sr, n_sI, n_sR, r_si, r_sl, r_sI]
      · simp (disch := first | omega | decide | exact ko_b _ | assumption | (simp only [t_si, t_sl, t_sr, t_sI, t_sR, n_si, n_sl, n_sr, n_sI, n_sR, r_si, r_sl, r_sI]; first | done | omega)) only [x_92_e, x_92_b, x_92_62, x_92_64, x_92_67, x_92_69, bk_v, bk_n, nl_I, nl_R, nl_L, nl_0, oo_lt, oo_le, oo_eq, oo_add, oo_sub, oo_tn, oo_ir, nn_leT, nn_leF, nn_ltT, nn_ltF, nn_eqT, nn_eqF, bv_0, bv_1, ko_b, ko_1, ko_0, true_and, and_true, if_true, if_false, not_true_eq_false, not_false_eq_true, oo_02, decide_eq_true_eq, decide_eq_false_iff_not, ite_not, Nat.reduceAdd, Nat.reduceLT, Nat.reduceSub, Nat.reduceLeDiff, reduceIte, Bool.true_eq_false, Bool.false_eq_true, reduceCtorEq, eq_self, decide_true, decide_false, bv_t, bv_f, and_self, t_si, t_sl, t_sr, t_sI, t_sR, n_si, n_sl, n_sr, n_sI, n_sR, r_si, r_sl, r_sI]) (fun s hC => by
    refine ⟨s, hC, fun Q => ?_⟩
    show wp (d + 13) 92 60 [some (v_R (some 1000)), some (v_I x), some (v_I n), some (v_I f), some (v_I (Int32.ofNat a)), some (v_I (Int32.ofNat b)), some (v_I (b_v (f_st (sm_T S) (f_gX (bm_X (sm_B S)) (Int32.ofNat a) (Int32.ofNat b))))), some (v_I (Int32.ofNat 1)), some (v_I (Int32.ofNat (0 + 10)))] [] s Q = _
    rw [x_92_60]
    simp (disch := first | omega | decide | exact ko_b _ | assumption | (simp only [t_si, t_sl, t_sr, t_sI, t_sR, n_si, n_sl, n_sr, n_sI, n_sR, r_si, r_sl, r_sI]; first | done | omega)) only [x_92_e, x_92_b, x_92_62, x_92_64, x_92_67, x_92_69, bk_v, bk_n, nl_I, nl_R, nl_L, nl_0, oo_lt, oo_le, oo_eq, oo_add, oo_sub, oo_tn, oo_ir, nn_leT, nn_leF, nn_ltT, nn_ltF, nn_eqT, nn_eqF, bv_0, bv_1, ko_b, ko_1, ko_0, true_and, and_true, if_true, if_false, not_true_eq_false, not_false_eq_true, oo_02, decide_eq_true_eq, decide_eq_false_iff_not, ite_not, Nat.reduceAdd, Nat.reduceLT, Nat.reduceSub, Nat.reduceLeDiff, reduceIte, Bool.true_eq_false, Bool.false_eq_true, reduceCtorEq, eq_self, decide_true, decide_false, bv_t, bv_f, and_self, t_si, t_sl, t_sr, t_sI, t_sR, n_si, n_sl, n_sr, n_sI, n_sR, r_si, r_sl, r_sI, Option.isNone_none]) (fr_rf _ _)
  refine ⟨(some (v_I (Int32.ofNat (match ff_ (fun k => !f_rs (sm_T S) (bm_X (sm_B S)) a b k) 0 10 with | some j => j + 1 | none => 10))), w1), f1, fun Q => ?_⟩
  refine Eq.trans ?_ (q1 Q)
  simp (disch := first | omega | decide | exact ko_b _ | assumption | (simp only [t_si, t_sl, t_sr, t_sI, t_sR, n_si, n_sl, n_sr, n_sI, n_sR, r_si, r_sl, r_sI]; first | done | omega)) only [x_92_e, x_92_b, x_92_54, x_92_55, x_92_57, x_92_58, bk_v, bk_n, nl_I, nl_R, nl_L, nl_0, oo_lt, oo_le, oo_eq, oo_add, oo_sub, oo_tn, oo_ir, nn_leT, nn_leF, nn_ltT, nn_ltF, nn_eqT, nn_eqF, bv_0, bv_1, ko_b, ko_1, ko_0, true_and, and_true, if_true, if_false, not_true_eq_false, not_false_eq_true, oo_02, decide_eq_true_eq, decide_eq_false_iff_not, ite_not, Nat.reduceAdd, Nat.reduceLT, Nat.reduceSub, Nat.reduceLeDiff, reduceIte, Bool.true_eq_false, Bool.false_eq_true, reduceCtorEq, eq_self, decide_true, decide_false, bv_t, bv_f, and_self, t_si, t_sl, t_sr, t_sI, t_sR, n_si, n_sl, n_sr, n_sI, n_sR, r_si, r_sl, r_sI]
theorem c_gb (h : RC_ w G σ S) (hV : WS_ S) {d a : Nat} (ha : a < 10) {x : Int32} {s : Nat × Option Nat} {v5 : Option Vl × Option Vl × Option Vl × Option Vl} (hs : gm_ok s) (hL : 1 < xm_L (bm_X (sm_B S))) : ∃ t : (Option Vl × Option Vl × Option Vl) × Wd, (Fr_ tz_ w t.2 ∧ gm_ok (it_ (f_g1 (sm_T S) (bm_X (sm_B S)) a) 0 10 s)) ∧ ∀ Q, wp (d + 13) 92 34 [some (v_R (some 1000)), some (v_I x), some (v_I (Int32.ofNat s.1)), some (v_I (o_i s.2)), some (v_I (Int32.ofNat a)), v5.1, v5.2.1, v5.2.2.1, v5.2.2.2] [] w Q = wp (d + 13) 92 37 [some (v_R (some 1000)), some (v_I x), some (v_I (Int32.ofNat (it_ (f_g1 (sm_T S) (bm_X (sm_B S)) a) 0 10 s).1)), some (v_I (o_i (it_ (f_g1 (sm_T S) (bm_X (sm_B S)) a) 0 10 s).2)), some (v_I (Int32.ofNat a)), some (v_I (Int32.ofNat 10)), t.1.1, t.1.2.1, t.1.2.2] [] t.2 Q := by
  obtain ⟨t, hC, q1⟩ := lp_ig (fun b (s : Nat × Option Nat) (t : (Option Vl × Option Vl × Option Vl) × Wd) Q => wp (d + 13) 92 37 [some (v_R (some 1000)), some (v_I x), some (v_I (Int32.ofNat s.1)), some (v_I (o_i s.2)), some (v_I (Int32.ofNat a)), some (v_I (Int32.ofNat b)), t.1.1, t.1.2.1, t.1.2.2] [] t.2 Q) (fun b s t => Fr_ tz_ w t.2 ∧ gm_ok s) (f_g1 (sm_T S) (bm_X (sm_B S)) a) 10 0 s ((v5.2.1, v5.2.2.1, v5.2.2.2), w) (fun b s t _ hb hC => by
    have r0 := RC_tz h hV hC.1
    have t0 : w_t t.2 1000 = 20 := r0.1.1
    obtain ⟨w1, f1, q1⟩ := c_stby r0 hV (d := d) (lo := Int32.ofNat a) (hi := Int32.ofNat b) hL
    have r1 := RC_tz r0 hV f1
    obtain ⟨s2, f2, q2⟩ := c_gks r1 hV (d := d) (a := a) (b := b) (x := x) (n := Int32.ofNat s.1) (f := o_i s.2) (a7 := t.1.2.1) (a8 := t.1.2.2) hL
    refine ⟨((some (v_I (b_v (f_st (sm_T S) (f_gX (bm_X (sm_B S)) (Int32.ofNat a) (Int32.ofNat b))))), some (v_I (b_v (f_rest (sm_T S) (bm_X (sm_B S)) a b))), s2.1), s2.2), ⟨fr_tr hC.1 (fr_tr f1 f2), gm_ok1 hC.2 ha (by omega)⟩, fun Q => ?_⟩
    rw [x_92_37]
    simp (disch := first | omega | decide | exact ko_b _ | assumption | (simp only [t_si, t_sl, t_sr, t_sI, t_sR, n_si, n_sl, n_sr, n_sI, n_sR, r_si, r_sl, r_sI]; first | done | omega)) only [x_92_e, x_92_b, x_92_39, x_92_41, x_92_44, x_92_45, x_92_47, x_92_49, x_92_52, bk_v, bk_n, nl_I, nl_R, nl_L, nl_0, oo_lt, oo_le, oo_eq, oo_add, oo_sub, oo_tn, oo_ir, nn_leT, nn_leF, nn_ltT, nn_ltF, nn_eqT, nn_eqF, bv_0, bv_1, ko_b, ko_1, ko_0, true_and, and_true, if_true, if_false, not_true_eq_false, not_false_eq_true, oo_02, decide_eq_true_eq, decide_eq_false_iff_not, ite_not, Nat.reduceAdd, Nat.reduceLT, Nat.reduceSub, Nat.reduceLeDiff, reduceIte, Bool.true_eq_false, Bool.false_eq_true, reduceCtorEq, eq_self, decide_true, decide_false, bv_t, bv_f, and_self, t_si, t_sl, t_sr, t_sI, t_sR, n_si, n_sl, n_sr, n_sI, n_sR, r_si, r_sl, r_sI, q1, q2]
    unfold f_g1
    cases e : f_rest (sm_T S) (bm_X (sm_B S)) a b with
    | false => simp (disch := first | omega | decide | exact ko_b _ | assumption | (simp only [t_si, t_sl, t_sr, t_sI, t_sR, n_si, n_sl, n_sr, n_sI, n_sR, r_si, r_sl, r_sI]; first | done | omega)) only [x_92_e, x_92_b, x_92_135, x_92_137, x_92_140, x_92_143, x_92_146, x_92_147, x_92_148, x_92_151, x_92_153, x_92_155, x_92_156, x_92_158, x_92_159, x_92_160, x_92_163, bk_v, bk_n, nl_I, nl_R, nl_L, nl_0, oo_lt, oo_le, oo_eq, oo_add, oo_sub, oo_tn, oo_ir, nn_leT, nn_leF, nn_ltT, nn_ltF, nn_eqT, nn_eqF, bv_0, bv_1, ko_b, ko_1, ko_0, true_and, and_true, if_true, if_false, not_true_eq_false, not_false_eq_true, oo_02, decide_eq_true_eq, decide_eq_false_iff_not, ite_not, Nat.reduceAdd, Nat.reduceLT, Nat.reduceSub, Nat.reduceLeDiff, reduceIte, Bool.true_eq_false, Bool.false_eq_true, reduceCtorEq, eq_self, decide_true, decide_false, bv_t, bv_f, and_self, t_si, t_sl, t_sr, t_sI, t_sR, n_si, n_sl, n_sr, n_sI, n_sR, r_si, r_sl, r_sI]
    | true =>
      cases e2 : s.2 with
      | none => simp (disch := first | omega | decide | exact ko_b _ | assumption | (simp only [t_si, t_sl, t_sr, t_sI, t_sR, n_si, n_sl, n_sr, n_sI, n_sR, r_si, r_sl, r_sI]; first | done | omega)) only [x_92_e, x_92_b, x_92_135, x_92_137, x_92_140, x_92_143, x_92_146, x_92_147, x_92_148, x_92_151, x_92_153, x_92_155, x_92_156, x_92_158, x_92_159, x_92_160, x_92_163, bk_v, bk_n, nl_I, nl_R, nl_L, nl_0, oo_lt, oo_le, oo_eq, oo_add, oo_sub, oo_tn, oo_ir, nn_leT, nn_leF, nn_ltT, nn_ltF, nn_eqT, nn_eqF, bv_0, bv_1, ko_b, ko_1, ko_0, true_and, and_true, if_true, if_false, not_true_eq_false, not_false_eq_true, oo_02, decide_eq_true_eq, decide_eq_false_iff_not, ite_not, Nat.reduceAdd, Nat.reduceLT, Nat.reduceSub, Nat.reduceLeDiff, reduceIte, Bool.true_eq_false, Bool.false_eq_true, reduceCtorEq, eq_self, decide_true, decide_false, bv_t, bv_f, and_self, t_si, t_sl, t_sr, t_sI, t_sR, n_si, n_sl, n_sr, n_sI, n_sR, r_si, r_sl, r_sI, o_i_n, o_i_s, Option.getD_none, oo_mul]
      | some y =>
        have hy := hC.2 y e2
        have hne := oi_s1 (by omega : y < 2147483648)
        simp (disch := first | omega | decide | exact ko_b _ | assumption | (simp only [t_si, t_sl, t_sr, t_sI, t_sR, n_si, n_sl, n_sr, n_sI, n_sR, r_si, r_sl, r_sI]; first | done | omega)) only [x_92_e, x_92_b, x_92_135, x_92_137, x_92_140, x_92_143, x_92_146, x_92_147, x_92_148, x_92_151, x_92_153, x_92_155, x_92_156, x_92_158, x_92_159, x_92_160, x_92_163, bk_v, bk_n, nl_I, nl_R, nl_L, nl_0, oo_lt, oo_le, oo_eq, oo_add, oo_sub, oo_tn, oo_ir, nn_leT, nn_leF, nn_ltT, nn_ltF, nn_eqT, nn_eqF, bv_0, bv_1, ko_b, ko_1, ko_0, true_and, and_true, if_true, if_false, not_true_eq_false, not_false_eq_true, oo_02, decide_eq_true_eq, decide_eq_false_iff_not, ite_not, Nat.reduceAdd, Nat.reduceLT, Nat.reduceSub, Nat.reduceLeDiff, reduceIte, Bool.true_eq_false, Bool.false_eq_true, reduceCtorEq, eq_self, decide_true, decide_false, bv_t, bv_f, and_self, t_si, t_sl, t_sr, t_sI, t_sR, n_si, n_sl, n_sr, n_sI, n_sR, r_si, r_sl, r_sI, o_i_s, hne, Option.getD_some]) ⟨fr_rf _ _, hs⟩
  refine ⟨t, hC, fun Q => Eq.trans ?_ (q1 Q)⟩
  simp (disch := first | omega | decide | exact ko_b _ | assumption | (simp only [t_si, t_sl, t_sr, t_sI, t_sR, n_si, n_sl, n_sr, n_sI, n_sR, r_si, r_sl, r_sI]; first | done | omega)) only [x_92_e, x_92_b, x_92_34, x_92_35, bk_v, bk_n, nl_I, nl_R, nl_L, nl_0, oo_lt, oo_le, oo_eq, oo_add, oo_sub, oo_tn, oo_ir, nn_leT, nn_leF, nn_ltT, nn_ltF, nn_eqT, nn_eqF, bv_0, bv_1, ko_b, ko_1, ko_0, true_and, and_true, if_true, if_false, not_true_eq_false, not_false_eq_true, oo_02, decide_eq_true_eq, decide_eq_false_iff_not, ite_not, Nat.reduceAdd, Nat.reduceLT, Nat.reduceSub, Nat.reduceLeDiff, reduceIte, Bool.true_eq_false, Bool.false_eq_true, reduceCtorEq, eq_self, decide_true, decide_false, bv_t, bv_f, and_self, t_si, t_sl, t_sr, t_sI, t_sR, n_si, n_sl, n_sr, n_sI, n_sR, r_si, r_sl, r_sI]
theorem c_game (h : RC_ w G σ S) (hV : WS_ S) {d : Nat} {x : Int32} (hx : Int32.ofNat 0 ≤ x ∧ x ≤ Int32.ofNat 1) : CR_ G (d + 13) 92 [v_R (some 1000), v_I x] w (v_I (if x = Int32.ofNat 0 then Int32.ofNat (f_game (sm_T S) (bm_X (sm_B S))).1 else o_i (f_game (sm_T S) (bm_X (sm_B S))).2)) := by
  have hX9 := hV.2.2.2.1.1
  have hn10 := hV.1.1
  have hL9 := hX9.1
  unfold f_game
  by_cases hL : 1 < xm_L (bm_X (sm_B S))
  · rw [if_pos hL]
    obtain ⟨t, hC, q1⟩ := lp_ig (fun a (s : Nat × Option Nat) (t : (Option Vl × Option Vl × Option Vl × Option Vl) × Wd) Q => wp (d + 13) 92 16 [some (v_R (some 1000)), some (v_I x), some (v_I (Int32.ofNat s.1)), some (v_I (o_i s.2)), some (v_I (Int32.ofNat a)), t.1.1, t.1.2.1, t.1.2.2.1, t.1.2.2.2] [] t.2 Q) (fun b s t => Fr_ tz_ w t.2 ∧ gm_ok s) (fun a s => it_ (f_g1 (sm_T S) (bm_X (sm_B S)) a) 0 10 s) 10 0 (0, none) ((none, none, none, none), w) (fun a s t _ ha hC => by
      have h := RC_tz h hV hC.1
      obtain ⟨t1, f1, q1⟩ := c_gb h hV (d := d) (a := a) (x := x) (s := s) (v5 := t.1) (by omega) hC.2 hL
      refine ⟨((some (v_I (Int32.ofNat 10)), t1.1.1, t1.1.2.1, t1.1.2.2), t1.2), ⟨fr_tr hC.1 f1.1, f1.2⟩, fun Q => ?_⟩
      have hq := RC_CQ h hV
      have hC := h.1
      unfold sh_C at hC
      have hr0 : w_r _ 1000 0 = some (gm_b G) := h.2.2.1
      have hT := h.2.2.2.1
      unfold CT_ at hT
      have hA : SO_ _ 1008 := h.2.1.2.1.1
      unfold SO_ at hA
      have hA2 : SO_ _ 1429 := h.2.1.2.2.2.2
      unfold SO_ at hA2
      have hS : CS_ _ 1008 (tm_n (sm_T S)) (bm_X (sm_B S)) := h.2.2.2.2.2.2.2.1.1
      unfold CS_ at hS
      have hK : sh_B _ 1007 := h.2.1.1
      unfold sh_B at hK
      have hB := h.2.2.2.2.2.2.2.1.2
      have hR := h.2.2.2.2.2.2.2.2.2
      simp only [Nat.reduceAdd] at hA hA2 hS hK hB
      obtain ⟨hn, hk4⟩ := hV.1
      obtain ⟨hW1, hW2, hW3⟩ := hV.2.2.2.1.1
      rw [x_92_16]
      simp (disch := first | omega | decide | exact ko_b _ | assumption | (simp only [t_si, t_sl, t_sr, t_sI, t_sR, n_si, n_sl, n_sr, n_sI, n_sR, r_si, r_sl, r_sI]; first | done | omega)) only [x_92_e, x_92_b, x_92_18, x_92_20, x_92_23, x_92_24, x_92_27, x_92_30, x_92_31, bk_v, bk_n, nl_I, nl_R, nl_L, nl_0, oo_lt, oo_le, oo_eq, oo_add, oo_sub, oo_tn, oo_ir, nn_leT, nn_leF, nn_ltT, nn_ltF, nn_eqT, nn_eqF, bv_0, bv_1, ko_b, ko_1, ko_0, true_and, and_true, if_true, if_false, not_true_eq_false, not_false_eq_true, oo_02, decide_eq_true_eq, decide_eq_false_iff_not, ite_not, Nat.reduceAdd, Nat.reduceLT, Nat.reduceSub, Nat.reduceLeDiff, reduceIte, Bool.true_eq_false, Bool.false_eq_true, reduceCtorEq, eq_self, decide_true, decide_false, bv_t, bv_f, and_self, t_si, t_sl, t_sr, t_sI, t_sR, n_si, n_sl, n_sr, n_sI, n_sR, r_si, r_sl, r_sI, hC, hr0, hT, hA, hS, hK, hB, hR]
      rw [q1, x_92_37]
      simp (disch := first | omega | decide | exact ko_b _ | assumption | (simp only [t_si, t_sl, t_sr, t_sI, t_sR, n_si, n_sl, n_sr, n_sI, n_sR, r_si, r_sl, r_sI]; first | done | omega)) only [x_92_e, x_92_b, x_92_39, x_92_41, x_92_e, x_92_b, x_92_166, x_92_169, bk_v, bk_n, nl_I, nl_R, nl_L, nl_0, oo_lt, oo_le, oo_eq, oo_add, oo_sub, oo_tn, oo_ir, nn_leT, nn_leF, nn_ltT, nn_ltF, nn_eqT, nn_eqF, bv_0, bv_1, ko_b, ko_1, ko_0, true_and, and_true, if_true, if_false, not_true_eq_false, not_false_eq_true, oo_02, decide_eq_true_eq, decide_eq_false_iff_not, ite_not, Nat.reduceAdd, Nat.reduceLT, Nat.reduceSub, Nat.reduceLeDiff, reduceIte, Bool.true_eq_false, Bool.false_eq_true, reduceCtorEq, eq_self, decide_true, decide_false, bv_t, bv_f, and_self, t_si, t_sl, t_sr, t_sI, t_sR, n_si, n_sl, n_sr, n_sI, n_sR, r_si, r_sl, r_sI]) ⟨fr_rf _ _, fun y hy => by cases hy⟩
    refine ⟨t.2, fr_mo hC.1 (fun a k z => tz_pc z), fun Q => ?_⟩
    have fin : wp (d + 13) 92 16 [some (v_R (some 1000)), some (v_I x), some (v_I (Int32.ofNat (it_ (fun a s => it_ (f_g1 (sm_T S) (bm_X (sm_B S)) a) 0 10 s) 0 10 (0, none)).1)), some (v_I (o_i (it_ (fun a s => it_ (f_g1 (sm_T S) (bm_X (sm_B S)) a) 0 10 s) 0 10 (0, none)).2)), some (v_I (Int32.ofNat (0 + 10))), t.1.1, t.1.2.1, t.1.2.2.1, t.1.2.2.2] [] t.2 Q = Q (Sum.inl (some (v_I (if x = Int32.ofNat 0 then Int32.ofNat (it_ (fun a s => it_ (f_g1 (sm_T S) (bm_X (sm_B S)) a) 0 10 s) 0 10 (0, none)).1 else o_i (it_ (fun a s => it_ (f_g1 (sm_T S) (bm_X (sm_B S)) a) 0 10 s) 0 10 (0, none)).2)))) t.2 := by
      rw [x_92_16]
      by_cases hz : x = Int32.ofNat 0
      · simp (disch := first | omega | decide | exact ko_b _ | assumption | (simp only [t_si, t_sl, t_sr, t_sI, t_sR, n_si, n_sl, n_sr, n_sI, n_sR, r_si, r_sl, r_sI]; first | done | omega)) only [x_92_e, x_92_b, x_92_18, x_92_20, x_92_e, x_92_b, x_92_172, x_92_173, x_92_176, x_92_177, x_92_180, x_92_181, bk_v, bk_n, nl_I, nl_R, nl_L, nl_0, oo_lt, oo_le, oo_eq, oo_add, oo_sub, oo_tn, oo_ir, nn_leT, nn_leF, nn_ltT, nn_ltF, nn_eqT, nn_eqF, bv_0, bv_1, ko_b, ko_1, ko_0, true_and, and_true, if_true, if_false, not_true_eq_false, not_false_eq_true, oo_02, decide_eq_true_eq, decide_eq_false_iff_not, ite_not, Nat.reduceAdd, Nat.reduceLT, Nat.reduceSub, Nat.reduceLeDiff, reduceIte, Bool.true_eq_false, Bool.false_eq_true, reduceCtorEq, eq_self, decide_true, decide_false, bv_t, bv_f, and_self, t_si, t_sl, t_sr, t_sI, t_sR, n_si, n_sl, n_sr, n_sI, n_sR, r_si, r_sl, r_sI, hz]
      · simp (disch := first | omega | decide | exact ko_b _ | assumption | (simp only [t_si, t_sl, t_sr, t_sI, t_sR, n_si, n_sl, n_sr, n_sI, n_sR, r_si, r_sl, r_sI]; first | done | omega)) only [x_92_e, x_92_b, x_92_18, x_92_20, x_92_e, x_92_b, x_92_172, x_92_173, x_92_176, x_92_177, x_92_180, x_92_181, bk_v, bk_n, nl_I, nl_R, nl_L, nl_0, oo_lt, oo_le, oo_eq, oo_add, oo_sub, oo_tn, oo_ir, nn_leT, nn_leF, nn_ltT, nn_ltF, nn_eqT, nn_eqF, bv_0, bv_1, ko_b, ko_1, ko_0, true_and, and_true, if_true, if_false, not_true_eq_false, not_false_eq_true, oo_02, decide_eq_true_eq, decide_eq_false_iff_not, ite_not, Nat.reduceAdd, Nat.reduceLT, Nat.reduceSub, Nat.reduceLeDiff, reduceIte, Bool.true_eq_false, Bool.false_eq_true, reduceCtorEq, eq_self, decide_true, decide_false, bv_t, bv_f, and_self, t_si, t_sl, t_sr, t_sI, t_sR, n_si, n_sl, n_sr, n_sI, n_sR, r_si, r_sl, r_sI, hz]
    refine Eq.trans ?_ ((q1 Q).trans fin)
    simp (disch := first | omega | decide | exact ko_b _ | assumption | (simp only [t_si, t_sl, t_sr, t_sI, t_sR, n_si, n_sl, n_sr, n_sI, n_sR, r_si, r_sl, r_sI]; first | done | omega)) only [x_92_e, x_92_b, x_92_0, x_92_1, x_92_2, x_92_3, x_92_6, x_92_9, x_92_10, x_92_11, x_92_12, x_92_13, x_92_14, bk_v, bk_n, nl_I, nl_R, nl_L, nl_0, oo_lt, oo_le, oo_eq, oo_add, oo_sub, oo_tn, oo_ir, nn_leT, nn_leF, nn_ltT, nn_ltF, nn_eqT, nn_eqF, bv_0, bv_1, ko_b, ko_1, ko_0, true_and, and_true, if_true, if_false, not_true_eq_false, not_false_eq_true, oo_02, decide_eq_true_eq, decide_eq_false_iff_not, ite_not, Nat.reduceAdd, Nat.reduceLT, Nat.reduceSub, Nat.reduceLeDiff, reduceIte, Bool.true_eq_false, Bool.false_eq_true, reduceCtorEq, eq_self, decide_true, decide_false, bv_t, bv_f, and_self, t_si, t_sl, t_sr, t_sI, t_sR, n_si, n_sl, n_sr, n_sI, n_sR, r_si, r_sl, r_sI, c_in, hx, c_th1, o_i_n]
  · rw [if_neg hL]
    refine cr_0 fun Q => ?_
    have hq := RC_CQ h hV
    have hC := h.1
    unfold sh_C at hC
    have hr0 : w_r _ 1000 0 = some (gm_b G) := h.2.2.1
    have hT := h.2.2.2.1
    unfold CT_ at hT
    have hA : SO_ _ 1008 := h.2.1.2.1.1
    unfold SO_ at hA
    have hA2 : SO_ _ 1429 := h.2.1.2.2.2.2
    unfold SO_ at hA2
    have hS : CS_ _ 1008 (tm_n (sm_T S)) (bm_X (sm_B S)) := h.2.2.2.2.2.2.2.1.1
    unfold CS_ at hS
    have hK : sh_B _ 1007 := h.2.1.1
    unfold sh_B at hK
    have hB := h.2.2.2.2.2.2.2.1.2
    have hR := h.2.2.2.2.2.2.2.2.2
    simp only [Nat.reduceAdd] at hA hA2 hS hK hB
    obtain ⟨hn, hk4⟩ := hV.1
    obtain ⟨hW1, hW2, hW3⟩ := hV.2.2.2.1.1
    by_cases hz : x = Int32.ofNat 0
    · subst hz
      simp (disch := first | omega | decide | exact ko_b _ | assumption | (simp only [t_si, t_sl, t_sr, t_sI, t_sR, n_si, n_sl, n_sr, n_sI, n_sR, r_si, r_sl, r_sI]; first | done | omega)) only [x_92_e, x_92_b, x_92_0, x_92_1, x_92_2, x_92_3, x_92_6, x_92_9, x_92_10, x_92_11, x_92_12, x_92_13, x_92_14, x_92_16, x_92_18, x_92_20, x_92_23, x_92_24, x_92_27, x_92_30, x_92_31, x_92_e, x_92_b, x_92_172, x_92_173, x_92_176, x_92_177, x_92_180, x_92_181, bk_v, bk_n, nl_I, nl_R, nl_L, nl_0, oo_lt, oo_le, oo_eq, oo_add, oo_sub, oo_tn, oo_ir, nn_leT, nn_leF, nn_ltT, nn_ltF, nn_eqT, nn_eqF, bv_0, bv_1, ko_b, ko_1, ko_0, true_and, and_true, if_true, if_false, not_true_eq_false, not_false_eq_true, oo_02, decide_eq_true_eq, decide_eq_false_iff_not, ite_not, Nat.reduceAdd, Nat.reduceLT, Nat.reduceSub, Nat.reduceLeDiff, reduceIte, Bool.true_eq_false, Bool.false_eq_true, reduceCtorEq, eq_self, decide_true, decide_false, bv_t, bv_f, and_self, t_si, t_sl, t_sr, t_sI, t_sR, n_si, n_sl, n_sr, n_sI, n_sR, r_si, r_sl, r_sI, hC, hr0, hT, hA, hS, hK, hB, hR, c_in, hx, c_th1, o_i_n]
    · simp (disch := first | omega | decide | exact ko_b _ | assumption | (simp only [t_si, t_sl, t_sr, t_sI, t_sR, n_si, n_sl, n_sr, n_sI, n_sR, r_si, r_sl, r_sI]; first | done | omega)) only [x_92_e, x_92_b, x_92_0, x_92_1, x_92_2, x_92_3, x_92_6, x_92_9, x_92_10, x_92_11, x_92_12, x_92_13, x_92_14, x_92_16, x_92_18, x_92_20, x_92_23, x_92_24, x_92_27, x_92_30, x_92_31, x_92_e, x_92_b, x_92_172, x_92_173, x_92_176, x_92_177, x_92_180, x_92_181, bk_v, bk_n, nl_I, nl_R, nl_L, nl_0, oo_lt, oo_le, oo_eq, oo_add, oo_sub, oo_tn, oo_ir, nn_leT, nn_leF, nn_ltT, nn_ltF, nn_eqT, nn_eqF, bv_0, bv_1, ko_b, ko_1, ko_0, true_and, and_true, if_true, if_false, not_true_eq_false, not_false_eq_true, oo_02, decide_eq_true_eq, decide_eq_false_iff_not, ite_not, Nat.reduceAdd, Nat.reduceLT, Nat.reduceSub, Nat.reduceLeDiff, reduceIte, Bool.true_eq_false, Bool.false_eq_true, reduceCtorEq, eq_self, decide_true, decide_false, bv_t, bv_f, and_self, t_si, t_sl, t_sr, t_sI, t_sR, n_si, n_sl, n_sr, n_sI, n_sR, r_si, r_sl, r_sI, hC, hr0, hT, hA, hS, hK, hB, hR, c_in, hx, c_th1, o_i_n, hz]
theorem c_game_x (h : RC_ w G σ S) (hV : WS_ S) {d : Nat} {x : Int32} (hx : ¬ (Int32.ofNat 0 ≤ x ∧ x ≤ Int32.ofNat 1)) : CX_ G (d + 13) 92 [v_R (some 1000), v_I x] w 40 := cx_0 fun Q => by
  simp (disch := first | omega | decide | exact ko_b _ | assumption | (simp only [t_si, t_sl, t_sr, t_sI, t_sR, n_si, n_sl, n_sr, n_sI, n_sR, r_si, r_sl, r_sI]; first | done | omega)) only [x_92_e, x_92_b, x_92_0, x_92_1, x_92_2, x_92_3, x_92_6, x_92_9, bk_v, bk_n, nl_I, nl_R, nl_L, nl_0, oo_lt, oo_le, oo_eq, oo_add, oo_sub, oo_tn, oo_ir, nn_leT, nn_leF, nn_ltT, nn_ltF, nn_eqT, nn_eqF, bv_0, bv_1, ko_b, ko_1, ko_0, true_and, and_true, if_true, if_false, not_true_eq_false, not_false_eq_true, oo_02, decide_eq_true_eq, decide_eq_false_iff_not, ite_not, Nat.reduceAdd, Nat.reduceLT, Nat.reduceSub, Nat.reduceLeDiff, reduceIte, Bool.true_eq_false, Bool.false_eq_true, reduceCtorEq, eq_self, decide_true, decide_false, bv_t, bv_f, and_self, t_si, t_sl, t_sr, t_sI, t_sR, n_si, n_sl, n_sr, n_sI, n_sR, r_si, r_sl, r_sI, c_in, hx, c_th0]
theorem m_rests {T : Tm} {X : Xm} (h : MQ_ w T X) {d a b : Nat} {Q : Q_} (hL : 1 < xm_L X) : cl (d + 7) 256 [v_R (some 1440), v_I (Int32.ofNat a), v_I (Int32.ofNat b)] w Q = Q (Sum.inl (some (v_I (b_v (f_rest T X a b))))) w := by
  have hM0 := h.1.1
  have hg : ∀ (o l k : Nat) (Q : Q_), cl (d + 6) 257 [v_R (some 1440), v_I (Int32.ofNat o), v_I (Int32.ofNat l), v_I (Int32.ofNat k)] w Q = Q (Sum.inl (some (v_I (f_gn T X o l k)))) w := fun o l k Q => m_gain h hL
  have key := lp_fo (fun k => wp (d + 7) 256 2 [some (v_R (some 1440)), some (v_I (Int32.ofNat a)), some (v_I (Int32.ofNat b)), some (v_I (Int32.ofNat k))] [] w Q) (fun o => Q (Sum.inl (some (v_I (b_v o.isNone)))) w) (fun k => !f_rs T X a b k) 10 0 (fun k _ hk => ?_) ?_
  · unfold f_rest
    rw [← key]
    simp (disch := first | omega | decide | exact ko_b _ | assumption | (simp only [t_si, t_sl, t_sr, t_sI, t_sR, n_si, n_sl, n_sr, n_sI, n_sR, r_si, r_sl, r_sI]; first | done | omega)) only [x_256_e, x_256_b, x_256_0, x_256_1, bk_v, bk_n, nl_I, nl_R, nl_L, nl_0, oo_lt, oo_le, oo_eq, oo_add, oo_sub, oo_tn, oo_ir, nn_leT, nn_leF, nn_ltT, nn_ltF, nn_eqT, nn_eqF, bv_0, bv_1, ko_b, ko_1, ko_0, true_and, and_true, if_true, if_false, not_true_eq_false, not_false_eq_true, oo_02, decide_eq_true_eq, decide_eq_false_iff_not, ite_not, Nat.reduceAdd, Nat.reduceLT, Nat.reduceSub, Nat.reduceLeDiff, reduceIte, Bool.true_eq_false, Bool.false_eq_true, reduceCtorEq, eq_self, decide_true, decide_false, bv_t, bv_f, and_self, t_si, t_sl, t_sr, t_sI, t_sR, n_si, n_sl, n_sr, n_sI, n_sR, r_si, r_sl, r_sI]
  · rw [x_256_2]
    by_cases c1 : f_gn T X k k b ≤ f_gn T X a a b
    · have d1 := Int32.not_lt.mpr c1
      by_cases c2 : f_gn T X k a k ≤ f_gn T X b a b
      · have d2 := Int32.not_lt.mpr c2
        have e : f_rs T X a b k = true := decide_eq_true ⟨c1, c2⟩
        simp (disch := first | omega | decide | exact ko_b _ | assumption | (simp only [t_si, t_sl, t_sr, t_sI, t_sR, n_si, n_sl, n_sr, n_sI, n_sR, r_si, r_sl, r_sI]; first | done | omega)) only [x_256_e, x_256_b, x_256_3, x_256_5, x_256_8, x_256_9, x_256_10, x_256_11, x_256_12, x_256_15, x_256_16, x_256_17, x_256_18, x_256_19, x_256_22, x_256_25, x_256_26, x_256_27, x_256_28, x_256_29, x_256_32, x_256_33, x_256_34, x_256_35, x_256_36, x_256_39, x_256_42, x_256_43, x_256_44, x_256_47, x_256_50, x_256_51, bk_v, bk_n, nl_I, nl_R, nl_L, nl_0, oo_lt, oo_le, oo_eq, oo_add, oo_sub, oo_tn, oo_ir, nn_leT, nn_leF, nn_ltT, nn_ltF, nn_eqT, nn_eqF, bv_0, bv_1, ko_b, ko_1, ko_0, true_and, and_true, if_true, if_false, not_true_eq_false, not_false_eq_true, oo_02, decide_eq_true_eq, decide_eq_false_iff_not, ite_not, Nat.reduceAdd, Nat.reduceLT, Nat.reduceSub, Nat.reduceLeDiff, reduceIte, Bool.true_eq_false, Bool.false_eq_true, reduceCtorEq, eq_self, decide_true, decide_false, bv_t, bv_f, and_self, t_si, t_sl, t_sr, t_sI, t_sR, n_si, n_sl, n_sr, n_sI, n_sR, r_si, r_sl, r_sI, hg, c2, d1, d2, e, Bool.not_true]
      · have d2 := Int32.not_le.mp c2
        have e : f_rs T X a b k = false := decide_eq_false (fun z => c2 z.2)
        simp (disch := first | omega | decide | exact ko_b _ | assumption | (simp only [t_si, t_sl, t_sr, t_sI, t_sR, n_si, n_sl, n_sr, n_sI, n_sR, r_si, r_sl, r_sI]; first | done | omega)) only [x_256_e, x_256_b, x_256_3, x_256_5, x_256_8, x_256_9, x_256_10, x_256_11, x_256_12, x_256_15, x_256_16, x_256_17, x_256_18, x_256_19, x_256_22, x_256_25, x_256_26, x_256_27, x_256_28, x_256_29, x_256_32, x_256_33, x_256_34, x_256_35, x_256_36, x_256_39, x_256_42, x_256_43, x_256_44, x_256_47, x_256_50, x_256_51, bk_v, bk_n, nl_I, nl_R, nl_L, nl_0, oo_lt, oo_le, oo_eq, oo_add, oo_sub, oo_tn, oo_ir, nn_leT, nn_leF, nn_ltT, nn_ltF, nn_eqT, nn_eqF, bv_0, bv_1, ko_b, ko_1, ko_0, true_and, and_true, if_true, if_false, not_true_eq_false, not_false_eq_true, oo_02, decide_eq_true_eq, decide_eq_false_iff_not, ite_not, Nat.reduceAdd, Nat.reduceLT, Nat.reduceSub, Nat.reduceLeDiff, reduceIte, Bool.true_eq_false, Bool.false_eq_true, reduceCtorEq, eq_self, decide_true, decide_false, bv_t, bv_f, and_self, t_si, t_sl, t_sr, t_sI, t_sR, n_si, n_sl, n_sr, n_sI, n_sR, r_si, r_sl, r_sI, hg, c2, d1, d2, e, Bool.not_false, Option.isNone_some]
    · have d1 := Int32.not_le.mp c1
      have e : f_rs T X a b k = false := decide_eq_false (fun z => c1 z.1)
      simp (disch := first | omega | decide | exact ko_b _ | assumption | (simp only [t_si, t_sl, t_sr, t_sI, t_sR, n_si, n_sl, n_sr, n_sI, n_sR, r_si, r_sl, r_sI]; first | done | omega)) only [x_256_e, x_256_b, x_256_3, x_256_5, x_256_8, x_256_9, x_256_10, x_256_11, x_256_12, x_256_15, x_256_16, x_256_17, x_256_18, x_256_19, x_256_22, x_256_25, x_256_26, x_256_27, x_256_28, x_256_29, x_256_32, x_256_33, x_256_34, x_256_35, x_256_36, x_256_39, x_256_42, x_256_43, x_256_44, x_256_47, x_256_50, x_256_51, bk_v, bk_n, nl_I, nl_R, nl_L, nl_0, oo_lt, oo_le, oo_eq, oo_add, oo_sub, oo_tn, oo_ir, nn_leT, nn_leF, nn_ltT, nn_ltF, nn_eqT, nn_eqF, bv_0, bv_1, ko_b, ko_1, ko_0, true_and, and_true, if_true, if_false, not_true_eq_false, not_false_eq_true, oo_02, decide_eq_true_eq, decide_eq_false_iff_not, ite_not, Nat.reduceAdd, Nat.reduceLT, Nat.reduceSub, Nat.reduceLeDiff, reduceIte, Bool.true_eq_false, Bool.false_eq_true, reduceCtorEq, eq_self, decide_true, decide_false, bv_t, bv_f, and_self, t_si, t_sl, t_sr, t_sI, t_sR, n_si, n_sl, n_sr, n_sI, n_sR, r_si, r_sl, r_sI, hg, c1, d1, e, Bool.not_false, Option.isNone_some]
  · rw [x_256_2]
    simp (disch := first | omega | decide | exact ko_b _ | assumption | (simp only [t_si, t_sl, t_sr, t_sI, t_sR, n_si, n_sl, n_sr, n_sI, n_sR, r_si, r_sl, r_sI]; first | done | omega)) only [x_256_e, x_256_b, x_256_3, x_256_5, x_256_8, x_256_9, x_256_10, x_256_11, x_256_12, x_256_15, x_256_16, x_256_17, x_256_18, x_256_19, x_256_22, x_256_25, x_256_26, x_256_27, x_256_28, x_256_29, x_256_32, x_256_33, x_256_34, x_256_35, x_256_36, x_256_39, x_256_42, x_256_43, x_256_44, x_256_47, x_256_50, x_256_51, bk_v, bk_n, nl_I, nl_R, nl_L, nl_0, oo_lt, oo_le, oo_eq, oo_add, oo_sub, oo_tn, oo_ir, nn_leT, nn_leF, nn_ltT, nn_ltF, nn_eqT, nn_eqF, bv_0, bv_1, ko_b, ko_1, ko_0, true_and, and_true, if_true, if_false, not_true_eq_false, not_false_eq_true, oo_02, decide_eq_true_eq, decide_eq_false_iff_not, ite_not, Nat.reduceAdd, Nat.reduceLT, Nat.reduceSub, Nat.reduceLeDiff, reduceIte, Bool.true_eq_false, Bool.false_eq_true, reduceCtorEq, eq_self, decide_true, decide_false, bv_t, bv_f, and_self, t_si, t_sl, t_sr, t_sI, t_sR, n_si, n_sl, n_sr, n_sI, n_sR, r_si, r_sl, r_sI, Option.isNone_none]
theorem m_game (h9 : RM_ w S) (hV : WS_ S) {d : Nat} {x : Int32} (hx : Int32.ofNat 0 ≤ x ∧ x ≤ Int32.ofNat 1) : MR_ (d + 8) 255 [v_R (some 1440), v_I x] w (v_I (if x = Int32.ofNat 0 then Int32.ofNat (f_game (sm_T S) (bm_X (sm_B S))).1 else o_i (f_game (sm_T S) (bm_X (sm_B S))).2)) 0 := by
  refine mr_go (ls := [some (v_R (some 1440)), some (v_I x), none, none, none]) (fun Q => ?_) (fun w0 hf hc => mr_0 hc (fun Q => ?_))
  · have h := h9
    have hq := RM_MQ h hV
    have hMM := hq
    obtain ⟨hM, hT, hS, ⟨hn, hk4⟩, hW1, hW2, hW3⟩ := hMM
    unfold sh_M at hM
    unfold MT_ at hT
    unfold MS_ at hS
    have hB := h.2.2.1.2
    unfold PK_ at hB
    have hR := h.2.2.2
    simp (disch := first | omega | decide | exact ko_b _ | assumption | (simp only [t_si, t_sl, t_sr, t_sI, t_sR, n_si, n_sl, n_sr, n_sI, n_sR, r_si, r_sl, r_sI]; first | done | omega)) only [x_255_e, x_255_b, x_255_0, x_255_1, x_255_2, x_255_6, x_255_9, x_255_10, x_255_11, x_255_14, x_255_15, x_255_16, x_255_19, x_255_20, x_255_21, x_255_22, x_255_23, x_255_24, x_255_25, x_255_29, x_255_31, x_255_34, x_255_35, x_255_38, x_255_39, x_255_42, x_255_43, x_255_45, x_255_47, x_255_48, x_255_50, x_255_52, x_255_53, x_255_56, x_255_59, x_255_62, x_255_65, x_255_66, x_255_67, x_255_70, x_255_72, x_255_75, x_255_76, x_255_77, x_255_80, x_255_83, x_255_84, x_255_87, x_255_88, x_255_91, x_255_92, bk_v, bk_n, nl_I, nl_R, nl_L, nl_0, oo_lt, oo_le, oo_eq, oo_add, oo_sub, oo_tn, oo_ir, nn_leT, nn_leF, nn_ltT, nn_ltF, nn_eqT, nn_eqF, bv_0, bv_1, ko_b, ko_1, ko_0, true_and, and_true, if_true, if_false, not_true_eq_false, not_false_eq_true, oo_02, decide_eq_true_eq, decide_eq_false_iff_not, ite_not, Nat.reduceAdd, Nat.reduceLT, Nat.reduceSub, Nat.reduceLeDiff, reduceIte, Bool.true_eq_false, Bool.false_eq_true, reduceCtorEq, eq_self, decide_true, decide_false, bv_t, bv_f, and_self, t_si, t_sl, t_sr, t_sI, t_sR, n_si, n_sl, n_sr, n_sI, n_sR, r_si, r_sl, r_sI, hM, hT, hS, hB, hR]
  · have h := RM_fr h9 hV hf
    have hq9 := RM_MQ h hV
    have n1 := Int32.not_lt.mpr hx.1
    have n2 := hx.2
    have hX9 := hV.2.2.2.1.1
    have hn10 := hV.1.1
    have hL9 := hX9.1
    unfold f_game
    by_cases hL : 1 < xm_L (bm_X (sm_B S))
    · rw [if_pos hL, ← it_nest (f_g1 (sm_T S) (bm_X (sm_B S))) (m := 10) (by decide) 10]
      have hr := fun a b Q => m_rests hq9 (d := d) (a := a) (b := b) (Q := Q) hL
      have key := lp_iv (fun c (s : Nat × Option Nat) => wp (d + 8) 255 27 [some (v_R (some 1440)), some (v_I x), some (v_I (Int32.ofNat s.1)), some (v_I (o_i s.2)), some (v_I (Int32.ofNat c))] [] w0 Q) (fun s => Q (Sum.inl (some (v_I (if x = Int32.ofNat 0 then Int32.ofNat s.1 else o_i s.2)))) w0) (fun c s => gm_ok s) (fun c s => f_g1 (sm_T S) (bm_X (sm_B S)) (c / 10) (c % 10) s) 100 0 (0, none) (fun y hy => by cases hy) (fun c s _ hc9 hs => ?_) (fun s hs => ?_)
      · refine Eq.trans ?_ key
        have hq := RM_MQ h hV
        have hMM := hq
        obtain ⟨hM, hT, hS, ⟨hn, hk4⟩, hW1, hW2, hW3⟩ := hMM
        unfold sh_M at hM
        unfold MT_ at hT
        unfold MS_ at hS
        have hB := h.2.2.1.2
        unfold PK_ at hB
        have hR := h.2.2.2
        simp (disch := first | omega | decide | exact ko_b _ | assumption | (simp only [t_si, t_sl, t_sr, t_sI, t_sR, n_si, n_sl, n_sr, n_sI, n_sR, r_si, r_sl, r_sI]; first | done | omega)) only [x_255_e, x_255_b, x_255_5, x_255_6, x_255_9, x_255_10, x_255_11, x_255_14, x_255_15, x_255_16, x_255_19, x_255_20, x_255_21, x_255_22, x_255_23, x_255_24, x_255_25, bk_v, bk_n, nl_I, nl_R, nl_L, nl_0, oo_lt, oo_le, oo_eq, oo_add, oo_sub, oo_tn, oo_ir, nn_leT, nn_leF, nn_ltT, nn_ltF, nn_eqT, nn_eqF, bv_0, bv_1, ko_b, ko_1, ko_0, true_and, and_true, if_true, if_false, not_true_eq_false, not_false_eq_true, oo_02, decide_eq_true_eq, decide_eq_false_iff_not, ite_not, Nat.reduceAdd, Nat.reduceLT, Nat.reduceSub, Nat.reduceLeDiff, reduceIte, Bool.true_eq_false, Bool.false_eq_true, reduceCtorEq, eq_self, decide_true, decide_false, bv_t, bv_f, and_self, t_si, t_sl, t_sr, t_sI, t_sR, n_si, n_sl, n_sr, n_sI, n_sR, r_si, r_sl, r_sI, n1, n2, o_i_n]
      · have hd : c / 10 < 10 := by omega
        have hm : c % 10 < 10 := by omega
        refine ⟨?_, gm_ok1 hs hd hm⟩
        have hq := RM_MQ h hV
        have hMM := hq
        obtain ⟨hM, hT, hS, ⟨hn, hk4⟩, hW1, hW2, hW3⟩ := hMM
        unfold sh_M at hM
        unfold MT_ at hT
        unfold MS_ at hS
        have hB := h.2.2.1.2
        unfold PK_ at hB
        have hR := h.2.2.2
        rw [x_255_27]
        unfold f_g1
        cases e : f_rest (sm_T S) (bm_X (sm_B S)) (c / 10) (c % 10) with
        | false => simp (disch := first | omega | decide | exact ko_b _ | assumption | (simp only [t_si, t_sl, t_sr, t_sI, t_sR, n_si, n_sl, n_sr, n_sI, n_sR, r_si, r_sl, r_sI]; first | done | omega)) only [x_255_e, x_255_b, x_255_29, x_255_31, x_255_34, x_255_35, x_255_38, x_255_39, x_255_42, x_255_43, x_255_45, x_255_47, x_255_48, x_255_50, x_255_52, x_255_53, x_255_56, x_255_59, x_255_62, x_255_65, x_255_66, x_255_67, x_255_70, x_255_72, x_255_75, x_255_76, x_255_77, x_255_80, bk_v, bk_n, nl_I, nl_R, nl_L, nl_0, oo_lt, oo_le, oo_eq, oo_add, oo_sub, oo_tn, oo_ir, nn_leT, nn_leF, nn_ltT, nn_ltF, nn_eqT, nn_eqF, bv_0, bv_1, ko_b, ko_1, ko_0, true_and, and_true, if_true, if_false, not_true_eq_false, not_false_eq_true, oo_02, decide_eq_true_eq, decide_eq_false_iff_not, ite_not, Nat.reduceAdd, Nat.reduceLT, Nat.reduceSub, Nat.reduceLeDiff, reduceIte, Bool.true_eq_false, Bool.false_eq_true, reduceCtorEq, eq_self, decide_true, decide_false, bv_t, bv_f, and_self, t_si, t_sl, t_sr, t_sI, t_sR, n_si, n_sl, n_sr, n_sI, n_sR, r_si, r_sl, r_sI, hM, hT, hS, hB, hR, oo_div, oo_rem, oo_rem2, nmd_r, hr, e]
        | true =>
          cases e2 : s.2 with
          | none => simp (disch := first | omega | decide | exact ko_b _ | assumption | (simp only [t_si, t_sl, t_sr, t_sI, t_sR, n_si, n_sl, n_sr, n_sI, n_sR, r_si, r_sl, r_sI]; first | done | omega)) only [x_255_e, x_255_b, x_255_29, x_255_31, x_255_34, x_255_35, x_255_38, x_255_39, x_255_42, x_255_43, x_255_45, x_255_47, x_255_48, x_255_50, x_255_52, x_255_53, x_255_56, x_255_59, x_255_62, x_255_65, x_255_66, x_255_67, x_255_70, x_255_72, x_255_75, x_255_76, x_255_77, x_255_80, bk_v, bk_n, nl_I, nl_R, nl_L, nl_0, oo_lt, oo_le, oo_eq, oo_add, oo_sub, oo_tn, oo_ir, nn_leT, nn_leF, nn_ltT, nn_ltF, nn_eqT, nn_eqF, bv_0, bv_1, ko_b, ko_1, ko_0, true_and, and_true, if_true, if_false, not_true_eq_false, not_false_eq_true, oo_02, decide_eq_true_eq, decide_eq_false_iff_not, ite_not, Nat.reduceAdd, Nat.reduceLT, Nat.reduceSub, Nat.reduceLeDiff, reduceIte, Bool.true_eq_false, Bool.false_eq_true, reduceCtorEq, eq_self, decide_true, decide_false, bv_t, bv_f, and_self, t_si, t_sl, t_sr, t_sI, t_sR, n_si, n_sl, n_sr, n_sI, n_sR, r_si, r_sl, r_sI, hM, hT, hS, hB, hR, oo_div, oo_rem, oo_rem2, nmd_r, hr, e, e2, o_i_n, o_i_s, Option.getD_none, show 10 * (c / 10) + c % 10 = c from Nat.div_add_mod c 10]
          | some y =>
            have hy := hs y e2
            have hne := oi_s1 (by omega : y < 2147483648)
            simp (disch := first | omega | decide | exact ko_b _ | assumption | (simp only [t_si, t_sl, t_sr, t_sI, t_sR, n_si, n_sl, n_sr, n_sI, n_sR, r_si, r_sl, r_sI]; first | done | omega)) only [x_255_e, x_255_b, x_255_29, x_255_31, x_255_34, x_255_35, x_255_38, x_255_39, x_255_42, x_255_43, x_255_45, x_255_47, x_255_48, x_255_50, x_255_52, x_255_53, x_255_56, x_255_59, x_255_62, x_255_65, x_255_66, x_255_67, x_255_70, x_255_72, x_255_75, x_255_76, x_255_77, x_255_80, bk_v, bk_n, nl_I, nl_R, nl_L, nl_0, oo_lt, oo_le, oo_eq, oo_add, oo_sub, oo_tn, oo_ir, nn_leT, nn_leF, nn_ltT, nn_ltF, nn_eqT, nn_eqF, bv_0, bv_1, ko_b, ko_1, ko_0, true_and, and_true, if_true, if_false, not_true_eq_false, not_false_eq_true, oo_02, decide_eq_true_eq, decide_eq_false_iff_not, ite_not, Nat.reduceAdd, Nat.reduceLT, Nat.reduceSub, Nat.reduceLeDiff, reduceIte, Bool.true_eq_false, Bool.false_eq_true, reduceCtorEq, eq_self, decide_true, decide_false, bv_t, bv_f, and_self, t_si, t_sl, t_sr, t_sI, t_sR, n_si, n_sl, n_sr, n_sI, n_sR, r_si, r_sl, r_sI, hM, hT, hS, hB, hR, oo_div, oo_rem, oo_rem2, nmd_r, hr, e, e2, o_i_s, hne, Option.getD_some]
      · rw [x_255_27]
        by_cases hz : x = Int32.ofNat 0
        · simp (disch := first | omega | decide | exact ko_b _ | assumption | (simp only [t_si, t_sl, t_sr, t_sI, t_sR, n_si, n_sl, n_sr, n_sI, n_sR, r_si, r_sl, r_sI]; first | done | omega)) only [x_255_e, x_255_b, x_255_29, x_255_31, x_255_34, x_255_35, x_255_38, x_255_39, x_255_42, x_255_43, x_255_45, x_255_47, x_255_48, x_255_50, x_255_52, x_255_53, x_255_56, x_255_59, x_255_62, x_255_65, x_255_66, x_255_67, x_255_70, x_255_72, x_255_75, x_255_76, x_255_77, x_255_80, x_255_83, x_255_84, x_255_87, x_255_88, x_255_91, x_255_92, bk_v, bk_n, nl_I, nl_R, nl_L, nl_0, oo_lt, oo_le, oo_eq, oo_add, oo_sub, oo_tn, oo_ir, nn_leT, nn_leF, nn_ltT, nn_ltF, nn_eqT, nn_eqF, bv_0, bv_1, ko_b, ko_1, ko_0, true_and, and_true, if_true, if_false, not_true_eq_false, not_false_eq_true, oo_02, decide_eq_true_eq, decide_eq_false_iff_not, ite_not, Nat.reduceAdd, Nat.reduceLT, Nat.reduceSub, Nat.reduceLeDiff, reduceIte, Bool.true_eq_false, Bool.false_eq_true, reduceCtorEq, eq_self, decide_true, decide_false, bv_t, bv_f, and_self, t_si, t_sl, t_sr, t_sI, t_sR, n_si, n_sl, n_sr, n_sI, n_sR, r_si, r_sl, r_sI, hz]
        · simp (disch := first | omega | decide | exact ko_b _ | assumption | (simp only [t_si, t_sl, t_sr, t_sI, t_sR, n_si, n_sl, n_sr, n_sI, n_sR, r_si, r_sl, r_sI]; first | done | omega)) only [x_255_e, x_255_b, x_255_29, x_255_31, x_255_34, x_255_35, x_255_38, x_255_39, x_255_42, x_255_43, x_255_45, x_255_47, x_255_48, x_255_50, x_255_52, x_255_53, x_255_56, x_255_59, x_255_62, x_255_65, x_255_66, x_255_67, x_255_70, x_255_72, x_255_75, x_255_76, x_255_77, x_255_80, x_255_83, x_255_84, x_255_87, x_255_88, x_255_91, x_255_92, bk_v, bk_n, nl_I, nl_R, nl_L, nl_0, oo_lt, oo_le, oo_eq, oo_add, oo_sub, oo_tn, oo_ir, nn_leT, nn_leF, nn_ltT, nn_ltF, nn_eqT, nn_eqF, bv_0, bv_1, ko_b, ko_1, ko_0, true_and, and_true, if_true, if_false, not_true_eq_false, not_false_eq_true, oo_02, decide_eq_true_eq, decide_eq_false_iff_not, ite_not, Nat.reduceAdd, Nat.reduceLT, Nat.reduceSub, Nat.reduceLeDiff, reduceIte, Bool.true_eq_false, Bool.false_eq_true, reduceCtorEq, eq_self, decide_true, decide_false, bv_t, bv_f, and_self, t_si, t_sl, t_sr, t_sI, t_sR, n_si, n_sl, n_sr, n_sI, n_sR, r_si, r_sl, r_sI, hz]
    · rw [if_neg hL]
      have hq := RM_MQ h hV
      have hMM := hq
      obtain ⟨hM, hT, hS, ⟨hn, hk4⟩, hW1, hW2, hW3⟩ := hMM
      unfold sh_M at hM
      unfold MT_ at hT
      unfold MS_ at hS
      have hB := h.2.2.1.2
      unfold PK_ at hB
      have hR := h.2.2.2
      by_cases hz : x = Int32.ofNat 0
      · subst hz
        simp (disch := first | omega | decide | exact ko_b _ | assumption | (simp only [t_si, t_sl, t_sr, t_sI, t_sR, n_si, n_sl, n_sr, n_sI, n_sR, r_si, r_sl, r_sI]; first | done | omega)) only [x_255_e, x_255_b, x_255_5, x_255_6, x_255_9, x_255_10, x_255_11, x_255_14, x_255_15, x_255_16, x_255_19, x_255_20, x_255_21, x_255_22, x_255_23, x_255_24, x_255_25, x_255_27, x_255_29, x_255_31, x_255_34, x_255_35, x_255_38, x_255_39, x_255_e, x_255_b, x_255_83, x_255_84, x_255_87, x_255_88, x_255_91, x_255_92, bk_v, bk_n, nl_I, nl_R, nl_L, nl_0, oo_lt, oo_le, oo_eq, oo_add, oo_sub, oo_tn, oo_ir, nn_leT, nn_leF, nn_ltT, nn_ltF, nn_eqT, nn_eqF, bv_0, bv_1, ko_b, ko_1, ko_0, true_and, and_true, if_true, if_false, not_true_eq_false, not_false_eq_true, oo_02, decide_eq_true_eq, decide_eq_false_iff_not, ite_not, Nat.reduceAdd, Nat.reduceLT, Nat.reduceSub, Nat.reduceLeDiff, reduceIte, Bool.true_eq_false, Bool.false_eq_true, reduceCtorEq, eq_self, decide_true, decide_false, bv_t, bv_f, and_self, t_si, t_sl, t_sr, t_sI, t_sR, n_si, n_sl, n_sr, n_sI, n_sR, r_si, r_sl, r_sI, hM, hT, hS, hB, hR, o_i_n]
      · simp (disch := first | omega | decide | exact ko_b _ | assumption | (simp only [t_si, t_sl, t_sr, t_sI, t_sR, n_si, n_sl, n_sr, n_sI, n_sR, r_si, r_sl, r_sI]; first | done | omega)) only [x_255_e, x_255_b, x_255_5, x_255_6, x_255_9, x_255_10, x_255_11, x_255_14, x_255_15, x_255_16, x_255_19, x_255_20, x_255_21, x_255_22, x_255_23, x_255_24, x_255_25, x_255_27, x_255_29, x_255_31, x_255_34, x_255_35, x_255_38, x_255_39, x_255_e, x_255_b, x_255_83, x_255_84, x_255_87, x_255_88, x_255_91, x_255_92, bk_v, bk_n, nl_I, nl_R, nl_L, nl_0, oo_lt, oo_le, oo_eq, oo_add, oo_sub, oo_tn, oo_ir, nn_leT, nn_leF, nn_ltT, nn_ltF, nn_eqT, nn_eqF, bv_0, bv_1, ko_b, ko_1, ko_0, true_and, and_true, if_true, if_false, not_true_eq_false, not_false_eq_true, oo_02, decide_eq_true_eq, decide_eq_false_iff_not, ite_not, Nat.reduceAdd, Nat.reduceLT, Nat.reduceSub, Nat.reduceLeDiff, reduceIte, Bool.true_eq_false, Bool.false_eq_true, reduceCtorEq, eq_self, decide_true, decide_false, bv_t, bv_f, and_self, t_si, t_sl, t_sr, t_sI, t_sR, n_si, n_sl, n_sr, n_sI, n_sR, r_si, r_sl, r_sI, hM, hT, hS, hB, hR, n1, n2, hz, o_i_n]
theorem m_game_x (h9 : RM_ w S) (hV : WS_ S) {d : Nat} {x : Int32} (hx : ¬ (Int32.ofNat 0 ≤ x ∧ x ≤ Int32.ofNat 1)) : MR_ (d + 8) 255 [v_R (some 1440), v_I x] w (v_I (Int32.ofNat 0)) 1 := by
  refine mr_go (ls := [some (v_R (some 1440)), some (v_I x), none, none, none]) (fun Q => ?_) (fun w0 hf hc => mr_f (fun Q => ?_))
  · have h := h9
    have hq := RM_MQ h hV
    have hMM := hq
    obtain ⟨hM, hT, hS, ⟨hn, hk4⟩, hW1, hW2, hW3⟩ := hMM
    unfold sh_M at hM
    unfold MT_ at hT
    unfold MS_ at hS
    have hB := h.2.2.1.2
    unfold PK_ at hB
    have hR := h.2.2.2
    simp (disch := first | omega | decide | exact ko_b _ | assumption | (simp only [t_si, t_sl, t_sr, t_sI, t_sR, n_si, n_sl, n_sr, n_sI, n_sR, r_si, r_sl, r_sI]; first | done | omega)) only [x_255_e, x_255_b, x_255_0, x_255_1, x_255_2, x_255_6, x_255_9, x_255_10, x_255_11, x_255_14, x_255_15, x_255_16, x_255_19, x_255_20, x_255_21, x_255_22, x_255_23, x_255_24, x_255_25, x_255_29, x_255_31, x_255_34, x_255_35, x_255_38, x_255_39, x_255_42, x_255_43, x_255_45, x_255_47, x_255_48, x_255_50, x_255_52, x_255_53, x_255_56, x_255_59, x_255_62, x_255_65, x_255_66, x_255_67, x_255_70, x_255_72, x_255_75, x_255_76, x_255_77, x_255_80, x_255_83, x_255_84, x_255_87, x_255_88, x_255_91, x_255_92, bk_v, bk_n, nl_I, nl_R, nl_L, nl_0, oo_lt, oo_le, oo_eq, oo_add, oo_sub, oo_tn, oo_ir, nn_leT, nn_leF, nn_ltT, nn_ltF, nn_eqT, nn_eqF, bv_0, bv_1, ko_b, ko_1, ko_0, true_and, and_true, if_true, if_false, not_true_eq_false, not_false_eq_true, oo_02, decide_eq_true_eq, decide_eq_false_iff_not, ite_not, Nat.reduceAdd, Nat.reduceLT, Nat.reduceSub, Nat.reduceLeDiff, reduceIte, Bool.true_eq_false, Bool.false_eq_true, reduceCtorEq, eq_self, decide_true, decide_false, bv_t, bv_f, and_self, t_si, t_sl, t_sr, t_sI, t_sR, n_si, n_sl, n_sr, n_sI, n_sR, r_si, r_sl, r_sI, hM, hT, hS, hB, hR]
  · have h := RM_fr h9 hV hf
    have hq := RM_MQ h hV
    have hMM := hq
    obtain ⟨hM, hT, hS, ⟨hn, hk4⟩, hW1, hW2, hW3⟩ := hMM
    unfold sh_M at hM
    unfold MT_ at hT
    unfold MS_ at hS
    have hB := h.2.2.1.2
    unfold PK_ at hB
    have hR := h.2.2.2
    have hM0 := hM.1
    by_cases c : x < Int32.ofNat 0
    · simp (disch := first | omega | decide | exact ko_b _ | assumption | (simp only [t_si, t_sl, t_sr, t_sI, t_sR, n_si, n_sl, n_sr, n_sI, n_sR, r_si, r_sl, r_sI]; first | done | omega)) only [x_255_e, x_255_b, x_255_5, x_255_6, x_255_9, x_255_10, x_255_11, x_255_14, x_255_15, x_255_16, x_255_19, x_255_20, bk_v, bk_n, nl_I, nl_R, nl_L, nl_0, oo_lt, oo_le, oo_eq, oo_add, oo_sub, oo_tn, oo_ir, nn_leT, nn_leF, nn_ltT, nn_ltF, nn_eqT, nn_eqF, bv_0, bv_1, ko_b, ko_1, ko_0, true_and, and_true, if_true, if_false, not_true_eq_false, not_false_eq_true, oo_02, decide_eq_true_eq, decide_eq_false_iff_not, ite_not, Nat.reduceAdd, Nat.reduceLT, Nat.reduceSub, Nat.reduceLeDiff, reduceIte, Bool.true_eq_false, Bool.false_eq_true, reduceCtorEq, eq_self, decide_true, decide_false, bv_t, bv_f, and_self, t_si, t_sl, t_sr, t_sI, t_sR, n_si, n_sl, n_sr, n_sI, n_sR, r_si, r_sl, r_sI, hM, hT, hS, hB, hR, c, m_fail hM0]
    · have c2 : ¬ x ≤ Int32.ofNat 1 := fun z => hx ⟨Int32.not_lt.mp c, z⟩
      simp (disch := first | omega | decide | exact ko_b _ | assumption | (simp only [t_si, t_sl, t_sr, t_sI, t_sR, n_si, n_sl, n_sr, n_sI, n_sR, r_si, r_sl, r_sI]; first | done | omega)) only [x_255_e, x_255_b, x_255_5, x_255_6, x_255_9, x_255_10, x_255_11, x_255_14, x_255_15, x_255_16, x_255_19, x_255_20, bk_v, bk_n, nl_I, nl_R, nl_L, nl_0, oo_lt, oo_le, oo_eq, oo_add, oo_sub, oo_tn, oo_ir, nn_leT, nn_leF, nn_ltT, nn_ltF, nn_eqT, nn_eqF, bv_0, bv_1, ko_b, ko_1, ko_0, true_and, and_true, if_true, if_false, not_true_eq_false, not_false_eq_true, oo_02, decide_eq_true_eq, decide_eq_false_iff_not, ite_not, Nat.reduceAdd, Nat.reduceLT, Nat.reduceSub, Nat.reduceLeDiff, reduceIte, Bool.true_eq_false, Bool.false_eq_true, reduceCtorEq, eq_self, decide_true, decide_false, bv_t, bv_f, and_self, t_si, t_sl, t_sr, t_sI, t_sR, n_si, n_sl, n_sr, n_sI, n_sR, r_si, r_sl, r_sI, hM, hT, hS, hB, hR, c, c2, m_fail hM0]
end
