/-! THE COMPONENT's tables read -/
set_option maxRecDepth 100000
section
variable {t : Tp} {R : Nat}
theorem ks_cs {b k : Nat} (h : ks_ t b = some k) : (k = 0 ∧ is_w t b [112, 105, 110, 101] = true) ∨ (k = 1 ∧ is_w t b [112, 105, 110, 101] = false ∧ is_w t b [111, 97, 107] = true) ∨ (k = 2 ∧ is_w t b [112, 105, 110, 101] = false ∧ is_w t b [111, 97, 107] = false ∧ is_w t b [102, 111, 108, 100, 105, 110, 103] = true) ∨ (k = 3 ∧ is_w t b [112, 105, 110, 101] = false ∧ is_w t b [111, 97, 107] = false ∧ is_w t b [102, 111, 108, 100, 105, 110, 103] = false ∧ is_w t b [99, 97, 115, 116, 111, 114] = true) := by
  unfold ks_ at h
  by_cases c1 : is_w t b [112, 105, 110, 101] = true
  · rw [if_pos c1] at h; cases h; exact Or.inl ⟨rfl, c1⟩
  · rw [if_neg c1] at h
    have c1 := Bool.eq_false_iff.mpr c1
    by_cases c2 : is_w t b [111, 97, 107] = true
    · rw [if_pos c2] at h; cases h; exact Or.inr (Or.inl ⟨rfl, c1, c2⟩)
    · rw [if_neg c2] at h
      have c2 := Bool.eq_false_iff.mpr c2
      by_cases c3 : is_w t b [102, 111, 108, 100, 105, 110, 103] = true
      · rw [if_pos c3] at h; cases h; exact Or.inr (Or.inr (Or.inl ⟨rfl, c1, c2, c3⟩))
      · rw [if_neg c3] at h
        have c3 := Bool.eq_false_iff.mpr c3
        by_cases c4 : is_w t b [99, 97, 115, 116, 111, 114] = true
        · rw [if_pos c4] at h; cases h; exact Or.inr (Or.inr (Or.inr ⟨rfl, c1, c2, c3, c4⟩))
        · rw [if_neg c4] at h; cases h
theorem ws_1 : Ws_ [112, 105, 110, 101] ∧ Ws_ [111, 97, 107] ∧ Ws_ [102, 111, 108, 100, 105, 110, 103] ∧ Ws_ [99, 97, 115, 116, 111, 114] := ⟨⟨as_d (by decide), by decide, by decide⟩, ⟨as_d (by decide), by decide, by decide⟩, ⟨as_d (by decide), by decide, by decide⟩, ⟨as_d (by decide), by decide, by decide⟩⟩
theorem Sd_kp {P : Nat → Prop} {w w1 : Wd} {q p n : Nat} {c : Nat → Nat} (h : Sd_ w q p n c) (k : Kp_ P w w1) (hq : P q) (hp : P p) : Sd_ w1 q p n c := by
  obtain ⟨d1, d2, d3, d4, d5, d6, d7, d8, d9⟩ := h
  obtain ⟨a1, a2, a3, a4, a5⟩ := k q hq
  obtain ⟨b1, b2, b3, b4, b5⟩ := k p hp
  exact ⟨a1.trans d1, (a4 0).trans d2, (a3 1).trans d3, b1.trans d4, b2.trans d5, d6, fun k hk => (b3 k).trans (d7 k hk), d8, d9⟩
/-- what a table's reading gives -/
def Ot_ (t : Tp) (R : Nat) (w : Wd) (b k n : Nat) (r : (Nat × Nat) ⊕ (Tm × Nat)) (L : Q_ → Prop) : Prop := match r with
  | Sum.inl e => Tx_ t R w b e L
  | Sum.inr q => ∃ w1 N, (Fk_ R w w1 ∧ Ce_ w1 R t ∧ Cr_ w1 R t q.2 ∧ (b ≤ q.2 ∧ w_z w1 + 12 * b + 2 ≤ w_z w + 12 * q.2 ∧ w_s w1 + 60 * b + 20 ≤ w_s w + 60 * q.2) ∧ (w_z w ≤ N ∧ N < w_z w1 ∧ w_t w1 N = 32 + k) ∧ w_i w1 N 0 = tm_wt q.1 n ∧ w_i w1 N 1 = tm_br q.1 n ∧ w_i w1 N 2 = tm_ln q.1 n ∧ w_i w1 N 3 = tm_hg q.1 n) ∧ ∀ Q, L Q = Q (Sum.inl (some (v_R (some N)))) w1
def tb4_ (N : Nat) (v1 v2 v3 v4 : Int32) (w : Wd) : Wd := s_i (s_i (s_i (s_i w N 0 v1) N 1 v2) N 2 v3) N 3 v4
theorem c_made {w : Wd} {d : Nat} {v1 v2 v3 v4 : Int32} {q p b k : Nat} {pn : Option Nat} {less : Int32} (hR : w_t w R = 26) (hks : ks_ t b = some k) (k1 : tk_k t b = 1) (hK : KS_ w) (hd : Sd_ w q p (min (tk_e t b - b) 9) (fun k => t.1 (b + k))) {Q : Q_} : wp (d + 4) 283 71 [some (v_R (some R)), some (v_R (some q)), some (v_I v1), some (v_I v2), some (v_I less), some (v_I v3), some (v_I v4)] [] w Q = Q (Sum.inl (some (v_R (some (w_z w))))) (tb4_ (w_z w) v1 v2 v3 v4 (s_n w (32 + k) 4)) := by
  have tq := hd.1
  obtain ⟨w1, w2, w3, w4⟩ := ws_1
  have L1 := fun d Q => c_eq (d := d) (Q := Q) hd (ks_c hK (i := 23) (s := [112, 105, 110, 101]) (by omega) (by decide)) w1.1 (by omega)
  have L2 := fun d Q => c_eq (d := d) (Q := Q) hd (ks_c hK (i := 24) (s := [111, 97, 107]) (by omega) (by decide)) w2.1 (by omega)
  have L3 := fun d Q => c_eq (d := d) (Q := Q) hd (ks_c hK (i := 25) (s := [102, 111, 108, 100, 105, 110, 103]) (by omega) (by decide)) w3.1 (by omega)
  rw [eq_w w1 k1] at L1
  rw [eq_w w2 k1] at L2
  rw [eq_w w3 k1] at L3
  simp only [Nat.reduceAdd] at L1 L2 L3
  unfold tb4_
  rcases ks_cs hks with ⟨rfl, c1⟩ | ⟨rfl, c1, c2⟩ | ⟨rfl, c1, c2, c3⟩ | ⟨rfl, c1, c2, c3, c4⟩
  · rw [c1] at L1
    have tn : w_t (s_n w 32 4) (w_z w) = 32 := by rw [t_sn, if_pos rfl]
    simp (disch := first | omega | decide | exact ko_b _ | assumption | (simp only [t_si, t_sl, t_sr, t_sI, t_sR, n_si, n_sl, n_sr, n_sI, n_sR, r_si, r_sl, r_sI]; first | done | omega)) only [x_283_e, x_283_b, x_283_71, x_283_72, x_283_74, x_283_77, x_283_80, x_283_83, x_283_84, x_283_85, x_283_86, x_283_88, x_283_90, x_283_93, x_112_e, x_112_b, x_112_0, x_112_1, x_112_4, x_112_5, x_112_6, x_112_9, x_112_10, x_112_11, x_112_14, x_112_15, x_112_16, x_112_19, x_112_20, x_112_22, x_112_25, bk_v, bk_n, nl_I, nl_R, nl_L, nl_0, oo_lt, oo_le, oo_eq, oo_add, oo_sub, oo_tn, oo_ir, nn_leT, nn_leF, nn_ltT, nn_ltF, nn_eqT, nn_eqF, bv_0, bv_1, ko_b, ko_1, ko_0, true_and, and_true, if_true, if_false, not_true_eq_false, not_false_eq_true, oo_02, decide_eq_true_eq, decide_eq_false_iff_not, ite_not, Nat.reduceAdd, Nat.reduceLT, Nat.reduceSub, Nat.reduceLeDiff, reduceIte, Bool.true_eq_false, Bool.false_eq_true, reduceCtorEq, eq_self, decide_true, decide_false, bv_t, bv_f, and_self, t_si, t_sl, t_sr, t_sI, t_sR, n_si, n_sl, n_sr, n_sI, n_sR, r_si, r_sl, r_sI, L1]
  · rw [c1] at L1
    rw [c2] at L2
    have tn : w_t (s_n w 33 4) (w_z w) = 33 := by rw [t_sn, if_pos rfl]
    simp (disch := first | omega | decide | exact ko_b _ | assumption | (simp only [t_si, t_sl, t_sr, t_sI, t_sR, n_si, n_sl, n_sr, n_sI, n_sR, r_si, r_sl, r_sI]; first | done | omega)) only [x_283_e, x_283_b, x_283_71, x_283_72, x_283_74, x_283_77, x_283_e, x_283_b, x_283_94, x_283_95, x_283_97, x_283_100, x_283_103, x_283_106, x_283_107, x_283_108, x_283_109, x_283_111, x_283_113, x_283_116, x_116_e, x_116_b, x_116_0, x_116_1, x_116_2, x_116_3, x_116_4, x_116_6, x_116_9, x_112_e, x_112_b, x_112_0, x_112_1, x_112_4, x_112_5, x_112_6, x_112_9, x_112_10, x_112_11, x_112_14, x_112_15, x_112_16, x_112_19, x_112_20, x_112_22, x_112_25, bk_v, bk_n, nl_I, nl_R, nl_L, nl_0, oo_lt, oo_le, oo_eq, oo_add, oo_sub, oo_tn, oo_ir, nn_leT, nn_leF, nn_ltT, nn_ltF, nn_eqT, nn_eqF, bv_0, bv_1, ko_b, ko_1, ko_0, true_and, and_true, if_true, if_false, not_true_eq_false, not_false_eq_true, oo_02, decide_eq_true_eq, decide_eq_false_iff_not, ite_not, Nat.reduceAdd, Nat.reduceLT, Nat.reduceSub, Nat.reduceLeDiff, reduceIte, Bool.true_eq_false, Bool.false_eq_true, reduceCtorEq, eq_self, decide_true, decide_false, bv_t, bv_f, and_self, t_si, t_sl, t_sr, t_sI, t_sR, n_si, n_sl, n_sr, n_sI, n_sR, r_si, r_sl, r_sI, L1, L2]
  · rw [c1] at L1
    rw [c2] at L2
    rw [c3] at L3
    have tn : w_t (s_n w 34 4) (w_z w) = 34 := by rw [t_sn, if_pos rfl]
    simp (disch := first | omega | decide | exact ko_b _ | assumption | (simp only [t_si, t_sl, t_sr, t_sI, t_sR, n_si, n_sl, n_sr, n_sI, n_sR, r_si, r_sl, r_sI]; first | done | omega)) only [x_283_e, x_283_b, x_283_71, x_283_72, x_283_74, x_283_77, x_283_e, x_283_b, x_283_94, x_283_95, x_283_97, x_283_100, x_283_e, x_283_b, x_283_117, x_283_118, x_283_120, x_283_123, x_283_126, x_283_129, x_283_130, x_283_131, x_283_132, x_283_134, x_283_136, x_283_139, x_283_142, x_283_145, x_283_146, x_283_147, x_283_148, x_283_150, x_283_152, x_283_155, x_120_e, x_120_b, x_120_0, x_120_1, x_120_2, x_120_3, x_120_4, x_120_6, x_120_9, x_112_e, x_112_b, x_112_0, x_112_1, x_112_4, x_112_5, x_112_6, x_112_9, x_112_10, x_112_11, x_112_14, x_112_15, x_112_16, x_112_19, x_112_20, x_112_22, x_112_25, bk_v, bk_n, nl_I, nl_R, nl_L, nl_0, oo_lt, oo_le, oo_eq, oo_add, oo_sub, oo_tn, oo_ir, nn_leT, nn_leF, nn_ltT, nn_ltF, nn_eqT, nn_eqF, bv_0, bv_1, ko_b, ko_1, ko_0, true_and, and_true, if_true, if_false, not_true_eq_false, not_false_eq_true, oo_02, decide_eq_true_eq, decide_eq_false_iff_not, ite_not, Nat.reduceAdd, Nat.reduceLT, Nat.reduceSub, Nat.reduceLeDiff, reduceIte, Bool.true_eq_false, Bool.false_eq_true, reduceCtorEq, eq_self, decide_true, decide_false, bv_t, bv_f, and_self, t_si, t_sl, t_sr, t_sI, t_sR, n_si, n_sl, n_sr, n_sI, n_sR, r_si, r_sl, r_sI, L1, L2, L3]
  · rw [c1] at L1
    rw [c2] at L2
    rw [c3] at L3
    have tn : w_t (s_n w 35 4) (w_z w) = 35 := by rw [t_sn, if_pos rfl]
    simp (disch := first | omega | decide | exact ko_b _ | assumption | (simp only [t_si, t_sl, t_sr, t_sI, t_sR, n_si, n_sl, n_sr, n_sI, n_sR, r_si, r_sl, r_sI]; first | done | omega)) only [x_283_e, x_283_b, x_283_71, x_283_72, x_283_74, x_283_77, x_283_e, x_283_b, x_283_94, x_283_95, x_283_97, x_283_100, x_283_e, x_283_b, x_283_117, x_283_118, x_283_120, x_283_123, x_283_126, x_283_129, x_283_130, x_283_131, x_283_132, x_283_134, x_283_136, x_283_139, x_283_142, x_283_145, x_283_146, x_283_147, x_283_148, x_283_150, x_283_152, x_283_155, x_124_e, x_124_b, x_124_0, x_124_1, x_124_2, x_124_3, x_124_4, x_124_6, x_124_9, x_120_e, x_120_b, x_120_0, x_120_1, x_120_2, x_120_3, x_120_4, x_120_6, x_120_9, x_112_e, x_112_b, x_112_0, x_112_1, x_112_4, x_112_5, x_112_6, x_112_9, x_112_10, x_112_11, x_112_14, x_112_15, x_112_16, x_112_19, x_112_20, x_112_22, x_112_25, bk_v, bk_n, nl_I, nl_R, nl_L, nl_0, oo_lt, oo_le, oo_eq, oo_add, oo_sub, oo_tn, oo_ir, nn_leT, nn_leF, nn_ltT, nn_ltF, nn_eqT, nn_eqF, bv_0, bv_1, ko_b, ko_1, ko_0, true_and, and_true, if_true, if_false, not_true_eq_false, not_false_eq_true, oo_02, decide_eq_true_eq, decide_eq_false_iff_not, ite_not, Nat.reduceAdd, Nat.reduceLT, Nat.reduceSub, Nat.reduceLeDiff, reduceIte, Bool.true_eq_false, Bool.false_eq_true, reduceCtorEq, eq_self, decide_true, decide_false, bv_t, bv_f, and_self, t_si, t_sl, t_sr, t_sI, t_sR, n_si, n_sl, n_sr, n_sI, n_sR, r_si, r_sl, r_sI, L1, L2, L3]
theorem c_tbl {D b k : Nat} {T : Tm} {w : Wd} (hD : 12 ≤ D) (he : Ce_ w R t) (hr : Cr_ w R t b) (hks : ks_ t b = some k) : Ot_ t R w b k (tm_n T) (tb_ t T k b) (fun Q => cl D 283 [v_R (some R)] w Q) := by
  obtain ⟨d, rfl⟩ : ∃ d, D = d + 12 := ⟨D - 12, by omega⟩
  have k1 := (ks_lt hks).2
  have t0 := he.1.1
  have hb := hr.1
  have hbt := tk_gt (t := t) (b := b) (by omega)
  obtain ⟨hR1, hR2, hN6⟩ := Ce_z he
  obtain ⟨q, p, g1, ⟨g2, g3, g4, g5⟩, g6⟩ := hr.2.2.2.2.2 (Or.inl k1)
  obtain ⟨u1, ⟨f1, e1, c1, ⟨z1, s1⟩, b1⟩, q1⟩ := c_step (D := d + 11) (by omega) he hr (by omega)
  have t1 := e1.1.1
  unfold tb_
  have N1 := c_num (D := d + 11) (lo := 1) (hi := 99) (by omega) e1 c1 (by omega) (by omega)
  cases x1 : nm_ t 1 99 (tk_n t b) with
  | inl e =>
    rw [x1] at N1
    refine ty_tx (L2 := fun Q => cl (d + 11) 274 [v_R (some R), v_I (Int32.ofNat 1), v_I (Int32.ofNat 99)] u1 Q) N1 f1 hb (by unfold Bd_ at b1; omega) (by unfold Bd_ at b1; omega) (fun Q => ?_)
    obtain ⟨w1, x, h1, q2⟩ := N1
    have q2 : ∀ Q, cl (d + 11) 274 [v_R (some R), v_I (Int32.ofNat 1), v_I (Int32.ofNat 99)] u1 Q = Q (Sum.inr x) w1 := q2
    show cl (d + 12) 283 _ w Q = _
    rw [q2]
    simp (disch := first | omega | decide | exact ko_b _ | assumption | (simp only [t_si, t_sl, t_sr, t_sI, t_sR, n_si, n_sl, n_sr, n_sI, n_sR, r_si, r_sl, r_sI]; first | done | omega)) only [x_283_e, x_283_b, x_283_0, x_283_1, x_283_4, x_283_5, x_283_6, x_283_9, x_283_10, x_283_11, x_283_13, x_283_16, bk_v, bk_n, nl_I, nl_R, nl_L, nl_0, oo_lt, oo_le, oo_eq, oo_add, oo_sub, oo_tn, oo_ir, nn_leT, nn_leF, nn_ltT, nn_ltF, nn_eqT, nn_eqF, bv_0, bv_1, ko_b, ko_1, ko_0, true_and, and_true, if_true, if_false, not_true_eq_false, not_false_eq_true, oo_02, decide_eq_true_eq, decide_eq_false_iff_not, ite_not, Nat.reduceAdd, Nat.reduceLT, Nat.reduceSub, Nat.reduceLeDiff, reduceIte, Bool.true_eq_false, Bool.false_eq_true, reduceCtorEq, eq_self, decide_true, decide_false, bv_t, bv_f, and_self, t_si, t_sl, t_sr, t_sI, t_sR, n_si, n_sl, n_sr, n_sI, n_sR, r_si, r_sl, r_sI, g1, q1, q2]
  | inr r1 =>
    rw [x1] at N1
    obtain ⟨u2, ⟨f2, e2, c2, ⟨z2, s2⟩, b2⟩, q2⟩ := N1
    have q2 : ∀ Q, cl (d + 11) 274 [v_R (some R), v_I (Int32.ofNat 1), v_I (Int32.ofNat 99)] u1 Q = Q (Sum.inl (some (v_I (Int32.ofNat r1.1)))) u2 := q2
    have t2 := e2.1.1
    have bb2 := bd_tr b1 b2
    have F2 := fk_tr f1 f2
    have N2 := c_num (D := d + 11) (lo := 0) (hi := 999) (by omega) e2 c2 (by omega) (by omega)
    simp only
    cases x2 : nm_ t 0 999 r1.2 with
    | inl e =>
      rw [x2] at N2
      have hb2 := c2.1
      refine ty_tx (L2 := fun Q => cl (d + 11) 274 [v_R (some R), v_I (Int32.ofNat 0), v_I (Int32.ofNat 999)] u2 Q) N2 F2 hb (by unfold Bd_ at bb2; omega) (by unfold Bd_ at bb2; omega) (fun Q => ?_)
      obtain ⟨w1, x, h1, q3⟩ := N2
      have q3 : ∀ Q, cl (d + 11) 274 [v_R (some R), v_I (Int32.ofNat 0), v_I (Int32.ofNat 999)] u2 Q = Q (Sum.inr x) w1 := q3
      show cl (d + 12) 283 _ w Q = _
      rw [q3]
      simp (disch := first | omega | decide | exact ko_b _ | assumption | (simp only [t_si, t_sl, t_sr, t_sI, t_sR, n_si, n_sl, n_sr, n_sI, n_sR, r_si, r_sl, r_sI]; first | done | omega)) only [x_283_e, x_283_b, x_283_0, x_283_1, x_283_4, x_283_5, x_283_6, x_283_9, x_283_10, x_283_11, x_283_13, x_283_16, x_283_17, x_283_18, x_283_19, x_283_22, x_283_25, bk_v, bk_n, nl_I, nl_R, nl_L, nl_0, oo_lt, oo_le, oo_eq, oo_add, oo_sub, oo_tn, oo_ir, nn_leT, nn_leF, nn_ltT, nn_ltF, nn_eqT, nn_eqF, bv_0, bv_1, ko_b, ko_1, ko_0, true_and, and_true, if_true, if_false, not_true_eq_false, not_false_eq_true, oo_02, decide_eq_true_eq, decide_eq_false_iff_not, ite_not, Nat.reduceAdd, Nat.reduceLT, Nat.reduceSub, Nat.reduceLeDiff, reduceIte, Bool.true_eq_false, Bool.false_eq_true, reduceCtorEq, eq_self, decide_true, decide_false, bv_t, bv_f, and_self, t_si, t_sl, t_sr, t_sI, t_sR, n_si, n_sl, n_sr, n_sI, n_sR, r_si, r_sl, r_sI, g1, q1, q2, q3]
    | inr r2 =>
      rw [x2] at N2
      obtain ⟨u3, ⟨f3, e3, c3, ⟨z3, s3⟩, b3⟩, q3⟩ := N2
      have q3 : ∀ Q, cl (d + 11) 274 [v_R (some R), v_I (Int32.ofNat 0), v_I (Int32.ofNat 999)] u2 Q = Q (Sum.inl (some (v_I (Int32.ofNat r2.1)))) u3 := q3
      have t3 := e3.1.1
      have bb3 := bd_tr bb2 b3
      have F3 := fk_tr F2 f3
      have hm := fun Q => c_isg (D := d + 11) (q0 := 28) (p0 := 128) (x := 45) (Q := Q) (by omega) e3 c3 (g_1 e3.2 (i := 18) (by omega) rfl) (by omega) (by omega)
      have M : ∃ u4, (Fk_ R u3 u4 ∧ Ce_ u4 R t ∧ Cr_ u4 R t (if is_s t r2.2 45 = true then tk_n t r2.2 else r2.2) ∧ Bd_ u3 r2.2 u4 (if is_s t r2.2 45 = true then tk_n t r2.2 else r2.2)) ∧ ∀ Q, cl (d + 12) 283 [v_R (some R)] w Q = wp (d + 12) 283 43 [some (v_R (some R)), some (v_R (some q)), some (v_I (Int32.ofNat r1.1)), some (v_I (Int32.ofNat r2.1)), some (v_I (b_v (is_s t r2.2 45))), none, none] [] u4 Q := by
        cases hs : is_s t r2.2 45 with
        | true =>
          rw [hs] at hm
          obtain ⟨u4, ⟨f4, e4, c4, -, b4⟩, q4⟩ := c_step (D := d + 11) (by omega) e3 c3 (by have := (is_s_k hs).1; omega)
          refine ⟨u4, ⟨f4, e4, by rw [if_pos rfl]; exact c4, by rw [if_pos rfl]; exact b4⟩, fun Q => ?_⟩
          simp (disch := first | omega | decide | exact ko_b _ | assumption | (simp only [t_si, t_sl, t_sr, t_sI, t_sR, n_si, n_sl, n_sr, n_sI, n_sR, r_si, r_sl, r_sI]; first | done | omega)) only [x_283_e, x_283_b, x_283_0, x_283_1, x_283_4, x_283_5, x_283_6, x_283_9, x_283_10, x_283_11, x_283_13, x_283_16, x_283_17, x_283_18, x_283_19, x_283_22, x_283_25, x_283_26, x_283_27, x_283_29, x_283_32, x_283_34, x_283_36, x_283_39, x_283_40, bk_v, bk_n, nl_I, nl_R, nl_L, nl_0, oo_lt, oo_le, oo_eq, oo_add, oo_sub, oo_tn, oo_ir, nn_leT, nn_leF, nn_ltT, nn_ltF, nn_eqT, nn_eqF, bv_0, bv_1, ko_b, ko_1, ko_0, true_and, and_true, if_true, if_false, not_true_eq_false, not_false_eq_true, oo_02, decide_eq_true_eq, decide_eq_false_iff_not, ite_not, Nat.reduceAdd, Nat.reduceLT, Nat.reduceSub, Nat.reduceLeDiff, reduceIte, Bool.true_eq_false, Bool.false_eq_true, reduceCtorEq, eq_self, decide_true, decide_false, bv_t, bv_f, and_self, t_si, t_sl, t_sr, t_sI, t_sR, n_si, n_sl, n_sr, n_sI, n_sR, r_si, r_sl, r_sI, g1, q1, q2, q3, hm, q4]
        | false =>
          rw [hs] at hm
          refine ⟨u3, ⟨fk_rf _ _, e3, by rw [if_neg Bool.false_ne_true]; exact c3, by rw [if_neg Bool.false_ne_true]; exact ⟨Nat.le_refl _, Nat.le_refl _, Nat.le_refl _⟩⟩, fun Q => ?_⟩
          simp (disch := first | omega | decide | exact ko_b _ | assumption | (simp only [t_si, t_sl, t_sr, t_sI, t_sR, n_si, n_sl, n_sr, n_sI, n_sR, r_si, r_sl, r_sI]; first | done | omega)) only [x_283_e, x_283_b, x_283_0, x_283_1, x_283_4, x_283_5, x_283_6, x_283_9, x_283_10, x_283_11, x_283_13, x_283_16, x_283_17, x_283_18, x_283_19, x_283_22, x_283_25, x_283_26, x_283_27, x_283_29, x_283_32, x_283_34, x_283_36, x_283_39, x_283_40, bk_v, bk_n, nl_I, nl_R, nl_L, nl_0, oo_lt, oo_le, oo_eq, oo_add, oo_sub, oo_tn, oo_ir, nn_leT, nn_leF, nn_ltT, nn_ltF, nn_eqT, nn_eqF, bv_0, bv_1, ko_b, ko_1, ko_0, true_and, and_true, if_true, if_false, not_true_eq_false, not_false_eq_true, oo_02, decide_eq_true_eq, decide_eq_false_iff_not, ite_not, Nat.reduceAdd, Nat.reduceLT, Nat.reduceSub, Nat.reduceLeDiff, reduceIte, Bool.true_eq_false, Bool.false_eq_true, reduceCtorEq, eq_self, decide_true, decide_false, bv_t, bv_f, and_self, t_si, t_sl, t_sr, t_sI, t_sR, n_si, n_sl, n_sr, n_sI, n_sR, r_si, r_sl, r_sI, g1, q1, q2, q3, hm]
      obtain ⟨u4, ⟨f4, e4, c4, b4⟩, q4⟩ := M
      have t4 := e4.1.1
      have bb4 := bd_tr bb3 b4
      have F4 := fk_tr F3 f4
      simp only
      generalize hp4 : (if is_s t r2.2 45 = true then tk_n t r2.2 else r2.2) = b4' at c4 bb4 ⊢
      have N3 := c_num (D := d + 11) (lo := 0) (hi := 9) (by omega) e4 c4 (by omega) (by omega)
      cases x3 : nm_ t 0 9 b4' with
      | inl e =>
        rw [x3] at N3
        have hb4 := c4.1
        refine ty_tx (L2 := fun Q => cl (d + 11) 274 [v_R (some R), v_I (Int32.ofNat 0), v_I (Int32.ofNat 9)] u4 Q) N3 F4 hb (by unfold Bd_ at bb4; omega) (by unfold Bd_ at bb4; omega) (fun Q => ?_)
        obtain ⟨w1, x, h1, q5⟩ := N3
        have q5 : ∀ Q, cl (d + 11) 274 [v_R (some R), v_I (Int32.ofNat 0), v_I (Int32.ofNat 9)] u4 Q = Q (Sum.inr x) w1 := q5
        show cl (d + 12) 283 _ w Q = _
        rw [q4, q5]
        simp (disch := first | omega | decide | exact ko_b _ | assumption | (simp only [t_si, t_sl, t_sr, t_sI, t_sR, n_si, n_sl, n_sr, n_sI, n_sR, r_si, r_sl, r_sI]; first | done | omega)) only [x_283_e, x_283_b, x_283_43, x_283_44, x_283_45, x_283_47, x_283_50, bk_v, bk_n, nl_I, nl_R, nl_L, nl_0, oo_lt, oo_le, oo_eq, oo_add, oo_sub, oo_tn, oo_ir, nn_leT, nn_leF, nn_ltT, nn_ltF, nn_eqT, nn_eqF, bv_0, bv_1, ko_b, ko_1, ko_0, true_and, and_true, if_true, if_false, not_true_eq_false, not_false_eq_true, oo_02, decide_eq_true_eq, decide_eq_false_iff_not, ite_not, Nat.reduceAdd, Nat.reduceLT, Nat.reduceSub, Nat.reduceLeDiff, reduceIte, Bool.true_eq_false, Bool.false_eq_true, reduceCtorEq, eq_self, decide_true, decide_false, bv_t, bv_f, and_self, t_si, t_sl, t_sr, t_sI, t_sR, n_si, n_sl, n_sr, n_sI, n_sR, r_si, r_sl, r_sI, q5]
      | inr r3 =>
        rw [x3] at N3
        obtain ⟨u5, ⟨f5, e5, c5, ⟨z5, s5⟩, b5⟩, q5⟩ := N3
        have q5 : ∀ Q, cl (d + 11) 274 [v_R (some R), v_I (Int32.ofNat 0), v_I (Int32.ofNat 9)] u4 Q = Q (Sum.inl (some (v_I (Int32.ofNat r3.1)))) u5 := q5
        have t5 := e5.1.1
        have bb5 := bd_tr bb4 b5
        have F5 := fk_tr F4 f5
        have N4 := c_num (D := d + 11) (lo := 0) (hi := 99) (by omega) e5 c5 (by omega) (by omega)
        have pre : ∀ Q, cl (d + 12) 283 [v_R (some R)] w Q = wp (d + 12) 283 62 [some (v_R (some R)), some (v_R (some q)), some (v_I (Int32.ofNat r1.1)), some (v_I (Int32.ofNat r2.1)), some (v_I (b_v (is_s t r2.2 45))), some (v_I (if is_s t r2.2 45 = true then -(Int32.ofNat r3.1) else Int32.ofNat r3.1)), none] [] u5 Q := fun Q => by
          rw [q4]
          cases hs : is_s t r2.2 45 with
          | true => simp (disch := first | omega | decide | exact ko_b _ | assumption | (simp only [t_si, t_sl, t_sr, t_sI, t_sR, n_si, n_sl, n_sr, n_sI, n_sR, r_si, r_sl, r_sI]; first | done | omega)) only [x_283_e, x_283_b, x_283_43, x_283_44, x_283_45, x_283_47, x_283_50, x_283_52, x_283_54, x_283_57, x_283_59, x_283_60, bk_v, bk_n, nl_I, nl_R, nl_L, nl_0, oo_lt, oo_le, oo_eq, oo_add, oo_sub, oo_tn, oo_ir, nn_leT, nn_leF, nn_ltT, nn_ltF, nn_eqT, nn_eqF, bv_0, bv_1, ko_b, ko_1, ko_0, true_and, and_true, if_true, if_false, not_true_eq_false, not_false_eq_true, oo_02, decide_eq_true_eq, decide_eq_false_iff_not, ite_not, Nat.reduceAdd, Nat.reduceLT, Nat.reduceSub, Nat.reduceLeDiff, reduceIte, Bool.true_eq_false, Bool.false_eq_true, reduceCtorEq, eq_self, decide_true, decide_false, bv_t, bv_f, and_self, t_si, t_sl, t_sr, t_sI, t_sR, n_si, n_sl, n_sr, n_sI, n_sR, r_si, r_sl, r_sI, q5]
          | false => simp (disch := first | omega | decide | exact ko_b _ | assumption | (simp only [t_si, t_sl, t_sr, t_sI, t_sR, n_si, n_sl, n_sr, n_sI, n_sR, r_si, r_sl, r_sI]; first | done | omega)) only [x_283_e, x_283_b, x_283_43, x_283_44, x_283_45, x_283_47, x_283_50, x_283_52, x_283_54, x_283_57, x_283_59, x_283_60, bk_v, bk_n, nl_I, nl_R, nl_L, nl_0, oo_lt, oo_le, oo_eq, oo_add, oo_sub, oo_tn, oo_ir, nn_leT, nn_leF, nn_ltT, nn_ltF, nn_eqT, nn_eqF, bv_0, bv_1, ko_b, ko_1, ko_0, true_and, and_true, if_true, if_false, not_true_eq_false, not_false_eq_true, oo_02, decide_eq_true_eq, decide_eq_false_iff_not, ite_not, Nat.reduceAdd, Nat.reduceLT, Nat.reduceSub, Nat.reduceLeDiff, reduceIte, Bool.true_eq_false, Bool.false_eq_true, reduceCtorEq, eq_self, decide_true, decide_false, bv_t, bv_f, and_self, t_si, t_sl, t_sr, t_sI, t_sR, n_si, n_sl, n_sr, n_sI, n_sR, r_si, r_sl, r_sI, q5]
        simp only
        cases x4 : nm_ t 0 99 r3.2 with
        | inl e =>
          rw [x4] at N4
          have hb5 := c5.1
          refine ty_tx (L2 := fun Q => cl (d + 11) 274 [v_R (some R), v_I (Int32.ofNat 0), v_I (Int32.ofNat 99)] u5 Q) N4 F5 hb (by unfold Bd_ at bb5; omega) (by unfold Bd_ at bb5; omega) (fun Q => ?_)
          obtain ⟨w1, x, h1, q6⟩ := N4
          have q6 : ∀ Q, cl (d + 11) 274 [v_R (some R), v_I (Int32.ofNat 0), v_I (Int32.ofNat 99)] u5 Q = Q (Sum.inr x) w1 := q6
          show cl (d + 12) 283 _ w Q = _
          rw [pre, q6]
          simp (disch := first | omega | decide | exact ko_b _ | assumption | (simp only [t_si, t_sl, t_sr, t_sI, t_sR, n_si, n_sl, n_sr, n_sI, n_sR, r_si, r_sl, r_sI]; first | done | omega)) only [x_283_e, x_283_b, x_283_62, x_283_63, x_283_64, x_283_66, x_283_69, bk_v, bk_n, nl_I, nl_R, nl_L, nl_0, oo_lt, oo_le, oo_eq, oo_add, oo_sub, oo_tn, oo_ir, nn_leT, nn_leF, nn_ltT, nn_ltF, nn_eqT, nn_eqF, bv_0, bv_1, ko_b, ko_1, ko_0, true_and, and_true, if_true, if_false, not_true_eq_false, not_false_eq_true, oo_02, decide_eq_true_eq, decide_eq_false_iff_not, ite_not, Nat.reduceAdd, Nat.reduceLT, Nat.reduceSub, Nat.reduceLeDiff, reduceIte, Bool.true_eq_false, Bool.false_eq_true, reduceCtorEq, eq_self, decide_true, decide_false, bv_t, bv_f, and_self, t_si, t_sl, t_sr, t_sI, t_sR, n_si, n_sl, n_sr, n_sI, n_sR, r_si, r_sl, r_sI, q6]
        | inr r4 =>
          rw [x4] at N4
          obtain ⟨u6, ⟨f6, e6, c6, ⟨z6, s6⟩, b6⟩, q6⟩ := N4
          have q6 : ∀ Q, cl (d + 11) 274 [v_R (some R), v_I (Int32.ofNat 0), v_I (Int32.ofNat 99)] u5 Q = Q (Sum.inl (some (v_I (Int32.ofNat r4.1)))) u6 := q6
          have bb6 := bd_tr bb5 b6
          have F6 := fk_tr F5 f6
          have t6 := e6.1.1
          obtain ⟨-, hRz6, -⟩ := Ce_z e6
          have d6 := Sd_kp g6 F6.2.1 ⟨g2, g4⟩ ⟨g3, g5⟩
          have mk := fun Q => c_made (d := d + 8) (v1 := Int32.ofNat r1.1) (v2 := Int32.ofNat r2.1) (v3 := if is_s t r2.2 45 = true then -(Int32.ofNat r3.1) else Int32.ofNat r3.1) (v4 := Int32.ofNat r4.1) (less := b_v (is_s t r2.2 45)) (pn := none) t6 hks k1 e6.2 d6 (Q := Q)
          have FF : Fk_ R w (tb4_ (w_z u6) (Int32.ofNat r1.1) (Int32.ofNat r2.1) (if is_s t r2.2 45 = true then -(Int32.ofNat r3.1) else Int32.ofNat r3.1) (Int32.ofNat r4.1) (s_n u6 (32 + k) 4)) := by
            have zz := F6.1
            exact fk_new (fk_new (fk_new (fk_new (fk_tr F6 (fk_n hRz6)) zz hR2) zz hR2) zz hR2) zz hR2
          have tN : w_t (s_n u6 (32 + k) 4) (w_z u6) = 32 + k := by rw [t_sn, if_pos rfl]
          have hk4 := (ks_lt hks).1
          have hN1 : w_t (s_n u6 (32 + k) 4) (w_z u6) ≠ 38 ∧ w_t (s_n u6 (32 + k) 4) (w_z u6) ≠ 2 := by rw [tN]; omega
          have hNR : w_z u6 ≠ R := by omega
          obtain ⟨-, -, -, -, -, -, m7, m8⟩ := nm_g (v := r1.1) (b' := r1.2) x1
          refine ⟨_, w_z u6, ⟨FF, Ce_fk he FF, Cr_i (Cr_i (Cr_i (Cr_i (Cr_n c6 hRz6) hNR hN1) hNR hN1) hNR hN1) hNR hN1, ⟨?_, ?_, ?_⟩, ⟨F6.1, ?_, tN⟩, ?_, ?_, ?_, ?_⟩, fun Q => ?_⟩
          · unfold Bd_ at bb6; exact bb6.1
          · show w_z u6 + 1 + 12 * b + 2 ≤ w_z w + 12 * r4.2
            unfold Bd_ at b1 b2 b3 b4 b5 b6
            omega
          · show w_s u6 + 4 + 60 * b + 20 ≤ w_s w + 60 * r4.2
            unfold Bd_ at b1 b2 b3 b4 b5 b6
            omega
          · show w_z u6 < w_z u6 + 1; omega
          · unfold tb4_
            simp only [i_si, Nat.reduceEqDiff, and_false, if_false, and_self, if_true]
            show _ = ap_ (tm_n T) _ _ (tm_n T)
            unfold ap_
            rw [if_pos rfl]
          · unfold tb4_
            simp only [i_si, Nat.reduceEqDiff, and_false, if_false, and_self, if_true]
            show _ = ap_ (tm_n T) _ _ (tm_n T)
            unfold ap_
            rw [if_pos rfl]
          · unfold tb4_
            simp only [i_si, Nat.reduceEqDiff, and_false, if_false, and_self, if_true]
            show _ = ap_ (tm_n T) _ _ (tm_n T)
            unfold ap_
            rw [if_pos rfl]
          · unfold tb4_
            simp only [i_si, Nat.reduceEqDiff, and_false, if_false, and_self, if_true]
            show _ = ap_ (tm_n T) _ _ (tm_n T)
            unfold ap_
            rw [if_pos rfl]
          · show cl (d + 12) 283 _ w Q = _
            rw [← mk Q, pre]
            simp (disch := first | omega | decide | exact ko_b _ | assumption | (simp only [t_si, t_sl, t_sr, t_sI, t_sR, n_si, n_sl, n_sr, n_sI, n_sR, r_si, r_sl, r_sI]; first | done | omega)) only [x_283_e, x_283_b, x_283_62, x_283_63, x_283_64, x_283_66, x_283_69, bk_v, bk_n, nl_I, nl_R, nl_L, nl_0, oo_lt, oo_le, oo_eq, oo_add, oo_sub, oo_tn, oo_ir, nn_leT, nn_leF, nn_ltT, nn_ltF, nn_eqT, nn_eqF, bv_0, bv_1, ko_b, ko_1, ko_0, true_and, and_true, if_true, if_false, not_true_eq_false, not_false_eq_true, oo_02, decide_eq_true_eq, decide_eq_false_iff_not, ite_not, Nat.reduceAdd, Nat.reduceLT, Nat.reduceSub, Nat.reduceLeDiff, reduceIte, Bool.true_eq_false, Bool.false_eq_true, reduceCtorEq, eq_self, decide_true, decide_false, bv_t, bv_f, and_self, t_si, t_sl, t_sr, t_sI, t_sR, n_si, n_sl, n_sr, n_sI, n_sR, r_si, r_sl, r_sI, q6]
end
