/-! THE COMPONENT's reader: a token -/
set_option maxRecDepth 100000
theorem s_cm (w : Wd) {a j k : Nat} (h : j ≠ k) (x y : Int32) : s_i (s_i w a j x) a k y = s_i (s_i w a k y) a j x := by
  unfold s_i
  have : u_2 (u_2 w.2.2.1 a j x) a k y = u_2 (u_2 w.2.2.1 a k y) a j x := by
    funext b i
    unfold u_2
    by_cases h1 : b = a ∧ i = k
    · rw [if_pos h1, if_neg (by omega), if_pos h1]
    · rw [if_neg h1]
      by_cases h2 : b = a ∧ i = j
      · rw [if_pos h2, if_pos h2]
      · rw [if_neg h2, if_neg h2, if_neg h1]
  simp only [this]
theorem s_42 (w : Wd) (a : Nat) (x y x' y' : Int32) : s_i (s_i (s_i (s_i w a 4 x) a 2 y) a 4 x') a 2 y' = s_i (s_i w a 4 x') a 2 y' := by
  rw [s_cm _ (show 2 ≠ 4 by omega), s_ss, s_ss]
def Fk_ (R : Nat) (w w1 : Wd) : Prop := w_z w ≤ w_z w1 ∧ Kp_ (fun a => a < w_z w ∧ a ≠ R) w w1 ∧ w_t w1 R = w_t w R ∧ w_r w1 R 0 = w_r w R 0 ∧ w_i w1 R 1 = w_i w R 1 ∧ w_r w1 R 8 = w_r w R 8
theorem fk_rf (R : Nat) (w : Wd) : Fk_ R w w := ⟨Nat.le_refl _, kp_rf _ _, rfl, rfl, rfl, rfl⟩
theorem fk_tr {R : Nat} {w w1 w2 : Wd} (h1 : Fk_ R w w1) (h2 : Fk_ R w1 w2) : Fk_ R w w2 := by
  obtain ⟨a1, a2, a3, a4, a5, a6⟩ := h1
  obtain ⟨b1, b2, b3, b4, b5, b6⟩ := h2
  exact ⟨by omega, kp_tr a2 (kp_mo b2 fun b hb => ⟨by omega, hb.2⟩), b3.trans a3, b4.trans a4, b5.trans a5, b6.trans a6⟩
section
variable {w : Wd} {t : Tp} {R : Nat}
theorem Ct_fk {w1 : Wd} (h : Ct_ w R t) (f : Fk_ R w w1) : Ct_ w1 R t := by
  obtain ⟨h1, h2, h3, h4, h5, h6, h7, h8, h9, h10⟩ := h
  obtain ⟨a1, a2, a3, a4, a5, a6⟩ := f
  obtain ⟨k1, k2, k3, k4, k5⟩ := a2 1434 ⟨by omega, by omega⟩
  exact ⟨a3.trans h1, a4.trans h2, a5.trans h3, k1.trans h4, k2.trans h5, h6, fun k hk => (k3 k).trans (h7 k hk), h8, h9, by omega⟩
theorem fk_i {k : Nat} {x : Int32} (hk : k ≠ 1) : Fk_ R w (s_i w R k x) := ⟨Nat.le_refl _, fun b hb => ⟨rfl, rfl, fun j => by rw [i_si, if_neg (fun z => hb.2 z.1)], fun _ => rfl, fun _ => rfl⟩, rfl, rfl, by rw [i_si, if_neg (fun z => hk z.2.symm)], rfl⟩
theorem fk_r {k : Nat} {x : Option Nat} (h0 : k ≠ 0) (h8 : k ≠ 8) : Fk_ R w (s_r w R k x) := ⟨Nat.le_refl _, fun b hb => ⟨rfl, rfl, fun _ => rfl, fun j => by rw [r_sr, if_neg (fun z => hb.2 z.1)], fun _ => rfl⟩, rfl, by rw [r_sr, if_neg (fun z => h0 z.2.symm)], rfl, by rw [r_sr, if_neg (fun z => h8 z.2.symm)]⟩
theorem fk_n {g n : Nat} (hR : R < w_z w) : Fk_ R w (s_n w g n) := by
  have e : ¬ R = w_z w := by omega
  refine ⟨by rw [z_sn]; omega, kp_n fun b hb => by omega, ?_, ?_, ?_, ?_⟩
  · rw [t_sn, if_neg e]
  · rw [r_sn, if_neg e]
  · rw [i_sn, if_neg e]
  · rw [r_sn, if_neg e]
/-- what is new is the maker's own -/
theorem fk_new {w1 : Wd} {a k : Nat} {x : Int32} (h : Fk_ R w w1) (ha : w_z w ≤ a) (hR : R < w_z w) : Fk_ R w (s_i w1 a k x) := by
  obtain ⟨a1, a2, a3, a4, a5, a6⟩ := h
  exact ⟨a1, kp_tr a2 (kp_i fun b hb => by omega), a3, a4, by rw [i_si, if_neg (by omega)]; exact a5, a6⟩
theorem fk_nwr {w1 : Wd} {a k : Nat} {x : Option Nat} (h : Fk_ R w w1) (ha : w_z w ≤ a) (hR : R < w_z w) : Fk_ R w (s_r w1 a k x) := by
  obtain ⟨a1, a2, a3, a4, a5, a6⟩ := h
  exact ⟨a1, kp_tr a2 (kp_r fun b hb => by omega), a3, by rw [r_sr, if_neg (by omega)]; exact a4, a5, by rw [r_sr, if_neg (by omega)]; exact a6⟩
theorem fk_kp {w1 : Wd} {q : Nat} (h : Kp_ (fun a => a < q) w w1) (hq : w_z w ≤ q) (hz : w_z w ≤ w_z w1) (hR : R < w_z w) : Fk_ R w w1 := by
  obtain ⟨k1, k2, k3, k4, k5⟩ := h R (by omega)
  exact ⟨hz, kp_mo h fun b hb => by omega, k1, k4 0, k3 1, k4 8⟩
theorem cb_l {k : Nat} : ct_l (cb_ t k) = (decide (k < t.2) && ct_l (t.1 k)) := by
  unfold cb_
  by_cases c : k < t.2
  · rw [if_pos c, decide_eq_true c, Bool.true_and]
  · rw [if_neg c, decide_eq_false c, Bool.false_and]; rfl
theorem cb_d {k : Nat} : ct_d (cb_ t k) = (decide (k < t.2) && ct_d (t.1 k)) := by
  unfold cb_
  by_cases c : k < t.2
  · rw [if_pos c, decide_eq_true c, Bool.true_and]
  · rw [if_neg c, decide_eq_false c, Bool.false_and]; rfl
theorem cb_in {k : Nat} (h : k < t.2) : cb_ t k = t.1 k := by unfold cb_; rw [if_pos h]
theorem c_sk {d : Nat} (h : Ct_ w R t) {a1 a2 : Option Vl} {Q : Q_} : ∀ f p, p + f = t.2 → wp (d + 1) 265 0 [some (v_R (some R)), a1, a2] [] (s_i w R 2 (Int32.ofNat p)) Q = wp (d + 1) 265 50 [some (v_R (some R)), a1, a2] [] (s_i w R 2 (Int32.ofNat (rn_ (fun k => decide (k < t.2) && ct_b (t.1 k)) f p))) Q := by
  have h0 := h.1
  have h3 := h.2.2.1
  have hN := h.2.2.2.2.2.1
  have h8 := h.2.2.2.2.2.2.2.1
  intro f
  induction f with
  | zero =>
    intro p hp
    rw [x_265_0]
    simp (disch := first | omega | decide | exact ko_b _ | assumption | (simp only [t_si, t_sl, t_sr, t_sI, t_sR, n_si, n_sl, n_sr, n_sI, n_sR, r_si, r_sl, r_sI]; first | done | omega)) only [x_265_e, x_265_b, x_265_1, x_265_4, x_265_5, x_265_8, bk_v, bk_n, nl_I, nl_R, nl_L, nl_0, oo_lt, oo_le, oo_eq, oo_add, oo_sub, oo_tn, oo_ir, nn_leT, nn_leF, nn_ltT, nn_ltF, nn_eqT, nn_eqF, bv_0, bv_1, ko_b, ko_1, ko_0, true_and, and_true, if_true, if_false, not_true_eq_false, not_false_eq_true, oo_02, decide_eq_true_eq, decide_eq_false_iff_not, ite_not, Nat.reduceAdd, Nat.reduceLT, Nat.reduceSub, Nat.reduceLeDiff, reduceIte, Bool.true_eq_false, Bool.false_eq_true, reduceCtorEq, eq_self, decide_true, decide_false, bv_t, bv_f, and_self, t_si, t_sl, t_sr, t_sI, t_sR, n_si, n_sl, n_sr, n_sI, n_sR, r_si, r_sl, r_sI, h3, i_si, Nat.reduceEqDiff, and_false]
    rfl
  | succ f ih =>
    intro p hp
    have hlt : p < t.2 := by omega
    have hb := fun d Q => c_byte (d := d) (k := p) (Q := Q) (Ct_fk h (fk_i (k := 2) (x := Int32.ofNat p) (by omega))) (by omega)
    rw [cb_in hlt] at hb
    have g := h8 p
    unfold rn_
    by_cases c : (decide (p < t.2) && ct_b (t.1 p)) = true
    · rw [if_pos c, ← ih (p + 1) (by omega), x_265_0]
      unfold ct_b at c
      simp only [Bool.and_eq_true, decide_eq_true_eq] at c
      rcases c.2 with z | z
      · rw [z] at hb
        simp (disch := first | omega | decide | exact ko_b _ | assumption | (simp only [t_si, t_sl, t_sr, t_sI, t_sR, n_si, n_sl, n_sr, n_sI, n_sR, r_si, r_sl, r_sI]; first | done | omega)) only [x_265_e, x_265_b, x_265_1, x_265_4, x_265_5, x_265_8, x_265_11, x_265_12, x_265_13, x_265_16, x_265_19, x_265_21, x_265_24, x_265_25, x_265_26, x_265_29, x_265_32, x_265_34, x_265_37, x_265_38, x_265_39, x_265_42, x_265_43, x_265_44, x_265_47, bk_v, bk_n, nl_I, nl_R, nl_L, nl_0, oo_lt, oo_le, oo_eq, oo_add, oo_sub, oo_tn, oo_ir, nn_leT, nn_leF, nn_ltT, nn_ltF, nn_eqT, nn_eqF, bv_0, bv_1, ko_b, ko_1, ko_0, true_and, and_true, if_true, if_false, not_true_eq_false, not_false_eq_true, oo_02, decide_eq_true_eq, decide_eq_false_iff_not, ite_not, Nat.reduceAdd, Nat.reduceLT, Nat.reduceSub, Nat.reduceLeDiff, reduceIte, Bool.true_eq_false, Bool.false_eq_true, reduceCtorEq, eq_self, decide_true, decide_false, bv_t, bv_f, and_self, t_si, t_sl, t_sr, t_sI, t_sR, n_si, n_sl, n_sr, n_sI, n_sR, r_si, r_sl, r_sI, h3, hb, i_si, Nat.reduceEqDiff, and_false, s_ss]
      · rw [z] at hb
        simp (disch := first | omega | decide | exact ko_b _ | assumption | (simp only [t_si, t_sl, t_sr, t_sI, t_sR, n_si, n_sl, n_sr, n_sI, n_sR, r_si, r_sl, r_sI]; first | done | omega)) only [x_265_e, x_265_b, x_265_1, x_265_4, x_265_5, x_265_8, x_265_11, x_265_12, x_265_13, x_265_16, x_265_19, x_265_21, x_265_24, x_265_25, x_265_26, x_265_29, x_265_32, x_265_34, x_265_37, x_265_38, x_265_39, x_265_42, x_265_43, x_265_44, x_265_47, bk_v, bk_n, nl_I, nl_R, nl_L, nl_0, oo_lt, oo_le, oo_eq, oo_add, oo_sub, oo_tn, oo_ir, nn_leT, nn_leF, nn_ltT, nn_ltF, nn_eqT, nn_eqF, bv_0, bv_1, ko_b, ko_1, ko_0, true_and, and_true, if_true, if_false, not_true_eq_false, not_false_eq_true, oo_02, decide_eq_true_eq, decide_eq_false_iff_not, ite_not, Nat.reduceAdd, Nat.reduceLT, Nat.reduceSub, Nat.reduceLeDiff, reduceIte, Bool.true_eq_false, Bool.false_eq_true, reduceCtorEq, eq_self, decide_true, decide_false, bv_t, bv_f, and_self, t_si, t_sl, t_sr, t_sI, t_sR, n_si, n_sl, n_sr, n_sI, n_sR, r_si, r_sl, r_sI, h3, hb, i_si, Nat.reduceEqDiff, and_false, s_ss]
    · rw [if_neg c, x_265_0]
      unfold ct_b at c
      simp only [Bool.and_eq_true, decide_eq_true_eq, not_and, not_or] at c
      obtain ⟨c1, c2⟩ := c hlt
      simp (disch := first | omega | decide | exact ko_b _ | assumption | (simp only [t_si, t_sl, t_sr, t_sI, t_sR, n_si, n_sl, n_sr, n_sI, n_sR, r_si, r_sl, r_sI]; first | done | omega)) only [x_265_e, x_265_b, x_265_1, x_265_4, x_265_5, x_265_8, x_265_11, x_265_12, x_265_13, x_265_16, x_265_19, x_265_21, x_265_24, x_265_25, x_265_26, x_265_29, x_265_32, x_265_34, bk_v, bk_n, nl_I, nl_R, nl_L, nl_0, oo_lt, oo_le, oo_eq, oo_add, oo_sub, oo_tn, oo_ir, nn_leT, nn_leF, nn_ltT, nn_ltF, nn_eqT, nn_eqF, bv_0, bv_1, ko_b, ko_1, ko_0, true_and, and_true, if_true, if_false, not_true_eq_false, not_false_eq_true, oo_02, decide_eq_true_eq, decide_eq_false_iff_not, ite_not, Nat.reduceAdd, Nat.reduceLT, Nat.reduceSub, Nat.reduceLeDiff, reduceIte, Bool.true_eq_false, Bool.false_eq_true, reduceCtorEq, eq_self, decide_true, decide_false, bv_t, bv_f, and_self, t_si, t_sl, t_sr, t_sI, t_sR, n_si, n_sl, n_sr, n_sI, n_sR, r_si, r_sl, r_sI, h3, hb, c1, c2, i_si, Nat.reduceEqDiff, and_false]
theorem c_dg {d b : Nat} (h : Ct_ w R t) (h3 : w_i w R 3 = Int32.ofNat b) {a1 a2 : Option Vl} {Q : Q_} : ∀ f k, b + k + f = t.2 → wp (d + 1) 265 196 [some (v_R (some R)), a1, a2] [] (s_i (s_i w R 4 (Int32.ofNat (tk_v t b (min k 4)))) R 2 (Int32.ofNat (b + k))) Q = wp (d + 1) 265 259 [some (v_R (some R)), a1, a2] [] (s_i (s_i w R 4 (Int32.ofNat (tk_v t b (min (rn_ (fun k => decide (k < t.2) && ct_d (t.1 k)) f (b + k) - b) 4)))) R 2 (Int32.ofNat (rn_ (fun k => decide (k < t.2) && ct_d (t.1 k)) f (b + k)))) Q := by
  have h0 := h.1
  have hN := h.2.2.2.2.2.1
  have h8 := h.2.2.2.2.2.2.2.1
  intro f
  induction f with
  | zero =>
    intro k hp
    have hb := fun d Q => c_byte (d := d) (k := b + k) (Q := Q) (Ct_fk (Ct_fk h (fk_i (k := 4) (x := Int32.ofNat (tk_v t b (min k 4))) (by omega))) (fk_i (k := 2) (x := Int32.ofNat (b + k)) (by omega))) (by omega)
    have hd := fun d Q => c_isd (w := s_i (s_i w R 4 (Int32.ofNat (tk_v t b (min k 4)))) R 2 (Int32.ofNat (b + k))) (d := d) (Q := Q) (cb_lt h8 (b + k))
    rw [cb_d, decide_eq_false (by omega), Bool.false_and] at hd
    have e : b + k - b = k := by omega
    unfold rn_
    rw [e, x_265_196]
    simp (disch := first | omega | decide | exact ko_b _ | assumption | (simp only [t_si, t_sl, t_sr, t_sI, t_sR, n_si, n_sl, n_sr, n_sI, n_sR, r_si, r_sl, r_sI]; first | done | omega)) only [x_265_e, x_265_b, x_265_197, x_265_198, x_265_201, x_265_204, x_265_207, bk_v, bk_n, nl_I, nl_R, nl_L, nl_0, oo_lt, oo_le, oo_eq, oo_add, oo_sub, oo_tn, oo_ir, nn_leT, nn_leF, nn_ltT, nn_ltF, nn_eqT, nn_eqF, bv_0, bv_1, ko_b, ko_1, ko_0, true_and, and_true, if_true, if_false, not_true_eq_false, not_false_eq_true, oo_02, decide_eq_true_eq, decide_eq_false_iff_not, ite_not, Nat.reduceAdd, Nat.reduceLT, Nat.reduceSub, Nat.reduceLeDiff, reduceIte, Bool.true_eq_false, Bool.false_eq_true, reduceCtorEq, eq_self, decide_true, decide_false, bv_t, bv_f, and_self, t_si, t_sl, t_sr, t_sI, t_sR, n_si, n_sl, n_sr, n_sI, n_sR, r_si, r_sl, r_sI, hb, hd, i_si, Nat.reduceEqDiff, and_false]
  | succ f ih =>
    intro k hp
    have hlt : b + k < t.2 := by omega
    have hb := fun d Q => c_byte (d := d) (k := b + k) (Q := Q) (Ct_fk (Ct_fk h (fk_i (k := 4) (x := Int32.ofNat (tk_v t b (min k 4))) (by omega))) (fk_i (k := 2) (x := Int32.ofNat (b + k)) (by omega))) (by omega)
    have hd := fun d Q => c_isd (w := s_i (s_i w R 4 (Int32.ofNat (tk_v t b (min k 4)))) R 2 (Int32.ofNat (b + k))) (d := d) (Q := Q) (cb_lt h8 (b + k))
    rw [cb_d] at hd
    unfold rn_
    by_cases c : (decide (b + k < t.2) && ct_d (t.1 (b + k))) = true
    · rw [c] at hd
      rw [if_pos c]
      have c9 := c
      unfold ct_d at c9
      simp only [Bool.and_eq_true, decide_eq_true_eq] at c9
      obtain ⟨c1, c2, c3⟩ := c9
      have e2 : b + (k + 1) = b + k + 1 := by omega
      have i9 := ih (k + 1) (by omega)
      rw [e2] at i9
      rw [← i9, x_265_196]
      have e5 : b + k - b = k := by omega
      by_cases k4 : k < 4
      · have m1 : min k 4 = k := by omega
        have m2 : min (k + 1) 4 = k + 1 := by omega
        have ev : Int32.ofNat 10 * Int32.ofNat (tk_v t b k) + Int32.ofNat (cb_ t (b + k)) - Int32.ofNat 48 = Int32.ofNat (tk_v t b (k + 1)) := by
          rw [cb_in hlt, ← Int32.ofNat_mul, oo_add, oo_sub (by omega), show 10 * tk_v t b k + t.1 (b + k) - 48 = 10 * tk_v t b k + (t.1 (b + k) - 48) from by omega]
          rfl
        rw [m1] at hb hd
        rw [m1, m2]
        have hb2 := fun d Q => c_byte (d := d) (k := b + k) (Q := Q) (Ct_fk (Ct_fk h (fk_i (k := 4) (x := Int32.ofNat (tk_v t b k)) (by omega))) (fk_i (k := 2) (x := Int32.ofNat (b + k)) (by omega))) (by omega)
        simp (disch := first | omega | decide | exact ko_b _ | assumption | (simp only [t_si, t_sl, t_sr, t_sI, t_sR, n_si, n_sl, n_sr, n_sI, n_sR, r_si, r_sl, r_sI]; first | done | omega)) only [x_265_e, x_265_b, x_265_197, x_265_198, x_265_201, x_265_204, x_265_207, x_265_210, x_265_211, x_265_214, x_265_215, x_265_218, x_265_219, x_265_220, x_265_223, x_265_224, x_265_226, x_265_227, x_265_230, x_265_231, x_265_232, x_265_233, x_265_236, x_265_239, x_265_240, x_265_242, x_265_243, x_265_246, x_265_247, x_265_248, x_265_251, x_265_252, x_265_253, x_265_256, bk_v, bk_n, nl_I, nl_R, nl_L, nl_0, oo_lt, oo_le, oo_eq, oo_add, oo_sub, oo_tn, oo_ir, nn_leT, nn_leF, nn_ltT, nn_ltF, nn_eqT, nn_eqF, bv_0, bv_1, ko_b, ko_1, ko_0, true_and, and_true, if_true, if_false, not_true_eq_false, not_false_eq_true, oo_02, decide_eq_true_eq, decide_eq_false_iff_not, ite_not, Nat.reduceAdd, Nat.reduceLT, Nat.reduceSub, Nat.reduceLeDiff, reduceIte, Bool.true_eq_false, Bool.false_eq_true, reduceCtorEq, eq_self, decide_true, decide_false, bv_t, bv_f, and_self, t_si, t_sl, t_sr, t_sI, t_sR, n_si, n_sl, n_sr, n_sI, n_sR, r_si, r_sl, r_sI, hb, hd, h3, ev, e5, i_si, Nat.reduceEqDiff, and_false, s_42]
      · have m1 : min k 4 = 4 := by omega
        have m2 : min (k + 1) 4 = 4 := by omega
        rw [m1] at hb hd
        rw [m1, m2]
        simp (disch := first | omega | decide | exact ko_b _ | assumption | (simp only [t_si, t_sl, t_sr, t_sI, t_sR, n_si, n_sl, n_sr, n_sI, n_sR, r_si, r_sl, r_sI]; first | done | omega)) only [x_265_e, x_265_b, x_265_197, x_265_198, x_265_201, x_265_204, x_265_207, x_265_210, x_265_211, x_265_214, x_265_215, x_265_218, x_265_219, x_265_220, x_265_223, x_265_224, x_265_226, x_265_227, x_265_230, x_265_231, x_265_232, x_265_233, x_265_236, x_265_239, x_265_240, x_265_242, x_265_243, x_265_246, x_265_247, x_265_248, x_265_251, x_265_252, x_265_253, x_265_256, bk_v, bk_n, nl_I, nl_R, nl_L, nl_0, oo_lt, oo_le, oo_eq, oo_add, oo_sub, oo_tn, oo_ir, nn_leT, nn_leF, nn_ltT, nn_ltF, nn_eqT, nn_eqF, bv_0, bv_1, ko_b, ko_1, ko_0, true_and, and_true, if_true, if_false, not_true_eq_false, not_false_eq_true, oo_02, decide_eq_true_eq, decide_eq_false_iff_not, ite_not, Nat.reduceAdd, Nat.reduceLT, Nat.reduceSub, Nat.reduceLeDiff, reduceIte, Bool.true_eq_false, Bool.false_eq_true, reduceCtorEq, eq_self, decide_true, decide_false, bv_t, bv_f, and_self, t_si, t_sl, t_sr, t_sI, t_sR, n_si, n_sl, n_sr, n_sI, n_sR, r_si, r_sl, r_sI, hb, hd, h3, e5, i_si, Nat.reduceEqDiff, and_false, s_ss]
    · rw [Bool.eq_false_iff.mpr c] at hd
      have e : b + k - b = k := by omega
      rw [if_neg c, e, x_265_196]
      simp (disch := first | omega | decide | exact ko_b _ | assumption | (simp only [t_si, t_sl, t_sr, t_sI, t_sR, n_si, n_sl, n_sr, n_sI, n_sR, r_si, r_sl, r_sI]; first | done | omega)) only [x_265_e, x_265_b, x_265_197, x_265_198, x_265_201, x_265_204, x_265_207, bk_v, bk_n, nl_I, nl_R, nl_L, nl_0, oo_lt, oo_le, oo_eq, oo_add, oo_sub, oo_tn, oo_ir, nn_leT, nn_leF, nn_ltT, nn_ltF, nn_eqT, nn_eqF, bv_0, bv_1, ko_b, ko_1, ko_0, true_and, and_true, if_true, if_false, not_true_eq_false, not_false_eq_true, oo_02, decide_eq_true_eq, decide_eq_false_iff_not, ite_not, Nat.reduceAdd, Nat.reduceLT, Nat.reduceSub, Nat.reduceLeDiff, reduceIte, Bool.true_eq_false, Bool.false_eq_true, reduceCtorEq, eq_self, decide_true, decide_false, bv_t, bv_f, and_self, t_si, t_sl, t_sr, t_sI, t_sR, n_si, n_sl, n_sr, n_sI, n_sR, r_si, r_sl, r_sI, hb, hd, i_si, Nat.reduceEqDiff, and_false]
/-- letters gathered -/
def Lb_ (w0 s : Wd) (t : Tp) (R B V b j : Nat) : Prop := Kp_ (fun a => a ≠ R ∧ a ≠ B ∧ a ≠ V) w0 s ∧ (w_z s = w_z w0 ∧ w_s s = w_s w0) ∧ Ct_ s R t ∧ (∀ k, k ≠ 2 → w_i s R k = w_i w0 R k) ∧ (∀ k, w_r s R k = w_r w0 R k) ∧ w_i s R 2 = Int32.ofNat (b + j) ∧ Sb_ s B V (min j 9) ∧ ∀ k, k < min j 9 → w_i s V k = Int32.ofNat (t.1 (b + k))
theorem c_wd {d b B V : Nat} {w0 : Wd} (hBV : B ≠ V) (hBR : B ≠ R) (hVR : V ≠ R) (hB : B ≠ 1434) (hV : V ≠ 1434) {a1 : Option Vl} : ∀ f j (s : Wd), b + j + f = t.2 → Lb_ w0 s t R B V b j → ∃ s1, Lb_ w0 s1 t R B V b (rn_ (fun k => decide (k < t.2) && ct_l (t.1 k)) f (b + j) - b) ∧ ∀ Q, wp (d + 4) 265 116 [some (v_R (some R)), a1, some (v_R (some B))] [] s Q = wp (d + 4) 265 166 [some (v_R (some R)), a1, some (v_R (some B))] [] s1 Q := by
  intro f
  induction f with
  | zero =>
    intro j s hp hI
    have e : b + j - b = j := by omega
    unfold rn_
    rw [e]
    refine ⟨s, hI, fun Q => ?_⟩
    obtain ⟨-, -, hC, -, -, i2, -, -⟩ := hI
    have h0 := hC.1
    have hN := hC.2.2.2.2.2.1
    have h8 := hC.2.2.2.2.2.2.2.1
    have hb := fun d Q => c_byte (d := d) (k := b + j) (Q := Q) hC (by omega)
    have hl := fun d Q => c_isl (w := s) (d := d) (Q := Q) (cb_lt h8 (b + j))
    rw [cb_l, decide_eq_false (by omega), Bool.false_and] at hl
    rw [x_265_116]
    simp (disch := first | omega | decide | exact ko_b _ | assumption | (simp only [t_si, t_sl, t_sr, t_sI, t_sR, n_si, n_sl, n_sr, n_sI, n_sR, r_si, r_sl, r_sI]; first | done | omega)) only [x_265_e, x_265_b, x_265_117, x_265_118, x_265_121, x_265_124, x_265_127, bk_v, bk_n, nl_I, nl_R, nl_L, nl_0, oo_lt, oo_le, oo_eq, oo_add, oo_sub, oo_tn, oo_ir, nn_leT, nn_leF, nn_ltT, nn_ltF, nn_eqT, nn_eqF, bv_0, bv_1, ko_b, ko_1, ko_0, true_and, and_true, if_true, if_false, not_true_eq_false, not_false_eq_true, oo_02, decide_eq_true_eq, decide_eq_false_iff_not, ite_not, Nat.reduceAdd, Nat.reduceLT, Nat.reduceSub, Nat.reduceLeDiff, reduceIte, Bool.true_eq_false, Bool.false_eq_true, reduceCtorEq, eq_self, decide_true, decide_false, bv_t, bv_f, and_self, t_si, t_sl, t_sr, t_sI, t_sR, n_si, n_sl, n_sr, n_sI, n_sR, r_si, r_sl, r_sI, i2, hb, hl]
  | succ f ih =>
    intro j s hp hI
    have hII := hI
    obtain ⟨i0, ⟨iz, is⟩, hC, i3, i4, i2, i5, i6⟩ := hI
    have h0 := hC.1
    have hN := hC.2.2.2.2.2.1
    have h8 := hC.2.2.2.2.2.2.2.1
    have hb := fun d Q => c_byte (d := d) (k := b + j) (Q := Q) hC (by omega)
    have hl := fun d Q => c_isl (w := s) (d := d) (Q := Q) (cb_lt h8 (b + j))
    rw [cb_l] at hl
    unfold rn_
    by_cases c : (decide (b + j < t.2) && ct_l (t.1 (b + j))) = true
    · rw [c] at hl
      rw [if_pos c]
      have c9 := c
      unfold ct_l at c9
      simp only [Bool.and_eq_true, decide_eq_true_eq] at c9
      obtain ⟨c1, c2, c3⟩ := c9
      have tB := i5.1
      have nB := i5.2.2.2.1
      have hx : cb_ t (b + j) = t.1 (b + j) := cb_in c1
      rw [hx] at hb hl
      have ic : ((Int32.ofNat (t.1 (b + j))).toUInt32 % 65536).toInt32 = Int32.ofNat (t.1 (b + j)) := (ch_i2c ⟨t.1 (b + j), h8 _⟩).1
      by_cases k9 : j < 9
      · have m1 : min j 9 = j := by omega
        have m2 : min (j + 1) 9 = j + 1 := by omega
        rw [m1] at i5 i6 nB
        obtain ⟨s0, hs0⟩ : ∃ s0, s0 = s_i (s_i s B 3 (Int32.ofNat (j + 1))) V j (Int32.ofNat (t.1 (b + j))) := ⟨_, rfl⟩
        have ha := fun d Q => c_app (d := d) (Q := Q) i5 k9 (show t.1 (b + j) < 128 by omega)
        rw [← hs0] at ha
        have r2 : w_i s0 R 2 = Int32.ofNat (b + j) := by rw [hs0, i_si, if_neg (by omega), i_si, if_neg (by omega)]; exact i2
        have t0 : w_t s0 R = 26 := by rw [hs0]; exact h0
        have I1 : Lb_ w0 (s_i s0 R 2 (Int32.ofNat (b + j + 1))) t R B V b (j + 1) := by
          obtain ⟨g1, g2, g3, g4, g5, g6, g7, g8, g9, g10⟩ := hC
          obtain ⟨v1, v2, v3, v4, v5, v6⟩ := i5
          rw [hs0]
          refine ⟨kp_tr i0 (kp_tr (kp_i fun b hb => hb.2.1) (kp_tr (kp_i fun b hb => hb.2.2) (kp_i fun b hb => hb.1))), ⟨iz, is⟩, ⟨g1, g2, ?_, g4, g5, g6, fun k hk => ?_, g8, g9, g10⟩, fun k hk => ?_, i4, ?_, ⟨v1, v2, ?_, ?_, v5, v6⟩, fun k hk => ?_⟩
          · rw [i_si, if_neg (by omega), i_si, if_neg (by omega), i_si, if_neg (by omega)]; exact g3
          · rw [i_si, if_neg (by omega), i_si, if_neg (by omega), i_si, if_neg (by omega)]; exact g7 k hk
          · rw [i_si, if_neg (by omega), i_si, if_neg (by omega), i_si, if_neg (by omega)]; exact i3 k hk
          · rw [i_si, if_pos ⟨rfl, rfl⟩]; rfl
          · rw [i_si, if_neg (by omega), i_si, if_neg (by omega), i_si, if_neg (by omega)]; exact v3
          · rw [i_si, if_neg (by omega), i_si, if_neg (by omega), i_si, if_pos ⟨rfl, rfl⟩, m2]
          · rw [m2] at hk
            rw [i_si, if_neg (by omega), i_si]
            by_cases e : k = j
            · rw [if_pos ⟨rfl, e⟩, e]
            · rw [if_neg (by omega), i_si, if_neg (by omega)]; exact i6 k (by omega)
        obtain ⟨s1, I2, q2⟩ := ih (j + 1) _ (by omega) I1
        refine ⟨s1, I2, fun Q => ?_⟩
        rw [← q2, x_265_116]
        simp (disch := first | omega | decide | exact ko_b _ | assumption | (simp only [t_si, t_sl, t_sr, t_sI, t_sR, n_si, n_sl, n_sr, n_sI, n_sR, r_si, r_sl, r_sI]; first | done | omega)) only [x_265_e, x_265_b, x_265_117, x_265_118, x_265_121, x_265_124, x_265_127, x_265_130, x_265_131, x_265_134, x_265_136, x_265_139, x_265_140, x_265_141, x_265_142, x_265_145, x_265_148, x_265_149, x_265_152, x_265_153, x_265_154, x_265_155, x_265_158, x_265_159, x_265_160, x_265_163, x_334_e, x_334_b, x_334_0, x_334_1, x_334_4, x_328_e, x_328_b, x_328_0, x_328_1, x_328_4, bk_v, bk_n, nl_I, nl_R, nl_L, nl_0, oo_lt, oo_le, oo_eq, oo_add, oo_sub, oo_tn, oo_ir, nn_leT, nn_leF, nn_ltT, nn_ltF, nn_eqT, nn_eqF, bv_0, bv_1, ko_b, ko_1, ko_0, true_and, and_true, if_true, if_false, not_true_eq_false, not_false_eq_true, oo_02, decide_eq_true_eq, decide_eq_false_iff_not, ite_not, Nat.reduceAdd, Nat.reduceLT, Nat.reduceSub, Nat.reduceLeDiff, reduceIte, Bool.true_eq_false, Bool.false_eq_true, reduceCtorEq, eq_self, decide_true, decide_false, bv_t, bv_f, and_self, t_si, t_sl, t_sr, t_sI, t_sR, n_si, n_sl, n_sr, n_sI, n_sR, r_si, r_sl, r_sI, i2, hb, hl, nB, ic, ha, r2]
      · have m1 : min j 9 = 9 := by omega
        have m2 : min (j + 1) 9 = 9 := by omega
        rw [m1] at i5 i6 nB
        have I1 : Lb_ w0 (s_i s R 2 (Int32.ofNat (b + j + 1))) t R B V b (j + 1) := by
          obtain ⟨g1, g2, g3, g4, g5, g6, g7, g8, g9, g10⟩ := hC
          obtain ⟨v1, v2, v3, v4, v5, v6⟩ := i5
          refine ⟨kp_tr i0 (kp_i fun b hb => hb.1), ⟨iz, is⟩, ⟨g1, g2, ?_, g4, g5, g6, fun k hk => ?_, g8, g9, g10⟩, fun k hk => ?_, i4, ?_, ⟨v1, v2, ?_, ?_, v5, v6⟩, fun k hk => ?_⟩
          · rw [i_si, if_neg (by omega)]; exact g3
          · rw [i_si, if_neg (by omega)]; exact g7 k hk
          · rw [i_si, if_neg (by omega)]; exact i3 k hk
          · rw [i_si, if_pos ⟨rfl, rfl⟩]; rfl
          · rw [i_si, if_neg (by omega)]; exact v3
          · rw [i_si, if_neg (by omega), m2]; exact v4
          · rw [m2] at hk
            rw [i_si, if_neg (by omega)]; exact i6 k hk
        obtain ⟨s1, I2, q2⟩ := ih (j + 1) _ (by omega) I1
        refine ⟨s1, I2, fun Q => ?_⟩
        rw [← q2, x_265_116]
        simp (disch := first | omega | decide | exact ko_b _ | assumption | (simp only [t_si, t_sl, t_sr, t_sI, t_sR, n_si, n_sl, n_sr, n_sI, n_sR, r_si, r_sl, r_sI]; first | done | omega)) only [x_265_e, x_265_b, x_265_117, x_265_118, x_265_121, x_265_124, x_265_127, x_265_130, x_265_131, x_265_134, x_265_136, x_265_139, x_265_140, x_265_141, x_265_142, x_265_145, x_265_148, x_265_149, x_265_152, x_265_153, x_265_154, x_265_155, x_265_158, x_265_159, x_265_160, x_265_163, x_334_e, x_334_b, x_334_0, x_334_1, x_334_4, x_328_e, x_328_b, x_328_0, x_328_1, x_328_4, bk_v, bk_n, nl_I, nl_R, nl_L, nl_0, oo_lt, oo_le, oo_eq, oo_add, oo_sub, oo_tn, oo_ir, nn_leT, nn_leF, nn_ltT, nn_ltF, nn_eqT, nn_eqF, bv_0, bv_1, ko_b, ko_1, ko_0, true_and, and_true, if_true, if_false, not_true_eq_false, not_false_eq_true, oo_02, decide_eq_true_eq, decide_eq_false_iff_not, ite_not, Nat.reduceAdd, Nat.reduceLT, Nat.reduceSub, Nat.reduceLeDiff, reduceIte, Bool.true_eq_false, Bool.false_eq_true, reduceCtorEq, eq_self, decide_true, decide_false, bv_t, bv_f, and_self, t_si, t_sl, t_sr, t_sI, t_sR, n_si, n_sl, n_sr, n_sI, n_sR, r_si, r_sl, r_sI, i2, hb, hl, nB]
    · rw [Bool.eq_false_iff.mpr c] at hl
      have e : b + j - b = j := by omega
      rw [if_neg c, e]
      refine ⟨s, hII, fun Q => ?_⟩
      rw [x_265_116]
      simp (disch := first | omega | decide | exact ko_b _ | assumption | (simp only [t_si, t_sl, t_sr, t_sI, t_sR, n_si, n_sl, n_sr, n_sI, n_sR, r_si, r_sl, r_sI]; first | done | omega)) only [x_265_e, x_265_b, x_265_117, x_265_118, x_265_121, x_265_124, x_265_127, bk_v, bk_n, nl_I, nl_R, nl_L, nl_0, oo_lt, oo_le, oo_eq, oo_add, oo_sub, oo_tn, oo_ir, nn_leT, nn_leF, nn_ltT, nn_ltF, nn_eqT, nn_eqF, bv_0, bv_1, ko_b, ko_1, ko_0, true_and, and_true, if_true, if_false, not_true_eq_false, not_false_eq_true, oo_02, decide_eq_true_eq, decide_eq_false_iff_not, ite_not, Nat.reduceAdd, Nat.reduceLT, Nat.reduceSub, Nat.reduceLeDiff, reduceIte, Bool.true_eq_false, Bool.false_eq_true, reduceCtorEq, eq_self, decide_true, decide_false, bv_t, bv_f, and_self, t_si, t_sl, t_sr, t_sI, t_sR, n_si, n_sl, n_sr, n_sI, n_sR, r_si, r_sl, r_sI, i2, hb, hl]
/-! the whole of a token -/
def kid_ (k : Nat) : Nat := if k = 0 then 214 else 209 + k
def Cr_ (w : Wd) (R : Nat) (t : Tp) (b : Nat) : Prop := b ≤ t.2 ∧ w_i w R 2 = Int32.ofNat (tk_e t b) ∧ w_i w R 3 = Int32.ofNat b ∧ w_r w R 6 = some (kid_ (tk_k t b)) ∧ (tk_k t b = 2 → w_i w R 5 = b_v (decide (4 < tk_e t b - b)) ∧ (tk_e t b - b ≤ 4 → w_i w R 4 = Int32.ofNat (tk_num t b)) ∧ ∃ v, w_i w R 4 = Int32.ofNat v) ∧ (tk_k t b = 1 ∨ tk_k t b = 3 → ∃ q p, w_r w R 7 = some q ∧ (q < w_z w ∧ p < w_z w ∧ q ≠ R ∧ p ≠ R) ∧ Sd_ w q p (min (tk_e t b - b) 9) (fun k => t.1 (b + k)))
def Go_ (w : Wd) (R : Nat) (t : Tp) (b : Nat) (w1 : Wd) : Prop := Fk_ R w w1 ∧ w_z w1 ≤ w_z w + 4 ∧ w_s w1 ≤ w_s w + 26 ∧ Cr_ w1 R t b
/-- behind blanks -/
def ug_ (w : Wd) (R b : Nat) : Wd := s_i (s_r (s_i (s_i w R 2 (Int32.ofNat b)) R 3 (Int32.ofNat b)) R 7 (some 12)) R 5 (Int32.ofNat 0)
theorem ug_f {b : Nat} : Fk_ R w (ug_ w R b) ∧ (∀ k, w_i (ug_ w R b) R k = if k = 5 then Int32.ofNat 0 else if k = 3 then Int32.ofNat b else if k = 2 then Int32.ofNat b else w_i w R k) := by
  unfold ug_
  refine ⟨fk_tr (fk_tr (fk_tr (fk_i (by omega)) (fk_i (by omega))) (fk_r (by omega) (by omega))) (fk_i (by omega)), fun k => ?_⟩
  simp only [i_si, i_sr, true_and]
theorem c_bl {d p : Nat} (h : Ct_ w R t) (hi : w_i w R 2 = Int32.ofNat p) (hp : p ≤ t.2) {Q : Q_} : cl (d + 1) 265 [v_R (some R)] w Q = wp (d + 1) 265 78 [some (v_R (some R)), some (v_I (Int32.ofNat (cb_ t (sk_ t p)))), none] [] (ug_ w R (sk_ t p)) Q := by
  have h0 := h.1
  have hN := h.2.2.2.2.2.1
  have q1 := c_sk (d := d) h (a1 := none) (a2 := none) (Q := Q) (t.2 - p) p (by omega)
  rw [s_id hi] at q1
  have q1 : wp (d + 1) 265 0 [some (v_R (some R)), none, none] [] w Q = wp (d + 1) 265 50 [some (v_R (some R)), none, none] [] (s_i w R 2 (Int32.ofNat (sk_ t p))) Q := q1
  have hb2 : sk_ t p ≤ t.2 := ce_le.2 hp
  have hb := fun d Q => c_byte (d := d) (k := sk_ t p) (Q := Q) (Ct_fk h (ug_f (w := w) (R := R) (b := sk_ t p)).1) (by omega)
  generalize sk_ t p = b at *
  unfold ug_ at hb ⊢
  rw [x_265_e, q1]
  simp (disch := first | omega | decide | exact ko_b _ | assumption | (simp only [t_si, t_sl, t_sr, t_sI, t_sR, n_si, n_sl, n_sr, n_sI, n_sR, r_si, r_sl, r_sI]; first | done | omega)) only [x_265_e, x_265_b, x_265_50, x_265_51, x_265_52, x_265_55, x_265_58, x_265_59, x_265_61, x_265_64, x_265_65, x_265_66, x_265_69, x_265_70, x_265_71, x_265_74, x_265_77, bk_v, bk_n, nl_I, nl_R, nl_L, nl_0, oo_lt, oo_le, oo_eq, oo_add, oo_sub, oo_tn, oo_ir, nn_leT, nn_leF, nn_ltT, nn_ltF, nn_eqT, nn_eqF, bv_0, bv_1, ko_b, ko_1, ko_0, true_and, and_true, if_true, if_false, not_true_eq_false, not_false_eq_true, oo_02, decide_eq_true_eq, decide_eq_false_iff_not, ite_not, Nat.reduceAdd, Nat.reduceLT, Nat.reduceSub, Nat.reduceLeDiff, reduceIte, Bool.true_eq_false, Bool.false_eq_true, reduceCtorEq, eq_self, decide_true, decide_false, bv_t, bv_f, and_self, t_si, t_sl, t_sr, t_sI, t_sR, n_si, n_sl, n_sr, n_sI, n_sR, r_si, r_sl, r_sI, i_si, i_sr, Nat.reduceEqDiff, and_false, hb]
theorem c_go {D p : Nat} (hD : 9 ≤ D) (h : Ct_ w R t) (hi : w_i w R 2 = Int32.ofNat p) (hp : p ≤ t.2) : ∃ w1, Go_ w R t (sk_ t p) w1 ∧ ∀ Q, cl D 265 [v_R (some R)] w Q = Q (Sum.inl none) w1 := by
  obtain ⟨d, rfl⟩ : ∃ d, D = d + 9 := ⟨D - 9, by omega⟩
  have q0 := fun Q => c_bl (d := d + 8) h hi hp (Q := Q)
  have hb2 : sk_ t p ≤ t.2 := ce_le.2 hp
  generalize sk_ t p = b at *
  obtain ⟨u, hu⟩ : ∃ u, u = ug_ w R b := ⟨_, rfl⟩
  obtain ⟨fu, iu⟩ := ug_f (w := w) (R := R) (b := b)
  rw [← hu] at q0 fu iu
  have hC := Ct_fk h fu
  have t0 := hC.1
  have h3 := hC.2.2.1
  have hN := hC.2.2.2.2.2.1
  have h8 := hC.2.2.2.2.2.2.2.1
  have hR := hC.2.2.2.2.2.2.2.2.1
  have hRz := hC.2.2.2.2.2.2.2.2.2
  have zu : w_z u = w_z w := by rw [hu]; rfl
  have su : w_s u = w_s w := by rw [hu]; rfl
  have i2 : w_i u R 2 = Int32.ofNat b := by rw [iu]; rfl
  have i3 : w_i u R 3 = Int32.ofNat b := by rw [iu]; rfl
  have i5 : w_i u R 5 = Int32.ofNat 0 := by rw [iu]; rfl
  have hl := fun d Q => c_isl (w := u) (d := d) (Q := Q) (cb_lt h8 b)
  have hd := fun d Q => c_isd (w := u) (d := d) (Q := Q) (cb_lt h8 b)
  have hs := fun d Q => c_iss (w := u) (d := d) (Q := Q) (cb_lt h8 b)
  by_cases hz : t.2 ≤ b
  · obtain ⟨k0, e0⟩ := tk_c0 hz
    refine ⟨s_r u R 6 (some 214), ⟨fk_tr fu (fk_r (by omega) (by omega)), by show w_z u ≤ _; omega, by show w_s u ≤ _; omega, hb2, ?_, ?_, ?_, fun z => by omega, fun z => by omega⟩, fun Q => ?_⟩
    · rw [i_sr, e0]; exact i2
    · rw [i_sr]; exact i3
    · rw [r_sr, if_pos ⟨rfl, rfl⟩, k0]; rfl
    · rw [q0]
      simp (disch := first | omega | decide | exact ko_b _ | assumption | (simp only [t_si, t_sl, t_sr, t_sI, t_sR, n_si, n_sl, n_sr, n_sI, n_sR, r_si, r_sl, r_sI]; first | done | omega)) only [x_265_e, x_265_b, x_265_78, x_265_79, x_265_82, x_265_83, x_265_86, x_265_89, x_265_90, x_265_93, x_265_96, x_265_e, x_265_b, x_265_340, bk_v, bk_n, nl_I, nl_R, nl_L, nl_0, oo_lt, oo_le, oo_eq, oo_add, oo_sub, oo_tn, oo_ir, nn_leT, nn_leF, nn_ltT, nn_ltF, nn_eqT, nn_eqF, bv_0, bv_1, ko_b, ko_1, ko_0, true_and, and_true, if_true, if_false, not_true_eq_false, not_false_eq_true, oo_02, decide_eq_true_eq, decide_eq_false_iff_not, ite_not, Nat.reduceAdd, Nat.reduceLT, Nat.reduceSub, Nat.reduceLeDiff, reduceIte, Bool.true_eq_false, Bool.false_eq_true, reduceCtorEq, eq_self, decide_true, decide_false, bv_t, bv_f, and_self, t_si, t_sl, t_sr, t_sI, t_sR, n_si, n_sl, n_sr, n_sI, n_sR, r_si, r_sl, r_sI, i2, h3]
  · have hlt : b < t.2 := by omega
    rw [cb_in hlt] at q0 hl hd hs
    cases cL : ct_l (t.1 b) with
    | true =>
      obtain ⟨k1, e1⟩ := tk_c1 hlt cL
      rw [cL] at hl
      obtain ⟨q, hq⟩ : ∃ q, q = w_z u := ⟨_, rfl⟩
      obtain ⟨u1, hu1⟩ : ∃ u1, u1 = s_n u 37 4 := ⟨_, rfl⟩
      have z1 : w_z u1 = q + 1 := by rw [hu1, z_sn, hq]
      obtain ⟨u2, hu2⟩ : ∃ u2, u2 = s_i (s_r (s_n u1 2 9) q 0 (some (q + 1))) q 1 (Int32.ofNat 0) := ⟨_, rfl⟩
      have z2 : w_z u2 = q + 2 := by rw [hu2, z_si, z_sr, z_sn, z1]
      have t1 : w_t u1 q = 37 := by rw [hu1, t_sn, if_pos hq]
      have t1R : w_t u1 R = 26 := by rw [hu1, t_sn, if_neg (by omega)]; exact t0
      have nw : ∀ d Q, cl (d + 1) 335 [v_R (some q), v_I (Int32.ofNat 9)] u1 Q = Q (Sum.inl none) u2 := fun d Q => by
        have t1n : w_t (s_n u1 2 9) q = 37 := by rw [t_sn, if_neg (by omega)]; exact t1
        have k4 := ko_4
        rw [hu2]
        simp (disch := first | omega | decide | exact ko_b _ | assumption | (simp only [t_si, t_sl, t_sr, t_sI, t_sR, n_si, n_sl, n_sr, n_sI, n_sR, r_si, r_sl, r_sI]; first | done | omega)) only [x_335_e, x_335_b, x_335_0, x_335_1, x_335_2, x_335_5, x_317_e, x_317_b, x_317_0, x_317_1, x_317_4, x_317_7, x_317_10, x_317_11, x_317_12, x_317_14, x_317_17, x_317_18, x_317_19, x_317_22, x_317_25, x_317_26, x_317_30, x_317_33, x_317_34, x_317_35, x_317_38, bk_v, bk_n, nl_I, nl_R, nl_L, nl_0, oo_lt, oo_le, oo_eq, oo_add, oo_sub, oo_tn, oo_ir, nn_leT, nn_leF, nn_ltT, nn_ltF, nn_eqT, nn_eqF, bv_0, bv_1, ko_b, ko_1, ko_0, true_and, and_true, if_true, if_false, not_true_eq_false, not_false_eq_true, oo_02, decide_eq_true_eq, decide_eq_false_iff_not, ite_not, Nat.reduceAdd, Nat.reduceLT, Nat.reduceSub, Nat.reduceLeDiff, reduceIte, Bool.true_eq_false, Bool.false_eq_true, reduceCtorEq, eq_self, decide_true, decide_false, bv_t, bv_f, and_self, t_si, t_sl, t_sr, t_sI, t_sR, n_si, n_sl, n_sr, n_sI, n_sR, r_si, r_sl, r_sI, z1]
      have k2 : Kp_ (fun a => a < q) u u2 := by
        rw [hu2, hu1]
        exact kp_tr (kp_n fun b hb => by omega) (kp_tr (kp_n fun b hb => by rw [z_sn]; omega) (kp_tr (kp_r fun b hb => by omega) (kp_i fun b hb => by omega)))
      have f2 : Fk_ R u u2 := fk_kp k2 (by omega) (by omega) hRz
      have hC2 := Ct_fk hC f2
      have r2 := k2 R (by omega)
      have I0 : Lb_ u2 u2 t R q (q + 1) b 0 := by
        refine ⟨kp_rf _ _, ⟨rfl, rfl⟩, hC2, fun _ _ => rfl, fun _ => rfl, (r2.2.2.1 2).trans i2, ⟨?_, ?_, ?_, ?_, ?_, ?_⟩, fun k hk => by omega⟩
        · rw [hu2, t_si, t_sr, t_sn, if_neg (by omega)]; exact t1
        · rw [hu2, r_si, r_sr, if_pos ⟨rfl, rfl⟩]
        · rw [hu2, i_si, if_pos ⟨rfl, rfl⟩]
        · rw [hu2, i_si, if_neg (by omega), i_sr, i_sn, if_neg (by omega), hu1, i_sn, if_pos hq]; rfl
        · rw [hu2, t_si, t_sr, t_sn, if_pos z1.symm]
        · rw [hu2, n_si, n_sr, n_sn, if_pos z1.symm]
      obtain ⟨u3, ⟨k3, ⟨z3, s3⟩, hC3, j3, j4, j2, b3, v3⟩, q3⟩ := c_wd (d := d + 5) (t := t) (R := R) (B := q) (V := q + 1) (by omega) (by omega) (by omega) (by omega) (by omega) (a1 := some (v_I (Int32.ofNat (t.1 b)))) (t.2 - b) 0 u2 (by omega) I0
      have ee : rn_ (fun k => decide (k < t.2) && ct_l (t.1 k)) (t.2 - b) (b + 0) = tk_e t b := e1.symm
      rw [ee] at j2 b3 v3
      obtain ⟨le1, le2⟩ := tk_ebd hb2
      obtain ⟨u4, ⟨k4, z4, s4, m1, m2, m3, m4, m5, m6⟩, q4⟩ := c_tos (d := d + 3) (q := q + 2) (by omega) b3 (by omega) (by omega) (by omega)
      have t3R := hC3.1
      have f4 : Fk_ R u3 u4 := fk_kp k4 (by omega) (by omega) (by omega)
      have t4R : w_t u4 R = 26 := f4.2.2.1.trans t3R
      have r4 := k4 R (by omega)
      have f3 : Fk_ R u u3 := ⟨by omega, kp_tr (kp_mo k2 fun a ha => by omega) (kp_mo k3 fun a ha => ⟨ha.2, by omega, by omega⟩), hC3.1.trans t0.symm, (j4 0).trans (r2.2.2.2.1 0), (j3 1 (by omega)).trans (r2.2.2.1 1), (j4 8).trans (r2.2.2.2.1 8)⟩
      have tq3 := b3.1
      have ss : w_s u2 = w_s w + 13 := by rw [hu2, s_si, s_sr, s_sn, hu1, s_sn, su]
      refine ⟨s_r (s_r u4 R 7 (some (q + 2))) R 6 (some 210), ⟨fk_tr (fk_tr fu (fk_tr f3 f4)) (fk_tr (fk_r (by omega) (by omega)) (fk_r (by omega) (by omega))), by show w_z u4 ≤ _; omega, by show w_s u4 ≤ _; omega, hb2, ?_, ?_, ?_, fun z => by omega, fun _ => ⟨q + 2, q + 3, ?_, ⟨?_, ?_, by omega, by omega⟩, ?_⟩⟩, fun Q => ?_⟩
      · rw [i_sr, i_sr, r4.2.2.1, j2, show b + (tk_e t b - b) = tk_e t b by omega]
      · rw [i_sr, i_sr, r4.2.2.1, j3 3 (by omega), r2.2.2.1]; exact i3
      · rw [r_sr, if_pos ⟨rfl, rfl⟩, k1]; rfl
      · rw [r_sr, if_neg (by omega), r_sr, if_pos ⟨rfl, rfl⟩]
      · show q + 2 < w_z u4; omega
      · show q + 3 < w_z u4; omega
      · have hlet : ∀ k, k < min (tk_e t b - b) 9 → t.1 (b + k) < 128 := fun k hk => by
          have := (ce_in (c := ct_l) (t := t) (b := b) (k := b + k) (by omega) (by rw [← e1]; omega)).2
          unfold ct_l at this
          have := of_decide_eq_true this
          omega
        refine ⟨m1, ?_, ?_, m4, m5, by omega, fun k hk => (m6 k hk).trans (v3 k hk), hlet, by omega⟩
        · rw [r_sr, if_neg (by omega), r_sr, if_neg (by omega)]; exact m2
        · rw [i_sr, i_sr]; exact m3
      · rw [q0]
        simp (disch := first | omega | decide | exact ko_b _ | assumption | (simp only [t_si, t_sl, t_sr, t_sI, t_sR, n_si, n_sl, n_sr, n_sI, n_sR, r_si, r_sl, r_sI]; first | done | omega)) only [x_265_e, x_265_b, x_265_78, x_265_79, x_265_82, x_265_83, x_265_86, x_265_89, x_265_90, x_265_93, x_265_96, x_265_99, x_265_100, x_265_103, x_265_106, bk_v, bk_n, nl_I, nl_R, nl_L, nl_0, oo_lt, oo_le, oo_eq, oo_add, oo_sub, oo_tn, oo_ir, nn_leT, nn_leF, nn_ltT, nn_ltF, nn_eqT, nn_eqF, bv_0, bv_1, ko_b, ko_1, ko_0, true_and, and_true, if_true, if_false, not_true_eq_false, not_false_eq_true, oo_02, decide_eq_true_eq, decide_eq_false_iff_not, ite_not, Nat.reduceAdd, Nat.reduceLT, Nat.reduceSub, Nat.reduceLeDiff, reduceIte, Bool.true_eq_false, Bool.false_eq_true, reduceCtorEq, eq_self, decide_true, decide_false, bv_t, bv_f, and_self, t_si, t_sl, t_sr, t_sI, t_sR, n_si, n_sl, n_sr, n_sI, n_sR, r_si, r_sl, r_sI, i2, h3, hl, cL]
        rw [← hq, ← hu1]
        simp (disch := first | omega | decide | exact ko_b _ | assumption | (simp only [t_si, t_sl, t_sr, t_sI, t_sR, n_si, n_sl, n_sr, n_sI, n_sR, r_si, r_sl, r_sI]; first | done | omega)) only [x_265_e, x_265_b, x_265_109, x_265_110, x_265_112, x_265_115, bk_v, bk_n, nl_I, nl_R, nl_L, nl_0, oo_lt, oo_le, oo_eq, oo_add, oo_sub, oo_tn, oo_ir, nn_leT, nn_leF, nn_ltT, nn_ltF, nn_eqT, nn_eqF, bv_0, bv_1, ko_b, ko_1, ko_0, true_and, and_true, if_true, if_false, not_true_eq_false, not_false_eq_true, oo_02, decide_eq_true_eq, decide_eq_false_iff_not, ite_not, Nat.reduceAdd, Nat.reduceLT, Nat.reduceSub, Nat.reduceLeDiff, reduceIte, Bool.true_eq_false, Bool.false_eq_true, reduceCtorEq, eq_self, decide_true, decide_false, bv_t, bv_f, and_self, t_si, t_sl, t_sr, t_sI, t_sR, n_si, n_sl, n_sr, n_sI, n_sR, r_si, r_sl, r_sI, nw]
        rw [q3]
        simp (disch := first | omega | decide | exact ko_b _ | assumption | (simp only [t_si, t_sl, t_sr, t_sI, t_sR, n_si, n_sl, n_sr, n_sI, n_sR, r_si, r_sl, r_sI]; first | done | omega)) only [x_265_e, x_265_b, x_265_166, x_265_167, x_265_168, x_265_171, x_265_174, x_265_175, x_265_178, x_265_181, x_265_e, x_265_b, x_265_340, bk_v, bk_n, nl_I, nl_R, nl_L, nl_0, oo_lt, oo_le, oo_eq, oo_add, oo_sub, oo_tn, oo_ir, nn_leT, nn_leF, nn_ltT, nn_ltF, nn_eqT, nn_eqF, bv_0, bv_1, ko_b, ko_1, ko_0, true_and, and_true, if_true, if_false, not_true_eq_false, not_false_eq_true, oo_02, decide_eq_true_eq, decide_eq_false_iff_not, ite_not, Nat.reduceAdd, Nat.reduceLT, Nat.reduceSub, Nat.reduceLeDiff, reduceIte, Bool.true_eq_false, Bool.false_eq_true, reduceCtorEq, eq_self, decide_true, decide_false, bv_t, bv_f, and_self, t_si, t_sl, t_sr, t_sI, t_sR, n_si, n_sl, n_sr, n_sI, n_sR, r_si, r_sl, r_sI, q4]
    | false =>
      rw [cL] at hl
      cases cD : ct_d (t.1 b) with
      | true =>
        obtain ⟨k1, e1⟩ := tk_c2 hlt cL cD
        rw [cD] at hd
        have q3 := fun Q => c_dg (d := d + 8) (b := b) hC i3 (a1 := some (v_I (Int32.ofNat (t.1 b)))) (a2 := none) (Q := Q) (t.2 - b) 0 (by omega)
        have ee : rn_ (fun k => decide (k < t.2) && ct_d (t.1 k)) (t.2 - b) (b + 0) = tk_e t b := e1.symm
        rw [ee] at q3
        obtain ⟨le1, le2⟩ := tk_ebd hb2
        have s0 : s_i (s_i u R 4 (Int32.ofNat (tk_v t b (min 0 4)))) R 2 (Int32.ofNat (b + 0)) = s_i u R 4 (Int32.ofNat 0) := by
          rw [s_cm _ (show 4 ≠ 2 by omega), Nat.add_zero, s_id i2]
          rfl
        rw [s0] at q3
        refine ⟨s_r (s_i (s_i (s_i u R 4 (Int32.ofNat (tk_v t b (min (tk_e t b - b) 4)))) R 2 (Int32.ofNat (tk_e t b))) R 5 (b_v (decide (4 < tk_e t b - b)))) R 6 (some 211), ⟨fk_tr (fk_tr (fk_tr (fk_tr fu (fk_i (by omega))) (fk_i (by omega))) (fk_i (by omega))) (fk_r (by omega) (by omega)), by show w_z u ≤ _; omega, by show w_s u ≤ _; omega, hb2, ?_, ?_, ?_, fun _ => ⟨?_, fun h4 => ?_, tk_v t b (min (tk_e t b - b) 4), ?_⟩, fun z => by omega⟩, fun Q => ?_⟩
        · rw [i_sr, i_si, if_neg (by omega), i_si, if_pos ⟨rfl, rfl⟩]
        · rw [i_sr, i_si, if_neg (by omega), i_si, if_neg (by omega), i_si, if_neg (by omega)]; exact i3
        · rw [r_sr, if_pos ⟨rfl, rfl⟩, k1]; rfl
        · rw [i_sr, i_si, if_pos ⟨rfl, rfl⟩]
        · rw [i_sr, i_si, if_neg (by omega), i_si, if_neg (by omega), i_si, if_pos ⟨rfl, rfl⟩, show min (tk_e t b - b) 4 = tk_e t b - b by omega]; rfl
        · rw [i_sr, i_si, if_neg (by omega), i_si, if_neg (by omega), i_si, if_pos ⟨rfl, rfl⟩]
        · rw [q0]
          simp (disch := first | omega | decide | exact ko_b _ | assumption | (simp only [t_si, t_sl, t_sr, t_sI, t_sR, n_si, n_sl, n_sr, n_sI, n_sR, r_si, r_sl, r_sI]; first | done | omega)) only [x_265_e, x_265_b, x_265_78, x_265_79, x_265_82, x_265_83, x_265_86, x_265_89, x_265_90, x_265_93, x_265_96, x_265_99, x_265_100, x_265_103, x_265_e, x_265_b, x_265_184, x_265_185, x_265_188, x_265_191, x_265_192, x_265_193, bk_v, bk_n, nl_I, nl_R, nl_L, nl_0, oo_lt, oo_le, oo_eq, oo_add, oo_sub, oo_tn, oo_ir, nn_leT, nn_leF, nn_ltT, nn_ltF, nn_eqT, nn_eqF, bv_0, bv_1, ko_b, ko_1, ko_0, true_and, and_true, if_true, if_false, not_true_eq_false, not_false_eq_true, oo_02, decide_eq_true_eq, decide_eq_false_iff_not, ite_not, Nat.reduceAdd, Nat.reduceLT, Nat.reduceSub, Nat.reduceLeDiff, reduceIte, Bool.true_eq_false, Bool.false_eq_true, reduceCtorEq, eq_self, decide_true, decide_false, bv_t, bv_f, and_self, t_si, t_sl, t_sr, t_sI, t_sR, n_si, n_sl, n_sr, n_sI, n_sR, r_si, r_sl, r_sI, i2, h3, hl, hd, cL, cD]
          rw [q3]
          by_cases h4 : 4 < tk_e t b - b
          · rw [decide_eq_true h4]
            simp (disch := first | omega | decide | exact ko_b _ | assumption | (simp only [t_si, t_sl, t_sr, t_sI, t_sR, n_si, n_sl, n_sr, n_sI, n_sR, r_si, r_sl, r_sI]; first | done | omega)) only [x_265_e, x_265_b, x_265_259, x_265_260, x_265_261, x_265_264, x_265_265, x_265_268, x_265_269, x_265_270, x_265_273, x_265_274, x_265_277, x_265_278, x_265_281, x_265_282, x_265_285, x_265_288, x_265_e, x_265_b, x_265_340, bk_v, bk_n, nl_I, nl_R, nl_L, nl_0, oo_lt, oo_le, oo_eq, oo_add, oo_sub, oo_tn, oo_ir, nn_leT, nn_leF, nn_ltT, nn_ltF, nn_eqT, nn_eqF, bv_0, bv_1, ko_b, ko_1, ko_0, true_and, and_true, if_true, if_false, not_true_eq_false, not_false_eq_true, oo_02, decide_eq_true_eq, decide_eq_false_iff_not, ite_not, Nat.reduceAdd, Nat.reduceLT, Nat.reduceSub, Nat.reduceLeDiff, reduceIte, Bool.true_eq_false, Bool.false_eq_true, reduceCtorEq, eq_self, decide_true, decide_false, bv_t, bv_f, and_self, t_si, t_sl, t_sr, t_sI, t_sR, n_si, n_sl, n_sr, n_sI, n_sR, r_si, r_sl, r_sI, i3, i_si, i_sr, Nat.reduceEqDiff, and_false, h4]
          · rw [decide_eq_false h4]
            simp (disch := first | omega | decide | exact ko_b _ | assumption | (simp only [t_si, t_sl, t_sr, t_sI, t_sR, n_si, n_sl, n_sr, n_sI, n_sR, r_si, r_sl, r_sI]; first | done | omega)) only [x_265_e, x_265_b, x_265_259, x_265_260, x_265_261, x_265_264, x_265_265, x_265_268, x_265_269, x_265_270, x_265_273, x_265_274, x_265_277, x_265_278, x_265_281, x_265_282, x_265_285, x_265_288, x_265_e, x_265_b, x_265_340, bk_v, bk_n, nl_I, nl_R, nl_L, nl_0, oo_lt, oo_le, oo_eq, oo_add, oo_sub, oo_tn, oo_ir, nn_leT, nn_leF, nn_ltT, nn_ltF, nn_eqT, nn_eqF, bv_0, bv_1, ko_b, ko_1, ko_0, true_and, and_true, if_true, if_false, not_true_eq_false, not_false_eq_true, oo_02, decide_eq_true_eq, decide_eq_false_iff_not, ite_not, Nat.reduceAdd, Nat.reduceLT, Nat.reduceSub, Nat.reduceLeDiff, reduceIte, Bool.true_eq_false, Bool.false_eq_true, reduceCtorEq, eq_self, decide_true, decide_false, bv_t, bv_f, and_self, t_si, t_sl, t_sr, t_sI, t_sR, n_si, n_sl, n_sr, n_sI, n_sR, r_si, r_sl, r_sI, i3, i_si, i_sr, Nat.reduceEqDiff, and_false, h4]
      | false =>
        rw [cD] at hd
        obtain ⟨k1, e1⟩ := tk_c3 hlt cL cD
        cases cs : ct_s (t.1 b) with
        | true =>
          rw [cs, if_pos rfl] at k1
          rw [cs] at hs
          have hx : t.1 b < 128 := by
            unfold ct_s at cs
            have := of_decide_eq_true cs
            omega
          have ic : ((Int32.ofNat (t.1 b)).toUInt32 % 65536).toInt32 = Int32.ofNat (t.1 b) := (ch_i2c ⟨t.1 b, h8 _⟩).1
          obtain ⟨v, hv⟩ : ∃ v, v = s_r u R 6 (some 212) := ⟨_, rfl⟩
          have fv : Fk_ R u v := by rw [hv]; exact fk_r (by omega) (by omega)
          have hCv := Ct_fk hC fv
          have tv := hCv.1
          have v6 : w_r v R 6 = some 212 := by rw [hv, r_sr, if_pos ⟨rfl, rfl⟩]
          have zv : w_z v = w_z w := by rw [hv]; exact zu
          have sv : w_s v = w_s w := by rw [hv]; exact su
          have iv : ∀ k, w_i v R k = w_i u R k := fun k => by rw [hv, i_sr]
          obtain ⟨q, hq⟩ : ∃ q, w_z v = q := ⟨_, rfl⟩
          obtain ⟨u4, ⟨k4, z4, s4, m1, m2, m3, m4, m5, m6⟩, q4⟩ := c_vch (w := v) (q := q) (d := d + 6) hq hx
          have f4 : Fk_ R v u4 := fk_kp k4 (by omega) (by omega) (by omega)
          have t4 : w_t u4 R = 26 := f4.2.2.1.trans tv
          have r4 := k4 R (by omega)
          have j2 : w_i u4 R 2 = Int32.ofNat b := (r4.2.2.1 2).trans ((iv 2).trans i2)
          refine ⟨s_i (s_r u4 R 7 (some q)) R 2 (Int32.ofNat (b + 1)), ⟨fk_tr (fk_tr (fk_tr fu (fk_tr fv f4)) (fk_r (by omega) (by omega))) (fk_i (by omega)), by show w_z u4 ≤ _; omega, by show w_s u4 ≤ _; omega, hb2, ?_, ?_, ?_, fun z => by omega, fun _ => ⟨q, q + 1, ?_, ⟨?_, ?_, by omega, by omega⟩, ?_⟩⟩, fun Q => ?_⟩
          · rw [i_si, if_pos ⟨rfl, rfl⟩, e1]
          · rw [i_si, if_neg (by omega), i_sr, r4.2.2.1, iv]; exact i3
          · rw [r_si, r_sr, if_neg (by omega), r4.2.2.2.1, v6, k1]; rfl
          · rw [r_si, r_sr, if_pos ⟨rfl, rfl⟩]
          · show q < w_z u4; omega
          · show q + 1 < w_z u4; omega
          · have en : min (tk_e t b - b) 9 = 1 := by omega
            rw [en]
            refine ⟨m1, ?_, ?_, m4, m5, by omega, fun k hk => ?_, fun k hk => ?_, by omega⟩
            · rw [r_si, r_sr, if_neg (by omega)]; exact m2
            · rw [i_si, if_neg (by omega), i_sr]; exact m3
            · have : k = 0 := by omega
              subst this
              rw [i_si, if_neg (by omega), i_sr]; exact m6
            · have : k = 0 := by omega
              subst this
              exact hx
          · rw [q0]
            simp (disch := first | omega | decide | exact ko_b _ | assumption | (simp only [t_si, t_sl, t_sr, t_sI, t_sR, n_si, n_sl, n_sr, n_sI, n_sR, r_si, r_sl, r_sI]; first | done | omega)) only [x_265_e, x_265_b, x_265_78, x_265_79, x_265_82, x_265_83, x_265_86, x_265_89, x_265_90, x_265_93, x_265_96, x_265_99, x_265_100, x_265_103, x_265_e, x_265_b, x_265_184, x_265_185, x_265_188, x_265_e, x_265_b, x_265_291, x_265_292, x_265_293, x_265_296, x_265_299, x_265_302, x_265_305, x_265_308, bk_v, bk_n, nl_I, nl_R, nl_L, nl_0, oo_lt, oo_le, oo_eq, oo_add, oo_sub, oo_tn, oo_ir, nn_leT, nn_leF, nn_ltT, nn_ltF, nn_eqT, nn_eqF, bv_0, bv_1, ko_b, ko_1, ko_0, true_and, and_true, if_true, if_false, not_true_eq_false, not_false_eq_true, oo_02, decide_eq_true_eq, decide_eq_false_iff_not, ite_not, Nat.reduceAdd, Nat.reduceLT, Nat.reduceSub, Nat.reduceLeDiff, reduceIte, Bool.true_eq_false, Bool.false_eq_true, reduceCtorEq, eq_self, decide_true, decide_false, bv_t, bv_f, and_self, t_si, t_sl, t_sr, t_sI, t_sR, n_si, n_sl, n_sr, n_sI, n_sR, r_si, r_sl, r_sI, i2, h3, hl, hd, hs, cL, cD, cs]
            rw [← hv]
            simp (disch := first | omega | decide | exact ko_b _ | assumption | (simp only [t_si, t_sl, t_sr, t_sI, t_sR, n_si, n_sl, n_sr, n_sI, n_sR, r_si, r_sl, r_sI]; first | done | omega)) only [x_265_e, x_265_b, x_265_311, x_265_312, x_265_315, x_265_318, x_265_321, x_265_322, x_265_323, x_265_324, x_265_327, x_265_330, x_265_331, x_265_332, x_265_335, x_265_336, x_265_337, x_265_340, bk_v, bk_n, nl_I, nl_R, nl_L, nl_0, oo_lt, oo_le, oo_eq, oo_add, oo_sub, oo_tn, oo_ir, nn_leT, nn_leF, nn_ltT, nn_ltF, nn_eqT, nn_eqF, bv_0, bv_1, ko_b, ko_1, ko_0, true_and, and_true, if_true, if_false, not_true_eq_false, not_false_eq_true, oo_02, decide_eq_true_eq, decide_eq_false_iff_not, ite_not, Nat.reduceAdd, Nat.reduceLT, Nat.reduceSub, Nat.reduceLeDiff, reduceIte, Bool.true_eq_false, Bool.false_eq_true, reduceCtorEq, eq_self, decide_true, decide_false, bv_t, bv_f, and_self, t_si, t_sl, t_sr, t_sI, t_sR, n_si, n_sl, n_sr, n_sI, n_sR, r_si, r_sl, r_sI, v6, ic, q4, j2, i_sr, i_si]
        | false =>
          rw [cs, if_neg Bool.false_ne_true] at k1
          rw [cs] at hs
          refine ⟨s_i (s_r u R 6 (some 213)) R 2 (Int32.ofNat (b + 1)), ⟨fk_tr (fk_tr fu (fk_r (by omega) (by omega))) (fk_i (by omega)), by show w_z u ≤ _; omega, by show w_s u ≤ _; omega, hb2, ?_, ?_, ?_, fun z => by omega, fun z => by omega⟩, fun Q => ?_⟩
          · rw [i_si, if_pos ⟨rfl, rfl⟩, e1]
          · rw [i_si, if_neg (by omega), i_sr]; exact i3
          · rw [r_si, r_sr, if_pos ⟨rfl, rfl⟩, k1]; rfl
          · have e23 : ¬ (some 213 : Option Nat) = some 212 := by decide
            rw [q0]
            simp (disch := first | omega | decide | exact ko_b _ | assumption | (simp only [t_si, t_sl, t_sr, t_sI, t_sR, n_si, n_sl, n_sr, n_sI, n_sR, r_si, r_sl, r_sI]; first | done | omega)) only [x_265_e, x_265_b, x_265_78, x_265_79, x_265_82, x_265_83, x_265_86, x_265_89, x_265_90, x_265_93, x_265_96, x_265_99, x_265_100, x_265_103, x_265_e, x_265_b, x_265_184, x_265_185, x_265_188, x_265_e, x_265_b, x_265_291, x_265_292, x_265_293, x_265_296, x_265_299, x_265_302, x_265_305, x_265_308, x_265_311, x_265_312, x_265_315, x_265_318, x_265_321, x_265_322, x_265_323, x_265_324, x_265_327, x_265_330, x_265_331, x_265_332, x_265_335, x_265_336, x_265_337, x_265_340, bk_v, bk_n, nl_I, nl_R, nl_L, nl_0, oo_lt, oo_le, oo_eq, oo_add, oo_sub, oo_tn, oo_ir, nn_leT, nn_leF, nn_ltT, nn_ltF, nn_eqT, nn_eqF, bv_0, bv_1, ko_b, ko_1, ko_0, true_and, and_true, if_true, if_false, not_true_eq_false, not_false_eq_true, oo_02, decide_eq_true_eq, decide_eq_false_iff_not, ite_not, Nat.reduceAdd, Nat.reduceLT, Nat.reduceSub, Nat.reduceLeDiff, reduceIte, Bool.true_eq_false, Bool.false_eq_true, reduceCtorEq, eq_self, decide_true, decide_false, bv_t, bv_f, and_self, t_si, t_sl, t_sr, t_sI, t_sR, n_si, n_sl, n_sr, n_sI, n_sR, r_si, r_sl, r_sI, i2, h3, hl, hd, hs, cL, cD, cs, r_sr, i_sr, i_si, e23, and_self]
end
