/-! FEED: the component -/
set_option maxRecDepth 100000
def CF_ (d t : Nat) (as : S_) (w : Wd) (r : Vl) (G : Gm) (S1 : Sm) : Prop := ∃ w1 σ1, (∀ a, a < 1000 ∨ (1440 ≤ a ∧ a ≤ 1476) → Eq_ w w1 a) ∧ w_z w1 = w_z w ∧ sl_ w1 = sl_ w ∧ RC_ w1 G σ1 S1 ∧ ∀ Q, cl d t as w Q = Q (Sum.inl (some r)) w1
def p_fd (a k : Nat) : Prop := a = 1434 ∨ (a = 1000 ∧ k = 7)
section
variable {w : Wd} {S : Sm} {G : Gm} {σ : Nat → Nat}
/-- the tape alone changes -/
theorem RC_tape {w1 : Wd} {S1 : Sm} (h : RC_ w G σ S) (hV : WS_ S) (hf : Fr_ p_fd w w1) (e1 : sm_T S1 = sm_T S) (e2 : sm_B S1 = sm_B S) (e3 : sm_I S1 = sm_I S) (e4 : sm_f S1 = sm_f S) (h12 : ∀ k, k < 600 → w_i w1 1434 k = sb_y (sm_tp S1 k)) (h13 : w_i w1 1000 7 = Int32.ofNat (sm_n S1)) : RC_ w1 G σ S1 := by
  obtain ⟨g1, g2, g3, g4, g5, g6, g7, g8, g9, g10, g11, g12, g13, g14⟩ := h
  obtain ⟨f1, f2, f3, f4, f5, f6⟩ := hf
  have hz : w_z w ≤ w_z w1 := by omega
  have hS : ∀ a, Sh_ w w1 a := fun a => ⟨by rw [f1], by rw [f2], fun k => by rw [f3]⟩
  have g : ∀ a k, a ≠ 1434 → (a ≠ 1000 ∨ k ≠ 7) → w_i w1 a k = w_i w a k := fun a k z y => f6 a k (by unfold p_fd; omega)
  have f6S : ∀ a k, gz_ a → a < w_z w → 20 ≤ w_t w a → w_i w1 a k = w_i w a k := fun a k b1 _ _ => g a k (by unfold gz_ at b1; omega) (by unfold gz_ at b1; omega)
  have hL9 := g7.2.2.1
  refine ⟨sh_C_ag g1 hz (fun b _ _ => ⟨by rw [f1], by rw [f2]⟩) (fun k _ => by rw [f3]), ⟨sh_B_ag g2.1 (fun b _ _ => hS b), sh_K_ag g2.2.1 (fun b _ _ => hS b), sh_B_ag g2.2.2.1 (fun b _ _ => hS b), sh_K_ag g2.2.2.2.1 (fun b _ _ => hS b), SO_ag g2.2.2.2.2 (fun b _ _ => hS b)⟩, by rw [f3]; exact g3, by rw [e1]; exact CT_ag g4 g6 (fun a _ _ => hS a) f6S, by rw [e1]; exact CE_ag g5 hz (fun a _ _ => hS a) f6S, by rw [e1]; exact GZ_ag g6 hz, CL_ag g7 (g _ _ (by omega) (by omega)) (fun k => by rw [f3]), by rw [e1, e2]; exact CB_ag g8 hV.2.2.2.1.2.2.1 hL9 (fun b k b1 b2 => g b k (by omega) (by omega)), CL_ag g9 (g _ _ (by omega) (by omega)) (fun k => by rw [f3]), by rw [e3, g _ _ (by omega) (by omega)]; exact g10, fun B hB => by rw [e3] at hB; rw [e1]; exact CB_ag (g11 B hB) (hV.2.2.2.2.1 B hB).2.2.1 (fun k hk => hk) (fun b k b1 b2 => g b k (by omega) (by omega)), h12, h13, by rw [e4, g _ _ (by omega) (by omega)]; exact g14⟩
theorem c_lay (hC : sh_C w) {d p : Nat} {v : Int32} (hp : p + 4 ≤ 600) (h7 : w_i w 1000 7 = Int32.ofNat p) : ∃ w1, Fr_ p_fd w w1 ∧ w_i w1 1000 7 = Int32.ofNat (p + 4) ∧ (∀ j, w_i w1 1434 j = if p ≤ j ∧ j < p + 4 then sb_y (w_by v (j - p)) else w_i w 1434 j) ∧ ∀ Q, cl d 25 [v_R (some 1000), v_I v] w Q = Q (Sum.inl none) w1 := by
  unfold sh_C at hC
  refine ⟨s_i (s_i (s_i (s_i (s_i (s_i (s_i (s_i w 1434 p (vp_nar .byte ((v >>> (Int32.ofNat (24 - 8 * 0) &&& 31)).toInt8.toInt32))) 1000 7 (Int32.ofNat (p + 1))) 1434 (p + 1) (vp_nar .byte ((v >>> (Int32.ofNat (24 - 8 * 1) &&& 31)).toInt8.toInt32))) 1000 7 (Int32.ofNat (p + 2))) 1434 (p + 2) (vp_nar .byte ((v >>> (Int32.ofNat (24 - 8 * 2) &&& 31)).toInt8.toInt32))) 1000 7 (Int32.ofNat (p + 3))) 1434 (p + 3) (vp_nar .byte ((v >>> (Int32.ofNat (24 - 8 * 3) &&& 31)).toInt8.toInt32))) 1000 7 (Int32.ofNat (p + 4)), ?_, by rw [i_si, if_pos ⟨rfl, rfl⟩], fun j => ?_, fun Q => ?_⟩
  · have u : ∀ k, p_fd 1434 k := fun k => Or.inl rfl
    have u2 : p_fd 1000 7 := Or.inr ⟨rfl, rfl⟩
    exact fr_si (fr_si (fr_si (fr_si (fr_si (fr_si (fr_si (fr_si (fr_rf _ _) (u _)) u2) (u _)) u2) (u _)) u2) (u _)) u2
  · rw [(by_m v 0).2.2, (by_m v 1).2.2, (by_m v 2).2.2, (by_m v 3).2.2]
    simp only [i_si, Nat.reduceEqDiff, false_and, if_false, true_and]
    by_cases c3 : j = p + 3
    · subst c3; rw [if_pos rfl, if_pos (by omega), Nat.add_sub_cancel_left]
    · rw [if_neg c3]
      by_cases c2 : j = p + 2
      · subst c2; rw [if_pos rfl, if_pos (by omega), Nat.add_sub_cancel_left]
      · rw [if_neg c2]
        by_cases c1 : j = p + 1
        · subst c1; rw [if_pos rfl, if_pos (by omega), Nat.add_sub_cancel_left]
        · rw [if_neg c1]
          by_cases c0 : j = p
          · subst c0; rw [if_pos rfl, if_pos (by omega), Nat.sub_self]
          · rw [if_neg c0, if_neg (by omega)]
  · have e1 : Int32.ofNat 24 + Int32.ofInt (-8) = Int32.ofNat 16 := by decide
    have e2 : Int32.ofNat 16 + Int32.ofInt (-8) = Int32.ofNat 8 := by decide
    have e3 : Int32.ofNat 8 + Int32.ofInt (-8) = Int32.ofNat 0 := by decide
    have e4 : (Int32.ofNat 0 + Int32.ofInt (-8) < Int32.ofNat 0) = True := eq_true (by decide)
    have k1 : ∀ (k : Nat) (x : Int32) (w : Wd), w_t w 1000 = 20 → w_r w 1000 6 = some 1434 → w_t w 1434 = 2 → w_n w 1434 = 600 → ∀ p, p < 600 → w_i w 1000 7 = Int32.ofNat p → ¬ x < Int32.ofNat 0 → ∀ Q, wp d 25 3 [some (v_R (some 1000)), some (v_I v), some (v_I x)] [] w Q = wp d 25 3 [some (v_R (some 1000)), some (v_I v), some (v_I (x + Int32.ofInt (-8)))] [] (s_i (s_i w 1434 p (vp_nar .byte ((v >>> (x &&& 31)).toInt8.toInt32))) 1000 7 (Int32.ofNat (p + 1))) Q := by
      intro k x w a1 a2 a3 a4 p hp a5 hx Q
      rw [x_25_3]
      simp (disch := first | omega | decide | exact ko_b _ | assumption | (simp only [t_si, t_sl, t_sr, t_sI, t_sR, n_si, n_sl, n_sr, n_sI, n_sR, r_si, r_sl, r_sI]; first | done | omega)) only [x_25_e, x_25_b, x_25_4, x_25_7, x_25_8, x_25_11, x_25_12, x_25_15, x_25_16, x_25_17, x_25_18, x_25_19, x_25_20, x_25_21, x_25_22, x_25_25, x_25_26, x_25_27, x_25_30, x_25_33, bk_v, bk_n, nl_I, nl_R, nl_L, nl_0, oo_lt, oo_le, oo_eq, oo_add, oo_sub, oo_tn, oo_ir, nn_leT, nn_leF, nn_ltT, nn_ltF, nn_eqT, nn_eqF, bv_0, bv_1, ko_b, ko_1, ko_0, true_and, and_true, if_true, if_false, not_true_eq_false, not_false_eq_true, oo_02, decide_eq_true_eq, decide_eq_false_iff_not, ite_not, Nat.reduceAdd, Nat.reduceLT, Nat.reduceSub, Nat.reduceLeDiff, reduceIte, Bool.true_eq_false, Bool.false_eq_true, reduceCtorEq, eq_self, decide_true, decide_false, bv_t, bv_f, and_self, t_si, t_sl, t_sr, t_sI, t_sR, n_si, n_sl, n_sr, n_sI, n_sR, r_si, r_sl, r_sI, hx, a2, a4, a5, i_si, Nat.reduceEqDiff, false_and]
    have k0 : cl d 25 [v_R (some 1000), v_I v] w Q = wp d 25 3 [some (v_R (some 1000)), some (v_I v), some (v_I (Int32.ofNat 24))] [] w Q := by
      simp (disch := first | omega | decide | exact ko_b _ | assumption | (simp only [t_si, t_sl, t_sr, t_sI, t_sR, n_si, n_sl, n_sr, n_sI, n_sR, r_si, r_sl, r_sI]; first | done | omega)) only [x_25_e, x_25_b, x_25_0, x_25_2, bk_v, bk_n, nl_I, nl_R, nl_L, nl_0, oo_lt, oo_le, oo_eq, oo_add, oo_sub, oo_tn, oo_ir, nn_leT, nn_leF, nn_ltT, nn_ltF, nn_eqT, nn_eqF, bv_0, bv_1, ko_b, ko_1, ko_0, true_and, and_true, if_true, if_false, not_true_eq_false, not_false_eq_true, oo_02, decide_eq_true_eq, decide_eq_false_iff_not, ite_not, Nat.reduceAdd, Nat.reduceLT, Nat.reduceSub, Nat.reduceLeDiff, reduceIte, Bool.true_eq_false, Bool.false_eq_true, reduceCtorEq, eq_self, decide_true, decide_false, bv_t, bv_f, and_self, t_si, t_sl, t_sr, t_sI, t_sR, n_si, n_sl, n_sr, n_sI, n_sR, r_si, r_sl, r_sI]
    have nl : ∀ n, n < 100 → ¬ Int32.ofNat n < Int32.ofNat 0 := fun n hn => by rw [oo_lt (by omega) (by omega)]; omega
    have r6 : w_r w 1000 6 = some 1434 := by simp only [hC]
    have t0 : w_t w 1000 = 20 := by simp only [hC]
    have t4 : w_t w 1434 = 2 := by simp only [hC]
    have n4 : w_n w 1434 = 600 := by simp only [hC]
    rw [k0, k1 0 _ w t0 r6 t4 n4 p (by omega) h7 (nl 24 (by omega)) Q, e1]
    refine Eq.trans (k1 0 _ _ (by exact t0) (by exact r6) (by exact t4) (by exact n4) (p + 1) (by omega) (by rw [i_si, if_pos ⟨rfl, rfl⟩]) (nl 16 (by omega)) Q) ?_
    rw [e2]
    refine Eq.trans (k1 0 _ _ (by exact t0) (by exact r6) (by exact t4) (by exact n4) (p + 1 + 1) (by omega) (by rw [i_si, if_pos ⟨rfl, rfl⟩]) (nl 8 (by omega)) Q) ?_
    rw [e3]
    refine Eq.trans (k1 0 _ _ (by exact t0) (by exact r6) (by exact t4) (by exact n4) (p + 1 + 1 + 1) (by omega) (by rw [i_si, if_pos ⟨rfl, rfl⟩]) (nl 0 (by omega)) Q) ?_
    rw [x_25_3]
    simp (disch := first | omega | decide | exact ko_b _ | assumption | (simp only [t_si, t_sl, t_sr, t_sI, t_sR, n_si, n_sl, n_sr, n_sI, n_sR, r_si, r_sl, r_sI]; first | done | omega)) only [x_25_e, x_25_b, x_25_4, x_25_7, x_25_8, x_25_11, x_25_12, x_25_15, x_25_16, x_25_17, x_25_18, x_25_19, x_25_20, x_25_21, x_25_22, x_25_25, x_25_26, x_25_27, x_25_30, x_25_33, x_25_36, bk_v, bk_n, nl_I, nl_R, nl_L, nl_0, oo_lt, oo_le, oo_eq, oo_add, oo_sub, oo_tn, oo_ir, nn_leT, nn_leF, nn_ltT, nn_ltF, nn_eqT, nn_eqF, bv_0, bv_1, ko_b, ko_1, ko_0, true_and, and_true, if_true, if_false, not_true_eq_false, not_false_eq_true, oo_02, decide_eq_true_eq, decide_eq_false_iff_not, ite_not, Nat.reduceAdd, Nat.reduceLT, Nat.reduceSub, Nat.reduceLeDiff, reduceIte, Bool.true_eq_false, Bool.false_eq_true, reduceCtorEq, eq_self, decide_true, decide_false, bv_t, bv_f, and_self, t_si, t_sl, t_sr, t_sI, t_sR, n_si, n_sl, n_sr, n_sI, n_sR, r_si, r_sl, r_sI, e4]
theorem c_feed_no (h : RC_ w G σ S) (hV : WS_ S) {d : Nat} {a b c e f : Int32} (hn : 600 < sm_n S + 20) : CR_ G (d + 12) 24 [v_R (some 1000), v_I a, v_I b, v_I c, v_I e, v_I f] w (v_I (Int32.ofInt (-1))) := cr_0 fun Q => by
  have h6 := hV.2.2.2.2.2.1
  have hq := RC_CQ h hV
  have hC := h.1
  unfold sh_C at hC
  have hr0 : w_r w 1000 0 = some (gm_b G) := h.2.2.1
  have hT := h.2.2.2.1
  unfold CT_ at hT
  have hA : SO_ w 1008 := h.2.1.2.1.1
  unfold SO_ at hA
  have hA2 : SO_ w 1429 := h.2.1.2.2.2.2
  unfold SO_ at hA2
  have hS : CS_ w 1008 (tm_n (sm_T S)) (bm_X (sm_B S)) := h.2.2.2.2.2.2.2.1.1
  unfold CS_ at hS
  have hK : sh_B w 1007 := h.2.1.1
  unfold sh_B at hK
  have hB := h.2.2.2.2.2.2.2.1.2
  have hR := h.2.2.2.2.2.2.2.2.2
  simp only [Nat.reduceAdd] at hA hA2 hS hK hB
  obtain ⟨hn, hk4⟩ := hV.1
  obtain ⟨hW1, hW2, hW3⟩ := hV.2.2.2.1.1
  simp (disch := first | omega | decide | exact ko_b _ | assumption | (simp only [t_si, t_sl, t_sr, t_sI, t_sR, n_si, n_sl, n_sr, n_sI, n_sR, r_si, r_sl, r_sI]; first | done | omega)) only [x_24_e, x_24_b, x_24_0, x_24_1, x_24_4, x_24_6, x_24_7, x_24_10, x_24_13, x_24_14, x_24_15, x_24_16, x_24_17, x_24_20, x_24_21, x_24_22, x_24_25, x_24_26, x_24_27, x_24_30, x_24_31, x_24_33, x_24_36, x_24_37, x_24_39, x_24_42, x_24_43, x_24_46, bk_v, bk_n, nl_I, nl_R, nl_L, nl_0, oo_lt, oo_le, oo_eq, oo_add, oo_sub, oo_tn, oo_ir, nn_leT, nn_leF, nn_ltT, nn_ltF, nn_eqT, nn_eqF, bv_0, bv_1, ko_b, ko_1, ko_0, true_and, and_true, if_true, if_false, not_true_eq_false, not_false_eq_true, oo_02, decide_eq_true_eq, decide_eq_false_iff_not, ite_not, Nat.reduceAdd, Nat.reduceLT, Nat.reduceSub, Nat.reduceLeDiff, reduceIte, Bool.true_eq_false, Bool.false_eq_true, reduceCtorEq, eq_self, decide_true, decide_false, bv_t, bv_f, and_self, t_si, t_sl, t_sr, t_sI, t_sR, n_si, n_sl, n_sr, n_sI, n_sR, r_si, r_sl, r_sI, hC, hr0, hT, hA, hS, hK, hB, hR]
theorem c_feed (h : RC_ w G σ S) (hV : WS_ S) {d : Nat} {a b c e f : Int32} (hn : sm_n S + 20 ≤ 600) : CF_ (d + 12) 24 [v_R (some 1000), v_I a, v_I b, v_I c, v_I e, v_I f] w (v_I (Int32.ofNat (sm_n S + 20))) G (s_feed S a b c e f) := by
  have e13 : w_i w 1000 7 = Int32.ofNat (sm_n S) := h.2.2.2.2.2.2.2.2.2.2.2.2.1
  have etp := h.2.2.2.2.2.2.2.2.2.2.2.1
  have shC : ∀ {u v : Wd}, sh_C u → Fr_ p_fd u v → sh_C v := fun hu hf => sh_C_ag hu (by rw [hf.2.2.2.1]; exact Nat.le_refl _) (fun b _ _ => ⟨by rw [hf.1], by rw [hf.2.1]⟩) (fun k _ => by rw [hf.2.2.1])
  obtain ⟨w1, f1, a1, b1, q1⟩ := c_lay h.1 (d := d + 11) (v := a) (p := sm_n S) (by omega) e13
  have h1 := shC h.1 f1
  obtain ⟨w2, f2, a2, b2, q2⟩ := c_lay h1 (d := d + 11) (v := b) (p := sm_n S + 4) (by omega) a1
  have h2 := shC h1 f2
  obtain ⟨w3, f3, a3, b3, q3⟩ := c_lay h2 (d := d + 11) (v := c) (p := sm_n S + 4 + 4) (by omega) a2
  have h3 := shC h2 f3
  obtain ⟨w4, f4, a4, b4, q4⟩ := c_lay h3 (d := d + 11) (v := e) (p := sm_n S + 4 + 4 + 4) (by omega) a3
  have h4 := shC h3 f4
  obtain ⟨w5, f5, a5, b5, q5⟩ := c_lay h4 (d := d + 11) (v := f) (p := sm_n S + 4 + 4 + 4 + 4) (by omega) a4
  have ff := fr_tr (fr_tr (fr_tr (fr_tr f1 f2) f3) f4) f5
  have a5 : w_i w5 1000 7 = Int32.ofNat (sm_n S + 20) := a5
  refine ⟨w5, σ, fun x x1 => ⟨by rw [ff.1], by rw [ff.2.1], fun k => by rw [ff.2.2.1], fun k => ff.2.2.2.2.2 x k (by unfold p_fd; omega)⟩, ff.2.2.2.1, ff.2.2.2.2.1, RC_tape h hV ff rfl rfl rfl rfl (fun j hj => ?_) a5, fun Q => ?_⟩
  · rw [b5, b4, b3, b2, b1, etp j hj]
    show _ = sb_y (if sm_n S ≤ j ∧ j < sm_n S + 20 then w_by (wd_5 a b c e f (j - sm_n S)) ((j - sm_n S) % 4) else sm_tp S j)
    unfold wd_5
    by_cases c5 : sm_n S + 4 + 4 + 4 + 4 ≤ j ∧ j < sm_n S + 4 + 4 + 4 + 4 + 4
    · rw [if_pos c5, if_pos (by omega), if_neg (by omega), if_neg (by omega), if_neg (by omega), if_neg (by omega), show (j - sm_n S) % 4 = j - (sm_n S + 4 + 4 + 4 + 4) by omega]
    · rw [if_neg c5]
      by_cases c4 : sm_n S + 4 + 4 + 4 ≤ j ∧ j < sm_n S + 4 + 4 + 4 + 4
      · rw [if_pos c4, if_pos (by omega), if_neg (by omega), if_neg (by omega), if_neg (by omega), if_pos (by omega), show (j - sm_n S) % 4 = j - (sm_n S + 4 + 4 + 4) by omega]
      · rw [if_neg c4]
        by_cases c3 : sm_n S + 4 + 4 ≤ j ∧ j < sm_n S + 4 + 4 + 4
        · rw [if_pos c3, if_pos (by omega), if_neg (by omega), if_neg (by omega), if_pos (by omega), show (j - sm_n S) % 4 = j - (sm_n S + 4 + 4) by omega]
        · rw [if_neg c3]
          by_cases c2 : sm_n S + 4 ≤ j ∧ j < sm_n S + 4 + 4
          · rw [if_pos c2, if_pos (by omega), if_neg (by omega), if_pos (by omega), show (j - sm_n S) % 4 = j - (sm_n S + 4) by omega]
          · rw [if_neg c2]
            by_cases c1 : sm_n S ≤ j ∧ j < sm_n S + 4
            · rw [if_pos c1, if_pos (by omega), if_pos (by omega), show (j - sm_n S) % 4 = j - sm_n S by omega]
            · rw [if_neg c1, if_neg (by omega)]
  · have t0 : w_t w 1000 = 20 := h.1.1
    have t1 : w_t w1 1000 = 20 := h1.1
    have t2 : w_t w2 1000 = 20 := h2.1
    have t3 : w_t w3 1000 = 20 := h3.1
    have t4 : w_t w4 1000 = 20 := h4.1
    have t5 : w_t w5 1000 = 20 := by rw [ff.1]; exact t0
    simp (disch := first | omega | decide | exact ko_b _ | assumption | (simp only [t_si, t_sl, t_sr, t_sI, t_sR, n_si, n_sl, n_sr, n_sI, n_sR, r_si, r_sl, r_sI]; first | done | omega)) only [x_24_e, x_24_b, x_24_0, x_24_1, x_24_4, x_24_6, x_24_7, x_24_10, x_24_13, x_24_14, x_24_15, x_24_16, x_24_17, x_24_20, x_24_21, x_24_22, x_24_25, x_24_26, x_24_27, x_24_30, x_24_31, x_24_33, x_24_36, x_24_37, x_24_39, x_24_42, x_24_43, x_24_46, bk_v, bk_n, nl_I, nl_R, nl_L, nl_0, oo_lt, oo_le, oo_eq, oo_add, oo_sub, oo_tn, oo_ir, nn_leT, nn_leF, nn_ltT, nn_ltF, nn_eqT, nn_eqF, bv_0, bv_1, ko_b, ko_1, ko_0, true_and, and_true, if_true, if_false, not_true_eq_false, not_false_eq_true, oo_02, decide_eq_true_eq, decide_eq_false_iff_not, ite_not, Nat.reduceAdd, Nat.reduceLT, Nat.reduceSub, Nat.reduceLeDiff, reduceIte, Bool.true_eq_false, Bool.false_eq_true, reduceCtorEq, eq_self, decide_true, decide_false, bv_t, bv_f, and_self, t_si, t_sl, t_sr, t_sI, t_sR, n_si, n_sl, n_sr, n_sI, n_sR, r_si, r_sl, r_sI, e13, q1, q2, q3, q4, q5, a5]
end
