/-! IMAGE AND RESTORE: the component -/
set_option maxRecDepth 100000
section
variable {w : Wd} {S : Sm} {G : Gm} {σ : Nat → Nat}
theorem c_rst_no (h : RC_ w G σ S) (hV : WS_ S) {d : Nat} (hI : sm_I S = none) : CR_ G (d + 12) 64 [v_R (some 1000)] w (v_I (b_v false)) := cr_0 fun Q => by
  have e5 : w_i w 1000 5 = Int32.ofNat 0 := by rw [h.2.2.2.2.2.2.2.2.2.1, hI]; rfl
  have t0 := h.1.1
  simp (disch := first | omega | decide | exact ko_b _ | assumption | (simp only [t_si, t_sl, t_sr, t_sI, t_sR, n_si, n_sl, n_sr, n_sI, n_sR, r_si, r_sl, r_sI]; first | done | omega)) only [x_64_e, x_64_b, x_64_0, x_64_1, x_64_4, x_64_7, x_64_8, x_64_9, x_64_10, x_64_13, x_64_14, x_64_17, x_64_20, x_64_21, bk_v, bk_n, nl_I, nl_R, nl_L, nl_0, oo_lt, oo_le, oo_eq, oo_add, oo_sub, oo_tn, oo_ir, nn_leT, nn_leF, nn_ltT, nn_ltF, nn_eqT, nn_eqF, bv_0, bv_1, ko_b, ko_1, ko_0, true_and, and_true, if_true, if_false, not_true_eq_false, not_false_eq_true, oo_02, decide_eq_true_eq, decide_eq_false_iff_not, ite_not, Nat.reduceAdd, Nat.reduceLT, Nat.reduceSub, Nat.reduceLeDiff, reduceIte, Bool.true_eq_false, Bool.false_eq_true, reduceCtorEq, eq_self, decide_true, decide_false, bv_t, bv_f, and_self, t_si, t_sl, t_sr, t_sI, t_sR, n_si, n_sl, n_sr, n_sI, n_sR, r_si, r_sl, r_sI, e5]
theorem c_rst (h : RC_ w G σ S) (hV : WS_ S) {d : Nat} {B : Bm} (hI : sm_I S = some B) : CA_ (d + 12) 64 [v_R (some 1000)] w (v_I (b_v true)) G (s_set S B) := by
  have e5 : w_i w 1000 5 = Int32.ofNat 1 := by rw [h.2.2.2.2.2.2.2.2.2.1, hI]; rfl
  have hVB := hV.2.2.2.2.1 B hI
  have hL : CL_ w 1007 σ := h.2.2.2.2.2.2.1
  have hL2 : CL_ w 1218 id := h.2.2.2.2.2.2.2.2.1
  obtain ⟨w1, f1, cb, q1⟩ := c_blike (d := d + 8) (u := 1007) (v := 1218) h.2.1.1 h.2.1.2.2.1 h.2.1.2.1 h.2.1.2.2.2.1 (by omega) hL hL2 (h.2.2.2.2.2.2.2.2.2.2.1 B hI) hV.1.1 hVB
  have ff := fr_fb f1 (fun a k z => by omega)
  refine ⟨w1, σ, ff, RC_B h hV ff (CL_ag hL (f1.2.2.2.2.2 _ _ (by omega)) (fun k => by rw [f1.2.2.1])) cb, fun Q => ?_⟩
  have hC := h.1
  unfold sh_C at hC
  have t23 := h.2.1.1.1
  simp (disch := first | omega | decide | exact ko_b _ | assumption | (simp only [t_si, t_sl, t_sr, t_sI, t_sR, n_si, n_sl, n_sr, n_sI, n_sR, r_si, r_sl, r_sI]; first | done | omega)) only [x_64_e, x_64_b, x_64_0, x_64_1, x_64_4, x_64_7, x_64_8, x_64_9, x_64_10, x_64_13, x_64_14, x_64_17, x_64_20, x_64_21, bk_v, bk_n, nl_I, nl_R, nl_L, nl_0, oo_lt, oo_le, oo_eq, oo_add, oo_sub, oo_tn, oo_ir, nn_leT, nn_leF, nn_ltT, nn_ltF, nn_eqT, nn_eqF, bv_0, bv_1, ko_b, ko_1, ko_0, true_and, and_true, if_true, if_false, not_true_eq_false, not_false_eq_true, oo_02, decide_eq_true_eq, decide_eq_false_iff_not, ite_not, Nat.reduceAdd, Nat.reduceLT, Nat.reduceSub, Nat.reduceLeDiff, reduceIte, Bool.true_eq_false, Bool.false_eq_true, reduceCtorEq, eq_self, decide_true, decide_false, bv_t, bv_f, and_self, t_si, t_sl, t_sr, t_sI, t_sR, n_si, n_sl, n_sr, n_sI, n_sR, r_si, r_sl, r_sI, e5, hC, q1]
theorem c_image (h : RC_ w G σ S) (hV : WS_ S) {d : Nat} : ∃ w1, (∀ a, a < 1000 ∨ (1440 ≤ a ∧ a ≤ 1476) → Eq_ w w1 a) ∧ w_z w1 = w_z w ∧ sl_ w1 = sl_ w ∧ RC_ w1 G σ (s_img S) ∧ ∀ Q, cl (d + 12) 63 [v_R (some 1000)] w Q = Q (Sum.inl none) w1 := by
  have hL : CL_ w 1007 σ := h.2.2.2.2.2.2.1
  have hL2 : CL_ w 1218 id := h.2.2.2.2.2.2.2.2.1
  obtain ⟨w1, f1, cb, q1⟩ := c_blike (d := d + 8) (u := 1218) (v := 1007) h.2.1.2.2.1 h.2.1.1 h.2.1.2.2.2.1 h.2.1.2.1 (by omega) hL2 hL h.2.2.2.2.2.2.2.1 hV.1.1 hV.2.2.2.1
  have FF : Fr_ (fun a k => (1218 ≤ a ∧ a ≤ 1428 ∧ a ≠ 1224) ∨ (a = 1000 ∧ k = 5)) w (s_i w1 1000 5 (Int32.ofNat 1)) := fr_si (fr_mo f1 (fun a k z => by omega)) (by omega)
  have t20 : w_t w1 1000 = 20 := by rw [f1.1]; exact h.1.1
  have hst : ∀ Q, cl (d + 12) 63 [v_R (some 1000)] w Q = Q (Sum.inl none) (s_i w1 1000 5 (Int32.ofNat 1)) := fun Q => by
    have hC := h.1
    unfold sh_C at hC
    have t23 := h.2.1.2.2.1.1
    simp (disch := first | omega | decide | exact ko_b _ | assumption | (simp only [t_si, t_sl, t_sr, t_sI, t_sR, n_si, n_sl, n_sr, n_sI, n_sR, r_si, r_sl, r_sI]; first | done | omega)) only [x_63_e, x_63_b, x_63_0, x_63_1, x_63_4, x_63_5, x_63_8, x_63_11, x_63_12, x_63_13, x_63_16, bk_v, bk_n, nl_I, nl_R, nl_L, nl_0, oo_lt, oo_le, oo_eq, oo_add, oo_sub, oo_tn, oo_ir, nn_leT, nn_leF, nn_ltT, nn_ltF, nn_eqT, nn_eqF, bv_0, bv_1, ko_b, ko_1, ko_0, true_and, and_true, if_true, if_false, not_true_eq_false, not_false_eq_true, oo_02, decide_eq_true_eq, decide_eq_false_iff_not, ite_not, Nat.reduceAdd, Nat.reduceLT, Nat.reduceSub, Nat.reduceLeDiff, reduceIte, Bool.true_eq_false, Bool.false_eq_true, reduceCtorEq, eq_self, decide_true, decide_false, bv_t, bv_f, and_self, t_si, t_sl, t_sr, t_sI, t_sR, n_si, n_sl, n_sr, n_sI, n_sR, r_si, r_sl, r_sI, hC, q1]
  have e5 : w_i (s_i w1 1000 5 (Int32.ofNat 1)) 1000 5 = Int32.ofNat 1 := by rw [i_si, if_pos ⟨rfl, rfl⟩]
  have cb2 : CB_ (s_i w1 1000 5 (Int32.ofNat 1)) 1218 id (tm_n (sm_T S)) (sm_B S) := CB_ag cb hV.2.2.2.1.2.2.1 (fun k hk => hk) (fun b k b1 b2 => by rw [i_si, if_neg (by omega)])
  generalize s_i w1 1000 5 (Int32.ofNat 1) = w2 at *
  refine ⟨w2, fun a a1 => ⟨by rw [FF.1], by rw [FF.2.1], fun k => by rw [FF.2.2.1], fun k => FF.2.2.2.2.2 _ _ (by omega)⟩, FF.2.2.2.1, FF.2.2.2.2.1, ?_, hst⟩
  obtain ⟨g1, g2, g3, g4, g5, g6, g7, g8, g9, g10, g11, g12, g13, g14⟩ := h
  obtain ⟨f1, f2, f3, f4, f5, f6⟩ := FF
  have hz : w_z w ≤ w_z w2 := by omega
  have hS : ∀ a, Sh_ w w2 a := fun a => ⟨by rw [f1], by rw [f2], fun k => by rw [f3]⟩
  have g : ∀ a k, (a < 1218 ∨ 1428 < a ∨ a = 1224) → (a ≠ 1000 ∨ k ≠ 5) → w_i w2 a k = w_i w a k := fun a k z y => f6 a k (by omega)
  have f6S : ∀ a k, gz_ a → a < w_z w → 20 ≤ w_t w a → w_i w2 a k = w_i w a k := fun a k b1 _ _ => g a k (by unfold gz_ at b1; omega) (by unfold gz_ at b1; omega)
  refine ⟨sh_C_ag g1 hz (fun b _ _ => ⟨by rw [f1], by rw [f2]⟩) (fun k _ => by rw [f3]), ⟨sh_B_ag g2.1 (fun b _ _ => hS b), sh_K_ag g2.2.1 (fun b _ _ => hS b), sh_B_ag g2.2.2.1 (fun b _ _ => hS b), sh_K_ag g2.2.2.2.1 (fun b _ _ => hS b), SO_ag g2.2.2.2.2 (fun b _ _ => hS b)⟩, by rw [f3]; exact g3, CT_ag g4 g6 (fun a _ _ => hS a) f6S, CE_ag g5 hz (fun a _ _ => hS a) f6S, GZ_ag g6 hz, CL_ag g7 (g _ _ (by omega) (by omega)) (fun k => by rw [f3]), CB_ag g8 hV.2.2.2.1.2.2.1 g7.2.2.1 (fun b k b1 b2 => g b k (by omega) (by omega)), CL_ag g9 (g _ _ (by omega) (by omega)) (fun k => by rw [f3]), e5, fun B hB => ?_, fun k hk => (g _ _ (by omega) (by omega)).trans (g12 k hk), (g _ _ (by omega) (by omega)).trans g13, (g _ _ (by omega) (by omega)).trans g14⟩
  have hB : some (sm_B S) = some B := hB
  cases hB
  exact cb2
end
