/-! ACTS: the component's half, the operations -/
set_option maxRecDepth 100000
section
variable {w : Wd} {S : Sm} {G : Gm} {σ : Nat → Nat}
theorem RC_X {w1 : Wd} {X : Xm} (h : RC_ w G σ S) (hV : WS_ S) (hf : Fr_ (fun x _ => 1008 ≤ x ∧ x ≤ 1012) w w1) (hS : CS_ w1 1008 (tm_n (sm_T S)) X) : RC_ w1 G σ (s_set S (b_set (sm_B S) X)) := by
  have hL : CL_ w 1007 σ := h.2.2.2.2.2.2.1
  obtain ⟨b1, b2, b3, b4, b5, b6, b7⟩ : CB_ w 1007 σ (tm_n (sm_T S)) (sm_B S) := h.2.2.2.2.2.2.2.1
  have ff := fr_fb hf (fun a k z => by omega)
  have g : ∀ a k, (a < 1008 ∨ 1012 < a) → w_i w1 a k = w_i w a k := fun a k z => hf.2.2.2.2.2 a k (by omega)
  refine RC_B h hV ff (CL_ag hL (g _ _ (by omega)) (fun k => by rw [hf.2.2.1])) ⟨hS, ?_, fun k hk => ?_, ?_, fun k hk => ?_, fun k hk => ?_, fun k hk => ?_⟩
  · rw [g _ _ (by omega)]; exact b2
  · exact CS_ag (b3 k hk) (fun b k e1 e2 => g b k (by omega))
  · rw [g _ _ (by omega)]; exact b4
  · rw [g _ _ (by omega)]; exact b5 k hk
  · rw [g _ _ (by omega)]; exact b6 k hk
  · rw [g _ _ (by omega)]; exact b7 k hk
theorem fx_fb {w1 : Wd} (hf : Fr_ (fun x _ => 1008 ≤ x ∧ x ≤ 1012) w w1) : Fb_ w w1 := fr_fb hf (fun a k z => by omega)
theorem fb_C {w1 : Wd} (hf : Fb_ w w1) (hC : w_t w 1000 = 20) (hC3 : w_r w 1000 3 = some 1008) (hA : w_t w 1008 = 24) : w_t w1 1000 = 20 ∧ w_r w1 1000 3 = some 1008 ∧ w_t w1 1008 = 24 := by
  rw [hf.1, hf.2.2.1 _ _ (by omega)]
  exact ⟨hC, hC3, hA⟩
theorem c_put (h : RC_ w G σ S) (hV : WS_ S) {d t l : Nat} (ht : t < tm_n (sm_T S)) (hf : f_lv (bm_X (sm_B S)) t = none) (hl : l ≤ xm_L (bm_X (sm_B S))) : CA_ (d + 12) 73 [v_R (some 1000), v_I (Int32.ofNat t), v_I (Int32.ofNat l)] w (v_I (Int32.ofNat (xm_L (bm_X (sm_B S)) + 1))) G (s_set S (b_set (b_keep (sm_B S)) (x_put (bm_X (sm_B S)) t l))) := by
  obtain ⟨w1, σ1, f1, r1, q1⟩ := c_does1 h hV (d := d + 5)
  have hV1 := WS_set hV (WB_keep hV.2.2.2.1)
  have hX := hV.2.2.2.1.1
  have hLn := lv_rm1 hX ht hf
  have hn10 := hV.1.1
  have hS1 : CS_ w1 1008 (tm_n (sm_T S)) (bm_X (sm_B S)) := r1.2.2.2.2.2.2.2.1.1
  obtain ⟨w2, f2, s2, q2⟩ := c_puts (d := d + 11) (a := 1008) (t := t) (l := l) r1.2.1.2.1.1 hS1 (by omega) (by omega) hl
  have e4 : w_i w2 1008 4 = Int32.ofNat (xm_L (bm_X (sm_B S)) + 1) := s2.1
  refine ⟨w2, σ1, fb_tr f1 (fx_fb f2), RC_X r1 hV1 f2 s2, fun Q => ?_⟩
  have hC9 := h.1
  obtain ⟨c1, c2, c3⟩ := fb_C f1 hC9.1 hC9.2.2.2.1 h.2.1.2.1.1.1
  obtain ⟨d1, d2, d3⟩ := fb_C (fb_tr f1 (fx_fb f2)) hC9.1 hC9.2.2.2.1 h.2.1.2.1.1.1
  have hb : (o_i (f_lv (bm_X (sm_B S)) t) = Int32.ofInt (-1)) = ((f_lv (bm_X (sm_B S)) t).isNone = true) := oi_m (fun k e => by have := flv_lt e; omega)
  rw [hf] at hb
  have hq := RC_CQ h hV
  have hC := h.1
  unfold sh_C at hC
  have hr0 : w_r w 1000 0 = some (gm_b G) := h.2.2.1
  have hT := h.2.2.2.1
  unfold CT_ at hT
  have hA : SO_ w 1008 := h.2.1.2.1.1
  unfold SO_ at hA
  have hA2 : SO_ w 1429 := h.2.1.2.2.2.2
  unfold SO_ at hA2
  have hS : CS_ w 1008 (tm_n (sm_T S)) (bm_X (sm_B S)) := h.2.2.2.2.2.2.2.1.1
  unfold CS_ at hS
  have hK : sh_B w 1007 := h.2.1.1
  unfold sh_B at hK
  have hB := h.2.2.2.2.2.2.2.1.2
  have hR := h.2.2.2.2.2.2.2.2.2
  simp only [Nat.reduceAdd] at hA hA2 hS hK hB
  obtain ⟨hn, hk4⟩ := hV.1
  obtain ⟨hW1, hW2, hW3⟩ := hV.2.2.2.1.1
  simp (disch := first | omega | decide | exact ko_b _ | assumption | (simp only [t_si, t_sl, t_sr, t_sI, t_sR, n_si, n_sl, n_sr, n_sI, n_sR, r_si, r_sl, r_sI]; first | done | omega)) only [x_73_e, x_73_b, x_73_0, x_73_1, x_73_2, x_73_5, x_73_6, x_73_7, x_73_8, x_73_11, x_73_12, x_73_15, x_73_16, x_73_19, x_73_20, x_73_21, x_73_22, x_73_25, x_73_28, x_73_31, x_73_34, x_73_35, x_73_38, x_73_39, x_73_42, x_73_45, x_73_46, x_73_47, x_73_48, x_73_51, x_73_52, x_73_53, x_73_56, x_73_57, x_73_60, x_73_63, bk_v, bk_n, nl_I, nl_R, nl_L, nl_0, oo_lt, oo_le, oo_eq, oo_add, oo_sub, oo_tn, oo_ir, nn_leT, nn_leF, nn_ltT, nn_ltF, nn_eqT, nn_eqF, bv_0, bv_1, ko_b, ko_1, ko_0, true_and, and_true, if_true, if_false, not_true_eq_false, not_false_eq_true, oo_02, decide_eq_true_eq, decide_eq_false_iff_not, ite_not, Nat.reduceAdd, Nat.reduceLT, Nat.reduceSub, Nat.reduceLeDiff, reduceIte, Bool.true_eq_false, Bool.false_eq_true, reduceCtorEq, eq_self, decide_true, decide_false, bv_t, bv_f, and_self, t_si, t_sl, t_sr, t_sI, t_sR, n_si, n_sl, n_sr, n_sI, n_sR, r_si, r_sl, r_sI, hC, hr0, hT, hA, hS, hK, hB, hR, c_tabAt h hV, c_lv hq, hf, hb, Option.isNone_none, c_in, q1, c2, q2, d2, e4]
theorem c_put_no (h : RC_ w G σ S) (hV : WS_ S) {d t : Nat} {x : Int32} (ht : t < tm_n (sm_T S)) (hno : (f_lv (bm_X (sm_B S)) t).isNone = false ∨ no_in x (xm_L (bm_X (sm_B S)) + 1)) : CA_ (d + 12) 73 [v_R (some 1000), v_I (Int32.ofNat t), v_I x] w (v_I (Int32.ofInt (-1))) G (s_set S (b_ref (sm_B S) 1)) := by
  obtain ⟨w1, f1, r1, q1⟩ := c_does0 h hV (d := d + 5)
  refine ⟨w1, σ, f1, r1, fun Q => ?_⟩
  have hq := RC_CQ h hV
  have hC := h.1
  unfold sh_C at hC
  have hr0 : w_r w 1000 0 = some (gm_b G) := h.2.2.1
  have hT := h.2.2.2.1
  unfold CT_ at hT
  have hA : SO_ w 1008 := h.2.1.2.1.1
  unfold SO_ at hA
  have hA2 : SO_ w 1429 := h.2.1.2.2.2.2
  unfold SO_ at hA2
  have hS : CS_ w 1008 (tm_n (sm_T S)) (bm_X (sm_B S)) := h.2.2.2.2.2.2.2.1.1
  unfold CS_ at hS
  have hK : sh_B w 1007 := h.2.1.1
  unfold sh_B at hK
  have hB := h.2.2.2.2.2.2.2.1.2
  have hR := h.2.2.2.2.2.2.2.2.2
  simp only [Nat.reduceAdd] at hA hA2 hS hK hB
  obtain ⟨hn, hk4⟩ := hV.1
  obtain ⟨hW1, hW2, hW3⟩ := hV.2.2.2.1.1
  have hb : (o_i (f_lv (bm_X (sm_B S)) t) = Int32.ofInt (-1)) = ((f_lv (bm_X (sm_B S)) t).isNone = true) := oi_m (fun k e => by have := flv_lt e; omega)
  cases e : (f_lv (bm_X (sm_B S)) t).isNone with
  | false => simp (disch := first | omega | decide | exact ko_b _ | assumption | (simp only [t_si, t_sl, t_sr, t_sI, t_sR, n_si, n_sl, n_sr, n_sI, n_sR, r_si, r_sl, r_sI]; first | done | omega)) only [x_73_e, x_73_b, x_73_0, x_73_1, x_73_2, x_73_5, x_73_6, x_73_7, x_73_8, x_73_11, x_73_12, x_73_15, x_73_16, x_73_19, x_73_20, x_73_21, x_73_22, x_73_25, x_73_28, x_73_31, x_73_34, x_73_35, x_73_38, x_73_39, x_73_42, x_73_45, x_73_46, x_73_47, x_73_48, x_73_51, x_73_52, x_73_53, x_73_56, x_73_57, x_73_60, x_73_63, bk_v, bk_n, nl_I, nl_R, nl_L, nl_0, oo_lt, oo_le, oo_eq, oo_add, oo_sub, oo_tn, oo_ir, nn_leT, nn_leF, nn_ltT, nn_ltF, nn_eqT, nn_eqF, bv_0, bv_1, ko_b, ko_1, ko_0, true_and, and_true, if_true, if_false, not_true_eq_false, not_false_eq_true, oo_02, decide_eq_true_eq, decide_eq_false_iff_not, ite_not, Nat.reduceAdd, Nat.reduceLT, Nat.reduceSub, Nat.reduceLeDiff, reduceIte, Bool.true_eq_false, Bool.false_eq_true, reduceCtorEq, eq_self, decide_true, decide_false, bv_t, bv_f, and_self, t_si, t_sl, t_sr, t_sI, t_sR, n_si, n_sl, n_sr, n_sI, n_sR, r_si, r_sl, r_sI, hC, hr0, hT, hA, hS, hK, hB, hR, c_tabAt h hV, c_lv hq, hb, e, q1]
  | true =>
    have hy := in_no (by omega : xm_L (bm_X (sm_B S)) < 2147483647) (hno.resolve_left (fun z => by rw [e] at z; cases z))
    simp (disch := first | omega | decide | exact ko_b _ | assumption | (simp only [t_si, t_sl, t_sr, t_sI, t_sR, n_si, n_sl, n_sr, n_sI, n_sR, r_si, r_sl, r_sI]; first | done | omega)) only [x_73_e, x_73_b, x_73_0, x_73_1, x_73_2, x_73_5, x_73_6, x_73_7, x_73_8, x_73_11, x_73_12, x_73_15, x_73_16, x_73_19, x_73_20, x_73_21, x_73_22, x_73_25, x_73_28, x_73_31, x_73_34, x_73_35, x_73_38, x_73_39, x_73_42, x_73_45, x_73_46, x_73_47, x_73_48, x_73_51, x_73_52, x_73_53, x_73_56, x_73_57, x_73_60, x_73_63, bk_v, bk_n, nl_I, nl_R, nl_L, nl_0, oo_lt, oo_le, oo_eq, oo_add, oo_sub, oo_tn, oo_ir, nn_leT, nn_leF, nn_ltT, nn_ltF, nn_eqT, nn_eqF, bv_0, bv_1, ko_b, ko_1, ko_0, true_and, and_true, if_true, if_false, not_true_eq_false, not_false_eq_true, oo_02, decide_eq_true_eq, decide_eq_false_iff_not, ite_not, Nat.reduceAdd, Nat.reduceLT, Nat.reduceSub, Nat.reduceLeDiff, reduceIte, Bool.true_eq_false, Bool.false_eq_true, reduceCtorEq, eq_self, decide_true, decide_false, bv_t, bv_f, and_self, t_si, t_sl, t_sr, t_sI, t_sR, n_si, n_sl, n_sr, n_sI, n_sR, r_si, r_sl, r_sI, hC, hr0, hT, hA, hS, hK, hB, hR, c_tabAt h hV, c_lv hq, hb, e, c_in, hy, q1]
theorem c_put_y (h : RC_ w G σ S) (hV : WS_ S) {d : Nat} {x y : Int32} (hx : no_in y (tm_n (sm_T S))) : CX_ G (d + 12) 73 [v_R (some 1000), v_I y, v_I x] w 40 := cx_0 fun Q => by
  have hq := RC_CQ h hV
  have hC := h.1
  unfold sh_C at hC
  have hr0 : w_r w 1000 0 = some (gm_b G) := h.2.2.1
  have hT := h.2.2.2.1
  unfold CT_ at hT
  have hA : SO_ w 1008 := h.2.1.2.1.1
  unfold SO_ at hA
  have hA2 : SO_ w 1429 := h.2.1.2.2.2.2
  unfold SO_ at hA2
  have hS : CS_ w 1008 (tm_n (sm_T S)) (bm_X (sm_B S)) := h.2.2.2.2.2.2.2.1.1
  unfold CS_ at hS
  have hK : sh_B w 1007 := h.2.1.1
  unfold sh_B at hK
  have hB := h.2.2.2.2.2.2.2.1.2
  have hR := h.2.2.2.2.2.2.2.2.2
  simp only [Nat.reduceAdd] at hA hA2 hS hK hB
  obtain ⟨hn, hk4⟩ := hV.1
  obtain ⟨hW1, hW2, hW3⟩ := hV.2.2.2.1.1
  simp (disch := first | omega | decide | exact ko_b _ | assumption | (simp only [t_si, t_sl, t_sr, t_sI, t_sR, n_si, n_sl, n_sr, n_sI, n_sR, r_si, r_sl, r_sI]; first | done | omega)) only [x_73_e, x_73_b, x_73_0, x_73_1, x_73_2, x_73_5, x_73_6, x_73_7, x_73_8, x_73_11, x_73_12, x_73_15, x_73_16, x_73_19, x_73_20, x_73_21, x_73_22, x_73_25, x_73_28, x_73_31, x_73_34, x_73_35, x_73_38, x_73_39, x_73_42, x_73_45, x_73_46, x_73_47, x_73_48, x_73_51, x_73_52, x_73_53, x_73_56, x_73_57, x_73_60, x_73_63, bk_v, bk_n, nl_I, nl_R, nl_L, nl_0, oo_lt, oo_le, oo_eq, oo_add, oo_sub, oo_tn, oo_ir, nn_leT, nn_leF, nn_ltT, nn_ltF, nn_eqT, nn_eqF, bv_0, bv_1, ko_b, ko_1, ko_0, true_and, and_true, if_true, if_false, not_true_eq_false, not_false_eq_true, oo_02, decide_eq_true_eq, decide_eq_false_iff_not, ite_not, Nat.reduceAdd, Nat.reduceLT, Nat.reduceSub, Nat.reduceLeDiff, reduceIte, Bool.true_eq_false, Bool.false_eq_true, reduceCtorEq, eq_self, decide_true, decide_false, bv_t, bv_f, and_self, t_si, t_sl, t_sr, t_sI, t_sR, n_si, n_sl, n_sr, n_sI, n_sR, r_si, r_sl, r_sI, c_tabAt_x h hV hx]
theorem oi_s1 {k : Nat} (hk : k < 2147483648) : (Int32.ofNat k = Int32.ofInt (-1)) = False := by
  rw [← o_i_s, oi_m (fun j e => by cases e; omega)]
  exact eq_false (fun z => by cases z)
theorem c_take (h : RC_ w G σ S) (hV : WS_ S) {d t l : Nat} (ht : t < tm_n (sm_T S)) (hf : f_lv (bm_X (sm_B S)) t = some l) : CA_ (d + 12) 74 [v_R (some 1000), v_I (Int32.ofNat t)] w (v_I (Int32.ofNat l)) G (s_set S (b_set (b_keep (sm_B S)) (x_take (bm_X (sm_B S)) l))) := by
  obtain ⟨w1, σ1, f1, r1, q1⟩ := c_does1 h hV (d := d + 5)
  have hV1 := WS_set hV (WB_keep hV.2.2.2.1)
  have hX := hV.2.2.2.1.1
  have hn10 := hV.1.1
  have hl := flv_lt hf
  have hLn := hX.1
  have hS1 : CS_ w1 1008 (tm_n (sm_T S)) (bm_X (sm_B S)) := r1.2.2.2.2.2.2.2.1.1
  obtain ⟨w2, f2, s2, q2⟩ := c_takes (d := d + 11) (a := 1008) (l := l) r1.2.1.2.1.1 hS1 hX hn10 hl
  refine ⟨w2, σ1, fb_tr f1 (fx_fb f2), RC_X r1 hV1 f2 s2, fun Q => ?_⟩
  have hC9 := h.1
  obtain ⟨c1, c2, c3⟩ := fb_C f1 hC9.1 hC9.2.2.2.1 h.2.1.2.1.1.1
  have hb := oi_s1 (by omega : l < 2147483648)
  have hq := RC_CQ h hV
  have hC := h.1
  unfold sh_C at hC
  have hr0 : w_r w 1000 0 = some (gm_b G) := h.2.2.1
  have hT := h.2.2.2.1
  unfold CT_ at hT
  have hA : SO_ w 1008 := h.2.1.2.1.1
  unfold SO_ at hA
  have hA2 : SO_ w 1429 := h.2.1.2.2.2.2
  unfold SO_ at hA2
  have hS : CS_ w 1008 (tm_n (sm_T S)) (bm_X (sm_B S)) := h.2.2.2.2.2.2.2.1.1
  unfold CS_ at hS
  have hK : sh_B w 1007 := h.2.1.1
  unfold sh_B at hK
  have hB := h.2.2.2.2.2.2.2.1.2
  have hR := h.2.2.2.2.2.2.2.2.2
  simp only [Nat.reduceAdd] at hA hA2 hS hK hB
  obtain ⟨hn, hk4⟩ := hV.1
  obtain ⟨hW1, hW2, hW3⟩ := hV.2.2.2.1.1
  simp (disch := first | omega | decide | exact ko_b _ | assumption | (simp only [t_si, t_sl, t_sr, t_sI, t_sR, n_si, n_sl, n_sr, n_sI, n_sR, r_si, r_sl, r_sI]; first | done | omega)) only [x_74_e, x_74_b, x_74_0, x_74_1, x_74_2, x_74_5, x_74_6, x_74_7, x_74_10, x_74_11, x_74_14, x_74_15, x_74_16, x_74_17, x_74_18, x_74_21, x_74_22, x_74_25, x_74_26, x_74_29, x_74_32, x_74_33, x_74_36, x_74_37, x_74_40, x_74_41, bk_v, bk_n, nl_I, nl_R, nl_L, nl_0, oo_lt, oo_le, oo_eq, oo_add, oo_sub, oo_tn, oo_ir, nn_leT, nn_leF, nn_ltT, nn_ltF, nn_eqT, nn_eqF, bv_0, bv_1, ko_b, ko_1, ko_0, true_and, and_true, if_true, if_false, not_true_eq_false, not_false_eq_true, oo_02, decide_eq_true_eq, decide_eq_false_iff_not, ite_not, Nat.reduceAdd, Nat.reduceLT, Nat.reduceSub, Nat.reduceLeDiff, reduceIte, Bool.true_eq_false, Bool.false_eq_true, reduceCtorEq, eq_self, decide_true, decide_false, bv_t, bv_f, and_self, t_si, t_sl, t_sr, t_sI, t_sR, n_si, n_sl, n_sr, n_sI, n_sR, r_si, r_sl, r_sI, hC, hr0, hT, hA, hS, hK, hB, hR, c_tabAt h hV, c_lv hq, hf, o_i_s, hb, q1, c2, q2]
theorem c_take_no (h : RC_ w G σ S) (hV : WS_ S) {d t : Nat} (ht : t < tm_n (sm_T S)) (hf : f_lv (bm_X (sm_B S)) t = none) : CA_ (d + 12) 74 [v_R (some 1000), v_I (Int32.ofNat t)] w (v_I (Int32.ofInt (-1))) G (s_set S (b_ref (sm_B S) 1)) := by
  obtain ⟨w1, f1, r1, q1⟩ := c_does0 h hV (d := d + 5)
  refine ⟨w1, σ, f1, r1, fun Q => ?_⟩
  have hq := RC_CQ h hV
  have hC := h.1
  unfold sh_C at hC
  have hr0 : w_r w 1000 0 = some (gm_b G) := h.2.2.1
  have hT := h.2.2.2.1
  unfold CT_ at hT
  have hA : SO_ w 1008 := h.2.1.2.1.1
  unfold SO_ at hA
  have hA2 : SO_ w 1429 := h.2.1.2.2.2.2
  unfold SO_ at hA2
  have hS : CS_ w 1008 (tm_n (sm_T S)) (bm_X (sm_B S)) := h.2.2.2.2.2.2.2.1.1
  unfold CS_ at hS
  have hK : sh_B w 1007 := h.2.1.1
  unfold sh_B at hK
  have hB := h.2.2.2.2.2.2.2.1.2
  have hR := h.2.2.2.2.2.2.2.2.2
  simp only [Nat.reduceAdd] at hA hA2 hS hK hB
  obtain ⟨hn, hk4⟩ := hV.1
  obtain ⟨hW1, hW2, hW3⟩ := hV.2.2.2.1.1
  simp (disch := first | omega | decide | exact ko_b _ | assumption | (simp only [t_si, t_sl, t_sr, t_sI, t_sR, n_si, n_sl, n_sr, n_sI, n_sR, r_si, r_sl, r_sI]; first | done | omega)) only [x_74_e, x_74_b, x_74_0, x_74_1, x_74_2, x_74_5, x_74_6, x_74_7, x_74_10, x_74_11, x_74_14, x_74_15, x_74_16, x_74_17, x_74_18, x_74_21, x_74_22, x_74_25, x_74_26, x_74_29, x_74_32, x_74_33, x_74_36, x_74_37, x_74_40, x_74_41, bk_v, bk_n, nl_I, nl_R, nl_L, nl_0, oo_lt, oo_le, oo_eq, oo_add, oo_sub, oo_tn, oo_ir, nn_leT, nn_leF, nn_ltT, nn_ltF, nn_eqT, nn_eqF, bv_0, bv_1, ko_b, ko_1, ko_0, true_and, and_true, if_true, if_false, not_true_eq_false, not_false_eq_true, oo_02, decide_eq_true_eq, decide_eq_false_iff_not, ite_not, Nat.reduceAdd, Nat.reduceLT, Nat.reduceSub, Nat.reduceLeDiff, reduceIte, Bool.true_eq_false, Bool.false_eq_true, reduceCtorEq, eq_self, decide_true, decide_false, bv_t, bv_f, and_self, t_si, t_sl, t_sr, t_sI, t_sR, n_si, n_sl, n_sr, n_sI, n_sR, r_si, r_sl, r_sI, hC, hr0, hT, hA, hS, hK, hB, hR, c_tabAt h hV, c_lv hq, hf, o_i_n, q1]
theorem c_take_y (h : RC_ w G σ S) (hV : WS_ S) {d : Nat} {y : Int32} (hx : no_in y (tm_n (sm_T S))) : CX_ G (d + 12) 74 [v_R (some 1000), v_I y] w 40 := cx_0 fun Q => by
  have hq := RC_CQ h hV
  have hC := h.1
  unfold sh_C at hC
  have hr0 : w_r w 1000 0 = some (gm_b G) := h.2.2.1
  have hT := h.2.2.2.1
  unfold CT_ at hT
  have hA : SO_ w 1008 := h.2.1.2.1.1
  unfold SO_ at hA
  have hA2 : SO_ w 1429 := h.2.1.2.2.2.2
  unfold SO_ at hA2
  have hS : CS_ w 1008 (tm_n (sm_T S)) (bm_X (sm_B S)) := h.2.2.2.2.2.2.2.1.1
  unfold CS_ at hS
  have hK : sh_B w 1007 := h.2.1.1
  unfold sh_B at hK
  have hB := h.2.2.2.2.2.2.2.1.2
  have hR := h.2.2.2.2.2.2.2.2.2
  simp only [Nat.reduceAdd] at hA hA2 hS hK hB
  obtain ⟨hn, hk4⟩ := hV.1
  obtain ⟨hW1, hW2, hW3⟩ := hV.2.2.2.1.1
  simp (disch := first | omega | decide | exact ko_b _ | assumption | (simp only [t_si, t_sl, t_sr, t_sI, t_sR, n_si, n_sl, n_sr, n_sI, n_sR, r_si, r_sl, r_sI]; first | done | omega)) only [x_74_e, x_74_b, x_74_0, x_74_1, x_74_2, x_74_5, x_74_6, x_74_7, x_74_10, x_74_11, x_74_14, x_74_15, x_74_16, x_74_17, x_74_18, x_74_21, x_74_22, x_74_25, x_74_26, x_74_29, x_74_32, x_74_33, x_74_36, x_74_37, x_74_40, x_74_41, bk_v, bk_n, nl_I, nl_R, nl_L, nl_0, oo_lt, oo_le, oo_eq, oo_add, oo_sub, oo_tn, oo_ir, nn_leT, nn_leF, nn_ltT, nn_ltF, nn_eqT, nn_eqF, bv_0, bv_1, ko_b, ko_1, ko_0, true_and, and_true, if_true, if_false, not_true_eq_false, not_false_eq_true, oo_02, decide_eq_true_eq, decide_eq_false_iff_not, ite_not, Nat.reduceAdd, Nat.reduceLT, Nat.reduceSub, Nat.reduceLeDiff, reduceIte, Bool.true_eq_false, Bool.false_eq_true, reduceCtorEq, eq_self, decide_true, decide_false, bv_t, bv_f, and_self, t_si, t_sl, t_sr, t_sI, t_sR, n_si, n_sl, n_sr, n_sI, n_sR, r_si, r_sl, r_sI, c_tabAt_x h hV hx]
theorem CS_exch {a b n x : Nat} {X : Xm} (h : CS_ w x n X) (ha : a < xm_L X) (hb : b < xm_L X) : CS_ (s_i (s_i w (x + 1) a (Int32.ofNat (xm_t X b))) (x + 1) b (Int32.ofNat (xm_t X a))) x n (x_swp X a b) := by
  unfold CS_ at h ⊢
  obtain ⟨h1, h2, h3, h4, h5, h6, h7⟩ := h
  simp (disch := omega) only [i_si, nn_eqF, false_and, if_false, true_and]
  refine ⟨h1, h2, h3, fun k hk => ?_, h5, h6, h7⟩
  have hk : k < xm_L X := hk
  show _ = Int32.ofNat (if k = b then xm_t X a else if k = a then xm_t X b else xm_t X k)
  by_cases c1 : k = b
  · rw [if_pos c1, if_pos c1]
  · rw [if_neg c1, if_neg c1]
    by_cases c2 : k = a
    · rw [if_pos c2, if_pos c2]
    · rw [if_neg c2, if_neg c2]; exact h4 k hk
theorem c_change (h : RC_ w G σ S) (hV : WS_ S) {d a b : Nat} (ha : a < xm_L (bm_X (sm_B S))) (hb : b < xm_L (bm_X (sm_B S))) (hab : a ≠ b) : CA_ (d + 12) 75 [v_R (some 1000), v_I (Int32.ofNat a), v_I (Int32.ofNat b)] w (v_I (b_v true)) G (s_set S (b_set (b_keep (sm_B S)) (x_swp (bm_X (sm_B S)) a b))) := by
  obtain ⟨w1, σ1, f1, r1, q1⟩ := c_does1 h hV (d := d + 5)
  have hV1 := WS_set hV (WB_keep hV.2.2.2.1)
  have hX := hV.2.2.2.1.1
  have hn10 := hV.1.1
  have hLn := hX.1
  have hS1 : CS_ w1 1008 (tm_n (sm_T S)) (bm_X (sm_B S)) := r1.2.2.2.2.2.2.2.1.1
  have f2 : Fr_ (fun x _ => 1008 ≤ x ∧ x ≤ 1012) w1 (s_i (s_i w1 1009 a (Int32.ofNat (xm_t (bm_X (sm_B S)) b))) 1009 b (Int32.ofNat (xm_t (bm_X (sm_B S)) a))) := fr_si (fr_si (fr_rf _ _) (by omega)) (by omega)
  refine ⟨_, σ1, fb_tr f1 (fx_fb f2), RC_X r1 hV1 f2 (CS_exch hS1 ha hb), fun Q => ?_⟩
  have hC9 := h.1
  obtain ⟨c1, c2, c3⟩ := fb_C f1 hC9.1 hC9.2.2.2.1 h.2.1.2.1.1.1
  have hA1 : SO_ w1 1008 := r1.2.1.2.1.1
  unfold SO_ at hA1
  have e4 := hS1.2.2.2.1
  simp only [Nat.reduceAdd] at hA1 e4
  have hq := RC_CQ h hV
  have hC := h.1
  unfold sh_C at hC
  have hr0 : w_r w 1000 0 = some (gm_b G) := h.2.2.1
  have hT := h.2.2.2.1
  unfold CT_ at hT
  have hA : SO_ w 1008 := h.2.1.2.1.1
  unfold SO_ at hA
  have hA2 : SO_ w 1429 := h.2.1.2.2.2.2
  unfold SO_ at hA2
  have hS : CS_ w 1008 (tm_n (sm_T S)) (bm_X (sm_B S)) := h.2.2.2.2.2.2.2.1.1
  unfold CS_ at hS
  have hK : sh_B w 1007 := h.2.1.1
  unfold sh_B at hK
  have hB := h.2.2.2.2.2.2.2.1.2
  have hR := h.2.2.2.2.2.2.2.2.2
  simp only [Nat.reduceAdd] at hA hA2 hS hK hB
  obtain ⟨hn, hk4⟩ := hV.1
  obtain ⟨hW1, hW2, hW3⟩ := hV.2.2.2.1.1
  simp (disch := first | omega | decide | exact ko_b _ | assumption | (simp only [t_si, t_sl, t_sr, t_sI, t_sR, n_si, n_sl, n_sr, n_sI, n_sR, r_si, r_sl, r_sI]; first | done | omega)) only [x_75_e, x_75_b, x_75_0, x_75_1, x_75_2, x_75_5, x_75_6, x_75_7, x_75_10, x_75_11, x_75_12, x_75_13, x_75_16, x_75_17, x_75_20, x_75_21, x_75_24, x_75_27, x_75_28, x_75_29, x_75_30, x_75_33, x_75_36, x_75_37, x_75_38, x_75_39, x_75_40, x_75_43, x_75_46, x_75_47, x_75_48, x_75_51, x_75_54, x_75_55, x_75_56, x_75_57, x_75_58, x_75_61, x_75_64, x_75_65, x_75_66, x_75_67, x_75_68, bk_v, bk_n, nl_I, nl_R, nl_L, nl_0, oo_lt, oo_le, oo_eq, oo_add, oo_sub, oo_tn, oo_ir, nn_leT, nn_leF, nn_ltT, nn_ltF, nn_eqT, nn_eqF, bv_0, bv_1, ko_b, ko_1, ko_0, true_and, and_true, if_true, if_false, not_true_eq_false, not_false_eq_true, oo_02, decide_eq_true_eq, decide_eq_false_iff_not, ite_not, Nat.reduceAdd, Nat.reduceLT, Nat.reduceSub, Nat.reduceLeDiff, reduceIte, Bool.true_eq_false, Bool.false_eq_true, reduceCtorEq, eq_self, decide_true, decide_false, bv_t, bv_f, and_self, t_si, t_sl, t_sr, t_sI, t_sR, n_si, n_sl, n_sr, n_sI, n_sR, r_si, r_sl, r_sI, c_levAt h hV, q1, c2, hA1, e4]
theorem c_change_no (h : RC_ w G σ S) (hV : WS_ S) {d a : Nat} (ha : a < xm_L (bm_X (sm_B S))) : CA_ (d + 12) 75 [v_R (some 1000), v_I (Int32.ofNat a), v_I (Int32.ofNat a)] w (v_I (b_v false)) G (s_set S (b_ref (sm_B S) 1)) := by
  obtain ⟨w1, f1, r1, q1⟩ := c_does0 h hV (d := d + 5)
  refine ⟨w1, σ, f1, r1, fun Q => ?_⟩
  have hq := RC_CQ h hV
  have hC := h.1
  unfold sh_C at hC
  have hr0 : w_r w 1000 0 = some (gm_b G) := h.2.2.1
  have hT := h.2.2.2.1
  unfold CT_ at hT
  have hA : SO_ w 1008 := h.2.1.2.1.1
  unfold SO_ at hA
  have hA2 : SO_ w 1429 := h.2.1.2.2.2.2
  unfold SO_ at hA2
  have hS : CS_ w 1008 (tm_n (sm_T S)) (bm_X (sm_B S)) := h.2.2.2.2.2.2.2.1.1
  unfold CS_ at hS
  have hK : sh_B w 1007 := h.2.1.1
  unfold sh_B at hK
  have hB := h.2.2.2.2.2.2.2.1.2
  have hR := h.2.2.2.2.2.2.2.2.2
  simp only [Nat.reduceAdd] at hA hA2 hS hK hB
  obtain ⟨hn, hk4⟩ := hV.1
  obtain ⟨hW1, hW2, hW3⟩ := hV.2.2.2.1.1
  simp (disch := first | omega | decide | exact ko_b _ | assumption | (simp only [t_si, t_sl, t_sr, t_sI, t_sR, n_si, n_sl, n_sr, n_sI, n_sR, r_si, r_sl, r_sI]; first | done | omega)) only [x_75_e, x_75_b, x_75_0, x_75_1, x_75_2, x_75_5, x_75_6, x_75_7, x_75_10, x_75_11, x_75_12, x_75_13, x_75_16, x_75_17, x_75_20, x_75_21, x_75_24, x_75_27, x_75_28, x_75_29, x_75_30, x_75_33, x_75_36, x_75_37, x_75_38, x_75_39, x_75_40, x_75_43, x_75_46, x_75_47, x_75_48, x_75_51, x_75_54, x_75_55, x_75_56, x_75_57, x_75_58, x_75_61, x_75_64, x_75_65, x_75_66, x_75_67, x_75_68, bk_v, bk_n, nl_I, nl_R, nl_L, nl_0, oo_lt, oo_le, oo_eq, oo_add, oo_sub, oo_tn, oo_ir, nn_leT, nn_leF, nn_ltT, nn_ltF, nn_eqT, nn_eqF, bv_0, bv_1, ko_b, ko_1, ko_0, true_and, and_true, if_true, if_false, not_true_eq_false, not_false_eq_true, oo_02, decide_eq_true_eq, decide_eq_false_iff_not, ite_not, Nat.reduceAdd, Nat.reduceLT, Nat.reduceSub, Nat.reduceLeDiff, reduceIte, Bool.true_eq_false, Bool.false_eq_true, reduceCtorEq, eq_self, decide_true, decide_false, bv_t, bv_f, and_self, t_si, t_sl, t_sr, t_sI, t_sR, n_si, n_sl, n_sr, n_sI, n_sR, r_si, r_sl, r_sI, c_levAt h hV, q1]
theorem c_change_x (h : RC_ w G σ S) (hV : WS_ S) {d : Nat} {x y : Int32} (hx : no_in x (xm_L (bm_X (sm_B S))) ∨ no_in y (xm_L (bm_X (sm_B S)))) : CX_ G (d + 12) 75 [v_R (some 1000), v_I x, v_I y] w 40 := cx_0 fun Q => by
  have hq := RC_CQ h hV
  have hC := h.1
  unfold sh_C at hC
  have hr0 : w_r w 1000 0 = some (gm_b G) := h.2.2.1
  have hT := h.2.2.2.1
  unfold CT_ at hT
  have hA : SO_ w 1008 := h.2.1.2.1.1
  unfold SO_ at hA
  have hA2 : SO_ w 1429 := h.2.1.2.2.2.2
  unfold SO_ at hA2
  have hS : CS_ w 1008 (tm_n (sm_T S)) (bm_X (sm_B S)) := h.2.2.2.2.2.2.2.1.1
  unfold CS_ at hS
  have hK : sh_B w 1007 := h.2.1.1
  unfold sh_B at hK
  have hB := h.2.2.2.2.2.2.2.1.2
  have hR := h.2.2.2.2.2.2.2.2.2
  simp only [Nat.reduceAdd] at hA hA2 hS hK hB
  obtain ⟨hn, hk4⟩ := hV.1
  obtain ⟨hW1, hW2, hW3⟩ := hV.2.2.2.1.1
  by_cases c : no_in x (xm_L (bm_X (sm_B S)))
  · simp (disch := first | omega | decide | exact ko_b _ | assumption | (simp only [t_si, t_sl, t_sr, t_sI, t_sR, n_si, n_sl, n_sr, n_sI, n_sR, r_si, r_sl, r_sI]; first | done | omega)) only [x_75_e, x_75_b, x_75_0, x_75_1, x_75_2, x_75_5, x_75_6, x_75_7, x_75_10, x_75_11, x_75_12, x_75_13, x_75_16, x_75_17, x_75_20, x_75_21, x_75_24, x_75_27, x_75_28, x_75_29, x_75_30, x_75_33, x_75_36, x_75_37, x_75_38, x_75_39, x_75_40, x_75_43, x_75_46, x_75_47, x_75_48, x_75_51, x_75_54, x_75_55, x_75_56, x_75_57, x_75_58, x_75_61, x_75_64, x_75_65, x_75_66, x_75_67, x_75_68, bk_v, bk_n, nl_I, nl_R, nl_L, nl_0, oo_lt, oo_le, oo_eq, oo_add, oo_sub, oo_tn, oo_ir, nn_leT, nn_leF, nn_ltT, nn_ltF, nn_eqT, nn_eqF, bv_0, bv_1, ko_b, ko_1, ko_0, true_and, and_true, if_true, if_false, not_true_eq_false, not_false_eq_true, oo_02, decide_eq_true_eq, decide_eq_false_iff_not, ite_not, Nat.reduceAdd, Nat.reduceLT, Nat.reduceSub, Nat.reduceLeDiff, reduceIte, Bool.true_eq_false, Bool.false_eq_true, reduceCtorEq, eq_self, decide_true, decide_false, bv_t, bv_f, and_self, t_si, t_sl, t_sr, t_sI, t_sR, n_si, n_sl, n_sr, n_sI, n_sR, r_si, r_sl, r_sI, c_levAt_x h hV c]
  · rcases oo_3 x (xm_L (bm_X (sm_B S))) (by omega) with ⟨k, k1, rfl⟩ | k1
    · simp (disch := first | omega | decide | exact ko_b _ | assumption | (simp only [t_si, t_sl, t_sr, t_sI, t_sR, n_si, n_sl, n_sr, n_sI, n_sR, r_si, r_sl, r_sI]; first | done | omega)) only [x_75_e, x_75_b, x_75_0, x_75_1, x_75_2, x_75_5, x_75_6, x_75_7, x_75_10, x_75_11, x_75_12, x_75_13, x_75_16, x_75_17, x_75_20, x_75_21, x_75_24, x_75_27, x_75_28, x_75_29, x_75_30, x_75_33, x_75_36, x_75_37, x_75_38, x_75_39, x_75_40, x_75_43, x_75_46, x_75_47, x_75_48, x_75_51, x_75_54, x_75_55, x_75_56, x_75_57, x_75_58, x_75_61, x_75_64, x_75_65, x_75_66, x_75_67, x_75_68, bk_v, bk_n, nl_I, nl_R, nl_L, nl_0, oo_lt, oo_le, oo_eq, oo_add, oo_sub, oo_tn, oo_ir, nn_leT, nn_leF, nn_ltT, nn_ltF, nn_eqT, nn_eqF, bv_0, bv_1, ko_b, ko_1, ko_0, true_and, and_true, if_true, if_false, not_true_eq_false, not_false_eq_true, oo_02, decide_eq_true_eq, decide_eq_false_iff_not, ite_not, Nat.reduceAdd, Nat.reduceLT, Nat.reduceSub, Nat.reduceLeDiff, reduceIte, Bool.true_eq_false, Bool.false_eq_true, reduceCtorEq, eq_self, decide_true, decide_false, bv_t, bv_f, and_self, t_si, t_sl, t_sr, t_sI, t_sR, n_si, n_sl, n_sr, n_sI, n_sR, r_si, r_sl, r_sI, c_levAt h hV, c_levAt_x h hV (hx.resolve_left c)]
    · exact absurd k1 c
theorem c_bec {d t A i : Nat} {x z : Int32} {X : Xm} (h : RC_ w G σ S) (hV : WS_ S) (ht : t < tm_n (sm_T S)) (hx : Int32.ofInt (-9) ≤ x ∧ x ≤ Int32.ofNat 9) (hA : A = 1008 + i) (hi : 3 ≤ i ∧ i ≤ 4) (hz : ∀ w1, CS_ w1 1008 (tm_n (sm_T S)) (bm_X (sm_B S)) → w_i w1 A t = z ∧ CS_ (s_i w1 A t x) 1008 (tm_n (sm_T S)) X) : ∃ w1 σ1, Fb_ w w1 ∧ RC_ w1 G σ1 (s_set S (b_set (b_keep (sm_B S)) X)) ∧ ∀ Q, cl (d + 8) 77 [v_R (some 1000), v_R (some A), v_I (Int32.ofNat t), v_I x] w Q = Q (Sum.inl (some (v_I z))) w1 := by
  obtain ⟨w1, σ1, f1, r1, q1⟩ := c_does1 h hV (d := d + 1)
  have hV1 := WS_set hV (WB_keep hV.2.2.2.1)
  have hn10 := hV.1.1
  have hS1 : CS_ w1 1008 (tm_n (sm_T S)) (bm_X (sm_B S)) := r1.2.2.2.2.2.2.2.1.1
  obtain ⟨z1, z2⟩ := hz w1 hS1
  have f2 : Fr_ (fun x _ => 1008 ≤ x ∧ x ≤ 1012) w1 (s_i w1 A t x) := fr_si (fr_rf _ _) (by omega)
  refine ⟨_, σ1, fb_tr f1 (fx_fb f2), RC_X r1 hV1 f2 z2, fun Q => ?_⟩
  have hC := h.1.1
  have hA1 : SO_ w1 1008 := r1.2.1.2.1.1
  have tA : w_t w1 A = 1 ∧ w_n w1 A = 10 := by
    unfold SO_ at hA1
    rcases (by omega : i = 3 ∨ i = 4) with rfl | rfl
    · subst hA; exact ⟨hA1.2.2.2.2.2.2.2.2.2.1, hA1.2.2.2.2.2.2.2.2.2.2.1⟩
    · subst hA; exact ⟨hA1.2.2.2.2.2.2.2.2.2.2.2.1, hA1.2.2.2.2.2.2.2.2.2.2.2.2⟩
  have tA1 := tA.1
  have tA2 := tA.2
  simp (disch := first | omega | decide | exact ko_b _ | assumption | (simp only [t_si, t_sl, t_sr, t_sI, t_sR, n_si, n_sl, n_sr, n_sI, n_sR, r_si, r_sl, r_sI]; first | done | omega)) only [x_77_e, x_77_b, x_77_0, x_77_1, x_77_2, x_77_4, x_77_6, x_77_9, x_77_12, x_77_15, x_77_17, x_77_18, x_77_19, x_77_20, x_77_21, x_77_23, x_77_24, x_77_25, x_77_26, x_77_27, x_77_29, bk_v, bk_n, nl_I, nl_R, nl_L, nl_0, oo_lt, oo_le, oo_eq, oo_add, oo_sub, oo_tn, oo_ir, nn_leT, nn_leF, nn_ltT, nn_ltF, nn_eqT, nn_eqF, bv_0, bv_1, ko_b, ko_1, ko_0, true_and, and_true, if_true, if_false, not_true_eq_false, not_false_eq_true, oo_02, decide_eq_true_eq, decide_eq_false_iff_not, ite_not, Nat.reduceAdd, Nat.reduceLT, Nat.reduceSub, Nat.reduceLeDiff, reduceIte, Bool.true_eq_false, Bool.false_eq_true, reduceCtorEq, eq_self, decide_true, decide_false, bv_t, bv_f, and_self, t_si, t_sl, t_sr, t_sI, t_sR, n_si, n_sl, n_sr, n_sI, n_sR, r_si, r_sl, r_sI, c_in, hx, and_self, q1, z1, tA2]
theorem c_bec_no {d A : Nat} {t x : Int32} (h : RC_ w G σ S) (hV : WS_ S) (hx : ¬ (Int32.ofInt (-9) ≤ x ∧ x ≤ Int32.ofNat 9)) : ∃ w1, Fb_ w w1 ∧ RC_ w1 G σ (s_set S (b_ref (sm_B S) 1)) ∧ ∀ Q, cl (d + 8) 77 [v_R (some 1000), v_R (some A), v_I t, v_I x] w Q = Q (Sum.inl (some (v_I (Int32.ofInt (-99))))) w1 := by
  obtain ⟨w1, f1, r1, q1⟩ := c_does0 h hV (d := d + 1)
  refine ⟨w1, f1, r1, fun Q => ?_⟩
  have hC := h.1.1
  simp (disch := first | omega | decide | exact ko_b _ | assumption | (simp only [t_si, t_sl, t_sr, t_sI, t_sR, n_si, n_sl, n_sr, n_sI, n_sR, r_si, r_sl, r_sI]; first | done | omega)) only [x_77_e, x_77_b, x_77_0, x_77_1, x_77_2, x_77_4, x_77_6, x_77_9, x_77_12, x_77_15, x_77_17, x_77_18, x_77_19, x_77_20, x_77_21, x_77_23, x_77_24, x_77_25, x_77_26, x_77_27, x_77_29, bk_v, bk_n, nl_I, nl_R, nl_L, nl_0, oo_lt, oo_le, oo_eq, oo_add, oo_sub, oo_tn, oo_ir, nn_leT, nn_leF, nn_ltT, nn_ltF, nn_eqT, nn_eqF, bv_0, bv_1, ko_b, ko_1, ko_0, true_and, and_true, if_true, if_false, not_true_eq_false, not_false_eq_true, oo_02, decide_eq_true_eq, decide_eq_false_iff_not, ite_not, Nat.reduceAdd, Nat.reduceLT, Nat.reduceSub, Nat.reduceLeDiff, reduceIte, Bool.true_eq_false, Bool.false_eq_true, reduceCtorEq, eq_self, decide_true, decide_false, bv_t, bv_f, and_self, t_si, t_sl, t_sr, t_sI, t_sR, n_si, n_sl, n_sr, n_sI, n_sR, r_si, r_sl, r_sI, c_in, hx, q1]
theorem c_wed (h : RC_ w G σ S) (hV : WS_ S) {d t : Nat} {x : Int32} (ht : t < tm_n (sm_T S)) (hx : Int32.ofInt (-9) ≤ x ∧ x ≤ Int32.ofNat 9) : CA_ (d + 12) 76 [v_R (some 1000), v_I (Int32.ofNat t), v_I x] w (v_I (xm_w (bm_X (sm_B S)) t)) G (s_set S (b_set (b_keep (sm_B S)) (x_wed (bm_X (sm_B S)) t x))) := by
  obtain ⟨w1, σ1, f1, r1, q1⟩ := c_bec (d := d + 3) (A := 1011) (i := 3) (z := xm_w (bm_X (sm_B S)) t) (X := x_wed (bm_X (sm_B S)) t x) h hV ht hx rfl (by omega) (fun w1 g0 => by
    obtain ⟨g1, g2, g3, g4, g5, g6, g7⟩ := g0
    refine ⟨g6 t ht, ?_⟩
    unfold CS_
    simp only [i_si, Nat.reduceEqDiff, Nat.reduceAdd, false_and, if_false, true_and] at *
    refine ⟨g1, g2, g3, g4, g5, fun k hk => ?_, g7⟩
    show _ = if k = t then x else xm_w (bm_X (sm_B S)) k
    by_cases e : k = t
    · rw [if_pos e, if_pos e]
    · rw [if_neg e, if_neg e]; exact g6 k hk)
  refine ⟨w1, σ1, f1, r1, fun Q => ?_⟩
  have hq := RC_CQ h hV
  have hC := h.1
  unfold sh_C at hC
  have hr0 : w_r w 1000 0 = some (gm_b G) := h.2.2.1
  have hT := h.2.2.2.1
  unfold CT_ at hT
  have hA : SO_ w 1008 := h.2.1.2.1.1
  unfold SO_ at hA
  have hA2 : SO_ w 1429 := h.2.1.2.2.2.2
  unfold SO_ at hA2
  have hS : CS_ w 1008 (tm_n (sm_T S)) (bm_X (sm_B S)) := h.2.2.2.2.2.2.2.1.1
  unfold CS_ at hS
  have hK : sh_B w 1007 := h.2.1.1
  unfold sh_B at hK
  have hB := h.2.2.2.2.2.2.2.1.2
  have hR := h.2.2.2.2.2.2.2.2.2
  simp only [Nat.reduceAdd] at hA hA2 hS hK hB
  obtain ⟨hn, hk4⟩ := hV.1
  obtain ⟨hW1, hW2, hW3⟩ := hV.2.2.2.1.1
  simp (disch := first | omega | decide | exact ko_b _ | assumption | (simp only [t_si, t_sl, t_sr, t_sI, t_sR, n_si, n_sl, n_sr, n_sI, n_sR, r_si, r_sl, r_sI]; first | done | omega)) only [x_76_e, x_76_b, x_76_0, x_76_1, x_76_2, x_76_5, x_76_6, x_76_7, x_76_8, x_76_11, x_76_14, x_76_15, x_76_16, x_76_19, bk_v, bk_n, nl_I, nl_R, nl_L, nl_0, oo_lt, oo_le, oo_eq, oo_add, oo_sub, oo_tn, oo_ir, nn_leT, nn_leF, nn_ltT, nn_ltF, nn_eqT, nn_eqF, bv_0, bv_1, ko_b, ko_1, ko_0, true_and, and_true, if_true, if_false, not_true_eq_false, not_false_eq_true, oo_02, decide_eq_true_eq, decide_eq_false_iff_not, ite_not, Nat.reduceAdd, Nat.reduceLT, Nat.reduceSub, Nat.reduceLeDiff, reduceIte, Bool.true_eq_false, Bool.false_eq_true, reduceCtorEq, eq_self, decide_true, decide_false, bv_t, bv_f, and_self, t_si, t_sl, t_sr, t_sI, t_sR, n_si, n_sl, n_sr, n_sI, n_sR, r_si, r_sl, r_sI, hC, hr0, hT, hA, hS, hK, hB, hR, c_tabAt h hV, q1]
theorem c_saw (h : RC_ w G σ S) (hV : WS_ S) {d t : Nat} {x : Int32} (ht : t < tm_n (sm_T S)) (hx : Int32.ofInt (-9) ≤ x ∧ x ≤ Int32.ofNat 9) : CA_ (d + 12) 78 [v_R (some 1000), v_I (Int32.ofNat t), v_I x] w (v_I (xm_l (bm_X (sm_B S)) t)) G (s_set S (b_set (b_keep (sm_B S)) (x_lea (bm_X (sm_B S)) t x))) := by
  obtain ⟨w1, σ1, f1, r1, q1⟩ := c_bec (d := d + 3) (A := 1012) (i := 4) (z := xm_l (bm_X (sm_B S)) t) (X := x_lea (bm_X (sm_B S)) t x) h hV ht hx rfl (by omega) (fun w1 g0 => by
    obtain ⟨g1, g2, g3, g4, g5, g6, g7⟩ := g0
    refine ⟨g7 t ht, ?_⟩
    unfold CS_
    simp only [i_si, Nat.reduceEqDiff, Nat.reduceAdd, false_and, if_false, true_and] at *
    refine ⟨g1, g2, g3, g4, g5, g6, fun k hk => ?_⟩
    show _ = if k = t then x else xm_l (bm_X (sm_B S)) k
    by_cases e : k = t
    · rw [if_pos e, if_pos e]
    · rw [if_neg e, if_neg e]; exact g7 k hk)
  refine ⟨w1, σ1, f1, r1, fun Q => ?_⟩
  have hq := RC_CQ h hV
  have hC := h.1
  unfold sh_C at hC
  have hr0 : w_r w 1000 0 = some (gm_b G) := h.2.2.1
  have hT := h.2.2.2.1
  unfold CT_ at hT
  have hA : SO_ w 1008 := h.2.1.2.1.1
  unfold SO_ at hA
  have hA2 : SO_ w 1429 := h.2.1.2.2.2.2
  unfold SO_ at hA2
  have hS : CS_ w 1008 (tm_n (sm_T S)) (bm_X (sm_B S)) := h.2.2.2.2.2.2.2.1.1
  unfold CS_ at hS
  have hK : sh_B w 1007 := h.2.1.1
  unfold sh_B at hK
  have hB := h.2.2.2.2.2.2.2.1.2
  have hR := h.2.2.2.2.2.2.2.2.2
  simp only [Nat.reduceAdd] at hA hA2 hS hK hB
  obtain ⟨hn, hk4⟩ := hV.1
  obtain ⟨hW1, hW2, hW3⟩ := hV.2.2.2.1.1
  simp (disch := first | omega | decide | exact ko_b _ | assumption | (simp only [t_si, t_sl, t_sr, t_sI, t_sR, n_si, n_sl, n_sr, n_sI, n_sR, r_si, r_sl, r_sI]; first | done | omega)) only [x_78_e, x_78_b, x_78_0, x_78_1, x_78_2, x_78_5, x_78_6, x_78_7, x_78_8, x_78_11, x_78_14, x_78_15, x_78_16, x_78_19, bk_v, bk_n, nl_I, nl_R, nl_L, nl_0, oo_lt, oo_le, oo_eq, oo_add, oo_sub, oo_tn, oo_ir, nn_leT, nn_leF, nn_ltT, nn_ltF, nn_eqT, nn_eqF, bv_0, bv_1, ko_b, ko_1, ko_0, true_and, and_true, if_true, if_false, not_true_eq_false, not_false_eq_true, oo_02, decide_eq_true_eq, decide_eq_false_iff_not, ite_not, Nat.reduceAdd, Nat.reduceLT, Nat.reduceSub, Nat.reduceLeDiff, reduceIte, Bool.true_eq_false, Bool.false_eq_true, reduceCtorEq, eq_self, decide_true, decide_false, bv_t, bv_f, and_self, t_si, t_sl, t_sr, t_sI, t_sR, n_si, n_sl, n_sr, n_sI, n_sR, r_si, r_sl, r_sI, hC, hr0, hT, hA, hS, hK, hB, hR, c_tabAt h hV, q1]
theorem c_wed_no (h : RC_ w G σ S) (hV : WS_ S) {d t : Nat} {x : Int32} (ht : t < tm_n (sm_T S)) (hx : ¬ (Int32.ofInt (-9) ≤ x ∧ x ≤ Int32.ofNat 9)) : CA_ (d + 12) 76 [v_R (some 1000), v_I (Int32.ofNat t), v_I x] w (v_I (Int32.ofInt (-99))) G (s_set S (b_ref (sm_B S) 1)) := by
  obtain ⟨w1, f1, r1, q1⟩ := c_bec_no (d := d + 3) (A := 1011) (t := Int32.ofNat t) h hV hx
  refine ⟨w1, σ, f1, r1, fun Q => ?_⟩
  have hq := RC_CQ h hV
  have hC := h.1
  unfold sh_C at hC
  have hr0 : w_r w 1000 0 = some (gm_b G) := h.2.2.1
  have hT := h.2.2.2.1
  unfold CT_ at hT
  have hA : SO_ w 1008 := h.2.1.2.1.1
  unfold SO_ at hA
  have hA2 : SO_ w 1429 := h.2.1.2.2.2.2
  unfold SO_ at hA2
  have hS : CS_ w 1008 (tm_n (sm_T S)) (bm_X (sm_B S)) := h.2.2.2.2.2.2.2.1.1
  unfold CS_ at hS
  have hK : sh_B w 1007 := h.2.1.1
  unfold sh_B at hK
  have hB := h.2.2.2.2.2.2.2.1.2
  have hR := h.2.2.2.2.2.2.2.2.2
  simp only [Nat.reduceAdd] at hA hA2 hS hK hB
  obtain ⟨hn, hk4⟩ := hV.1
  obtain ⟨hW1, hW2, hW3⟩ := hV.2.2.2.1.1
  simp (disch := first | omega | decide | exact ko_b _ | assumption | (simp only [t_si, t_sl, t_sr, t_sI, t_sR, n_si, n_sl, n_sr, n_sI, n_sR, r_si, r_sl, r_sI]; first | done | omega)) only [x_76_e, x_76_b, x_76_0, x_76_1, x_76_2, x_76_5, x_76_6, x_76_7, x_76_8, x_76_11, x_76_14, x_76_15, x_76_16, x_76_19, bk_v, bk_n, nl_I, nl_R, nl_L, nl_0, oo_lt, oo_le, oo_eq, oo_add, oo_sub, oo_tn, oo_ir, nn_leT, nn_leF, nn_ltT, nn_ltF, nn_eqT, nn_eqF, bv_0, bv_1, ko_b, ko_1, ko_0, true_and, and_true, if_true, if_false, not_true_eq_false, not_false_eq_true, oo_02, decide_eq_true_eq, decide_eq_false_iff_not, ite_not, Nat.reduceAdd, Nat.reduceLT, Nat.reduceSub, Nat.reduceLeDiff, reduceIte, Bool.true_eq_false, Bool.false_eq_true, reduceCtorEq, eq_self, decide_true, decide_false, bv_t, bv_f, and_self, t_si, t_sl, t_sr, t_sI, t_sR, n_si, n_sl, n_sr, n_sI, n_sR, r_si, r_sl, r_sI, hC, hr0, hT, hA, hS, hK, hB, hR, c_tabAt h hV, q1]
theorem c_saw_no (h : RC_ w G σ S) (hV : WS_ S) {d t : Nat} {x : Int32} (ht : t < tm_n (sm_T S)) (hx : ¬ (Int32.ofInt (-9) ≤ x ∧ x ≤ Int32.ofNat 9)) : CA_ (d + 12) 78 [v_R (some 1000), v_I (Int32.ofNat t), v_I x] w (v_I (Int32.ofInt (-99))) G (s_set S (b_ref (sm_B S) 1)) := by
  obtain ⟨w1, f1, r1, q1⟩ := c_bec_no (d := d + 3) (A := 1012) (t := Int32.ofNat t) h hV hx
  refine ⟨w1, σ, f1, r1, fun Q => ?_⟩
  have hq := RC_CQ h hV
  have hC := h.1
  unfold sh_C at hC
  have hr0 : w_r w 1000 0 = some (gm_b G) := h.2.2.1
  have hT := h.2.2.2.1
  unfold CT_ at hT
  have hA : SO_ w 1008 := h.2.1.2.1.1
  unfold SO_ at hA
  have hA2 : SO_ w 1429 := h.2.1.2.2.2.2
  unfold SO_ at hA2
  have hS : CS_ w 1008 (tm_n (sm_T S)) (bm_X (sm_B S)) := h.2.2.2.2.2.2.2.1.1
  unfold CS_ at hS
  have hK : sh_B w 1007 := h.2.1.1
  unfold sh_B at hK
  have hB := h.2.2.2.2.2.2.2.1.2
  have hR := h.2.2.2.2.2.2.2.2.2
  simp only [Nat.reduceAdd] at hA hA2 hS hK hB
  obtain ⟨hn, hk4⟩ := hV.1
  obtain ⟨hW1, hW2, hW3⟩ := hV.2.2.2.1.1
  simp (disch := first | omega | decide | exact ko_b _ | assumption | (simp only [t_si, t_sl, t_sr, t_sI, t_sR, n_si, n_sl, n_sr, n_sI, n_sR, r_si, r_sl, r_sI]; first | done | omega)) only [x_78_e, x_78_b, x_78_0, x_78_1, x_78_2, x_78_5, x_78_6, x_78_7, x_78_8, x_78_11, x_78_14, x_78_15, x_78_16, x_78_19, bk_v, bk_n, nl_I, nl_R, nl_L, nl_0, oo_lt, oo_le, oo_eq, oo_add, oo_sub, oo_tn, oo_ir, nn_leT, nn_leF, nn_ltT, nn_ltF, nn_eqT, nn_eqF, bv_0, bv_1, ko_b, ko_1, ko_0, true_and, and_true, if_true, if_false, not_true_eq_false, not_false_eq_true, oo_02, decide_eq_true_eq, decide_eq_false_iff_not, ite_not, Nat.reduceAdd, Nat.reduceLT, Nat.reduceSub, Nat.reduceLeDiff, reduceIte, Bool.true_eq_false, Bool.false_eq_true, reduceCtorEq, eq_self, decide_true, decide_false, bv_t, bv_f, and_self, t_si, t_sl, t_sr, t_sI, t_sR, n_si, n_sl, n_sr, n_sI, n_sR, r_si, r_sl, r_sI, hC, hr0, hT, hA, hS, hK, hB, hR, c_tabAt h hV, q1]
theorem c_wed_y (h : RC_ w G σ S) (hV : WS_ S) {d : Nat} {x y : Int32} (hx : no_in y (tm_n (sm_T S))) : CX_ G (d + 12) 76 [v_R (some 1000), v_I y, v_I x] w 40 := cx_0 fun Q => by
  have hq := RC_CQ h hV
  have hC := h.1
  unfold sh_C at hC
  have hr0 : w_r w 1000 0 = some (gm_b G) := h.2.2.1
  have hT := h.2.2.2.1
  unfold CT_ at hT
  have hA : SO_ w 1008 := h.2.1.2.1.1
  unfold SO_ at hA
  have hA2 : SO_ w 1429 := h.2.1.2.2.2.2
  unfold SO_ at hA2
  have hS : CS_ w 1008 (tm_n (sm_T S)) (bm_X (sm_B S)) := h.2.2.2.2.2.2.2.1.1
  unfold CS_ at hS
  have hK : sh_B w 1007 := h.2.1.1
  unfold sh_B at hK
  have hB := h.2.2.2.2.2.2.2.1.2
  have hR := h.2.2.2.2.2.2.2.2.2
  simp only [Nat.reduceAdd] at hA hA2 hS hK hB
  obtain ⟨hn, hk4⟩ := hV.1
  obtain ⟨hW1, hW2, hW3⟩ := hV.2.2.2.1.1
  simp (disch := first | omega | decide | exact ko_b _ | assumption | (simp only [t_si, t_sl, t_sr, t_sI, t_sR, n_si, n_sl, n_sr, n_sI, n_sR, r_si, r_sl, r_sI]; first | done | omega)) only [x_76_e, x_76_b, x_76_0, x_76_1, x_76_2, x_76_5, x_76_6, x_76_7, x_76_8, x_76_11, x_76_14, x_76_15, x_76_16, x_76_19, bk_v, bk_n, nl_I, nl_R, nl_L, nl_0, oo_lt, oo_le, oo_eq, oo_add, oo_sub, oo_tn, oo_ir, nn_leT, nn_leF, nn_ltT, nn_ltF, nn_eqT, nn_eqF, bv_0, bv_1, ko_b, ko_1, ko_0, true_and, and_true, if_true, if_false, not_true_eq_false, not_false_eq_true, oo_02, decide_eq_true_eq, decide_eq_false_iff_not, ite_not, Nat.reduceAdd, Nat.reduceLT, Nat.reduceSub, Nat.reduceLeDiff, reduceIte, Bool.true_eq_false, Bool.false_eq_true, reduceCtorEq, eq_self, decide_true, decide_false, bv_t, bv_f, and_self, t_si, t_sl, t_sr, t_sI, t_sR, n_si, n_sl, n_sr, n_sI, n_sR, r_si, r_sl, r_sI, c_tabAt_x h hV hx]
theorem c_saw_y (h : RC_ w G σ S) (hV : WS_ S) {d : Nat} {x y : Int32} (hx : no_in y (tm_n (sm_T S))) : CX_ G (d + 12) 78 [v_R (some 1000), v_I y, v_I x] w 40 := cx_0 fun Q => by
  have hq := RC_CQ h hV
  have hC := h.1
  unfold sh_C at hC
  have hr0 : w_r w 1000 0 = some (gm_b G) := h.2.2.1
  have hT := h.2.2.2.1
  unfold CT_ at hT
  have hA : SO_ w 1008 := h.2.1.2.1.1
  unfold SO_ at hA
  have hA2 : SO_ w 1429 := h.2.1.2.2.2.2
  unfold SO_ at hA2
  have hS : CS_ w 1008 (tm_n (sm_T S)) (bm_X (sm_B S)) := h.2.2.2.2.2.2.2.1.1
  unfold CS_ at hS
  have hK : sh_B w 1007 := h.2.1.1
  unfold sh_B at hK
  have hB := h.2.2.2.2.2.2.2.1.2
  have hR := h.2.2.2.2.2.2.2.2.2
  simp only [Nat.reduceAdd] at hA hA2 hS hK hB
  obtain ⟨hn, hk4⟩ := hV.1
  obtain ⟨hW1, hW2, hW3⟩ := hV.2.2.2.1.1
  simp (disch := first | omega | decide | exact ko_b _ | assumption | (simp only [t_si, t_sl, t_sr, t_sI, t_sR, n_si, n_sl, n_sr, n_sI, n_sR, r_si, r_sl, r_sI]; first | done | omega)) only [x_78_e, x_78_b, x_78_0, x_78_1, x_78_2, x_78_5, x_78_6, x_78_7, x_78_8, x_78_11, x_78_14, x_78_15, x_78_16, x_78_19, bk_v, bk_n, nl_I, nl_R, nl_L, nl_0, oo_lt, oo_le, oo_eq, oo_add, oo_sub, oo_tn, oo_ir, nn_leT, nn_leF, nn_ltT, nn_ltF, nn_eqT, nn_eqF, bv_0, bv_1, ko_b, ko_1, ko_0, true_and, and_true, if_true, if_false, not_true_eq_false, not_false_eq_true, oo_02, decide_eq_true_eq, decide_eq_false_iff_not, ite_not, Nat.reduceAdd, Nat.reduceLT, Nat.reduceSub, Nat.reduceLeDiff, reduceIte, Bool.true_eq_false, Bool.false_eq_true, reduceCtorEq, eq_self, decide_true, decide_false, bv_t, bv_f, and_self, t_si, t_sl, t_sr, t_sI, t_sR, n_si, n_sl, n_sr, n_sI, n_sR, r_si, r_sl, r_sI, c_tabAt_x h hV hx]
theorem c_years (h : RC_ w G σ S) (hV : WS_ S) {d : Nat} {x : Int32} (hx : Int32.ofNat 1 ≤ x ∧ x ≤ Int32.ofNat 30) (hy : xm_y (bm_X (sm_B S)) + x ≤ Int32.ofNat 999) : CA_ (d + 12) 30 [v_R (some 1000), v_I x] w (v_I (xm_y (bm_X (sm_B S)) + x)) G (s_set S (b_set (b_keep (sm_B S)) (x_yrs (bm_X (sm_B S)) (xm_y (bm_X (sm_B S)) + x)))) := by
  obtain ⟨w1, σ1, f1, r1, q1⟩ := c_does1 h hV (d := d + 5)
  have hV1 := WS_set hV (WB_keep hV.2.2.2.1)
  have hS1 : CS_ w1 1008 (tm_n (sm_T S)) (bm_X (sm_B S)) := r1.2.2.2.2.2.2.2.1.1
  have f2 : Fr_ (fun x _ => 1008 ≤ x ∧ x ≤ 1012) w1 (s_i w1 1008 5 (xm_y (bm_X (sm_B S)) + x)) := fr_si (fr_rf _ _) (by omega)
  have e5 := hS1.2.1
  refine ⟨_, σ1, fb_tr f1 (fx_fb f2), RC_X r1 hV1 f2 ?_, fun Q => ?_⟩
  · obtain ⟨g1, g2, g3, g4, g5, g6, g7⟩ := hS1
    unfold CS_
    simp only [i_si, Nat.reduceEqDiff, Nat.reduceAdd, false_and, and_false, if_false, true_and, if_true, and_self] at *
    exact ⟨g1, rfl, g3, g4, g5, g6, g7⟩
  · have hC9 := h.1
    obtain ⟨c1, c2, c3⟩ := fb_C f1 hC9.1 hC9.2.2.2.1 h.2.1.2.1.1.1
    have hq := RC_CQ h hV
    have hC := h.1
    unfold sh_C at hC
    have hr0 : w_r w 1000 0 = some (gm_b G) := h.2.2.1
    have hT := h.2.2.2.1
    unfold CT_ at hT
    have hA : SO_ w 1008 := h.2.1.2.1.1
    unfold SO_ at hA
    have hA2 : SO_ w 1429 := h.2.1.2.2.2.2
    unfold SO_ at hA2
    have hS : CS_ w 1008 (tm_n (sm_T S)) (bm_X (sm_B S)) := h.2.2.2.2.2.2.2.1.1
    unfold CS_ at hS
    have hK : sh_B w 1007 := h.2.1.1
    unfold sh_B at hK
    have hB := h.2.2.2.2.2.2.2.1.2
    have hR := h.2.2.2.2.2.2.2.2.2
    simp only [Nat.reduceAdd] at hA hA2 hS hK hB
    obtain ⟨hn, hk4⟩ := hV.1
    obtain ⟨hW1, hW2, hW3⟩ := hV.2.2.2.1.1
    simp (disch := first | omega | decide | exact ko_b _ | assumption | (simp only [t_si, t_sl, t_sr, t_sI, t_sR, n_si, n_sl, n_sr, n_sI, n_sR, r_si, r_sl, r_sI]; first | done | omega)) only [x_30_e, x_30_b, x_30_0, x_30_1, x_30_2, x_30_3, x_30_5, x_30_8, x_30_11, x_30_12, x_30_15, x_30_18, x_30_19, x_30_20, x_30_23, x_30_26, x_30_27, x_30_30, x_30_31, x_30_34, x_30_37, x_30_38, x_30_39, x_30_40, x_30_43, x_30_44, x_30_47, x_30_48, x_30_49, x_30_52, x_30_53, x_30_56, x_30_59, bk_v, bk_n, nl_I, nl_R, nl_L, nl_0, oo_lt, oo_le, oo_eq, oo_add, oo_sub, oo_tn, oo_ir, nn_leT, nn_leF, nn_ltT, nn_ltF, nn_eqT, nn_eqF, bv_0, bv_1, ko_b, ko_1, ko_0, true_and, and_true, if_true, if_false, not_true_eq_false, not_false_eq_true, oo_02, decide_eq_true_eq, decide_eq_false_iff_not, ite_not, Nat.reduceAdd, Nat.reduceLT, Nat.reduceSub, Nat.reduceLeDiff, reduceIte, Bool.true_eq_false, Bool.false_eq_true, reduceCtorEq, eq_self, decide_true, decide_false, bv_t, bv_f, and_self, t_si, t_sl, t_sr, t_sI, t_sR, n_si, n_sl, n_sr, n_sI, n_sR, r_si, r_sl, r_sI, hC, hr0, hT, hA, hS, hK, hB, hR, c_in, hx, hy, Int32.not_lt.mpr hy, q1, c2, e5, i_si]
theorem c_years_no (h : RC_ w G σ S) (hV : WS_ S) {d : Nat} {x : Int32} (hx : ¬ (Int32.ofNat 1 ≤ x ∧ x ≤ Int32.ofNat 30) ∨ ¬ xm_y (bm_X (sm_B S)) + x ≤ Int32.ofNat 999) : CA_ (d + 12) 30 [v_R (some 1000), v_I x] w (v_I (Int32.ofInt (-1))) G (s_set S (b_ref (sm_B S) 1)) := by
  obtain ⟨w1, f1, r1, q1⟩ := c_does0 h hV (d := d + 5)
  refine ⟨w1, σ, f1, r1, fun Q => ?_⟩
  have hq := RC_CQ h hV
  have hC := h.1
  unfold sh_C at hC
  have hr0 : w_r w 1000 0 = some (gm_b G) := h.2.2.1
  have hT := h.2.2.2.1
  unfold CT_ at hT
  have hA : SO_ w 1008 := h.2.1.2.1.1
  unfold SO_ at hA
  have hA2 : SO_ w 1429 := h.2.1.2.2.2.2
  unfold SO_ at hA2
  have hS : CS_ w 1008 (tm_n (sm_T S)) (bm_X (sm_B S)) := h.2.2.2.2.2.2.2.1.1
  unfold CS_ at hS
  have hK : sh_B w 1007 := h.2.1.1
  unfold sh_B at hK
  have hB := h.2.2.2.2.2.2.2.1.2
  have hR := h.2.2.2.2.2.2.2.2.2
  simp only [Nat.reduceAdd] at hA hA2 hS hK hB
  obtain ⟨hn, hk4⟩ := hV.1
  obtain ⟨hW1, hW2, hW3⟩ := hV.2.2.2.1.1
  by_cases c : Int32.ofNat 1 ≤ x ∧ x ≤ Int32.ofNat 30
  · have c2 := Int32.not_le.mp (hx.resolve_left (fun z => z c))
    simp (disch := first | omega | decide | exact ko_b _ | assumption | (simp only [t_si, t_sl, t_sr, t_sI, t_sR, n_si, n_sl, n_sr, n_sI, n_sR, r_si, r_sl, r_sI]; first | done | omega)) only [x_30_e, x_30_b, x_30_0, x_30_1, x_30_2, x_30_3, x_30_5, x_30_8, x_30_11, x_30_12, x_30_15, x_30_18, x_30_19, x_30_20, x_30_23, x_30_26, x_30_27, x_30_30, x_30_31, x_30_34, x_30_37, x_30_38, x_30_39, x_30_40, x_30_43, x_30_44, x_30_47, x_30_48, x_30_49, x_30_52, x_30_53, x_30_56, x_30_59, bk_v, bk_n, nl_I, nl_R, nl_L, nl_0, oo_lt, oo_le, oo_eq, oo_add, oo_sub, oo_tn, oo_ir, nn_leT, nn_leF, nn_ltT, nn_ltF, nn_eqT, nn_eqF, bv_0, bv_1, ko_b, ko_1, ko_0, true_and, and_true, if_true, if_false, not_true_eq_false, not_false_eq_true, oo_02, decide_eq_true_eq, decide_eq_false_iff_not, ite_not, Nat.reduceAdd, Nat.reduceLT, Nat.reduceSub, Nat.reduceLeDiff, reduceIte, Bool.true_eq_false, Bool.false_eq_true, reduceCtorEq, eq_self, decide_true, decide_false, bv_t, bv_f, and_self, t_si, t_sl, t_sr, t_sI, t_sR, n_si, n_sl, n_sr, n_sI, n_sR, r_si, r_sl, r_sI, hC, hr0, hT, hA, hS, hK, hB, hR, c_in, c, c2, q1]
  · simp (disch := first | omega | decide | exact ko_b _ | assumption | (simp only [t_si, t_sl, t_sr, t_sI, t_sR, n_si, n_sl, n_sr, n_sI, n_sR, r_si, r_sl, r_sI]; first | done | omega)) only [x_30_e, x_30_b, x_30_0, x_30_1, x_30_2, x_30_3, x_30_5, x_30_8, x_30_11, x_30_12, x_30_15, x_30_18, x_30_19, x_30_20, x_30_23, x_30_26, x_30_27, x_30_30, x_30_31, x_30_34, x_30_37, x_30_38, x_30_39, x_30_40, x_30_43, x_30_44, x_30_47, x_30_48, x_30_49, x_30_52, x_30_53, x_30_56, x_30_59, bk_v, bk_n, nl_I, nl_R, nl_L, nl_0, oo_lt, oo_le, oo_eq, oo_add, oo_sub, oo_tn, oo_ir, nn_leT, nn_leF, nn_ltT, nn_ltF, nn_eqT, nn_eqF, bv_0, bv_1, ko_b, ko_1, ko_0, true_and, and_true, if_true, if_false, not_true_eq_false, not_false_eq_true, oo_02, decide_eq_true_eq, decide_eq_false_iff_not, ite_not, Nat.reduceAdd, Nat.reduceLT, Nat.reduceSub, Nat.reduceLeDiff, reduceIte, Bool.true_eq_false, Bool.false_eq_true, reduceCtorEq, eq_self, decide_true, decide_false, bv_t, bv_f, and_self, t_si, t_sl, t_sr, t_sI, t_sR, n_si, n_sl, n_sr, n_sI, n_sR, r_si, r_sl, r_sI, hC, hr0, hT, hA, hS, hK, hB, hR, c_in, c, q1]
theorem c_undo_no (h : RC_ w G σ S) (hV : WS_ S) {d : Nat} (ha : bm_a (sm_B S) = 0) : CR_ G (d + 12) 34 [v_R (some 1000)] w (v_I (Int32.ofInt (-1))) := cr_0 fun Q => by
  have hq := RC_CQ h hV
  have hC := h.1
  unfold sh_C at hC
  have hr0 : w_r w 1000 0 = some (gm_b G) := h.2.2.1
  have hT := h.2.2.2.1
  unfold CT_ at hT
  have hA : SO_ w 1008 := h.2.1.2.1.1
  unfold SO_ at hA
  have hA2 : SO_ w 1429 := h.2.1.2.2.2.2
  unfold SO_ at hA2
  have hS : CS_ w 1008 (tm_n (sm_T S)) (bm_X (sm_B S)) := h.2.2.2.2.2.2.2.1.1
  unfold CS_ at hS
  have hK : sh_B w 1007 := h.2.1.1
  unfold sh_B at hK
  have hB := h.2.2.2.2.2.2.2.1.2
  have hR := h.2.2.2.2.2.2.2.2.2
  simp only [Nat.reduceAdd] at hA hA2 hS hK hB
  obtain ⟨hn, hk4⟩ := hV.1
  obtain ⟨hW1, hW2, hW3⟩ := hV.2.2.2.1.1
  simp (disch := first | omega | decide | exact ko_b _ | assumption | (simp only [t_si, t_sl, t_sr, t_sI, t_sR, n_si, n_sl, n_sr, n_sI, n_sR, r_si, r_sl, r_sI]; first | done | omega)) only [x_34_e, x_34_b, x_34_0, x_34_1, x_34_4, x_34_7, x_34_10, x_34_11, x_34_12, x_34_13, x_34_16, x_34_17, x_34_20, x_34_21, x_34_22, x_34_25, x_34_26, x_34_29, x_34_30, x_34_33, x_34_36, x_34_37, x_34_40, x_34_43, x_34_46, x_34_49, x_34_52, x_34_53, x_34_56, x_34_59, bk_v, bk_n, nl_I, nl_R, nl_L, nl_0, oo_lt, oo_le, oo_eq, oo_add, oo_sub, oo_tn, oo_ir, nn_leT, nn_leF, nn_ltT, nn_ltF, nn_eqT, nn_eqF, bv_0, bv_1, ko_b, ko_1, ko_0, true_and, and_true, if_true, if_false, not_true_eq_false, not_false_eq_true, oo_02, decide_eq_true_eq, decide_eq_false_iff_not, ite_not, Nat.reduceAdd, Nat.reduceLT, Nat.reduceSub, Nat.reduceLeDiff, reduceIte, Bool.true_eq_false, Bool.false_eq_true, reduceCtorEq, eq_self, decide_true, decide_false, bv_t, bv_f, and_self, t_si, t_sl, t_sr, t_sI, t_sR, n_si, n_sl, n_sr, n_sI, n_sR, r_si, r_sl, r_sI, hC, hr0, hT, hA, hS, hK, hB, hR, ha]
theorem c_undo (h : RC_ w G σ S) (hV : WS_ S) {d : Nat} (ha : bm_a (sm_B S) ≠ 0) : CA_ (d + 12) 34 [v_R (some 1000)] w (v_I (Int32.ofNat (bm_a (sm_B S) - 1))) G (s_set S (b_undo (sm_B S))) := by
  have hL : CL_ w 1007 σ := h.2.2.2.2.2.2.1
  obtain ⟨b1, b2, b3, b4, b5, b6, b7⟩ : CB_ w 1007 σ (tm_n (sm_T S)) (sm_B S) := h.2.2.2.2.2.2.2.1
  have ha40 := hV.2.2.2.1.2.2.1
  have hn10 := hV.1.1
  have hXk := hV.2.2.2.1.2.2.2.1 (bm_a (sm_B S) - 1) (by omega)
  have hσ := hL.2.2.1 (bm_a (sm_B S) - 1) (by omega)
  have hs1 : Fr_ (fun a k => a = 1007 ∧ k = 5) w (s_i w 1007 5 (Int32.ofNat (bm_a (sm_B S) - 1))) := fr_si (fr_rf _ _) ⟨rfl, rfl⟩
  have so : ∀ x, SO_ w x → SO_ (s_i w 1007 5 (Int32.ofNat (bm_a (sm_B S) - 1))) x := fun x z => z
  obtain ⟨w1, f1, g1, g2, q1⟩ := c_like (d := d + 11) (a := 1008) (b := 1018 + 5 * σ (bm_a (sm_B S) - 1)) (so _ h.2.1.2.1.1) (so _ (h.2.1.2.1.2 _ hσ)) (by omega)
  have ff : Fb_ w w1 := fb_tr (fr_fb hs1 (fun a k z => by omega)) (fr_fb f1 (fun a k z => by omega))
  have g : ∀ a k, (a < 1008 ∨ 1012 < a) → (a ≠ 1007 ∨ k ≠ 5) → w_i w1 a k = w_i w a k := fun a k z y => by
    rw [f1.2.2.2.2.2 _ _ (by omega), i_si, if_neg (by omega)]
  have e5 : w_i w1 1007 5 = Int32.ofNat (bm_a (sm_B S) - 1) := by rw [f1.2.2.2.2.2 _ _ (by omega), i_si, if_pos ⟨rfl, rfl⟩]
  have cs : CS_ (s_i w 1007 5 (Int32.ofNat (bm_a (sm_B S) - 1))) (1018 + 5 * σ (bm_a (sm_B S) - 1)) (tm_n (sm_T S)) (bm_h (sm_B S) (bm_a (sm_B S) - 1)) := CS_ag (b3 _ (by omega)) (fun b k e1 e2 => by rw [i_si, if_neg (by omega)])
  refine ⟨w1, σ, ff, RC_B h hV ff (CL_ag hL (g _ _ (by omega) (by omega)) (fun k => by rw [f1.2.2.1]; rfl)) ⟨CS_like cs (Nat.le_trans hXk.1 hn10) hn10 g1 g2, e5, fun k hk => ?_, ?_, fun k hk => ?_, fun k hk => ?_, fun k hk => ?_⟩, fun Q => ?_⟩
  · have hk : k < bm_a (sm_B S) - 1 := hk
    exact CS_ag (b3 k (by omega)) (fun b k e1 e2 => g b k (by omega) (by omega))
  · rw [g _ _ (by omega) (by omega)]; exact b4
  · rw [g _ _ (by omega) (by omega)]; exact b5 k hk
  · rw [g _ _ (by omega) (by omega)]; exact b6 k hk
  · rw [g _ _ (by omega) (by omega)]; exact b7 k hk
  · have t24 := (h.2.1.2.1.2 _ hσ).1
    have t7 : w_t w1 1007 = 23 := by rw [ff.1]; exact h.2.1.1.1
    have t0 : w_t w1 1000 = 20 := by rw [ff.1]; exact h.1.1
    have r0 : w_r w1 1000 1 = some 1007 := by rw [ff.2.2.1 _ _ (by omega)]; exact h.1.2.1
    have l1 : w_i w 1013 2 = Int32.ofNat 40 := hL.1
    have l2 := hL.2.1 (bm_a (sm_B S) - 1) (by omega)
    simp only [Nat.reduceAdd] at l2
    have k1 : sh_B w 1007 := h.2.1.1
    unfold sh_B at k1
    simp only [Nat.reduceAdd] at k1
    have hg : ∀ d Q, cl (d + 2) 313 [v_R (some 1013), v_I (Int32.ofNat (bm_a (sm_B S) - 1))] (s_i w 1007 5 (Int32.ofNat (bm_a (sm_B S) - 1))) Q = _ := fun d Q => j_get (d := d) (Q := Q) (k := bm_a (sm_B S) - 1) (n := 40) (e := 1014) (by rw [t_si]; omega) (by rw [i_si, if_neg (by omega)]; exact l1) (by omega) (by omega) (by rw [r_si]; simp only [k1]) (by rw [t_si]; omega) (by rw [n_si]; omega) (by rw [n_si]; omega)
    have hq := RC_CQ h hV
    have hC := h.1
    unfold sh_C at hC
    have hr0 : w_r w 1000 0 = some (gm_b G) := h.2.2.1
    have hT := h.2.2.2.1
    unfold CT_ at hT
    have hA : SO_ w 1008 := h.2.1.2.1.1
    unfold SO_ at hA
    have hA2 : SO_ w 1429 := h.2.1.2.2.2.2
    unfold SO_ at hA2
    have hS : CS_ w 1008 (tm_n (sm_T S)) (bm_X (sm_B S)) := h.2.2.2.2.2.2.2.1.1
    unfold CS_ at hS
    have hK : sh_B w 1007 := h.2.1.1
    unfold sh_B at hK
    have hB := h.2.2.2.2.2.2.2.1.2
    have hR := h.2.2.2.2.2.2.2.2.2
    simp only [Nat.reduceAdd] at hA hA2 hS hK hB
    obtain ⟨hn, hk4⟩ := hV.1
    obtain ⟨hW1, hW2, hW3⟩ := hV.2.2.2.1.1
    simp (disch := first | omega | decide | exact ko_b _ | assumption | (simp only [t_si, t_sl, t_sr, t_sI, t_sR, n_si, n_sl, n_sr, n_sI, n_sR, r_si, r_sl, r_sI]; first | done | omega)) only [x_34_e, x_34_b, x_34_0, x_34_1, x_34_4, x_34_7, x_34_10, x_34_11, x_34_12, x_34_13, x_34_16, x_34_17, x_34_20, x_34_21, x_34_22, x_34_25, x_34_26, x_34_29, x_34_30, x_34_33, x_34_36, x_34_37, x_34_40, x_34_43, x_34_46, x_34_49, x_34_52, x_34_53, x_34_56, x_34_59, bk_v, bk_n, nl_I, nl_R, nl_L, nl_0, oo_lt, oo_le, oo_eq, oo_add, oo_sub, oo_tn, oo_ir, nn_leT, nn_leF, nn_ltT, nn_ltF, nn_eqT, nn_eqF, bv_0, bv_1, ko_b, ko_1, ko_0, true_and, and_true, if_true, if_false, not_true_eq_false, not_false_eq_true, oo_02, decide_eq_true_eq, decide_eq_false_iff_not, ite_not, Nat.reduceAdd, Nat.reduceLT, Nat.reduceSub, Nat.reduceLeDiff, reduceIte, Bool.true_eq_false, Bool.false_eq_true, reduceCtorEq, eq_self, decide_true, decide_false, bv_t, bv_f, and_self, t_si, t_sl, t_sr, t_sI, t_sR, n_si, n_sl, n_sr, n_sI, n_sR, r_si, r_sl, r_sI, hC, hr0, hT, hA, hS, hK, hB, hR, hg, l2, i_si, and_self, q1, r0, e5]
end
