/-! SETS: the component -/
set_option maxRecDepth 100000
def Pn_ (_a _k : Nat) : Prop := False
theorem sl_0 {n : Nat} (h : n ≤ 10) : (0 : Nat) < 2 ^ n := Nat.two_pow_pos _
section
variable {w : Wd} {S : Sm} {G : Gm} {σ : Nat → Nat}
theorem RC_n {w1 : Wd} (h : RC_ w G σ S) (hV : WS_ S) (hf : Fr_ Pn_ w w1) : RC_ w1 G σ S := RC_fr h hV (fr_mo hf (fun a k z => z.elim))
theorem c_ws (h : RC_ w G σ S) (hV : WS_ S) {d s : Nat} {Q : Q_} (hs : s < 1024) : cl (d + 3) 41 [v_R (some 1000), v_I (Int32.ofNat s)] w Q = Q (Sum.inl (some (v_I (f_ws (sm_T S) (bm_X (sm_B S)) s)))) w := by
  have hn10 := hV.1.1
  have ctb := fun d Q => c_tables h hV (d := d) (Q := Q)
  have hw0 := h
  have hq := RC_CQ h hV
  have hC := h.1
  unfold sh_C at hC
  have hr0 : w_r _ 1000 0 = some (gm_b G) := h.2.2.1
  have hT := h.2.2.2.1
  unfold CT_ at hT
  have hA : SO_ _ 1008 := h.2.1.2.1.1
  unfold SO_ at hA
  have hA2 : SO_ _ 1429 := h.2.1.2.2.2.2
  unfold SO_ at hA2
  have hS : CS_ _ 1008 (tm_n (sm_T S)) (bm_X (sm_B S)) := h.2.2.2.2.2.2.2.1.1
  unfold CS_ at hS
  have hK : sh_B _ 1007 := h.2.1.1
  unfold sh_B at hK
  have hB := h.2.2.2.2.2.2.2.1.2
  have hR := h.2.2.2.2.2.2.2.2.2
  simp only [Nat.reduceAdd] at hA hA2 hS hK hB
  obtain ⟨hn, hk4⟩ := hV.1
  obtain ⟨hW1, hW2, hW3⟩ := hV.2.2.2.1.1
  unfold f_ws su_
  refine Eq.trans ?_ (lp_io (fun t v => wp (d + 3) 41 4 [some (v_R (some 1000)), some (v_I (Int32.ofNat s)), some (v_I v), some (v_I (Int32.ofNat t))] [] w Q) (fun v => Q (Sum.inl (some (v_I v))) w) (fun t v => if s.testBit t = true then v + gw_ (sm_T S) (bm_X (sm_B S)) t else v) (tm_n (sm_T S)) 0 (Int32.ofNat 0) (fun t v _ ht => ?_) (fun v => ?_))
  · simp (disch := first | omega | decide | exact ko_b _ | assumption | (simp only [t_si, t_sl, t_sr, t_sI, t_sR, n_si, n_sl, n_sr, n_sI, n_sR, r_si, r_sl, r_sI]; first | done | omega)) only [x_41_e, x_41_b, x_41_0, x_41_1, x_41_2, x_41_3, bk_v, bk_n, nl_I, nl_R, nl_L, nl_0, oo_lt, oo_le, oo_eq, oo_add, oo_sub, oo_tn, oo_ir, nn_leT, nn_leF, nn_ltT, nn_ltF, nn_eqT, nn_eqF, bv_0, bv_1, ko_b, ko_1, ko_0, true_and, and_true, if_true, if_false, not_true_eq_false, not_false_eq_true, oo_02, decide_eq_true_eq, decide_eq_false_iff_not, ite_not, Nat.reduceAdd, Nat.reduceLT, Nat.reduceSub, Nat.reduceLeDiff, reduceIte, Bool.true_eq_false, Bool.false_eq_true, reduceCtorEq, eq_self, decide_true, decide_false, bv_t, bv_f, and_self, t_si, t_sl, t_sr, t_sI, t_sR, n_si, n_sl, n_sr, n_sI, n_sR, r_si, r_sl, r_sI]
  · have ht : t < tm_n (sm_T S) := by omega
    have htb := sb_tb (s := s) (t := t) hs (by omega)
    have h3 := hV.1.2 t ht
    have ctab := fun d Q => c_tab hw0.2.2.2.1 hV.1 (d := d) (Q := Q) ht
    have h4 : w_t w (gm_pn G t) = 32 + tm_kd (sm_T S) t := by simp (disch := omega) only [hT]
    rw [x_41_4]
    cases e : s.testBit t with
    | false =>
      rw [e] at htb
      simp (disch := first | omega | decide | exact ko_b _ | assumption | (simp only [t_si, t_sl, t_sr, t_sI, t_sR, n_si, n_sl, n_sr, n_sI, n_sR, r_si, r_sl, r_sI]; first | done | omega)) only [x_41_e, x_41_b, x_41_5, x_41_6, x_41_9, x_41_12, x_41_13, x_41_14, x_41_15, x_41_16, x_41_17, x_41_18, x_41_21, x_41_22, x_41_23, x_41_26, x_41_29, x_41_30, x_41_33, x_41_36, x_41_39, x_41_40, x_41_43, x_41_46, x_41_47, x_41_48, x_41_49, x_41_50, x_41_51, x_41_54, bk_v, bk_n, nl_I, nl_R, nl_L, nl_0, oo_lt, oo_le, oo_eq, oo_add, oo_sub, oo_tn, oo_ir, nn_leT, nn_leF, nn_ltT, nn_ltF, nn_eqT, nn_eqF, bv_0, bv_1, ko_b, ko_1, ko_0, true_and, and_true, if_true, if_false, not_true_eq_false, not_false_eq_true, oo_02, decide_eq_true_eq, decide_eq_false_iff_not, ite_not, Nat.reduceAdd, Nat.reduceLT, Nat.reduceSub, Nat.reduceLeDiff, reduceIte, Bool.true_eq_false, Bool.false_eq_true, reduceCtorEq, eq_self, decide_true, decide_false, bv_t, bv_f, and_self, t_si, t_sl, t_sr, t_sI, t_sR, n_si, n_sl, n_sr, n_sI, n_sR, r_si, r_sl, r_sI, ctb, htb]
    | true =>
      rw [e] at htb
      simp (disch := first | omega | decide | exact ko_b _ | assumption | (simp only [t_si, t_sl, t_sr, t_sI, t_sR, n_si, n_sl, n_sr, n_sI, n_sR, r_si, r_sl, r_sI]; first | done | omega)) only [x_41_e, x_41_b, x_41_5, x_41_6, x_41_9, x_41_12, x_41_13, x_41_14, x_41_15, x_41_16, x_41_17, x_41_18, x_41_21, x_41_22, x_41_23, x_41_26, x_41_29, x_41_30, x_41_33, x_41_36, x_41_39, x_41_40, x_41_43, x_41_46, x_41_47, x_41_48, x_41_49, x_41_50, x_41_51, x_41_54, bk_v, bk_n, nl_I, nl_R, nl_L, nl_0, oo_lt, oo_le, oo_eq, oo_add, oo_sub, oo_tn, oo_ir, nn_leT, nn_leF, nn_ltT, nn_ltF, nn_eqT, nn_eqF, bv_0, bv_1, ko_b, ko_1, ko_0, true_and, and_true, if_true, if_false, not_true_eq_false, not_false_eq_true, oo_02, decide_eq_true_eq, decide_eq_false_iff_not, ite_not, Nat.reduceAdd, Nat.reduceLT, Nat.reduceSub, Nat.reduceLeDiff, reduceIte, Bool.true_eq_false, Bool.false_eq_true, reduceCtorEq, eq_self, decide_true, decide_false, bv_t, bv_f, and_self, t_si, t_sl, t_sr, t_sI, t_sR, n_si, n_sl, n_sr, n_sI, n_sR, r_si, r_sl, r_sI, ctb, htb, hC, hr0, hT, hA, hS, hK, hB, hR, ctab, gw_]
  · rw [x_41_4]
    simp (disch := first | omega | decide | exact ko_b _ | assumption | (simp only [t_si, t_sl, t_sr, t_sI, t_sR, n_si, n_sl, n_sr, n_sI, n_sR, r_si, r_sl, r_sI]; first | done | omega)) only [x_41_e, x_41_b, x_41_5, x_41_6, x_41_9, x_41_12, x_41_13, x_41_14, x_41_15, x_41_16, x_41_17, x_41_18, x_41_21, x_41_22, x_41_23, x_41_26, x_41_29, x_41_30, x_41_33, x_41_36, x_41_39, x_41_40, x_41_43, x_41_46, x_41_47, x_41_48, x_41_49, x_41_50, x_41_51, x_41_54, x_41_57, x_41_58, bk_v, bk_n, nl_I, nl_R, nl_L, nl_0, oo_lt, oo_le, oo_eq, oo_add, oo_sub, oo_tn, oo_ir, nn_leT, nn_leF, nn_ltT, nn_ltF, nn_eqT, nn_eqF, bv_0, bv_1, ko_b, ko_1, ko_0, true_and, and_true, if_true, if_false, not_true_eq_false, not_false_eq_true, oo_02, decide_eq_true_eq, decide_eq_false_iff_not, ite_not, Nat.reduceAdd, Nat.reduceLT, Nat.reduceSub, Nat.reduceLeDiff, reduceIte, Bool.true_eq_false, Bool.false_eq_true, reduceCtorEq, eq_self, decide_true, decide_false, bv_t, bv_f, and_self, t_si, t_sl, t_sr, t_sI, t_sR, n_si, n_sl, n_sr, n_sI, n_sR, r_si, r_sl, r_sI, ctb]
theorem c_ls (h : RC_ w G σ S) (hV : WS_ S) {d s : Nat} {Q : Q_} (hs : s < 1024) : cl (d + 4) 42 [v_R (some 1000), v_I (Int32.ofNat s)] w Q = Q (Sum.inl (some (v_I (f_ls (sm_T S) (bm_X (sm_B S)) s)))) w := by
  have hn10 := hV.1.1
  have ctb := fun d Q => c_tables h hV (d := d) (Q := Q)
  have hq := RC_CQ h hV
  have hC := h.1
  unfold sh_C at hC
  have hr0 : w_r _ 1000 0 = some (gm_b G) := h.2.2.1
  have hT := h.2.2.2.1
  unfold CT_ at hT
  have hA : SO_ _ 1008 := h.2.1.2.1.1
  unfold SO_ at hA
  have hA2 : SO_ _ 1429 := h.2.1.2.2.2.2
  unfold SO_ at hA2
  have hS : CS_ _ 1008 (tm_n (sm_T S)) (bm_X (sm_B S)) := h.2.2.2.2.2.2.2.1.1
  unfold CS_ at hS
  have hK : sh_B _ 1007 := h.2.1.1
  unfold sh_B at hK
  have hB := h.2.2.2.2.2.2.2.1.2
  have hR := h.2.2.2.2.2.2.2.2.2
  simp only [Nat.reduceAdd] at hA hA2 hS hK hB
  obtain ⟨hn, hk4⟩ := hV.1
  obtain ⟨hW1, hW2, hW3⟩ := hV.2.2.2.1.1
  unfold f_ls su_
  refine Eq.trans ?_ (lp_io (fun t v => wp (d + 4) 42 4 [some (v_R (some 1000)), some (v_I (Int32.ofNat s)), some (v_I v), some (v_I (Int32.ofNat t))] [] w Q) (fun v => Q (Sum.inl (some (v_I v))) w) (fun t v => if s.testBit t = true then v + f_tu (sm_T S) (bm_X (sm_B S)) t else v) (tm_n (sm_T S)) 0 (Int32.ofNat 0) (fun t v _ ht => ?_) (fun v => ?_))
  · simp (disch := first | omega | decide | exact ko_b _ | assumption | (simp only [t_si, t_sl, t_sr, t_sI, t_sR, n_si, n_sl, n_sr, n_sI, n_sR, r_si, r_sl, r_sI]; first | done | omega)) only [x_42_e, x_42_b, x_42_0, x_42_1, x_42_2, x_42_3, bk_v, bk_n, nl_I, nl_R, nl_L, nl_0, oo_lt, oo_le, oo_eq, oo_add, oo_sub, oo_tn, oo_ir, nn_leT, nn_leF, nn_ltT, nn_ltF, nn_eqT, nn_eqF, bv_0, bv_1, ko_b, ko_1, ko_0, true_and, and_true, if_true, if_false, not_true_eq_false, not_false_eq_true, oo_02, decide_eq_true_eq, decide_eq_false_iff_not, ite_not, Nat.reduceAdd, Nat.reduceLT, Nat.reduceSub, Nat.reduceLeDiff, reduceIte, Bool.true_eq_false, Bool.false_eq_true, reduceCtorEq, eq_self, decide_true, decide_false, bv_t, bv_f, and_self, t_si, t_sl, t_sr, t_sI, t_sR, n_si, n_sl, n_sr, n_sI, n_sR, r_si, r_sl, r_sI]
  · have ht : t < tm_n (sm_T S) := by omega
    have htb := sb_tb (s := s) (t := t) hs (by omega)
    have ctu := fun Q => c_tu hq (d := d) (Q := Q) ht
    rw [x_42_4]
    cases e : s.testBit t with
    | false =>
      rw [e] at htb
      simp (disch := first | omega | decide | exact ko_b _ | assumption | (simp only [t_si, t_sl, t_sr, t_sI, t_sR, n_si, n_sl, n_sr, n_sI, n_sR, r_si, r_sl, r_sI]; first | done | omega)) only [x_42_e, x_42_b, x_42_5, x_42_6, x_42_9, x_42_12, x_42_13, x_42_14, x_42_15, x_42_16, x_42_17, x_42_18, x_42_21, x_42_22, x_42_23, x_42_26, x_42_27, x_42_30, x_42_31, x_42_34, x_42_35, x_42_36, x_42_39, bk_v, bk_n, nl_I, nl_R, nl_L, nl_0, oo_lt, oo_le, oo_eq, oo_add, oo_sub, oo_tn, oo_ir, nn_leT, nn_leF, nn_ltT, nn_ltF, nn_eqT, nn_eqF, bv_0, bv_1, ko_b, ko_1, ko_0, true_and, and_true, if_true, if_false, not_true_eq_false, not_false_eq_true, oo_02, decide_eq_true_eq, decide_eq_false_iff_not, ite_not, Nat.reduceAdd, Nat.reduceLT, Nat.reduceSub, Nat.reduceLeDiff, reduceIte, Bool.true_eq_false, Bool.false_eq_true, reduceCtorEq, eq_self, decide_true, decide_false, bv_t, bv_f, and_self, t_si, t_sl, t_sr, t_sI, t_sR, n_si, n_sl, n_sr, n_sI, n_sR, r_si, r_sl, r_sI, ctb, htb]
    | true =>
      rw [e] at htb
      simp (disch := first | omega | decide | exact ko_b _ | assumption | (simp only [t_si, t_sl, t_sr, t_sI, t_sR, n_si, n_sl, n_sr, n_sI, n_sR, r_si, r_sl, r_sI]; first | done | omega)) only [x_42_e, x_42_b, x_42_5, x_42_6, x_42_9, x_42_12, x_42_13, x_42_14, x_42_15, x_42_16, x_42_17, x_42_18, x_42_21, x_42_22, x_42_23, x_42_26, x_42_27, x_42_30, x_42_31, x_42_34, x_42_35, x_42_36, x_42_39, bk_v, bk_n, nl_I, nl_R, nl_L, nl_0, oo_lt, oo_le, oo_eq, oo_add, oo_sub, oo_tn, oo_ir, nn_leT, nn_leF, nn_ltT, nn_ltF, nn_eqT, nn_eqF, bv_0, bv_1, ko_b, ko_1, ko_0, true_and, and_true, if_true, if_false, not_true_eq_false, not_false_eq_true, oo_02, decide_eq_true_eq, decide_eq_false_iff_not, ite_not, Nat.reduceAdd, Nat.reduceLT, Nat.reduceSub, Nat.reduceLeDiff, reduceIte, Bool.true_eq_false, Bool.false_eq_true, reduceCtorEq, eq_self, decide_true, decide_false, bv_t, bv_f, and_self, t_si, t_sl, t_sr, t_sI, t_sR, n_si, n_sl, n_sr, n_sI, n_sR, r_si, r_sl, r_sI, ctb, htb, hC, hr0, hT, hA, hS, hK, hB, hR, ctu]
  · rw [x_42_4]
    simp (disch := first | omega | decide | exact ko_b _ | assumption | (simp only [t_si, t_sl, t_sr, t_sI, t_sR, n_si, n_sl, n_sr, n_sI, n_sR, r_si, r_sl, r_sI]; first | done | omega)) only [x_42_e, x_42_b, x_42_5, x_42_6, x_42_9, x_42_12, x_42_13, x_42_14, x_42_15, x_42_16, x_42_17, x_42_18, x_42_21, x_42_22, x_42_23, x_42_26, x_42_27, x_42_30, x_42_31, x_42_34, x_42_35, x_42_36, x_42_39, x_42_42, x_42_43, bk_v, bk_n, nl_I, nl_R, nl_L, nl_0, oo_lt, oo_le, oo_eq, oo_add, oo_sub, oo_tn, oo_ir, nn_leT, nn_leF, nn_ltT, nn_ltF, nn_eqT, nn_eqF, bv_0, bv_1, ko_b, ko_1, ko_0, true_and, and_true, if_true, if_false, not_true_eq_false, not_false_eq_true, oo_02, decide_eq_true_eq, decide_eq_false_iff_not, ite_not, Nat.reduceAdd, Nat.reduceLT, Nat.reduceSub, Nat.reduceLeDiff, reduceIte, Bool.true_eq_false, Bool.false_eq_true, reduceCtorEq, eq_self, decide_true, decide_false, bv_t, bv_f, and_self, t_si, t_sl, t_sr, t_sI, t_sR, n_si, n_sl, n_sr, n_sI, n_sR, r_si, r_sl, r_sI, ctb]
theorem c_hl (h : RC_ w G σ S) (hV : WS_ S) {d t below all : Nat} {Q : Q_} (ht : t < tm_n (sm_T S)) (hb : below < 1024) (ha : all < 1024) : cl (d + 6) 40 [v_R (some 1000), v_I (Int32.ofNat t), v_I (Int32.ofNat below), v_I (Int32.ofNat all)] w Q = Q (Sum.inl (some (v_I (b_v (f_hl (sm_T S) (bm_X (sm_B S)) all below t))))) w := by
  have hn10 := hV.1.1
  have hw := or_lt hb (by omega : t < 10)
  have hx : all ^^^ (all &&& (below ||| 2 ^ t)) < 1024 := Nat.xor_lt_two_pow (n := 10) ha (Nat.lt_of_le_of_lt Nat.and_le_left ha)
  have ss := sb_s (t := t) (by omega)
  have so := sb_o below (2 ^ t)
  have sn := sb_n all (below ||| 2 ^ t)
  have cw := fun Q => c_ws h hV (d := d + 2) (Q := Q) hx
  have cls := fun Q => c_ls h hV (d := d + 1) (Q := Q) hw
  have h3 := hV.1.2 t ht
  have ctab := fun d Q => c_tab h.2.2.2.1 hV.1 (d := d) (Q := Q) ht
  have hq := RC_CQ h hV
  have hC := h.1
  unfold sh_C at hC
  have hr0 : w_r _ 1000 0 = some (gm_b G) := h.2.2.1
  have hT := h.2.2.2.1
  unfold CT_ at hT
  have hA : SO_ _ 1008 := h.2.1.2.1.1
  unfold SO_ at hA
  have hA2 : SO_ _ 1429 := h.2.1.2.2.2.2
  unfold SO_ at hA2
  have hS : CS_ _ 1008 (tm_n (sm_T S)) (bm_X (sm_B S)) := h.2.2.2.2.2.2.2.1.1
  unfold CS_ at hS
  have hK : sh_B _ 1007 := h.2.1.1
  unfold sh_B at hK
  have hB := h.2.2.2.2.2.2.2.1.2
  have hR := h.2.2.2.2.2.2.2.2.2
  simp only [Nat.reduceAdd] at hA hA2 hS hK hB
  obtain ⟨hn, hk4⟩ := hV.1
  obtain ⟨hW1, hW2, hW3⟩ := hV.2.2.2.1.1
  have h4 : w_t w (gm_pn G t) = 32 + tm_kd (sm_T S) t := by simp (disch := omega) only [hT]
  have hcar : ∀ b : Bool, ∀ Q, cl (d + 5) 108 [v_R (some (gm_pn G t)), v_I (xm_y (bm_X (sm_B S))), v_I (b_v b)] w Q = Q (Sum.inl (some (v_I (f_car (sm_T S) (xm_y (bm_X (sm_B S))) t b)))) w := fun b Q => by
    have e := p_carB (d := d + 2) (y := xm_y (bm_X (sm_B S))) (b := b) (Q := Q) h4 h3
    rw [e]
    unfold f_car
    simp (disch := omega) only [hT]
  unfold f_hl
  generalize below ||| 2 ^ t = wi at *
  have hca : f_ws (sm_T S) (bm_X (sm_B S)) (all ^^^ (all &&& wi)) = f_ws (sm_T S) (bm_X (sm_B S)) (all ^^^ (all &&& wi)) := rfl
  generalize all ^^^ (all &&& wi) = ot at *
  generalize f_ws (sm_T S) (bm_X (sm_B S)) ot = W at *
  generalize f_ls (sm_T S) (bm_X (sm_B S)) wi = Z at *
  have fin : ∀ b : Bool, decide (wi = all) = b → cl (d + 6) 40 [v_R (some 1000), v_I (Int32.ofNat t), v_I (Int32.ofNat below), v_I (Int32.ofNat all)] w Q = Q (Sum.inl (some (v_I (b_v (decide (W + xm_m (bm_X (sm_B S)) t ≤ f_car (sm_T S) (xm_y (bm_X (sm_B S))) t b ∧ i_ab Z ≤ tm_li (sm_T S))))))) w := fun b eb => by
    have hc := hcar b
    have pre : cl (d + 6) 40 [v_R (some 1000), v_I (Int32.ofNat t), v_I (Int32.ofNat below), v_I (Int32.ofNat all)] w Q = wp (d + 6) 40 70 [some (v_R (some 1000)), some (v_I (Int32.ofNat t)), some (v_I (Int32.ofNat below)), some (v_I (Int32.ofNat all)), some (v_I (Int32.ofNat wi)), some (v_R (some (gm_pn G t))), some (v_I (W + xm_m (bm_X (sm_B S)) t))] [v_I (f_car (sm_T S) (xm_y (bm_X (sm_B S))) t b), v_I (W + xm_m (bm_X (sm_B S)) t)] w Q := by
      cases b with
      | true =>
        have eb : (wi = all) = True := eq_true (of_decide_eq_true eb)
        have hc : ∀ Q, cl (d + 5) 108 [v_R (some (gm_pn G t)), v_I (xm_y (bm_X (sm_B S))), v_I (Int32.ofNat 1)] w Q = _ := hc
        simp (disch := first | omega | decide | exact ko_b _ | assumption | (simp only [t_si, t_sl, t_sr, t_sI, t_sR, n_si, n_sl, n_sr, n_sI, n_sR, r_si, r_sl, r_sI]; first | done | omega)) only [x_40_e, x_40_b, x_40_0, x_40_1, x_40_2, x_40_3, x_40_4, x_40_5, x_40_7, x_40_8, x_40_11, x_40_14, x_40_15, x_40_18, x_40_21, x_40_23, x_40_24, x_40_25, x_40_27, x_40_28, x_40_29, x_40_30, x_40_33, x_40_34, x_40_37, x_40_40, x_40_41, x_40_42, x_40_43, x_40_45, x_40_47, x_40_49, x_40_50, x_40_53, x_40_56, x_40_58, x_40_59, x_40_62, x_40_63, x_40_66, x_40_67, bk_v, bk_n, nl_I, nl_R, nl_L, nl_0, oo_lt, oo_le, oo_eq, oo_add, oo_sub, oo_tn, oo_ir, nn_leT, nn_leF, nn_ltT, nn_ltF, nn_eqT, nn_eqF, bv_0, bv_1, ko_b, ko_1, ko_0, true_and, and_true, if_true, if_false, not_true_eq_false, not_false_eq_true, oo_02, decide_eq_true_eq, decide_eq_false_iff_not, ite_not, Nat.reduceAdd, Nat.reduceLT, Nat.reduceSub, Nat.reduceLeDiff, reduceIte, Bool.true_eq_false, Bool.false_eq_true, reduceCtorEq, eq_self, decide_true, decide_false, bv_t, bv_f, and_self, t_si, t_sl, t_sr, t_sI, t_sR, n_si, n_sl, n_sr, n_sI, n_sR, r_si, r_sl, r_sI, hC, hr0, hT, hA, hS, hK, hB, hR, ss, so, sn, ctab, cw, hc, eb]
      | false =>
        have eb : (wi = all) = False := eq_false (of_decide_eq_false eb)
        have hc : ∀ Q, cl (d + 5) 108 [v_R (some (gm_pn G t)), v_I (xm_y (bm_X (sm_B S))), v_I (Int32.ofNat 0)] w Q = _ := hc
        simp (disch := first | omega | decide | exact ko_b _ | assumption | (simp only [t_si, t_sl, t_sr, t_sI, t_sR, n_si, n_sl, n_sr, n_sI, n_sR, r_si, r_sl, r_sI]; first | done | omega)) only [x_40_e, x_40_b, x_40_0, x_40_1, x_40_2, x_40_3, x_40_4, x_40_5, x_40_7, x_40_8, x_40_11, x_40_14, x_40_15, x_40_18, x_40_21, x_40_23, x_40_24, x_40_25, x_40_27, x_40_28, x_40_29, x_40_30, x_40_33, x_40_34, x_40_37, x_40_40, x_40_41, x_40_42, x_40_43, x_40_45, x_40_47, x_40_49, x_40_50, x_40_53, x_40_56, x_40_58, x_40_59, x_40_62, x_40_63, x_40_66, x_40_67, bk_v, bk_n, nl_I, nl_R, nl_L, nl_0, oo_lt, oo_le, oo_eq, oo_add, oo_sub, oo_tn, oo_ir, nn_leT, nn_leF, nn_ltT, nn_ltF, nn_eqT, nn_eqF, bv_0, bv_1, ko_b, ko_1, ko_0, true_and, and_true, if_true, if_false, not_true_eq_false, not_false_eq_true, oo_02, decide_eq_true_eq, decide_eq_false_iff_not, ite_not, Nat.reduceAdd, Nat.reduceLT, Nat.reduceSub, Nat.reduceLeDiff, reduceIte, Bool.true_eq_false, Bool.false_eq_true, reduceCtorEq, eq_self, decide_true, decide_false, bv_t, bv_f, and_self, t_si, t_sl, t_sr, t_sI, t_sR, n_si, n_sl, n_sr, n_sI, n_sR, r_si, r_sl, r_sI, hC, hr0, hT, hA, hS, hK, hB, hR, ss, so, sn, ctab, cw, hc, eb]
    rw [pre]
    by_cases c1 : W + xm_m (bm_X (sm_B S)) t ≤ f_car (sm_T S) (xm_y (bm_X (sm_B S))) t b
    · have d1 := Int32.not_lt.mpr c1
      by_cases c2 : i_ab Z ≤ tm_li (sm_T S)
      · have d2 := Int32.not_lt.mpr c2
        rw [decide_eq_true ⟨c1, c2⟩]
        simp (disch := first | omega | decide | exact ko_b _ | assumption | (simp only [t_si, t_sl, t_sr, t_sI, t_sR, n_si, n_sl, n_sr, n_sI, n_sR, r_si, r_sl, r_sI]; first | done | omega)) only [x_40_e, x_40_b, x_40_70, x_40_73, x_40_74, x_40_76, x_40_79, x_40_82, x_40_83, x_40_86, x_40_89, x_40_92, x_40_93, x_40_96, x_40_97, bk_v, bk_n, nl_I, nl_R, nl_L, nl_0, oo_lt, oo_le, oo_eq, oo_add, oo_sub, oo_tn, oo_ir, nn_leT, nn_leF, nn_ltT, nn_ltF, nn_eqT, nn_eqF, bv_0, bv_1, ko_b, ko_1, ko_0, true_and, and_true, if_true, if_false, not_true_eq_false, not_false_eq_true, oo_02, decide_eq_true_eq, decide_eq_false_iff_not, ite_not, Nat.reduceAdd, Nat.reduceLT, Nat.reduceSub, Nat.reduceLeDiff, reduceIte, Bool.true_eq_false, Bool.false_eq_true, reduceCtorEq, eq_self, decide_true, decide_false, bv_t, bv_f, and_self, t_si, t_sl, t_sr, t_sI, t_sR, n_si, n_sl, n_sr, n_sI, n_sR, r_si, r_sl, r_sI, hC, hr0, hT, hA, hS, hK, hB, hR, cls, d1, d2, ab_f]
      · have d2 := Int32.not_le.mp c2
        rw [decide_eq_false (fun z => c2 z.2)]
        simp (disch := first | omega | decide | exact ko_b _ | assumption | (simp only [t_si, t_sl, t_sr, t_sI, t_sR, n_si, n_sl, n_sr, n_sI, n_sR, r_si, r_sl, r_sI]; first | done | omega)) only [x_40_e, x_40_b, x_40_70, x_40_73, x_40_74, x_40_76, x_40_79, x_40_82, x_40_83, x_40_86, x_40_89, x_40_92, x_40_93, x_40_96, x_40_97, bk_v, bk_n, nl_I, nl_R, nl_L, nl_0, oo_lt, oo_le, oo_eq, oo_add, oo_sub, oo_tn, oo_ir, nn_leT, nn_leF, nn_ltT, nn_ltF, nn_eqT, nn_eqF, bv_0, bv_1, ko_b, ko_1, ko_0, true_and, and_true, if_true, if_false, not_true_eq_false, not_false_eq_true, oo_02, decide_eq_true_eq, decide_eq_false_iff_not, ite_not, Nat.reduceAdd, Nat.reduceLT, Nat.reduceSub, Nat.reduceLeDiff, reduceIte, Bool.true_eq_false, Bool.false_eq_true, reduceCtorEq, eq_self, decide_true, decide_false, bv_t, bv_f, and_self, t_si, t_sl, t_sr, t_sI, t_sR, n_si, n_sl, n_sr, n_sI, n_sR, r_si, r_sl, r_sI, hC, hr0, hT, hA, hS, hK, hB, hR, cls, d1, d2, ab_f]
    · have d1 := Int32.not_le.mp c1
      rw [decide_eq_false (fun z => c1 z.1)]
      simp (disch := first | omega | decide | exact ko_b _ | assumption | (simp only [t_si, t_sl, t_sr, t_sI, t_sR, n_si, n_sl, n_sr, n_sI, n_sR, r_si, r_sl, r_sI]; first | done | omega)) only [x_40_e, x_40_b, x_40_70, x_40_73, x_40_74, x_40_76, x_40_79, x_40_82, x_40_83, x_40_86, x_40_89, x_40_92, x_40_93, x_40_96, x_40_97, bk_v, bk_n, nl_I, nl_R, nl_L, nl_0, oo_lt, oo_le, oo_eq, oo_add, oo_sub, oo_tn, oo_ir, nn_leT, nn_leF, nn_ltT, nn_ltF, nn_eqT, nn_eqF, bv_0, bv_1, ko_b, ko_1, ko_0, true_and, and_true, if_true, if_false, not_true_eq_false, not_false_eq_true, oo_02, decide_eq_true_eq, decide_eq_false_iff_not, ite_not, Nat.reduceAdd, Nat.reduceLT, Nat.reduceSub, Nat.reduceLeDiff, reduceIte, Bool.true_eq_false, Bool.false_eq_true, reduceCtorEq, eq_self, decide_true, decide_false, bv_t, bv_f, and_self, t_si, t_sl, t_sr, t_sI, t_sR, n_si, n_sl, n_sr, n_sI, n_sR, r_si, r_sl, r_sI, hC, hr0, hT, hA, hS, hK, hB, hR, d1, ab_f]
  exact fin _ rfl
/-! ways -/
def UW_ (w : Wd) (E : Nat → Nat → Bool) (n all v : Nat) : Prop := ∀ u, u < v → u &&& all = u → w_l w 1435 u = Int64.ofNat (wk_ E n u (bt_n u) 0)
theorem c_o1 (h : RC_ w G σ S) (hV : WS_ S) {d t v k all some sea : Nat} (ht : t < tm_n (sm_T S)) (ha : all < 1024) (hso : some < 1024) (hsea : sea < 2147483648) (hv : v &&& all = v) (hk : bt_n v = k + 1) (hU : UW_ w (E_ (sm_T S) (bm_X (sm_B S)) some sea all) (tm_n (sm_T S)) all v) (hc : w_l w 1435 v = Int64.ofNat (sm_ (up_ (E_ (sm_T S) (bm_X (sm_B S)) some sea all) (tm_n (sm_T S)) v k) t)) {a6 : Option Vl} : ∃ s : Option Vl × Wd, (Fr_ Pn_ w s.2 ∧ UW_ s.2 (E_ (sm_T S) (bm_X (sm_B S)) some sea all) (tm_n (sm_T S)) all v ∧ w_l s.2 1435 v = Int64.ofNat (sm_ (up_ (E_ (sm_T S) (bm_X (sm_B S)) some sea all) (tm_n (sm_T S)) v k) (t + 1))) ∧ ∀ Q, wp (d + 8) 39 39 [Option.some (v_R (Option.some 1000)), Option.some (v_I (Int32.ofNat all)), Option.some (v_I (Int32.ofNat some)), Option.some (v_I (Int32.ofNat sea)), Option.some (v_I (Int32.ofNat v)), Option.some (v_I (Int32.ofNat t)), a6] [] w Q = wp (d + 8) 39 39 [Option.some (v_R (Option.some 1000)), Option.some (v_I (Int32.ofNat all)), Option.some (v_I (Int32.ofNat some)), Option.some (v_I (Int32.ofNat sea)), Option.some (v_I (Int32.ofNat v)), Option.some (v_I (Int32.ofNat (t + 1))), s.1] [] s.2 Q := by
  have hn10 := hV.1.1
  have hv1024 : v < 1024 := Nat.lt_of_le_of_lt (sub_le hv) ha
  have ctb := fun d Q => c_tables h hV (d := d) (Q := Q)
  have ss := sb_s (t := t) (by omega)
  have ri := rm_i (s := v) (t := t) hv1024 (by omega)
  have hh := h.1
  unfold sh_C at hh
  have t0 : w_t w 1000 = 20 := hh.1
  have r9 : w_r w 1000 9 = Option.some 1435 := by simp only [hh]
  have t35 : w_t w 1435 = 4 := by simp only [hh]
  have n35 : w_n w 1435 = 1024 := by simp only [hh]
  clear hh
  have hk10 : k + 1 ≤ 10 := by rw [← hk]; exact bt_10 hv1024
  -- skipping
  have skip : up_ (E_ (sm_T S) (bm_X (sm_B S)) some sea all) (tm_n (sm_T S)) v k t = 0 → sm_ (up_ (E_ (sm_T S) (bm_X (sm_B S)) some sea all) (tm_n (sm_T S)) v k) (t + 1) = sm_ (up_ (E_ (sm_T S) (bm_X (sm_B S)) some sea all) (tm_n (sm_T S)) v k) t := fun z => by rw [sm_, z, Nat.add_zero]
  cases eb : v.testBit t with
  | false =>
    have e0 : up_ (E_ (sm_T S) (bm_X (sm_B S)) some sea all) (tm_n (sm_T S)) v k t = 0 := by
      unfold up_
      rw [eb, Bool.false_and, if_neg (by decide)]
    have er : rmv_ v t = v := by
      unfold rmv_
      rw [if_neg (by rw [eb]; decide)]
    rw [er] at ri
    refine ⟨(Option.some (v_I (Int32.ofNat v)), w), ⟨fr_rf _ _, hU, by rw [skip e0]; exact hc⟩, fun Q => ?_⟩
    rw [x_39_39]
    simp (disch := first | omega | decide | exact ko_b _ | assumption | (simp only [t_si, t_sl, t_sr, t_sI, t_sR, n_si, n_sl, n_sr, n_sI, n_sR, r_si, r_sl, r_sI]; first | done | omega)) only [x_39_e, x_39_b, x_39_41, x_39_42, x_39_45, x_39_48, x_39_50, x_39_51, x_39_53, x_39_54, x_39_55, x_39_56, x_39_57, x_39_59, x_39_61, x_39_63, x_39_66, x_39_67, x_39_70, x_39_72, x_39_73, x_39_74, x_39_75, x_39_78, x_39_79, x_39_81, x_39_82, x_39_83, x_39_84, x_39_85, x_39_88, x_39_90, x_39_93, x_39_94, x_39_97, x_39_100, x_39_101, x_39_103, x_39_105, x_39_106, x_39_109, x_39_112, x_39_113, x_39_116, x_39_118, x_39_119, x_39_120, x_39_121, x_39_124, x_39_126, x_39_127, x_39_128, x_39_129, x_39_132, bk_v, bk_n, nl_I, nl_R, nl_L, nl_0, oo_lt, oo_le, oo_eq, oo_add, oo_sub, oo_tn, oo_ir, nn_leT, nn_leF, nn_ltT, nn_ltF, nn_eqT, nn_eqF, bv_0, bv_1, ko_b, ko_1, ko_0, true_and, and_true, if_true, if_false, not_true_eq_false, not_false_eq_true, oo_02, decide_eq_true_eq, decide_eq_false_iff_not, ite_not, Nat.reduceAdd, Nat.reduceLT, Nat.reduceSub, Nat.reduceLeDiff, reduceIte, Bool.true_eq_false, Bool.false_eq_true, reduceCtorEq, eq_self, decide_true, decide_false, bv_t, bv_f, and_self, t_si, t_sl, t_sr, t_sI, t_sR, n_si, n_sl, n_sr, n_sI, n_sR, r_si, r_sl, r_sI, ctb, ss, ri]
  | true =>
    have er : rmv_ v t = v ^^^ 2 ^ t := rm_bs eb
    have hlt : rmv_ v t < v := rmv_l1 ⟨v, hv1024⟩ ⟨t, by omega⟩ eb
    have hbt := bt_rm eb (by omega : t < 10)
    have hsub : rmv_ v t &&& all = rmv_ v t := tb_sub (fun i hi => by
      rw [rm_tb, Bool.and_eq_true] at hi
      exact sub_tb hv hi.1)
    have hcell := hU (rmv_ v t) hlt hsub
    rw [show bt_n (rmv_ v t) = k by omega] at hcell
    have hB := wk_b (T := sm_T S) (E := E_ (sm_T S) (bm_X (sm_B S)) some sea all) (B := rmv_ v t) (k := k) (A := 0) hn10 (by omega)
    have hat : all.testBit t = true := sub_tb hv eb
    have eup : up_ (E_ (sm_T S) (bm_X (sm_B S)) some sea all) (tm_n (sm_T S)) v k t = if E_ (sm_T S) (bm_X (sm_B S)) some sea all (rmv_ v t) t = true then wk_ (E_ (sm_T S) (bm_X (sm_B S)) some sea all) (tm_n (sm_T S)) (rmv_ v t) k 0 else 0 := by
      unfold up_
      rw [eb, Bool.true_and, er]
    have hne : (rmv_ v t = v) = False := eq_false (by omega)
    by_cases cz : wk_ (E_ (sm_T S) (bm_X (sm_B S)) some sea all) (tm_n (sm_T S)) (rmv_ v t) k 0 = 0
    · have e0 : up_ (E_ (sm_T S) (bm_X (sm_B S)) some sea all) (tm_n (sm_T S)) v k t = 0 := by rw [eup, cz, ite_self]
      rw [cz] at hcell
      refine ⟨(Option.some (v_I (Int32.ofNat (rmv_ v t))), w), ⟨fr_rf _ _, hU, by rw [skip e0]; exact hc⟩, fun Q => ?_⟩
      rw [x_39_39]
      simp (disch := first | omega | decide | exact ko_b _ | assumption | (simp only [t_si, t_sl, t_sr, t_sI, t_sR, n_si, n_sl, n_sr, n_sI, n_sR, r_si, r_sl, r_sI]; first | done | omega)) only [x_39_e, x_39_b, x_39_41, x_39_42, x_39_45, x_39_48, x_39_50, x_39_51, x_39_53, x_39_54, x_39_55, x_39_56, x_39_57, x_39_59, x_39_61, x_39_63, x_39_66, x_39_67, x_39_70, x_39_72, x_39_73, x_39_74, x_39_75, x_39_78, x_39_79, x_39_81, x_39_82, x_39_83, x_39_84, x_39_85, x_39_88, x_39_90, x_39_93, x_39_94, x_39_97, x_39_100, x_39_101, x_39_103, x_39_105, x_39_106, x_39_109, x_39_112, x_39_113, x_39_116, x_39_118, x_39_119, x_39_120, x_39_121, x_39_124, x_39_126, x_39_127, x_39_128, x_39_129, x_39_132, bk_v, bk_n, nl_I, nl_R, nl_L, nl_0, oo_lt, oo_le, oo_eq, oo_add, oo_sub, oo_tn, oo_ir, nn_leT, nn_leF, nn_ltT, nn_ltF, nn_eqT, nn_eqF, bv_0, bv_1, ko_b, ko_1, ko_0, true_and, and_true, if_true, if_false, not_true_eq_false, not_false_eq_true, oo_02, decide_eq_true_eq, decide_eq_false_iff_not, ite_not, Nat.reduceAdd, Nat.reduceLT, Nat.reduceSub, Nat.reduceLeDiff, reduceIte, Bool.true_eq_false, Bool.false_eq_true, reduceCtorEq, eq_self, decide_true, decide_false, bv_t, bv_f, and_self, t_si, t_sl, t_sr, t_sI, t_sR, n_si, n_sl, n_sr, n_sI, n_sR, r_si, r_sl, r_sI, ctb, ss, ri, hne, r9, n35, hcell, lg_eq]
    · have cz2 : (Int64.ofNat (wk_ (E_ (sm_T S) (bm_X (sm_B S)) some sea all) (tm_n (sm_T S)) (rmv_ v t) k 0) = Int64.ofNat 0) = False := by
        rw [l_eq (by omega) (by omega)]
        exact eq_false cz
      have htb := sb_tb (s := some) (t := t) hso (by omega)
      have jb := fun d Q => j_bits (w := w) (d := d) (Q := Q) (s := rmv_ v t) (by omega)
      have chl := fun Q => c_hl h hV (d := d + 1) (t := t) (below := rmv_ v t) (all := all) (Q := Q) ht (by omega) ha
      have hb10 := bt_10 (s := rmv_ v t) (by omega)
      have pre : ∀ Q, wp (d + 8) 39 39 [Option.some (v_R (Option.some 1000)), Option.some (v_I (Int32.ofNat all)), Option.some (v_I (Int32.ofNat some)), Option.some (v_I (Int32.ofNat sea)), Option.some (v_I (Int32.ofNat v)), Option.some (v_I (Int32.ofNat t)), a6] [] w Q = wp (d + 8) 39 78 [Option.some (v_R (Option.some 1000)), Option.some (v_I (Int32.ofNat all)), Option.some (v_I (Int32.ofNat some)), Option.some (v_I (Int32.ofNat sea)), Option.some (v_I (Int32.ofNat v)), Option.some (v_I (Int32.ofNat t)), Option.some (v_I (Int32.ofNat (rmv_ v t)))] [] w Q := fun Q => by
        rw [x_39_39]
        simp (disch := first | omega | decide | exact ko_b _ | assumption | (simp only [t_si, t_sl, t_sr, t_sI, t_sR, n_si, n_sl, n_sr, n_sI, n_sR, r_si, r_sl, r_sI]; first | done | omega)) only [x_39_e, x_39_b, x_39_41, x_39_42, x_39_45, x_39_48, x_39_50, x_39_51, x_39_53, x_39_54, x_39_55, x_39_56, x_39_57, x_39_59, x_39_61, x_39_63, x_39_66, x_39_67, x_39_70, x_39_72, x_39_73, x_39_74, x_39_75, bk_v, bk_n, nl_I, nl_R, nl_L, nl_0, oo_lt, oo_le, oo_eq, oo_add, oo_sub, oo_tn, oo_ir, nn_leT, nn_leF, nn_ltT, nn_ltF, nn_eqT, nn_eqF, bv_0, bv_1, ko_b, ko_1, ko_0, true_and, and_true, if_true, if_false, not_true_eq_false, not_false_eq_true, oo_02, decide_eq_true_eq, decide_eq_false_iff_not, ite_not, Nat.reduceAdd, Nat.reduceLT, Nat.reduceSub, Nat.reduceLeDiff, reduceIte, Bool.true_eq_false, Bool.false_eq_true, reduceCtorEq, eq_self, decide_true, decide_false, bv_t, bv_f, and_self, t_si, t_sl, t_sr, t_sI, t_sR, n_si, n_sl, n_sr, n_sI, n_sR, r_si, r_sl, r_sI, ctb, ss, ri, hne, r9, n35, hcell, lg_eq, cz2]
      by_cases cs : some.testBit t = true ∧ bt_n (rmv_ v t) < sea
      · have eE : E_ (sm_T S) (bm_X (sm_B S)) some sea all (rmv_ v t) t = false := by
          unfold E_
          rw [cs.1, decide_eq_true cs.2, Bool.and_self, Bool.not_true, Bool.and_false, Bool.false_and]
        have e0 : up_ (E_ (sm_T S) (bm_X (sm_B S)) some sea all) (tm_n (sm_T S)) v k t = 0 := by rw [eup, eE, if_neg (by decide)]
        refine ⟨(Option.some (v_I (Int32.ofNat (rmv_ v t))), w), ⟨fr_rf _ _, hU, by rw [skip e0]; exact hc⟩, fun Q => ?_⟩
        rw [cs.1] at htb
        have cs2 := cs.2
        rw [pre]
        simp (disch := first | omega | decide | exact ko_b _ | assumption | (simp only [t_si, t_sl, t_sr, t_sI, t_sR, n_si, n_sl, n_sr, n_sI, n_sR, r_si, r_sl, r_sI]; first | done | omega)) only [x_39_e, x_39_b, x_39_78, x_39_79, x_39_81, x_39_82, x_39_83, x_39_84, x_39_85, x_39_88, x_39_90, x_39_93, x_39_94, x_39_97, x_39_100, x_39_101, x_39_103, x_39_105, x_39_106, x_39_109, x_39_112, x_39_113, x_39_116, x_39_118, x_39_119, x_39_120, x_39_121, x_39_124, x_39_126, x_39_127, x_39_128, x_39_129, x_39_132, bk_v, bk_n, nl_I, nl_R, nl_L, nl_0, oo_lt, oo_le, oo_eq, oo_add, oo_sub, oo_tn, oo_ir, nn_leT, nn_leF, nn_ltT, nn_ltF, nn_eqT, nn_eqF, bv_0, bv_1, ko_b, ko_1, ko_0, true_and, and_true, if_true, if_false, not_true_eq_false, not_false_eq_true, oo_02, decide_eq_true_eq, decide_eq_false_iff_not, ite_not, Nat.reduceAdd, Nat.reduceLT, Nat.reduceSub, Nat.reduceLeDiff, reduceIte, Bool.true_eq_false, Bool.false_eq_true, reduceCtorEq, eq_self, decide_true, decide_false, bv_t, bv_f, and_self, t_si, t_sl, t_sr, t_sI, t_sR, n_si, n_sl, n_sr, n_sI, n_sR, r_si, r_sl, r_sI, htb, jb]
      · have e3 : (some.testBit t && decide (bt_n (rmv_ v t) < sea)) = false := by
          cases e9 : some.testBit t with
          | false => rfl
          | true => rw [Bool.true_and, decide_eq_false (fun z => cs ⟨e9, z⟩)]
        have eE : E_ (sm_T S) (bm_X (sm_B S)) some sea all (rmv_ v t) t = f_hl (sm_T S) (bm_X (sm_B S)) all (rmv_ v t) t := by
          unfold E_
          rw [hat, e3, Bool.not_false, Bool.and_self, Bool.true_and]
        have pre2 : ∀ Q, wp (d + 8) 39 78 [Option.some (v_R (Option.some 1000)), Option.some (v_I (Int32.ofNat all)), Option.some (v_I (Int32.ofNat some)), Option.some (v_I (Int32.ofNat sea)), Option.some (v_I (Int32.ofNat v)), Option.some (v_I (Int32.ofNat t)), Option.some (v_I (Int32.ofNat (rmv_ v t)))] [] w Q = wp (d + 8) 39 100 [Option.some (v_R (Option.some 1000)), Option.some (v_I (Int32.ofNat all)), Option.some (v_I (Int32.ofNat some)), Option.some (v_I (Int32.ofNat sea)), Option.some (v_I (Int32.ofNat v)), Option.some (v_I (Int32.ofNat t)), Option.some (v_I (Int32.ofNat (rmv_ v t)))] [] w Q := fun Q => by
          cases e9 : some.testBit t with
          | false =>
            rw [e9] at htb
            simp (disch := first | omega | decide | exact ko_b _ | assumption | (simp only [t_si, t_sl, t_sr, t_sI, t_sR, n_si, n_sl, n_sr, n_sI, n_sR, r_si, r_sl, r_sI]; first | done | omega)) only [x_39_e, x_39_b, x_39_78, x_39_79, x_39_81, x_39_82, x_39_83, x_39_84, x_39_85, x_39_88, x_39_90, x_39_93, x_39_94, x_39_97, bk_v, bk_n, nl_I, nl_R, nl_L, nl_0, oo_lt, oo_le, oo_eq, oo_add, oo_sub, oo_tn, oo_ir, nn_leT, nn_leF, nn_ltT, nn_ltF, nn_eqT, nn_eqF, bv_0, bv_1, ko_b, ko_1, ko_0, true_and, and_true, if_true, if_false, not_true_eq_false, not_false_eq_true, oo_02, decide_eq_true_eq, decide_eq_false_iff_not, ite_not, Nat.reduceAdd, Nat.reduceLT, Nat.reduceSub, Nat.reduceLeDiff, reduceIte, Bool.true_eq_false, Bool.false_eq_true, reduceCtorEq, eq_self, decide_true, decide_false, bv_t, bv_f, and_self, t_si, t_sl, t_sr, t_sI, t_sR, n_si, n_sl, n_sr, n_sI, n_sR, r_si, r_sl, r_sI, htb]
          | true =>
            rw [e9] at htb
            have cs2 : ¬ bt_n (rmv_ v t) < sea := fun z => cs ⟨e9, z⟩
            simp (disch := first | omega | decide | exact ko_b _ | assumption | (simp only [t_si, t_sl, t_sr, t_sI, t_sR, n_si, n_sl, n_sr, n_sI, n_sR, r_si, r_sl, r_sI]; first | done | omega)) only [x_39_e, x_39_b, x_39_78, x_39_79, x_39_81, x_39_82, x_39_83, x_39_84, x_39_85, x_39_88, x_39_90, x_39_93, x_39_94, x_39_97, bk_v, bk_n, nl_I, nl_R, nl_L, nl_0, oo_lt, oo_le, oo_eq, oo_add, oo_sub, oo_tn, oo_ir, nn_leT, nn_leF, nn_ltT, nn_ltF, nn_eqT, nn_eqF, bv_0, bv_1, ko_b, ko_1, ko_0, true_and, and_true, if_true, if_false, not_true_eq_false, not_false_eq_true, oo_02, decide_eq_true_eq, decide_eq_false_iff_not, ite_not, Nat.reduceAdd, Nat.reduceLT, Nat.reduceSub, Nat.reduceLeDiff, reduceIte, Bool.true_eq_false, Bool.false_eq_true, reduceCtorEq, eq_self, decide_true, decide_false, bv_t, bv_f, and_self, t_si, t_sl, t_sr, t_sI, t_sR, n_si, n_sl, n_sr, n_sI, n_sR, r_si, r_sl, r_sI, htb, jb]
        cases eh : f_hl (sm_T S) (bm_X (sm_B S)) all (rmv_ v t) t with
        | false =>
          rw [eh] at chl eE
          have e0 : up_ (E_ (sm_T S) (bm_X (sm_B S)) some sea all) (tm_n (sm_T S)) v k t = 0 := by rw [eup, eE, if_neg (by decide)]
          refine ⟨(Option.some (v_I (Int32.ofNat (rmv_ v t))), w), ⟨fr_rf _ _, hU, by rw [skip e0]; exact hc⟩, fun Q => ?_⟩
          rw [pre, pre2]
          simp (disch := first | omega | decide | exact ko_b _ | assumption | (simp only [t_si, t_sl, t_sr, t_sI, t_sR, n_si, n_sl, n_sr, n_sI, n_sR, r_si, r_sl, r_sI]; first | done | omega)) only [x_39_e, x_39_b, x_39_100, x_39_101, x_39_103, x_39_105, x_39_106, x_39_109, x_39_112, x_39_113, x_39_116, x_39_118, x_39_119, x_39_120, x_39_121, x_39_124, x_39_126, x_39_127, x_39_128, x_39_129, x_39_132, bk_v, bk_n, nl_I, nl_R, nl_L, nl_0, oo_lt, oo_le, oo_eq, oo_add, oo_sub, oo_tn, oo_ir, nn_leT, nn_leF, nn_ltT, nn_ltF, nn_eqT, nn_eqF, bv_0, bv_1, ko_b, ko_1, ko_0, true_and, and_true, if_true, if_false, not_true_eq_false, not_false_eq_true, oo_02, decide_eq_true_eq, decide_eq_false_iff_not, ite_not, Nat.reduceAdd, Nat.reduceLT, Nat.reduceSub, Nat.reduceLeDiff, reduceIte, Bool.true_eq_false, Bool.false_eq_true, reduceCtorEq, eq_self, decide_true, decide_false, bv_t, bv_f, and_self, t_si, t_sl, t_sr, t_sI, t_sR, n_si, n_sl, n_sr, n_sI, n_sR, r_si, r_sl, r_sI, chl]
        | true =>
          rw [eh] at chl eE
          have e0 : up_ (E_ (sm_T S) (bm_X (sm_B S)) some sea all) (tm_n (sm_T S)) v k t = wk_ (E_ (sm_T S) (bm_X (sm_B S)) some sea all) (tm_n (sm_T S)) (rmv_ v t) k 0 := by rw [eup, eE, if_pos rfl]
          refine ⟨(Option.some (v_I (Int32.ofNat (rmv_ v t))), s_l w 1435 v (Int64.ofNat (sm_ (up_ (E_ (sm_T S) (bm_X (sm_B S)) some sea all) (tm_n (sm_T S)) v k) (t + 1)))), ⟨fr_sl (fr_rf _ _) (by omega), fun u hu hus => ?_, by rw [l_sl, if_pos ⟨rfl, rfl⟩]⟩, fun Q => ?_⟩
          · rw [l_sl, if_neg (by omega)]; exact hU u hu hus
          · rw [pre, pre2, sm_, e0]
            simp (disch := first | omega | decide | exact ko_b _ | assumption | (simp only [t_si, t_sl, t_sr, t_sI, t_sR, n_si, n_sl, n_sr, n_sI, n_sR, r_si, r_sl, r_sI]; first | done | omega)) only [x_39_e, x_39_b, x_39_100, x_39_101, x_39_103, x_39_105, x_39_106, x_39_109, x_39_112, x_39_113, x_39_116, x_39_118, x_39_119, x_39_120, x_39_121, x_39_124, x_39_126, x_39_127, x_39_128, x_39_129, x_39_132, bk_v, bk_n, nl_I, nl_R, nl_L, nl_0, oo_lt, oo_le, oo_eq, oo_add, oo_sub, oo_tn, oo_ir, nn_leT, nn_leF, nn_ltT, nn_ltF, nn_eqT, nn_eqF, bv_0, bv_1, ko_b, ko_1, ko_0, true_and, and_true, if_true, if_false, not_true_eq_false, not_false_eq_true, oo_02, decide_eq_true_eq, decide_eq_false_iff_not, ite_not, Nat.reduceAdd, Nat.reduceLT, Nat.reduceSub, Nat.reduceLeDiff, reduceIte, Bool.true_eq_false, Bool.false_eq_true, reduceCtorEq, eq_self, decide_true, decide_false, bv_t, bv_f, and_self, t_si, t_sl, t_sr, t_sI, t_sR, n_si, n_sl, n_sr, n_sI, n_sR, r_si, r_sl, r_sI, chl, r9, n35, hc, hcell, l_add]
end
