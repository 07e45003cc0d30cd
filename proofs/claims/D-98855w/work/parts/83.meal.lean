/-! MEALS, part two: top, fair, supper; both halves -/
set_option maxRecDepth 100000
def q_top (T : Tm) (X : Xm) (f : Int32) : Int32 := if xm_L X = 0 then Int32.ofInt (-1) else xm_m (f_sup T X f).1 (xm_t X (xm_L X - 1))
def f_fair (T : Tm) (X : Xm) : Option Nat := ff_ (fun k => decide (Int32.ofNat (f_full T (f_sup T X (Int32.ofNat k)).1) = Int32.ofNat (f_all (f_sup T X (Int32.ofNat k)).1))) 0 1000
def x_crm (X : Xm) (c : Int32) : Xm := (xm_L X, xm_t X, xm_m X, xm_w X, xm_l X, xm_y X, c)
def s_sup (S : Sm) : Sm := s_set S (b_set (b_keep (sm_B S)) (x_crm (f_sup (sm_T S) (bm_X (sm_B S)) (tm_fo (sm_T S))).1 (f_sup (sm_T S) (bm_X (sm_B S)) (tm_fo (sm_T S))).2))
section
variable {w : Wd} {S : Sm} {G : Gm} {σ : Nat → Nat}
/-! the component -/
def Pt_ (G : Gm) (a k : Nat) : Prop := a = gm_of G ∨ tz_ a k
theorem Pt_pc {a k : Nat} (h : Pt_ G a k) : pc_ (gm_of G) a k := h.elim Or.inl tz_pc
theorem RC_Pt {w1 : Wd} (h : RC_ w G σ S) (hV : WS_ S) (hf : Fr_ (Pt_ G) w w1) : RC_ w1 G σ S := RC_fr h hV (fr_mo hf (fun a k z => Pt_pc z))
theorem gof_lo (h : RC_ w G σ S) : 1001 ≤ gm_of G := by
  have := h.2.2.2.2.2.1.2.2.2.2.1.1
  unfold gz_ at this
  omega
/-- a supper tried -/
theorem c_trs (h : RC_ w G σ S) (hV : WS_ S) (hK : KC_ w) (hWE : WE_ (sm_T S)) {d : Nat} {food : Int32} (h0 : Int32.ofNat 0 ≤ food) : ∃ w1 w2, Fr_ tz_ w w1 ∧ RC_ w1 G σ S ∧ Fr_ (Pt_ G) w w2 ∧ CS_ w2 1429 (tm_n (sm_T S)) (f_sup (sm_T S) (bm_X (sm_B S)) food).1 ∧ sp_ok (bm_X (sm_B S)) (f_sup (sm_T S) (bm_X (sm_B S)) food) ∧ (∀ Q, cl (d + 613) 136 [v_R (some 1429), v_R (some 1008)] w Q = Q (Sum.inl none) w1) ∧ ∀ Q, cl (d + 613) 137 [v_R (some 1429), v_R (some (gm_b G)), v_I food] w1 Q = Q (Sum.inl (some (v_I (f_sup (sm_T S) (bm_X (sm_B S)) food).2))) w2 := by
  have hlo := gof_lo h
  obtain ⟨w1, f1, r1, s1, q1⟩ := c_tr h hV (d := d + 613)
  obtain ⟨w2, f2, s2, o2, q2⟩ := c_sups (d := d) (a := 1429) r1.2.2.2.1 r1.2.2.2.2.1 r1.2.2.2.2.2.1 (KC_fr hK f1 (fun a k z => by unfold tz_ at z; omega)) hV.1 hWE r1.2.1.2.2.2.2 s1 hV.2.2.2.1.1 (by omega) h0
  exact ⟨w1, w2, f1, r1, fr_tr (fr_mo f1 (fun a k z => Or.inr z)) (fr_mo f2 (fun a k z => z.elim Or.inl (fun y => Or.inr (by unfold tz_; omega)))), s2, o2, q1, q2⟩
theorem c_top (h : RC_ w G σ S) (hV : WS_ S) (hK : KC_ w) (hWE : WE_ (sm_T S)) {d : Nat} {x : Int32} (hx : Int32.ofNat 0 ≤ x ∧ x ≤ Int32.ofNat 999) : CR_ G (d + 614) 90 [v_R (some 1000), v_I x] w (v_I (q_top (sm_T S) (bm_X (sm_B S)) x)) := by
  have hX9 := hV.2.2.2.1.1
  have hn10 := hV.1.1
  have hL9 := hX9.1
  unfold q_top
  by_cases hz : xm_L (bm_X (sm_B S)) = 0
  · rw [if_pos hz]
    refine cr_0 fun Q => ?_
    have hq := RC_CQ h hV
    have hC := h.1
    unfold sh_C at hC
    have hr0 : w_r _ 1000 0 = some (gm_b G) := h.2.2.1
    have hT := h.2.2.2.1
    unfold CT_ at hT
    have hA : SO_ _ 1008 := h.2.1.2.1.1
    unfold SO_ at hA
    have hA2 : SO_ _ 1429 := h.2.1.2.2.2.2
    unfold SO_ at hA2
    have hS : CS_ _ 1008 (tm_n (sm_T S)) (bm_X (sm_B S)) := h.2.2.2.2.2.2.2.1.1
    unfold CS_ at hS
    have hK : sh_B _ 1007 := h.2.1.1
    unfold sh_B at hK
    have hB := h.2.2.2.2.2.2.2.1.2
    have hR := h.2.2.2.2.2.2.2.2.2
    simp only [Nat.reduceAdd] at hA hA2 hS hK hB
    obtain ⟨hn, hk4⟩ := hV.1
    obtain ⟨hW1, hW2, hW3⟩ := hV.2.2.2.1.1
    simp (disch := first | omega | decide | exact ko_b _ | assumption | (simp only [t_si, t_sl, t_sr, t_sI, t_sR, n_si, n_sl, n_sr, n_sI, n_sR, r_si, r_sl, r_sI]; first | done | omega)) only [x_90_e, x_90_b, x_90_0, x_90_1, x_90_2, x_90_5, x_90_8, x_90_11, x_90_12, x_90_15, x_90_18, x_90_21, x_90_22, bk_v, bk_n, nl_I, nl_R, nl_L, nl_0, oo_lt, oo_le, oo_eq, oo_add, oo_sub, oo_tn, oo_ir, nn_leT, nn_leF, nn_ltT, nn_ltF, nn_eqT, nn_eqF, bv_0, bv_1, ko_b, ko_1, ko_0, true_and, and_true, if_true, if_false, not_true_eq_false, not_false_eq_true, oo_02, decide_eq_true_eq, decide_eq_false_iff_not, ite_not, Nat.reduceAdd, Nat.reduceLT, Nat.reduceSub, Nat.reduceLeDiff, reduceIte, Bool.true_eq_false, Bool.false_eq_true, reduceCtorEq, eq_self, decide_true, decide_false, bv_t, bv_f, and_self, t_si, t_sl, t_sr, t_sI, t_sR, n_si, n_sl, n_sr, n_sI, n_sR, r_si, r_sl, r_sI, hC, hr0, hT, hA, hS, hK, hB, hR, c_in, hx, c_ri1, hz]
  · rw [if_neg hz]
    obtain ⟨w1, w2, f1, r1, f2, s2, o2, q1, q2⟩ := c_trs h hV hK hWE (d := d) hx.1
    refine ⟨w2, fr_mo f2 (fun a k z => Pt_pc z), fun Q => ?_⟩
    have r2 := RC_Pt h hV f2
    have ht := hX9.2.1 (xm_L (bm_X (sm_B S)) - 1) (by omega)
    obtain ⟨m1, m2, m3, m4, m5, m6, m7⟩ := s2
    have m1 : w_i w2 1429 4 = Int32.ofNat (xm_L (bm_X (sm_B S))) := m1.trans (by rw [o2.1])
    have m4 : w_i w2 1430 (xm_L (bm_X (sm_B S)) - 1) = Int32.ofNat (xm_t (bm_X (sm_B S)) (xm_L (bm_X (sm_B S)) - 1)) := (m4 (xm_L (bm_X (sm_B S)) - 1) (by rw [o2.1]; omega)).trans (by rw [o2.2.1])
    have m5 : w_i w2 1431 (xm_t (bm_X (sm_B S)) (xm_L (bm_X (sm_B S)) - 1)) = _ := m5 _ ht
    have b1 : w_t w1 1000 = 20 := r1.1.1
    have b2 : w_r w1 1000 4 = some 1429 := r1.1.2.2.2.2.1
    have b3 : w_r w1 1000 0 = some (gm_b G) := r1.2.2.1
    have b4 : w_t w1 1429 = 24 := r1.2.1.2.2.2.2.1
    have hA2 : SO_ w2 1429 := r2.2.1.2.2.2.2
    unfold SO_ at hA2
    simp only [Nat.reduceAdd] at hA2
    have e1 : w_t w2 1000 = 20 := r2.1.1
    have e2 : w_r w2 1000 4 = some 1429 := r2.1.2.2.2.2.1
    have qq : ∀ Q, wp (d + 614) 90 23 [some (v_R (some 1000)), some (v_I x)] [] w Q = Q (Sum.inl (some (v_I (xm_m (f_sup (sm_T S) (bm_X (sm_B S)) x).1 (xm_t (bm_X (sm_B S)) (xm_L (bm_X (sm_B S)) - 1)))))) w2 := fun Q => by
      have hC := h.1
      unfold sh_C at hC
      have hAA := h.2.1.2.2.2.2.1
      simp (disch := first | omega | decide | exact ko_b _ | assumption | (simp only [t_si, t_sl, t_sr, t_sI, t_sR, n_si, n_sl, n_sr, n_sI, n_sR, r_si, r_sl, r_sI]; first | done | omega)) only [x_90_e, x_90_b, x_90_23, x_90_24, x_90_27, x_90_28, x_90_31, x_90_34, x_90_35, x_90_38, x_90_39, x_90_42, x_90_43, x_90_46, x_90_47, x_90_48, x_90_51, x_90_54, x_90_55, x_90_58, x_90_61, x_90_62, x_90_65, x_90_68, x_90_69, x_90_70, x_90_71, x_90_72, bk_v, bk_n, nl_I, nl_R, nl_L, nl_0, oo_lt, oo_le, oo_eq, oo_add, oo_sub, oo_tn, oo_ir, nn_leT, nn_leF, nn_ltT, nn_ltF, nn_eqT, nn_eqF, bv_0, bv_1, ko_b, ko_1, ko_0, true_and, and_true, if_true, if_false, not_true_eq_false, not_false_eq_true, oo_02, decide_eq_true_eq, decide_eq_false_iff_not, ite_not, Nat.reduceAdd, Nat.reduceLT, Nat.reduceSub, Nat.reduceLeDiff, reduceIte, Bool.true_eq_false, Bool.false_eq_true, reduceCtorEq, eq_self, decide_true, decide_false, bv_t, bv_f, and_self, t_si, t_sl, t_sr, t_sI, t_sR, n_si, n_sl, n_sr, n_sI, n_sR, r_si, r_sl, r_sI, hC, q1, b2, b3, q2, e2, hA2, m1, m4, m5]
    have hq := RC_CQ h hV
    have hC := h.1
    unfold sh_C at hC
    have hr0 : w_r _ 1000 0 = some (gm_b G) := h.2.2.1
    have hT := h.2.2.2.1
    unfold CT_ at hT
    have hA : SO_ _ 1008 := h.2.1.2.1.1
    unfold SO_ at hA
    have hA2 : SO_ _ 1429 := h.2.1.2.2.2.2
    unfold SO_ at hA2
    have hS : CS_ _ 1008 (tm_n (sm_T S)) (bm_X (sm_B S)) := h.2.2.2.2.2.2.2.1.1
    unfold CS_ at hS
    have hK : sh_B _ 1007 := h.2.1.1
    unfold sh_B at hK
    have hB := h.2.2.2.2.2.2.2.1.2
    have hR := h.2.2.2.2.2.2.2.2.2
    simp only [Nat.reduceAdd] at hA hA2 hS hK hB
    obtain ⟨hn, hk4⟩ := hV.1
    obtain ⟨hW1, hW2, hW3⟩ := hV.2.2.2.1.1
    simp (disch := first | omega | decide | exact ko_b _ | assumption | (simp only [t_si, t_sl, t_sr, t_sI, t_sR, n_si, n_sl, n_sr, n_sI, n_sR, r_si, r_sl, r_sI]; first | done | omega)) only [x_90_e, x_90_b, x_90_0, x_90_1, x_90_2, x_90_5, x_90_8, x_90_11, x_90_12, x_90_15, x_90_18, x_90_21, x_90_22, bk_v, bk_n, nl_I, nl_R, nl_L, nl_0, oo_lt, oo_le, oo_eq, oo_add, oo_sub, oo_tn, oo_ir, nn_leT, nn_leF, nn_ltT, nn_ltF, nn_eqT, nn_eqF, bv_0, bv_1, ko_b, ko_1, ko_0, true_and, and_true, if_true, if_false, not_true_eq_false, not_false_eq_true, oo_02, decide_eq_true_eq, decide_eq_false_iff_not, ite_not, Nat.reduceAdd, Nat.reduceLT, Nat.reduceSub, Nat.reduceLeDiff, reduceIte, Bool.true_eq_false, Bool.false_eq_true, reduceCtorEq, eq_self, decide_true, decide_false, bv_t, bv_f, and_self, t_si, t_sl, t_sr, t_sI, t_sR, n_si, n_sl, n_sr, n_sI, n_sR, r_si, r_sl, r_sI, hC, hr0, hT, hA, hS, hK, hB, hR, c_in, hx, c_ri1, hz, qq]
theorem c_top_x (h : RC_ w G σ S) (hV : WS_ S) {d : Nat} {x : Int32} (hx : ¬ (Int32.ofNat 0 ≤ x ∧ x ≤ Int32.ofNat 999)) : CX_ G (d + 614) 90 [v_R (some 1000), v_I x] w 39 := cx_0 fun Q => by
  simp (disch := first | omega | decide | exact ko_b _ | assumption | (simp only [t_si, t_sl, t_sr, t_sI, t_sR, n_si, n_sl, n_sr, n_sI, n_sR, r_si, r_sl, r_sI]; first | done | omega)) only [x_90_e, x_90_b, x_90_0, x_90_1, x_90_2, x_90_5, x_90_8, bk_v, bk_n, nl_I, nl_R, nl_L, nl_0, oo_lt, oo_le, oo_eq, oo_add, oo_sub, oo_tn, oo_ir, nn_leT, nn_leF, nn_ltT, nn_ltF, nn_eqT, nn_eqF, bv_0, bv_1, ko_b, ko_1, ko_0, true_and, and_true, if_true, if_false, not_true_eq_false, not_false_eq_true, oo_02, decide_eq_true_eq, decide_eq_false_iff_not, ite_not, Nat.reduceAdd, Nat.reduceLT, Nat.reduceSub, Nat.reduceLeDiff, reduceIte, Bool.true_eq_false, Bool.false_eq_true, reduceCtorEq, eq_self, decide_true, decide_false, bv_t, bv_f, and_self, t_si, t_sl, t_sr, t_sI, t_sR, n_si, n_sl, n_sr, n_sI, n_sR, r_si, r_sl, r_sI, c_in, hx, c_ri0]
theorem c_fair (h : RC_ w G σ S) (hV : WS_ S) (hK : KC_ w) (hWE : WE_ (sm_T S)) {d : Nat} : CR_ G (d + 614) 49 [v_R (some 1000)] w (v_I (o_i (f_fair (sm_T S) (bm_X (sm_B S))))) := by
  have hX9 := hV.2.2.2.1.1
  have hlo := gof_lo h
  obtain ⟨t, hC, q1⟩ := lp_fg (fun k (t : Wd) Q => wp (d + 614) 49 2 [some (v_R (some 1000)), some (v_I (Int32.ofNat k))] [] t Q) (fun o t Q => Q (Sum.inl (some (v_I (o_i o)))) t) (fun t => Fr_ (Pt_ G) w t) (fun k => decide (Int32.ofNat (f_full (sm_T S) (f_sup (sm_T S) (bm_X (sm_B S)) (Int32.ofNat k)).1) = Int32.ofNat (f_all (f_sup (sm_T S) (bm_X (sm_B S)) (Int32.ofNat k)).1))) 1000 0 w (fun k t _ hk hC => by
    have r0 := RC_Pt h hV hC
    obtain ⟨w1, w2, f1, r1, f2, s2, o2, q1, q2⟩ := c_trs r0 hV (KC_fr hK hC (fun a k z => by rcases z with z | z <;> (try unfold tz_ at z) <;> omega)) hWE (d := d) (food := Int32.ofNat k) (by rw [oo_le (by omega) (by omega)]; omega)
    have r2 := RC_Pt r0 hV f2
    have hq2 := tr_q r2 hV s2 (WX_sp hX9 o2)
    refine ⟨w2, fr_tr hC f2, fun Q => ?_⟩
    have b1 : w_t w1 1000 = 20 := r1.1.1
    have b2 : w_r w1 1000 4 = some 1429 := r1.1.2.2.2.2.1
    have b3 : w_r w1 1000 0 = some (gm_b G) := r1.2.2.1
    have b4 : w_t w1 1429 = 24 := r1.2.1.2.2.2.2.1
    have e1 : w_t w2 1000 = 20 := r2.1.1
    have e2 : w_r w2 1000 4 = some 1429 := r2.1.2.2.2.2.1
    have e3 : w_r w2 1000 0 = some (gm_b G) := r2.2.2.1
    have e4 : w_t w2 1429 = 24 := r2.2.1.2.2.2.2.1
    have qf := fun Q => c_full hq2 (d := d + 610) (Q := Q)
    have qa := fun d Q => c_all hq2 (d := d) (Q := Q)
    have hC := r0.1
    unfold sh_C at hC
    have hAA := r0.2.1.2.2.2.2.1
    rw [x_49_2]
    by_cases c : Int32.ofNat (f_full (sm_T S) (f_sup (sm_T S) (bm_X (sm_B S)) (Int32.ofNat k)).1) = Int32.ofNat (f_all (f_sup (sm_T S) (bm_X (sm_B S)) (Int32.ofNat k)).1)
    · rw [if_pos (decide_eq_true c)]
      rw [← c] at qa
      simp (disch := first | omega | decide | exact ko_b _ | assumption | (simp only [t_si, t_sl, t_sr, t_sI, t_sR, n_si, n_sl, n_sr, n_sI, n_sR, r_si, r_sl, r_sI]; first | done | omega)) only [x_49_e, x_49_b, x_49_3, x_49_6, x_49_9, x_49_10, x_49_13, x_49_14, x_49_17, x_49_20, x_49_21, x_49_24, x_49_25, x_49_28, x_49_29, x_49_32, x_49_33, x_49_34, x_49_37, x_49_38, x_49_41, x_49_44, x_49_45, x_49_48, x_49_51, x_49_54, x_49_55, x_49_56, x_49_59, x_49_62, x_49_63, bk_v, bk_n, nl_I, nl_R, oo_lt, oo_le, nn_ltF, nn_leT, Nat.reduceAdd, eq_self, if_false, if_true, not_true_eq_false, ite_not, hC, q1, b2, b3, q2, e2, e3, qf, qa, o_i_s]
    · rw [if_neg (by rw [decide_eq_false c]; decide)]
      simp (disch := first | omega | decide | exact ko_b _ | assumption | (simp only [t_si, t_sl, t_sr, t_sI, t_sR, n_si, n_sl, n_sr, n_sI, n_sR, r_si, r_sl, r_sI]; first | done | omega)) only [x_49_e, x_49_b, x_49_3, x_49_6, x_49_9, x_49_10, x_49_13, x_49_14, x_49_17, x_49_20, x_49_21, x_49_24, x_49_25, x_49_28, x_49_29, x_49_32, x_49_33, x_49_34, x_49_37, x_49_38, x_49_41, x_49_44, x_49_45, x_49_48, x_49_51, x_49_54, x_49_55, x_49_56, x_49_59, x_49_62, x_49_63, bk_v, bk_n, nl_I, nl_R, oo_lt, oo_le, nn_ltF, nn_leT, Nat.reduceAdd, eq_self, if_false, if_true, not_true_eq_false, not_false_eq_true, ite_not, hC, q1, b2, b3, q2, e2, e3, qf, qa, c, oo_add]) (fun t hC => by
    refine ⟨t, hC, fun Q => ?_⟩
    show wp (d + 614) 49 2 [some (v_R (some 1000)), some (v_I (Int32.ofNat (0 + 1000)))] [] t Q = _
    rw [x_49_2]
    simp (disch := first | omega | decide | exact ko_b _ | assumption | (simp only [t_si, t_sl, t_sr, t_sI, t_sR, n_si, n_sl, n_sr, n_sI, n_sR, r_si, r_sl, r_sI]; first | done | omega)) only [x_49_e, x_49_b, x_49_3, x_49_6, x_49_9, x_49_10, x_49_13, x_49_14, x_49_17, x_49_20, x_49_21, x_49_24, x_49_25, x_49_28, x_49_29, x_49_32, x_49_33, x_49_34, x_49_37, x_49_38, x_49_41, x_49_44, x_49_45, x_49_48, x_49_51, x_49_54, x_49_55, x_49_56, x_49_59, x_49_62, x_49_63, bk_v, bk_n, nl_I, nl_R, nl_L, nl_0, oo_lt, oo_le, oo_eq, oo_add, oo_sub, oo_tn, oo_ir, nn_leT, nn_leF, nn_ltT, nn_ltF, nn_eqT, nn_eqF, bv_0, bv_1, ko_b, ko_1, ko_0, true_and, and_true, if_true, if_false, not_true_eq_false, not_false_eq_true, oo_02, decide_eq_true_eq, decide_eq_false_iff_not, ite_not, Nat.reduceAdd, Nat.reduceLT, Nat.reduceSub, Nat.reduceLeDiff, reduceIte, Bool.true_eq_false, Bool.false_eq_true, reduceCtorEq, eq_self, decide_true, decide_false, bv_t, bv_f, and_self, t_si, t_sl, t_sr, t_sI, t_sR, n_si, n_sl, n_sr, n_sI, n_sR, r_si, r_sl, r_sI, o_i_n]) (fr_rf _ _)
  refine ⟨t, fr_mo hC (fun a k z => Pt_pc z), fun Q => Eq.trans ?_ (q1 Q)⟩
  simp (disch := first | omega | decide | exact ko_b _ | assumption | (simp only [t_si, t_sl, t_sr, t_sI, t_sR, n_si, n_sl, n_sr, n_sI, n_sR, r_si, r_sl, r_sI]; first | done | omega)) only [x_49_e, x_49_b, x_49_0, x_49_1, bk_v, bk_n, nl_I, nl_R, nl_L, nl_0, oo_lt, oo_le, oo_eq, oo_add, oo_sub, oo_tn, oo_ir, nn_leT, nn_leF, nn_ltT, nn_ltF, nn_eqT, nn_eqF, bv_0, bv_1, ko_b, ko_1, ko_0, true_and, and_true, if_true, if_false, not_true_eq_false, not_false_eq_true, oo_02, decide_eq_true_eq, decide_eq_false_iff_not, ite_not, Nat.reduceAdd, Nat.reduceLT, Nat.reduceSub, Nat.reduceLeDiff, reduceIte, Bool.true_eq_false, Bool.false_eq_true, reduceCtorEq, eq_self, decide_true, decide_false, bv_t, bv_f, and_self, t_si, t_sl, t_sr, t_sI, t_sR, n_si, n_sl, n_sr, n_sI, n_sR, r_si, r_sl, r_sI]
theorem c_supper (h : RC_ w G σ S) (hV : WS_ S) (hK : KC_ w) (hWE : WE_ (sm_T S)) {d : Nat} : CF_ (d + 614) 29 [v_R (some 1000)] w (v_I (f_sup (sm_T S) (bm_X (sm_B S)) (tm_fo (sm_T S))).2) G (s_sup S) := by
  have hlo := gof_lo h
  obtain ⟨w1, σ1, f1, r1, q1⟩ := c_keeps h hV (d := d + 608)
  have hV1 := WS_set hV (WB_keep hV.2.2.2.1)
  have hS1 : CS_ w1 1008 (tm_n (sm_T S)) (bm_X (sm_B S)) := r1.2.2.2.2.2.2.2.1.1
  have hK1 : KC_ w1 := fun j hj => ⟨by rw [f1.1]; exact (hK j hj).1, by rw [f1.2.2.2.2.2 _ _ (by omega)]; exact (hK j hj).2⟩
  obtain ⟨w2, f2, s2, o2, q2⟩ := c_sups (d := d) (a := 1008) r1.2.2.2.1 r1.2.2.2.2.1 r1.2.2.2.2.2.1 hK1 hV.1 hWE r1.2.1.2.1.1 hS1 hV.2.2.2.1.1 (by omega) hWE.2.2.1
  have hgz : gz_ (gm_of G) := r1.2.2.2.2.2.1.2.2.2.2.1.1
  have hgl := r1.2.2.2.2.2.1.2.2.2.2.1.2
  -- the view alone
  have fv : Fr_ (pc_ (gm_of G)) w1 (s_I w1 (gm_of G) (w_i w2 (gm_of G))) := fr_sI (fr_rf _ _) (fun k hk => absurd (Or.inl rfl) hk)
  have rv := RC_fr r1 hV1 fv
  have fx : Fr_ (fun x _ => 1008 ≤ x ∧ x ≤ 1012) (s_I w1 (gm_of G) (w_i w2 (gm_of G))) (s_i w2 1008 6 (f_sup (sm_T S) (bm_X (sm_B S)) (tm_fo (sm_T S))).2) := ⟨f2.1, f2.2.1, f2.2.2.1, f2.2.2.2.1, f2.2.2.2.2.1, fun a k z => by
    rw [i_si, if_neg (fun y => z (by omega)), i_sI]
    by_cases c : a = gm_of G
    · rw [if_pos c, c]
    · rw [if_neg c]
      exact f2.2.2.2.2.2 a k (fun y => y.elim c (fun y => z (by omega)))⟩
  have sx : CS_ (s_i w2 1008 6 (f_sup (sm_T S) (bm_X (sm_B S)) (tm_fo (sm_T S))).2) 1008 (tm_n (sm_T S)) (x_crm (f_sup (sm_T S) (bm_X (sm_B S)) (tm_fo (sm_T S))).1 (f_sup (sm_T S) (bm_X (sm_B S)) (tm_fo (sm_T S))).2) := by
    obtain ⟨g1, g2, g3, g4, g5, g6, g7⟩ := s2
    unfold CS_
    simp only [i_si, Nat.reduceEqDiff, Nat.reduceAdd, false_and, and_false, if_false, true_and, if_true, and_self] at *
    exact ⟨g1, g2, rfl, g4, g5, g6, g7⟩
  have rx := RC_X rv hV1 fx sx
  refine ⟨_, σ1, fun a ha => ?_, ?_, ?_, rx, fun Q => ?_⟩
  · have hne : a ≠ gm_of G := fun z => by
      have h76 : gm_of G ≠ 1476 := by
        unfold gz_ at hgz; omega
      unfold gz_ at hgz
      omega
    refine ⟨by rw [fx.1]; show w_t w1 a = _; rw [f1.1], by rw [fx.2.1]; show w_n w1 a = _; rw [f1.2.1], fun k => by rw [fx.2.2.1]; show w_r w1 a k = _; rw [f1.2.2.1 _ _ (by omega)], fun k => ?_⟩
    rw [fx.2.2.2.2.2 _ _ (by omega), i_sI, if_neg hne, f1.2.2.2.2.2 _ _ (by omega)]
  · rw [fx.2.2.2.1]; exact f1.2.2.2.1
  · rw [fx.2.2.2.2.1]; exact f1.2.2.2.2.1
  · have hC1 := r1.1
    unfold sh_C at hC1
    have hr1 : w_r w1 1000 0 = some (gm_b G) := r1.2.2.1
    have t8 : w_t w1 1008 = 24 := r1.2.1.2.1.1.1
    have tb : w_t w1 (gm_b G) = 21 := r1.2.2.2.1.1
    have ib : w_i w1 (gm_b G) 1 = tm_fo (sm_T S) := r1.2.2.2.1.2.2.2.2.2.1
    have t2 : w_t w2 1008 = 24 := by rw [f2.1]; exact t8
    have t3 : w_t w2 1000 = 20 := by rw [f2.1]; exact hC1.1
    have r3 : w_r w2 1000 3 = some 1008 := by rw [f2.2.2.1]; exact hC1.2.2.2.1
    have hq := RC_CQ h hV
    have hC := h.1
    unfold sh_C at hC
    have hr0 : w_r _ 1000 0 = some (gm_b G) := h.2.2.1
    have hT := h.2.2.2.1
    unfold CT_ at hT
    have hA : SO_ _ 1008 := h.2.1.2.1.1
    unfold SO_ at hA
    have hA2 : SO_ _ 1429 := h.2.1.2.2.2.2
    unfold SO_ at hA2
    have hS : CS_ _ 1008 (tm_n (sm_T S)) (bm_X (sm_B S)) := h.2.2.2.2.2.2.2.1.1
    unfold CS_ at hS
    have hK : sh_B _ 1007 := h.2.1.1
    unfold sh_B at hK
    have hB := h.2.2.2.2.2.2.2.1.2
    have hR := h.2.2.2.2.2.2.2.2.2
    simp only [Nat.reduceAdd] at hA hA2 hS hK hB
    obtain ⟨hn, hk4⟩ := hV.1
    obtain ⟨hW1, hW2, hW3⟩ := hV.2.2.2.1.1
    simp (disch := first | omega | decide | exact ko_b _ | assumption | (simp only [t_si, t_sl, t_sr, t_sI, t_sR, n_si, n_sl, n_sr, n_sI, n_sR, r_si, r_sl, r_sI]; first | done | omega)) only [x_29_e, x_29_b, x_29_0, x_29_1, x_29_4, bk_v, bk_n, nl_I, nl_R, nl_L, nl_0, oo_lt, oo_le, oo_eq, oo_add, oo_sub, oo_tn, oo_ir, nn_leT, nn_leF, nn_ltT, nn_ltF, nn_eqT, nn_eqF, bv_0, bv_1, ko_b, ko_1, ko_0, true_and, and_true, if_true, if_false, not_true_eq_false, not_false_eq_true, oo_02, decide_eq_true_eq, decide_eq_false_iff_not, ite_not, Nat.reduceAdd, Nat.reduceLT, Nat.reduceSub, Nat.reduceLeDiff, reduceIte, Bool.true_eq_false, Bool.false_eq_true, reduceCtorEq, eq_self, decide_true, decide_false, bv_t, bv_f, and_self, t_si, t_sl, t_sr, t_sI, t_sR, n_si, n_sl, n_sr, n_sI, n_sR, r_si, r_sl, r_sI, hC, q1]
    clear hC hT hA hA2 hS hK hB hR hq
    simp (disch := first | omega | decide | exact ko_b _ | assumption | (simp only [t_si, t_sl, t_sr, t_sI, t_sR, n_si, n_sl, n_sr, n_sI, n_sR, r_si, r_sl, r_sI]; first | done | omega)) only [x_29_e, x_29_b, x_29_7, x_29_8, x_29_11, x_29_12, x_29_15, x_29_16, x_29_19, x_29_20, x_29_23, x_29_26, x_29_29, x_29_32, x_29_33, x_29_36, x_29_39, bk_v, bk_n, nl_I, nl_R, nl_L, nl_0, oo_lt, oo_le, oo_eq, oo_add, oo_sub, oo_tn, oo_ir, nn_leT, nn_leF, nn_ltT, nn_ltF, nn_eqT, nn_eqF, bv_0, bv_1, ko_b, ko_1, ko_0, true_and, and_true, if_true, if_false, not_true_eq_false, not_false_eq_true, oo_02, decide_eq_true_eq, decide_eq_false_iff_not, ite_not, Nat.reduceAdd, Nat.reduceLT, Nat.reduceSub, Nat.reduceLeDiff, reduceIte, Bool.true_eq_false, Bool.false_eq_true, reduceCtorEq, eq_self, decide_true, decide_false, bv_t, bv_f, and_self, t_si, t_sl, t_sr, t_sI, t_sR, n_si, n_sl, n_sr, n_sI, n_sR, r_si, r_sl, r_sI, hC1, hr1, ib, q2, r3, i_si]
    rfl
/-! the model -/
def pe_ (a _k : Nat) : Prop := a = 1454 ∨ a = 1458 ∨ a = 1459
theorem pe_o {a k : Nat} (h : pe_ a k) : pm_ a k ∨ p_st a k := by unfold pe_ at h; unfold pm_ p_st; omega
theorem pe_tr {a k : Nat} (h : pe_ a k) : p_tr a k := by unfold pe_ at h; unfold p_tr pm_ p_st; omega
theorem m_eat1 {T : Tm} {X : Xm} {s : Xm × Int32} (h : MQ_ w T s.1) (hWE : WE_ T) {d l : Nat} {food : Int32} {a4 a5 : Option Vl} (hl : l < xm_L s.1) : ∃ t : (Option Vl × Option Vl) × Wd, (Fr_ pe_ w t.2 ∧ MS_ t.2 (tm_n T) (f_sp1 T l s).1) ∧ ∀ Q, wp (d + 2) 209 4 [some (v_R (some 1440)), some (v_I food), some (v_I s.2), some (v_I (Int32.ofNat l)), a4, a5] [] w Q = wp (d + 2) 209 4 [some (v_R (some 1440)), some (v_I food), some (v_I (f_sp1 T l s).2), some (v_I (Int32.ofNat (l + 1))), t.1.1, t.1.2] [] t.2 Q := by
  have hX1 := h.2.2.2.2
  have hn9 := h.2.2.2.1.1
  have ht := hX1.2.1 l hl
  have f6 : Fr_ (fun a _ => a = 1458) w (s_i (s_i (s_i (s_i (s_i (s_i w 1458 0 (Int32.ofNat l)) 1458 1 (tm_hg T (xm_t s.1 l))) 1458 2 s.2) 1458 3 (Int32.ofNat (tm_kd T (xm_t s.1 l)))) 1458 4 (Int32.ofNat (xm_L s.1 - 1 - l))) 1458 5 (tm_wt T (xm_t s.1 l))) := fr_si (fr_si (fr_si (fr_si (fr_si (fr_si (fr_rf _ _) rfl) rfl) rfl) rfl) rfl) rfl
  have hA : ∀ j, j < 6 → w_i (s_i (s_i (s_i (s_i (s_i (s_i w 1458 0 (Int32.ofNat l)) 1458 1 (tm_hg T (xm_t s.1 l))) 1458 2 s.2) 1458 3 (Int32.ofNat (tm_kd T (xm_t s.1 l)))) 1458 4 (Int32.ofNat (xm_L s.1 - 1 - l))) 1458 5 (tm_wt T (xm_t s.1 l))) 1458 j = f_ask T s.1 l s.2 j := fun j hj => by
    unfold f_ask
    simp only [i_si, true_and]
    rcases (by omega : j = 0 ∨ j = 1 ∨ j = 2 ∨ j = 3 ∨ j = 4 ∨ j = 5) with rfl | rfl | rfl | rfl | rfl | rfl <;> rfl
  have pre : ∀ Q, wp (d + 2) 209 4 [some (v_R (some 1440)), some (v_I food), some (v_I s.2), some (v_I (Int32.ofNat l)), a4, a5] [] w Q = wp (d + 2) 209 87 [some (v_R (some 1440)), some (v_I food), some (v_I s.2), some (v_I (Int32.ofNat l)), some (v_I (Int32.ofNat (xm_t s.1 l))), a5] [] (s_i (s_i (s_i (s_i (s_i (s_i w 1458 0 (Int32.ofNat l)) 1458 1 (tm_hg T (xm_t s.1 l))) 1458 2 s.2) 1458 3 (Int32.ofNat (tm_kd T (xm_t s.1 l)))) 1458 4 (Int32.ofNat (xm_L s.1 - 1 - l))) 1458 5 (tm_wt T (xm_t s.1 l))) Q := fun Q => by
    have hq := h
    obtain ⟨hM, hT, hS, ⟨hn, hk4⟩, hW1, hW2, hW3⟩ := hq
    unfold sh_M at hM
    unfold MT_ at hT
    unfold MS_ at hS
    rw [x_209_4]
    simp (disch := first | omega | decide | exact ko_b _ | assumption | (simp only [t_si, t_sl, t_sr, t_sI, t_sR, n_si, n_sl, n_sr, n_sI, n_sR, r_si, r_sl, r_sI]; first | done | omega)) only [x_209_e, x_209_b, x_209_5, x_209_6, x_209_9, x_209_12, x_209_13, x_209_16, x_209_17, x_209_18, x_209_20, x_209_21, x_209_24, x_209_25, x_209_26, x_209_27, x_209_28, x_209_31, x_209_32, x_209_33, x_209_36, x_209_38, x_209_39, x_209_40, x_209_41, x_209_44, x_209_45, x_209_46, x_209_47, x_209_48, x_209_51, x_209_52, x_209_53, x_209_56, x_209_58, x_209_59, x_209_60, x_209_61, x_209_64, x_209_65, x_209_66, x_209_69, x_209_70, x_209_71, x_209_72, x_209_73, x_209_74, x_209_75, x_209_78, x_209_79, x_209_80, x_209_83, x_209_85, x_209_86, bk_v, bk_n, nl_I, nl_R, nl_L, nl_0, oo_lt, oo_le, oo_eq, oo_add, oo_sub, oo_tn, oo_ir, nn_leT, nn_leF, nn_ltT, nn_ltF, nn_eqT, nn_eqF, bv_0, bv_1, ko_b, ko_1, ko_0, true_and, and_true, if_true, if_false, not_true_eq_false, not_false_eq_true, oo_02, decide_eq_true_eq, decide_eq_false_iff_not, ite_not, Nat.reduceAdd, Nat.reduceLT, Nat.reduceSub, Nat.reduceLeDiff, reduceIte, Bool.true_eq_false, Bool.false_eq_true, reduceCtorEq, eq_self, decide_true, decide_false, bv_t, bv_f, and_self, t_si, t_sl, t_sr, t_sI, t_sR, n_si, n_sl, n_sr, n_sI, n_sR, r_si, r_sl, r_sI, hM, hT, hS, i_si, Nat.reduceEqDiff, false_and]
  generalize s_i (s_i (s_i (s_i (s_i (s_i w 1458 0 (Int32.ofNat l)) 1458 1 (tm_hg T (xm_t s.1 l))) 1458 2 s.2) 1458 3 (Int32.ofNat (tm_kd T (xm_t s.1 l)))) 1458 4 (Int32.ofNat (xm_L s.1 - 1 - l))) 1458 5 (tm_wt T (xm_t s.1 l)) = u at *
  have hqu := MQ_fr h (fr_mo f6 (fun a k z => by unfold pm_; omega))
  have fin : ∀ (v : Int32), f_tk T s.1 l s.2 = i_mx (Int32.ofNat 0) (i_mn s.2 v) → ∀ u2, Fr_ (fun a _ => a = 1459) u u2 → (∀ Q, wp (d + 2) 209 4 [some (v_R (some 1440)), some (v_I food), some (v_I s.2), some (v_I (Int32.ofNat l)), a4, a5] [] w Q = wp (d + 2) 209 110 [some (v_R (some 1440)), some (v_I food), some (v_I s.2), some (v_I (Int32.ofNat l)), some (v_I (Int32.ofNat (xm_t s.1 l))), a5] [v_I v] u2 Q) → ∃ t : (Option Vl × Option Vl) × Wd, (Fr_ pe_ w t.2 ∧ MS_ t.2 (tm_n T) (f_sp1 T l s).1) ∧ ∀ Q, wp (d + 2) 209 4 [some (v_R (some 1440)), some (v_I food), some (v_I s.2), some (v_I (Int32.ofNat l)), a4, a5] [] w Q = wp (d + 2) 209 4 [some (v_R (some 1440)), some (v_I food), some (v_I (f_sp1 T l s).2), some (v_I (Int32.ofNat (l + 1))), t.1.1, t.1.2] [] t.2 Q := fun v ev u2 f2 q2 => by
    have hq2 := MQ_fr hqu (fr_mo f2 (fun a k z => by unfold pm_; omega))
    refine ⟨((some (v_I (Int32.ofNat (xm_t s.1 l))), some (v_I v)), s_i u2 1454 (xm_t s.1 l) (f_tk T s.1 l s.2)), ⟨fr_si (fr_tr (fr_mo f6 (fun a k z => by unfold pe_; omega)) (fr_mo f2 (fun a k z => by unfold pe_; omega))) (by unfold pe_; omega), MS_mea hq2.2.2.1⟩, fun Q => ?_⟩
    rw [q2]
    show _ = wp (d + 2) 209 4 [some (v_R (some 1440)), some (v_I food), some (v_I (s.2 - f_tk T s.1 l s.2)), some (v_I (Int32.ofNat (l + 1))), some (v_I (Int32.ofNat (xm_t s.1 l))), some (v_I v)] [] _ Q
    rw [ev]
    unfold i_mx i_mn
    have h := hq2
    have hq := h
    obtain ⟨hM, hT, hS, ⟨hn, hk4⟩, hW1, hW2, hW3⟩ := hq
    unfold sh_M at hM
    unfold MT_ at hT
    unfold MS_ at hS
    simp (disch := first | omega | decide | exact ko_b _ | assumption | (simp only [t_si, t_sl, t_sr, t_sI, t_sR, n_si, n_sl, n_sr, n_sI, n_sR, r_si, r_sl, r_sI]; first | done | omega)) only [x_209_e, x_209_b, x_209_110, x_209_112, x_209_113, x_209_116, x_209_118, x_209_119, x_209_120, x_209_122, x_209_125, x_209_128, x_209_129, x_209_130, x_209_131, x_209_134, x_209_136, x_209_137, x_209_138, x_209_139, x_209_142, bk_v, bk_n, nl_I, nl_R, nl_L, nl_0, oo_lt, oo_le, oo_eq, oo_add, oo_sub, oo_tn, oo_ir, nn_leT, nn_leF, nn_ltT, nn_ltF, nn_eqT, nn_eqF, bv_0, bv_1, ko_b, ko_1, ko_0, true_and, and_true, if_true, if_false, not_true_eq_false, not_false_eq_true, oo_02, decide_eq_true_eq, decide_eq_false_iff_not, ite_not, Nat.reduceAdd, Nat.reduceLT, Nat.reduceSub, Nat.reduceLeDiff, reduceIte, Bool.true_eq_false, Bool.false_eq_true, reduceCtorEq, eq_self, decide_true, decide_false, bv_t, bv_f, and_self, t_si, t_sl, t_sr, t_sI, t_sR, n_si, n_sl, n_sr, n_sI, n_sR, r_si, r_sl, r_sI, hM, hT, hS, i_si]
  have e3 : w_i u 1444 3 = Int32.ofNat (tm_co T).length := hqu.2.1.2.2.2.1
  by_cases hco : tm_co T = []
  · refine fin (tm_hg T (xm_t s.1 l)) (by unfold f_tk; rw [if_pos hco]) u (fr_rf _ _) (fun Q => ?_)
    rw [pre]
    have e3 : w_i u 1444 3 = Int32.ofNat 0 := by rw [e3, hco]; rfl
    have h := hqu
    have hL := hWE.1
    have hq := h
    obtain ⟨hM, hT, hS, ⟨hn, hk4⟩, hW1, hW2, hW3⟩ := hq
    unfold sh_M at hM
    unfold MT_ at hT
    unfold MS_ at hS
    simp (disch := first | omega | decide | exact ko_b _ | assumption | (simp only [t_si, t_sl, t_sr, t_sI, t_sR, n_si, n_sl, n_sr, n_sI, n_sR, r_si, r_sl, r_sI]; first | done | omega)) only [x_209_e, x_209_b, x_209_87, x_209_88, x_209_91, x_209_92, x_209_93, x_209_96, x_209_97, x_209_100, x_209_102, x_209_103, x_209_106, x_209_107, bk_v, bk_n, nl_I, nl_R, nl_L, nl_0, oo_lt, oo_le, oo_eq, oo_add, oo_sub, oo_tn, oo_ir, nn_leT, nn_leF, nn_ltT, nn_ltF, nn_eqT, nn_eqF, bv_0, bv_1, ko_b, ko_1, ko_0, true_and, and_true, if_true, if_false, not_true_eq_false, not_false_eq_true, oo_02, decide_eq_true_eq, decide_eq_false_iff_not, ite_not, Nat.reduceAdd, Nat.reduceLT, Nat.reduceSub, Nat.reduceLeDiff, reduceIte, Bool.true_eq_false, Bool.false_eq_true, reduceCtorEq, eq_self, decide_true, decide_false, bv_t, bv_f, and_self, t_si, t_sl, t_sr, t_sI, t_sR, n_si, n_sl, n_sr, n_sI, n_sR, r_si, r_sl, r_sI, e3, hM, hT, hS]
  · have hlen : 0 < (tm_co T).length := List.length_pos_iff.mpr hco
    have hL := hWE.1
    rcases hWE.2.2.2 with z | z
    · exact absurd z hco
    · obtain ⟨v, hv⟩ := z (f_ask T s.1 l s.2)
      obtain ⟨u2, f2, q2⟩ := m_value (d := d) hqu.1 hqu.2.1 hWE.1 hA hv
      refine fin v (by unfold f_tk f_val; rw [if_neg hco, hv]) u2 f2 (fun Q => ?_)
      rw [pre]
      have u0 : w_t u 1440 = 25 := hqu.1.1
      have hM2 := hqu.1
      unfold sh_M at hM2
      have u4 : w_r u 1440 4 = some 1444 := by simp only [hM2]
      have t44 : w_t u 1444 = 1 := by simp only [hM2]
      have n44 : w_n u 1444 = 8 := by simp only [hM2]
      clear hM2
      simp (disch := first | omega | decide | exact ko_b _ | assumption | (simp only [t_si, t_sl, t_sr, t_sI, t_sR, n_si, n_sl, n_sr, n_sI, n_sR, r_si, r_sl, r_sI]; first | done | omega)) only [x_209_e, x_209_b, x_209_87, x_209_88, x_209_91, x_209_92, x_209_93, x_209_96, x_209_97, x_209_100, x_209_102, x_209_103, x_209_106, x_209_107, bk_v, bk_n, nl_I, nl_R, nl_L, nl_0, oo_lt, oo_le, oo_eq, oo_add, oo_sub, oo_tn, oo_ir, nn_leT, nn_leF, nn_ltT, nn_ltF, nn_eqT, nn_eqF, bv_0, bv_1, ko_b, ko_1, ko_0, true_and, and_true, if_true, if_false, not_true_eq_false, not_false_eq_true, oo_02, decide_eq_true_eq, decide_eq_false_iff_not, ite_not, Nat.reduceAdd, Nat.reduceLT, Nat.reduceSub, Nat.reduceLeDiff, reduceIte, Bool.true_eq_false, Bool.false_eq_true, reduceCtorEq, eq_self, decide_true, decide_false, bv_t, bv_f, and_self, t_si, t_sl, t_sr, t_sI, t_sR, n_si, n_sl, n_sr, n_sI, n_sR, r_si, r_sl, r_sI, u4, n44, e3, q2]
theorem m_eat {T : Tm} {X : Xm} (h : MQ_ w T X) (hWE : WE_ T) {d : Nat} {food : Int32} (h0 : Int32.ofNat 0 ≤ food) : ∃ w1, Fr_ pe_ w w1 ∧ MS_ w1 (tm_n T) (f_sup T X food).1 ∧ sp_ok X (f_sup T X food) ∧ ∀ Q, cl (d + 2) 209 [v_R (some 1440), v_I food] w Q = Q (Sum.inl (some (v_I (f_sup T X food).2))) w1 := by
  have hX := h.2.2.2.2
  have hn10 := h.2.2.2.1.1
  have hL9 := hX.1
  obtain ⟨t, ⟨i1, i2, i3⟩, q1⟩ := lp_ig (fun l (s : Xm × Int32) (t : (Option Vl × Option Vl) × Wd) Q => wp (d + 2) 209 4 [some (v_R (some 1440)), some (v_I food), some (v_I s.2), some (v_I (Int32.ofNat l)), t.1.1, t.1.2] [] t.2 Q) (fun l s t => Fr_ pe_ w t.2 ∧ MS_ t.2 (tm_n T) s.1 ∧ sp_ok X s) (f_sp1 T) (xm_L X) 0 (X, food) ((none, none), w) (fun l s t _ hl hC => by
    obtain ⟨i1, i2, i3⟩ := hC
    have eL : xm_L s.1 = xm_L X := i3.1
    obtain ⟨t1, ⟨g1, g2⟩, g3⟩ := m_eat1 (X := X) (s := s) (MQ_Y h (fr_mo i1 (fun a k z => pe_o z)) i2 (WX_sp hX i3)) hWE (d := d) (l := l) (food := food) (a4 := t.1.1) (a5 := t.1.2) (by omega)
    exact ⟨t1, ⟨fr_tr i1 g1, g2, sp_ok1 i3⟩, g3⟩) ⟨fr_rf _ _, h.2.2.1, sp_ok0 h0⟩
  have i3 : sp_ok X (f_sup T X food) := i3
  refine ⟨t.2, i1, i2, i3, fun Q => ?_⟩
  have hq1 := MQ_Y h (fr_mo i1 (fun a k z => pe_o z)) i2 (WX_sp hX i3)
  have u0 : w_t t.2 1440 = 25 := hq1.1.1
  have u1 : w_i t.2 1440 28 = Int32.ofNat (xm_L X) := i2.1.trans (by rw [show xm_L (it_ (f_sp1 T) 0 (xm_L X) (X, food)).1 = xm_L X from i3.1])
  have fin : wp (d + 2) 209 4 [some (v_R (some 1440)), some (v_I food), some (v_I (it_ (f_sp1 T) 0 (xm_L X) (X, food)).2), some (v_I (Int32.ofNat (0 + xm_L X))), t.1.1, t.1.2] [] t.2 Q = Q (Sum.inl (some (v_I (f_sup T X food).2))) t.2 := by
    rw [x_209_4]
    simp (disch := first | omega | decide | exact ko_b _ | assumption | (simp only [t_si, t_sl, t_sr, t_sI, t_sR, n_si, n_sl, n_sr, n_sI, n_sR, r_si, r_sl, r_sI]; first | done | omega)) only [x_209_e, x_209_b, x_209_5, x_209_6, x_209_9, x_209_e, x_209_b, x_209_145, x_209_146, bk_v, bk_n, nl_I, nl_R, nl_L, nl_0, oo_lt, oo_le, oo_eq, oo_add, oo_sub, oo_tn, oo_ir, nn_leT, nn_leF, nn_ltT, nn_ltF, nn_eqT, nn_eqF, bv_0, bv_1, ko_b, ko_1, ko_0, true_and, and_true, if_true, if_false, not_true_eq_false, not_false_eq_true, oo_02, decide_eq_true_eq, decide_eq_false_iff_not, ite_not, Nat.reduceAdd, Nat.reduceLT, Nat.reduceSub, Nat.reduceLeDiff, reduceIte, Bool.true_eq_false, Bool.false_eq_true, reduceCtorEq, eq_self, decide_true, decide_false, bv_t, bv_f, and_self, t_si, t_sl, t_sr, t_sI, t_sR, n_si, n_sl, n_sr, n_sI, n_sR, r_si, r_sl, r_sI, u1]
    rfl
  refine Eq.trans ?_ ((q1 Q).trans fin)
  simp (disch := first | omega | decide | exact ko_b _ | assumption | (simp only [t_si, t_sl, t_sr, t_sI, t_sR, n_si, n_sl, n_sr, n_sI, n_sR, r_si, r_sl, r_sI]; first | done | omega)) only [x_209_e, x_209_b, x_209_0, x_209_1, x_209_2, x_209_3, bk_v, bk_n, nl_I, nl_R, nl_L, nl_0, oo_lt, oo_le, oo_eq, oo_add, oo_sub, oo_tn, oo_ir, nn_leT, nn_leF, nn_ltT, nn_ltF, nn_eqT, nn_eqF, bv_0, bv_1, ko_b, ko_1, ko_0, true_and, and_true, if_true, if_false, not_true_eq_false, not_false_eq_true, oo_02, decide_eq_true_eq, decide_eq_false_iff_not, ite_not, Nat.reduceAdd, Nat.reduceLT, Nat.reduceSub, Nat.reduceLeDiff, reduceIte, Bool.true_eq_false, Bool.false_eq_true, reduceCtorEq, eq_self, decide_true, decide_false, bv_t, bv_f, and_self, t_si, t_sl, t_sr, t_sI, t_sR, n_si, n_sl, n_sr, n_sI, n_sR, r_si, r_sl, r_sI]
theorem m_top (h9 : RM_ w S) (hV : WS_ S) (hWE : WE_ (sm_T S)) {d : Nat} {x : Int32} (hx : Int32.ofNat 0 ≤ x ∧ x ≤ Int32.ofNat 999) : MR_ (d + 3) 239 [v_R (some 1440), v_I x] w (v_I (q_top (sm_T S) (bm_X (sm_B S)) x)) 0 := by
  refine mr_go (ls := [some (v_R (some 1440)), some (v_I x), none]) (fun Q => ?_) (fun w0 hf hc => ?_)
  · have h := h9
    have hq := RM_MQ h hV
    have hMM := hq
    obtain ⟨hM, hT, hS, ⟨hn, hk4⟩, hW1, hW2, hW3⟩ := hMM
    unfold sh_M at hM
    unfold MT_ at hT
    unfold MS_ at hS
    have hB := h.2.2.1.2
    unfold PK_ at hB
    have hR := h.2.2.2
    simp (disch := first | omega | decide | exact ko_b _ | assumption | (simp only [t_si, t_sl, t_sr, t_sI, t_sR, n_si, n_sl, n_sr, n_sI, n_sR, r_si, r_sl, r_sI]; first | done | omega)) only [x_239_e, x_239_b, x_239_0, x_239_1, x_239_2, x_239_6, x_239_7, x_239_8, x_239_11, x_239_14, x_239_17, x_239_18, x_239_19, x_239_22, x_239_23, x_239_24, x_239_27, x_239_30, x_239_31, x_239_32, x_239_33, x_239_34, x_239_37, x_239_38, x_239_41, x_239_42, x_239_43, x_239_46, x_239_47, x_239_48, x_239_51, x_239_52, x_239_55, x_239_56, x_239_59, x_239_60, x_239_61, x_239_62, x_239_63, x_239_64, x_239_65, x_239_66, x_239_69, x_239_70, x_239_73, x_239_74, bk_v, bk_n, nl_I, nl_R, nl_L, nl_0, oo_lt, oo_le, oo_eq, oo_add, oo_sub, oo_tn, oo_ir, nn_leT, nn_leF, nn_ltT, nn_ltF, nn_eqT, nn_eqF, bv_0, bv_1, ko_b, ko_1, ko_0, true_and, and_true, if_true, if_false, not_true_eq_false, not_false_eq_true, oo_02, decide_eq_true_eq, decide_eq_false_iff_not, ite_not, Nat.reduceAdd, Nat.reduceLT, Nat.reduceSub, Nat.reduceLeDiff, reduceIte, Bool.true_eq_false, Bool.false_eq_true, reduceCtorEq, eq_self, decide_true, decide_false, bv_t, bv_f, and_self, t_si, t_sl, t_sr, t_sI, t_sR, n_si, n_sl, n_sr, n_sI, n_sR, r_si, r_sl, r_sI, hM, hT, hS, hB, hR]
  · have h := RM_fr h9 hV hf
    have hq0 := RM_MQ h hV
    have hX9 := hV.2.2.2.1.1
    have hn10 := hV.1.1
    have hLn := hX9.1
    unfold q_top
    by_cases hz : xm_L (bm_X (sm_B S)) = 0
    · rw [if_pos hz]
      refine mr_0 hc (fun Q => ?_)
      have hq := RM_MQ h hV
      have hMM := hq
      obtain ⟨hM, hT, hS, ⟨hn, hk4⟩, hW1, hW2, hW3⟩ := hMM
      unfold sh_M at hM
      unfold MT_ at hT
      unfold MS_ at hS
      have hB := h.2.2.1.2
      unfold PK_ at hB
      have hR := h.2.2.2
      simp (disch := first | omega | decide | exact ko_b _ | assumption | (simp only [t_si, t_sl, t_sr, t_sI, t_sR, n_si, n_sl, n_sr, n_sI, n_sR, r_si, r_sl, r_sI]; first | done | omega)) only [x_239_e, x_239_b, x_239_5, x_239_6, x_239_7, x_239_8, x_239_11, x_239_14, x_239_17, x_239_18, x_239_19, x_239_22, x_239_23, x_239_24, x_239_27, x_239_30, x_239_31, x_239_32, bk_v, bk_n, nl_I, nl_R, nl_L, nl_0, oo_lt, oo_le, oo_eq, oo_add, oo_sub, oo_tn, oo_ir, nn_leT, nn_leF, nn_ltT, nn_ltF, nn_eqT, nn_eqF, bv_0, bv_1, ko_b, ko_1, ko_0, true_and, and_true, if_true, if_false, not_true_eq_false, not_false_eq_true, oo_02, decide_eq_true_eq, decide_eq_false_iff_not, ite_not, Nat.reduceAdd, Nat.reduceLT, Nat.reduceSub, Nat.reduceLeDiff, reduceIte, Bool.true_eq_false, Bool.false_eq_true, reduceCtorEq, eq_self, decide_true, decide_false, bv_t, bv_f, and_self, t_si, t_sl, t_sr, t_sI, t_sR, n_si, n_sl, n_sr, n_sI, n_sR, r_si, r_sl, r_sI, hM, hT, hS, hB, hR, m_in, ll_o, ll_le, hx, hz]
    · rw [if_neg hz]
      have hM9 := h.1
      unfold sh_M at hM9
      have a60 : w_t w0 1460 = 1 ∧ w_n w0 1460 = 43 := by simp only [hM9, and_self]
      have a35 : w_r w0 1440 35 = some 1460 := by simp only [hM9]
      have a0 : w_t w0 1440 = 25 := hM9.1
      have a28 : w_i w0 1440 28 = Int32.ofNat (xm_L (bm_X (sm_B S))) := hq0.2.2.1.1
      clear hM9
      obtain ⟨w1, f1, r1, q1⟩ := m_pack (d := d + 2) h.1 (A := 1460) (f := 0) a60.1 (by omega) (by omega) (by omega)
      have hq1 := MQ_w hq0 f1
      obtain ⟨w2, f2, s2, o2, q2⟩ := m_eat hq1 hWE (d := d) hx.1
      have hq2 := MQ_Y hq1 (fr_mo f2 (fun a k z => pe_o z)) s2 (WX_sp hX9 o2)
      have u60 : w_t w2 1460 = 1 ∧ w_n w2 1460 = 43 := ⟨by rw [f2.1, f1.1]; exact a60.1, by rw [f2.2.1, f1.2.1]; exact a60.2⟩
      have u35 : w_r w2 1440 35 = some 1460 := by rw [f2.2.2.1, f1.2.2.1]; exact a35
      obtain ⟨w3, f3, r3, q3⟩ := m_unpack (d := d + 2) hq2.1 (A := 1460) (f := 0) u60.1 (by omega) (by omega) (by omega)
      refine ⟨w3, m_back f1 r1 (fr_mo f2 (fun a k z => pe_tr z)) f3 r3, ?_, fun Q => ?_⟩
      · rw [f3.2.2.2.2.2 _ _ (by unfold p_st; omega), f2.2.2.2.2.2 _ _ (by unfold pe_; omega), f1.2.2.2.2.2 _ _ (by omega)]; exact hc
      · have t1 : w_t w1 1440 = 25 := hq1.1.1
        have t2 : w_t w2 1440 = 25 := hq2.1.1
        have ht := hX9.2.1 (xm_L (bm_X (sm_B S)) - 1) (by omega)
        obtain ⟨m1, m2, m3, m4, m5, m6, m7⟩ := s2
        have m1 : w_i w2 1440 28 = Int32.ofNat (xm_L (bm_X (sm_B S))) := m1.trans (by rw [o2.1])
        have m4 : w_i w2 1453 (xm_L (bm_X (sm_B S)) - 1) = Int32.ofNat (xm_t (bm_X (sm_B S)) (xm_L (bm_X (sm_B S)) - 1)) := (m4 (xm_L (bm_X (sm_B S)) - 1) (by rw [o2.1]; omega)).trans (by rw [o2.2.1])
        have m5 : w_i w2 1454 (xm_t (bm_X (sm_B S)) (xm_L (bm_X (sm_B S)) - 1)) = _ := m5 _ ht
        have hM2 := hq2.1
        unfold sh_M at hM2
        have v23 : w_r w2 1440 23 = some 1453 := by simp only [hM2]
        have v24 : w_r w2 1440 24 = some 1454 := by simp only [hM2]
        have v53 : w_t w2 1453 = 1 := by simp only [hM2]
        have v54 : w_t w2 1454 = 1 := by simp only [hM2]
        have n53 : w_n w2 1453 = 10 := by simp only [hM2]
        have n54 : w_n w2 1454 = 10 := by simp only [hM2]
        clear hM2
        simp (disch := first | omega | decide | exact ko_b _ | assumption | (simp only [t_si, t_sl, t_sr, t_sI, t_sR, n_si, n_sl, n_sr, n_sI, n_sR, r_si, r_sl, r_sI]; first | done | omega)) only [x_239_e, x_239_b, x_239_5, x_239_6, x_239_7, x_239_8, x_239_11, x_239_14, x_239_17, x_239_18, x_239_19, x_239_22, x_239_23, x_239_24, x_239_27, x_239_30, x_239_31, x_239_32, x_239_33, x_239_34, x_239_37, x_239_38, x_239_41, x_239_42, x_239_43, x_239_46, x_239_47, x_239_48, x_239_51, x_239_52, x_239_55, x_239_56, x_239_59, x_239_60, x_239_61, x_239_62, x_239_63, x_239_64, x_239_65, x_239_66, x_239_69, x_239_70, x_239_73, x_239_74, bk_v, bk_n, nl_I, nl_R, nl_L, nl_0, oo_lt, oo_le, oo_eq, oo_add, oo_sub, oo_tn, oo_ir, nn_leT, nn_leF, nn_ltT, nn_ltF, nn_eqT, nn_eqF, bv_0, bv_1, ko_b, ko_1, ko_0, true_and, and_true, if_true, if_false, not_true_eq_false, not_false_eq_true, oo_02, decide_eq_true_eq, decide_eq_false_iff_not, ite_not, Nat.reduceAdd, Nat.reduceLT, Nat.reduceSub, Nat.reduceLeDiff, reduceIte, Bool.true_eq_false, Bool.false_eq_true, reduceCtorEq, eq_self, decide_true, decide_false, bv_t, bv_f, and_self, t_si, t_sl, t_sr, t_sI, t_sR, n_si, n_sl, n_sr, n_sI, n_sR, r_si, r_sl, r_sI, m_in, ll_o, ll_le, hx, a28, hz, a35, q1, q2, v23, v24, n53, n54, m1, m4, m5, u35, q3]
theorem m_top_x (h9 : RM_ w S) (hV : WS_ S) {d : Nat} {x : Int32} (hx : ¬ (Int32.ofNat 0 ≤ x ∧ x ≤ Int32.ofNat 999)) : MR_ (d + 3) 239 [v_R (some 1440), v_I x] w (v_I (Int32.ofNat 0)) 1 := by
  refine mr_go (ls := [some (v_R (some 1440)), some (v_I x), none]) (fun Q => ?_) (fun w0 hf hc => mr_f (fun Q => ?_))
  · have h := h9
    have hq := RM_MQ h hV
    have hMM := hq
    obtain ⟨hM, hT, hS, ⟨hn, hk4⟩, hW1, hW2, hW3⟩ := hMM
    unfold sh_M at hM
    unfold MT_ at hT
    unfold MS_ at hS
    have hB := h.2.2.1.2
    unfold PK_ at hB
    have hR := h.2.2.2
    simp (disch := first | omega | decide | exact ko_b _ | assumption | (simp only [t_si, t_sl, t_sr, t_sI, t_sR, n_si, n_sl, n_sr, n_sI, n_sR, r_si, r_sl, r_sI]; first | done | omega)) only [x_239_e, x_239_b, x_239_0, x_239_1, x_239_2, x_239_6, x_239_7, x_239_8, x_239_11, x_239_14, x_239_17, x_239_18, x_239_19, x_239_22, x_239_23, x_239_24, x_239_27, x_239_30, x_239_31, x_239_32, x_239_33, x_239_34, x_239_37, x_239_38, x_239_41, x_239_42, x_239_43, x_239_46, x_239_47, x_239_48, x_239_51, x_239_52, x_239_55, x_239_56, x_239_59, x_239_60, x_239_61, x_239_62, x_239_63, x_239_64, x_239_65, x_239_66, x_239_69, x_239_70, x_239_73, x_239_74, bk_v, bk_n, nl_I, nl_R, nl_L, nl_0, oo_lt, oo_le, oo_eq, oo_add, oo_sub, oo_tn, oo_ir, nn_leT, nn_leF, nn_ltT, nn_ltF, nn_eqT, nn_eqF, bv_0, bv_1, ko_b, ko_1, ko_0, true_and, and_true, if_true, if_false, not_true_eq_false, not_false_eq_true, oo_02, decide_eq_true_eq, decide_eq_false_iff_not, ite_not, Nat.reduceAdd, Nat.reduceLT, Nat.reduceSub, Nat.reduceLeDiff, reduceIte, Bool.true_eq_false, Bool.false_eq_true, reduceCtorEq, eq_self, decide_true, decide_false, bv_t, bv_f, and_self, t_si, t_sl, t_sr, t_sI, t_sR, n_si, n_sl, n_sr, n_sI, n_sR, r_si, r_sl, r_sI, hM, hT, hS, hB, hR]
  · have h := RM_fr h9 hV hf
    have hM0 := h.1.1
    simp (disch := first | omega | decide | exact ko_b _ | assumption | (simp only [t_si, t_sl, t_sr, t_sI, t_sR, n_si, n_sl, n_sr, n_sI, n_sR, r_si, r_sl, r_sI]; first | done | omega)) only [x_239_e, x_239_b, x_239_5, x_239_6, x_239_7, x_239_8, x_239_11, x_239_14, x_239_17, x_239_18, x_239_19, x_239_22, bk_v, bk_n, nl_I, nl_R, nl_L, nl_0, oo_lt, oo_le, oo_eq, oo_add, oo_sub, oo_tn, oo_ir, nn_leT, nn_leF, nn_ltT, nn_ltF, nn_eqT, nn_eqF, bv_0, bv_1, ko_b, ko_1, ko_0, true_and, and_true, if_true, if_false, not_true_eq_false, not_false_eq_true, oo_02, decide_eq_true_eq, decide_eq_false_iff_not, ite_not, Nat.reduceAdd, Nat.reduceLT, Nat.reduceSub, Nat.reduceLeDiff, reduceIte, Bool.true_eq_false, Bool.false_eq_true, reduceCtorEq, eq_self, decide_true, decide_false, bv_t, bv_f, and_self, t_si, t_sl, t_sr, t_sI, t_sR, n_si, n_sl, n_sr, n_sI, n_sR, r_si, r_sl, r_sI, m_in, ll_o, ll_le, hx, m_fail hM0]
/-- alike but for the meals of the tower's tables -/
def nr_ (X Y : Xm) : Prop := xm_L Y = xm_L X ∧ xm_t Y = xm_t X ∧ xm_w Y = xm_w X ∧ xm_l Y = xm_l X ∧ xm_y Y = xm_y X ∧ xm_c Y = xm_c X ∧ ∀ j, (∀ k, k < xm_L X → xm_t X k ≠ j) → xm_m Y j = xm_m X j
theorem sup_nr {T : Tm} {X Y : Xm} {f : Int32} (h : nr_ X Y) : f_sup T Y f = f_sup T X f := by
  obtain ⟨h1, h2, h3, h4, h5, h6, h7⟩ := h
  have key : ∀ (n l : Nat) (s u : Xm × Int32), l + n = xm_L X → xm_L s.1 = xm_L X → xm_L u.1 = xm_L X → xm_t s.1 = xm_t X → xm_t u.1 = xm_t X → xm_w s.1 = xm_w u.1 → xm_l s.1 = xm_l u.1 → xm_y s.1 = xm_y u.1 → xm_c s.1 = xm_c u.1 → s.2 = u.2 → (∀ j, (∀ k, l ≤ k → k < xm_L X → xm_t X k ≠ j) → xm_m s.1 j = xm_m u.1 j) → it_ (f_sp1 T) l n s = it_ (f_sp1 T) l n u := by
    intro n
    induction n with
    | zero =>
      intro l s u hl a1 a2 a3 a4 a5 a6 a7 a8 a9 a10
      have e : xm_m s.1 = xm_m u.1 := funext fun j => a10 j (fun k b1 b2 => by omega)
      obtain ⟨⟨s1, s2, s3, s4, s5, s6, s7⟩, s8⟩ := s
      obtain ⟨⟨u1, u2, u3, u4, u5, u6, u7⟩, u8⟩ := u
      unfold xm_L xm_t xm_m xm_w xm_l xm_y xm_c at *
      dsimp only at *
      subst a5 a6 a7 a8 a9 e
      rw [a1, a2.symm.trans rfl, a3, a4]
    | succ n ih =>
      intro l s u hl a1 a2 a3 a4 a5 a6 a7 a8 a9 a10
      have et : f_tk T s.1 l s.2 = f_tk T u.1 l u.2 := by
        unfold f_tk f_ask
        rw [a1, a2, a3, a4, a9]
      rw [it_, it_]
      refine ih (l + 1) _ _ (by omega) a1 a2 a3 a4 a5 a6 a7 a8 (by show s.2 - _ = u.2 - _; rw [et, a9]) (fun j hj => ?_)
      show (if j = xm_t s.1 l then _ else xm_m s.1 j) = (if j = xm_t u.1 l then _ else xm_m u.1 j)
      rw [a3, a4, et]
      by_cases c : j = xm_t X l
      · rw [if_pos c, if_pos c]
      · rw [if_neg c, if_neg c]
        refine a10 j (fun k b1 b2 => ?_)
        by_cases e : k = l
        · subst e; exact fun z => c z.symm
        · exact hj k (by omega) b2
  unfold f_sup
  rw [h1]
  exact key (xm_L X) 0 (Y, f) (X, f) (Nat.zero_add _) h1 rfl h2 rfl h3 h4 h5 h6 rfl (fun j hj => h7 j (fun k hk => hj k (Nat.zero_le _) hk))
theorem nr_sup {T : Tm} {X Y : Xm} {f : Int32} (h : nr_ X Y) (h0 : Int32.ofNat 0 ≤ f) : nr_ X (f_sup T Y f).1 := by
  have key : ∀ (n l : Nat) (s : Xm × Int32), l + n = xm_L X → nr_ X s.1 → nr_ X (it_ (f_sp1 T) l n s).1 := by
    intro n
    induction n with
    | zero => intro l s _ hs; exact hs
    | succ n ih =>
      intro l s hl hs
      rw [it_]
      refine ih (l + 1) _ (by omega) ⟨hs.1, hs.2.1, hs.2.2.1, hs.2.2.2.1, hs.2.2.2.2.1, hs.2.2.2.2.2.1, fun j hj => ?_⟩
      show (if j = xm_t s.1 l then _ else xm_m s.1 j) = _
      rw [if_neg (fun z => hj l (by omega) (by rw [z, hs.2.1]))]
      exact hs.2.2.2.2.2.2 j hj
  unfold f_sup
  rw [h.1]
  exact key (xm_L X) 0 (Y, f) (Nat.zero_add _) h
theorem WX_nr {n : Nat} {X Y : Xm} (h : WX_ n X) (hs : nr_ X Y) : WX_ n Y := by
  unfold WX_ at h ⊢
  rw [hs.1, hs.2.1]
  exact h
theorem m_fair (h9 : RM_ w S) (hV : WS_ S) (hWE : WE_ (sm_T S)) {d : Nat} : MR_ (d + 3) 238 [v_R (some 1440)] w (v_I (o_i (f_fair (sm_T S) (bm_X (sm_B S))))) 0 := by
  refine mr_go (ls := [some (v_R (some 1440)), none, none]) (fun Q => ?_) (fun w0 hf hc => ?_)
  · have h := h9
    have hq := RM_MQ h hV
    have hMM := hq
    obtain ⟨hM, hT, hS, ⟨hn, hk4⟩, hW1, hW2, hW3⟩ := hMM
    unfold sh_M at hM
    unfold MT_ at hT
    unfold MS_ at hS
    have hB := h.2.2.1.2
    unfold PK_ at hB
    have hR := h.2.2.2
    simp (disch := first | omega | decide | exact ko_b _ | assumption | (simp only [t_si, t_sl, t_sr, t_sI, t_sR, n_si, n_sl, n_sr, n_sI, n_sR, r_si, r_sl, r_sI]; first | done | omega)) only [x_238_e, x_238_b, x_238_0, x_238_1, x_238_2, x_238_6, x_238_7, x_238_10, x_238_11, x_238_14, x_238_15, x_238_16, x_238_17, x_238_19, x_238_22, x_238_25, x_238_26, x_238_27, x_238_30, x_238_31, x_238_32, x_238_35, x_238_36, x_238_37, x_238_40, x_238_41, x_238_44, x_238_47, x_238_48, x_238_49, x_238_52, x_238_55, x_238_56, x_238_57, x_238_60, x_238_61, x_238_64, x_238_65, bk_v, bk_n, nl_I, nl_R, nl_L, nl_0, oo_lt, oo_le, oo_eq, oo_add, oo_sub, oo_tn, oo_ir, nn_leT, nn_leF, nn_ltT, nn_ltF, nn_eqT, nn_eqF, bv_0, bv_1, ko_b, ko_1, ko_0, true_and, and_true, if_true, if_false, not_true_eq_false, not_false_eq_true, oo_02, decide_eq_true_eq, decide_eq_false_iff_not, ite_not, Nat.reduceAdd, Nat.reduceLT, Nat.reduceSub, Nat.reduceLeDiff, reduceIte, Bool.true_eq_false, Bool.false_eq_true, reduceCtorEq, eq_self, decide_true, decide_false, bv_t, bv_f, and_self, t_si, t_sl, t_sr, t_sI, t_sR, n_si, n_sl, n_sr, n_sI, n_sR, r_si, r_sl, r_sI, hM, hT, hS, hB, hR]
  · have h := RM_fr h9 hV hf
    have hq0 := RM_MQ h hV
    have hX9 := hV.2.2.2.1.1
    have hn10 := hV.1.1
    have hLn := hX9.1
    have hM9 := h.1
    unfold sh_M at hM9
    have a60 : w_t w0 1460 = 1 ∧ w_n w0 1460 = 43 := by simp only [hM9, and_self]
    have a35 : w_r w0 1440 35 = some 1460 := by simp only [hM9]
    have a0 : w_t w0 1440 = 25 := hM9.1
    clear hM9
    obtain ⟨w1, f1, r1, q1⟩ := m_pack (d := d + 2) h.1 (A := 1460) (f := 0) a60.1 (by omega) (by omega) (by omega)
    have hq1 := MQ_w hq0 f1
    have c1 : w_i w1 1440 3 = Int32.ofNat 0 := by rw [f1.2.2.2.2.2 _ _ (by omega)]; exact hc
    obtain ⟨t, ⟨⟨Y, j1, j2⟩, j3, j4⟩, q2⟩ := lp_fg (fun k (t : Wd) Q => wp (d + 3) 238 18 [some (v_R (some 1440)), some (v_I (Int32.ofInt (-1))), some (v_I (Int32.ofNat k))] [] t Q) (fun o t Q => wp (d + 3) 238 55 [some (v_R (some 1440)), some (v_I (o_i o)), some (v_I (Int32.ofNat (match o with | some k => k + 1 | none => 1000)))] [] t Q) (fun t => (∃ Y, nr_ (bm_X (sm_B S)) Y ∧ MS_ t (tm_n (sm_T S)) Y) ∧ Fr_ p_tr w1 t ∧ w_i t 1440 3 = Int32.ofNat 0) (fun k => decide (Int32.ofNat (f_full (sm_T S) (f_sup (sm_T S) (bm_X (sm_B S)) (Int32.ofNat k)).1) = Int32.ofNat (f_all (f_sup (sm_T S) (bm_X (sm_B S)) (Int32.ofNat k)).1))) 1000 0 w1 (fun k t _ hk hC => by
      obtain ⟨⟨Y, i1, i2⟩, i3, i4⟩ := hC
      have tro : ∀ a k, p_tr a k → pm_ a k ∨ p_st a k := fun a k z => z.elim Or.inr (fun y => Or.inl y.2)
      have hq2 := MQ_Y hq1 (fr_mo i3 tro) i2 (WX_nr hX9 i1)
      have hk0 : Int32.ofNat 0 ≤ Int32.ofNat k := by rw [oo_le (by omega) (by omega)]; omega
      obtain ⟨t1, g1, g2, g3, g4⟩ := m_eat hq2 hWE (d := d) hk0
      have hq3 := MQ_Y hq2 (fr_mo g1 (fun a k z => pe_o z)) g2 (WX_sp (WX_nr hX9 i1) g3)
      have n1 := nr_sup (T := sm_T S) i1 hk0
      rw [sup_nr i1] at g2 g4 hq3 n1
      refine ⟨t1, ⟨⟨_, n1, g2⟩, fr_tr i3 (fr_mo g1 (fun a k z => pe_tr z)), by rw [g1.2.2.2.2.2 _ _ (by unfold pe_; omega)]; exact i4⟩, fun Q => ?_⟩
      have u0 : w_t t 1440 = 25 := hq2.1.1
      have u1 : w_t t1 1440 = 25 := hq3.1.1
      have qf := fun d Q => m_full hq3 (d := d) (Q := Q)
      have qa := fun d Q => m_all hq3 (d := d) (Q := Q)
      have hne := oi_s1 (by omega : k < 2147483648)
      rw [x_238_18]
      by_cases c : Int32.ofNat (f_full (sm_T S) (f_sup (sm_T S) (bm_X (sm_B S)) (Int32.ofNat k)).1) = Int32.ofNat (f_all (f_sup (sm_T S) (bm_X (sm_B S)) (Int32.ofNat k)).1)
      · rw [if_pos (decide_eq_true c)]
        rw [← c] at qa
        simp (disch := first | omega | decide | exact ko_b _ | assumption | (simp only [t_si, t_sl, t_sr, t_sI, t_sR, n_si, n_sl, n_sr, n_sI, n_sR, r_si, r_sl, r_sI]; first | done | omega)) only [x_238_e, x_238_b, x_238_19, x_238_22, x_238_25, x_238_26, x_238_27, x_238_30, x_238_31, x_238_32, x_238_35, x_238_36, x_238_37, x_238_40, x_238_41, x_238_44, x_238_47, x_238_48, x_238_49, x_238_52, bk_v, bk_n, nl_I, nl_R, oo_lt, oo_le, nn_ltF, nn_leT, Nat.reduceAdd, eq_self, if_false, if_true, not_true_eq_false, ite_not, g4, qf, qa, o_i_s, oo_add]
        rw [x_238_18]
        by_cases c3 : k + 1 ≤ 999
        · simp (disch := first | omega | decide | exact ko_b _ | assumption | (simp only [t_si, t_sl, t_sr, t_sI, t_sR, n_si, n_sl, n_sr, n_sI, n_sR, r_si, r_sl, r_sI]; first | done | omega)) only [x_238_e, x_238_b, x_238_19, x_238_22, x_238_25, x_238_26, x_238_27, x_238_30, x_238_31, x_238_32, x_238_35, x_238_36, x_238_37, x_238_40, x_238_41, x_238_44, x_238_47, x_238_48, x_238_49, x_238_52, bk_v, bk_n, nl_I, nl_R, nl_L, nl_0, oo_lt, oo_le, oo_eq, oo_add, oo_sub, oo_tn, oo_ir, nn_leT, nn_leF, nn_ltT, nn_ltF, nn_eqT, nn_eqF, bv_0, bv_1, ko_b, ko_1, ko_0, true_and, and_true, if_true, if_false, not_true_eq_false, not_false_eq_true, oo_02, decide_eq_true_eq, decide_eq_false_iff_not, ite_not, Nat.reduceAdd, Nat.reduceLT, Nat.reduceSub, Nat.reduceLeDiff, reduceIte, Bool.true_eq_false, Bool.false_eq_true, reduceCtorEq, eq_self, decide_true, decide_false, bv_t, bv_f, and_self, t_si, t_sl, t_sr, t_sI, t_sR, n_si, n_sl, n_sr, n_sI, n_sR, r_si, r_sl, r_sI, hne, o_i_s]
        · simp (disch := first | omega | decide | exact ko_b _ | assumption | (simp only [t_si, t_sl, t_sr, t_sI, t_sR, n_si, n_sl, n_sr, n_sI, n_sR, r_si, r_sl, r_sI]; first | done | omega)) only [x_238_e, x_238_b, x_238_19, x_238_22, x_238_25, x_238_26, x_238_27, x_238_30, x_238_31, x_238_32, x_238_35, x_238_36, x_238_37, x_238_40, x_238_41, x_238_44, x_238_47, x_238_48, x_238_49, x_238_52, bk_v, bk_n, nl_I, nl_R, nl_L, nl_0, oo_lt, oo_le, oo_eq, oo_add, oo_sub, oo_tn, oo_ir, nn_leT, nn_leF, nn_ltT, nn_ltF, nn_eqT, nn_eqF, bv_0, bv_1, ko_b, ko_1, ko_0, true_and, and_true, if_true, if_false, not_true_eq_false, not_false_eq_true, oo_02, decide_eq_true_eq, decide_eq_false_iff_not, ite_not, Nat.reduceAdd, Nat.reduceLT, Nat.reduceSub, Nat.reduceLeDiff, reduceIte, Bool.true_eq_false, Bool.false_eq_true, reduceCtorEq, eq_self, decide_true, decide_false, bv_t, bv_f, and_self, t_si, t_sl, t_sr, t_sI, t_sR, n_si, n_sl, n_sr, n_sI, n_sR, r_si, r_sl, r_sI, hne, o_i_s]
      · rw [if_neg (by rw [decide_eq_false c]; decide)]
        simp (disch := first | omega | decide | exact ko_b _ | assumption | (simp only [t_si, t_sl, t_sr, t_sI, t_sR, n_si, n_sl, n_sr, n_sI, n_sR, r_si, r_sl, r_sI]; first | done | omega)) only [x_238_e, x_238_b, x_238_19, x_238_22, x_238_25, x_238_26, x_238_27, x_238_30, x_238_31, x_238_32, x_238_35, x_238_36, x_238_37, x_238_40, x_238_41, x_238_44, x_238_47, x_238_48, x_238_49, x_238_52, bk_v, bk_n, nl_I, nl_R, oo_lt, oo_le, nn_ltF, nn_leT, Nat.reduceAdd, eq_self, if_false, if_true, not_true_eq_false, not_false_eq_true, ite_not, g4, qf, qa, c, oo_add]) (fun t hC => by
      refine ⟨t, hC, fun Q => ?_⟩
      show wp (d + 3) 238 18 [some (v_R (some 1440)), some (v_I (Int32.ofInt (-1))), some (v_I (Int32.ofNat (0 + 1000)))] [] t Q = _
      rw [x_238_18]
      simp (disch := first | omega | decide | exact ko_b _ | assumption | (simp only [t_si, t_sl, t_sr, t_sI, t_sR, n_si, n_sl, n_sr, n_sI, n_sR, r_si, r_sl, r_sI]; first | done | omega)) only [x_238_e, x_238_b, x_238_19, x_238_22, x_238_25, x_238_26, x_238_27, x_238_30, x_238_31, x_238_32, x_238_35, x_238_36, x_238_37, x_238_40, x_238_41, x_238_44, x_238_47, x_238_48, x_238_49, x_238_52, bk_v, bk_n, nl_I, nl_R, nl_L, nl_0, oo_lt, oo_le, oo_eq, oo_add, oo_sub, oo_tn, oo_ir, nn_leT, nn_leF, nn_ltT, nn_ltF, nn_eqT, nn_eqF, bv_0, bv_1, ko_b, ko_1, ko_0, true_and, and_true, if_true, if_false, not_true_eq_false, not_false_eq_true, oo_02, decide_eq_true_eq, decide_eq_false_iff_not, ite_not, Nat.reduceAdd, Nat.reduceLT, Nat.reduceSub, Nat.reduceLeDiff, reduceIte, Bool.true_eq_false, Bool.false_eq_true, reduceCtorEq, eq_self, decide_true, decide_false, bv_t, bv_f, and_self, t_si, t_sl, t_sr, t_sI, t_sR, n_si, n_sl, n_sr, n_sI, n_sR, r_si, r_sl, r_sI, o_i_n]) ⟨⟨_, ⟨rfl, rfl, rfl, rfl, rfl, rfl, fun _ _ => rfl⟩, hq1.2.2.1⟩, fr_rf _ _, c1⟩
    have tro : ∀ a k, p_tr a k → pm_ a k ∨ p_st a k := fun a k z => z.elim Or.inr (fun y => Or.inl y.2)
    have hq2 := MQ_Y hq1 (fr_mo j3 tro) j2 (WX_nr hX9 j1)
    have u60 : w_t t 1460 = 1 ∧ w_n t 1460 = 43 := ⟨by rw [j3.1, f1.1]; exact a60.1, by rw [j3.2.1, f1.2.1]; exact a60.2⟩
    have u35 : w_r t 1440 35 = some 1460 := by rw [j3.2.2.1, f1.2.2.1]; exact a35
    obtain ⟨w3, f3, r3, q3⟩ := m_unpack (d := d + 2) hq2.1 (A := 1460) (f := 0) u60.1 (by omega) (by omega) (by omega)
    refine ⟨w3, m_back f1 r1 j3 f3 r3, ?_, fun Q => ?_⟩
    · rw [f3.2.2.2.2.2 _ _ (by unfold p_st; omega)]; exact j4
    · have u0 : w_t t 1440 = 25 := hq2.1.1
      have fin : wp (d + 3) 238 55 [some (v_R (some 1440)), some (v_I (o_i (f_fair (sm_T S) (bm_X (sm_B S))))), some (v_I (Int32.ofNat (match f_fair (sm_T S) (bm_X (sm_B S)) with | some k => k + 1 | none => 1000)))] [] t Q = Q (Sum.inl (some (v_I (o_i (f_fair (sm_T S) (bm_X (sm_B S))))))) w3 := by
        simp (disch := first | omega | decide | exact ko_b _ | assumption | (simp only [t_si, t_sl, t_sr, t_sI, t_sR, n_si, n_sl, n_sr, n_sI, n_sR, r_si, r_sl, r_sI]; first | done | omega)) only [x_238_e, x_238_b, x_238_55, x_238_56, x_238_57, x_238_60, x_238_61, x_238_64, x_238_65, bk_v, bk_n, nl_I, nl_R, nl_L, nl_0, oo_lt, oo_le, oo_eq, oo_add, oo_sub, oo_tn, oo_ir, nn_leT, nn_leF, nn_ltT, nn_ltF, nn_eqT, nn_eqF, bv_0, bv_1, ko_b, ko_1, ko_0, true_and, and_true, if_true, if_false, not_true_eq_false, not_false_eq_true, oo_02, decide_eq_true_eq, decide_eq_false_iff_not, ite_not, Nat.reduceAdd, Nat.reduceLT, Nat.reduceSub, Nat.reduceLeDiff, reduceIte, Bool.true_eq_false, Bool.false_eq_true, reduceCtorEq, eq_self, decide_true, decide_false, bv_t, bv_f, and_self, t_si, t_sl, t_sr, t_sI, t_sR, n_si, n_sl, n_sr, n_sI, n_sR, r_si, r_sl, r_sI, u35, q3]
      refine Eq.trans ?_ ((q2 Q).trans fin)
      simp (disch := first | omega | decide | exact ko_b _ | assumption | (simp only [t_si, t_sl, t_sr, t_sI, t_sR, n_si, n_sl, n_sr, n_sI, n_sR, r_si, r_sl, r_sI]; first | done | omega)) only [x_238_e, x_238_b, x_238_5, x_238_6, x_238_7, x_238_10, x_238_11, x_238_14, x_238_15, x_238_16, x_238_17, bk_v, bk_n, nl_I, nl_R, nl_L, nl_0, oo_lt, oo_le, oo_eq, oo_add, oo_sub, oo_tn, oo_ir, nn_leT, nn_leF, nn_ltT, nn_ltF, nn_eqT, nn_eqF, bv_0, bv_1, ko_b, ko_1, ko_0, true_and, and_true, if_true, if_false, not_true_eq_false, not_false_eq_true, oo_02, decide_eq_true_eq, decide_eq_false_iff_not, ite_not, Nat.reduceAdd, Nat.reduceLT, Nat.reduceSub, Nat.reduceLeDiff, reduceIte, Bool.true_eq_false, Bool.false_eq_true, reduceCtorEq, eq_self, decide_true, decide_false, bv_t, bv_f, and_self, t_si, t_sl, t_sr, t_sI, t_sR, n_si, n_sl, n_sr, n_sI, n_sR, r_si, r_sl, r_sI, a35, q1]
theorem m_supper (h9 : RM_ w S) (hV : WS_ S) (hWE : WE_ (sm_T S)) {d : Nat} : MA_ (d + 3) 208 [v_R (some 1440)] w (v_I (f_sup (sm_T S) (bm_X (sm_B S)) (tm_fo (sm_T S))).2) 0 (s_sup S) := by
  refine ma_go (ls := [some (v_R (some 1440))]) h9 (fun Q => ?_) (fun w0 h hc => ?_)
  · have h := h9
    have hq := RM_MQ h hV
    have hMM := hq
    obtain ⟨hM, hT, hS, ⟨hn, hk4⟩, hW1, hW2, hW3⟩ := hMM
    unfold sh_M at hM
    unfold MT_ at hT
    unfold MS_ at hS
    have hB := h.2.2.1.2
    unfold PK_ at hB
    have hR := h.2.2.2
    simp (disch := first | omega | decide | exact ko_b _ | assumption | (simp only [t_si, t_sl, t_sr, t_sI, t_sR, n_si, n_sl, n_sr, n_sI, n_sR, r_si, r_sl, r_sI]; first | done | omega)) only [x_208_e, x_208_b, x_208_0, x_208_1, x_208_2, x_208_6, x_208_9, x_208_10, x_208_11, x_208_12, x_208_15, x_208_16, x_208_17, x_208_20, x_208_23, x_208_24, x_208_27, bk_v, bk_n, nl_I, nl_R, nl_L, nl_0, oo_lt, oo_le, oo_eq, oo_add, oo_sub, oo_tn, oo_ir, nn_leT, nn_leF, nn_ltT, nn_ltF, nn_eqT, nn_eqF, bv_0, bv_1, ko_b, ko_1, ko_0, true_and, and_true, if_true, if_false, not_true_eq_false, not_false_eq_true, oo_02, decide_eq_true_eq, decide_eq_false_iff_not, ite_not, Nat.reduceAdd, Nat.reduceLT, Nat.reduceSub, Nat.reduceLeDiff, reduceIte, Bool.true_eq_false, Bool.false_eq_true, reduceCtorEq, eq_self, decide_true, decide_false, bv_t, bv_f, and_self, t_si, t_sl, t_sr, t_sI, t_sR, n_si, n_sl, n_sr, n_sI, n_sR, r_si, r_sl, r_sI, hM, hT, hS, hB, hR]
  · obtain ⟨w1, f1, r1, c1, q1⟩ := m_keep h hV (d := d + 1)
    have hV1 := WS_set hV (WB_keep hV.2.2.2.1)
    have hq1 : MQ_ w1 (sm_T S) (bm_X (sm_B S)) := RM_MQ (S := s_set S (b_keep (sm_B S))) r1 hV1
    obtain ⟨w2, f2, s2, o2, q2⟩ := m_eat hq1 hWE (d := d) hWE.2.2.1
    have fv : Fr_ pm_ w1 (s_I (s_I w1 1458 (w_i w2 1458)) 1459 (w_i w2 1459)) := fr_tr (fr_sI (fr_rf _ _) (fun k hk => absurd (by unfold pm_; omega) hk)) (fr_sI (fr_rf _ _) (fun k hk => absurd (by unfold pm_; omega) hk))
    have rv := RM_fr r1 hV1 fv
    have fx : Fr_ p_st (s_I (s_I w1 1458 (w_i w2 1458)) 1459 (w_i w2 1459)) (s_i w2 1440 30 (f_sup (sm_T S) (bm_X (sm_B S)) (tm_fo (sm_T S))).2) := ⟨f2.1, f2.2.1, f2.2.2.1, f2.2.2.2.1, f2.2.2.2.2.1, fun a k z => by
      rw [i_si, if_neg (fun y => z (by unfold p_st; omega)), i_sI]
      by_cases c : a = 1459
      · rw [if_pos c, c]
      · rw [if_neg c, i_sI]
        by_cases c2 : a = 1458
        · rw [if_pos c2, c2]
        · rw [if_neg c2]
          exact f2.2.2.2.2.2 a k (by unfold p_st at z; unfold pe_; omega)⟩
    have sx : MS_ (s_i w2 1440 30 (f_sup (sm_T S) (bm_X (sm_B S)) (tm_fo (sm_T S))).2) (tm_n (sm_T S)) (x_crm (f_sup (sm_T S) (bm_X (sm_B S)) (tm_fo (sm_T S))).1 (f_sup (sm_T S) (bm_X (sm_B S)) (tm_fo (sm_T S))).2) := by
      obtain ⟨g1, g2, g3, g4, g5, g6, g7⟩ := s2
      unfold MS_
      simp only [i_si, Nat.reduceEqDiff, false_and, and_false, if_false, true_and, if_true, and_self]
      exact ⟨g1, g2, rfl, g4, g5, g6, g7⟩
    refine ⟨_, fr_tr (fr_tr f1 (fr_mo fv (fun a k z => Or.inl z))) (fr_mo fx (fun a k z => p_st_pb z)), RM_X rv fx sx, ?_, fun Q => ?_⟩
    · rw [fx.2.2.2.2.2 _ _ (by unfold p_st; omega), i_sI, if_neg (by omega), i_sI, if_neg (by omega), c1]; exact hc
    · have t0 : w_t w0 1440 = 25 := h.1.1
      have s1 := hq1.1
      unfold sh_M at s1
      have t1 : w_t w1 1440 = 25 := s1.1
      have r4 : w_r w1 1440 4 = some 1444 := by simp only [s1]
      have t44 : w_t w1 1444 = 1 := by simp only [s1]
      have n44 : w_n w1 1444 = 8 := by simp only [s1]
      clear s1
      have e2 : w_i w1 1444 2 = tm_fo (sm_T S) := hq1.2.1.2.2.1
      have t2 : w_t w2 1440 = 25 := by rw [f2.1]; exact t1
      simp (disch := first | omega | decide | exact ko_b _ | assumption | (simp only [t_si, t_sl, t_sr, t_sI, t_sR, n_si, n_sl, n_sr, n_sI, n_sR, r_si, r_sl, r_sI]; first | done | omega)) only [x_208_e, x_208_b, x_208_5, x_208_6, x_208_9, x_208_10, x_208_11, x_208_12, x_208_15, x_208_16, x_208_17, x_208_20, x_208_23, x_208_24, x_208_27, bk_v, bk_n, nl_I, nl_R, nl_L, nl_0, oo_lt, oo_le, oo_eq, oo_add, oo_sub, oo_tn, oo_ir, nn_leT, nn_leF, nn_ltT, nn_ltF, nn_eqT, nn_eqF, bv_0, bv_1, ko_b, ko_1, ko_0, true_and, and_true, if_true, if_false, not_true_eq_false, not_false_eq_true, oo_02, decide_eq_true_eq, decide_eq_false_iff_not, ite_not, Nat.reduceAdd, Nat.reduceLT, Nat.reduceSub, Nat.reduceLeDiff, reduceIte, Bool.true_eq_false, Bool.false_eq_true, reduceCtorEq, eq_self, decide_true, decide_false, bv_t, bv_f, and_self, t_si, t_sl, t_sr, t_sI, t_sR, n_si, n_sl, n_sr, n_sI, n_sR, r_si, r_sl, r_sI, q1, r4, n44, e2, q2, i_si]
end
