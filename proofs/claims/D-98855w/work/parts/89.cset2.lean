/-! SETS: the component's orders, lifted, most -/
set_option maxRecDepth 100000
section
variable {w : Wd} {S : Sm} {G : Gm} {σ : Nat → Nat}
theorem c_o2 (h : RC_ w G σ S) (hV : WS_ S) {d v all some sea : Nat} (ha : all < 1024) (hso : some < 1024) (hsea : sea < 2147483648) (hva : v ≤ all) (hv0 : 1 ≤ v) (hU : UW_ w (E_ (sm_T S) (bm_X (sm_B S)) some sea all) (tm_n (sm_T S)) all v) {a5 a6 : Option Vl} : ∃ s : (Option Vl × Option Vl) × Wd, (Fr_ Pn_ w s.2 ∧ UW_ s.2 (E_ (sm_T S) (bm_X (sm_B S)) some sea all) (tm_n (sm_T S)) all (v + 1)) ∧ ∀ Q, wp (d + 8) 39 10 [Option.some (v_R (Option.some 1000)), Option.some (v_I (Int32.ofNat all)), Option.some (v_I (Int32.ofNat some)), Option.some (v_I (Int32.ofNat sea)), Option.some (v_I (Int32.ofNat v)), a5, a6] [] w Q = wp (d + 8) 39 10 [Option.some (v_R (Option.some 1000)), Option.some (v_I (Int32.ofNat all)), Option.some (v_I (Int32.ofNat some)), Option.some (v_I (Int32.ofNat sea)), Option.some (v_I (Int32.ofNat (v + 1))), s.1.1, s.1.2] [] s.2 Q := by
  have hn10 := hV.1.1
  have hv1024 : v < 1024 := by omega
  have hsn := sn_i (s := v) (o := all) hv1024
  have hbn := sb_n v all
  have hw0 := h
  have fac : ∀ t, RC_ t G σ S → w_t t 1000 = 20 ∧ w_r t 1000 9 = Option.some 1435 ∧ w_t t 1435 = 4 ∧ w_n t 1435 = 1024 := fun t hr => by
    have hh := hr.1
    unfold sh_C at hh
    simp only [hh, and_self]
  by_cases c : v &&& all = v
  · obtain ⟨k, hk⟩ : ∃ k, bt_n v = k + 1 := by
      cases e : bt_n v with
      | zero => have := bt_0 hv1024 e; omega
      | succ k => exact ⟨k, rfl⟩
    obtain ⟨a1, a2, a3, a4⟩ := fac w hw0
    obtain ⟨u, ⟨i1, i2, i3⟩, q1⟩ := lp_ex (fun t (s : Option Vl × Wd) Q => wp (d + 8) 39 39 [Option.some (v_R (Option.some 1000)), Option.some (v_I (Int32.ofNat all)), Option.some (v_I (Int32.ofNat some)), Option.some (v_I (Int32.ofNat sea)), Option.some (v_I (Int32.ofNat v)), Option.some (v_I (Int32.ofNat t)), s.1] [] s.2 Q) (fun t s => Fr_ Pn_ w s.2 ∧ UW_ s.2 (E_ (sm_T S) (bm_X (sm_B S)) some sea all) (tm_n (sm_T S)) all v ∧ w_l s.2 1435 v = Int64.ofNat (sm_ (up_ (E_ (sm_T S) (bm_X (sm_B S)) some sea all) (tm_n (sm_T S)) v k) t)) (tm_n (sm_T S)) (fun t s ht hI => by
      obtain ⟨s1, ⟨g1, g2, g3⟩, g4⟩ := c_o1 (RC_n hw0 hV hI.1) hV (d := d) (a6 := s.1) ht ha hso hsea c hk hI.2.1 hI.2.2
      exact ⟨s1, ⟨fr_tr hI.1 g1, g2, g3⟩, g4⟩) (tm_n (sm_T S)) 0 (a6, s_l w 1435 v (Int64.ofNat 0)) (Nat.zero_add _) ⟨fr_sl (fr_rf _ _) (by omega), fun u hu hus => by rw [l_sl, if_neg (by omega)]; exact hU u hu hus, by rw [l_sl, if_pos ⟨rfl, rfl⟩]; rfl⟩
    rw [up_wk, ← hk] at i3
    refine ⟨((Option.some (v_I (Int32.ofNat (tm_n (sm_T S)))), u.1), u.2), ⟨i1, fun x hx hxs => ?_⟩, fun Q => ?_⟩
    · by_cases e : x = v
      · rw [e]; exact i3
      · exact i2 x (by omega) hxs
    · have r1 := RC_n hw0 hV i1
      have ctb := fun d Q => c_tables r1 hV (d := d) (Q := Q)
      obtain ⟨b1, b2, b3, b4⟩ := fac u.2 r1
      have fin : wp (d + 8) 39 39 [Option.some (v_R (Option.some 1000)), Option.some (v_I (Int32.ofNat all)), Option.some (v_I (Int32.ofNat some)), Option.some (v_I (Int32.ofNat sea)), Option.some (v_I (Int32.ofNat v)), Option.some (v_I (Int32.ofNat (tm_n (sm_T S)))), u.1] [] u.2 Q = wp (d + 8) 39 10 [Option.some (v_R (Option.some 1000)), Option.some (v_I (Int32.ofNat all)), Option.some (v_I (Int32.ofNat some)), Option.some (v_I (Int32.ofNat sea)), Option.some (v_I (Int32.ofNat (v + 1))), Option.some (v_I (Int32.ofNat (tm_n (sm_T S)))), u.1] [] u.2 Q := by
        rw [x_39_39]
        simp (disch := first | omega | decide | exact ko_b _ | assumption | (simp only [t_si, t_sl, t_sr, t_sI, t_sR, n_si, n_sl, n_sr, n_sI, n_sR, r_si, r_sl, r_sI]; first | done | omega)) only [x_39_e, x_39_b, x_39_41, x_39_42, x_39_45, x_39_e, x_39_b, x_39_135, x_39_138, bk_v, bk_n, nl_I, nl_R, nl_L, nl_0, oo_lt, oo_le, oo_eq, oo_add, oo_sub, oo_tn, oo_ir, nn_leT, nn_leF, nn_ltT, nn_ltF, nn_eqT, nn_eqF, bv_0, bv_1, ko_b, ko_1, ko_0, true_and, and_true, if_true, if_false, not_true_eq_false, not_false_eq_true, oo_02, decide_eq_true_eq, decide_eq_false_iff_not, ite_not, Nat.reduceAdd, Nat.reduceLT, Nat.reduceSub, Nat.reduceLeDiff, reduceIte, Bool.true_eq_false, Bool.false_eq_true, reduceCtorEq, eq_self, decide_true, decide_false, bv_t, bv_f, and_self, t_si, t_sl, t_sr, t_sI, t_sR, n_si, n_sl, n_sr, n_sI, n_sR, r_si, r_sl, r_sI, ctb]
      refine Eq.trans ?_ ((q1 Q).trans fin)
      rw [x_39_10]
      simp (disch := first | omega | decide | exact ko_b _ | assumption | (simp only [t_si, t_sl, t_sr, t_sI, t_sR, n_si, n_sl, n_sr, n_sI, n_sR, r_si, r_sl, r_sI]; first | done | omega)) only [x_39_e, x_39_b, x_39_12, x_39_13, x_39_16, x_39_18, x_39_19, x_39_20, x_39_21, x_39_22, x_39_25, x_39_28, x_39_29, x_39_32, x_39_34, x_39_35, x_39_36, x_39_37, bk_v, bk_n, nl_I, nl_R, nl_L, nl_0, oo_lt, oo_le, oo_eq, oo_add, oo_sub, oo_tn, oo_ir, nn_leT, nn_leF, nn_ltT, nn_ltF, nn_eqT, nn_eqF, bv_0, bv_1, ko_b, ko_1, ko_0, true_and, and_true, if_true, if_false, not_true_eq_false, not_false_eq_true, oo_02, decide_eq_true_eq, decide_eq_false_iff_not, ite_not, Nat.reduceAdd, Nat.reduceLT, Nat.reduceSub, Nat.reduceLeDiff, reduceIte, Bool.true_eq_false, Bool.false_eq_true, reduceCtorEq, eq_self, decide_true, decide_false, bv_t, bv_f, and_self, t_si, t_sl, t_sr, t_sI, t_sR, n_si, n_sl, n_sr, n_sI, n_sR, r_si, r_sl, r_sI, hbn, hsn, c, Nat.xor_self, a2, a4]
  · refine ⟨((a5, a6), w), ⟨fr_rf _ _, fun x hx hxs => ?_⟩, fun Q => ?_⟩
    · by_cases e : x = v
      · rw [e] at hxs; exact absurd hxs c
      · exact hU x (by omega) hxs
    · rw [x_39_10]
      simp (disch := first | omega | decide | exact ko_b _ | assumption | (simp only [t_si, t_sl, t_sr, t_sI, t_sR, n_si, n_sl, n_sr, n_sI, n_sR, r_si, r_sl, r_sI]; first | done | omega)) only [x_39_e, x_39_b, x_39_12, x_39_13, x_39_16, x_39_18, x_39_19, x_39_20, x_39_21, x_39_22, x_39_25, x_39_e, x_39_b, x_39_135, x_39_138, bk_v, bk_n, nl_I, nl_R, nl_L, nl_0, oo_lt, oo_le, oo_eq, oo_add, oo_sub, oo_tn, oo_ir, nn_leT, nn_leF, nn_ltT, nn_ltF, nn_eqT, nn_eqF, bv_0, bv_1, ko_b, ko_1, ko_0, true_and, and_true, if_true, if_false, not_true_eq_false, not_false_eq_true, oo_02, decide_eq_true_eq, decide_eq_false_iff_not, ite_not, Nat.reduceAdd, Nat.reduceLT, Nat.reduceSub, Nat.reduceLeDiff, reduceIte, Bool.true_eq_false, Bool.false_eq_true, reduceCtorEq, eq_self, decide_true, decide_false, bv_t, bv_f, and_self, t_si, t_sl, t_sr, t_sI, t_sR, n_si, n_sl, n_sr, n_sI, n_sR, r_si, r_sl, r_sI, hbn, hsn, c]
theorem c_ooo (h : RC_ w G σ S) (hV : WS_ S) {d all some sea : Nat} (ha : all < 1024) (hso : some < 1024) (hsea : sea < 2147483648) : ∃ w1, Fr_ Pn_ w w1 ∧ ∀ Q, cl (d + 8) 39 [v_R (Option.some 1000), v_I (Int32.ofNat all), v_I (Int32.ofNat some), v_I (Int32.ofNat sea)] w Q = Q (Sum.inl (Option.some (v_L (Int64.ofNat (wy_ (sm_T S) (bm_X (sm_B S)) some sea all))))) w1 := by
  have hw0 := h
  have fac : ∀ t, RC_ t G σ S → w_t t 1000 = 20 ∧ w_r t 1000 9 = Option.some 1435 ∧ w_t t 1435 = 4 ∧ w_n t 1435 = 1024 := fun t hr => by
    have hh := hr.1
    unfold sh_C at hh
    simp only [hh, and_self]
  obtain ⟨u, ⟨i1, i2, i3⟩, q1⟩ := lp_ex (fun v (s : (Option Vl × Option Vl) × Wd) Q => wp (d + 8) 39 10 [Option.some (v_R (Option.some 1000)), Option.some (v_I (Int32.ofNat all)), Option.some (v_I (Int32.ofNat some)), Option.some (v_I (Int32.ofNat sea)), Option.some (v_I (Int32.ofNat v)), s.1.1, s.1.2] [] s.2 Q) (fun v s => Fr_ Pn_ w s.2 ∧ 1 ≤ v ∧ UW_ s.2 (E_ (sm_T S) (bm_X (sm_B S)) some sea all) (tm_n (sm_T S)) all v) (all + 1) (fun v s hv hI => by
    obtain ⟨s1, ⟨g1, g2⟩, g3⟩ := c_o2 (RC_n hw0 hV hI.1) hV (d := d) (v := v) (a5 := s.1.1) (a6 := s.1.2) ha hso hsea (by omega) hI.2.1 hI.2.2
    exact ⟨s1, ⟨fr_tr hI.1 g1, by omega, g2⟩, g3⟩) all 1 ((none, none), s_l w 1435 0 (Int64.ofNat 1)) (by omega) ⟨fr_sl (fr_rf _ _) (by omega), Nat.le_refl _, fun x hx _ => by
      have e : x = 0 := by omega
      subst e
      rw [l_sl, if_pos ⟨rfl, rfl⟩]; rfl⟩
  refine ⟨u.2, i1, fun Q => ?_⟩
  obtain ⟨a1, a2, a3, a4⟩ := fac w hw0
  obtain ⟨b1, b2, b3, b4⟩ := fac u.2 (RC_n hw0 hV i1)
  have ea := i3 all (by omega) (Nat.and_self all)
  have fin : wp (d + 8) 39 10 [Option.some (v_R (Option.some 1000)), Option.some (v_I (Int32.ofNat all)), Option.some (v_I (Int32.ofNat some)), Option.some (v_I (Int32.ofNat sea)), Option.some (v_I (Int32.ofNat (all + 1))), u.1.1, u.1.2] [] u.2 Q = Q (Sum.inl (Option.some (v_L (Int64.ofNat (wy_ (sm_T S) (bm_X (sm_B S)) some sea all))))) u.2 := by
    unfold wy_
    rw [x_39_10]
    simp (disch := first | omega | decide | exact ko_b _ | assumption | (simp only [t_si, t_sl, t_sr, t_sI, t_sR, n_si, n_sl, n_sr, n_sI, n_sR, r_si, r_sl, r_sI]; first | done | omega)) only [x_39_e, x_39_b, x_39_12, x_39_13, x_39_e, x_39_b, x_39_141, x_39_142, x_39_145, x_39_146, x_39_147, bk_v, bk_n, nl_I, nl_R, nl_L, nl_0, oo_lt, oo_le, oo_eq, oo_add, oo_sub, oo_tn, oo_ir, nn_leT, nn_leF, nn_ltT, nn_ltF, nn_eqT, nn_eqF, bv_0, bv_1, ko_b, ko_1, ko_0, true_and, and_true, if_true, if_false, not_true_eq_false, not_false_eq_true, oo_02, decide_eq_true_eq, decide_eq_false_iff_not, ite_not, Nat.reduceAdd, Nat.reduceLT, Nat.reduceSub, Nat.reduceLeDiff, reduceIte, Bool.true_eq_false, Bool.false_eq_true, reduceCtorEq, eq_self, decide_true, decide_false, bv_t, bv_f, and_self, t_si, t_sl, t_sr, t_sI, t_sR, n_si, n_sl, n_sr, n_sI, n_sR, r_si, r_sl, r_sI, b2, b4, ea]
  refine Eq.trans ?_ ((q1 Q).trans fin)
  simp (disch := first | omega | decide | exact ko_b _ | assumption | (simp only [t_si, t_sl, t_sr, t_sI, t_sR, n_si, n_sl, n_sr, n_sI, n_sR, r_si, r_sl, r_sI]; first | done | omega)) only [x_39_e, x_39_b, x_39_0, x_39_1, x_39_4, x_39_5, x_39_6, x_39_7, x_39_8, bk_v, bk_n, nl_I, nl_R, nl_L, nl_0, oo_lt, oo_le, oo_eq, oo_add, oo_sub, oo_tn, oo_ir, nn_leT, nn_leF, nn_ltT, nn_ltF, nn_eqT, nn_eqF, bv_0, bv_1, ko_b, ko_1, ko_0, true_and, and_true, if_true, if_false, not_true_eq_false, not_false_eq_true, oo_02, decide_eq_true_eq, decide_eq_false_iff_not, ite_not, Nat.reduceAdd, Nat.reduceLT, Nat.reduceSub, Nat.reduceLeDiff, reduceIte, Bool.true_eq_false, Bool.false_eq_true, reduceCtorEq, eq_self, decide_true, decide_false, bv_t, bv_f, and_self, t_si, t_sl, t_sr, t_sI, t_sR, n_si, n_sl, n_sr, n_sI, n_sR, r_si, r_sl, r_sI, a2, a4]
def CL2_ (G : Gm) (d t : Nat) (as : S_) (w : Wd) (r : Vl) : Prop := CR_ G d t as w r
theorem c_orders (h : RC_ w G σ S) (hV : WS_ S) {d : Nat} : CR_ G (d + 12) 37 [v_R (some 1000)] w (v_L (Int64.ofNat (wy_ (sm_T S) (bm_X (sm_B S)) 0 0 (f_all (bm_X (sm_B S)))))) := by
  have hX9 := hV.2.2.2.1.1
  have hn10 := hV.1.1
  have h1024 : f_all (bm_X (sm_B S)) < 1024 := Nat.lt_of_lt_of_le (all_lt hX9) (p2_le hn10)
  obtain ⟨w1, f1, q1⟩ := c_ooo h hV (d := d + 2) (all := f_all (bm_X (sm_B S))) (some := 0) (sea := 0) h1024 (by omega) (by omega)
  refine ⟨w1, fr_mo f1 (fun a k z => z.elim), fun Q => ?_⟩
  have hq := RC_CQ h hV
  have hC := h.1
  unfold sh_C at hC
  have hr0 : w_r _ 1000 0 = some (gm_b G) := h.2.2.1
  have hT := h.2.2.2.1
  unfold CT_ at hT
  have hA : SO_ _ 1008 := h.2.1.2.1.1
  unfold SO_ at hA
  have hA2 : SO_ _ 1429 := h.2.1.2.2.2.2
  unfold SO_ at hA2
  have hS : CS_ _ 1008 (tm_n (sm_T S)) (bm_X (sm_B S)) := h.2.2.2.2.2.2.2.1.1
  unfold CS_ at hS
  have hK : sh_B _ 1007 := h.2.1.1
  unfold sh_B at hK
  have hB := h.2.2.2.2.2.2.2.1.2
  have hR := h.2.2.2.2.2.2.2.2.2
  simp only [Nat.reduceAdd] at hA hA2 hS hK hB
  obtain ⟨hn, hk4⟩ := hV.1
  obtain ⟨hW1, hW2, hW3⟩ := hV.2.2.2.1.1
  simp (disch := first | omega | decide | exact ko_b _ | assumption | (simp only [t_si, t_sl, t_sr, t_sI, t_sR, n_si, n_sl, n_sr, n_sI, n_sR, r_si, r_sl, r_sI]; first | done | omega)) only [x_37_e, x_37_b, x_37_0, x_37_1, x_37_2, x_37_5, x_37_8, x_37_11, x_38_e, x_38_b, x_38_0, x_38_1, x_38_2, x_38_3, x_38_4, x_38_7, bk_v, bk_n, nl_I, nl_R, nl_L, nl_0, oo_lt, oo_le, oo_eq, oo_add, oo_sub, oo_tn, oo_ir, nn_leT, nn_leF, nn_ltT, nn_ltF, nn_eqT, nn_eqF, bv_0, bv_1, ko_b, ko_1, ko_0, true_and, and_true, if_true, if_false, not_true_eq_false, not_false_eq_true, oo_02, decide_eq_true_eq, decide_eq_false_iff_not, ite_not, Nat.reduceAdd, Nat.reduceLT, Nat.reduceSub, Nat.reduceLeDiff, reduceIte, Bool.true_eq_false, Bool.false_eq_true, reduceCtorEq, eq_self, decide_true, decide_false, bv_t, bv_f, and_self, t_si, t_sl, t_sr, t_sI, t_sR, n_si, n_sl, n_sr, n_sI, n_sR, r_si, r_sl, r_sI, hC, hr0, hT, hA, hS, hK, hB, hR, c_all hq, q1]
theorem c_lifted (h : RC_ w G σ S) (hV : WS_ S) {d s sea : Nat} (hs : s < 2 ^ tm_n (sm_T S)) (hsea : sea ≤ 10) : CR_ G (d + 12) 87 [v_R (some 1000), v_I (Int32.ofNat s), v_I (Int32.ofNat sea)] w (v_L (Int64.ofNat (wy_ (sm_T S) (bm_X (sm_B S)) s sea (f_all (bm_X (sm_B S)))))) := by
  have hX9 := hV.2.2.2.1.1
  have hn10 := hV.1.1
  have h1024 : f_all (bm_X (sm_B S)) < 1024 := Nat.lt_of_lt_of_le (all_lt hX9) (p2_le hn10)
  obtain ⟨P, hP⟩ : ∃ P, P = 2 ^ tm_n (sm_T S) := ⟨_, rfl⟩
  have hP2 : P ≤ 1024 := by rw [hP]; exact p2_le hn10
  rw [← hP] at hs
  have sbN : Int32.ofNat 1 <<< (Int32.ofNat (tm_n (sm_T S)) &&& 31) = Int32.ofNat P := by rw [sb_s (by omega), hP]
  obtain ⟨w1, f1, q1⟩ := c_ooo h hV (d := d + 3) (all := f_all (bm_X (sm_B S))) (some := s) (sea := sea) h1024 (by omega) (by omega)
  refine ⟨w1, fr_mo f1 (fun a k z => z.elim), fun Q => ?_⟩
  have ctb := fun d Q => c_tables h hV (d := d) (Q := Q)
  have hi : Int32.ofNat 0 ≤ Int32.ofNat sea ∧ Int32.ofNat sea ≤ Int32.ofNat 10 := by
    rw [oo_le (by omega) (by omega), oo_le (by omega) (by omega)]; omega
  have hq := RC_CQ h hV
  have hC := h.1
  unfold sh_C at hC
  have hr0 : w_r _ 1000 0 = some (gm_b G) := h.2.2.1
  have hT := h.2.2.2.1
  unfold CT_ at hT
  have hA : SO_ _ 1008 := h.2.1.2.1.1
  unfold SO_ at hA
  have hA2 : SO_ _ 1429 := h.2.1.2.2.2.2
  unfold SO_ at hA2
  have hS : CS_ _ 1008 (tm_n (sm_T S)) (bm_X (sm_B S)) := h.2.2.2.2.2.2.2.1.1
  unfold CS_ at hS
  have hK : sh_B _ 1007 := h.2.1.1
  unfold sh_B at hK
  have hB := h.2.2.2.2.2.2.2.1.2
  have hR := h.2.2.2.2.2.2.2.2.2
  simp only [Nat.reduceAdd] at hA hA2 hS hK hB
  obtain ⟨hn, hk4⟩ := hV.1
  obtain ⟨hW1, hW2, hW3⟩ := hV.2.2.2.1.1
  simp (disch := first | omega | decide | exact ko_b _ | assumption | (simp only [t_si, t_sl, t_sr, t_sI, t_sR, n_si, n_sl, n_sr, n_sI, n_sR, r_si, r_sl, r_sI]; first | done | omega)) only [x_87_e, x_87_b, x_87_0, x_87_1, x_87_4, x_87_5, x_87_6, x_87_7, x_87_10, x_87_11, x_87_14, x_87_15, x_87_16, x_87_18, x_87_21, x_87_24, x_87_25, x_87_28, x_87_29, x_87_32, x_87_33, x_87_34, x_87_37, x_87_40, x_87_41, x_87_42, x_87_45, bk_v, bk_n, nl_I, nl_R, nl_L, nl_0, oo_lt, oo_le, oo_eq, oo_add, oo_sub, oo_tn, oo_ir, nn_leT, nn_leF, nn_ltT, nn_ltF, nn_eqT, nn_eqF, bv_0, bv_1, ko_b, ko_1, ko_0, true_and, and_true, if_true, if_false, not_true_eq_false, not_false_eq_true, oo_02, decide_eq_true_eq, decide_eq_false_iff_not, ite_not, Nat.reduceAdd, Nat.reduceLT, Nat.reduceSub, Nat.reduceLeDiff, reduceIte, Bool.true_eq_false, Bool.false_eq_true, reduceCtorEq, eq_self, decide_true, decide_false, bv_t, bv_f, and_self, t_si, t_sl, t_sr, t_sI, t_sR, n_si, n_sl, n_sr, n_sI, n_sR, r_si, r_sl, r_sI, hC, hr0, hT, hA, hS, hK, hB, hR, ctb, sbN, c_in, hi, c_ri1, c_all hq, q1]
def no_li (x y : Int32) (P : Nat) : Prop := x < Int32.ofNat 0 ∨ ¬ x < Int32.ofNat P ∨ ¬ (Int32.ofNat 0 ≤ y ∧ y ≤ Int32.ofNat 10)
theorem c_lifted_x (h : RC_ w G σ S) (hV : WS_ S) {d : Nat} {x y : Int32} (hx : no_li x y (2 ^ tm_n (sm_T S))) : CX_ G (d + 12) 87 [v_R (some 1000), v_I x, v_I y] w 39 := cx_0 fun Q => by
  have hn10 := hV.1.1
  obtain ⟨P, hP⟩ : ∃ P, P = 2 ^ tm_n (sm_T S) := ⟨_, rfl⟩
  have hP2 : P ≤ 1024 := by rw [hP]; exact p2_le hn10
  unfold no_li at hx
  rw [← hP] at hx
  have sbN : Int32.ofNat 1 <<< (Int32.ofNat (tm_n (sm_T S)) &&& 31) = Int32.ofNat P := by rw [sb_s (by omega), hP]
  have ctb := fun d Q => c_tables h hV (d := d) (Q := Q)
  have hq := RC_CQ h hV
  have hC := h.1
  unfold sh_C at hC
  have hr0 : w_r _ 1000 0 = some (gm_b G) := h.2.2.1
  have hT := h.2.2.2.1
  unfold CT_ at hT
  have hA : SO_ _ 1008 := h.2.1.2.1.1
  unfold SO_ at hA
  have hA2 : SO_ _ 1429 := h.2.1.2.2.2.2
  unfold SO_ at hA2
  have hS : CS_ _ 1008 (tm_n (sm_T S)) (bm_X (sm_B S)) := h.2.2.2.2.2.2.2.1.1
  unfold CS_ at hS
  have hK : sh_B _ 1007 := h.2.1.1
  unfold sh_B at hK
  have hB := h.2.2.2.2.2.2.2.1.2
  have hR := h.2.2.2.2.2.2.2.2.2
  simp only [Nat.reduceAdd] at hA hA2 hS hK hB
  obtain ⟨hn, hk4⟩ := hV.1
  obtain ⟨hW1, hW2, hW3⟩ := hV.2.2.2.1.1
  by_cases c1 : x < Int32.ofNat 0
  · simp (disch := first | omega | decide | exact ko_b _ | assumption | (simp only [t_si, t_sl, t_sr, t_sI, t_sR, n_si, n_sl, n_sr, n_sI, n_sR, r_si, r_sl, r_sI]; first | done | omega)) only [x_87_e, x_87_b, x_87_0, x_87_1, x_87_4, x_87_5, x_87_6, x_87_7, x_87_10, x_87_11, x_87_14, x_87_15, x_87_16, x_87_18, x_87_21, x_87_24, x_87_25, x_87_28, x_87_29, bk_v, bk_n, nl_I, nl_R, nl_L, nl_0, oo_lt, oo_le, oo_eq, oo_add, oo_sub, oo_tn, oo_ir, nn_leT, nn_leF, nn_ltT, nn_ltF, nn_eqT, nn_eqF, bv_0, bv_1, ko_b, ko_1, ko_0, true_and, and_true, if_true, if_false, not_true_eq_false, not_false_eq_true, oo_02, decide_eq_true_eq, decide_eq_false_iff_not, ite_not, Nat.reduceAdd, Nat.reduceLT, Nat.reduceSub, Nat.reduceLeDiff, reduceIte, Bool.true_eq_false, Bool.false_eq_true, reduceCtorEq, eq_self, decide_true, decide_false, bv_t, bv_f, and_self, t_si, t_sl, t_sr, t_sI, t_sR, n_si, n_sl, n_sr, n_sI, n_sR, r_si, r_sl, r_sI, c1, c_ri0]
  · by_cases c2 : x < Int32.ofNat P
    · have c3 := (hx.resolve_left c1).resolve_left (fun z => z c2)
      have c4 := Int32.not_le.mpr c2
      simp (disch := first | omega | decide | exact ko_b _ | assumption | (simp only [t_si, t_sl, t_sr, t_sI, t_sR, n_si, n_sl, n_sr, n_sI, n_sR, r_si, r_sl, r_sI]; first | done | omega)) only [x_87_e, x_87_b, x_87_0, x_87_1, x_87_4, x_87_5, x_87_6, x_87_7, x_87_10, x_87_11, x_87_14, x_87_15, x_87_16, x_87_18, x_87_21, x_87_24, x_87_25, x_87_28, x_87_29, bk_v, bk_n, nl_I, nl_R, nl_L, nl_0, oo_lt, oo_le, oo_eq, oo_add, oo_sub, oo_tn, oo_ir, nn_leT, nn_leF, nn_ltT, nn_ltF, nn_eqT, nn_eqF, bv_0, bv_1, ko_b, ko_1, ko_0, true_and, and_true, if_true, if_false, not_true_eq_false, not_false_eq_true, oo_02, decide_eq_true_eq, decide_eq_false_iff_not, ite_not, Nat.reduceAdd, Nat.reduceLT, Nat.reduceSub, Nat.reduceLeDiff, reduceIte, Bool.true_eq_false, Bool.false_eq_true, reduceCtorEq, eq_self, decide_true, decide_false, bv_t, bv_f, and_self, t_si, t_sl, t_sr, t_sI, t_sR, n_si, n_sl, n_sr, n_sI, n_sR, r_si, r_sl, r_sI, c1, c4, ctb, sbN, c_in, c3, c_ri0]
    · have c4 := Int32.not_lt.mp c2
      simp (disch := first | omega | decide | exact ko_b _ | assumption | (simp only [t_si, t_sl, t_sr, t_sI, t_sR, n_si, n_sl, n_sr, n_sI, n_sR, r_si, r_sl, r_sI]; first | done | omega)) only [x_87_e, x_87_b, x_87_0, x_87_1, x_87_4, x_87_5, x_87_6, x_87_7, x_87_10, x_87_11, x_87_14, x_87_15, x_87_16, x_87_18, x_87_21, x_87_24, x_87_25, x_87_28, x_87_29, bk_v, bk_n, nl_I, nl_R, nl_L, nl_0, oo_lt, oo_le, oo_eq, oo_add, oo_sub, oo_tn, oo_ir, nn_leT, nn_leF, nn_ltT, nn_ltF, nn_eqT, nn_eqF, bv_0, bv_1, ko_b, ko_1, ko_0, true_and, and_true, if_true, if_false, not_true_eq_false, not_false_eq_true, oo_02, decide_eq_true_eq, decide_eq_false_iff_not, ite_not, Nat.reduceAdd, Nat.reduceLT, Nat.reduceSub, Nat.reduceLeDiff, reduceIte, Bool.true_eq_false, Bool.false_eq_true, reduceCtorEq, eq_self, decide_true, decide_false, bv_t, bv_f, and_self, t_si, t_sl, t_sr, t_sI, t_sR, n_si, n_sl, n_sr, n_sI, n_sR, r_si, r_sl, r_sI, c1, c4, ctb, sbN, c_ri0]
theorem mst_1 {T : Tm} {X : Xm} {s b : Nat} : f_ms1 T X s b = s ∨ f_ms1 T X s b = b := by
  unfold f_ms1
  split
  · exact Or.inl rfl
  · exact Or.inr rfl
theorem mst_ok (T : Tm) (X : Xm) : ∀ n k b, (b = 0 ∨ 0 < wy_ T X 0 0 b) → b < k + n ∨ b = 0 → (it_ (f_ms1 T X) k n b = 0 ∨ 0 < wy_ T X 0 0 (it_ (f_ms1 T X) k n b)) ∧ (it_ (f_ms1 T X) k n b < k + n ∨ it_ (f_ms1 T X) k n b = 0) := by
  intro n
  induction n with
  | zero => intro k b h1 h2; exact ⟨h1, h2⟩
  | succ n ih =>
    intro k b h1 h2
    rw [it_, show k + (n + 1) = k + 1 + n by omega]
    refine ih (k + 1) _ ?_ ?_
    · unfold f_ms1
      split
      · rename_i hc; exact Or.inr hc.2
      · exact h1
    · rcases mst_1 (T := T) (X := X) (s := k) (b := b) with e | e
      · rw [e]; omega
      · rw [e]; omega
theorem mst_lt (T : Tm) (X : Xm) : f_mst T X < 2 ^ tm_n T ∧ (f_mst T X = 0 ∨ 0 < wy_ T X 0 0 (f_mst T X)) := by
  have hp := Nat.two_pow_pos (tm_n T)
  have := mst_ok T X (2 ^ tm_n T - 1) 1 0 (Or.inl rfl) (Or.inr rfl)
  refine ⟨?_, this.1⟩
  have h2 := this.2
  unfold f_mst
  omega
theorem c_mostOf (h : RC_ w G σ S) (hV : WS_ S) {d : Nat} : ∃ w1, Fr_ Pn_ w w1 ∧ ∀ Q, cl (d + 10) 81 [v_R (some 1000)] w Q = Q (Sum.inl (some (v_I (Int32.ofNat (f_mst (sm_T S) (bm_X (sm_B S))))))) w1 := by
  have hn10 := hV.1.1
  have hw0 := h
  obtain ⟨P, hP⟩ : ∃ P, P = 2 ^ tm_n (sm_T S) := ⟨_, rfl⟩
  have hP1 : 1 ≤ P := by rw [hP]; exact Nat.two_pow_pos _
  have hP2 : P ≤ 1024 := by rw [hP]; exact p2_le hn10
  have sbN : Int32.ofNat 1 <<< (Int32.ofNat (tm_n (sm_T S)) &&& 31) = Int32.ofNat P := by rw [sb_s (by omega), hP]
  obtain ⟨u, ⟨i1, i2⟩, q1⟩ := lp_ig (fun s (b : Nat) (u : Wd) Q => wp (d + 10) 81 4 [some (v_R (some 1000)), some (v_I (Int32.ofNat b)), some (v_I (Int32.ofNat s))] [] u Q) (fun s b u => Fr_ Pn_ w u ∧ b < 1024) (f_ms1 (sm_T S) (bm_X (sm_B S))) (P - 1) 1 0 w (fun s b u hs1 hs2 hC => by
    have r1 := RC_n hw0 hV hC.1
    have hs : s < 1024 := by omega
    have ctb := fun d Q => c_tables r1 hV (d := d) (Q := Q)
    have jb := fun d Q => j_bits (w := u) (d := d) (Q := Q) hs
    have jx := fun d Q => j_bits (w := u) (d := d) (Q := Q) hC.2
    have b2 := bt_10 hs
    have b3 := bt_10 hC.2
    have t0 : w_t u 1000 = 20 := r1.1.1
    unfold f_ms1
    by_cases c : bt_n b < bt_n s
    · obtain ⟨w1, f1, q1⟩ := c_ooo r1 hV (d := d) (all := s) (some := 0) (sea := 0) hs (by omega) (by omega)
      refine ⟨w1, ⟨fr_tr hC.1 f1, by split <;> omega⟩, fun Q => ?_⟩
      have hB : wy_ (sm_T S) (bm_X (sm_B S)) 0 0 s ≤ 10000000000 := wk_b hn10 b2
      have q38 : ∀ Q, cl (d + 9) 38 [v_R (some 1000), v_I (Int32.ofNat s)] u Q = Q (Sum.inl (some (v_L (Int64.ofNat (wy_ (sm_T S) (bm_X (sm_B S)) 0 0 s))))) w1 := fun Q => by
        simp (disch := first | omega | decide | exact ko_b _ | assumption | (simp only [t_si, t_sl, t_sr, t_sI, t_sR, n_si, n_sl, n_sr, n_sI, n_sR, r_si, r_sl, r_sI]; first | done | omega)) only [x_38_e, x_38_b, x_38_0, x_38_1, x_38_2, x_38_3, x_38_4, x_38_7, bk_v, bk_n, nl_I, nl_R, nl_L, nl_0, oo_lt, oo_le, oo_eq, oo_add, oo_sub, oo_tn, oo_ir, nn_leT, nn_leF, nn_ltT, nn_ltF, nn_eqT, nn_eqF, bv_0, bv_1, ko_b, ko_1, ko_0, true_and, and_true, if_true, if_false, not_true_eq_false, not_false_eq_true, oo_02, decide_eq_true_eq, decide_eq_false_iff_not, ite_not, Nat.reduceAdd, Nat.reduceLT, Nat.reduceSub, Nat.reduceLeDiff, reduceIte, Bool.true_eq_false, Bool.false_eq_true, reduceCtorEq, eq_self, decide_true, decide_false, bv_t, bv_f, and_self, t_si, t_sl, t_sr, t_sI, t_sR, n_si, n_sl, n_sr, n_sI, n_sR, r_si, r_sl, r_sI, q1]
      rw [x_81_4]
      by_cases c2 : 0 < wy_ (sm_T S) (bm_X (sm_B S)) 0 0 s
      · have c3 : (Int64.ofNat (wy_ (sm_T S) (bm_X (sm_B S)) 0 0 s) ≤ Int64.ofNat 0) = False := by
          rw [l_le (by omega) (by omega)]; exact eq_false (by omega)
        rw [if_pos ⟨c, c2⟩]
        simp (disch := first | omega | decide | exact ko_b _ | assumption | (simp only [t_si, t_sl, t_sr, t_sI, t_sR, n_si, n_sl, n_sr, n_sI, n_sR, r_si, r_sl, r_sI]; first | done | omega)) only [x_81_e, x_81_b, x_81_5, x_81_6, x_81_7, x_81_10, x_81_11, x_81_14, x_81_15, x_81_18, x_81_19, x_81_22, x_81_25, x_81_26, x_81_27, x_81_30, x_81_31, x_81_32, x_81_35, x_81_36, x_81_37, x_81_40, bk_v, bk_n, nl_I, nl_R, nl_L, nl_0, oo_lt, oo_le, oo_eq, oo_add, oo_sub, oo_tn, oo_ir, nn_leT, nn_leF, nn_ltT, nn_ltF, nn_eqT, nn_eqF, bv_0, bv_1, ko_b, ko_1, ko_0, true_and, and_true, if_true, if_false, not_true_eq_false, not_false_eq_true, oo_02, decide_eq_true_eq, decide_eq_false_iff_not, ite_not, Nat.reduceAdd, Nat.reduceLT, Nat.reduceSub, Nat.reduceLeDiff, reduceIte, Bool.true_eq_false, Bool.false_eq_true, reduceCtorEq, eq_self, decide_true, decide_false, bv_t, bv_f, and_self, t_si, t_sl, t_sr, t_sI, t_sR, n_si, n_sl, n_sr, n_sI, n_sR, r_si, r_sl, r_sI, ctb, sbN, jb, jx, q38, lg_le, c3]
      · have c3 : (Int64.ofNat (wy_ (sm_T S) (bm_X (sm_B S)) 0 0 s) ≤ Int64.ofNat 0) = True := by
          rw [l_le (by omega) (by omega)]; exact eq_true (by omega)
        rw [if_neg (fun z => c2 z.2)]
        simp (disch := first | omega | decide | exact ko_b _ | assumption | (simp only [t_si, t_sl, t_sr, t_sI, t_sR, n_si, n_sl, n_sr, n_sI, n_sR, r_si, r_sl, r_sI]; first | done | omega)) only [x_81_e, x_81_b, x_81_5, x_81_6, x_81_7, x_81_10, x_81_11, x_81_14, x_81_15, x_81_18, x_81_19, x_81_22, x_81_25, x_81_26, x_81_27, x_81_30, x_81_31, x_81_32, x_81_35, x_81_36, x_81_37, x_81_40, bk_v, bk_n, nl_I, nl_R, nl_L, nl_0, oo_lt, oo_le, oo_eq, oo_add, oo_sub, oo_tn, oo_ir, nn_leT, nn_leF, nn_ltT, nn_ltF, nn_eqT, nn_eqF, bv_0, bv_1, ko_b, ko_1, ko_0, true_and, and_true, if_true, if_false, not_true_eq_false, not_false_eq_true, oo_02, decide_eq_true_eq, decide_eq_false_iff_not, ite_not, Nat.reduceAdd, Nat.reduceLT, Nat.reduceSub, Nat.reduceLeDiff, reduceIte, Bool.true_eq_false, Bool.false_eq_true, reduceCtorEq, eq_self, decide_true, decide_false, bv_t, bv_f, and_self, t_si, t_sl, t_sr, t_sI, t_sR, n_si, n_sl, n_sr, n_sI, n_sR, r_si, r_sl, r_sI, ctb, sbN, jb, jx, q38, lg_le, c3]
    · rw [if_neg (fun z => c z.1)]
      refine ⟨u, hC, fun Q => ?_⟩
      rw [x_81_4]
      simp (disch := first | omega | decide | exact ko_b _ | assumption | (simp only [t_si, t_sl, t_sr, t_sI, t_sR, n_si, n_sl, n_sr, n_sI, n_sR, r_si, r_sl, r_sI]; first | done | omega)) only [x_81_e, x_81_b, x_81_5, x_81_6, x_81_7, x_81_10, x_81_11, x_81_14, x_81_15, x_81_18, x_81_19, x_81_22, x_81_25, x_81_26, x_81_27, x_81_30, x_81_31, x_81_32, x_81_35, x_81_36, x_81_37, x_81_40, bk_v, bk_n, nl_I, nl_R, nl_L, nl_0, oo_lt, oo_le, oo_eq, oo_add, oo_sub, oo_tn, oo_ir, nn_leT, nn_leF, nn_ltT, nn_ltF, nn_eqT, nn_eqF, bv_0, bv_1, ko_b, ko_1, ko_0, true_and, and_true, if_true, if_false, not_true_eq_false, not_false_eq_true, oo_02, decide_eq_true_eq, decide_eq_false_iff_not, ite_not, Nat.reduceAdd, Nat.reduceLT, Nat.reduceSub, Nat.reduceLeDiff, reduceIte, Bool.true_eq_false, Bool.false_eq_true, reduceCtorEq, eq_self, decide_true, decide_false, bv_t, bv_f, and_self, t_si, t_sl, t_sr, t_sI, t_sR, n_si, n_sl, n_sr, n_sI, n_sR, r_si, r_sl, r_sI, ctb, sbN, jb, jx]) ⟨fr_rf _ _, by omega⟩
  refine ⟨u, i1, fun Q => ?_⟩
  have r1 := RC_n hw0 hV i1
  have ctb := fun d Q => c_tables r1 hV (d := d) (Q := Q)
  have t0 : w_t u 1000 = 20 := r1.1.1
  have fin : wp (d + 10) 81 4 [some (v_R (some 1000)), some (v_I (Int32.ofNat (it_ (f_ms1 (sm_T S) (bm_X (sm_B S))) 1 (P - 1) 0))), some (v_I (Int32.ofNat (1 + (P - 1))))] [] u Q = Q (Sum.inl (some (v_I (Int32.ofNat (f_mst (sm_T S) (bm_X (sm_B S))))))) u := by
    unfold f_mst
    rw [x_81_4, ← hP]
    simp (disch := first | omega | decide | exact ko_b _ | assumption | (simp only [t_si, t_sl, t_sr, t_sI, t_sR, n_si, n_sl, n_sr, n_sI, n_sR, r_si, r_sl, r_sI]; first | done | omega)) only [x_81_e, x_81_b, x_81_5, x_81_6, x_81_7, x_81_10, x_81_11, x_81_e, x_81_b, x_81_43, x_81_44, bk_v, bk_n, nl_I, nl_R, nl_L, nl_0, oo_lt, oo_le, oo_eq, oo_add, oo_sub, oo_tn, oo_ir, nn_leT, nn_leF, nn_ltT, nn_ltF, nn_eqT, nn_eqF, bv_0, bv_1, ko_b, ko_1, ko_0, true_and, and_true, if_true, if_false, not_true_eq_false, not_false_eq_true, oo_02, decide_eq_true_eq, decide_eq_false_iff_not, ite_not, Nat.reduceAdd, Nat.reduceLT, Nat.reduceSub, Nat.reduceLeDiff, reduceIte, Bool.true_eq_false, Bool.false_eq_true, reduceCtorEq, eq_self, decide_true, decide_false, bv_t, bv_f, and_self, t_si, t_sl, t_sr, t_sI, t_sR, n_si, n_sl, n_sr, n_sI, n_sR, r_si, r_sl, r_sI, ctb, sbN]
  refine Eq.trans ?_ ((q1 Q).trans fin)
  simp (disch := first | omega | decide | exact ko_b _ | assumption | (simp only [t_si, t_sl, t_sr, t_sI, t_sR, n_si, n_sl, n_sr, n_sI, n_sR, r_si, r_sl, r_sI]; first | done | omega)) only [x_81_e, x_81_b, x_81_0, x_81_1, x_81_2, x_81_3, bk_v, bk_n, nl_I, nl_R, nl_L, nl_0, oo_lt, oo_le, oo_eq, oo_add, oo_sub, oo_tn, oo_ir, nn_leT, nn_leF, nn_ltT, nn_ltF, nn_eqT, nn_eqF, bv_0, bv_1, ko_b, ko_1, ko_0, true_and, and_true, if_true, if_false, not_true_eq_false, not_false_eq_true, oo_02, decide_eq_true_eq, decide_eq_false_iff_not, ite_not, Nat.reduceAdd, Nat.reduceLT, Nat.reduceSub, Nat.reduceLeDiff, reduceIte, Bool.true_eq_false, Bool.false_eq_true, reduceCtorEq, eq_self, decide_true, decide_false, bv_t, bv_f, and_self, t_si, t_sl, t_sr, t_sI, t_sR, n_si, n_sl, n_sr, n_sI, n_sR, r_si, r_sl, r_sI]
def q_most (T : Tm) (X : Xm) (x : Int32) : Int32 := if x = Int32.ofNat 0 then Int32.ofNat (bt_n (f_mst T X)) else Int32.ofNat (f_mst T X)
theorem c_most (h : RC_ w G σ S) (hV : WS_ S) {d : Nat} {x : Int32} (hx : Int32.ofNat 0 ≤ x ∧ x ≤ Int32.ofNat 1) : CR_ G (d + 12) 80 [v_R (some 1000), v_I x] w (v_I (q_most (sm_T S) (bm_X (sm_B S)) x)) := by
  have hn10 := hV.1.1
  obtain ⟨w1, f1, q1⟩ := c_mostOf h hV (d := d + 1)
  have hm : f_mst (sm_T S) (bm_X (sm_B S)) < 1024 := Nat.lt_of_lt_of_le (mst_lt _ _).1 (p2_le hn10)
  have jb := fun d Q => j_bits (w := w1) (d := d) (Q := Q) hm
  refine ⟨w1, fr_mo f1 (fun a k z => z.elim), fun Q => ?_⟩
  have t0 : w_t w 1000 = 20 := h.1.1
  unfold q_most
  by_cases z : x = Int32.ofNat 0
  · subst z
    simp (disch := first | omega | decide | exact ko_b _ | assumption | (simp only [t_si, t_sl, t_sr, t_sI, t_sR, n_si, n_sl, n_sr, n_sI, n_sR, r_si, r_sl, r_sI]; first | done | omega)) only [x_80_e, x_80_b, x_80_0, x_80_1, x_80_2, x_80_3, x_80_6, x_80_9, x_80_10, x_80_13, x_80_14, x_80_15, x_80_18, x_80_19, x_80_22, x_80_25, x_80_26, bk_v, bk_n, nl_I, nl_R, nl_L, nl_0, oo_lt, oo_le, oo_eq, oo_add, oo_sub, oo_tn, oo_ir, nn_leT, nn_leF, nn_ltT, nn_ltF, nn_eqT, nn_eqF, bv_0, bv_1, ko_b, ko_1, ko_0, true_and, and_true, if_true, if_false, not_true_eq_false, not_false_eq_true, oo_02, decide_eq_true_eq, decide_eq_false_iff_not, ite_not, Nat.reduceAdd, Nat.reduceLT, Nat.reduceSub, Nat.reduceLeDiff, reduceIte, Bool.true_eq_false, Bool.false_eq_true, reduceCtorEq, eq_self, decide_true, decide_false, bv_t, bv_f, and_self, t_si, t_sl, t_sr, t_sI, t_sR, n_si, n_sl, n_sr, n_sI, n_sR, r_si, r_sl, r_sI, c_in, hx, c_th1, q1, jb]
  · simp (disch := first | omega | decide | exact ko_b _ | assumption | (simp only [t_si, t_sl, t_sr, t_sI, t_sR, n_si, n_sl, n_sr, n_sI, n_sR, r_si, r_sl, r_sI]; first | done | omega)) only [x_80_e, x_80_b, x_80_0, x_80_1, x_80_2, x_80_3, x_80_6, x_80_9, x_80_10, x_80_13, x_80_14, x_80_15, x_80_18, x_80_19, x_80_22, x_80_25, x_80_26, bk_v, bk_n, nl_I, nl_R, nl_L, nl_0, oo_lt, oo_le, oo_eq, oo_add, oo_sub, oo_tn, oo_ir, nn_leT, nn_leF, nn_ltT, nn_ltF, nn_eqT, nn_eqF, bv_0, bv_1, ko_b, ko_1, ko_0, true_and, and_true, if_true, if_false, not_true_eq_false, not_false_eq_true, oo_02, decide_eq_true_eq, decide_eq_false_iff_not, ite_not, Nat.reduceAdd, Nat.reduceLT, Nat.reduceSub, Nat.reduceLeDiff, reduceIte, Bool.true_eq_false, Bool.false_eq_true, reduceCtorEq, eq_self, decide_true, decide_false, bv_t, bv_f, and_self, t_si, t_sl, t_sr, t_sI, t_sR, n_si, n_sl, n_sr, n_sI, n_sR, r_si, r_sl, r_sI, c_in, hx, c_th1, q1, z]
theorem c_most_x (h : RC_ w G σ S) (hV : WS_ S) {d : Nat} {x : Int32} (hx : ¬ (Int32.ofNat 0 ≤ x ∧ x ≤ Int32.ofNat 1)) : CX_ G (d + 12) 80 [v_R (some 1000), v_I x] w 40 := cx_0 fun Q => by
  simp (disch := first | omega | decide | exact ko_b _ | assumption | (simp only [t_si, t_sl, t_sr, t_sI, t_sR, n_si, n_sl, n_sr, n_sI, n_sR, r_si, r_sl, r_sI]; first | done | omega)) only [x_80_e, x_80_b, x_80_0, x_80_1, x_80_2, x_80_3, x_80_6, x_80_9, bk_v, bk_n, nl_I, nl_R, nl_L, nl_0, oo_lt, oo_le, oo_eq, oo_add, oo_sub, oo_tn, oo_ir, nn_leT, nn_leF, nn_ltT, nn_ltF, nn_eqT, nn_eqF, bv_0, bv_1, ko_b, ko_1, ko_0, true_and, and_true, if_true, if_false, not_true_eq_false, not_false_eq_true, oo_02, decide_eq_true_eq, decide_eq_false_iff_not, ite_not, Nat.reduceAdd, Nat.reduceLT, Nat.reduceSub, Nat.reduceLeDiff, reduceIte, Bool.true_eq_false, Bool.false_eq_true, reduceCtorEq, eq_self, decide_true, decide_false, bv_t, bv_f, and_self, t_si, t_sl, t_sr, t_sI, t_sR, n_si, n_sl, n_sr, n_sI, n_sR, r_si, r_sl, r_sI, c_in, hx, c_th0]
end
