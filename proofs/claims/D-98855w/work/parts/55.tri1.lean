/-! TRIALS, part one: see, forget, marry, nod, broken, when, without -/
set_option maxRecDepth 100000
def b_see (B : Bm) (l : Nat) (x : Int32) : Bm := (bm_X B, bm_a B, bm_h B, bm_m B + 1, fun k => if k = bm_m B then l else bm_l B k, fun k => if k = bm_m B then x else bm_t B k, bm_r B)
def b_fgt (B : Bm) : Bm := (bm_X B, bm_a B, bm_h B, 0, bm_l B, bm_t B, bm_r B)
def x_mea (X : Xm) (t : Nat) (v : Int32) : Xm := (xm_L X, xm_t X, fun j => if j = t then v else xm_m X j, xm_w X, xm_l X, xm_y X, xm_c X)
def f_mar (T : Tm) (y : Int32) (a b : Nat) : Bool := decide (tm_wt T b ≤ f_car T y a false ∧ tm_wt T a ≤ f_car T y b false)
theorem l99_m : Int64.ofInt (-99) = (Int32.ofInt (-99)).toInt64 := by decide
section
variable {w : Wd} {S : Sm} {G : Gm} {σ : Nat → Nat}
theorem m_see (h9 : RM_ w S) (hV : WS_ S) {d l : Nat} {x : Int32} (hm : bm_m (sm_B S) ≠ 8) (hl : l < xm_L (bm_X (sm_B S))) (hx : Int32.ofInt (-99) ≤ x ∧ x ≤ Int32.ofNat 99) : MA_ (d + 6) 248 [v_R (some 1440), v_I (Int32.ofNat l), v_I x] w (v_I (Int32.ofNat (bm_m (sm_B S) + 1))) 0 (s_set S (b_see (sm_B S) l x)) := by
  refine ma_go (ls := [some (v_R (some 1440)), some (v_I (Int32.ofNat l)), some (v_I x)]) h9 (fun Q => ?_) (fun w0 h hc => ?_)
  · have h := h9
    have hq := RM_MQ h hV
    have hMM := hq
    obtain ⟨hM, hT, hS, ⟨hn, hk4⟩, hW1, hW2, hW3⟩ := hMM
    unfold sh_M at hM
    unfold MT_ at hT
    unfold MS_ at hS
    have hB := h.2.2.1.2
    unfold PK_ at hB
    have hR := h.2.2.2
    simp (disch := first | omega | decide | exact ko_b _ | assumption | (simp only [t_si, t_sl, t_sr, t_sI, t_sR, n_si, n_sl, n_sr, n_sI, n_sR, r_si, r_sl, r_sI]; first | done | omega)) only [x_248_e, x_248_b, x_248_0, x_248_1, x_248_2, x_248_6, x_248_9, x_248_11, x_248_14, x_248_15, x_248_16, x_248_19, x_248_22, x_248_23, x_248_24, x_248_27, x_248_30, x_248_33, x_248_36, x_248_37, x_248_38, x_248_41, x_248_42, x_248_43, x_248_46, x_248_47, x_248_50, x_248_51, x_248_52, x_248_53, x_248_56, x_248_57, x_248_60, x_248_61, x_248_62, x_248_63, x_248_64, x_248_67, x_248_68, x_248_69, x_248_72, x_248_73, x_248_76, bk_v, bk_n, nl_I, nl_R, nl_L, nl_0, oo_lt, oo_le, oo_eq, oo_add, oo_sub, oo_tn, oo_ir, nn_leT, nn_leF, nn_ltT, nn_ltF, nn_eqT, nn_eqF, bv_0, bv_1, ko_b, ko_1, ko_0, true_and, and_true, if_true, if_false, not_true_eq_false, not_false_eq_true, oo_02, decide_eq_true_eq, decide_eq_false_iff_not, ite_not, Nat.reduceAdd, Nat.reduceLT, Nat.reduceSub, Nat.reduceLeDiff, reduceIte, Bool.true_eq_false, Bool.false_eq_true, reduceCtorEq, eq_self, decide_true, decide_false, bv_t, bv_f, and_self, t_si, t_sl, t_sr, t_sI, t_sR, n_si, n_sl, n_sr, n_sI, n_sR, r_si, r_sl, r_sI, hM, hT, hS, hB, hR]
  · have hm8 := hV.2.2.2.1.2.2.2.2.2.1
    have f2 : Fr_ pb_ w0 (s_i (s_i (s_i w0 1466 (bm_m (sm_B S)) (Int32.ofNat l)) 1467 (bm_m (sm_B S)) x) 1440 32 (Int32.ofNat (bm_m (sm_B S) + 1))) := fr_si (fr_si (fr_si (fr_rf _ _) (by unfold pb_; omega)) (by unfold pb_; omega)) (by unfold pb_; omega)
    refine ⟨_, f2, RM_B h f2 ?_, ?_, fun Q => ?_⟩
    · obtain ⟨g1, g2, g3, g4, g5, g6, g7⟩ := h.2.2.1
      unfold MS_ PK_ at *
      unfold MB_ MS_ PK_
      simp only [i_si, Nat.reduceEqDiff, false_and, and_false, if_false, true_and, and_self, if_true]
      refine ⟨g1, g2, g3, rfl, fun k hk => ?_, fun k hk => ?_, g7⟩
      · have hk : k < bm_m (sm_B S) + 1 := hk
        show _ = Int32.ofNat (if k = bm_m (sm_B S) then l else bm_l (sm_B S) k)
        by_cases e : k = bm_m (sm_B S)
        · rw [if_pos e, if_pos e]
        · rw [if_neg e, if_neg e]; exact g5 k (by omega)
      · have hk : k < bm_m (sm_B S) + 1 := hk
        show _ = if k = bm_m (sm_B S) then x else bm_t (sm_B S) k
        by_cases e : k = bm_m (sm_B S)
        · rw [if_pos e, if_pos e]
        · rw [if_neg e, if_neg e]; exact g6 k (by omega)
    · rw [i_si, if_neg (by omega), i_si, if_neg (by omega), i_si, if_neg (by omega)]; exact hc
    · have hq := RM_MQ h hV
      have hMM := hq
      obtain ⟨hM, hT, hS, ⟨hn, hk4⟩, hW1, hW2, hW3⟩ := hMM
      unfold sh_M at hM
      unfold MT_ at hT
      unfold MS_ at hS
      have hB := h.2.2.1.2
      unfold PK_ at hB
      have hR := h.2.2.2
      have hy := oo_yes hl (by omega)
      simp (disch := first | omega | decide | exact ko_b _ | assumption | (simp only [t_si, t_sl, t_sr, t_sI, t_sR, n_si, n_sl, n_sr, n_sI, n_sR, r_si, r_sl, r_sI]; first | done | omega)) only [x_248_e, x_248_b, x_248_0, x_248_1, x_248_2, x_248_5, x_248_6, x_248_9, x_248_11, x_248_14, x_248_15, x_248_16, x_248_19, x_248_22, x_248_23, x_248_24, x_248_27, x_248_30, x_248_33, x_248_36, x_248_37, x_248_38, x_248_41, x_248_42, x_248_43, x_248_46, x_248_47, x_248_50, x_248_51, x_248_52, x_248_53, x_248_56, x_248_57, x_248_60, x_248_61, x_248_62, x_248_63, x_248_64, x_248_67, x_248_68, x_248_69, x_248_72, x_248_73, x_248_76, bk_v, bk_n, nl_I, nl_R, nl_L, nl_0, oo_lt, oo_le, oo_eq, oo_add, oo_sub, oo_tn, oo_ir, nn_leT, nn_leF, nn_ltT, nn_ltF, nn_eqT, nn_eqF, bv_0, bv_1, ko_b, ko_1, ko_0, true_and, and_true, if_true, if_false, not_true_eq_false, not_false_eq_true, oo_02, decide_eq_true_eq, decide_eq_false_iff_not, ite_not, Nat.reduceAdd, Nat.reduceLT, Nat.reduceSub, Nat.reduceLeDiff, reduceIte, Bool.true_eq_false, Bool.false_eq_true, reduceCtorEq, eq_self, decide_true, decide_false, bv_t, bv_f, and_self, t_si, t_sl, t_sr, t_sI, t_sR, n_si, n_sl, n_sr, n_sI, n_sR, r_si, r_sl, r_sI, hM, hT, hS, hB, hR, m_isL h hV, hy, m_in, l99_m, ll_o, ll_le, hx, i_si, Nat.reduceEqDiff, false_and, and_false]
theorem m_see_no (h9 : RM_ w S) (hV : WS_ S) {d : Nat} {y x : Int32} (hno : bm_m (sm_B S) = 8 ∨ no_in y (xm_L (bm_X (sm_B S))) ∨ ¬ (Int32.ofInt (-99) ≤ x ∧ x ≤ Int32.ofNat 99)) : MA_ (d + 6) 248 [v_R (some 1440), v_I y, v_I x] w (v_I (Int32.ofInt (-1))) 0 (s_set S (b_ref (sm_B S) 2)) := by
  refine ma_go (ls := [some (v_R (some 1440)), some (v_I y), some (v_I x)]) h9 (fun Q => ?_) (fun w0 h hc => ?_)
  · have h := h9
    have hq := RM_MQ h hV
    have hMM := hq
    obtain ⟨hM, hT, hS, ⟨hn, hk4⟩, hW1, hW2, hW3⟩ := hMM
    unfold sh_M at hM
    unfold MT_ at hT
    unfold MS_ at hS
    have hB := h.2.2.1.2
    unfold PK_ at hB
    have hR := h.2.2.2
    simp (disch := first | omega | decide | exact ko_b _ | assumption | (simp only [t_si, t_sl, t_sr, t_sI, t_sR, n_si, n_sl, n_sr, n_sI, n_sR, r_si, r_sl, r_sI]; first | done | omega)) only [x_248_e, x_248_b, x_248_0, x_248_1, x_248_2, x_248_6, x_248_9, x_248_11, x_248_14, x_248_15, x_248_16, x_248_19, x_248_22, x_248_23, x_248_24, x_248_27, x_248_30, x_248_33, x_248_36, x_248_37, x_248_38, x_248_41, x_248_42, x_248_43, x_248_46, x_248_47, x_248_50, x_248_51, x_248_52, x_248_53, x_248_56, x_248_57, x_248_60, x_248_61, x_248_62, x_248_63, x_248_64, x_248_67, x_248_68, x_248_69, x_248_72, x_248_73, x_248_76, bk_v, bk_n, nl_I, nl_R, nl_L, nl_0, oo_lt, oo_le, oo_eq, oo_add, oo_sub, oo_tn, oo_ir, nn_leT, nn_leF, nn_ltT, nn_ltF, nn_eqT, nn_eqF, bv_0, bv_1, ko_b, ko_1, ko_0, true_and, and_true, if_true, if_false, not_true_eq_false, not_false_eq_true, oo_02, decide_eq_true_eq, decide_eq_false_iff_not, ite_not, Nat.reduceAdd, Nat.reduceLT, Nat.reduceSub, Nat.reduceLeDiff, reduceIte, Bool.true_eq_false, Bool.false_eq_true, reduceCtorEq, eq_self, decide_true, decide_false, bv_t, bv_f, and_self, t_si, t_sl, t_sr, t_sI, t_sR, n_si, n_sl, n_sr, n_sI, n_sR, r_si, r_sl, r_sI, hM, hT, hS, hB, hR]
  · have hm8 := hV.2.2.2.1.2.2.2.2.2.1
    obtain ⟨w1, f1, r1, c1, q1⟩ := m_refuse h hV (d := d + 5) (j := 2) (by omega)
    refine ⟨w1, f1, r1, c1.trans hc, fun Q => ?_⟩
    have hq := RM_MQ h hV
    have hMM := hq
    obtain ⟨hM, hT, hS, ⟨hn, hk4⟩, hW1, hW2, hW3⟩ := hMM
    unfold sh_M at hM
    unfold MT_ at hT
    unfold MS_ at hS
    have hB := h.2.2.1.2
    unfold PK_ at hB
    have hR := h.2.2.2
    by_cases e : bm_m (sm_B S) = 8
    · simp (disch := first | omega | decide | exact ko_b _ | assumption | (simp only [t_si, t_sl, t_sr, t_sI, t_sR, n_si, n_sl, n_sr, n_sI, n_sR, r_si, r_sl, r_sI]; first | done | omega)) only [x_248_e, x_248_b, x_248_0, x_248_1, x_248_2, x_248_5, x_248_6, x_248_9, x_248_11, x_248_14, x_248_15, x_248_16, x_248_19, x_248_22, x_248_23, x_248_24, x_248_27, x_248_30, x_248_33, x_248_36, x_248_37, x_248_38, x_248_41, x_248_42, x_248_43, x_248_46, x_248_47, x_248_50, x_248_51, x_248_52, x_248_53, x_248_56, x_248_57, x_248_60, x_248_61, x_248_62, x_248_63, x_248_64, x_248_67, x_248_68, x_248_69, x_248_72, x_248_73, x_248_76, bk_v, bk_n, nl_I, nl_R, nl_L, nl_0, oo_lt, oo_le, oo_eq, oo_add, oo_sub, oo_tn, oo_ir, nn_leT, nn_leF, nn_ltT, nn_ltF, nn_eqT, nn_eqF, bv_0, bv_1, ko_b, ko_1, ko_0, true_and, and_true, if_true, if_false, not_true_eq_false, not_false_eq_true, oo_02, decide_eq_true_eq, decide_eq_false_iff_not, ite_not, Nat.reduceAdd, Nat.reduceLT, Nat.reduceSub, Nat.reduceLeDiff, reduceIte, Bool.true_eq_false, Bool.false_eq_true, reduceCtorEq, eq_self, decide_true, decide_false, bv_t, bv_f, and_self, t_si, t_sl, t_sr, t_sI, t_sR, n_si, n_sl, n_sr, n_sI, n_sR, r_si, r_sl, r_sI, hM, hT, hS, hB, hR, e, q1]
    · rcases oo_3 y (xm_L (bm_X (sm_B S))) (by omega) with ⟨k, k1, rfl⟩ | k1
      · have hy := oo_yes k1 (by omega)
        by_cases e2 : Int32.ofInt (-99) ≤ x ∧ x ≤ Int32.ofNat 99
        · rcases hno with hno | hno | hno
          · exact absurd hno e
          · rcases hno with hno | ⟨k', a1, a2, a3⟩
            · exact absurd hy.1 (Int32.not_le.mpr hno)
            · have := oo_inj (by omega) (by omega) a3; omega
          · exact absurd e2 hno
        · simp (disch := first | omega | decide | exact ko_b _ | assumption | (simp only [t_si, t_sl, t_sr, t_sI, t_sR, n_si, n_sl, n_sr, n_sI, n_sR, r_si, r_sl, r_sI]; first | done | omega)) only [x_248_e, x_248_b, x_248_0, x_248_1, x_248_2, x_248_5, x_248_6, x_248_9, x_248_11, x_248_14, x_248_15, x_248_16, x_248_19, x_248_22, x_248_23, x_248_24, x_248_27, x_248_30, x_248_33, x_248_36, x_248_37, x_248_38, x_248_41, x_248_42, x_248_43, x_248_46, x_248_47, x_248_50, x_248_51, x_248_52, x_248_53, x_248_56, x_248_57, x_248_60, x_248_61, x_248_62, x_248_63, x_248_64, x_248_67, x_248_68, x_248_69, x_248_72, x_248_73, x_248_76, bk_v, bk_n, nl_I, nl_R, nl_L, nl_0, oo_lt, oo_le, oo_eq, oo_add, oo_sub, oo_tn, oo_ir, nn_leT, nn_leF, nn_ltT, nn_ltF, nn_eqT, nn_eqF, bv_0, bv_1, ko_b, ko_1, ko_0, true_and, and_true, if_true, if_false, not_true_eq_false, not_false_eq_true, oo_02, decide_eq_true_eq, decide_eq_false_iff_not, ite_not, Nat.reduceAdd, Nat.reduceLT, Nat.reduceSub, Nat.reduceLeDiff, reduceIte, Bool.true_eq_false, Bool.false_eq_true, reduceCtorEq, eq_self, decide_true, decide_false, bv_t, bv_f, and_self, t_si, t_sl, t_sr, t_sI, t_sR, n_si, n_sl, n_sr, n_sI, n_sR, r_si, r_sl, r_sI, hM, hT, hS, hB, hR, m_isL h hV, hy, m_in, l99_m, ll_o, ll_le, e2, q1]
      · have hy := decide_eq_false (oo_no (by omega) k1)
        simp (disch := first | omega | decide | exact ko_b _ | assumption | (simp only [t_si, t_sl, t_sr, t_sI, t_sR, n_si, n_sl, n_sr, n_sI, n_sR, r_si, r_sl, r_sI]; first | done | omega)) only [x_248_e, x_248_b, x_248_0, x_248_1, x_248_2, x_248_5, x_248_6, x_248_9, x_248_11, x_248_14, x_248_15, x_248_16, x_248_19, x_248_22, x_248_23, x_248_24, x_248_27, x_248_30, x_248_33, x_248_36, x_248_37, x_248_38, x_248_41, x_248_42, x_248_43, x_248_46, x_248_47, x_248_50, x_248_51, x_248_52, x_248_53, x_248_56, x_248_57, x_248_60, x_248_61, x_248_62, x_248_63, x_248_64, x_248_67, x_248_68, x_248_69, x_248_72, x_248_73, x_248_76, bk_v, bk_n, nl_I, nl_R, nl_L, nl_0, oo_lt, oo_le, oo_eq, oo_add, oo_sub, oo_tn, oo_ir, nn_leT, nn_leF, nn_ltT, nn_ltF, nn_eqT, nn_eqF, bv_0, bv_1, ko_b, ko_1, ko_0, true_and, and_true, if_true, if_false, not_true_eq_false, not_false_eq_true, oo_02, decide_eq_true_eq, decide_eq_false_iff_not, ite_not, Nat.reduceAdd, Nat.reduceLT, Nat.reduceSub, Nat.reduceLeDiff, reduceIte, Bool.true_eq_false, Bool.false_eq_true, reduceCtorEq, eq_self, decide_true, decide_false, bv_t, bv_f, and_self, t_si, t_sl, t_sr, t_sI, t_sR, n_si, n_sl, n_sr, n_sI, n_sR, r_si, r_sl, r_sI, hM, hT, hS, hB, hR, m_isL h hV, hy, q1]
theorem c_see (h : RC_ w G σ S) (hV : WS_ S) {d l : Nat} {x : Int32} (hm : bm_m (sm_B S) ≠ 8) (hl : l < xm_L (bm_X (sm_B S))) (hx : Int32.ofInt (-99) ≤ x ∧ x ≤ Int32.ofNat 99) : CA_ (d + 12) 57 [v_R (some 1000), v_I (Int32.ofNat l), v_I x] w (v_I (Int32.ofNat (bm_m (sm_B S) + 1))) G (s_set S (b_see (sm_B S) l x)) := by
  have hm8 := hV.2.2.2.1.2.2.2.2.2.1
  have ha40 := hV.2.2.2.1.2.2.1
  have f2 : Fr_ (fun a k => a = 1015 ∨ a = 1016 ∨ (a = 1007 ∧ k = 6)) w (s_i (s_i (s_i w 1015 (bm_m (sm_B S)) (Int32.ofNat l)) 1016 (bm_m (sm_B S)) x) 1007 6 (Int32.ofNat (bm_m (sm_B S) + 1))) := fr_si (fr_si (fr_si (fr_rf _ _) (by omega)) (by omega)) (by omega)
  have ff := fr_fb f2 (fun a k z => by omega)
  have g : ∀ a k, a ≠ 1015 → a ≠ 1016 → (a ≠ 1007 ∨ k ≠ 6) → w_i (s_i (s_i (s_i w 1015 (bm_m (sm_B S)) (Int32.ofNat l)) 1016 (bm_m (sm_B S)) x) 1007 6 (Int32.ofNat (bm_m (sm_B S) + 1))) a k = w_i w a k := fun a k z1 z2 z3 => f2.2.2.2.2.2 a k (by omega)
  have hL : CL_ w 1007 σ := h.2.2.2.2.2.2.1
  obtain ⟨b1, b2, b3, b4, b5, b6, b7⟩ : CB_ w 1007 σ (tm_n (sm_T S)) (sm_B S) := h.2.2.2.2.2.2.2.1
  refine ⟨_, σ, ff, RC_B h hV ff (CL_ag hL (g _ _ (by omega) (by omega) (by omega)) (fun k => rfl)) ⟨?_, ?_, fun k hk => ?_, ?_, fun k hk => ?_, fun k hk => ?_, fun k hk => ?_⟩, fun Q => ?_⟩
  · exact CS_ag b1 (fun b k e1 e2 => g b k (by omega) (by omega) (by omega))
  · rw [g _ _ (by omega) (by omega) (by omega)]; exact b2
  · have hk : k < bm_a (sm_B S) := hk
    exact CS_ag (b3 k hk) (fun b k e1 e2 => g b k (by omega) (by omega) (by omega))
  · rw [i_si, if_pos ⟨rfl, rfl⟩]; rfl
  · have hk : k < bm_m (sm_B S) + 1 := hk
    show w_i _ 1015 k = Int32.ofNat (if k = bm_m (sm_B S) then l else bm_l (sm_B S) k)
    simp only [i_si, Nat.reduceEqDiff, false_and, and_false, if_false, true_and]
    by_cases e : k = bm_m (sm_B S)
    · rw [if_pos e, if_pos e]
    · rw [if_neg e, if_neg e]; exact b5 k (by omega)
  · have hk : k < bm_m (sm_B S) + 1 := hk
    show w_i _ 1016 k = if k = bm_m (sm_B S) then x else bm_t (sm_B S) k
    simp only [i_si, Nat.reduceEqDiff, false_and, and_false, if_false, true_and]
    by_cases e : k = bm_m (sm_B S)
    · rw [if_pos e, if_pos e]
    · rw [if_neg e, if_neg e]; exact b6 k (by omega)
  · rw [g _ _ (by omega) (by omega) (by omega)]; exact b7 k hk
  · have hq := RC_CQ h hV
    have hC := h.1
    unfold sh_C at hC
    have hr0 : w_r w 1000 0 = some (gm_b G) := h.2.2.1
    have hT := h.2.2.2.1
    unfold CT_ at hT
    have hA : SO_ w 1008 := h.2.1.2.1.1
    unfold SO_ at hA
    have hA2 : SO_ w 1429 := h.2.1.2.2.2.2
    unfold SO_ at hA2
    have hS : CS_ w 1008 (tm_n (sm_T S)) (bm_X (sm_B S)) := h.2.2.2.2.2.2.2.1.1
    unfold CS_ at hS
    have hK : sh_B w 1007 := h.2.1.1
    unfold sh_B at hK
    have hB := h.2.2.2.2.2.2.2.1.2
    have hR := h.2.2.2.2.2.2.2.2.2
    simp only [Nat.reduceAdd] at hA hA2 hS hK hB
    obtain ⟨hn, hk4⟩ := hV.1
    obtain ⟨hW1, hW2, hW3⟩ := hV.2.2.2.1.1
    simp (disch := first | omega | decide | exact ko_b _ | assumption | (simp only [t_si, t_sl, t_sr, t_sI, t_sR, n_si, n_sl, n_sr, n_sI, n_sR, r_si, r_sl, r_sI]; first | done | omega)) only [x_57_e, x_57_b, x_57_0, x_57_1, x_57_4, x_57_7, x_57_8, x_57_9, x_57_11, x_57_14, x_57_15, x_57_18, x_57_19, x_57_20, x_57_23, x_57_26, x_57_29, x_57_30, x_57_32, x_57_34, x_57_37, x_57_40, x_57_41, x_57_42, x_57_45, x_57_46, x_57_47, x_57_50, x_57_53, x_57_54, x_57_55, x_57_56, x_57_57, x_57_60, x_57_63, x_57_64, x_57_65, x_57_66, x_57_67, x_57_70, x_57_71, x_57_74, x_57_75, x_57_76, x_57_79, x_57_80, x_57_83, x_57_86, bk_v, bk_n, nl_I, nl_R, nl_L, nl_0, oo_lt, oo_le, oo_eq, oo_add, oo_sub, oo_tn, oo_ir, nn_leT, nn_leF, nn_ltT, nn_ltF, nn_eqT, nn_eqF, bv_0, bv_1, ko_b, ko_1, ko_0, true_and, and_true, if_true, if_false, not_true_eq_false, not_false_eq_true, oo_02, decide_eq_true_eq, decide_eq_false_iff_not, ite_not, Nat.reduceAdd, Nat.reduceLT, Nat.reduceSub, Nat.reduceLeDiff, reduceIte, Bool.true_eq_false, Bool.false_eq_true, reduceCtorEq, eq_self, decide_true, decide_false, bv_t, bv_f, and_self, t_si, t_sl, t_sr, t_sI, t_sR, n_si, n_sl, n_sr, n_sI, n_sR, r_si, r_sl, r_sI, hC, hr0, hT, hA, hS, hK, hB, hR, c_in, hx, i_si, Nat.reduceEqDiff, false_and, and_false]
theorem c_see_no (h : RC_ w G σ S) (hV : WS_ S) {d : Nat} {y x : Int32} (hno : bm_m (sm_B S) = 8 ∨ no_in y (xm_L (bm_X (sm_B S))) ∨ ¬ (Int32.ofInt (-99) ≤ x ∧ x ≤ Int32.ofNat 99)) : CA_ (d + 12) 57 [v_R (some 1000), v_I y, v_I x] w (v_I (Int32.ofInt (-1))) G (s_set S (b_ref (sm_B S) 2)) := by
  have hm8 := hV.2.2.2.1.2.2.2.2.2.1
  obtain ⟨w1, f1, r1, q1⟩ := c_refuses h hV (d := d + 11) (j := 2) (by omega)
  refine ⟨w1, σ, f1, r1, fun Q => ?_⟩
  have hq := RC_CQ h hV
  have hC := h.1
  unfold sh_C at hC
  have hr0 : w_r w 1000 0 = some (gm_b G) := h.2.2.1
  have hT := h.2.2.2.1
  unfold CT_ at hT
  have hA : SO_ w 1008 := h.2.1.2.1.1
  unfold SO_ at hA
  have hA2 : SO_ w 1429 := h.2.1.2.2.2.2
  unfold SO_ at hA2
  have hS : CS_ w 1008 (tm_n (sm_T S)) (bm_X (sm_B S)) := h.2.2.2.2.2.2.2.1.1
  unfold CS_ at hS
  have hK : sh_B w 1007 := h.2.1.1
  unfold sh_B at hK
  have hB := h.2.2.2.2.2.2.2.1.2
  have hR := h.2.2.2.2.2.2.2.2.2
  simp only [Nat.reduceAdd] at hA hA2 hS hK hB
  obtain ⟨hn, hk4⟩ := hV.1
  obtain ⟨hW1, hW2, hW3⟩ := hV.2.2.2.1.1
  by_cases e : bm_m (sm_B S) = 8
  · simp (disch := first | omega | decide | exact ko_b _ | assumption | (simp only [t_si, t_sl, t_sr, t_sI, t_sR, n_si, n_sl, n_sr, n_sI, n_sR, r_si, r_sl, r_sI]; first | done | omega)) only [x_57_e, x_57_b, x_57_0, x_57_1, x_57_4, x_57_7, x_57_8, x_57_9, x_57_11, x_57_14, x_57_15, x_57_18, x_57_19, x_57_20, x_57_23, x_57_26, x_57_29, x_57_30, x_57_32, x_57_34, x_57_37, x_57_40, x_57_41, x_57_42, x_57_45, x_57_46, x_57_47, x_57_50, x_57_53, x_57_54, x_57_55, x_57_56, x_57_57, x_57_60, x_57_63, x_57_64, x_57_65, x_57_66, x_57_67, x_57_70, x_57_71, x_57_74, x_57_75, x_57_76, x_57_79, x_57_80, x_57_83, x_57_86, bk_v, bk_n, nl_I, nl_R, nl_L, nl_0, oo_lt, oo_le, oo_eq, oo_add, oo_sub, oo_tn, oo_ir, nn_leT, nn_leF, nn_ltT, nn_ltF, nn_eqT, nn_eqF, bv_0, bv_1, ko_b, ko_1, ko_0, true_and, and_true, if_true, if_false, not_true_eq_false, not_false_eq_true, oo_02, decide_eq_true_eq, decide_eq_false_iff_not, ite_not, Nat.reduceAdd, Nat.reduceLT, Nat.reduceSub, Nat.reduceLeDiff, reduceIte, Bool.true_eq_false, Bool.false_eq_true, reduceCtorEq, eq_self, decide_true, decide_false, bv_t, bv_f, and_self, t_si, t_sl, t_sr, t_sI, t_sR, n_si, n_sl, n_sr, n_sI, n_sR, r_si, r_sl, r_sI, hC, hr0, hT, hA, hS, hK, hB, hR, e, q1]
  · rcases oo_3 y (xm_L (bm_X (sm_B S))) (by omega) with ⟨k, k1, rfl⟩ | k1 | ⟨k, k1, k2, rfl⟩
    · by_cases e2 : Int32.ofInt (-99) ≤ x ∧ x ≤ Int32.ofNat 99
      · rcases hno with hno | hno | hno
        · exact absurd hno e
        · rcases hno with hno | ⟨k', a1, a2, a3⟩
          · rw [oo_lt (by omega) (by omega)] at hno; omega
          · have := oo_inj (by omega) (by omega) a3; omega
        · exact absurd e2 hno
      · simp (disch := first | omega | decide | exact ko_b _ | assumption | (simp only [t_si, t_sl, t_sr, t_sI, t_sR, n_si, n_sl, n_sr, n_sI, n_sR, r_si, r_sl, r_sI]; first | done | omega)) only [x_57_e, x_57_b, x_57_0, x_57_1, x_57_4, x_57_7, x_57_8, x_57_9, x_57_11, x_57_14, x_57_15, x_57_18, x_57_19, x_57_20, x_57_23, x_57_26, x_57_29, x_57_30, x_57_32, x_57_34, x_57_37, x_57_40, x_57_41, x_57_42, x_57_45, x_57_46, x_57_47, x_57_50, x_57_53, x_57_54, x_57_55, x_57_56, x_57_57, x_57_60, x_57_63, x_57_64, x_57_65, x_57_66, x_57_67, x_57_70, x_57_71, x_57_74, x_57_75, x_57_76, x_57_79, x_57_80, x_57_83, x_57_86, bk_v, bk_n, nl_I, nl_R, nl_L, nl_0, oo_lt, oo_le, oo_eq, oo_add, oo_sub, oo_tn, oo_ir, nn_leT, nn_leF, nn_ltT, nn_ltF, nn_eqT, nn_eqF, bv_0, bv_1, ko_b, ko_1, ko_0, true_and, and_true, if_true, if_false, not_true_eq_false, not_false_eq_true, oo_02, decide_eq_true_eq, decide_eq_false_iff_not, ite_not, Nat.reduceAdd, Nat.reduceLT, Nat.reduceSub, Nat.reduceLeDiff, reduceIte, Bool.true_eq_false, Bool.false_eq_true, reduceCtorEq, eq_self, decide_true, decide_false, bv_t, bv_f, and_self, t_si, t_sl, t_sr, t_sI, t_sR, n_si, n_sl, n_sr, n_sI, n_sR, r_si, r_sl, r_sI, hC, hr0, hT, hA, hS, hK, hB, hR, c_in, e2, q1]
    · simp (disch := first | omega | decide | exact ko_b _ | assumption | (simp only [t_si, t_sl, t_sr, t_sI, t_sR, n_si, n_sl, n_sr, n_sI, n_sR, r_si, r_sl, r_sI]; first | done | omega)) only [x_57_e, x_57_b, x_57_0, x_57_1, x_57_4, x_57_7, x_57_8, x_57_9, x_57_11, x_57_14, x_57_15, x_57_18, x_57_19, x_57_20, x_57_23, x_57_26, x_57_29, x_57_30, x_57_32, x_57_34, x_57_37, x_57_40, x_57_41, x_57_42, x_57_45, x_57_46, x_57_47, x_57_50, x_57_53, x_57_54, x_57_55, x_57_56, x_57_57, x_57_60, x_57_63, x_57_64, x_57_65, x_57_66, x_57_67, x_57_70, x_57_71, x_57_74, x_57_75, x_57_76, x_57_79, x_57_80, x_57_83, x_57_86, bk_v, bk_n, nl_I, nl_R, nl_L, nl_0, oo_lt, oo_le, oo_eq, oo_add, oo_sub, oo_tn, oo_ir, nn_leT, nn_leF, nn_ltT, nn_ltF, nn_eqT, nn_eqF, bv_0, bv_1, ko_b, ko_1, ko_0, true_and, and_true, if_true, if_false, not_true_eq_false, not_false_eq_true, oo_02, decide_eq_true_eq, decide_eq_false_iff_not, ite_not, Nat.reduceAdd, Nat.reduceLT, Nat.reduceSub, Nat.reduceLeDiff, reduceIte, Bool.true_eq_false, Bool.false_eq_true, reduceCtorEq, eq_self, decide_true, decide_false, bv_t, bv_f, and_self, t_si, t_sl, t_sr, t_sI, t_sR, n_si, n_sl, n_sr, n_sI, n_sR, r_si, r_sl, r_sI, hC, hr0, hT, hA, hS, hK, hB, hR, k1, q1]
    · simp (disch := first | omega | decide | exact ko_b _ | assumption | (simp only [t_si, t_sl, t_sr, t_sI, t_sR, n_si, n_sl, n_sr, n_sI, n_sR, r_si, r_sl, r_sI]; first | done | omega)) only [x_57_e, x_57_b, x_57_0, x_57_1, x_57_4, x_57_7, x_57_8, x_57_9, x_57_11, x_57_14, x_57_15, x_57_18, x_57_19, x_57_20, x_57_23, x_57_26, x_57_29, x_57_30, x_57_32, x_57_34, x_57_37, x_57_40, x_57_41, x_57_42, x_57_45, x_57_46, x_57_47, x_57_50, x_57_53, x_57_54, x_57_55, x_57_56, x_57_57, x_57_60, x_57_63, x_57_64, x_57_65, x_57_66, x_57_67, x_57_70, x_57_71, x_57_74, x_57_75, x_57_76, x_57_79, x_57_80, x_57_83, x_57_86, bk_v, bk_n, nl_I, nl_R, nl_L, nl_0, oo_lt, oo_le, oo_eq, oo_add, oo_sub, oo_tn, oo_ir, nn_leT, nn_leF, nn_ltT, nn_ltF, nn_eqT, nn_eqF, bv_0, bv_1, ko_b, ko_1, ko_0, true_and, and_true, if_true, if_false, not_true_eq_false, not_false_eq_true, oo_02, decide_eq_true_eq, decide_eq_false_iff_not, ite_not, Nat.reduceAdd, Nat.reduceLT, Nat.reduceSub, Nat.reduceLeDiff, reduceIte, Bool.true_eq_false, Bool.false_eq_true, reduceCtorEq, eq_self, decide_true, decide_false, bv_t, bv_f, and_self, t_si, t_sl, t_sr, t_sI, t_sR, n_si, n_sl, n_sr, n_sI, n_sR, r_si, r_sl, r_sI, hC, hr0, hT, hA, hS, hK, hB, hR, q1]
theorem m_fgt (h9 : RM_ w S) (hV : WS_ S) {d : Nat} : ∃ w1, Fr_ pb_ w w1 ∧ RM_ w1 (s_set S (b_fgt (sm_B S))) ∧ ∀ Q, cl d 254 [v_R (some 1440)] w Q = Q (Sum.inl none) w1 := by
  have f2 : Fr_ pb_ w (s_i (s_i w 1440 3 (Int32.ofNat 0)) 1440 32 (Int32.ofNat 0)) := fr_si (fr_si (fr_rf _ _) (by unfold pb_ pm_; omega)) (by unfold pb_; omega)
  have h := h9
  refine ⟨_, f2, RM_B h f2 ?_, fun Q => ?_⟩
  · obtain ⟨g1, g2, g3, g4, g5, g6, g7⟩ := h.2.2.1
    unfold MS_ PK_ at *
    unfold MB_ MS_ PK_
    simp only [i_si, Nat.reduceEqDiff, false_and, and_false, if_false, true_and, and_self, if_true]
    exact ⟨g1, g2, g3, rfl, fun k hk => absurd hk (Nat.not_lt_zero k), fun k hk => absurd hk (Nat.not_lt_zero k), g7⟩
  · have hM0 := h.1.1
    simp (disch := first | omega | decide | exact ko_b _ | assumption | (simp only [t_si, t_sl, t_sr, t_sI, t_sR, n_si, n_sl, n_sr, n_sI, n_sR, r_si, r_sl, r_sI]; first | done | omega)) only [x_254_e, x_254_b, x_254_0, x_254_1, x_254_2, x_254_5, x_254_6, x_254_7, x_254_10, bk_v, bk_n, nl_I, nl_R, nl_L, nl_0, oo_lt, oo_le, oo_eq, oo_add, oo_sub, oo_tn, oo_ir, nn_leT, nn_leF, nn_ltT, nn_ltF, nn_eqT, nn_eqF, bv_0, bv_1, ko_b, ko_1, ko_0, true_and, and_true, if_true, if_false, not_true_eq_false, not_false_eq_true, oo_02, decide_eq_true_eq, decide_eq_false_iff_not, ite_not, Nat.reduceAdd, Nat.reduceLT, Nat.reduceSub, Nat.reduceLeDiff, reduceIte, Bool.true_eq_false, Bool.false_eq_true, reduceCtorEq, eq_self, decide_true, decide_false, bv_t, bv_f, and_self, t_si, t_sl, t_sr, t_sI, t_sR, n_si, n_sl, n_sr, n_sI, n_sR, r_si, r_sl, r_sI]
theorem c_fgt (h : RC_ w G σ S) (hV : WS_ S) {d : Nat} : ∃ w1, Fb_ w w1 ∧ RC_ w1 G σ (s_set S (b_fgt (sm_B S))) ∧ ∀ Q, cl d 62 [v_R (some 1000)] w Q = Q (Sum.inl none) w1 := by
  have f2 : Fr_ (fun a k => (a = 1007 ∧ k = 6)) w (s_i w 1007 6 (Int32.ofNat 0)) := fr_si (fr_rf _ _) (by omega)
  have ff := fr_fb f2 (fun a k z => by omega)
  have g : ∀ a k, (a ≠ 1007 ∨ k ≠ 6) → w_i (s_i w 1007 6 (Int32.ofNat 0)) a k = w_i w a k := fun a k z3 => f2.2.2.2.2.2 a k (by omega)
  have hL : CL_ w 1007 σ := h.2.2.2.2.2.2.1
  obtain ⟨b1, b2, b3, b4, b5, b6, b7⟩ : CB_ w 1007 σ (tm_n (sm_T S)) (sm_B S) := h.2.2.2.2.2.2.2.1
  refine ⟨_, ff, RC_B h hV ff (CL_ag hL (g _ _ (by omega)) (fun k => rfl)) ⟨?_, ?_, fun k hk => ?_, ?_, fun k hk => absurd hk (Nat.not_lt_zero k), fun k hk => absurd hk (Nat.not_lt_zero k), fun k hk => ?_⟩, fun Q => ?_⟩
  · exact CS_ag b1 (fun b k e1 e2 => g b k (by omega))
  · rw [g _ _ (by omega)]; exact b2
  · exact CS_ag (b3 k hk) (fun b k e1 e2 => g b k (by omega))
  · rw [i_si, if_pos ⟨rfl, rfl⟩]; rfl
  · rw [g _ _ (by omega)]; exact b7 k hk
  · have hq := RC_CQ h hV
    have hC := h.1
    unfold sh_C at hC
    have hr0 : w_r w 1000 0 = some (gm_b G) := h.2.2.1
    have hT := h.2.2.2.1
    unfold CT_ at hT
    have hA : SO_ w 1008 := h.2.1.2.1.1
    unfold SO_ at hA
    have hA2 : SO_ w 1429 := h.2.1.2.2.2.2
    unfold SO_ at hA2
    have hS : CS_ w 1008 (tm_n (sm_T S)) (bm_X (sm_B S)) := h.2.2.2.2.2.2.2.1.1
    unfold CS_ at hS
    have hK : sh_B w 1007 := h.2.1.1
    unfold sh_B at hK
    have hB := h.2.2.2.2.2.2.2.1.2
    have hR := h.2.2.2.2.2.2.2.2.2
    simp only [Nat.reduceAdd] at hA hA2 hS hK hB
    obtain ⟨hn, hk4⟩ := hV.1
    obtain ⟨hW1, hW2, hW3⟩ := hV.2.2.2.1.1
    simp (disch := first | omega | decide | exact ko_b _ | assumption | (simp only [t_si, t_sl, t_sr, t_sI, t_sR, n_si, n_sl, n_sr, n_sI, n_sR, r_si, r_sl, r_sI]; first | done | omega)) only [x_62_e, x_62_b, x_62_0, x_62_1, x_62_4, x_62_5, x_62_8, bk_v, bk_n, nl_I, nl_R, nl_L, nl_0, oo_lt, oo_le, oo_eq, oo_add, oo_sub, oo_tn, oo_ir, nn_leT, nn_leF, nn_ltT, nn_ltF, nn_eqT, nn_eqF, bv_0, bv_1, ko_b, ko_1, ko_0, true_and, and_true, if_true, if_false, not_true_eq_false, not_false_eq_true, oo_02, decide_eq_true_eq, decide_eq_false_iff_not, ite_not, Nat.reduceAdd, Nat.reduceLT, Nat.reduceSub, Nat.reduceLeDiff, reduceIte, Bool.true_eq_false, Bool.false_eq_true, reduceCtorEq, eq_self, decide_true, decide_false, bv_t, bv_f, and_self, t_si, t_sl, t_sr, t_sI, t_sR, n_si, n_sl, n_sr, n_sI, n_sR, r_si, r_sl, r_sI, hC, hr0, hT, hA, hS, hK, hB, hR]
/-! who can marry -/
theorem m_mar {T : Tm} {X : Xm} (h : MQ_ w T X) {d a b : Nat} {Q : Q_} (ha : a < tm_n T) (hb : b < tm_n T) : cl (d + 2) 234 [v_R (some 1440), v_I (Int32.ofNat a), v_I (Int32.ofNat b)] w Q = Q (Sum.inl (some (v_I (b_v (f_mar T (xm_y X) a b))))) w := by
  have hc : ∀ t, t < tm_n T → ∀ d Q, cl (d + 1) 183 [v_R (some 1440), v_I (Int32.ofNat t), v_I (Int32.ofNat 0)] w Q = _ := fun t ht d Q => m_car (b := false) (d := d) (Q := Q) h ht
  have hq := h
  obtain ⟨hM, hT, hS, ⟨hn, hk4⟩, hW1, hW2, hW3⟩ := hq
  unfold sh_M at hM
  unfold MT_ at hT
  unfold MS_ at hS
  unfold f_mar
  simp (disch := first | omega | decide | exact ko_b _ | assumption | (simp only [t_si, t_sl, t_sr, t_sI, t_sR, n_si, n_sl, n_sr, n_sI, n_sR, r_si, r_sl, r_sI]; first | done | omega)) only [x_234_e, x_234_b, x_234_0, x_234_1, x_234_4, x_234_5, x_234_6, x_234_7, x_234_8, x_234_9, x_234_12, x_234_15, x_234_16, x_234_19, x_234_20, x_234_21, x_234_22, x_234_23, x_234_24, x_234_27, x_234_30, x_234_31, x_234_34, x_234_35, bk_v, bk_n, nl_I, nl_R, nl_L, nl_0, oo_lt, oo_le, oo_eq, oo_add, oo_sub, oo_tn, oo_ir, nn_leT, nn_leF, nn_ltT, nn_ltF, nn_eqT, nn_eqF, bv_0, bv_1, ko_b, ko_1, ko_0, true_and, and_true, if_true, if_false, not_true_eq_false, not_false_eq_true, oo_02, decide_eq_true_eq, decide_eq_false_iff_not, ite_not, Nat.reduceAdd, Nat.reduceLT, Nat.reduceSub, Nat.reduceLeDiff, reduceIte, Bool.true_eq_false, Bool.false_eq_true, reduceCtorEq, eq_self, decide_true, decide_false, bv_t, bv_f, and_self, t_si, t_sl, t_sr, t_sI, t_sR, n_si, n_sl, n_sr, n_sI, n_sR, r_si, r_sl, r_sI, hM, hT, hS, hc]
  by_cases h1 : f_car T (xm_y X) a false < tm_wt T b
  · rw [if_pos h1, decide_eq_false (fun z => absurd h1 (Int32.not_lt.mpr z.1))]; rfl
  · rw [if_neg h1]
    by_cases h2 : f_car T (xm_y X) b false < tm_wt T a
    · rw [if_pos h2, decide_eq_false (fun z => absurd h2 (Int32.not_lt.mpr z.2))]; rfl
    · rw [if_neg h2, decide_eq_true ⟨Int32.not_lt.mp h1, Int32.not_lt.mp h2⟩]; rfl
theorem c_mar (h : RC_ w G σ S) (hV : WS_ S) {d a b : Nat} {Q : Q_} (ha : a < tm_n (sm_T S)) (hb : b < tm_n (sm_T S)) : cl (d + 6) 47 [v_R (some 1000), v_I (Int32.ofNat a), v_I (Int32.ofNat b)] w Q = Q (Sum.inl (some (v_I (b_v (f_mar (sm_T S) (xm_y (bm_X (sm_B S))) a b))))) w := by
  have hq := RC_CQ h hV
  have hC := h.1
  unfold sh_C at hC
  have hr0 : w_r w 1000 0 = some (gm_b G) := h.2.2.1
  have hT := h.2.2.2.1
  unfold CT_ at hT
  have hA : SO_ w 1008 := h.2.1.2.1.1
  unfold SO_ at hA
  have hA2 : SO_ w 1429 := h.2.1.2.2.2.2
  unfold SO_ at hA2
  have hS : CS_ w 1008 (tm_n (sm_T S)) (bm_X (sm_B S)) := h.2.2.2.2.2.2.2.1.1
  unfold CS_ at hS
  have hK : sh_B w 1007 := h.2.1.1
  unfold sh_B at hK
  have hB := h.2.2.2.2.2.2.2.1.2
  have hR := h.2.2.2.2.2.2.2.2.2
  simp only [Nat.reduceAdd] at hA hA2 hS hK hB
  obtain ⟨hn, hk4⟩ := hV.1
  obtain ⟨hW1, hW2, hW3⟩ := hV.2.2.2.1.1
  have hd : ∀ t, t < tm_n (sm_T S) → ∀ d Q, cl (d + 4) 48 [v_R (some 1000), v_I (Int32.ofNat t)] w Q = Q (Sum.inl (some (v_I (f_car (sm_T S) (xm_y (bm_X (sm_B S))) t false)))) w := fun t ht d Q => by
    have h3 := hk4 _ ht
    have h4 : w_t w (gm_pn G t) = 32 + tm_kd (sm_T S) t := by simp (disch := omega) only [hT]
    have hc : ∀ y Q, cl (d + 3) 108 [v_R (some (gm_pn G t)), v_I y, v_I (Int32.ofNat 0)] w Q = _ := fun y Q => p_carB (b := false) h4 h3
    unfold f_car
    simp (disch := first | omega | decide | exact ko_b _ | assumption | (simp only [t_si, t_sl, t_sr, t_sI, t_sR, n_si, n_sl, n_sr, n_sI, n_sR, r_si, r_sl, r_sI]; first | done | omega)) only [x_48_e, x_48_b, x_48_0, x_48_1, x_48_4, x_48_7, x_48_8, x_48_11, x_48_14, x_48_15, x_48_18, x_48_21, x_48_22, x_48_25, bk_v, bk_n, nl_I, nl_R, nl_L, nl_0, oo_lt, oo_le, oo_eq, oo_add, oo_sub, oo_tn, oo_ir, nn_leT, nn_leF, nn_ltT, nn_ltF, nn_eqT, nn_eqF, bv_0, bv_1, ko_b, ko_1, ko_0, true_and, and_true, if_true, if_false, not_true_eq_false, not_false_eq_true, oo_02, decide_eq_true_eq, decide_eq_false_iff_not, ite_not, Nat.reduceAdd, Nat.reduceLT, Nat.reduceSub, Nat.reduceLeDiff, reduceIte, Bool.true_eq_false, Bool.false_eq_true, reduceCtorEq, eq_self, decide_true, decide_false, bv_t, bv_f, and_self, t_si, t_sl, t_sr, t_sI, t_sR, n_si, n_sl, n_sr, n_sI, n_sR, r_si, r_sl, r_sI, hC, hr0, hT, hA, hS, hK, hB, hR, c_tab hq.1 hV.1, hc]
  have hda := hd a ha
  have hdb := hd b hb
  have h3a := hk4 _ ha
  have h4a : w_t w (gm_pn G a) = 32 + tm_kd (sm_T S) a := by simp (disch := omega) only [hT]
  have h3b := hk4 _ hb
  have h4b : w_t w (gm_pn G b) = 32 + tm_kd (sm_T S) b := by simp (disch := omega) only [hT]
  unfold f_mar
  simp (disch := first | omega | decide | exact ko_b _ | assumption | (simp only [t_si, t_sl, t_sr, t_sI, t_sR, n_si, n_sl, n_sr, n_sI, n_sR, r_si, r_sl, r_sI]; first | done | omega)) only [x_47_e, x_47_b, x_47_0, x_47_1, x_47_2, x_47_5, x_47_6, x_47_9, x_47_12, x_47_13, x_47_16, x_47_19, x_47_22, x_47_25, x_47_26, x_47_27, x_47_30, x_47_31, x_47_34, x_47_37, x_47_38, x_47_41, x_47_44, x_47_47, x_47_50, x_47_51, x_47_54, x_47_55, bk_v, bk_n, nl_I, nl_R, nl_L, nl_0, oo_lt, oo_le, oo_eq, oo_add, oo_sub, oo_tn, oo_ir, nn_leT, nn_leF, nn_ltT, nn_ltF, nn_eqT, nn_eqF, bv_0, bv_1, ko_b, ko_1, ko_0, true_and, and_true, if_true, if_false, not_true_eq_false, not_false_eq_true, oo_02, decide_eq_true_eq, decide_eq_false_iff_not, ite_not, Nat.reduceAdd, Nat.reduceLT, Nat.reduceSub, Nat.reduceLeDiff, reduceIte, Bool.true_eq_false, Bool.false_eq_true, reduceCtorEq, eq_self, decide_true, decide_false, bv_t, bv_f, and_self, t_si, t_sl, t_sr, t_sI, t_sR, n_si, n_sl, n_sr, n_sI, n_sR, r_si, r_sl, r_sI, hC, hr0, hT, hA, hS, hK, hB, hR, hda, hdb, c_tab hq.1 hV.1]
  by_cases h1 : f_car (sm_T S) (xm_y (bm_X (sm_B S))) a false < tm_wt (sm_T S) b
  · rw [if_pos h1, decide_eq_false (fun z => absurd h1 (Int32.not_lt.mpr z.1))]; rfl
  · rw [if_neg h1]
    by_cases h2 : f_car (sm_T S) (xm_y (bm_X (sm_B S))) b false < tm_wt (sm_T S) a
    · rw [if_pos h2, decide_eq_false (fun z => absurd h2 (Int32.not_lt.mpr z.2))]; rfl
    · rw [if_neg h2, decide_eq_true ⟨Int32.not_lt.mp h1, Int32.not_lt.mp h2⟩]; rfl
theorem m_marry (h9 : RM_ w S) (hV : WS_ S) {d a b : Nat} (ha : a < tm_n (sm_T S)) (hb : b < tm_n (sm_T S)) (hab : a ≠ b) : MR_ (d + 6) 233 [v_R (some 1440), v_I (Int32.ofNat a), v_I (Int32.ofNat b)] w (v_I (b_v (f_mar (sm_T S) (xm_y (bm_X (sm_B S))) a b))) 0 := by
  refine mr_go (ls := [some (v_R (some 1440)), some (v_I (Int32.ofNat a)), some (v_I (Int32.ofNat b))]) (fun Q => ?_) (fun w0 hf hc => mr_0 hc (fun Q => ?_))
  · have h := h9
    have hq := RM_MQ h hV
    have hMM := hq
    obtain ⟨hM, hT, hS, ⟨hn, hk4⟩, hW1, hW2, hW3⟩ := hMM
    unfold sh_M at hM
    unfold MT_ at hT
    unfold MS_ at hS
    have hB := h.2.2.1.2
    unfold PK_ at hB
    have hR := h.2.2.2
    simp (disch := first | omega | decide | exact ko_b _ | assumption | (simp only [t_si, t_sl, t_sr, t_sI, t_sR, n_si, n_sl, n_sr, n_sI, n_sR, r_si, r_sl, r_sI]; first | done | omega)) only [x_233_e, x_233_b, x_233_0, x_233_1, x_233_2, x_233_6, x_233_7, x_233_10, x_233_13, x_233_14, x_233_15, x_233_18, x_233_21, x_233_22, x_233_23, x_233_26, x_233_27, x_233_28, x_233_29, x_233_32, x_233_33, x_233_34, x_233_37, x_233_40, x_233_41, x_233_42, x_233_43, x_233_46, bk_v, bk_n, nl_I, nl_R, nl_L, nl_0, oo_lt, oo_le, oo_eq, oo_add, oo_sub, oo_tn, oo_ir, nn_leT, nn_leF, nn_ltT, nn_ltF, nn_eqT, nn_eqF, bv_0, bv_1, ko_b, ko_1, ko_0, true_and, and_true, if_true, if_false, not_true_eq_false, not_false_eq_true, oo_02, decide_eq_true_eq, decide_eq_false_iff_not, ite_not, Nat.reduceAdd, Nat.reduceLT, Nat.reduceSub, Nat.reduceLeDiff, reduceIte, Bool.true_eq_false, Bool.false_eq_true, reduceCtorEq, eq_self, decide_true, decide_false, bv_t, bv_f, and_self, t_si, t_sl, t_sr, t_sI, t_sR, n_si, n_sl, n_sr, n_sI, n_sR, r_si, r_sl, r_sI, hM, hT, hS, hB, hR]
  · have h := RM_fr h9 hV hf
    have hq := RM_MQ h hV
    have hMM := hq
    obtain ⟨hM, hT, hS, ⟨hn, hk4⟩, hW1, hW2, hW3⟩ := hMM
    unfold sh_M at hM
    unfold MT_ at hT
    unfold MS_ at hS
    have hB := h.2.2.1.2
    unfold PK_ at hB
    have hR := h.2.2.2
    have hy := oo_yes ha (by omega)
    have hz := oo_yes hb (by omega)
    simp (disch := first | omega | decide | exact ko_b _ | assumption | (simp only [t_si, t_sl, t_sr, t_sI, t_sR, n_si, n_sl, n_sr, n_sI, n_sR, r_si, r_sl, r_sI]; first | done | omega)) only [x_233_e, x_233_b, x_233_0, x_233_1, x_233_2, x_233_5, x_233_6, x_233_7, x_233_10, x_233_13, x_233_14, x_233_15, x_233_18, x_233_21, x_233_22, x_233_23, x_233_26, x_233_27, x_233_28, x_233_29, x_233_32, x_233_33, x_233_34, x_233_37, x_233_40, x_233_41, x_233_42, x_233_43, x_233_46, bk_v, bk_n, nl_I, nl_R, nl_L, nl_0, oo_lt, oo_le, oo_eq, oo_add, oo_sub, oo_tn, oo_ir, nn_leT, nn_leF, nn_ltT, nn_ltF, nn_eqT, nn_eqF, bv_0, bv_1, ko_b, ko_1, ko_0, true_and, and_true, if_true, if_false, not_true_eq_false, not_false_eq_true, oo_02, decide_eq_true_eq, decide_eq_false_iff_not, ite_not, Nat.reduceAdd, Nat.reduceLT, Nat.reduceSub, Nat.reduceLeDiff, reduceIte, Bool.true_eq_false, Bool.false_eq_true, reduceCtorEq, eq_self, decide_true, decide_false, bv_t, bv_f, and_self, t_si, t_sl, t_sr, t_sI, t_sR, n_si, n_sl, n_sr, n_sI, n_sR, r_si, r_sl, r_sI, hM, hT, hS, hB, hR, m_isT h hV, hy, hz, m_mar hq]
theorem m_marry_2 (h9 : RM_ w S) (hV : WS_ S) {d a : Nat} (ha : a < tm_n (sm_T S)) : MR_ (d + 6) 233 [v_R (some 1440), v_I (Int32.ofNat a), v_I (Int32.ofNat a)] w (v_I (b_v false)) 2 := by
  refine mr_go (ls := [some (v_R (some 1440)), some (v_I (Int32.ofNat a)), some (v_I (Int32.ofNat a))]) (fun Q => ?_) (fun w0 hf hc => mr_f (fun Q => ?_))
  · have h := h9
    have hq := RM_MQ h hV
    have hMM := hq
    obtain ⟨hM, hT, hS, ⟨hn, hk4⟩, hW1, hW2, hW3⟩ := hMM
    unfold sh_M at hM
    unfold MT_ at hT
    unfold MS_ at hS
    have hB := h.2.2.1.2
    unfold PK_ at hB
    have hR := h.2.2.2
    simp (disch := first | omega | decide | exact ko_b _ | assumption | (simp only [t_si, t_sl, t_sr, t_sI, t_sR, n_si, n_sl, n_sr, n_sI, n_sR, r_si, r_sl, r_sI]; first | done | omega)) only [x_233_e, x_233_b, x_233_0, x_233_1, x_233_2, x_233_6, x_233_7, x_233_10, x_233_13, x_233_14, x_233_15, x_233_18, x_233_21, x_233_22, x_233_23, x_233_26, x_233_27, x_233_28, x_233_29, x_233_32, x_233_33, x_233_34, x_233_37, x_233_40, x_233_41, x_233_42, x_233_43, x_233_46, bk_v, bk_n, nl_I, nl_R, nl_L, nl_0, oo_lt, oo_le, oo_eq, oo_add, oo_sub, oo_tn, oo_ir, nn_leT, nn_leF, nn_ltT, nn_ltF, nn_eqT, nn_eqF, bv_0, bv_1, ko_b, ko_1, ko_0, true_and, and_true, if_true, if_false, not_true_eq_false, not_false_eq_true, oo_02, decide_eq_true_eq, decide_eq_false_iff_not, ite_not, Nat.reduceAdd, Nat.reduceLT, Nat.reduceSub, Nat.reduceLeDiff, reduceIte, Bool.true_eq_false, Bool.false_eq_true, reduceCtorEq, eq_self, decide_true, decide_false, bv_t, bv_f, and_self, t_si, t_sl, t_sr, t_sI, t_sR, n_si, n_sl, n_sr, n_sI, n_sR, r_si, r_sl, r_sI, hM, hT, hS, hB, hR]
  · have h := RM_fr h9 hV hf
    have hq := RM_MQ h hV
    have hMM := hq
    obtain ⟨hM, hT, hS, ⟨hn, hk4⟩, hW1, hW2, hW3⟩ := hMM
    unfold sh_M at hM
    unfold MT_ at hT
    unfold MS_ at hS
    have hB := h.2.2.1.2
    unfold PK_ at hB
    have hR := h.2.2.2
    have hy := oo_yes ha (by omega)
    have hM0 := hM.1
    simp (disch := first | omega | decide | exact ko_b _ | assumption | (simp only [t_si, t_sl, t_sr, t_sI, t_sR, n_si, n_sl, n_sr, n_sI, n_sR, r_si, r_sl, r_sI]; first | done | omega)) only [x_233_e, x_233_b, x_233_0, x_233_1, x_233_2, x_233_5, x_233_6, x_233_7, x_233_10, x_233_13, x_233_14, x_233_15, x_233_18, x_233_21, x_233_22, x_233_23, x_233_26, x_233_27, x_233_28, x_233_29, x_233_32, x_233_33, x_233_34, x_233_37, x_233_40, x_233_41, x_233_42, x_233_43, x_233_46, bk_v, bk_n, nl_I, nl_R, nl_L, nl_0, oo_lt, oo_le, oo_eq, oo_add, oo_sub, oo_tn, oo_ir, nn_leT, nn_leF, nn_ltT, nn_ltF, nn_eqT, nn_eqF, bv_0, bv_1, ko_b, ko_1, ko_0, true_and, and_true, if_true, if_false, not_true_eq_false, not_false_eq_true, oo_02, decide_eq_true_eq, decide_eq_false_iff_not, ite_not, Nat.reduceAdd, Nat.reduceLT, Nat.reduceSub, Nat.reduceLeDiff, reduceIte, Bool.true_eq_false, Bool.false_eq_true, reduceCtorEq, eq_self, decide_true, decide_false, bv_t, bv_f, and_self, t_si, t_sl, t_sr, t_sI, t_sR, n_si, n_sl, n_sr, n_sI, n_sR, r_si, r_sl, r_sI, hM, hT, hS, hB, hR, m_isT h hV, hy, m_failb hM0]
theorem m_marry_1 (h9 : RM_ w S) (hV : WS_ S) {d : Nat} {x y : Int32} (hx : no_in x (tm_n (sm_T S)) ∨ no_in y (tm_n (sm_T S))) : MR_ (d + 6) 233 [v_R (some 1440), v_I x, v_I y] w (v_I (b_v false)) 1 := by
  refine mr_go (ls := [some (v_R (some 1440)), some (v_I x), some (v_I y)]) (fun Q => ?_) (fun w0 hf hc => mr_f (fun Q => ?_))
  · have h := h9
    have hq := RM_MQ h hV
    have hMM := hq
    obtain ⟨hM, hT, hS, ⟨hn, hk4⟩, hW1, hW2, hW3⟩ := hMM
    unfold sh_M at hM
    unfold MT_ at hT
    unfold MS_ at hS
    have hB := h.2.2.1.2
    unfold PK_ at hB
    have hR := h.2.2.2
    simp (disch := first | omega | decide | exact ko_b _ | assumption | (simp only [t_si, t_sl, t_sr, t_sI, t_sR, n_si, n_sl, n_sr, n_sI, n_sR, r_si, r_sl, r_sI]; first | done | omega)) only [x_233_e, x_233_b, x_233_0, x_233_1, x_233_2, x_233_6, x_233_7, x_233_10, x_233_13, x_233_14, x_233_15, x_233_18, x_233_21, x_233_22, x_233_23, x_233_26, x_233_27, x_233_28, x_233_29, x_233_32, x_233_33, x_233_34, x_233_37, x_233_40, x_233_41, x_233_42, x_233_43, x_233_46, bk_v, bk_n, nl_I, nl_R, nl_L, nl_0, oo_lt, oo_le, oo_eq, oo_add, oo_sub, oo_tn, oo_ir, nn_leT, nn_leF, nn_ltT, nn_ltF, nn_eqT, nn_eqF, bv_0, bv_1, ko_b, ko_1, ko_0, true_and, and_true, if_true, if_false, not_true_eq_false, not_false_eq_true, oo_02, decide_eq_true_eq, decide_eq_false_iff_not, ite_not, Nat.reduceAdd, Nat.reduceLT, Nat.reduceSub, Nat.reduceLeDiff, reduceIte, Bool.true_eq_false, Bool.false_eq_true, reduceCtorEq, eq_self, decide_true, decide_false, bv_t, bv_f, and_self, t_si, t_sl, t_sr, t_sI, t_sR, n_si, n_sl, n_sr, n_sI, n_sR, r_si, r_sl, r_sI, hM, hT, hS, hB, hR]
  · have h := RM_fr h9 hV hf
    have hq := RM_MQ h hV
    have hMM := hq
    obtain ⟨hM, hT, hS, ⟨hn, hk4⟩, hW1, hW2, hW3⟩ := hMM
    unfold sh_M at hM
    unfold MT_ at hT
    unfold MS_ at hS
    have hB := h.2.2.1.2
    unfold PK_ at hB
    have hR := h.2.2.2
    have hM0 := hM.1
    by_cases c : no_in x (tm_n (sm_T S))
    · have hy := decide_eq_false (oo_no (by omega) c)
      simp (disch := first | omega | decide | exact ko_b _ | assumption | (simp only [t_si, t_sl, t_sr, t_sI, t_sR, n_si, n_sl, n_sr, n_sI, n_sR, r_si, r_sl, r_sI]; first | done | omega)) only [x_233_e, x_233_b, x_233_0, x_233_1, x_233_2, x_233_5, x_233_6, x_233_7, x_233_10, x_233_13, x_233_14, x_233_15, x_233_18, x_233_21, x_233_22, x_233_23, x_233_26, x_233_27, x_233_28, x_233_29, x_233_32, x_233_33, x_233_34, x_233_37, x_233_40, x_233_41, x_233_42, x_233_43, x_233_46, bk_v, bk_n, nl_I, nl_R, nl_L, nl_0, oo_lt, oo_le, oo_eq, oo_add, oo_sub, oo_tn, oo_ir, nn_leT, nn_leF, nn_ltT, nn_ltF, nn_eqT, nn_eqF, bv_0, bv_1, ko_b, ko_1, ko_0, true_and, and_true, if_true, if_false, not_true_eq_false, not_false_eq_true, oo_02, decide_eq_true_eq, decide_eq_false_iff_not, ite_not, Nat.reduceAdd, Nat.reduceLT, Nat.reduceSub, Nat.reduceLeDiff, reduceIte, Bool.true_eq_false, Bool.false_eq_true, reduceCtorEq, eq_self, decide_true, decide_false, bv_t, bv_f, and_self, t_si, t_sl, t_sr, t_sI, t_sR, n_si, n_sl, n_sr, n_sI, n_sR, r_si, r_sl, r_sI, hM, hT, hS, hB, hR, m_isT h hV, hy, m_failb hM0]
    · have hz := oo_no (by omega) (hx.resolve_left c)
      rcases oo_3 x (tm_n (sm_T S)) (by omega) with ⟨k, k1, rfl⟩ | k1
      · have hy := oo_yes k1 (by omega)
        rw [oo_sub (by omega)] at hz
        simp (disch := first | omega | decide | exact ko_b _ | assumption | (simp only [t_si, t_sl, t_sr, t_sI, t_sR, n_si, n_sl, n_sr, n_sI, n_sR, r_si, r_sl, r_sI]; first | done | omega)) only [x_233_e, x_233_b, x_233_0, x_233_1, x_233_2, x_233_5, x_233_6, x_233_7, x_233_10, x_233_13, x_233_14, x_233_15, x_233_18, x_233_21, x_233_22, x_233_23, x_233_26, x_233_27, x_233_28, x_233_29, x_233_32, x_233_33, x_233_34, x_233_37, x_233_40, x_233_41, x_233_42, x_233_43, x_233_46, bk_v, bk_n, nl_I, nl_R, nl_L, nl_0, oo_lt, oo_le, oo_eq, oo_add, oo_sub, oo_tn, oo_ir, nn_leT, nn_leF, nn_ltT, nn_ltF, nn_eqT, nn_eqF, bv_0, bv_1, ko_b, ko_1, ko_0, true_and, and_true, if_true, if_false, not_true_eq_false, not_false_eq_true, oo_02, decide_eq_true_eq, decide_eq_false_iff_not, ite_not, Nat.reduceAdd, Nat.reduceLT, Nat.reduceSub, Nat.reduceLeDiff, reduceIte, Bool.true_eq_false, Bool.false_eq_true, reduceCtorEq, eq_self, decide_true, decide_false, bv_t, bv_f, and_self, t_si, t_sl, t_sr, t_sI, t_sR, n_si, n_sl, n_sr, n_sI, n_sR, r_si, r_sl, r_sI, hM, hT, hS, hB, hR, m_isT h hV, hy, hz, m_failb hM0]
      · exact absurd k1 c
theorem c_marry (h : RC_ w G σ S) (hV : WS_ S) {d a b : Nat} (ha : a < tm_n (sm_T S)) (hb : b < tm_n (sm_T S)) (hab : a ≠ b) : CR_ G (d + 12) 84 [v_R (some 1000), v_I (Int32.ofNat a), v_I (Int32.ofNat b)] w (v_I (b_v (f_mar (sm_T S) (xm_y (bm_X (sm_B S))) a b))) := cr_0 fun Q => by
  have hq := RC_CQ h hV
  have hC := h.1
  unfold sh_C at hC
  have hr0 : w_r w 1000 0 = some (gm_b G) := h.2.2.1
  have hT := h.2.2.2.1
  unfold CT_ at hT
  have hA : SO_ w 1008 := h.2.1.2.1.1
  unfold SO_ at hA
  have hA2 : SO_ w 1429 := h.2.1.2.2.2.2
  unfold SO_ at hA2
  have hS : CS_ w 1008 (tm_n (sm_T S)) (bm_X (sm_B S)) := h.2.2.2.2.2.2.2.1.1
  unfold CS_ at hS
  have hK : sh_B w 1007 := h.2.1.1
  unfold sh_B at hK
  have hB := h.2.2.2.2.2.2.2.1.2
  have hR := h.2.2.2.2.2.2.2.2.2
  simp only [Nat.reduceAdd] at hA hA2 hS hK hB
  obtain ⟨hn, hk4⟩ := hV.1
  obtain ⟨hW1, hW2, hW3⟩ := hV.2.2.2.1.1
  simp (disch := first | omega | decide | exact ko_b _ | assumption | (simp only [t_si, t_sl, t_sr, t_sI, t_sR, n_si, n_sl, n_sr, n_sI, n_sR, r_si, r_sl, r_sI]; first | done | omega)) only [x_84_e, x_84_b, x_84_0, x_84_1, x_84_2, x_84_5, x_84_6, x_84_7, x_84_8, x_84_11, x_84_12, x_84_13, x_84_14, x_84_17, x_84_18, x_84_21, x_84_22, x_84_25, x_84_26, x_84_27, x_84_28, x_84_31, bk_v, bk_n, nl_I, nl_R, nl_L, nl_0, oo_lt, oo_le, oo_eq, oo_add, oo_sub, oo_tn, oo_ir, nn_leT, nn_leF, nn_ltT, nn_ltF, nn_eqT, nn_eqF, bv_0, bv_1, ko_b, ko_1, ko_0, true_and, and_true, if_true, if_false, not_true_eq_false, not_false_eq_true, oo_02, decide_eq_true_eq, decide_eq_false_iff_not, ite_not, Nat.reduceAdd, Nat.reduceLT, Nat.reduceSub, Nat.reduceLeDiff, reduceIte, Bool.true_eq_false, Bool.false_eq_true, reduceCtorEq, eq_self, decide_true, decide_false, bv_t, bv_f, and_self, t_si, t_sl, t_sr, t_sI, t_sR, n_si, n_sl, n_sr, n_sI, n_sR, r_si, r_sl, r_sI, c_tabAt h hV, c_ri1, c_mar h hV, hC, hr0, hT, hA, hS, hK, hB, hR]
theorem c_marry_2 (h : RC_ w G σ S) (hV : WS_ S) {d a : Nat} (ha : a < tm_n (sm_T S)) : CX_ G (d + 12) 84 [v_R (some 1000), v_I (Int32.ofNat a), v_I (Int32.ofNat a)] w 39 := cx_0 fun Q => by
  have hq := RC_CQ h hV
  have hC := h.1
  unfold sh_C at hC
  have hr0 : w_r w 1000 0 = some (gm_b G) := h.2.2.1
  have hT := h.2.2.2.1
  unfold CT_ at hT
  have hA : SO_ w 1008 := h.2.1.2.1.1
  unfold SO_ at hA
  have hA2 : SO_ w 1429 := h.2.1.2.2.2.2
  unfold SO_ at hA2
  have hS : CS_ w 1008 (tm_n (sm_T S)) (bm_X (sm_B S)) := h.2.2.2.2.2.2.2.1.1
  unfold CS_ at hS
  have hK : sh_B w 1007 := h.2.1.1
  unfold sh_B at hK
  have hB := h.2.2.2.2.2.2.2.1.2
  have hR := h.2.2.2.2.2.2.2.2.2
  simp only [Nat.reduceAdd] at hA hA2 hS hK hB
  obtain ⟨hn, hk4⟩ := hV.1
  obtain ⟨hW1, hW2, hW3⟩ := hV.2.2.2.1.1
  simp (disch := first | omega | decide | exact ko_b _ | assumption | (simp only [t_si, t_sl, t_sr, t_sI, t_sR, n_si, n_sl, n_sr, n_sI, n_sR, r_si, r_sl, r_sI]; first | done | omega)) only [x_84_e, x_84_b, x_84_0, x_84_1, x_84_2, x_84_5, x_84_6, x_84_7, x_84_8, x_84_11, x_84_12, x_84_13, x_84_14, x_84_17, x_84_18, x_84_21, x_84_22, x_84_25, x_84_26, x_84_27, x_84_28, x_84_31, bk_v, bk_n, nl_I, nl_R, nl_L, nl_0, oo_lt, oo_le, oo_eq, oo_add, oo_sub, oo_tn, oo_ir, nn_leT, nn_leF, nn_ltT, nn_ltF, nn_eqT, nn_eqF, bv_0, bv_1, ko_b, ko_1, ko_0, true_and, and_true, if_true, if_false, not_true_eq_false, not_false_eq_true, oo_02, decide_eq_true_eq, decide_eq_false_iff_not, ite_not, Nat.reduceAdd, Nat.reduceLT, Nat.reduceSub, Nat.reduceLeDiff, reduceIte, Bool.true_eq_false, Bool.false_eq_true, reduceCtorEq, eq_self, decide_true, decide_false, bv_t, bv_f, and_self, t_si, t_sl, t_sr, t_sI, t_sR, n_si, n_sl, n_sr, n_sI, n_sR, r_si, r_sl, r_sI, c_tabAt h hV, c_ri0]
theorem c_marry_1 (h : RC_ w G σ S) (hV : WS_ S) {d : Nat} {x y : Int32} (hx : no_in x (tm_n (sm_T S)) ∨ no_in y (tm_n (sm_T S))) : CX_ G (d + 12) 84 [v_R (some 1000), v_I x, v_I y] w 40 := cx_0 fun Q => by
  have hq := RC_CQ h hV
  have hC := h.1
  unfold sh_C at hC
  have hr0 : w_r w 1000 0 = some (gm_b G) := h.2.2.1
  have hT := h.2.2.2.1
  unfold CT_ at hT
  have hA : SO_ w 1008 := h.2.1.2.1.1
  unfold SO_ at hA
  have hA2 : SO_ w 1429 := h.2.1.2.2.2.2
  unfold SO_ at hA2
  have hS : CS_ w 1008 (tm_n (sm_T S)) (bm_X (sm_B S)) := h.2.2.2.2.2.2.2.1.1
  unfold CS_ at hS
  have hK : sh_B w 1007 := h.2.1.1
  unfold sh_B at hK
  have hB := h.2.2.2.2.2.2.2.1.2
  have hR := h.2.2.2.2.2.2.2.2.2
  simp only [Nat.reduceAdd] at hA hA2 hS hK hB
  obtain ⟨hn, hk4⟩ := hV.1
  obtain ⟨hW1, hW2, hW3⟩ := hV.2.2.2.1.1
  by_cases c : no_in x (tm_n (sm_T S))
  · simp (disch := first | omega | decide | exact ko_b _ | assumption | (simp only [t_si, t_sl, t_sr, t_sI, t_sR, n_si, n_sl, n_sr, n_sI, n_sR, r_si, r_sl, r_sI]; first | done | omega)) only [x_84_e, x_84_b, x_84_0, x_84_1, x_84_2, x_84_5, x_84_6, x_84_7, x_84_8, x_84_11, x_84_12, x_84_13, x_84_14, x_84_17, x_84_18, x_84_21, x_84_22, x_84_25, x_84_26, x_84_27, x_84_28, x_84_31, bk_v, bk_n, nl_I, nl_R, nl_L, nl_0, oo_lt, oo_le, oo_eq, oo_add, oo_sub, oo_tn, oo_ir, nn_leT, nn_leF, nn_ltT, nn_ltF, nn_eqT, nn_eqF, bv_0, bv_1, ko_b, ko_1, ko_0, true_and, and_true, if_true, if_false, not_true_eq_false, not_false_eq_true, oo_02, decide_eq_true_eq, decide_eq_false_iff_not, ite_not, Nat.reduceAdd, Nat.reduceLT, Nat.reduceSub, Nat.reduceLeDiff, reduceIte, Bool.true_eq_false, Bool.false_eq_true, reduceCtorEq, eq_self, decide_true, decide_false, bv_t, bv_f, and_self, t_si, t_sl, t_sr, t_sI, t_sR, n_si, n_sl, n_sr, n_sI, n_sR, r_si, r_sl, r_sI, c_tabAt_x h hV c]
  · rcases oo_3 x (tm_n (sm_T S)) (by omega) with ⟨k, k1, rfl⟩ | k1
    · simp (disch := first | omega | decide | exact ko_b _ | assumption | (simp only [t_si, t_sl, t_sr, t_sI, t_sR, n_si, n_sl, n_sr, n_sI, n_sR, r_si, r_sl, r_sI]; first | done | omega)) only [x_84_e, x_84_b, x_84_0, x_84_1, x_84_2, x_84_5, x_84_6, x_84_7, x_84_8, x_84_11, x_84_12, x_84_13, x_84_14, x_84_17, x_84_18, x_84_21, x_84_22, x_84_25, x_84_26, x_84_27, x_84_28, x_84_31, bk_v, bk_n, nl_I, nl_R, nl_L, nl_0, oo_lt, oo_le, oo_eq, oo_add, oo_sub, oo_tn, oo_ir, nn_leT, nn_leF, nn_ltT, nn_ltF, nn_eqT, nn_eqF, bv_0, bv_1, ko_b, ko_1, ko_0, true_and, and_true, if_true, if_false, not_true_eq_false, not_false_eq_true, oo_02, decide_eq_true_eq, decide_eq_false_iff_not, ite_not, Nat.reduceAdd, Nat.reduceLT, Nat.reduceSub, Nat.reduceLeDiff, reduceIte, Bool.true_eq_false, Bool.false_eq_true, reduceCtorEq, eq_self, decide_true, decide_false, bv_t, bv_f, and_self, t_si, t_sl, t_sr, t_sI, t_sR, n_si, n_sl, n_sr, n_sI, n_sR, r_si, r_sl, r_sI, c_tabAt h hV, c_tabAt_x h hV (hx.resolve_left c)]
    · exact absurd k1 c
end
