/-! GAMES: the model's gain -/
set_option maxRecDepth 100000
theorem s_bk {w : Wd} {a b : Nat} {x y ma mb : Int32} (ha : w_i w 1454 a = ma) (hb : w_i w 1454 b = mb) : s_i (s_i (s_i (s_i w 1454 a x) 1454 b y) 1454 a ma) 1454 b mb = w := by
  have e : ∀ (u v : Nat → Nat → Int32), (∀ x y, u x y = v x y) → u = v := fun u v h => funext fun x => funext fun y => h x y
  have key : ∀ i j, w_i (s_i (s_i (s_i (s_i w 1454 a x) 1454 b y) 1454 a ma) 1454 b mb) i j = w_i w i j := fun i j => by
    by_cases c : i = 1454
    · subst c
      simp only [i_si, true_and]
      by_cases c1 : j = b
      · subst c1; simp only [if_true]; exact hb.symm
      · simp only [c1, if_false]
        by_cases c2 : j = a
        · subst c2; simp only [if_true]; exact ha.symm
        · simp only [c2, if_false]
    · simp only [i_si, c, false_and, if_false]
  have k2 := e _ _ key
  obtain ⟨t, n, i, l, r, z, s⟩ := w
  unfold s_i w_i at *
  simp only at k2 ⊢
  exact congrArg (fun f => ((t, n, f, l, r, z, s) : Wd)) k2
section
variable {w : Wd}
theorem m_gain {T : Tm} {X : Xm} (h : MQ_ w T X) {d : Nat} {own lo hi : Int32} {Q : Q_} (hL : 1 < xm_L X) : cl (d + 6) 257 [v_R (some 1440), v_I own, v_I lo, v_I hi] w Q = Q (Sum.inl (some (v_I (if f_st T (f_gX X lo hi) = true then own else own - Int32.ofNat 20)))) w := by
  have hX9 := h.2.2.2.2
  have h0 := hX9.2.1 0 (by omega)
  have h1 := hX9.2.1 (xm_L X - 1) (by omega)
  have hne : xm_t X (xm_L X - 1) ≠ xm_t X 0 := fun z => by have := hX9.2.2 _ _ (by omega) (by omega) z; omega
  have hne2 : xm_t X 0 ≠ xm_t X (xm_L X - 1) := fun z => hne z.symm
  have f1 : Fr_ p_st w (s_i (s_i w 1454 (xm_t X 0) (xm_m X (xm_t X 0) + lo)) 1454 (xm_t X (xm_L X - 1)) (xm_m X (xm_t X (xm_L X - 1)) + hi)) := fr_si (fr_si (fr_rf _ _) (by unfold p_st; omega)) (by unfold p_st; omega)
  have hq1 : MQ_ _ T (f_gX X lo hi) := MQ_X h f1 (MS_mea (MS_mea h.2.2.1)) (WX_mea (WX_mea hX9))
  have hst := fun Q => m_st hq1 (d := d) (Q := Q)
  have e5 : w_i w 1454 (xm_t X 0) = xm_m X (xm_t X 0) := h.2.2.1.2.2.2.2.1 _ h0
  have e6 : w_i w 1454 (xm_t X (xm_L X - 1)) = xm_m X (xm_t X (xm_L X - 1)) := h.2.2.1.2.2.2.2.1 _ h1
  have eb := s_bk (x := xm_m X (xm_t X 0) + lo) (y := xm_m X (xm_t X (xm_L X - 1)) + hi) e5 e6
  have hq := h
  obtain ⟨hM, hT, hS, ⟨hn, hk4⟩, hW1, hW2, hW3⟩ := hq
  unfold sh_M at hM
  unfold MT_ at hT
  unfold MS_ at hS
  cases c : f_st T (f_gX X lo hi) with
  | false =>
    rw [c] at hst
    simp (disch := first | omega | decide | exact ko_b _ | assumption | (simp only [t_si, t_sl, t_sr, t_sI, t_sR, n_si, n_sl, n_sr, n_sI, n_sR, r_si, r_sl, r_sI]; first | done | omega)) only [x_257_e, x_257_b, x_257_0, x_257_1, x_257_4, x_257_5, x_257_6, x_257_8, x_257_9, x_257_12, x_257_13, x_257_16, x_257_17, x_257_18, x_257_19, x_257_21, x_257_22, x_257_25, x_257_27, x_257_28, x_257_29, x_257_30, x_257_31, x_257_32, x_257_33, x_257_36, x_257_38, x_257_39, x_257_40, x_257_41, x_257_42, x_257_43, x_257_44, x_257_47, x_257_49, x_257_50, x_257_53, x_257_55, x_257_56, x_257_57, x_257_58, x_257_59, x_257_60, x_257_61, x_257_64, x_257_66, x_257_67, x_257_68, x_257_69, x_257_70, x_257_71, x_257_73, x_257_76, x_257_77, x_257_80, x_257_81, x_257_83, x_257_84, bk_v, bk_n, nl_I, nl_R, nl_L, nl_0, oo_lt, oo_le, oo_eq, oo_add, oo_sub, oo_tn, oo_ir, nn_leT, nn_leF, nn_ltT, nn_ltF, nn_eqT, nn_eqF, bv_0, bv_1, ko_b, ko_1, ko_0, true_and, and_true, if_true, if_false, not_true_eq_false, not_false_eq_true, oo_02, decide_eq_true_eq, decide_eq_false_iff_not, ite_not, Nat.reduceAdd, Nat.reduceLT, Nat.reduceSub, Nat.reduceLeDiff, reduceIte, Bool.true_eq_false, Bool.false_eq_true, reduceCtorEq, eq_self, decide_true, decide_false, bv_t, bv_f, and_self, t_si, t_sl, t_sr, t_sI, t_sR, n_si, n_sl, n_sr, n_sI, n_sR, r_si, r_sl, r_sI, hM, hT, hS, hst, i_si, hne, hne2, Nat.reduceEqDiff, false_and, and_false, add_sb, eb]
  | true =>
    rw [c] at hst
    simp (disch := first | omega | decide | exact ko_b _ | assumption | (simp only [t_si, t_sl, t_sr, t_sI, t_sR, n_si, n_sl, n_sr, n_sI, n_sR, r_si, r_sl, r_sI]; first | done | omega)) only [x_257_e, x_257_b, x_257_0, x_257_1, x_257_4, x_257_5, x_257_6, x_257_8, x_257_9, x_257_12, x_257_13, x_257_16, x_257_17, x_257_18, x_257_19, x_257_21, x_257_22, x_257_25, x_257_27, x_257_28, x_257_29, x_257_30, x_257_31, x_257_32, x_257_33, x_257_36, x_257_38, x_257_39, x_257_40, x_257_41, x_257_42, x_257_43, x_257_44, x_257_47, x_257_49, x_257_50, x_257_53, x_257_55, x_257_56, x_257_57, x_257_58, x_257_59, x_257_60, x_257_61, x_257_64, x_257_66, x_257_67, x_257_68, x_257_69, x_257_70, x_257_71, x_257_73, x_257_76, x_257_77, x_257_80, x_257_81, x_257_83, x_257_84, bk_v, bk_n, nl_I, nl_R, nl_L, nl_0, oo_lt, oo_le, oo_eq, oo_add, oo_sub, oo_tn, oo_ir, nn_leT, nn_leF, nn_ltT, nn_ltF, nn_eqT, nn_eqF, bv_0, bv_1, ko_b, ko_1, ko_0, true_and, and_true, if_true, if_false, not_true_eq_false, not_false_eq_true, oo_02, decide_eq_true_eq, decide_eq_false_iff_not, ite_not, Nat.reduceAdd, Nat.reduceLT, Nat.reduceSub, Nat.reduceLeDiff, reduceIte, Bool.true_eq_false, Bool.false_eq_true, reduceCtorEq, eq_self, decide_true, decide_false, bv_t, bv_f, and_self, t_si, t_sl, t_sr, t_sI, t_sR, n_si, n_sl, n_sr, n_sI, n_sR, r_si, r_sl, r_sI, hM, hT, hS, hst, i_si, hne, hne2, Nat.reduceEqDiff, false_and, and_false, add_sb, eb]
end
