/-! SETS: the model's sums, edges, ways -/
set_option maxRecDepth 100000
def WM_ (w : Wd) (T : Tm) (X : Xm) : Prop := (∀ s, s < 2 ^ tm_n T → w_i w 1461 s = f_ws T X s) ∧ ∀ s, s < 2 ^ tm_n T → w_i w 1462 s = f_ls T X s
def P62_ (a _k : Nat) : Prop := a = 1461 ∨ a = 1462
theorem rmv_hi : ∀ s : Fin 1024, ∀ t : Fin 10, 2 ^ t.val ≤ s.val → s.val < 2 ^ (t.val + 1) → rmv_ s.val t.val < 2 ^ t.val ∧ s.val.testBit t.val = true := by decide +kernel
theorem p2_or (s t : Nat) : 2 ^ t ≤ s ||| 2 ^ t := sub_le (tb_sub (fun i hi => by rw [Nat.testBit_or, hi, Bool.or_true]))
theorem ws_sub {T : Tm} {X : Xm} {a p : Nat} (h : p &&& a = p) : f_ws T X a - f_ws T X p = f_ws T X (a ^^^ (a &&& p)) := by
  unfold f_ws
  rw [su_sub (gw_ T X) (a := a) (p := p) (tm_n T) (fun t _ ht => sub_tb h ht), Int32.add_comm, Int32.add_sub_cancel]
section
variable {w : Wd} {T : Tm} {X : Xm}
theorem WM_fr {P : Nat → Nat → Prop} {w1 : Wd} (h : WM_ w T X) (hf : Fr_ P w w1) (hP : ∀ k, ¬ P 1461 k ∧ ¬ P 1462 k) : WM_ w1 T X := ⟨fun s hs => by rw [hf.2.2.2.2.2 _ _ (hP s).1]; exact h.1 s hs, fun s hs => by rw [hf.2.2.2.2.2 _ _ (hP s).2]; exact h.2 s hs⟩
theorem m_sum1 (h : MQ_ w T X) {d t : Nat} (ht : t < tm_n T) (hs : ∀ s, s < 2 ^ t → w_i w 1461 s = su_ (gw_ T X) t s ∧ w_i w 1462 s = su_ (f_tu T X) t s) : ∃ w1, Fr_ P62_ w w1 ∧ (∀ s, s < 2 ^ (t + 1) → w_i w1 1461 s = su_ (gw_ T X) (t + 1) s ∧ w_i w1 1462 s = su_ (f_tu T X) (t + 1) s) ∧ ∃ v, ∀ a2 Q, wp (d + 1) 220 16 [some (v_R (some 1440)), some (v_I (Int32.ofNat t)), a2] [] w Q = wp (d + 1) 220 16 [some (v_R (some 1440)), some (v_I (Int32.ofNat (t + 1))), v] [] w1 Q := by
  have h0 := h
  have hn10 := h.2.2.2.1.1
  obtain ⟨P, hP⟩ : ∃ P, P = 2 ^ t := ⟨_, rfl⟩
  have hP2 : P ≤ 512 := by rw [hP]; exact Nat.pow_le_pow_right (n := 2) (by decide) (by omega : t ≤ 9)
  have ss : Int32.ofNat 1 <<< (Int32.ofNat t &&& 31) = Int32.ofNat P := by rw [sb_s (by omega), hP]
  rw [← hP] at hs
  have hor : ∀ s, s < P → s ||| P < 1024 ∧ P ≤ s ||| P := fun s hs => by rw [hP]; exact ⟨or_lt (by omega) (by omega), p2_or s t⟩
  obtain ⟨u, ⟨i1, i2, i3⟩, q1⟩ := lp_ex (fun j (u : Wd) Q => wp (d + 1) 220 28 [some (v_R (some 1440)), some (v_I (Int32.ofNat t)), some (v_I (Int32.ofNat j))] [] u Q) (fun j u => Fr_ P62_ w u ∧ (∀ s, s < P → w_i u 1461 s = su_ (gw_ T X) t s ∧ w_i u 1462 s = su_ (f_tu T X) t s) ∧ ∀ s, s < j → w_i u 1461 (s ||| P) = su_ (gw_ T X) (t + 1) (s ||| P) ∧ w_i u 1462 (s ||| P) = su_ (f_tu T X) (t + 1) (s ||| P)) P (fun j u hj hI => by
    obtain ⟨i1, i2, i3⟩ := hI
    have hq := MQ_fr h0 (fr_mo i1 (fun a k z => by unfold P62_ at z; unfold pm_; omega))
    have tu := fun d Q => m_tu hq (d := d) (Q := Q) ht
    have so := sb_o j P
    obtain ⟨e1, e2⟩ := i2 j hj
    obtain ⟨o1, o2⟩ := hor j hj
    have w1 : su_ (gw_ T X) t j + tm_wt T t + xm_m X t = su_ (gw_ T X) (t + 1) (j ||| P) := by
      rw [hP, su_or _ (by rw [← hP]; exact hj), Int32.add_assoc]; rfl
    have w2 : su_ (f_tu T X) t j + f_tu T X t = su_ (f_tu T X) (t + 1) (j ||| P) := by
      rw [hP, su_or _ (by rw [← hP]; exact hj)]
    refine ⟨s_i (s_i u 1461 (j ||| P) (su_ (gw_ T X) (t + 1) (j ||| P))) 1462 (j ||| P) (su_ (f_tu T X) (t + 1) (j ||| P)), ⟨fr_si (fr_si i1 (Or.inl rfl)) (Or.inr rfl), fun s hs1 => ?_, fun s hs1 => ?_⟩, fun Q => ?_⟩
    · simp only [i_si, Nat.reduceEqDiff, false_and, if_false, true_and]
      rw [if_neg (by omega), if_neg (by omega)]
      exact i2 s hs1
    · simp only [i_si, Nat.reduceEqDiff, false_and, if_false, true_and]
      by_cases e : s ||| P = j ||| P
      · rw [if_pos e, if_pos e, e]; exact ⟨rfl, rfl⟩
      · rw [if_neg e, if_neg e]
        have hsj : s ≠ j := fun z => e (by rw [z])
        exact i3 s (by omega)
    · have hq2 := MQ_fr hq (w1 := s_i u 1461 (j ||| P) (su_ (gw_ T X) (t + 1) (j ||| P))) (fr_si (fr_rf _ _) (by unfold pm_; omega))
      have tu2 := fun d Q => m_tu hq2 (d := d) (Q := Q) ht
      have e2' : w_i (s_i u 1461 (j ||| P) (su_ (gw_ T X) (t + 1) (j ||| P))) 1462 j = su_ (f_tu T X) t j := by rw [i_si, if_neg (by omega)]; exact e2
      have h := hq
      have jw0 := hq.2.1.2.2.2.2.2.1 t ht
      have jm0 := hq.2.2.1.2.2.2.2.1 t ht
      have hq := h
      obtain ⟨hM, hT, hS, ⟨hn, hk4⟩, hW1, hW2, hW3⟩ := hq
      unfold sh_M at hM
      unfold MT_ at hT
      unfold MS_ at hS
      rw [x_220_28]
      simp (disch := first | omega | decide | exact ko_b _ | assumption | (simp only [t_si, t_sl, t_sr, t_sI, t_sR, n_si, n_sl, n_sr, n_sI, n_sR, r_si, r_sl, r_sI]; first | done | omega)) only [x_220_e, x_220_b, x_220_29, x_220_30, x_220_31, x_220_32, x_220_35, x_220_36, x_220_39, x_220_40, x_220_41, x_220_42, x_220_43, x_220_44, x_220_45, x_220_48, x_220_49, x_220_50, x_220_51, x_220_54, x_220_55, x_220_56, x_220_57, x_220_58, x_220_61, x_220_62, x_220_63, x_220_64, x_220_65, x_220_66, x_220_69, x_220_70, x_220_71, x_220_72, x_220_73, x_220_74, x_220_75, x_220_78, x_220_79, x_220_80, x_220_81, x_220_82, x_220_85, x_220_86, x_220_87, x_220_90, bk_v, bk_n, nl_I, nl_R, nl_L, nl_0, oo_lt, oo_le, oo_eq, oo_add, oo_sub, oo_tn, oo_ir, nn_leT, nn_leF, nn_ltT, nn_ltF, nn_eqT, nn_eqF, bv_0, bv_1, ko_b, ko_1, ko_0, true_and, and_true, if_true, if_false, not_true_eq_false, not_false_eq_true, oo_02, decide_eq_true_eq, decide_eq_false_iff_not, ite_not, Nat.reduceAdd, Nat.reduceLT, Nat.reduceSub, Nat.reduceLeDiff, reduceIte, Bool.true_eq_false, Bool.false_eq_true, reduceCtorEq, eq_self, decide_true, decide_false, bv_t, bv_f, and_self, t_si, t_sl, t_sr, t_sI, t_sR, n_si, n_sl, n_sr, n_sI, n_sR, r_si, r_sl, r_sI, hM, ss, so, e1, jw0, jm0, w1, e2', tu2, w2]) P 0 w (Nat.zero_add _) ⟨fr_rf _ _, hs, fun s hs1 => absurd hs1 (Nat.not_lt_zero s)⟩
  refine ⟨u, i1, fun s hs1 => ?_, some (v_I (Int32.ofNat P)), fun a2 Q => ?_⟩
  · by_cases c : s < P
    · obtain ⟨e1, e2⟩ := i2 s c
      rw [e1, e2]
      rw [hP] at c
      exact ⟨(su_up _ c 1).symm, (su_up _ c 1).symm⟩
    · have c2 : 2 ^ t ≤ s := by rw [← hP]; omega
      have c3 : s < 1024 := Nat.lt_of_lt_of_le hs1 (p2_le (by omega))
      obtain ⟨r1, r2⟩ := rmv_hi ⟨s, c3⟩ ⟨t, by omega⟩ c2 hs1
      have r1 : rmv_ s t < P := by rw [hP]; exact r1
      have e := i3 (rmv_ s t) r1
      have r3 := or_rmv (s := s) (t := t) r2
      rw [← hP] at r3
      rw [r3] at e
      exact e
  · have hq := MQ_fr h0 (fr_mo i1 (fun a k z => by unfold P62_ at z; unfold pm_; omega))
    have u0 : w_t u 1440 = 25 := hq.1.1
    have fin : wp (d + 1) 220 28 [some (v_R (some 1440)), some (v_I (Int32.ofNat t)), some (v_I (Int32.ofNat P))] [] u Q = wp (d + 1) 220 16 [some (v_R (some 1440)), some (v_I (Int32.ofNat (t + 1))), some (v_I (Int32.ofNat P))] [] u Q := by
      rw [x_220_28]
      simp (disch := first | omega | decide | exact ko_b _ | assumption | (simp only [t_si, t_sl, t_sr, t_sI, t_sR, n_si, n_sl, n_sr, n_sI, n_sR, r_si, r_sl, r_sI]; first | done | omega)) only [x_220_e, x_220_b, x_220_29, x_220_30, x_220_31, x_220_32, x_220_e, x_220_b, x_220_93, x_220_96, bk_v, bk_n, nl_I, nl_R, nl_L, nl_0, oo_lt, oo_le, oo_eq, oo_add, oo_sub, oo_tn, oo_ir, nn_leT, nn_leF, nn_ltT, nn_ltF, nn_eqT, nn_eqF, bv_0, bv_1, ko_b, ko_1, ko_0, true_and, and_true, if_true, if_false, not_true_eq_false, not_false_eq_true, oo_02, decide_eq_true_eq, decide_eq_false_iff_not, ite_not, Nat.reduceAdd, Nat.reduceLT, Nat.reduceSub, Nat.reduceLeDiff, reduceIte, Bool.true_eq_false, Bool.false_eq_true, reduceCtorEq, eq_self, decide_true, decide_false, bv_t, bv_f, and_self, t_si, t_sl, t_sr, t_sI, t_sR, n_si, n_sl, n_sr, n_sI, n_sR, r_si, r_sl, r_sI, ss]
    refine Eq.trans ?_ ((q1 Q).trans fin)
    have h := h0
    have hq := h
    obtain ⟨hM, hT, hS, ⟨hn, hk4⟩, hW1, hW2, hW3⟩ := hq
    unfold sh_M at hM
    unfold MT_ at hT
    unfold MS_ at hS
    rw [x_220_16]
    simp (disch := first | omega | decide | exact ko_b _ | assumption | (simp only [t_si, t_sl, t_sr, t_sI, t_sR, n_si, n_sl, n_sr, n_sI, n_sR, r_si, r_sl, r_sI]; first | done | omega)) only [x_220_e, x_220_b, x_220_17, x_220_18, x_220_21, x_220_22, x_220_23, x_220_26, x_220_27, bk_v, bk_n, nl_I, nl_R, nl_L, nl_0, oo_lt, oo_le, oo_eq, oo_add, oo_sub, oo_tn, oo_ir, nn_leT, nn_leF, nn_ltT, nn_ltF, nn_eqT, nn_eqF, bv_0, bv_1, ko_b, ko_1, ko_0, true_and, and_true, if_true, if_false, not_true_eq_false, not_false_eq_true, oo_02, decide_eq_true_eq, decide_eq_false_iff_not, ite_not, Nat.reduceAdd, Nat.reduceLT, Nat.reduceSub, Nat.reduceLeDiff, reduceIte, Bool.true_eq_false, Bool.false_eq_true, reduceCtorEq, eq_self, decide_true, decide_false, bv_t, bv_f, and_self, t_si, t_sl, t_sr, t_sI, t_sR, n_si, n_sl, n_sr, n_sI, n_sR, r_si, r_sl, r_sI, hM, hT, hS]
theorem m_sums (h : MQ_ w T X) {d : Nat} : ∃ w1, Fr_ P62_ w w1 ∧ WM_ w1 T X ∧ ∀ Q, cl (d + 1) 220 [v_R (some 1440)] w Q = Q (Sum.inl none) w1 := by
  have h0 := h
  have hn10 := h.2.2.2.1.1
  obtain ⟨u, ⟨i1, i2⟩, q1⟩ := lp_ex (fun t (u : Option Vl × Wd) Q => wp (d + 1) 220 16 [some (v_R (some 1440)), some (v_I (Int32.ofNat t)), u.1] [] u.2 Q) (fun t u => Fr_ P62_ w u.2 ∧ ∀ s, s < 2 ^ t → w_i u.2 1461 s = su_ (gw_ T X) t s ∧ w_i u.2 1462 s = su_ (f_tu T X) t s) (tm_n T) (fun t u ht hI => by
    obtain ⟨w1, g1, g2, v, g3⟩ := m_sum1 (MQ_fr h0 (fr_mo hI.1 (fun a k z => by unfold P62_ at z; unfold pm_; omega))) (d := d) ht hI.2
    exact ⟨(v, w1), ⟨fr_tr hI.1 g1, g2⟩, g3 u.1⟩) (tm_n T) 0 (none, s_i (s_i w 1461 0 (Int32.ofNat 0)) 1462 0 (Int32.ofNat 0)) (Nat.zero_add _) ⟨fr_si (fr_si (fr_rf _ _) (Or.inl rfl)) (Or.inr rfl), fun s hs => by
      have e : s = 0 := by
        have : s < 1 := hs
        omega
      subst e
      simp only [i_si, Nat.reduceEqDiff, false_and, if_false, and_self, if_true]
      exact ⟨rfl, rfl⟩⟩
  refine ⟨u.2, i1, ⟨fun s hs => (i2 s hs).1, fun s hs => (i2 s hs).2⟩, fun Q => ?_⟩
  have hq := MQ_fr h0 (fr_mo i1 (fun a k z => by unfold P62_ at z; unfold pm_; omega))
  have hM := hq.1
  unfold sh_M at hM
  have u0 : w_t u.2 1440 = 25 := hM.1
  have u4 : w_r u.2 1440 4 = some 1444 := by simp only [hM]
  have t44 : w_t u.2 1444 = 1 := by simp only [hM]
  have n44 : w_n u.2 1444 = 8 := by simp only [hM]
  clear hM
  have e0 : w_i u.2 1444 0 = Int32.ofNat (tm_n T) := hq.2.1.1
  have fin : wp (d + 1) 220 16 [some (v_R (some 1440)), some (v_I (Int32.ofNat (tm_n T))), u.1] [] u.2 Q = Q (Sum.inl none) u.2 := by
    rw [x_220_16]
    simp (disch := first | omega | decide | exact ko_b _ | assumption | (simp only [t_si, t_sl, t_sr, t_sI, t_sR, n_si, n_sl, n_sr, n_sI, n_sR, r_si, r_sl, r_sI]; first | done | omega)) only [x_220_e, x_220_b, x_220_17, x_220_18, x_220_21, x_220_22, x_220_23, x_220_e, x_220_b, x_220_99, bk_v, bk_n, nl_I, nl_R, nl_L, nl_0, oo_lt, oo_le, oo_eq, oo_add, oo_sub, oo_tn, oo_ir, nn_leT, nn_leF, nn_ltT, nn_ltF, nn_eqT, nn_eqF, bv_0, bv_1, ko_b, ko_1, ko_0, true_and, and_true, if_true, if_false, not_true_eq_false, not_false_eq_true, oo_02, decide_eq_true_eq, decide_eq_false_iff_not, ite_not, Nat.reduceAdd, Nat.reduceLT, Nat.reduceSub, Nat.reduceLeDiff, reduceIte, Bool.true_eq_false, Bool.false_eq_true, reduceCtorEq, eq_self, decide_true, decide_false, bv_t, bv_f, and_self, t_si, t_sl, t_sr, t_sI, t_sR, n_si, n_sl, n_sr, n_sI, n_sR, r_si, r_sl, r_sI, u4, n44, e0]
  refine Eq.trans ?_ ((q1 Q).trans fin)
  have hq := h
  obtain ⟨hM, hT, hS, ⟨hn, hk4⟩, hW1, hW2, hW3⟩ := hq
  unfold sh_M at hM
  unfold MT_ at hT
  unfold MS_ at hS
  simp (disch := first | omega | decide | exact ko_b _ | assumption | (simp only [t_si, t_sl, t_sr, t_sI, t_sR, n_si, n_sl, n_sr, n_sI, n_sR, r_si, r_sl, r_sI]; first | done | omega)) only [x_220_e, x_220_b, x_220_0, x_220_1, x_220_4, x_220_5, x_220_6, x_220_7, x_220_8, x_220_11, x_220_12, x_220_13, x_220_14, x_220_15, bk_v, bk_n, nl_I, nl_R, nl_L, nl_0, oo_lt, oo_le, oo_eq, oo_add, oo_sub, oo_tn, oo_ir, nn_leT, nn_leF, nn_ltT, nn_ltF, nn_eqT, nn_eqF, bv_0, bv_1, ko_b, ko_1, ko_0, true_and, and_true, if_true, if_false, not_true_eq_false, not_false_eq_true, oo_02, decide_eq_true_eq, decide_eq_false_iff_not, ite_not, Nat.reduceAdd, Nat.reduceLT, Nat.reduceSub, Nat.reduceLeDiff, reduceIte, Bool.true_eq_false, Bool.false_eq_true, reduceCtorEq, eq_self, decide_true, decide_false, bv_t, bv_f, and_self, t_si, t_sl, t_sr, t_sI, t_sR, n_si, n_sl, n_sr, n_sI, n_sR, r_si, r_sl, r_sI, hM]
theorem m_ft (h : MQ_ w T X) (hW : WM_ w T X) {d t below all some sea : Nat} {Q : Q_} (ht : t < tm_n T) (hb : below &&& all = below) (ha : all < 2 ^ tm_n T) (hat : all.testBit t = true) (hso : some < 1024) (hl : w_i w 1440 39 = Int32.ofNat some) (hsea : some = 0 ∨ (w_i w 1440 40 = Int32.ofNat sea ∧ sea < 2147483648)) : cl (d + 3) 224 [v_R (Option.some 1440), v_I (Int32.ofNat below), v_I (Int32.ofNat t), v_I (Int32.ofNat all)] w Q = Q (Sum.inl (Option.some (v_I (b_v (E_ T X some sea all below t))))) w := by
  have hn10 := h.2.2.2.1.1
  have ha1024 : all < 1024 := Nat.lt_of_lt_of_le ha (p2_le hn10)
  have hbl : below < 1024 := Nat.lt_of_le_of_lt (sub_le hb) ha1024
  have hb2 : (below ||| 2 ^ t) &&& all = below ||| 2 ^ t := tb_sub (fun i hi => by
    rw [Nat.testBit_or] at hi
    by_cases c : i = t
    · rw [c]; exact hat
    · rw [Nat.testBit_two_pow_of_ne (fun z => c z.symm), Bool.or_false] at hi
      exact sub_tb hb hi)
  have hto : below ||| 2 ^ t < 2 ^ tm_n T := Nat.lt_of_le_of_lt (sub_le hb2) ha
  have hto2 : below ||| 2 ^ t < 1024 := or_lt hbl (by omega)
  have ss := sb_s (t := t) (by omega)
  have so := sb_o below (2 ^ t)
  have jo := fun d Q => m_isOf (w := w) (d := d) (Q := Q) hso (by omega : t < 10)
  have jb := fun d Q => m_bits (w := w) (d := d) (Q := Q) hbl
  have b10 := bt_10 hbl
  have e1 := hW.1 all ha
  have e2 := hW.1 _ hto
  have e3 := hW.2 _ hto
  have hsub := ws_sub (T := T) (X := X) hb2
  have hcar : ∀ b Q, cl (d + 2) 183 [v_R (Option.some 1440), v_I (Int32.ofNat t), v_I (b_v b)] w Q = Q (Sum.inl (Option.some (v_I (f_car T (xm_y X) t b)))) w := fun b Q => m_car h (d := d + 1) ht
  have em := h.2.2.1.2.2.2.2.1 t ht
  have hM := h.1
  unfold sh_M at hM
  have u0 : w_t w 1440 = 25 := hM.1
  have u4 : w_r w 1440 4 = Option.some 1444 := by simp only [hM]
  have u24 : w_r w 1440 24 = Option.some 1454 := by simp only [hM]
  have u36 : w_r w 1440 36 = Option.some 1461 := by simp only [hM]
  have u37 : w_r w 1440 37 = Option.some 1462 := by simp only [hM]
  have t44 : w_t w 1444 = 1 := by simp only [hM]
  have n44 : w_n w 1444 = 8 := by simp only [hM]
  have t54 : w_t w 1454 = 1 := by simp only [hM]
  have n54 : w_n w 1454 = 10 := by simp only [hM]
  have t61 : w_t w 1461 = 1 := by simp only [hM]
  have n61 : w_n w 1461 = 1024 := by simp only [hM]
  have t62 : w_t w 1462 = 1 := by simp only [hM]
  have n62 : w_n w 1462 = 1024 := by simp only [hM]
  clear hM
  have eli : w_i w 1444 1 = tm_li T := h.2.1.2.1
  by_cases cs : some.testBit t = true ∧ bt_n below < sea
  · have eE : E_ T X some sea all below t = false := by
      unfold E_
      rw [cs.1, decide_eq_true cs.2, Bool.and_self, Bool.not_true, Bool.and_false, Bool.false_and]
    rw [eE]
    have cs2 := cs.2
    rcases hsea with z | ⟨z1, z2⟩
    · rw [z, Nat.zero_testBit] at cs; cases cs.1
    · rw [cs.1] at jo
      simp (disch := first | omega | decide | exact ko_b _ | assumption | (simp only [t_si, t_sl, t_sr, t_sI, t_sR, n_si, n_sl, n_sr, n_sI, n_sR, r_si, r_sl, r_sI]; first | done | omega)) only [x_224_e, x_224_b, x_224_0, x_224_1, x_224_2, x_224_3, x_224_4, x_224_5, x_224_7, x_224_8, x_224_11, x_224_12, x_224_15, x_224_18, x_224_19, x_224_22, x_224_23, x_224_26, x_224_29, x_224_30, bk_v, bk_n, nl_I, nl_R, nl_L, nl_0, oo_lt, oo_le, oo_eq, oo_add, oo_sub, oo_tn, oo_ir, nn_leT, nn_leF, nn_ltT, nn_ltF, nn_eqT, nn_eqF, bv_0, bv_1, ko_b, ko_1, ko_0, true_and, and_true, if_true, if_false, not_true_eq_false, not_false_eq_true, oo_02, decide_eq_true_eq, decide_eq_false_iff_not, ite_not, Nat.reduceAdd, Nat.reduceLT, Nat.reduceSub, Nat.reduceLeDiff, reduceIte, Bool.true_eq_false, Bool.false_eq_true, reduceCtorEq, eq_self, decide_true, decide_false, bv_t, bv_f, and_self, t_si, t_sl, t_sr, t_sI, t_sR, n_si, n_sl, n_sr, n_sI, n_sR, r_si, r_sl, r_sI, ss, so, hl, jo, jb, z1]
  · have e9 : (some.testBit t && decide (bt_n below < sea)) = false := by
      cases e9 : some.testBit t with
      | false => rfl
      | true => rw [Bool.true_and, decide_eq_false (fun z => cs ⟨e9, z⟩)]
    have eE : E_ T X some sea all below t = f_hl T X all below t := by
      unfold E_
      rw [hat, e9, Bool.not_false, Bool.and_self, Bool.true_and]
    have pre : ∀ Q, cl (d + 3) 224 [v_R (Option.some 1440), v_I (Int32.ofNat below), v_I (Int32.ofNat t), v_I (Int32.ofNat all)] w Q = wp (d + 3) 224 31 [Option.some (v_R (Option.some 1440)), Option.some (v_I (Int32.ofNat below)), Option.some (v_I (Int32.ofNat t)), Option.some (v_I (Int32.ofNat all)), Option.some (v_I (Int32.ofNat (below ||| 2 ^ t)))] [] w Q := fun Q => by
      cases e8 : some.testBit t with
      | false =>
        rw [e8] at jo
        simp (disch := first | omega | decide | exact ko_b _ | assumption | (simp only [t_si, t_sl, t_sr, t_sI, t_sR, n_si, n_sl, n_sr, n_sI, n_sR, r_si, r_sl, r_sI]; first | done | omega)) only [x_224_e, x_224_b, x_224_0, x_224_1, x_224_2, x_224_3, x_224_4, x_224_5, x_224_7, x_224_8, x_224_11, x_224_12, x_224_15, x_224_18, x_224_19, x_224_22, x_224_23, x_224_26, x_224_29, x_224_30, bk_v, bk_n, nl_I, nl_R, nl_L, nl_0, oo_lt, oo_le, oo_eq, oo_add, oo_sub, oo_tn, oo_ir, nn_leT, nn_leF, nn_ltT, nn_ltF, nn_eqT, nn_eqF, bv_0, bv_1, ko_b, ko_1, ko_0, true_and, and_true, if_true, if_false, not_true_eq_false, not_false_eq_true, oo_02, decide_eq_true_eq, decide_eq_false_iff_not, ite_not, Nat.reduceAdd, Nat.reduceLT, Nat.reduceSub, Nat.reduceLeDiff, reduceIte, Bool.true_eq_false, Bool.false_eq_true, reduceCtorEq, eq_self, decide_true, decide_false, bv_t, bv_f, and_self, t_si, t_sl, t_sr, t_sI, t_sR, n_si, n_sl, n_sr, n_sI, n_sR, r_si, r_sl, r_sI, ss, so, hl, jo]
      | true =>
        rw [e8] at jo
        have cs2 : ¬ bt_n below < sea := fun z => cs ⟨e8, z⟩
        rcases hsea with z | ⟨z1, z2⟩
        · rw [z, Nat.zero_testBit] at e8; cases e8
        · simp (disch := first | omega | decide | exact ko_b _ | assumption | (simp only [t_si, t_sl, t_sr, t_sI, t_sR, n_si, n_sl, n_sr, n_sI, n_sR, r_si, r_sl, r_sI]; first | done | omega)) only [x_224_e, x_224_b, x_224_0, x_224_1, x_224_2, x_224_3, x_224_4, x_224_5, x_224_7, x_224_8, x_224_11, x_224_12, x_224_15, x_224_18, x_224_19, x_224_22, x_224_23, x_224_26, x_224_29, x_224_30, bk_v, bk_n, nl_I, nl_R, nl_L, nl_0, oo_lt, oo_le, oo_eq, oo_add, oo_sub, oo_tn, oo_ir, nn_leT, nn_leF, nn_ltT, nn_ltF, nn_eqT, nn_eqF, bv_0, bv_1, ko_b, ko_1, ko_0, true_and, and_true, if_true, if_false, not_true_eq_false, not_false_eq_true, oo_02, decide_eq_true_eq, decide_eq_false_iff_not, ite_not, Nat.reduceAdd, Nat.reduceLT, Nat.reduceSub, Nat.reduceLeDiff, reduceIte, Bool.true_eq_false, Bool.false_eq_true, reduceCtorEq, eq_self, decide_true, decide_false, bv_t, bv_f, and_self, t_si, t_sl, t_sr, t_sI, t_sR, n_si, n_sl, n_sr, n_sI, n_sR, r_si, r_sl, r_sI, ss, so, hl, jo, jb, z1]
    rw [eE, pre]
    unfold f_hl
    generalize below ||| 2 ^ t = wi at *
    generalize all ^^^ (all &&& wi) = ot at *
    have fin : ∀ b : Bool, decide (wi = all) = b → wp (d + 3) 224 31 [Option.some (v_R (Option.some 1440)), Option.some (v_I (Int32.ofNat below)), Option.some (v_I (Int32.ofNat t)), Option.some (v_I (Int32.ofNat all)), Option.some (v_I (Int32.ofNat wi))] [] w Q = Q (Sum.inl (Option.some (v_I (b_v (decide (f_ws T X ot + xm_m X t ≤ f_car T (xm_y X) t b ∧ i_ab (f_ls T X wi) ≤ tm_li T)))))) w := fun b eb => by
      have hc := hcar b
      have pre2 : wp (d + 3) 224 31 [Option.some (v_R (Option.some 1440)), Option.some (v_I (Int32.ofNat below)), Option.some (v_I (Int32.ofNat t)), Option.some (v_I (Int32.ofNat all)), Option.some (v_I (Int32.ofNat wi))] [] w Q = wp (d + 3) 224 68 [Option.some (v_R (Option.some 1440)), Option.some (v_I (Int32.ofNat below)), Option.some (v_I (Int32.ofNat t)), Option.some (v_I (Int32.ofNat all)), Option.some (v_I (Int32.ofNat wi))] [v_I (f_car T (xm_y X) t b), v_I (f_ws T X ot + xm_m X t)] w Q := by
        cases b with
        | true =>
          have eb : (wi = all) = True := eq_true (of_decide_eq_true eb)
          have hc : ∀ Q, cl (d + 2) 183 [v_R (Option.some 1440), v_I (Int32.ofNat t), v_I (Int32.ofNat 1)] w Q = _ := hc
          simp (disch := first | omega | decide | exact ko_b _ | assumption | (simp only [t_si, t_sl, t_sr, t_sI, t_sR, n_si, n_sl, n_sr, n_sI, n_sR, r_si, r_sl, r_sI]; first | done | omega)) only [x_224_e, x_224_b, x_224_31, x_224_32, x_224_35, x_224_36, x_224_37, x_224_38, x_224_41, x_224_43, x_224_44, x_224_45, x_224_46, x_224_49, x_224_50, x_224_51, x_224_52, x_224_53, x_224_54, x_224_56, x_224_57, x_224_60, x_224_61, x_224_64, x_224_65, bk_v, bk_n, nl_I, nl_R, nl_L, nl_0, oo_lt, oo_le, oo_eq, oo_add, oo_sub, oo_tn, oo_ir, nn_leT, nn_leF, nn_ltT, nn_ltF, nn_eqT, nn_eqF, bv_0, bv_1, ko_b, ko_1, ko_0, true_and, and_true, if_true, if_false, not_true_eq_false, not_false_eq_true, oo_02, decide_eq_true_eq, decide_eq_false_iff_not, ite_not, Nat.reduceAdd, Nat.reduceLT, Nat.reduceSub, Nat.reduceLeDiff, reduceIte, Bool.true_eq_false, Bool.false_eq_true, reduceCtorEq, eq_self, decide_true, decide_false, bv_t, bv_f, and_self, t_si, t_sl, t_sr, t_sI, t_sR, n_si, n_sl, n_sr, n_sI, n_sR, r_si, r_sl, r_sI, u36, n61, e1, e2, hsub, u24, n54, em, eb, hc]
        | false =>
          have eb : (wi = all) = False := eq_false (of_decide_eq_false eb)
          have hc : ∀ Q, cl (d + 2) 183 [v_R (Option.some 1440), v_I (Int32.ofNat t), v_I (Int32.ofNat 0)] w Q = _ := hc
          simp (disch := first | omega | decide | exact ko_b _ | assumption | (simp only [t_si, t_sl, t_sr, t_sI, t_sR, n_si, n_sl, n_sr, n_sI, n_sR, r_si, r_sl, r_sI]; first | done | omega)) only [x_224_e, x_224_b, x_224_31, x_224_32, x_224_35, x_224_36, x_224_37, x_224_38, x_224_41, x_224_43, x_224_44, x_224_45, x_224_46, x_224_49, x_224_50, x_224_51, x_224_52, x_224_53, x_224_54, x_224_56, x_224_57, x_224_60, x_224_61, x_224_64, x_224_65, bk_v, bk_n, nl_I, nl_R, nl_L, nl_0, oo_lt, oo_le, oo_eq, oo_add, oo_sub, oo_tn, oo_ir, nn_leT, nn_leF, nn_ltT, nn_ltF, nn_eqT, nn_eqF, bv_0, bv_1, ko_b, ko_1, ko_0, true_and, and_true, if_true, if_false, not_true_eq_false, not_false_eq_true, oo_02, decide_eq_true_eq, decide_eq_false_iff_not, ite_not, Nat.reduceAdd, Nat.reduceLT, Nat.reduceSub, Nat.reduceLeDiff, reduceIte, Bool.true_eq_false, Bool.false_eq_true, reduceCtorEq, eq_self, decide_true, decide_false, bv_t, bv_f, and_self, t_si, t_sl, t_sr, t_sI, t_sR, n_si, n_sl, n_sr, n_sI, n_sR, r_si, r_sl, r_sI, u36, n61, e1, e2, hsub, u24, n54, em, eb, hc]
      rw [pre2]
      by_cases c1 : f_ws T X ot + xm_m X t ≤ f_car T (xm_y X) t b
      · have d1 := Int32.not_lt.mpr c1
        by_cases c2 : i_ab (f_ls T X wi) ≤ tm_li T
        · have d2 := Int32.not_lt.mpr c2
          rw [decide_eq_true ⟨c1, c2⟩]
          simp (disch := first | omega | decide | exact ko_b _ | assumption | (simp only [t_si, t_sl, t_sr, t_sI, t_sR, n_si, n_sl, n_sr, n_sI, n_sR, r_si, r_sl, r_sI]; first | done | omega)) only [x_224_e, x_224_b, x_224_68, x_224_71, x_224_72, x_224_75, x_224_77, x_224_78, x_224_81, x_224_82, x_224_85, x_224_86, x_224_87, x_224_90, x_224_91, x_224_94, x_224_95, bk_v, bk_n, nl_I, nl_R, nl_L, nl_0, oo_lt, oo_le, oo_eq, oo_add, oo_sub, oo_tn, oo_ir, nn_leT, nn_leF, nn_ltT, nn_ltF, nn_eqT, nn_eqF, bv_0, bv_1, ko_b, ko_1, ko_0, true_and, and_true, if_true, if_false, not_true_eq_false, not_false_eq_true, oo_02, decide_eq_true_eq, decide_eq_false_iff_not, ite_not, Nat.reduceAdd, Nat.reduceLT, Nat.reduceSub, Nat.reduceLeDiff, reduceIte, Bool.true_eq_false, Bool.false_eq_true, reduceCtorEq, eq_self, decide_true, decide_false, bv_t, bv_f, and_self, t_si, t_sl, t_sr, t_sI, t_sR, n_si, n_sl, n_sr, n_sI, n_sR, r_si, r_sl, r_sI, d1, u37, n62, e3, ab_f, u4, n44, eli, d2]
        · have d2 := Int32.not_le.mp c2
          rw [decide_eq_false (fun z => c2 z.2)]
          simp (disch := first | omega | decide | exact ko_b _ | assumption | (simp only [t_si, t_sl, t_sr, t_sI, t_sR, n_si, n_sl, n_sr, n_sI, n_sR, r_si, r_sl, r_sI]; first | done | omega)) only [x_224_e, x_224_b, x_224_68, x_224_71, x_224_72, x_224_75, x_224_77, x_224_78, x_224_81, x_224_82, x_224_85, x_224_86, x_224_87, x_224_90, x_224_91, x_224_94, x_224_95, bk_v, bk_n, nl_I, nl_R, nl_L, nl_0, oo_lt, oo_le, oo_eq, oo_add, oo_sub, oo_tn, oo_ir, nn_leT, nn_leF, nn_ltT, nn_ltF, nn_eqT, nn_eqF, bv_0, bv_1, ko_b, ko_1, ko_0, true_and, and_true, if_true, if_false, not_true_eq_false, not_false_eq_true, oo_02, decide_eq_true_eq, decide_eq_false_iff_not, ite_not, Nat.reduceAdd, Nat.reduceLT, Nat.reduceSub, Nat.reduceLeDiff, reduceIte, Bool.true_eq_false, Bool.false_eq_true, reduceCtorEq, eq_self, decide_true, decide_false, bv_t, bv_f, and_self, t_si, t_sl, t_sr, t_sI, t_sR, n_si, n_sl, n_sr, n_sI, n_sR, r_si, r_sl, r_sI, d1, u37, n62, e3, ab_f, u4, n44, eli, d2]
      · have d1 := Int32.not_le.mp c1
        rw [decide_eq_false (fun z => c1 z.1)]
        simp (disch := first | omega | decide | exact ko_b _ | assumption | (simp only [t_si, t_sl, t_sr, t_sI, t_sR, n_si, n_sl, n_sr, n_sI, n_sR, r_si, r_sl, r_sI]; first | done | omega)) only [x_224_e, x_224_b, x_224_68, x_224_71, x_224_72, x_224_75, x_224_77, x_224_78, x_224_81, x_224_82, x_224_85, x_224_86, x_224_87, x_224_90, x_224_91, x_224_94, x_224_95, bk_v, bk_n, nl_I, nl_R, nl_L, nl_0, oo_lt, oo_le, oo_eq, oo_add, oo_sub, oo_tn, oo_ir, nn_leT, nn_leF, nn_ltT, nn_ltF, nn_eqT, nn_eqF, bv_0, bv_1, ko_b, ko_1, ko_0, true_and, and_true, if_true, if_false, not_true_eq_false, not_false_eq_true, oo_02, decide_eq_true_eq, decide_eq_false_iff_not, ite_not, Nat.reduceAdd, Nat.reduceLT, Nat.reduceSub, Nat.reduceLeDiff, reduceIte, Bool.true_eq_false, Bool.false_eq_true, reduceCtorEq, eq_self, decide_true, decide_false, bv_t, bv_f, and_self, t_si, t_sl, t_sr, t_sI, t_sR, n_si, n_sl, n_sr, n_sI, n_sR, r_si, r_sl, r_sI, d1]
    exact fin _ rfl
/-- what the ways ask -/
def LS_ (w : Wd) (some sea : Nat) : Prop := w_i w 1440 39 = Int32.ofNat some ∧ (some = 0 ∨ (w_i w 1440 40 = Int32.ofNat sea ∧ sea < 2147483648))
def DW_ (w : Wd) (E : Nat → Nat → Bool) (n all p : Nat) : Prop := ∀ v, v &&& all = v → p ≤ v → w_l w 1463 v = Int64.ofNat (wk_ E n all (bt_n all - bt_n v) v)
theorem m_tw1 (h : MQ_ w T X) (hW : WM_ w T X) {d t p k all some sea : Nat} (ht : t < tm_n T) (hp : p &&& all = p) (ha : all < 2 ^ tm_n T) (hso : some < 1024) (hl : LS_ w some sea) (hk : bt_n all = bt_n p + (k + 1)) (hU : all.testBit t = true → p.testBit t = false → w_l w 1463 (p ||| 2 ^ t) = Int64.ofNat (wk_ (E_ T X some sea all) (tm_n T) all k (p ||| 2 ^ t))) (hc : w_l w 1463 p = Int64.ofNat (sm_ (dn_ (E_ T X some sea all) (tm_n T) all k p) t)) : ∃ w1, Fr_ Pn_ w w1 ∧ (∀ v, v ≠ p → w_l w1 1463 v = w_l w 1463 v) ∧ w_l w1 1463 p = Int64.ofNat (sm_ (dn_ (E_ T X some sea all) (tm_n T) all k p) (t + 1)) ∧ ∀ Q, wp (d + 4) 222 28 [Option.some (v_R (Option.some 1440)), Option.some (v_I (Int32.ofNat all)), Option.some (v_I (Int32.ofNat p)), Option.some (v_I (Int32.ofNat t))] [] w Q = wp (d + 4) 222 28 [Option.some (v_R (Option.some 1440)), Option.some (v_I (Int32.ofNat all)), Option.some (v_I (Int32.ofNat p)), Option.some (v_I (Int32.ofNat (t + 1)))] [] w1 Q := by
  have hn10 := h.2.2.2.1.1
  have ha1024 : all < 1024 := Nat.lt_of_lt_of_le ha (p2_le hn10)
  have hpl : p < 1024 := Nat.lt_of_le_of_lt (sub_le hp) ha1024
  have hor := or_lt hpl (by omega : t < 10)
  have hk10 : k + 1 ≤ 10 := by have := bt_10 ha1024; omega
  have hx : all ^^^ (all &&& p) < 1024 := Nat.xor_lt_two_pow (n := 10) ha1024 (Nat.lt_of_le_of_lt Nat.and_le_left ha1024)
  have sn := sb_n all p
  have ss := sb_s (t := t) (by omega)
  have so := sb_o p (2 ^ t)
  have jo := fun d Q => m_isOf (w := w) (d := d) (Q := Q) hx (by omega : t < 10)
  have etb : (all ^^^ (all &&& p)).testBit t = (all.testBit t && !p.testBit t) := by
    rw [Nat.testBit_xor, Nat.testBit_and]
    cases all.testBit t <;> cases p.testBit t <;> rfl
  rw [etb] at jo
  have hM := h.1
  unfold sh_M at hM
  have u0 : w_t w 1440 = 25 := hM.1
  have u4 : w_r w 1440 4 = Option.some 1444 := by simp only [hM]
  have u38 : w_r w 1440 38 = Option.some 1463 := by simp only [hM]
  have t44 : w_t w 1444 = 1 := by simp only [hM]
  have n44 : w_n w 1444 = 8 := by simp only [hM]
  have t63 : w_t w 1463 = 4 := by simp only [hM]
  have n63 : w_n w 1463 = 1024 := by simp only [hM]
  clear hM
  have e0 : w_i w 1444 0 = Int32.ofNat (tm_n T) := h.2.1.1
  have skip : dn_ (E_ T X some sea all) (tm_n T) all k p t = 0 → sm_ (dn_ (E_ T X some sea all) (tm_n T) all k p) (t + 1) = sm_ (dn_ (E_ T X some sea all) (tm_n T) all k p) t := fun z => by rw [sm_, z, Nat.add_zero]
  cases e1 : (all.testBit t && !p.testBit t) with
  | false =>
    rw [e1] at jo
    have z0 : dn_ (E_ T X some sea all) (tm_n T) all k p t = 0 := by
      unfold dn_ E_
      cases a1 : all.testBit t with
      | false => rw [Bool.false_and, Bool.false_and, Bool.and_false, if_neg (by decide)]
      | true =>
        rw [a1, Bool.true_and] at e1
        rw [e1, Bool.false_and, if_neg (by decide)]
    refine ⟨w, fr_rf _ _, fun _ _ => rfl, by rw [skip z0]; exact hc, fun Q => ?_⟩
    rw [x_222_28]
    simp (disch := first | omega | decide | exact ko_b _ | assumption | (simp only [t_si, t_sl, t_sr, t_sI, t_sR, n_si, n_sl, n_sr, n_sI, n_sR, r_si, r_sl, r_sI]; first | done | omega)) only [x_222_e, x_222_b, x_222_29, x_222_30, x_222_33, x_222_34, x_222_35, x_222_38, x_222_39, x_222_40, x_222_41, x_222_42, x_222_43, x_222_44, x_222_47, x_222_50, x_222_51, x_222_54, x_222_55, x_222_56, x_222_57, x_222_58, x_222_59, x_222_60, x_222_61, x_222_62, x_222_65, x_222_66, x_222_67, x_222_68, x_222_69, x_222_72, x_222_75, x_222_76, x_222_79, x_222_80, x_222_81, x_222_82, x_222_83, x_222_86, x_222_87, x_222_88, x_222_89, x_222_90, x_222_91, x_222_92, x_222_93, x_222_94, x_222_97, bk_v, bk_n, nl_I, nl_R, nl_L, nl_0, oo_lt, oo_le, oo_eq, oo_add, oo_sub, oo_tn, oo_ir, nn_leT, nn_leF, nn_ltT, nn_ltF, nn_eqT, nn_eqF, bv_0, bv_1, ko_b, ko_1, ko_0, true_and, and_true, if_true, if_false, not_true_eq_false, not_false_eq_true, oo_02, decide_eq_true_eq, decide_eq_false_iff_not, ite_not, Nat.reduceAdd, Nat.reduceLT, Nat.reduceSub, Nat.reduceLeDiff, reduceIte, Bool.true_eq_false, Bool.false_eq_true, reduceCtorEq, eq_self, decide_true, decide_false, bv_t, bv_f, and_self, t_si, t_sl, t_sr, t_sI, t_sR, n_si, n_sl, n_sr, n_sI, n_sR, r_si, r_sl, r_sI, u4, n44, e0, sn, jo]
  | true =>
    rw [e1] at jo
    rw [Bool.and_eq_true, Bool.not_eq_true'] at e1
    obtain ⟨a1, a2⟩ := e1
    have hcell := hU a1 a2
    have hB := wk_b (T := T) (E := E_ T X some sea all) (B := all) (k := k) (A := p ||| 2 ^ t) hn10 (by omega)
    by_cases cz : wk_ (E_ T X some sea all) (tm_n T) all k (p ||| 2 ^ t) = 0
    · have z0 : dn_ (E_ T X some sea all) (tm_n T) all k p t = 0 := by
        unfold dn_
        rw [cz, ite_self]
      rw [cz] at hcell
      refine ⟨w, fr_rf _ _, fun _ _ => rfl, by rw [skip z0]; exact hc, fun Q => ?_⟩
      rw [x_222_28]
      simp (disch := first | omega | decide | exact ko_b _ | assumption | (simp only [t_si, t_sl, t_sr, t_sI, t_sR, n_si, n_sl, n_sr, n_sI, n_sR, r_si, r_sl, r_sI]; first | done | omega)) only [x_222_e, x_222_b, x_222_29, x_222_30, x_222_33, x_222_34, x_222_35, x_222_38, x_222_39, x_222_40, x_222_41, x_222_42, x_222_43, x_222_44, x_222_47, x_222_50, x_222_51, x_222_54, x_222_55, x_222_56, x_222_57, x_222_58, x_222_59, x_222_60, x_222_61, x_222_62, x_222_65, x_222_66, x_222_67, x_222_68, x_222_69, x_222_72, x_222_75, x_222_76, x_222_79, x_222_80, x_222_81, x_222_82, x_222_83, x_222_86, x_222_87, x_222_88, x_222_89, x_222_90, x_222_91, x_222_92, x_222_93, x_222_94, x_222_97, bk_v, bk_n, nl_I, nl_R, nl_L, nl_0, oo_lt, oo_le, oo_eq, oo_add, oo_sub, oo_tn, oo_ir, nn_leT, nn_leF, nn_ltT, nn_ltF, nn_eqT, nn_eqF, bv_0, bv_1, ko_b, ko_1, ko_0, true_and, and_true, if_true, if_false, not_true_eq_false, not_false_eq_true, oo_02, decide_eq_true_eq, decide_eq_false_iff_not, ite_not, Nat.reduceAdd, Nat.reduceLT, Nat.reduceSub, Nat.reduceLeDiff, reduceIte, Bool.true_eq_false, Bool.false_eq_true, reduceCtorEq, eq_self, decide_true, decide_false, bv_t, bv_f, and_self, t_si, t_sl, t_sr, t_sI, t_sR, n_si, n_sl, n_sr, n_sI, n_sR, r_si, r_sl, r_sI, u4, n44, e0, sn, jo, ss, so, u38, n63, hcell, lg_le, l_le]
    · have cz2 : (Int64.ofNat (wk_ (E_ T X some sea all) (tm_n T) all k (p ||| 2 ^ t)) ≤ Int64.ofNat 0) = False := by
        rw [l_le (by omega) (by omega)]; exact eq_false (by omega)
      have hft := fun Q => m_ft h hW (d := d) (t := t) (below := p) (all := all) (some := some) (sea := sea) (Q := Q) ht hp ha a1 hso hl.1 hl.2
      cases eE : E_ T X some sea all p t with
      | false =>
        rw [eE] at hft
        have z0 : dn_ (E_ T X some sea all) (tm_n T) all k p t = 0 := by
          unfold dn_
          rw [eE, Bool.and_false, if_neg (by decide)]
        refine ⟨w, fr_rf _ _, fun _ _ => rfl, by rw [skip z0]; exact hc, fun Q => ?_⟩
        rw [x_222_28]
        simp (disch := first | omega | decide | exact ko_b _ | assumption | (simp only [t_si, t_sl, t_sr, t_sI, t_sR, n_si, n_sl, n_sr, n_sI, n_sR, r_si, r_sl, r_sI]; first | done | omega)) only [x_222_e, x_222_b, x_222_29, x_222_30, x_222_33, x_222_34, x_222_35, x_222_38, x_222_39, x_222_40, x_222_41, x_222_42, x_222_43, x_222_44, x_222_47, x_222_50, x_222_51, x_222_54, x_222_55, x_222_56, x_222_57, x_222_58, x_222_59, x_222_60, x_222_61, x_222_62, x_222_65, x_222_66, x_222_67, x_222_68, x_222_69, x_222_72, x_222_75, x_222_76, x_222_79, x_222_80, x_222_81, x_222_82, x_222_83, x_222_86, x_222_87, x_222_88, x_222_89, x_222_90, x_222_91, x_222_92, x_222_93, x_222_94, x_222_97, bk_v, bk_n, nl_I, nl_R, nl_L, nl_0, oo_lt, oo_le, oo_eq, oo_add, oo_sub, oo_tn, oo_ir, nn_leT, nn_leF, nn_ltT, nn_ltF, nn_eqT, nn_eqF, bv_0, bv_1, ko_b, ko_1, ko_0, true_and, and_true, if_true, if_false, not_true_eq_false, not_false_eq_true, oo_02, decide_eq_true_eq, decide_eq_false_iff_not, ite_not, Nat.reduceAdd, Nat.reduceLT, Nat.reduceSub, Nat.reduceLeDiff, reduceIte, Bool.true_eq_false, Bool.false_eq_true, reduceCtorEq, eq_self, decide_true, decide_false, bv_t, bv_f, and_self, t_si, t_sl, t_sr, t_sI, t_sR, n_si, n_sl, n_sr, n_sI, n_sR, r_si, r_sl, r_sI, u4, n44, e0, sn, jo, ss, so, u38, n63, hcell, lg_le, cz2, hft]
      | true =>
        rw [eE] at hft
        have z0 : dn_ (E_ T X some sea all) (tm_n T) all k p t = wk_ (E_ T X some sea all) (tm_n T) all k (p ||| 2 ^ t) := by
          unfold dn_
          rw [a2, eE]; rfl
        refine ⟨s_l w 1463 p (Int64.ofNat (sm_ (dn_ (E_ T X some sea all) (tm_n T) all k p) (t + 1))), fr_sl (fr_rf _ _) (by omega), fun v hv => by rw [l_sl, if_neg (fun z => hv z.2)], by rw [l_sl, if_pos ⟨rfl, rfl⟩], fun Q => ?_⟩
        rw [x_222_28, sm_, z0]
        simp (disch := first | omega | decide | exact ko_b _ | assumption | (simp only [t_si, t_sl, t_sr, t_sI, t_sR, n_si, n_sl, n_sr, n_sI, n_sR, r_si, r_sl, r_sI]; first | done | omega)) only [x_222_e, x_222_b, x_222_29, x_222_30, x_222_33, x_222_34, x_222_35, x_222_38, x_222_39, x_222_40, x_222_41, x_222_42, x_222_43, x_222_44, x_222_47, x_222_50, x_222_51, x_222_54, x_222_55, x_222_56, x_222_57, x_222_58, x_222_59, x_222_60, x_222_61, x_222_62, x_222_65, x_222_66, x_222_67, x_222_68, x_222_69, x_222_72, x_222_75, x_222_76, x_222_79, x_222_80, x_222_81, x_222_82, x_222_83, x_222_86, x_222_87, x_222_88, x_222_89, x_222_90, x_222_91, x_222_92, x_222_93, x_222_94, x_222_97, bk_v, bk_n, nl_I, nl_R, nl_L, nl_0, oo_lt, oo_le, oo_eq, oo_add, oo_sub, oo_tn, oo_ir, nn_leT, nn_leF, nn_ltT, nn_ltF, nn_eqT, nn_eqF, bv_0, bv_1, ko_b, ko_1, ko_0, true_and, and_true, if_true, if_false, not_true_eq_false, not_false_eq_true, oo_02, decide_eq_true_eq, decide_eq_false_iff_not, ite_not, Nat.reduceAdd, Nat.reduceLT, Nat.reduceSub, Nat.reduceLeDiff, reduceIte, Bool.true_eq_false, Bool.false_eq_true, reduceCtorEq, eq_self, decide_true, decide_false, bv_t, bv_f, and_self, t_si, t_sl, t_sr, t_sI, t_sR, n_si, n_sl, n_sr, n_sI, n_sR, r_si, r_sl, r_sI, u4, n44, e0, sn, jo, ss, so, u38, n63, hcell, lg_le, cz2, hft, hc, l_add]
end
