/-! THE MODEL's lines and town, joined -/
set_option maxRecDepth 100000
section
variable {t : Tp}
theorem pu_o {w w1 : Wd} (hf : Fr_ pcl_ w w1) : ∀ a k, a ≠ 1440 → (a ≠ 1444 ∨ k ≠ 7) → (a ≠ 1450 ∨ k < 600) → w_i w1 a k = w_i w a k := fun a k h1 h2 h3 => hf.2.2.2.2.2 a k (fun z => by unfold pcl_ pk_ at z; omega)
theorem m_line {D b : Nat} {w : Wd} {s : Ln_} (hD : 70 ≤ D) (he : Me_ w t) (hr : Mr_ w t b) (hu : MTu_ w s.1) (hn : tm_n s.1 ≤ 10) (hk : tk_k t b ≠ 0) (hc : s.2.2.2 = false → tm_co s.1 = []) : ∃ w1 x, (Fr_ pu_ w w1 ∧ Mg_ w1 t x (le_ t (ln_ t s b))) ∧ ∀ Q, cl D 159 [v_R (some 1440), v_I (Int32.ofNat (dne_ s.2))] w Q = Q (Sum.inl (some (v_I x))) w1 := by
  obtain ⟨d, rfl⟩ : ∃ d, D = d + 9 := ⟨D - 9, by omega⟩
  obtain ⟨T, fl, ff, ft⟩ := s
  simp only at hu hn hc
  have hM := he.2.1
  unfold sh_M at hM
  have t0 := he.1.1
  have r1 := hr.2.1
  have hbt := tk_gt hk
  obtain ⟨sc1, sa1⟩ := s_lim he.2.2.1
  obtain ⟨sc2, sa2⟩ := s_foo he.2.2.1
  obtain ⟨sc3, sa3⟩ := s_tak he.2.2.1
  have hw1 := fun Q => m_isw (D := d + 8) (Q := Q) (by omega) sc1 sa1 he.1 hr
  have hw2 := fun Q => m_isw (D := d + 8) (Q := Q) (by omega) sc2 sa2 he.1 hr
  have hw3 := fun Q => m_isw (D := d + 8) (Q := Q) (by omega) sc3 sa3 he.1 hr
  have hwk := fun Q => m_wk (D := d + 8) (Q := Q) (by omega) he hr
  have i1 := dnx_1 fl ff ft
  have i2 := dnx_2 fl ff ft
  have i4 := dnx_4 fl ff ft
  have i0 := dnx_0 fl ff ft
  have a1 : ∀ {a k}, pk_ a k → pu_ a k := fun z => Or.inl z
  have fin : ∀ (wA : Wd) (kk : Nat) (o : Int32), Fr_ pu_ w wA → Mg_ wA t (Int32.ofNat (dne_ (fl, ff, ft)) ||| Int32.ofNat kk) (ln_ t (T, fl, ff, ft) b) → (∀ Q, cl (d + 9) 159 [v_R (some 1440), v_I (Int32.ofNat (dne_ (fl, ff, ft)))] w Q = wp (d + 9) 159 149 [some (v_R (some 1440)), some (v_I (Int32.ofNat (dne_ (fl, ff, ft)))), some (v_I (Int32.ofNat kk)), some (v_I o)] [] wA Q) → ∃ w1 x, (Fr_ pu_ w w1 ∧ Mg_ w1 t x (le_ t (ln_ t (T, fl, ff, ft) b))) ∧ ∀ Q, cl (d + 9) 159 [v_R (some 1440), v_I (Int32.ofNat (dne_ (fl, ff, ft)))] w Q = Q (Sum.inl (some (v_I x))) w1 := by
    intro wA kk o F m q
    obtain ⟨w1, ⟨f1, m1⟩, q1⟩ := m_fin (D := d + 8) (by omega) (Me_fr he F).1 m
    have tA := (Me_fr he F).1.1
    refine ⟨w1, _, ⟨fr_tr F (fr_mo f1 fun _ _ z => a1 z), m1⟩, fun Q => ?_⟩
    rw [q]
    simp (disch := first | omega | decide | exact ko_b _ | assumption | (simp only [t_si, t_sl, t_sr, t_sI, t_sR, n_si, n_sl, n_sr, n_sI, n_sR, r_si, r_sl, r_sI]; first | done | omega)) only [x_159_e, x_159_b, x_159_149, x_159_150, x_159_152, x_159_155, x_159_156, x_159_157, x_159_158, bk_v, bk_n, nl_I, nl_R, nl_L, nl_0, oo_lt, oo_le, oo_eq, oo_add, oo_sub, oo_tn, oo_ir, nn_leT, nn_leF, nn_ltT, nn_ltF, nn_eqT, nn_eqF, bv_0, bv_1, ko_b, ko_1, ko_0, true_and, and_true, if_true, if_false, not_true_eq_false, not_false_eq_true, oo_02, decide_eq_true_eq, decide_eq_false_iff_not, ite_not, Nat.reduceAdd, Nat.reduceLT, Nat.reduceSub, Nat.reduceLeDiff, reduceIte, Bool.true_eq_false, Bool.false_eq_true, reduceCtorEq, eq_self, decide_true, decide_false, bv_t, bv_f, and_self, t_si, t_sl, t_sr, t_sI, t_sR, n_si, n_sl, n_sr, n_sI, n_sR, r_si, r_sl, r_sI, q1]
  obtain ⟨f1, g1, p1⟩ := wr_f he.1 hr (c := 4) (by omega)
  have hw4 := fun d Q => m_wr (d := d) (c := 4) (Q := Q) t0 hr
  have hn4 := Mf_n p1
  have t4 := g1.1
  have s4 : sh_M (wr_ w 4 b) := (Me_k he f1).2.1
  have hnf := fun D x y Q => m_numf (D := D) (x := x) (y := y) (Q := Q) t4 p1
  have hef := m_exf (a := 0) (d + 8) (wr_ w 4 b) (4, b) (by omega) t4 p1
  obtain ⟨u1, ⟨f2, g2, p2⟩, q2⟩ := m_step (D := d + 8) (by omega) he.1 hr.2.1 hr.2.2.1 (tk_ebd hr.1).2
  have p2 : Mr_ u1 t (tk_n t b) := p2
  have s2 : sh_M u1 := (Me_k he f2).2.1
  have hu1 := MTu_k hu f2
  have tu := g2.1
  have F2 : Fr_ pu_ w u1 := fr_mo f2 fun _ _ z => a1 z
  unfold sh_M at s4 s2
  by_cases c1 : is_w t b [108, 105, 109, 105, 116] = true
  · rw [c1] at hw1
    cases fl with
    | true =>
      have el : ln_ t (T, true, ff, ft) b = Sum.inl (4, b) := by unfold ln_; rw [if_pos c1]; rfl
      refine fin (s_i (wr_ w 4 b) 1444 5 (Int32.ofNat 0)) 1 (o_i (ks_ t b)) (fr_si (fr_mo f1 fun _ _ z => a1 z) (Or.inr (Or.inl ⟨rfl, by omega⟩))) (by rw [el]; exact Mf_si p1 (by omega)) (fun Q => ?_)
      simp (disch := first | omega | decide | exact ko_b _ | assumption | (simp only [t_si, t_sl, t_sr, t_sI, t_sR, n_si, n_sl, n_sr, n_sI, n_sR, r_si, r_sl, r_sI]; first | done | omega)) only [x_159_e, x_159_b, x_159_0, x_159_1, x_159_4, x_159_7, x_159_10, x_159_11, x_159_14, x_159_15, x_159_18, x_159_21, x_159_24, x_159_25, x_159_28, x_159_29, x_159_32, x_159_35, x_159_38, x_159_39, x_159_42, x_159_43, x_159_44, x_159_45, x_159_46, x_159_49, x_159_52, x_159_53, x_159_54, x_159_55, x_159_56, x_159_59, x_159_60, x_159_61, x_159_64, x_159_65, x_159_68, x_159_69, x_159_72, x_159_75, x_159_76, x_159_79, x_159_80, x_159_81, x_159_84, x_159_85, x_159_88, x_159_89, x_159_90, x_159_91, x_159_93, x_159_96, x_159_97, x_159_100, x_159_101, x_159_102, x_159_105, x_159_106, x_159_109, x_159_111, x_159_112, x_159_113, x_159_116, x_159_119, x_159_120, x_159_123, x_159_124, x_159_125, x_159_128, x_159_131, x_159_132, x_159_133, x_159_136, x_159_137, x_159_138, x_159_141, x_159_144, x_159_145, x_159_146, bk_v, bk_n, nl_I, nl_R, nl_L, nl_0, oo_lt, oo_le, oo_eq, oo_add, oo_sub, oo_tn, oo_ir, nn_leT, nn_leF, nn_ltT, nn_ltF, nn_eqT, nn_eqF, bv_0, bv_1, ko_b, ko_1, ko_0, true_and, and_true, if_true, if_false, not_true_eq_false, not_false_eq_true, oo_02, decide_eq_true_eq, decide_eq_false_iff_not, ite_not, Nat.reduceAdd, Nat.reduceLT, Nat.reduceSub, Nat.reduceLeDiff, reduceIte, Bool.true_eq_false, Bool.false_eq_true, reduceCtorEq, eq_self, decide_true, decide_false, bv_t, bv_f, and_self, t_si, t_sl, t_sr, t_sI, t_sR, n_si, n_sl, n_sr, n_sI, n_sR, r_si, r_sl, r_sI, hM, hw1, hwk, i1, hw4, hn4, s4, hnf]
    | false =>
      obtain ⟨u2, v, ⟨f3, g3, p3⟩, q3⟩ := m_num (D := d + 8) (lo := 0) (hi := 40) (by omega) g2 p2 (by omega) (by omega)
      have s3 : sh_M u2 := (Me_k (Me_k he f2) f3).2.1
      unfold sh_M at s3
      refine fin (s_i u2 1444 5 v) 1 (o_i (ks_ t b)) (fr_si (fr_tr F2 (fr_mo f3 fun _ _ z => a1 z)) (Or.inr (Or.inl ⟨rfl, by omega⟩))) ?_ (fun Q => ?_)
      · unfold ln_
        rw [if_pos c1, if_neg Bool.false_ne_true]
        cases hx : nm_ t 0 40 (tk_n t b) with
        | inl e => rw [hx] at p3; exact Mf_si p3 (by omega)
        | inr r =>
          rw [hx] at p3
          obtain ⟨p3, rfl⟩ := p3
          obtain ⟨m1, m2, m3, m4, m5, m6, m7, m8, m9, m10⟩ := MTu_k hu1 f3
          refine ⟨Mr_si p3 (by omega), ⟨?_, ?_, ?_, fun j hj => ?_, fun j hj => ?_, fun j hj => ?_, fun j hj => ?_, fun j hj => ?_, ?_, fun j hj => ?_⟩, do_1 ff ft⟩
          · rw [i_si, if_neg (by omega)]; exact m1
          · rw [i_si, if_pos ⟨rfl, rfl⟩]; rfl
          · rw [i_si, if_neg (by omega)]; exact m3
          · rw [i_si, if_neg (by omega)]; exact m4 j hj
          · rw [i_si, if_neg (by omega)]; exact m5 j hj
          · rw [i_si, if_neg (by omega)]; exact m6 j hj
          · rw [i_si, if_neg (by omega)]; exact m7 j hj
          · rw [i_si, if_neg (by omega)]; exact m8 j hj
          · rw [i_si, if_neg (by omega)]; exact m9
          · rw [i_si, if_neg (by omega)]; exact m10 j hj
      · simp (disch := first | omega | decide | exact ko_b _ | assumption | (simp only [t_si, t_sl, t_sr, t_sI, t_sR, n_si, n_sl, n_sr, n_sI, n_sR, r_si, r_sl, r_sI]; first | done | omega)) only [x_159_e, x_159_b, x_159_0, x_159_1, x_159_4, x_159_7, x_159_10, x_159_11, x_159_14, x_159_15, x_159_18, x_159_21, x_159_24, x_159_25, x_159_28, x_159_29, x_159_32, x_159_35, x_159_38, x_159_39, x_159_42, x_159_43, x_159_44, x_159_45, x_159_46, x_159_49, x_159_52, x_159_53, x_159_54, x_159_55, x_159_56, x_159_59, x_159_60, x_159_61, x_159_64, x_159_65, x_159_68, x_159_69, x_159_72, x_159_75, x_159_76, x_159_79, x_159_80, x_159_81, x_159_84, x_159_85, x_159_88, x_159_89, x_159_90, x_159_91, x_159_93, x_159_96, x_159_97, x_159_100, x_159_101, x_159_102, x_159_105, x_159_106, x_159_109, x_159_111, x_159_112, x_159_113, x_159_116, x_159_119, x_159_120, x_159_123, x_159_124, x_159_125, x_159_128, x_159_131, x_159_132, x_159_133, x_159_136, x_159_137, x_159_138, x_159_141, x_159_144, x_159_145, x_159_146, bk_v, bk_n, nl_I, nl_R, nl_L, nl_0, oo_lt, oo_le, oo_eq, oo_add, oo_sub, oo_tn, oo_ir, nn_leT, nn_leF, nn_ltT, nn_ltF, nn_eqT, nn_eqF, bv_0, bv_1, ko_b, ko_1, ko_0, true_and, and_true, if_true, if_false, not_true_eq_false, not_false_eq_true, oo_02, decide_eq_true_eq, decide_eq_false_iff_not, ite_not, Nat.reduceAdd, Nat.reduceLT, Nat.reduceSub, Nat.reduceLeDiff, reduceIte, Bool.true_eq_false, Bool.false_eq_true, reduceCtorEq, eq_self, decide_true, decide_false, bv_t, bv_f, and_self, t_si, t_sl, t_sr, t_sI, t_sR, n_si, n_sl, n_sr, n_sI, n_sR, r_si, r_sl, r_sI, hM, hw1, hwk, i1, r1, q2, s2, q3, s3]
  · have c1 := Bool.eq_false_iff.mpr c1
    rw [c1] at hw1
    by_cases c2 : is_w t b [102, 111, 111, 100] = true
    · rw [c2] at hw2
      cases ff with
      | true =>
        have el : ln_ t (T, fl, true, ft) b = Sum.inl (4, b) := by unfold ln_; rw [c1, if_neg Bool.false_ne_true, if_pos c2]; rfl
        refine fin (s_i (wr_ w 4 b) 1444 6 (Int32.ofNat 0)) 2 (o_i (ks_ t b)) (fr_si (fr_mo f1 fun _ _ z => a1 z) (Or.inr (Or.inl ⟨rfl, by omega⟩))) (by rw [el]; exact Mf_si p1 (by omega)) (fun Q => ?_)
        simp (disch := first | omega | decide | exact ko_b _ | assumption | (simp only [t_si, t_sl, t_sr, t_sI, t_sR, n_si, n_sl, n_sr, n_sI, n_sR, r_si, r_sl, r_sI]; first | done | omega)) only [x_159_e, x_159_b, x_159_0, x_159_1, x_159_4, x_159_7, x_159_10, x_159_11, x_159_14, x_159_15, x_159_18, x_159_21, x_159_24, x_159_25, x_159_28, x_159_29, x_159_32, x_159_35, x_159_38, x_159_39, x_159_42, x_159_43, x_159_44, x_159_45, x_159_46, x_159_49, x_159_52, x_159_53, x_159_54, x_159_55, x_159_56, x_159_59, x_159_60, x_159_61, x_159_64, x_159_65, x_159_68, x_159_69, x_159_72, x_159_75, x_159_76, x_159_79, x_159_80, x_159_81, x_159_84, x_159_85, x_159_88, x_159_89, x_159_90, x_159_91, x_159_93, x_159_96, x_159_97, x_159_100, x_159_101, x_159_102, x_159_105, x_159_106, x_159_109, x_159_111, x_159_112, x_159_113, x_159_116, x_159_119, x_159_120, x_159_123, x_159_124, x_159_125, x_159_128, x_159_131, x_159_132, x_159_133, x_159_136, x_159_137, x_159_138, x_159_141, x_159_144, x_159_145, x_159_146, bk_v, bk_n, nl_I, nl_R, nl_L, nl_0, oo_lt, oo_le, oo_eq, oo_add, oo_sub, oo_tn, oo_ir, nn_leT, nn_leF, nn_ltT, nn_ltF, nn_eqT, nn_eqF, bv_0, bv_1, ko_b, ko_1, ko_0, true_and, and_true, if_true, if_false, not_true_eq_false, not_false_eq_true, oo_02, decide_eq_true_eq, decide_eq_false_iff_not, ite_not, Nat.reduceAdd, Nat.reduceLT, Nat.reduceSub, Nat.reduceLeDiff, reduceIte, Bool.true_eq_false, Bool.false_eq_true, reduceCtorEq, eq_self, decide_true, decide_false, bv_t, bv_f, and_self, t_si, t_sl, t_sr, t_sI, t_sR, n_si, n_sl, n_sr, n_sI, n_sR, r_si, r_sl, r_sI, hM, hw1, hw2, hwk, i2, hw4, hn4, s4, hnf]
      | false =>
        obtain ⟨u2, v, ⟨f3, g3, p3⟩, q3⟩ := m_num (D := d + 8) (lo := 0) (hi := 999) (by omega) g2 p2 (by omega) (by omega)
        have s3 : sh_M u2 := (Me_k (Me_k he f2) f3).2.1
        unfold sh_M at s3
        refine fin (s_i u2 1444 6 v) 2 (o_i (ks_ t b)) (fr_si (fr_tr F2 (fr_mo f3 fun _ _ z => a1 z)) (Or.inr (Or.inl ⟨rfl, by omega⟩))) ?_ (fun Q => ?_)
        · unfold ln_
          rw [c1, if_neg Bool.false_ne_true, if_pos c2, if_neg Bool.false_ne_true]
          cases hx : nm_ t 0 999 (tk_n t b) with
          | inl e => rw [hx] at p3; exact Mf_si p3 (by omega)
          | inr r =>
            rw [hx] at p3
            obtain ⟨p3, rfl⟩ := p3
            obtain ⟨m1, m2, m3, m4, m5, m6, m7, m8, m9, m10⟩ := MTu_k hu1 f3
            refine ⟨Mr_si p3 (by omega), ⟨?_, ?_, ?_, fun j hj => ?_, fun j hj => ?_, fun j hj => ?_, fun j hj => ?_, fun j hj => ?_, ?_, fun j hj => ?_⟩, do_2 fl ft⟩
            · rw [i_si, if_neg (by omega)]; exact m1
            · rw [i_si, if_neg (by omega)]; exact m2
            · rw [i_si, if_pos ⟨rfl, rfl⟩]; rfl
            · rw [i_si, if_neg (by omega)]; exact m4 j hj
            · rw [i_si, if_neg (by omega)]; exact m5 j hj
            · rw [i_si, if_neg (by omega)]; exact m6 j hj
            · rw [i_si, if_neg (by omega)]; exact m7 j hj
            · rw [i_si, if_neg (by omega)]; exact m8 j hj
            · rw [i_si, if_neg (by omega)]; exact m9
            · rw [i_si, if_neg (by omega)]; exact m10 j hj
        · simp (disch := first | omega | decide | exact ko_b _ | assumption | (simp only [t_si, t_sl, t_sr, t_sI, t_sR, n_si, n_sl, n_sr, n_sI, n_sR, r_si, r_sl, r_sI]; first | done | omega)) only [x_159_e, x_159_b, x_159_0, x_159_1, x_159_4, x_159_7, x_159_10, x_159_11, x_159_14, x_159_15, x_159_18, x_159_21, x_159_24, x_159_25, x_159_28, x_159_29, x_159_32, x_159_35, x_159_38, x_159_39, x_159_42, x_159_43, x_159_44, x_159_45, x_159_46, x_159_49, x_159_52, x_159_53, x_159_54, x_159_55, x_159_56, x_159_59, x_159_60, x_159_61, x_159_64, x_159_65, x_159_68, x_159_69, x_159_72, x_159_75, x_159_76, x_159_79, x_159_80, x_159_81, x_159_84, x_159_85, x_159_88, x_159_89, x_159_90, x_159_91, x_159_93, x_159_96, x_159_97, x_159_100, x_159_101, x_159_102, x_159_105, x_159_106, x_159_109, x_159_111, x_159_112, x_159_113, x_159_116, x_159_119, x_159_120, x_159_123, x_159_124, x_159_125, x_159_128, x_159_131, x_159_132, x_159_133, x_159_136, x_159_137, x_159_138, x_159_141, x_159_144, x_159_145, x_159_146, bk_v, bk_n, nl_I, nl_R, nl_L, nl_0, oo_lt, oo_le, oo_eq, oo_add, oo_sub, oo_tn, oo_ir, nn_leT, nn_leF, nn_ltT, nn_ltF, nn_eqT, nn_eqF, bv_0, bv_1, ko_b, ko_1, ko_0, true_and, and_true, if_true, if_false, not_true_eq_false, not_false_eq_true, oo_02, decide_eq_true_eq, decide_eq_false_iff_not, ite_not, Nat.reduceAdd, Nat.reduceLT, Nat.reduceSub, Nat.reduceLeDiff, reduceIte, Bool.true_eq_false, Bool.false_eq_true, reduceCtorEq, eq_self, decide_true, decide_false, bv_t, bv_f, and_self, t_si, t_sl, t_sr, t_sI, t_sR, n_si, n_sl, n_sr, n_sI, n_sR, r_si, r_sl, r_sI, hM, hw1, hw2, hwk, i2, r1, q2, s2, q3, s3]
    · have c2 := Bool.eq_false_iff.mpr c2
      rw [c2] at hw2
      by_cases c3 : is_w t b [116, 97, 107, 101, 115] = true
      · rw [c3] at hw3
        cases ft with
        | true =>
          have el : ln_ t (T, fl, ff, true) b = Sum.inl (4, b) := by unfold ln_; rw [c1, if_neg Bool.false_ne_true, c2, if_neg Bool.false_ne_true, if_pos c3]; rfl
          refine fin (wr_ w 4 b) 4 (o_i (ks_ t b)) (fr_mo f1 fun _ _ z => a1 z) (by rw [el]; exact p1) (fun Q => ?_)
          simp (disch := first | omega | decide | exact ko_b _ | assumption | (simp only [t_si, t_sl, t_sr, t_sI, t_sR, n_si, n_sl, n_sr, n_sI, n_sR, r_si, r_sl, r_sI]; first | done | omega)) only [x_159_e, x_159_b, x_159_0, x_159_1, x_159_4, x_159_7, x_159_10, x_159_11, x_159_14, x_159_15, x_159_18, x_159_21, x_159_24, x_159_25, x_159_28, x_159_29, x_159_32, x_159_35, x_159_38, x_159_39, x_159_42, x_159_43, x_159_44, x_159_45, x_159_46, x_159_49, x_159_52, x_159_53, x_159_54, x_159_55, x_159_56, x_159_59, x_159_60, x_159_61, x_159_64, x_159_65, x_159_68, x_159_69, x_159_72, x_159_75, x_159_76, x_159_79, x_159_80, x_159_81, x_159_84, x_159_85, x_159_88, x_159_89, x_159_90, x_159_91, x_159_93, x_159_96, x_159_97, x_159_100, x_159_101, x_159_102, x_159_105, x_159_106, x_159_109, x_159_111, x_159_112, x_159_113, x_159_116, x_159_119, x_159_120, x_159_123, x_159_124, x_159_125, x_159_128, x_159_131, x_159_132, x_159_133, x_159_136, x_159_137, x_159_138, x_159_141, x_159_144, x_159_145, x_159_146, bk_v, bk_n, nl_I, nl_R, nl_L, nl_0, oo_lt, oo_le, oo_eq, oo_add, oo_sub, oo_tn, oo_ir, nn_leT, nn_leF, nn_ltT, nn_ltF, nn_eqT, nn_eqF, bv_0, bv_1, ko_b, ko_1, ko_0, true_and, and_true, if_true, if_false, not_true_eq_false, not_false_eq_true, oo_02, decide_eq_true_eq, decide_eq_false_iff_not, ite_not, Nat.reduceAdd, Nat.reduceLT, Nat.reduceSub, Nat.reduceLeDiff, reduceIte, Bool.true_eq_false, Bool.false_eq_true, reduceCtorEq, eq_self, decide_true, decide_false, bv_t, bv_f, and_self, t_si, t_sl, t_sr, t_sI, t_sR, n_si, n_sl, n_sr, n_sI, n_sR, r_si, r_sl, r_sI, hM, hw1, hw2, hw3, hwk, i4, hw4, hn4, hef]
        | false =>
          have hco := hc rfl
          have c0 : Mc_ u1 [] := by have := hu1.2.2.2.2.2.2.2.2; rw [hco] at this; exact this
          obtain ⟨u2, ⟨f3, p3⟩, q3⟩ := m_exx (t := t) 6 0 (by omega) (d + 8) u1 (tk_n t b) [] (by omega) (Me_k he f2) p2 c0 (Nat.zero_le _)
          have g3 := pu_o f3
          refine fin u2 4 (o_i (ks_ t b)) (fr_tr F2 (fr_mo f3 fun _ _ z => pl_u z)) ?_ (fun Q => ?_)
          · unfold ln_
            rw [c1, if_neg Bool.false_ne_true, c2, if_neg Bool.false_ne_true, if_pos c3, if_neg Bool.false_ne_true]
            cases hx : ex_p t 6 (tk_n t b) with
            | inl e => rw [hx] at p3; exact p3
            | inr r =>
              rw [hx] at p3
              obtain ⟨p3, c4⟩ := p3
              obtain ⟨m1, m2, m3, m4, m5, m6, m7, m8, m9⟩ := hu1
              exact ⟨p3, ⟨(g3 _ _ (by omega) (by omega) (by omega)).trans m1, (g3 _ _ (by omega) (by omega) (by omega)).trans m2, (g3 _ _ (by omega) (by omega) (by omega)).trans m3, fun j hj => (g3 _ _ (by omega) (by omega) (by omega)).trans (m4 j hj), fun j hj => (g3 _ _ (by omega) (by omega) (by omega)).trans (m5 j hj), fun j hj => (g3 _ _ (by omega) (by omega) (by omega)).trans (m6 j hj), fun j hj => (g3 _ _ (by omega) (by omega) (by omega)).trans (m7 j hj), fun j hj => (g3 _ _ (by omega) (by omega) (by omega)).trans (m8 j hj), c4⟩, do_4 fl ff⟩
          · simp (disch := first | omega | decide | exact ko_b _ | assumption | (simp only [t_si, t_sl, t_sr, t_sI, t_sR, n_si, n_sl, n_sr, n_sI, n_sR, r_si, r_sl, r_sI]; first | done | omega)) only [x_159_e, x_159_b, x_159_0, x_159_1, x_159_4, x_159_7, x_159_10, x_159_11, x_159_14, x_159_15, x_159_18, x_159_21, x_159_24, x_159_25, x_159_28, x_159_29, x_159_32, x_159_35, x_159_38, x_159_39, x_159_42, x_159_43, x_159_44, x_159_45, x_159_46, x_159_49, x_159_52, x_159_53, x_159_54, x_159_55, x_159_56, x_159_59, x_159_60, x_159_61, x_159_64, x_159_65, x_159_68, x_159_69, x_159_72, x_159_75, x_159_76, x_159_79, x_159_80, x_159_81, x_159_84, x_159_85, x_159_88, x_159_89, x_159_90, x_159_91, x_159_93, x_159_96, x_159_97, x_159_100, x_159_101, x_159_102, x_159_105, x_159_106, x_159_109, x_159_111, x_159_112, x_159_113, x_159_116, x_159_119, x_159_120, x_159_123, x_159_124, x_159_125, x_159_128, x_159_131, x_159_132, x_159_133, x_159_136, x_159_137, x_159_138, x_159_141, x_159_144, x_159_145, x_159_146, bk_v, bk_n, nl_I, nl_R, nl_L, nl_0, oo_lt, oo_le, oo_eq, oo_add, oo_sub, oo_tn, oo_ir, nn_leT, nn_leF, nn_ltT, nn_ltF, nn_eqT, nn_eqF, bv_0, bv_1, ko_b, ko_1, ko_0, true_and, and_true, if_true, if_false, not_true_eq_false, not_false_eq_true, oo_02, decide_eq_true_eq, decide_eq_false_iff_not, ite_not, Nat.reduceAdd, Nat.reduceLT, Nat.reduceSub, Nat.reduceLeDiff, reduceIte, Bool.true_eq_false, Bool.false_eq_true, reduceCtorEq, eq_self, decide_true, decide_false, bv_t, bv_f, and_self, t_si, t_sl, t_sr, t_sI, t_sR, n_si, n_sl, n_sr, n_sI, n_sR, r_si, r_sl, r_sI, hM, hw1, hw2, hw3, hwk, i4, r1, q2, s2, q3]
      · have c3 := Bool.eq_false_iff.mpr c3
        rw [c3] at hw3
        cases hx : ks_ t b with
        | none =>
          rw [hx] at hwk
          have hwk : ∀ Q, cl (d + 8) 161 [v_R (some 1440), v_R (some 1441)] w Q = Q (Sum.inl (some (v_I (Int32.ofInt (-1))))) w := hwk
          obtain ⟨f5, g5, p5⟩ := wr_f he.1 hr (c := 1) (by omega)
          have hw5 := fun d Q => m_wr (d := d) (c := 1) (Q := Q) t0 hr
          have el : ln_ t (T, fl, ff, ft) b = Sum.inl (1, b) := by unfold ln_; rw [c1, if_neg Bool.false_ne_true, c2, if_neg Bool.false_ne_true, c3, if_neg Bool.false_ne_true, hx]
          refine fin (wr_ w 1 b) 0 (Int32.ofInt (-1)) (fr_mo f5 fun _ _ z => a1 z) (by rw [el]; exact p5) (fun Q => ?_)
          simp (disch := first | omega | decide | exact ko_b _ | assumption | (simp only [t_si, t_sl, t_sr, t_sI, t_sR, n_si, n_sl, n_sr, n_sI, n_sR, r_si, r_sl, r_sI]; first | done | omega)) only [x_159_e, x_159_b, x_159_0, x_159_1, x_159_4, x_159_7, x_159_10, x_159_11, x_159_14, x_159_15, x_159_18, x_159_21, x_159_24, x_159_25, x_159_28, x_159_29, x_159_32, x_159_35, x_159_38, x_159_39, x_159_42, x_159_43, x_159_44, x_159_45, x_159_46, x_159_49, x_159_52, x_159_53, x_159_54, x_159_55, x_159_56, x_159_59, x_159_60, x_159_61, x_159_64, x_159_65, x_159_68, x_159_69, x_159_72, x_159_75, x_159_76, x_159_79, x_159_80, x_159_81, x_159_84, x_159_85, x_159_88, x_159_89, x_159_90, x_159_91, x_159_93, x_159_96, x_159_97, x_159_100, x_159_101, x_159_102, x_159_105, x_159_106, x_159_109, x_159_111, x_159_112, x_159_113, x_159_116, x_159_119, x_159_120, x_159_123, x_159_124, x_159_125, x_159_128, x_159_131, x_159_132, x_159_133, x_159_136, x_159_137, x_159_138, x_159_141, x_159_144, x_159_145, x_159_146, bk_v, bk_n, nl_I, nl_R, nl_L, nl_0, oo_lt, oo_le, oo_eq, oo_add, oo_sub, oo_tn, oo_ir, nn_leT, nn_leF, nn_ltT, nn_ltF, nn_eqT, nn_eqF, bv_0, bv_1, ko_b, ko_1, ko_0, true_and, and_true, if_true, if_false, not_true_eq_false, not_false_eq_true, oo_02, decide_eq_true_eq, decide_eq_false_iff_not, ite_not, Nat.reduceAdd, Nat.reduceLT, Nat.reduceSub, Nat.reduceLeDiff, reduceIte, Bool.true_eq_false, Bool.false_eq_true, reduceCtorEq, eq_self, decide_true, decide_false, bv_t, bv_f, and_self, t_si, t_sl, t_sr, t_sI, t_sR, n_si, n_sl, n_sr, n_sI, n_sR, r_si, r_sl, r_sI, hM, hw1, hw2, hw3, hwk, i0, hw5]
        | some k =>
          rw [hx] at hwk
          have hwk : ∀ Q, cl (d + 8) 161 [v_R (some 1440), v_R (some 1441)] w Q = Q (Sum.inl (some (v_I (Int32.ofNat k)))) w := hwk
          have hk4 := (ks_lt hx).1
          have hk1 : ¬ Int32.ofNat k = Int32.ofInt (-1) := fun z => by
            have z1 := congrArg Int32.toInt z
            rw [oo_in (by omega)] at z1
            have e : (Int32.ofInt (-1)).toInt = -1 := by decide
            omega
          obtain ⟨u2, ⟨f3, p3⟩, q3⟩ := m_tbl (D := d + 8) (by omega) he hr hu hn hk hk4
          refine fin u2 0 (Int32.ofNat k) f3 ?_ (fun Q => ?_)
          · unfold ln_
            rw [c1, if_neg Bool.false_ne_true, c2, if_neg Bool.false_ne_true, c3, if_neg Bool.false_ne_true, hx]
            unfold tl_ at p3
            simp only
            by_cases hT : tm_n T < 10
            · rw [if_pos hT] at p3 ⊢
              cases hy : tb_ t T k b with
              | inl e => rw [hy] at p3; exact p3
              | inr r => rw [hy] at p3; exact ⟨p3.1, p3.2, do_0 fl ff ft⟩
            · rw [if_neg hT] at p3 ⊢
              exact p3
          · simp (disch := first | omega | decide | exact ko_b _ | assumption | (simp only [t_si, t_sl, t_sr, t_sI, t_sR, n_si, n_sl, n_sr, n_sI, n_sR, r_si, r_sl, r_sI]; first | done | omega)) only [x_159_e, x_159_b, x_159_0, x_159_1, x_159_4, x_159_7, x_159_10, x_159_11, x_159_14, x_159_15, x_159_18, x_159_21, x_159_24, x_159_25, x_159_28, x_159_29, x_159_32, x_159_35, x_159_38, x_159_39, x_159_42, x_159_43, x_159_44, x_159_45, x_159_46, x_159_49, x_159_52, x_159_53, x_159_54, x_159_55, x_159_56, x_159_59, x_159_60, x_159_61, x_159_64, x_159_65, x_159_68, x_159_69, x_159_72, x_159_75, x_159_76, x_159_79, x_159_80, x_159_81, x_159_84, x_159_85, x_159_88, x_159_89, x_159_90, x_159_91, x_159_93, x_159_96, x_159_97, x_159_100, x_159_101, x_159_102, x_159_105, x_159_106, x_159_109, x_159_111, x_159_112, x_159_113, x_159_116, x_159_119, x_159_120, x_159_123, x_159_124, x_159_125, x_159_128, x_159_131, x_159_132, x_159_133, x_159_136, x_159_137, x_159_138, x_159_141, x_159_144, x_159_145, x_159_146, bk_v, bk_n, nl_I, nl_R, nl_L, nl_0, oo_lt, oo_le, oo_eq, oo_add, oo_sub, oo_tn, oo_ir, nn_leT, nn_leF, nn_ltT, nn_ltF, nn_eqT, nn_eqF, bv_0, bv_1, ko_b, ko_1, ko_0, true_and, and_true, if_true, if_false, not_true_eq_false, not_false_eq_true, oo_02, decide_eq_true_eq, decide_eq_false_iff_not, ite_not, Nat.reduceAdd, Nat.reduceLT, Nat.reduceSub, Nat.reduceLeDiff, reduceIte, Bool.true_eq_false, Bool.false_eq_true, reduceCtorEq, eq_self, decide_true, decide_false, bv_t, bv_f, and_self, t_si, t_sl, t_sr, t_sI, t_sR, n_si, n_sl, n_sr, n_sI, n_sR, r_si, r_sl, r_sI, hM, hw1, hw2, hw3, hwk, i0, hk1, q3]
theorem ln_co {s s1 : Ln_} {b b' : Nat} (hc : s.2.2.2 = false → tm_co s.1 = []) (h : ln_ t s b = Sum.inr (s1, b')) : s1.2.2.2 = false → tm_co s1.1 = [] := by
  unfold ln_ at h
  split at h
  · split at h
    · cases h
    · split at h
      · cases h
      · cases h; exact hc
  · split at h
    · split at h
      · cases h
      · split at h
        · cases h
        · cases h; exact hc
    · split at h
      · split at h
        · cases h
        · split at h
          · cases h
          · cases h; intro z; cases z
      · split at h
        · cases h
        · split at h
          · split at h
            · cases h
            · rename_i hx
              cases h
              unfold tb_ at hx
              repeat' split at hx
              all_goals first | (cases hx; exact hc) | cases hx
          · cases h
def Me2_ (w : Wd) (t : Tp) (r : (Nat × Nat) ⊕ Tm) : Prop := match r with
  | Sum.inl e => Mf_ w t e
  | Sum.inr T => MTu_ w T ∧ w_i w 1440 20 = Int32.ofNat 0
theorem m_lns {d : Nat} {n : Int32} : ∀ f (s : Ln_) (b : Nat) (w : Wd), t.2 < f + b → Me_ w t → Mr_ w t b → MTu_ w s.1 → TG_ t s.1 → (s.2.2.2 = false → tm_co s.1 = []) → ∃ w1 a2, (Fr_ pu_ w w1 ∧ Me2_ w1 t (lns_ t f s b)) ∧ ∀ Q, wp (d + 71) 152 96 [some (v_R (some 1440)), some (v_I n), some (v_I (Int32.ofNat (dne_ s.2)))] [] w Q = wp (d + 71) 152 119 [some (v_R (some 1440)), some (v_I n), a2] [] w1 Q := by
  intro f
  induction f with
  | zero => intro s b w hf he hr hu hT hc; have := hr.1; omega
  | succ f ih =>
    intro s b w hf he hr hu hT hc
    have t0 := he.1.1
    have hq := hr
    obtain ⟨hb, r1, r2, r3, r4, r5, r6⟩ := hq
    have hk5 := tk_k5 (t := t) (b := b)
    unfold lns_
    by_cases h0 : tk_k t b = 0
    · rw [if_pos h0]
      refine ⟨w, some (v_I (Int32.ofNat (dne_ s.2))), ⟨fr_rf _ _, hu, r1⟩, fun Q => ?_⟩
      rw [x_152_96]
      simp (disch := first | omega | decide | exact ko_b _ | assumption | (simp only [t_si, t_sl, t_sr, t_sI, t_sR, n_si, n_sl, n_sr, n_sI, n_sR, r_si, r_sl, r_sI]; first | done | omega)) only [x_152_e, x_152_b, x_152_97, x_152_100, x_152_103, x_152_104, x_152_107, x_152_110, x_152_111, x_152_112, x_152_115, x_152_116, bk_v, bk_n, nl_I, nl_R, nl_L, nl_0, oo_lt, oo_le, oo_eq, oo_add, oo_sub, oo_tn, oo_ir, nn_leT, nn_leF, nn_ltT, nn_ltF, nn_eqT, nn_eqF, bv_0, bv_1, ko_b, ko_1, ko_0, true_and, and_true, if_true, if_false, not_true_eq_false, not_false_eq_true, oo_02, decide_eq_true_eq, decide_eq_false_iff_not, ite_not, Nat.reduceAdd, Nat.reduceLT, Nat.reduceSub, Nat.reduceLeDiff, reduceIte, Bool.true_eq_false, Bool.false_eq_true, reduceCtorEq, eq_self, decide_true, decide_false, bv_t, bv_f, and_self, t_si, t_sl, t_sr, t_sI, t_sR, n_si, n_sl, n_sr, n_sI, n_sR, r_si, r_sl, r_sI, r1, r5, h0]
    · rw [if_neg h0]
      obtain ⟨w1, x, ⟨f1, m1⟩, q1⟩ := m_line (D := d + 70) (by omega) he hr hu hT.1 h0 hc
      have e1 := Me_fr he f1
      have t1 := e1.1.1
      have stp : ∀ Q, wp (d + 71) 152 96 [some (v_R (some 1440)), some (v_I n), some (v_I (Int32.ofNat (dne_ s.2)))] [] w Q = wp (d + 71) 152 96 [some (v_R (some 1440)), some (v_I n), some (v_I x)] [] w1 Q := fun Q => by
        rw [x_152_96]
        simp (disch := first | omega | decide | exact ko_b _ | assumption | (simp only [t_si, t_sl, t_sr, t_sI, t_sR, n_si, n_sl, n_sr, n_sI, n_sR, r_si, r_sl, r_sI]; first | done | omega)) only [x_152_e, x_152_b, x_152_97, x_152_100, x_152_103, x_152_104, x_152_107, x_152_110, x_152_111, x_152_112, x_152_115, x_152_116, bk_v, bk_n, nl_I, nl_R, nl_L, nl_0, oo_lt, oo_le, oo_eq, oo_add, oo_sub, oo_tn, oo_ir, nn_leT, nn_leF, nn_ltT, nn_ltF, nn_eqT, nn_eqF, bv_0, bv_1, ko_b, ko_1, ko_0, true_and, and_true, if_true, if_false, not_true_eq_false, not_false_eq_true, oo_02, decide_eq_true_eq, decide_eq_false_iff_not, ite_not, Nat.reduceAdd, Nat.reduceLT, Nat.reduceSub, Nat.reduceLeDiff, reduceIte, Bool.true_eq_false, Bool.false_eq_true, reduceCtorEq, eq_self, decide_true, decide_false, bv_t, bv_f, and_self, t_si, t_sl, t_sr, t_sI, t_sR, n_si, n_sl, n_sr, n_sI, n_sR, r_si, r_sl, r_sI, r1, r5, h0, q1]
      have ex : ∀ e, Mf_ w1 t e → ∀ Q, wp (d + 71) 152 96 [some (v_R (some 1440)), some (v_I n), some (v_I x)] [] w1 Q = wp (d + 71) 152 119 [some (v_R (some 1440)), some (v_I n), some (v_I x)] [] w1 Q := fun e hf Q => by
        have hn := Mf_n hf
        rw [x_152_96]
        simp (disch := first | omega | decide | exact ko_b _ | assumption | (simp only [t_si, t_sl, t_sr, t_sI, t_sR, n_si, n_sl, n_sr, n_sI, n_sR, r_si, r_sl, r_sI]; first | done | omega)) only [x_152_e, x_152_b, x_152_97, x_152_100, bk_v, bk_n, nl_I, nl_R, nl_L, nl_0, oo_lt, oo_le, oo_eq, oo_add, oo_sub, oo_tn, oo_ir, nn_leT, nn_leF, nn_ltT, nn_ltF, nn_eqT, nn_eqF, bv_0, bv_1, ko_b, ko_1, ko_0, true_and, and_true, if_true, if_false, not_true_eq_false, not_false_eq_true, oo_02, decide_eq_true_eq, decide_eq_false_iff_not, ite_not, Nat.reduceAdd, Nat.reduceLT, Nat.reduceSub, Nat.reduceLeDiff, reduceIte, Bool.true_eq_false, Bool.false_eq_true, reduceCtorEq, eq_self, decide_true, decide_false, bv_t, bv_f, and_self, t_si, t_sl, t_sr, t_sI, t_sR, n_si, n_sl, n_sr, n_sI, n_sR, r_si, r_sl, r_sI, hn]
      cases hx : ln_ t s b with
      | inl e =>
        rw [hx] at m1
        exact ⟨w1, _, ⟨f1, m1⟩, fun Q => (stp Q).trans (ex e m1 Q)⟩
      | inr r =>
        rw [hx] at m1
        simp only
        unfold le_ at m1
        simp only at m1
        have hg := ln_g (s1 := r.1) (b' := r.2) hT h0 hx
        cases hy : nd_ t 59 r.2 with
        | inl e =>
          rw [hy] at m1
          exact ⟨w1, _, ⟨f1, m1⟩, fun Q => (stp Q).trans (ex e m1 Q)⟩
        | inr b2 =>
          rw [hy] at m1
          obtain ⟨m1, m2, m3⟩ := m1
          have hg2 := nd_g hy
          obtain ⟨w2, a2, ⟨f2, m4⟩, q2⟩ := ih r.1 b2 w1 (by omega) e1 m1 m2 hg.1 (ln_co (s1 := r.1) (b' := r.2) hc hx)
          refine ⟨w2, a2, ⟨fr_tr f1 f2, m4⟩, fun Q => ?_⟩
          rw [stp, m3]
          exact q2 Q
/-! taking over -/
theorem m_half {D a h : Nat} {w : Wd} (hh : h ≤ 600) (ha : w_t w a = 1) (hn : w_n w a = 2 * h) (hd : Int32.ofNat (2 * h) / Int32.ofNat 2 = Int32.ofNat h) : ∃ w1, (Fr_ (fun b k => b = a ∧ k < h) w w1 ∧ ∀ k, k < h → w_i w1 a k = w_i w a (h + k)) ∧ ∀ Q, cl D 175 [v_R (some a)] w Q = Q (Sum.inl none) w1 := by
  obtain ⟨w1, ⟨f1, i1, -⟩, q1⟩ := lp_ex (fun k s Q => wp D 175 2 [some (v_R (some a)), some (v_I (Int32.ofNat k))] [] s Q) (fun k s => Fr_ (fun b k => b = a ∧ k < h) w s ∧ (∀ j, j < k → w_i s a j = w_i w a (h + j)) ∧ ∀ j, k ≤ j → w_i s a j = w_i w a j) h (fun k s hk hI => by
    obtain ⟨f1, i1, i2⟩ := hI
    refine ⟨s_i s a k (w_i w a (h + k)), ⟨fr_si f1 ⟨rfl, hk⟩, fun j hj => ?_, fun j hj => ?_⟩, fun Q => ?_⟩
    · rw [i_si]
      by_cases e : j = k
      · rw [if_pos ⟨rfl, e⟩, e]
      · rw [if_neg (by omega)]; exact i1 j (by omega)
    · rw [i_si, if_neg (by omega)]; exact i2 j (by omega)
    · have ta : w_t s a = 1 := by rw [f1.1]; exact ha
      have na : w_n s a = 2 * h := by rw [f1.2.1]; exact hn
      have ik := i2 (h + k) (by omega)
      show wp D 175 2 _ _ s Q = wp D 175 2 _ _ _ Q
      rw [x_175_2]
      simp (disch := first | omega | decide | exact ko_b _ | assumption | (simp only [t_si, t_sl, t_sr, t_sI, t_sR, n_si, n_sl, n_sr, n_sI, n_sR, r_si, r_sl, r_sI]; first | done | omega)) only [x_175_e, x_175_b, x_175_3, x_175_4, x_175_5, x_175_6, x_175_7, x_175_10, x_175_11, x_175_12, x_175_13, x_175_14, x_175_15, x_175_16, x_175_17, x_175_18, x_175_19, x_175_20, x_175_21, x_175_24, bk_v, bk_n, nl_I, nl_R, nl_L, nl_0, oo_lt, oo_le, oo_eq, oo_add, oo_sub, oo_tn, oo_ir, nn_leT, nn_leF, nn_ltT, nn_ltF, nn_eqT, nn_eqF, bv_0, bv_1, ko_b, ko_1, ko_0, true_and, and_true, if_true, if_false, not_true_eq_false, not_false_eq_true, oo_02, decide_eq_true_eq, decide_eq_false_iff_not, ite_not, Nat.reduceAdd, Nat.reduceLT, Nat.reduceSub, Nat.reduceLeDiff, reduceIte, Bool.true_eq_false, Bool.false_eq_true, reduceCtorEq, eq_self, decide_true, decide_false, bv_t, bv_f, and_self, t_si, t_sl, t_sr, t_sI, t_sR, n_si, n_sl, n_sr, n_sI, n_sR, r_si, r_sl, r_sI, na, hd, ik]) h 0 w (by omega) ⟨fr_rf _ _, fun j hj => absurd hj (Nat.not_lt_zero _), fun j _ => rfl⟩
  have ta : w_t w1 a = 1 := by rw [f1.1]; exact ha
  have na : w_n w1 a = 2 * h := by rw [f1.2.1]; exact hn
  refine ⟨w1, ⟨f1, i1⟩, fun Q => ?_⟩
  have q1 : wp D 175 2 [some (v_R (some a)), some (v_I (Int32.ofNat 0))] [] w Q = wp D 175 2 [some (v_R (some a)), some (v_I (Int32.ofNat h))] [] w1 Q := q1 Q
  have e : cl D 175 [v_R (some a)] w Q = wp D 175 2 [some (v_R (some a)), some (v_I (Int32.ofNat 0))] [] w Q := by
    simp (disch := first | omega | decide | exact ko_b _ | assumption | (simp only [t_si, t_sl, t_sr, t_sI, t_sR, n_si, n_sl, n_sr, n_sI, n_sR, r_si, r_sl, r_sI]; first | done | omega)) only [x_175_e, x_175_b, x_175_0, x_175_1, bk_v, bk_n, nl_I, nl_R, nl_L, nl_0, oo_lt, oo_le, oo_eq, oo_add, oo_sub, oo_tn, oo_ir, nn_leT, nn_leF, nn_ltT, nn_ltF, nn_eqT, nn_eqF, bv_0, bv_1, ko_b, ko_1, ko_0, true_and, and_true, if_true, if_false, not_true_eq_false, not_false_eq_true, oo_02, decide_eq_true_eq, decide_eq_false_iff_not, ite_not, Nat.reduceAdd, Nat.reduceLT, Nat.reduceSub, Nat.reduceLeDiff, reduceIte, Bool.true_eq_false, Bool.false_eq_true, reduceCtorEq, eq_self, decide_true, decide_false, bv_t, bv_f, and_self, t_si, t_sl, t_sr, t_sI, t_sR, n_si, n_sl, n_sr, n_sI, n_sR, r_si, r_sl, r_sI]
  rw [e, q1]
  simp (disch := first | omega | decide | exact ko_b _ | assumption | (simp only [t_si, t_sl, t_sr, t_sI, t_sR, n_si, n_sl, n_sr, n_sI, n_sR, r_si, r_sl, r_sI]; first | done | omega)) only [x_175_e, x_175_b, x_175_2, x_175_3, x_175_4, x_175_5, x_175_6, x_175_7, x_175_e, x_175_b, x_175_27, bk_v, bk_n, nl_I, nl_R, nl_L, nl_0, oo_lt, oo_le, oo_eq, oo_add, oo_sub, oo_tn, oo_ir, nn_leT, nn_leF, nn_ltT, nn_ltF, nn_eqT, nn_eqF, bv_0, bv_1, ko_b, ko_1, ko_0, true_and, and_true, if_true, if_false, not_true_eq_false, not_false_eq_true, oo_02, decide_eq_true_eq, decide_eq_false_iff_not, ite_not, Nat.reduceAdd, Nat.reduceLT, Nat.reduceSub, Nat.reduceLeDiff, reduceIte, Bool.true_eq_false, Bool.false_eq_true, reduceCtorEq, eq_self, decide_true, decide_false, bv_t, bv_f, and_self, t_si, t_sl, t_sr, t_sI, t_sR, n_si, n_sl, n_sr, n_sI, n_sR, r_si, r_sl, r_sI, na, hd]
end
