/-! THE MODEL's town: taking over, both outcomes -/
set_option maxRecDepth 100000
def pr_ (a k : Nat) : Prop := (a = 1440 ∧ ((28 ≤ k ∧ k ≤ 32) ∨ k = 50)) ∨ (a = 1444 ∧ k < 4) ∨ (1445 ≤ a ∧ a ≤ 1449 ∧ k < 10) ∨ (a = 1450 ∧ k < 600) ∨ (1453 ≤ a ∧ a ≤ 1456)
section
variable {w : Wd}
theorem m_twl {D : Nat} {ls : Option Vl} (hM : sh_M w) : ∃ w1, (Fr_ (fun a _ => 1453 ≤ a ∧ a ≤ 1456) w w1 ∧ ∀ k, k < 10 → w_i w1 1453 k = Int32.ofNat k ∧ w_i w1 1454 k = Int32.ofNat 0 ∧ w_i w1 1455 k = Int32.ofNat 0 ∧ w_i w1 1456 k = w_i w 1448 k) ∧ ∀ Q, wp D 174 71 [some (v_R (some 1440)), some (v_I (Int32.ofNat 0))] [] w Q = wp D 174 71 [some (v_R (some 1440)), some (v_I (Int32.ofNat 10))] [] w1 Q := by
  obtain ⟨w1, ⟨f1, i1⟩, q1⟩ := lp_ex (fun k s Q => wp D 174 71 [some (v_R (some 1440)), some (v_I (Int32.ofNat k))] [] s Q) (fun k s => Fr_ (fun a _ => 1453 ≤ a ∧ a ≤ 1456) w s ∧ ∀ j, j < k → w_i s 1453 j = Int32.ofNat j ∧ w_i s 1454 j = Int32.ofNat 0 ∧ w_i s 1455 j = Int32.ofNat 0 ∧ w_i s 1456 j = w_i w 1448 j) 10 (fun k s hk hI => by
    obtain ⟨f1, i1⟩ := hI
    refine ⟨s_i (s_i (s_i (s_i s 1453 k (Int32.ofNat k)) 1454 k (Int32.ofNat 0)) 1455 k (Int32.ofNat 0)) 1456 k (w_i w 1448 k), ⟨fr_si (fr_si (fr_si (fr_si f1 (by omega)) (by omega)) (by omega)) (by omega), fun j hj => ?_⟩, fun Q => ?_⟩
    · simp only [i_si, Nat.reduceEqDiff, false_and, if_false, true_and]
      by_cases e : j = k
      · simp only [e, if_true, and_self]
      · simp only [e, if_false]; exact i1 j (by omega)
    · have h2 : sh_M s := by
        obtain ⟨f1, f2, f3, -, -, -⟩ := f1
        unfold sh_M at hM ⊢
        rw [f1, f2, f3]
        exact hM
      have ik : w_i s 1448 k = w_i w 1448 k := f1.2.2.2.2.2 _ _ (by omega)
      unfold sh_M at h2
      show wp D 174 71 _ _ s Q = wp D 174 71 _ _ _ Q
      rw [x_174_71]
      simp (disch := first | omega | decide | exact ko_b _ | assumption | (simp only [t_si, t_sl, t_sr, t_sI, t_sR, n_si, n_sl, n_sr, n_sI, n_sR, r_si, r_sl, r_sI]; first | done | omega)) only [x_174_e, x_174_b, x_174_72, x_174_74, x_174_77, x_174_78, x_174_81, x_174_82, x_174_83, x_174_84, x_174_85, x_174_88, x_174_89, x_174_90, x_174_91, x_174_92, x_174_95, x_174_96, x_174_97, x_174_98, x_174_99, x_174_102, x_174_103, x_174_104, x_174_107, x_174_108, x_174_109, x_174_110, x_174_113, bk_v, bk_n, nl_I, nl_R, nl_L, nl_0, oo_lt, oo_le, oo_eq, oo_add, oo_sub, oo_tn, oo_ir, nn_leT, nn_leF, nn_ltT, nn_ltF, nn_eqT, nn_eqF, bv_0, bv_1, ko_b, ko_1, ko_0, true_and, and_true, if_true, if_false, not_true_eq_false, not_false_eq_true, oo_02, decide_eq_true_eq, decide_eq_false_iff_not, ite_not, Nat.reduceAdd, Nat.reduceLT, Nat.reduceSub, Nat.reduceLeDiff, reduceIte, Bool.true_eq_false, Bool.false_eq_true, reduceCtorEq, eq_self, decide_true, decide_false, bv_t, bv_f, and_self, t_si, t_sl, t_sr, t_sI, t_sR, n_si, n_sl, n_sr, n_sI, n_sR, r_si, r_sl, r_sI, h2, i_si, Nat.reduceEqDiff, false_and, ik]) 10 0 w (by omega) ⟨fr_rf _ _, fun j hj => absurd hj (Nat.not_lt_zero _)⟩
  exact ⟨w1, ⟨f1, i1⟩, q1⟩
theorem m_tkov {D : Nat} (hD : 1 ≤ D) (hM : sh_M w) : ∃ w1, (Fr_ pr_ w w1 ∧ (∀ k, k < 4 → w_i w1 1444 k = w_i w 1444 (4 + k)) ∧ ((∀ k, k < 10 → w_i w1 1445 k = w_i w 1445 (10 + k)) ∧ (∀ k, k < 10 → w_i w1 1446 k = w_i w 1446 (10 + k)) ∧ (∀ k, k < 10 → w_i w1 1447 k = w_i w 1447 (10 + k)) ∧ (∀ k, k < 10 → w_i w1 1448 k = w_i w 1448 (10 + k)) ∧ (∀ k, k < 10 → w_i w1 1449 k = w_i w 1449 (10 + k))) ∧ (∀ k, k < 600 → w_i w1 1450 k = w_i w 1450 (600 + k)) ∧ (∀ k, k < 10 → w_i w1 1453 k = Int32.ofNat k ∧ w_i w1 1454 k = Int32.ofNat 0 ∧ w_i w1 1455 k = Int32.ofNat 0 ∧ w_i w1 1456 k = w_i w 1448 (10 + k)) ∧ w_i w1 1440 28 = w_i w 1444 4 ∧ w_i w1 1440 29 = Int32.ofNat 0 ∧ w_i w1 1440 30 = Int32.ofInt (-1) ∧ w_i w1 1440 31 = Int32.ofNat 0 ∧ w_i w1 1440 32 = Int32.ofNat 0 ∧ w_i w1 1440 50 = Int32.ofNat 0) ∧ ∀ Q, cl D 174 [v_R (some 1440)] w Q = Q (Sum.inl none) w1 := by
  obtain ⟨d, rfl⟩ : ∃ d, D = d + 1 := ⟨D - 1, by omega⟩
  have sf : ∀ {P : Nat → Nat → Prop} {w1 w2 : Wd}, sh_M w1 → Fr_ P w1 w2 → sh_M w2 := by
    intro P w1 w2 h f
    obtain ⟨f1, f2, f3, -, -, -⟩ := f
    unfold sh_M at h ⊢
    rw [f1, f2, f3]
    exact h
  have s0 := hM
  have z1 := s0
  unfold sh_M at z1
  obtain ⟨w1, ⟨f1, v1⟩, q1⟩ := m_half (w := w) (D := d) (a := 1444) (h := 4) (by omega) (by simp only [z1]) (by simp only [z1]) (by decide)
  have s1 := sf s0 f1
  have o1 : ∀ b k, b ≠ 1444 → w_i w1 b k = w_i w b k := fun b k hb => f1.2.2.2.2.2 b k (fun z => hb z.1)
  have z2 := s1
  unfold sh_M at z2
  obtain ⟨w2, ⟨f2, v2⟩, q2⟩ := m_half (w := w1) (D := d) (a := 1445) (h := 10) (by omega) (by simp only [z2]) (by simp only [z2]) (by decide)
  have s2 := sf s1 f2
  have o2 : ∀ b k, b ≠ 1445 → w_i w2 b k = w_i w1 b k := fun b k hb => f2.2.2.2.2.2 b k (fun z => hb z.1)
  have z3 := s2
  unfold sh_M at z3
  obtain ⟨w3, ⟨f3, v3⟩, q3⟩ := m_half (w := w2) (D := d) (a := 1446) (h := 10) (by omega) (by simp only [z3]) (by simp only [z3]) (by decide)
  have s3 := sf s2 f3
  have o3 : ∀ b k, b ≠ 1446 → w_i w3 b k = w_i w2 b k := fun b k hb => f3.2.2.2.2.2 b k (fun z => hb z.1)
  have z4 := s3
  unfold sh_M at z4
  obtain ⟨w4, ⟨f4, v4⟩, q4⟩ := m_half (w := w3) (D := d) (a := 1447) (h := 10) (by omega) (by simp only [z4]) (by simp only [z4]) (by decide)
  have s4 := sf s3 f4
  have o4 : ∀ b k, b ≠ 1447 → w_i w4 b k = w_i w3 b k := fun b k hb => f4.2.2.2.2.2 b k (fun z => hb z.1)
  have z5 := s4
  unfold sh_M at z5
  obtain ⟨w5, ⟨f5, v5⟩, q5⟩ := m_half (w := w4) (D := d) (a := 1448) (h := 10) (by omega) (by simp only [z5]) (by simp only [z5]) (by decide)
  have s5 := sf s4 f5
  have o5 : ∀ b k, b ≠ 1448 → w_i w5 b k = w_i w4 b k := fun b k hb => f5.2.2.2.2.2 b k (fun z => hb z.1)
  have z6 := s5
  unfold sh_M at z6
  obtain ⟨w6, ⟨f6, v6⟩, q6⟩ := m_half (w := w5) (D := d) (a := 1449) (h := 10) (by omega) (by simp only [z6]) (by simp only [z6]) (by decide)
  have s6 := sf s5 f6
  have o6 : ∀ b k, b ≠ 1449 → w_i w6 b k = w_i w5 b k := fun b k hb => f6.2.2.2.2.2 b k (fun z => hb z.1)
  have z7 := s6
  unfold sh_M at z7
  obtain ⟨w7, ⟨f7, v7⟩, q7⟩ := m_half (w := w6) (D := d) (a := 1450) (h := 600) (by omega) (by simp only [z7]) (by simp only [z7]) (by decide)
  have s7 := sf s6 f7
  have o7 : ∀ b k, b ≠ 1450 → w_i w7 b k = w_i w6 b k := fun b k hb => f7.2.2.2.2.2 b k (fun z => hb z.1)
  have y1 : w_i w7 1444 0 = w_i w 1444 4 := by
    simp (disch := omega) only [o7, o6, o5, o4, o3, o2]
    exact v1 0 (by omega)
  have s8 : sh_M (s_i (s_i (s_i w7 1440 28 (w_i w 1444 4)) 1440 29 (Int32.ofNat 0)) 1440 30 (Int32.ofInt (-1))) := s7
  obtain ⟨w8, ⟨f8, v8⟩, q8⟩ := m_twl (D := d + 1) (ls := none) s8
  have s9 := sf s8 f8
  have o8 : ∀ b k, (b < 1453 ∨ 1456 < b) → b ≠ 1440 → w_i w8 b k = w_i w7 b k := fun b k hb hc => (f8.2.2.2.2.2 b k (by omega)).trans (by rw [i_si, if_neg (by omega), i_si, if_neg (by omega), i_si, if_neg (by omega)])
  have p8 : ∀ k, w_i w8 1440 k = w_i (s_i (s_i (s_i w7 1440 28 (w_i w 1444 4)) 1440 29 (Int32.ofNat 0)) 1440 30 (Int32.ofInt (-1))) 1440 k := fun k => f8.2.2.2.2.2 _ _ (by omega)
  have G : Fr_ pr_ w w7 := fr_tr (fr_tr (fr_tr (fr_tr (fr_tr (fr_tr (fr_mo f1 ?g1) (fr_mo f2 ?g2)) (fr_mo f3 ?g3)) (fr_mo f4 ?g4)) (fr_mo f5 ?g5)) (fr_mo f6 ?g6)) (fr_mo f7 ?g7)
  case g1 => intro a k z; unfold pr_; omega
  case g2 => intro a k z; unfold pr_; omega
  case g3 => intro a k z; unfold pr_; omega
  case g4 => intro a k z; unfold pr_; omega
  case g5 => intro a k z; unfold pr_; omega
  case g6 => intro a k z; unfold pr_; omega
  case g7 => intro a k z; unfold pr_; omega
  have G2 : Fr_ pr_ w w8 := fr_tr (fr_si (fr_si (fr_si G (by unfold pr_; omega)) (by unfold pr_; omega)) (by unfold pr_; omega)) (fr_mo f8 (fun a k z => by unfold pr_; omega))
  refine ⟨s_i (s_i (s_i w8 1440 31 (Int32.ofNat 0)) 1440 32 (Int32.ofNat 0)) 1440 50 (Int32.ofNat 0), ⟨fr_si (fr_si (fr_si G2 (by unfold pr_; omega)) (by unfold pr_; omega)) (by unfold pr_; omega), fun k hk => ?_, ⟨fun k hk => ?_, fun k hk => ?_, fun k hk => ?_, fun k hk => ?_, fun k hk => ?_⟩, fun k hk => ?_, fun k hk => ?_, ?_, ?_, ?_, ?_, ?_, ?_⟩, fun Q => ?_⟩
  · simp (disch := omega) only [i_si, Nat.reduceEqDiff, false_and, if_false, o8, o7, o6, o5, o4, o3, o2]
    rw [v1 k hk]
  · simp (disch := omega) only [i_si, Nat.reduceEqDiff, false_and, if_false, o8, o7, o6, o5, o4, o3]
    rw [v2 k hk]
    simp (disch := omega) only [o1]
  · simp (disch := omega) only [i_si, Nat.reduceEqDiff, false_and, if_false, o8, o7, o6, o5, o4]
    rw [v3 k hk]
    simp (disch := omega) only [o2, o1]
  · simp (disch := omega) only [i_si, Nat.reduceEqDiff, false_and, if_false, o8, o7, o6, o5]
    rw [v4 k hk]
    simp (disch := omega) only [o3, o2, o1]
  · simp (disch := omega) only [i_si, Nat.reduceEqDiff, false_and, if_false, o8, o7, o6]
    rw [v5 k hk]
    simp (disch := omega) only [o4, o3, o2, o1]
  · simp (disch := omega) only [i_si, Nat.reduceEqDiff, false_and, if_false, o8, o7]
    rw [v6 k hk]
    simp (disch := omega) only [o5, o4, o3, o2, o1]
  · simp (disch := omega) only [i_si, Nat.reduceEqDiff, false_and, if_false, o8]
    rw [v7 k hk]
    simp (disch := omega) only [o6, o5, o4, o3, o2, o1]
  · obtain ⟨a1, a2, a3, a4⟩ := v8 k hk
    simp only [i_si, Nat.reduceEqDiff, false_and, if_false]
    refine ⟨a1, a2, a3, a4.trans ?_⟩
    simp (disch := omega) only [i_si, Nat.reduceEqDiff, false_and, if_false, o7, o6]
    rw [v5 k hk]
    simp (disch := omega) only [o4, o3, o2, o1]
  · simp only [i_si, Nat.reduceEqDiff, and_false, if_false, p8, and_self, if_true]
  · simp only [i_si, Nat.reduceEqDiff, and_false, if_false, p8, and_self, if_true]
  · simp only [i_si, Nat.reduceEqDiff, and_false, if_false, p8, and_self, if_true]
  · simp only [i_si, Nat.reduceEqDiff, and_false, if_false, p8, and_self, if_true]
  · simp only [i_si, Nat.reduceEqDiff, and_false, if_false, p8, and_self, if_true]
  · simp only [i_si, Nat.reduceEqDiff, and_false, if_false, p8, and_self, if_true]
  · clear o1 o2 o3 o4 o5 o6 o7 o8 p8 v1 v2 v3 v4 v5 v6 v7 v8 G G2 f1 f2 f3 f4 f5 f6 f7 f8 s0 s1 s2 s3 s4 s5 s6
    unfold sh_M at hM s7 s9
    simp (disch := first | omega | decide | exact ko_b _ | assumption | (simp only [t_si, t_sl, t_sr, t_sI, t_sR, n_si, n_sl, n_sr, n_sI, n_sR, r_si, r_sl, r_sI]; first | done | omega)) only [x_174_e, x_174_b, x_174_0, x_174_1, x_174_4, x_174_7, x_174_8, x_174_11, x_174_14, x_174_15, x_174_18, x_174_21, x_174_22, x_174_25, x_174_28, x_174_29, x_174_32, x_174_35, x_174_36, x_174_39, x_174_42, x_174_43, x_174_46, x_174_49, x_174_50, x_174_51, x_174_54, x_174_55, x_174_56, x_174_59, x_174_60, x_174_61, x_174_64, x_174_65, x_174_66, x_174_69, x_174_70, bk_v, bk_n, nl_I, nl_R, nl_L, nl_0, oo_lt, oo_le, oo_eq, oo_add, oo_sub, oo_tn, oo_ir, nn_leT, nn_leF, nn_ltT, nn_ltF, nn_eqT, nn_eqF, bv_0, bv_1, ko_b, ko_1, ko_0, true_and, and_true, if_true, if_false, not_true_eq_false, not_false_eq_true, oo_02, decide_eq_true_eq, decide_eq_false_iff_not, ite_not, Nat.reduceAdd, Nat.reduceLT, Nat.reduceSub, Nat.reduceLeDiff, reduceIte, Bool.true_eq_false, Bool.false_eq_true, reduceCtorEq, eq_self, decide_true, decide_false, bv_t, bv_f, and_self, t_si, t_sl, t_sr, t_sI, t_sR, n_si, n_sl, n_sr, n_sI, n_sR, r_si, r_sl, r_sI, z1, z2, z3, z4, z5, z6, z7, s7, y1, q1, q2, q3, q4, q5, q6, q7]
    rw [q8]
    simp (disch := first | omega | decide | exact ko_b _ | assumption | (simp only [t_si, t_sl, t_sr, t_sI, t_sR, n_si, n_sl, n_sr, n_sI, n_sR, r_si, r_sl, r_sI]; first | done | omega)) only [x_174_e, x_174_b, x_174_71, x_174_72, x_174_74, x_174_e, x_174_b, x_174_116, x_174_117, x_174_118, x_174_121, x_174_122, x_174_123, x_174_126, x_174_127, x_174_128, x_174_131, bk_v, bk_n, nl_I, nl_R, nl_L, nl_0, oo_lt, oo_le, oo_eq, oo_add, oo_sub, oo_tn, oo_ir, nn_leT, nn_leF, nn_ltT, nn_ltF, nn_eqT, nn_eqF, bv_0, bv_1, ko_b, ko_1, ko_0, true_and, and_true, if_true, if_false, not_true_eq_false, not_false_eq_true, oo_02, decide_eq_true_eq, decide_eq_false_iff_not, ite_not, Nat.reduceAdd, Nat.reduceLT, Nat.reduceSub, Nat.reduceLeDiff, reduceIte, Bool.true_eq_false, Bool.false_eq_true, reduceCtorEq, eq_self, decide_true, decide_false, bv_t, bv_f, and_self, t_si, t_sl, t_sr, t_sI, t_sR, n_si, n_sl, n_sr, n_sI, n_sR, r_si, r_sl, r_sI, s9]
/-! the relation after a town -/
theorem PK_g {w1 : Wd} {A f n : Nat} {X : Xm} (h : PK_ w A f n X) (g : ∀ k, w_i w1 A k = w_i w A k) : PK_ w1 A f n X := by
  unfold PK_ at h ⊢
  simp only [g]
  exact h
/-- what a town's reading may change, if it is refused -/
def pq_ (a k : Nat) : Prop := (a = 1440 ∧ (k = 3 ∨ (13 ≤ k ∧ k ≤ 22))) ∨ (a = 1444 ∧ 4 ≤ k) ∨ (1445 ≤ a ∧ a ≤ 1449 ∧ 10 ≤ k) ∨ (a = 1450 ∧ 600 ≤ k) ∨ (a = 1451 ∧ k = 0)
theorem RM_flt {w1 : Wd} {S : Sm} {k : Nat} (h : RM_ w S) (hV : WS_ S) (hE : (tm_co (sm_T S)).length ≤ 600) (hf : Fr_ pq_ w w1) (h13 : w_i w1 1440 13 = Int32.ofNat 0) (h22 : w_i w1 1440 22 = Int32.ofNat k) (h51 : w_i w1 1451 0 = w_i w 1451 0 + Int32.ofNat 1) : RM_ w1 (s_flt S k) := by
  obtain ⟨h1, ⟨m1, m2, m3, m4, m5, m6, m7, m8, m9, m10, m11⟩, ⟨⟨a1, a2, a3, a4, a5, a6, a7⟩, b2, b3, b4, b5, b6, b7⟩, h4, h5, h6, h7, h8⟩ := h
  have hn := hV.1.1
  have g : ∀ a k, ((a ≠ 1440 ∨ (k ≠ 3 ∧ (k < 13 ∨ 22 < k))) ∧ (a ≠ 1444 ∨ k < 4) ∧ (a < 1445 ∨ 1449 < a ∨ k < 10) ∧ (a ≠ 1450 ∨ k < 600) ∧ (a ≠ 1451 ∨ k ≠ 0)) → w_i w1 a k = w_i w a k := fun a k z => hf.2.2.2.2.2 a k (fun y => by unfold pq_ at y; omega)
  refine ⟨?_, ⟨(g _ _ (by omega)).trans m1, (g _ _ (by omega)).trans m2, (g _ _ (by omega)).trans m3, (g _ _ (by omega)).trans m4, fun j (hj : j < tm_n (sm_T S)) => (g _ _ (by omega)).trans (m5 j hj), fun j (hj : j < tm_n (sm_T S)) => (g _ _ (by omega)).trans (m6 j hj), fun j (hj : j < tm_n (sm_T S)) => (g _ _ (by omega)).trans (m7 j hj), fun j (hj : j < tm_n (sm_T S)) => (g _ _ (by omega)).trans (m8 j hj), fun j (hj : j < tm_n (sm_T S)) => (g _ _ (by omega)).trans (m9 j hj), fun j (hj : j < (tm_co (sm_T S)).length) => (g _ _ (by omega)).trans (m10 j hj), fun j hj => (g _ _ (by omega)).trans (m11 j hj)⟩, ⟨⟨(g _ _ (by omega)).trans a1, (g _ _ (by omega)).trans a2, (g _ _ (by omega)).trans a3, fun j hj => (g _ _ (by omega)).trans (a4 j hj), fun j hj => (g _ _ (by omega)).trans (a5 j hj), fun j hj => (g _ _ (by omega)).trans (a6 j hj), fun j hj => (g _ _ (by omega)).trans (a7 j hj)⟩, (g _ _ (by omega)).trans b2, fun j hj => PK_g (b3 j hj) (fun k => g _ _ (by omega)), (g _ _ (by omega)).trans b4, fun j hj => (g _ _ (by omega)).trans (b5 j hj), fun j hj => (g _ _ (by omega)).trans (b6 j hj), fun j hj => ?_⟩, (g _ _ (by omega)).trans h4, fun B hB => ?_, fun j hj => (g _ _ (by omega)).trans (h6 j hj), h13, h22⟩
  · obtain ⟨f1, f2, f3, -, -, -⟩ := hf
    unfold sh_M at h1 ⊢
    rw [f1, f2, f3]
    exact h1
  · show _ = if j = 0 then bm_r (sm_B S) j + Int32.ofNat 1 else bm_r (sm_B S) j
    by_cases e : j = 0
    · rw [if_pos e, e, h51, b7 0 (by omega)]
    · rw [if_neg e, g _ _ (by omega)]; exact b7 j hj
  · obtain ⟨c1, c2, c3, c4, c5, c6, c7⟩ := h5 B hB
    exact ⟨PK_g c1 (fun k => g _ _ (by omega)), (g _ _ (by omega)).trans c2, fun j hj => PK_g (c3 j hj) (fun k => g _ _ (by omega)), (g _ _ (by omega)).trans c4, fun j hj => (g _ _ (by omega)).trans (c5 j hj), fun j hj => (g _ _ (by omega)).trans (c6 j hj), fun j hj => (g _ _ (by omega)).trans (c7 j hj)⟩
def pz_ (a k : Nat) : Prop := (a = 1440 ∧ (k = 3 ∨ (13 ≤ k ∧ k ≤ 22) ∨ (28 ≤ k ∧ k ≤ 32) ∨ k = 50)) ∨ (1444 ≤ a ∧ a ≤ 1450) ∨ (1453 ≤ a ∧ a ≤ 1456)
theorem RM_twn {w1 : Wd} {S : Sm} {T : Tm} (h : RM_ w S) (hf : Fr_ pz_ w w1) (hMT : (w_i w1 1444 0 = Int32.ofNat (tm_n T) ∧ w_i w1 1444 1 = tm_li T ∧ w_i w1 1444 2 = tm_fo T ∧ w_i w1 1444 3 = Int32.ofNat (tm_co T).length ∧ (∀ t, t < tm_n T → w_i w1 1445 t = Int32.ofNat (tm_kd T t)) ∧ (∀ t, t < tm_n T → w_i w1 1446 t = tm_wt T t) ∧ (∀ t, t < tm_n T → w_i w1 1447 t = tm_br T t) ∧ (∀ t, t < tm_n T → w_i w1 1448 t = tm_ln T t) ∧ (∀ t, t < tm_n T → w_i w1 1449 t = tm_hg T t) ∧ ∀ k, k < (tm_co T).length → w_i w1 1450 k = (tm_co T).getD k 0)) (hMS : MS_ w1 (tm_n T) (X0_ T)) (h31 : w_i w1 1440 31 = Int32.ofNat 0) (h32 : w_i w1 1440 32 = Int32.ofNat 0) (h50 : w_i w1 1440 50 = Int32.ofNat 0) (h13 : w_i w1 1440 13 = Int32.ofNat 0) (h22 : w_i w1 1440 22 = Int32.ofInt (-1)) : RM_ w1 (s_twn S T) := by
  obtain ⟨h1, ⟨m1, m2, m3, m4, m5, m6, m7, m8, m9, m10, m11⟩, ⟨-, -, -, -, -, -, b7⟩, -, -, h6, -, -⟩ := h
  obtain ⟨n1, n2, n3, n4, n5, n6, n7, n8, n9, n10⟩ := hMT
  have g : ∀ a k, ((a ≠ 1440) ∧ (a < 1444 ∨ 1450 < a) ∧ (a < 1453 ∨ 1456 < a)) → w_i w1 a k = w_i w a k := fun a k z => hf.2.2.2.2.2 a k (fun y => by unfold pz_ at y; omega)
  refine ⟨?_, ⟨n1, n2, n3, n4, n5, n6, n7, n8, n9, n10, fun j hj => (g _ _ (by omega)).trans (m11 j hj)⟩, ⟨hMS, h31, fun j hj => absurd hj (Nat.not_lt_zero _), h32, fun j hj => absurd hj (Nat.not_lt_zero _), fun j hj => absurd hj (Nat.not_lt_zero _), fun j hj => (g _ _ (by omega)).trans (b7 j hj)⟩, h50, fun B hB => (by cases hB), fun j hj => (g _ _ (by omega)).trans (h6 j hj), h13, h22⟩
  obtain ⟨f1, f2, f3, -, -, -⟩ := hf
  unfold sh_M at h1 ⊢
  rw [f1, f2, f3]
  exact h1
/-- the model before the first token -/
def wtb_ (w : Wd) (n : Nat) : Wd := s_i (s_i (s_i (s_i (s_i (s_i (s_i (s_i (s_i (s_i w 1440 3 (Int32.ofNat 0)) 1440 13 (Int32.ofNat 0)) 1440 15 (Int32.ofNat n)) 1440 14 (Int32.ofNat 0)) 1440 20 (Int32.ofNat 0)) 1440 22 (Int32.ofInt (-1))) 1444 4 (Int32.ofNat 0)) 1444 5 (Int32.ofNat 9)) 1444 6 (Int32.ofNat 100)) 1444 7 (Int32.ofNat 0)
theorem m_twb {d n m : Nat} (hM : sh_M w) (h13 : w_i w 1440 13 = Int32.ofNat m) (hm : m ≤ 600) (hn : n ≤ m) {Q : Q_} : cl d 152 [v_R (some 1440), v_I (Int32.ofNat n)] w Q = wp d 152 90 [some (v_R (some 1440)), some (v_I (Int32.ofNat n)), some (v_I (Int32.ofNat 4))] [] (wtb_ w n) Q := by
  unfold sh_M at hM
  unfold wtb_
  simp (disch := first | omega | decide | exact ko_b _ | assumption | (simp only [t_si, t_sl, t_sr, t_sI, t_sR, n_si, n_sl, n_sr, n_sI, n_sR, r_si, r_sl, r_sI]; first | done | omega)) only [x_152_e, x_152_b, x_152_0, x_152_1, x_152_2, x_152_5, x_152_6, x_152_9, x_152_10, x_152_11, x_152_14, x_152_17, x_152_18, x_152_19, x_152_22, x_152_23, x_152_24, x_152_25, x_152_28, x_152_29, x_152_30, x_152_33, x_152_34, x_152_35, x_152_38, x_152_39, x_152_40, x_152_43, x_152_44, x_152_45, x_152_48, x_152_49, bk_v, bk_n, nl_I, nl_R, nl_L, nl_0, oo_lt, oo_le, oo_eq, oo_add, oo_sub, oo_tn, oo_ir, nn_leT, nn_leF, nn_ltT, nn_ltF, nn_eqT, nn_eqF, bv_0, bv_1, ko_b, ko_1, ko_0, true_and, and_true, if_true, if_false, not_true_eq_false, not_false_eq_true, oo_02, decide_eq_true_eq, decide_eq_false_iff_not, ite_not, Nat.reduceAdd, Nat.reduceLT, Nat.reduceSub, Nat.reduceLeDiff, reduceIte, Bool.true_eq_false, Bool.false_eq_true, reduceCtorEq, eq_self, decide_true, decide_false, bv_t, bv_f, and_self, t_si, t_sl, t_sr, t_sI, t_sR, n_si, n_sl, n_sr, n_sI, n_sR, r_si, r_sl, r_sI, hM, h13, i_si, Nat.reduceEqDiff, and_false]
  rw [x_152_50]
  simp (disch := first | omega | decide | exact ko_b _ | assumption | (simp only [t_si, t_sl, t_sr, t_sI, t_sR, n_si, n_sl, n_sr, n_sI, n_sR, r_si, r_sl, r_sI]; first | done | omega)) only [x_152_e, x_152_b, x_152_51, x_152_52, x_152_55, x_152_56, x_152_59, x_152_60, x_152_61, x_152_62, x_152_63, x_152_64, x_152_67, x_152_69, x_152_72, x_152_73, x_152_74, x_152_77, x_152_79, x_152_82, x_152_83, x_152_84, x_152_87, bk_v, bk_n, nl_I, nl_R, nl_L, nl_0, oo_lt, oo_le, oo_eq, oo_add, oo_sub, oo_tn, oo_ir, nn_leT, nn_leF, nn_ltT, nn_ltF, nn_eqT, nn_eqF, bv_0, bv_1, ko_b, ko_1, ko_0, true_and, and_true, if_true, if_false, not_true_eq_false, not_false_eq_true, oo_02, decide_eq_true_eq, decide_eq_false_iff_not, ite_not, Nat.reduceAdd, Nat.reduceLT, Nat.reduceSub, Nat.reduceLeDiff, reduceIte, Bool.true_eq_false, Bool.false_eq_true, reduceCtorEq, eq_self, decide_true, decide_false, bv_t, bv_f, and_self, t_si, t_sl, t_sr, t_sI, t_sR, n_si, n_sl, n_sr, n_sI, n_sR, r_si, r_sl, r_sI, hM, i_si, Nat.reduceEqDiff, and_false]
  rw [x_152_50]
  simp (disch := first | omega | decide | exact ko_b _ | assumption | (simp only [t_si, t_sl, t_sr, t_sI, t_sR, n_si, n_sl, n_sr, n_sI, n_sR, r_si, r_sl, r_sI]; first | done | omega)) only [x_152_e, x_152_b, x_152_51, x_152_52, x_152_55, x_152_56, x_152_59, x_152_60, x_152_61, x_152_62, x_152_63, x_152_64, x_152_67, x_152_69, x_152_72, x_152_73, x_152_74, x_152_77, x_152_79, x_152_82, x_152_83, x_152_84, x_152_87, bk_v, bk_n, nl_I, nl_R, nl_L, nl_0, oo_lt, oo_le, oo_eq, oo_add, oo_sub, oo_tn, oo_ir, nn_leT, nn_leF, nn_ltT, nn_ltF, nn_eqT, nn_eqF, bv_0, bv_1, ko_b, ko_1, ko_0, true_and, and_true, if_true, if_false, not_true_eq_false, not_false_eq_true, oo_02, decide_eq_true_eq, decide_eq_false_iff_not, ite_not, Nat.reduceAdd, Nat.reduceLT, Nat.reduceSub, Nat.reduceLeDiff, reduceIte, Bool.true_eq_false, Bool.false_eq_true, reduceCtorEq, eq_self, decide_true, decide_false, bv_t, bv_f, and_self, t_si, t_sl, t_sr, t_sI, t_sR, n_si, n_sl, n_sr, n_sI, n_sR, r_si, r_sl, r_sI, hM, i_si, Nat.reduceEqDiff, and_false]
  rw [x_152_50]
  simp (disch := first | omega | decide | exact ko_b _ | assumption | (simp only [t_si, t_sl, t_sr, t_sI, t_sR, n_si, n_sl, n_sr, n_sI, n_sR, r_si, r_sl, r_sI]; first | done | omega)) only [x_152_e, x_152_b, x_152_51, x_152_52, x_152_55, x_152_56, x_152_59, x_152_60, x_152_61, x_152_62, x_152_63, x_152_64, x_152_67, x_152_69, x_152_72, x_152_73, x_152_74, x_152_77, x_152_79, x_152_82, x_152_83, x_152_84, x_152_87, bk_v, bk_n, nl_I, nl_R, nl_L, nl_0, oo_lt, oo_le, oo_eq, oo_add, oo_sub, oo_tn, oo_ir, nn_leT, nn_leF, nn_ltT, nn_ltF, nn_eqT, nn_eqF, bv_0, bv_1, ko_b, ko_1, ko_0, true_and, and_true, if_true, if_false, not_true_eq_false, not_false_eq_true, oo_02, decide_eq_true_eq, decide_eq_false_iff_not, ite_not, Nat.reduceAdd, Nat.reduceLT, Nat.reduceSub, Nat.reduceLeDiff, reduceIte, Bool.true_eq_false, Bool.false_eq_true, reduceCtorEq, eq_self, decide_true, decide_false, bv_t, bv_f, and_self, t_si, t_sl, t_sr, t_sI, t_sR, n_si, n_sl, n_sr, n_sI, n_sR, r_si, r_sl, r_sI, hM, i_si, Nat.reduceEqDiff, and_false]
  rw [x_152_50]
  simp (disch := first | omega | decide | exact ko_b _ | assumption | (simp only [t_si, t_sl, t_sr, t_sI, t_sR, n_si, n_sl, n_sr, n_sI, n_sR, r_si, r_sl, r_sI]; first | done | omega)) only [x_152_e, x_152_b, x_152_51, x_152_52, x_152_55, x_152_56, x_152_59, x_152_60, x_152_61, x_152_62, x_152_63, x_152_64, x_152_67, x_152_69, x_152_72, x_152_73, x_152_74, x_152_77, x_152_79, x_152_82, x_152_83, x_152_84, x_152_87, bk_v, bk_n, nl_I, nl_R, nl_L, nl_0, oo_lt, oo_le, oo_eq, oo_add, oo_sub, oo_tn, oo_ir, nn_leT, nn_leF, nn_ltT, nn_ltF, nn_eqT, nn_eqF, bv_0, bv_1, ko_b, ko_1, ko_0, true_and, and_true, if_true, if_false, not_true_eq_false, not_false_eq_true, oo_02, decide_eq_true_eq, decide_eq_false_iff_not, ite_not, Nat.reduceAdd, Nat.reduceLT, Nat.reduceSub, Nat.reduceLeDiff, reduceIte, Bool.true_eq_false, Bool.false_eq_true, reduceCtorEq, eq_self, decide_true, decide_false, bv_t, bv_f, and_self, t_si, t_sl, t_sr, t_sI, t_sR, n_si, n_sl, n_sr, n_sI, n_sR, r_si, r_sl, r_sI, hM, i_si, Nat.reduceEqDiff, and_false]
  rw [x_152_50]
  simp (disch := first | omega | decide | exact ko_b _ | assumption | (simp only [t_si, t_sl, t_sr, t_sI, t_sR, n_si, n_sl, n_sr, n_sI, n_sR, r_si, r_sl, r_sI]; first | done | omega)) only [x_152_e, x_152_b, x_152_51, x_152_52, bk_v, bk_n, nl_I, nl_R, nl_L, nl_0, oo_lt, oo_le, oo_eq, oo_add, oo_sub, oo_tn, oo_ir, nn_leT, nn_leF, nn_ltT, nn_ltF, nn_eqT, nn_eqF, bv_0, bv_1, ko_b, ko_1, ko_0, true_and, and_true, if_true, if_false, not_true_eq_false, not_false_eq_true, oo_02, decide_eq_true_eq, decide_eq_false_iff_not, ite_not, Nat.reduceAdd, Nat.reduceLT, Nat.reduceSub, Nat.reduceLeDiff, reduceIte, Bool.true_eq_false, Bool.false_eq_true, reduceCtorEq, eq_self, decide_true, decide_false, bv_t, bv_f, and_self, t_si, t_sl, t_sr, t_sI, t_sR, n_si, n_sl, n_sr, n_sI, n_sR, r_si, r_sl, r_sI, hM, i_si, Nat.reduceEqDiff, and_false]
theorem m_twr {d m : Nat} {x : Int32} (h0 : w_t w 1440 = 25) (h13 : w_i w 1440 13 = Int32.ofNat m) (hm : m ≤ 600) (hx : x < Int32.ofNat 0 ∨ ∃ k, m < k ∧ k < 2147483648 ∧ x = Int32.ofNat k) {Q : Q_} : cl (d + 1) 152 [v_R (some 1440), v_I x] w Q = Q (Sum.inl (some (v_I (Int32.ofNat 0)))) (s_i (s_i w 1440 3 (Int32.ofNat 0)) 1440 3 (Int32.ofNat 1)) := by
  rcases hx with z | ⟨k, k1, k2, rfl⟩
  · simp (disch := first | omega | decide | exact ko_b _ | assumption | (simp only [t_si, t_sl, t_sr, t_sI, t_sR, n_si, n_sl, n_sr, n_sI, n_sR, r_si, r_sl, r_sI]; first | done | omega)) only [x_152_e, x_152_b, x_152_0, x_152_1, x_152_2, x_152_5, x_152_6, x_152_9, x_152_10, x_152_11, x_152_14, x_152_17, x_152_18, x_152_19, x_152_22, x_153_e, x_153_b, x_153_0, x_153_1, x_153_2, x_153_5, x_153_6, bk_v, bk_n, nl_I, nl_R, nl_L, nl_0, oo_lt, oo_le, oo_eq, oo_add, oo_sub, oo_tn, oo_ir, nn_leT, nn_leF, nn_ltT, nn_ltF, nn_eqT, nn_eqF, bv_0, bv_1, ko_b, ko_1, ko_0, true_and, and_true, if_true, if_false, not_true_eq_false, not_false_eq_true, oo_02, decide_eq_true_eq, decide_eq_false_iff_not, ite_not, Nat.reduceAdd, Nat.reduceLT, Nat.reduceSub, Nat.reduceLeDiff, reduceIte, Bool.true_eq_false, Bool.false_eq_true, reduceCtorEq, eq_self, decide_true, decide_false, bv_t, bv_f, and_self, t_si, t_sl, t_sr, t_sI, t_sR, n_si, n_sl, n_sr, n_sI, n_sR, r_si, r_sl, r_sI, h13, z, i_si, Nat.reduceEqDiff, and_false]
  · simp (disch := first | omega | decide | exact ko_b _ | assumption | (simp only [t_si, t_sl, t_sr, t_sI, t_sR, n_si, n_sl, n_sr, n_sI, n_sR, r_si, r_sl, r_sI]; first | done | omega)) only [x_152_e, x_152_b, x_152_0, x_152_1, x_152_2, x_152_5, x_152_6, x_152_9, x_152_10, x_152_11, x_152_14, x_152_17, x_152_18, x_152_19, x_152_22, x_153_e, x_153_b, x_153_0, x_153_1, x_153_2, x_153_5, x_153_6, bk_v, bk_n, nl_I, nl_R, nl_L, nl_0, oo_lt, oo_le, oo_eq, oo_add, oo_sub, oo_tn, oo_ir, nn_leT, nn_leF, nn_ltT, nn_ltF, nn_eqT, nn_eqF, bv_0, bv_1, ko_b, ko_1, ko_0, true_and, and_true, if_true, if_false, not_true_eq_false, not_false_eq_true, oo_02, decide_eq_true_eq, decide_eq_false_iff_not, ite_not, Nat.reduceAdd, Nat.reduceLT, Nat.reduceSub, Nat.reduceLeDiff, reduceIte, Bool.true_eq_false, Bool.false_eq_true, reduceCtorEq, eq_self, decide_true, decide_false, bv_t, bv_f, and_self, t_si, t_sl, t_sr, t_sI, t_sR, n_si, n_sl, n_sr, n_sI, n_sR, r_si, r_sl, r_sI, h13, i_si, Nat.reduceEqDiff, and_false]
def tn_r (r : (Nat × Nat) ⊕ Tm) : Nat := match r with
  | Sum.inl e => e.1
  | Sum.inr _ => 0
def tn_S (S : Sm) (r : (Nat × Nat) ⊕ Tm) : Sm := match r with
  | Sum.inl e => s_flt S e.2
  | Sum.inr T => s_twn S T
theorem m_town {D n : Nat} {S : Sm} (hD : 71 ≤ D) (h : RM_ w S) (hV : WS_ S) (hE : (tm_co (sm_T S)).length ≤ 600) (hK : KS_ w) (hk4 : ∀ k, k < 4 → w_r w 1441 k = some (38 + k)) (hk6 : ∀ k, k < 6 → w_r w 1442 k = some (42 + k)) (hn : n ≤ sm_n S) : MU_ D 152 [v_R (some 1440), v_I (Int32.ofNat n)] w (v_I (Int32.ofNat (tn_r (town_ (sm_tp S, n))))) 0 (tn_S S (town_ (sm_tp S, n))) := by
  obtain ⟨d, rfl⟩ : ∃ d, D = d + 71 := ⟨D - 71, by omega⟩
  have hM := h.1
  have hN6 : sm_n S ≤ 600 := hV.2.2.2.2.2.1
  have h256 := hV.2.2.2.2.2.2
  have h13 : w_i w 1440 13 = Int32.ofNat (sm_n S) := h.2.2.2.2.2.2.1
  have htp := h.2.2.2.2.2.1
  have q0 := fun Q => m_twb (d := d + 71) (n := n) (Q := Q) hM h13 hN6 hn
  have F0 : Fr_ pq_ w (wtb_ w n) := by
    unfold wtb_
    exact fr_si (fr_si (fr_si (fr_si (fr_si (fr_si (fr_si (fr_si (fr_si (fr_si (fr_rf _ _) (by unfold pq_; omega)) (by unfold pq_; omega)) (by unfold pq_; omega)) (by unfold pq_; omega)) (by unfold pq_; omega)) (by unfold pq_; omega)) (by unfold pq_; omega)) (by unfold pq_; omega)) (by unfold pq_; omega)) (by unfold pq_; omega)
  have b14 : w_i (wtb_ w n) 1440 14 = Int32.ofNat 0 := by unfold wtb_; simp only [i_si, Nat.reduceEqDiff, and_false, false_and, if_false, and_self, if_true]
  have b20 : w_i (wtb_ w n) 1440 20 = Int32.ofNat 0 := by unfold wtb_; simp only [i_si, Nat.reduceEqDiff, and_false, false_and, if_false, and_self, if_true]
  have b15 : w_i (wtb_ w n) 1440 15 = Int32.ofNat n := by unfold wtb_; simp only [i_si, Nat.reduceEqDiff, and_false, false_and, if_false, and_self, if_true]
  have b13 : w_i (wtb_ w n) 1440 13 = Int32.ofNat 0 := by unfold wtb_; simp only [i_si, Nat.reduceEqDiff, and_false, false_and, if_false, and_self, if_true]
  have b22 : w_i (wtb_ w n) 1440 22 = Int32.ofInt (-1) := by unfold wtb_; simp only [i_si, Nat.reduceEqDiff, and_false, false_and, if_false, and_self, if_true]
  have b3 : w_i (wtb_ w n) 1440 3 = Int32.ofNat 0 := by unfold wtb_; simp only [i_si, Nat.reduceEqDiff, and_false, false_and, if_false, and_self, if_true]
  have hMb : sh_M (wtb_ w n) := hM
  have hz := hM
  unfold sh_M at hz
  have he0 : Me_ (wtb_ w n) (sm_tp S, n) := by
    refine ⟨⟨hM.1, ?_, ?_, ?_, Nat.le_trans hn hN6, fun k hk => ?_, h256, b15⟩, hMb, fun i hi => ?_, hk4, hk6⟩
    · show w_r w 1440 12 = _; simp only [hz]
    · show w_t w 1452 = _; simp only [hz]
    · show w_n w 1452 = _; simp only [hz]
    · exact (F0.2.2.2.2.2 _ _ (by unfold pq_; omega)).trans (htp k hk)
    · obtain ⟨k1, k2, k3, k4, k5, k6⟩ := hK i hi
      exact ⟨k1, k2, (F0.2.2.2.2.2 _ _ (by unfold pq_; omega)).trans k3, k4, k5, fun k => (F0.2.2.2.2.2 _ _ (by unfold pq_; omega)).trans (k6 k)⟩
  have hu0 : MTu_ (wtb_ w n) T00_ := by
    unfold wtb_
    refine ⟨?_, ?_, ?_, fun j hj => absurd hj (Nat.not_lt_zero _), fun j hj => absurd hj (Nat.not_lt_zero _), fun j hj => absurd hj (Nat.not_lt_zero _), fun j hj => absurd hj (Nat.not_lt_zero _), fun j hj => absurd hj (Nat.not_lt_zero _), ?_, fun j hj => absurd hj (Nat.not_lt_zero _)⟩
    · simp only [i_si, Nat.reduceEqDiff, and_false, false_and, if_false, and_self, if_true]; rfl
    · simp only [i_si, Nat.reduceEqDiff, and_false, false_and, if_false, and_self, if_true]; rfl
    · simp only [i_si, Nat.reduceEqDiff, and_false, false_and, if_false, and_self, if_true]; rfl
    · simp only [i_si, Nat.reduceEqDiff, and_false, false_and, if_false, and_self, if_true]; rfl
  obtain ⟨w1, ⟨f1, g1, p1⟩, q1⟩ := m_step (t := (sm_tp S, n)) (D := d + 70) (p := 0) (by omega) he0.1 b20 b14 (Nat.zero_le _)
  have e1 := Me_k he0 f1
  obtain ⟨w2, a2, ⟨f2, m2⟩, q2⟩ := m_lns (t := (sm_tp S, n)) (d := d) (n := Int32.ofNat n) (n + 1) (T00_, false, false, false) (sk_ (sm_tp S, n) 0) w1 (by show n < _; omega) e1 p1 (MTu_k hu0 f1) TG_0 (fun _ => rfl)
  have q2 : ∀ Q, wp (d + 71) 152 96 [some (v_R (some 1440)), some (v_I (Int32.ofNat n)), some (v_I (Int32.ofNat 0))] [] w1 Q = wp (d + 71) 152 119 [some (v_R (some 1440)), some (v_I (Int32.ofNat n)), a2] [] w2 Q := q2
  have m2 : Me2_ w2 (sm_tp S, n) (town_ (sm_tp S, n)) := m2
  have e2 := Me_fr e1 f2
  have F2 : Fr_ pu_ (wtb_ w n) w2 := fr_tr (fr_mo f1 (fun _ _ z => Or.inl z)) f2
  have c0 := hM.1
  have go : ∀ Q, cl (d + 71) 152 [v_R (some 1440), v_I (Int32.ofNat n)] w Q = wp (d + 71) 152 119 [some (v_R (some 1440)), some (v_I (Int32.ofNat n)), a2] [] w2 Q := fun Q => by
    have t0 : w_t (wtb_ w n) 1440 = 25 := c0
    rw [← q2, q0]
    simp (disch := first | omega | decide | exact ko_b _ | assumption | (simp only [t_si, t_sl, t_sr, t_sI, t_sR, n_si, n_sl, n_sr, n_sI, n_sR, r_si, r_sl, r_sI]; first | done | omega)) only [x_152_e, x_152_b, x_152_90, x_152_91, x_152_94, x_152_95, bk_v, bk_n, nl_I, nl_R, nl_L, nl_0, oo_lt, oo_le, oo_eq, oo_add, oo_sub, oo_tn, oo_ir, nn_leT, nn_leF, nn_ltT, nn_ltF, nn_eqT, nn_eqF, bv_0, bv_1, ko_b, ko_1, ko_0, true_and, and_true, if_true, if_false, not_true_eq_false, not_false_eq_true, oo_02, decide_eq_true_eq, decide_eq_false_iff_not, ite_not, Nat.reduceAdd, Nat.reduceLT, Nat.reduceSub, Nat.reduceLeDiff, reduceIte, Bool.true_eq_false, Bool.false_eq_true, reduceCtorEq, eq_self, decide_true, decide_false, bv_t, bv_f, and_self, t_si, t_sl, t_sr, t_sI, t_sR, n_si, n_sl, n_sr, n_sI, n_sR, r_si, r_sl, r_sI, q1]
  have k13 : w_i w2 1440 13 = Int32.ofNat 0 := (F2.2.2.2.2.2 _ _ (by unfold pu_ pk_; omega)).trans b13
  have k22 : w_i w2 1440 22 = Int32.ofInt (-1) := (F2.2.2.2.2.2 _ _ (by unfold pu_ pk_; omega)).trans b22
  have k3 : w_i w2 1440 3 = Int32.ofNat 0 := (F2.2.2.2.2.2 _ _ (by unfold pu_ pk_; omega)).trans b3
  have FF : Fr_ pq_ w w2 := fr_tr F0 (fr_mo F2 (fun a k z => by unfold pu_ pk_ at z; unfold pq_; omega))
  have s2 := e2.2.1
  have s2' := s2
  unfold sh_M at s2'
  cases hx : town_ (sm_tp S, n) with
  | inl e =>
    rw [hx] at m2
    have m2 : Mf_ w2 (sm_tp S, n) e := m2
    have hn2 := Mf_n m2
    have h20 := m2.2.1
    have h21 := m2.2.2
    have F3 : Fr_ pq_ w (s_i (s_i w2 1440 22 (Int32.ofNat e.2)) 1451 0 (w_i w2 1451 0 + Int32.ofNat 1)) := fr_si (fr_si FF (by unfold pq_; omega)) (by unfold pq_; omega)
    have i51 : w_i w2 1451 0 = w_i w 1451 0 := (F2.2.2.2.2.2 _ _ (by unfold pu_ pk_; omega)).trans (by unfold wtb_; simp only [i_si, Nat.reduceEqDiff, false_and, if_false])
    refine ⟨_, fr_mo F3 (fun a k z => by unfold pq_ at z; unfold mo_; omega), RM_flt h hV hE F3 ?_ ?_ ?_, ?_, fun Q => ?_⟩
    · rw [i_si, if_neg (by omega), i_si, if_neg (by omega)]; exact k13
    · rw [i_si, if_neg (by omega), i_si, if_pos ⟨rfl, rfl⟩]
    · rw [i_si, if_pos ⟨rfl, rfl⟩, i51]
    · rw [i_si, if_neg (by omega), i_si, if_neg (by omega)]; exact k3
    · rw [go]
      have en : tn_r (Sum.inl e) = e.1 := rfl
      rw [en]
      have hn3 : ¬ Int32.ofNat e.1 = Int32.ofNat 0 := by rw [← h20]; exact hn2
      simp (disch := first | omega | decide | exact ko_b _ | assumption | (simp only [t_si, t_sl, t_sr, t_sI, t_sR, n_si, n_sl, n_sr, n_sI, n_sR, r_si, r_sl, r_sI]; first | done | omega)) only [x_152_e, x_152_b, x_152_119, x_152_120, x_152_123, x_152_126, x_152_127, x_152_128, x_152_131, x_152_134, x_152_135, x_152_138, x_152_139, x_152_140, x_152_141, x_152_142, x_152_143, x_152_144, x_152_145, x_152_148, bk_v, bk_n, nl_I, nl_R, nl_L, nl_0, oo_lt, oo_le, oo_eq, oo_add, oo_sub, oo_tn, oo_ir, nn_leT, nn_leF, nn_ltT, nn_ltF, nn_eqT, nn_eqF, bv_0, bv_1, ko_b, ko_1, ko_0, true_and, and_true, if_true, if_false, not_true_eq_false, not_false_eq_true, oo_02, decide_eq_true_eq, decide_eq_false_iff_not, ite_not, Nat.reduceAdd, Nat.reduceLT, Nat.reduceSub, Nat.reduceLeDiff, reduceIte, Bool.true_eq_false, Bool.false_eq_true, reduceCtorEq, eq_self, decide_true, decide_false, bv_t, bv_f, and_self, t_si, t_sl, t_sr, t_sI, t_sR, n_si, n_sl, n_sr, n_sI, n_sR, r_si, r_sl, r_sI, s2', hn3, h20, h21, i_si, Nat.reduceEqDiff, and_false, false_and]
  | inr T =>
    rw [hx] at m2
    obtain ⟨m2, n20⟩ := m2
    have hg := town_g hx
    obtain ⟨u1, u2, u3, u4, u5, u6, u7, u8, u9, u10⟩ := m2
    obtain ⟨t1, t2, t3, t4, t5, t6, t7, t8⟩ := hg
    have t5 : (tm_co T).length ≤ n := t5
    obtain ⟨w3, ⟨f3, v1, ⟨v2, v3, v4, v5, v6⟩, v7, v8, v9, v10, v11, v12, v13, v14⟩, q3⟩ := m_tkov (D := d + 70) (by omega) s2
    have F3 : Fr_ pz_ w w3 := by
      refine fr_tr (fr_tr ?_ (fr_mo F2 (fun a k z => by unfold pu_ pk_ at z; unfold pz_; omega))) (fr_mo f3 (fun a k z => by unfold pr_ at z; unfold pz_; omega))
      unfold wtb_
      exact fr_si (fr_si (fr_si (fr_si (fr_si (fr_si (fr_si (fr_si (fr_si (fr_si (fr_rf _ _) (by unfold pz_; omega)) (by unfold pz_; omega)) (by unfold pz_; omega)) (by unfold pz_; omega)) (by unfold pz_; omega)) (by unfold pz_; omega)) (by unfold pz_; omega)) (by unfold pz_; omega)) (by unfold pz_; omega)) (by unfold pz_; omega)
    refine ⟨w3, fr_mo F3 (fun a k z => by unfold pz_ at z; unfold mo_; omega), RM_twn h F3 ⟨(v1 0 (by omega)).trans u1, (v1 1 (by omega)).trans u2, (v1 2 (by omega)).trans u3, (v1 3 (by omega)).trans u9, fun j hj => (v2 j (by omega)).trans (u4 j hj), fun j hj => (v3 j (by omega)).trans (u5 j hj), fun j hj => (v4 j (by omega)).trans (u6 j hj), fun j hj => (v5 j (by omega)).trans (u7 j hj), fun j hj => (v6 j (by omega)).trans (u8 j hj), fun j hj => (v7 j (by omega)).trans (u10 j hj)⟩ ⟨v9.trans u1, v10, v11, fun j hj => ?_, fun j hj => (v8 j (by omega)).2.1, fun j hj => (v8 j (by omega)).2.2.1, fun j hj => (v8 j (by omega)).2.2.2.trans (u7 j hj)⟩ v12 v13 v14 ((f3.2.2.2.2.2 _ _ (by unfold pr_; omega)).trans k13) ((f3.2.2.2.2.2 _ _ (by unfold pr_; omega)).trans k22), (f3.2.2.2.2.2 _ _ (by unfold pr_; omega)).trans k3, fun Q => ?_⟩
    · have hj : j < tm_n T := hj
      exact (v8 j (by omega)).1
    · rw [go]
      have en : tn_r (Sum.inr T) = 0 := rfl
      rw [en]
      have c3 : w_t w2 1440 = 25 := s2.1
      simp (disch := first | omega | decide | exact ko_b _ | assumption | (simp only [t_si, t_sl, t_sr, t_sI, t_sR, n_si, n_sl, n_sr, n_sI, n_sR, r_si, r_sl, r_sI]; first | done | omega)) only [x_152_e, x_152_b, x_152_119, x_152_120, x_152_123, x_152_e, x_152_b, x_152_149, x_152_150, x_152_153, x_152_154, bk_v, bk_n, nl_I, nl_R, nl_L, nl_0, oo_lt, oo_le, oo_eq, oo_add, oo_sub, oo_tn, oo_ir, nn_leT, nn_leF, nn_ltT, nn_ltF, nn_eqT, nn_eqF, bv_0, bv_1, ko_b, ko_1, ko_0, true_and, and_true, if_true, if_false, not_true_eq_false, not_false_eq_true, oo_02, decide_eq_true_eq, decide_eq_false_iff_not, ite_not, Nat.reduceAdd, Nat.reduceLT, Nat.reduceSub, Nat.reduceLeDiff, reduceIte, Bool.true_eq_false, Bool.false_eq_true, reduceCtorEq, eq_self, decide_true, decide_false, bv_t, bv_f, and_self, t_si, t_sl, t_sr, t_sI, t_sR, n_si, n_sl, n_sr, n_sI, n_sR, r_si, r_sl, r_sI, n20, q3]
end
