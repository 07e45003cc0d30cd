/-! CONSTRUCTORS: books -/
set_option maxRecDepth 100000
/-- where P holds all as it was -/
def Kp_ (P : Nat → Prop) (w w1 : Wd) : Prop := ∀ b, P b → w_t w1 b = w_t w b ∧ w_n w1 b = w_n w b ∧ (∀ k, w_i w1 b k = w_i w b k) ∧ (∀ k, w_r w1 b k = w_r w b k) ∧ ∀ k, w_l w1 b k = w_l w b k
theorem kp_rf (P : Nat → Prop) (w : Wd) : Kp_ P w w := fun _ _ => ⟨rfl, rfl, fun _ => rfl, fun _ => rfl, fun _ => rfl⟩
theorem kp_tr {P : Nat → Prop} {w w1 w2 : Wd} (h1 : Kp_ P w w1) (h2 : Kp_ P w1 w2) : Kp_ P w w2 := fun b hb => by
  obtain ⟨a1, a2, a3, a4, a5⟩ := h1 b hb
  obtain ⟨b1, b2, b3, b4, b5⟩ := h2 b hb
  exact ⟨b1.trans a1, b2.trans a2, fun k => (b3 k).trans (a3 k), fun k => (b4 k).trans (a4 k), fun k => (b5 k).trans (a5 k)⟩
theorem kp_mo {P R : Nat → Prop} {w w1 : Wd} (h : Kp_ P w w1) (hy : ∀ b, R b → P b) : Kp_ R w w1 := fun b hb => h b (hy b hb)
theorem kp_n {P : Nat → Prop} {t n : Nat} {w : Wd} (h : ∀ b, P b → b ≠ w_z w) : Kp_ P w (s_n w t n) := fun b hb => by
  have e := h b hb
  refine ⟨?_, ?_, fun k => ?_, fun k => ?_, fun k => ?_⟩
  · rw [t_sn, if_neg e]
  · rw [n_sn, if_neg e]
  · rw [i_sn, if_neg e]
  · rw [r_sn, if_neg e]
  · rw [l_sn, if_neg e]
theorem kp_r {P : Nat → Prop} {a k : Nat} {x : Option Nat} {w : Wd} (h : ∀ b, P b → b ≠ a) : Kp_ P w (s_r w a k x) := fun b hb => ⟨rfl, rfl, fun _ => rfl, fun j => by rw [r_sr, if_neg (fun z => h b hb z.1)], fun _ => rfl⟩
theorem kp_i {P : Nat → Prop} {a k : Nat} {x : Int32} {w : Wd} (h : ∀ b, P b → b ≠ a) : Kp_ P w (s_i w a k x) := fun b hb => ⟨rfl, rfl, fun j => by rw [i_si, if_neg (fun z => h b hb z.1)], fun _ => rfl, fun _ => rfl⟩
theorem kp_SO {P : Nat → Prop} {w w1 : Wd} {a : Nat} (h : Kp_ P w w1) (hs : SO_ w a) (hp : ∀ b, a ≤ b → b ≤ a + 4 → P b) : SO_ w1 a := SO_ag hs (fun b h1 h2 => ⟨(h b (hp b h1 h2)).1, (h b (hp b h1 h2)).2.1, (h b (hp b h1 h2)).2.2.2.1⟩)
section
variable {w : Wd}
/-- a list's add, with room -/
theorem c_add {l e k c x : Nat} (ht : w_t w l = 36) (hr : w_r w l 1 = some e) (te : w_t w e = 5) (ne : w_n w e = c) (hk : w_i w l 2 = Int32.ofNat k) (h1 : k < c) (h2 : c ≤ 1000) {t : Nat} (hx : w_t w x = t) (h20 : 20 ≤ t) {d : Nat} {Q : Q_} : cl (d + 2) 308 [v_R (some l), v_R (some x)] w Q = Q (Sum.inl (some (v_I (Int32.ofNat 1)))) (s_i (s_r (s_i w l 0 (w_i w l 0 + Int32.ofNat 1)) e k (some x)) l 2 (Int32.ofNat (k + 1))) := by
  simp (disch := first | omega | decide | exact ko_b _ | assumption | (simp only [t_si, t_sl, t_sr, t_sI, t_sR, n_si, n_sl, n_sr, n_sI, n_sR, r_si, r_sl, r_sI]; first | done | omega)) only [x_308_e, x_308_b, x_308_0, x_308_1, x_308_2, x_308_5, x_308_6, x_308_7, x_308_10, x_308_11, x_308_12, x_308_13, x_308_16, x_308_17, x_308_20, x_308_23, x_308_24, x_309_e, x_309_b, x_309_0, x_309_1, x_309_2, x_309_3, x_309_6, x_309_7, x_309_10, x_309_11, x_309_12, x_309_13, x_309_14, x_309_15, x_309_16, x_309_17, x_309_18, x_309_19, x_309_22, bk_v, bk_n, nl_I, nl_R, nl_L, nl_0, oo_lt, oo_le, oo_eq, oo_add, oo_sub, oo_tn, oo_ir, nn_leT, nn_leF, nn_ltT, nn_ltF, nn_eqT, nn_eqF, bv_0, bv_1, ko_b, ko_1, ko_0, true_and, and_true, if_true, if_false, not_true_eq_false, not_false_eq_true, oo_02, decide_eq_true_eq, decide_eq_false_iff_not, ite_not, Nat.reduceAdd, Nat.reduceLT, Nat.reduceSub, Nat.reduceLeDiff, reduceIte, Bool.true_eq_false, Bool.false_eq_true, reduceCtorEq, eq_self, decide_true, decide_false, bv_t, bv_f, and_self, t_si, t_sl, t_sr, t_sI, t_sR, n_si, n_sl, n_sr, n_sI, n_sR, r_si, r_sl, r_sI, i_si, i_sr, nn_eqF, ht, hr, te, ne, hk, hx, false_and, and_false, show (0 : Nat) ≠ 2 from by decide, show (2 : Nat) ≠ 0 from by decide, show Int32.ofNat k + Int32.ofNat 1 = Int32.ofNat (k + 1) from oo_add k 1]
/-- a book's fresh parts, before its forty states -/
def wb_ (w : Wd) (u : Nat) : Wd := s_r (s_n (s_r (s_n (s_r (s_n (s_r (s_r (s_n (s_i (s_n (s_r w u 0 (some (u + 1))) 36 3) (u + 6) 0 (Int32.ofNat 0)) 5 40) (u + 6) 1 (some (u + 7))) u 1 (some (u + 6))) 1 8) u 2 (some (u + 8))) 1 8) u 3 (some (u + 9))) 1 3) u 4 (some (u + 10))
theorem wb_z {u : Nat} (hz : w_z w = u + 6) : w_z (wb_ w u) = u + 11 := by
  unfold wb_
  simp only [z_sr, z_sn, z_si, hz]
theorem wb_s {u : Nat} : w_s (wb_ w u) = w_s w + 62 := by
  unfold wb_
  simp only [s_sr, s_sn, s_si]
theorem wb_kp {u : Nat} (hz : w_z w = u + 6) : Kp_ (fun b => b < u + 6 ∧ b ≠ u) w (wb_ w u) := by
  unfold wb_
  refine kp_tr (kp_r fun b h => h.2) (kp_tr (kp_n fun b h => ?_) (kp_tr (kp_i fun b h => ?_) (kp_tr (kp_n fun b h => ?_) (kp_tr (kp_r fun b h => ?_) (kp_tr (kp_r fun b h => h.2) (kp_tr (kp_n fun b h => ?_) (kp_tr (kp_r fun b h => h.2) (kp_tr (kp_n fun b h => ?_) (kp_tr (kp_r fun b h => h.2) (kp_tr (kp_n fun b h => ?_) (kp_r fun b h => h.2)))))))))))
  all_goals first | (simp only [z_sr, z_sn, z_si, hz]; omega) | omega
theorem wb_sh {u : Nat} (hu : u = 1007 ∨ u = 1218) (hz : w_z w = u + 6) (ht : w_t w u = 23) : sh_B (wb_ w u) u := by
  unfold sh_B wb_
  rcases hu with rfl | rfl
  · simp only [Nat.reduceAdd] at hz ⊢
    refine ⟨?_, ?_, ?_, ?_, ?_, ?_, ?_, ?_, ?_, ?_, ?_, ?_, ?_, ?_, ?_⟩
    all_goals simp only [t_sn, t_sr, t_si, n_sn, n_sr, n_si, z_sn, z_sr, z_si, hz, Nat.reduceEqDiff, Nat.reduceAdd, if_true, if_false, r_sr, r_sn, r_si, and_self, true_and, false_and, and_false, ht]
  · simp only [Nat.reduceAdd] at hz ⊢
    refine ⟨?_, ?_, ?_, ?_, ?_, ?_, ?_, ?_, ?_, ?_, ?_, ?_, ?_, ?_, ?_⟩
    all_goals simp only [t_sn, t_sr, t_si, n_sn, n_sr, n_si, z_sn, z_sr, z_si, hz, Nat.reduceEqDiff, Nat.reduceAdd, if_true, if_false, r_sr, r_sn, r_si, and_self, true_and, false_and, and_false, ht]
theorem wb_i {u : Nat} (hz : w_z w = u + 6) : (∀ k, w_i (wb_ w u) u k = w_i w u k) ∧ (∀ k, w_i (wb_ w u) (u + 10) k = Int32.ofNat 0) ∧ w_i (wb_ w u) (u + 6) 2 = Int32.ofNat 0 := by
  unfold wb_
  refine ⟨fun k => ?_, fun k => ?_, ?_⟩
  · simp (disch := omega) only [t_sn, t_sr, t_si, t_sI, t_sR, t_sl, n_sn, n_sr, n_si, n_sI, n_sR, n_sl, z_sn, z_sr, z_si, z_sI, z_sR, z_sl, hz, nn_eqF, nn_eqT, Nat.reduceEqDiff, Nat.reduceAdd, Nat.add_assoc, if_true, if_false, eq_self, i_sr, i_sn, i_si, false_and]
  · simp (disch := omega) only [t_sn, t_sr, t_si, t_sI, t_sR, t_sl, n_sn, n_sr, n_si, n_sI, n_sR, n_sl, z_sn, z_sr, z_si, z_sI, z_sR, z_sl, hz, nn_eqF, nn_eqT, Nat.reduceEqDiff, Nat.reduceAdd, Nat.add_assoc, if_true, if_false, eq_self, i_sr, i_sn, i_si, false_and]; rfl
  · simp (disch := omega) only [t_sn, t_sr, t_si, t_sI, t_sR, t_sl, n_sn, n_sr, n_si, n_sI, n_sR, n_sl, z_sn, z_sr, z_si, z_sI, z_sR, z_sl, hz, nn_eqF, nn_eqT, Nat.reduceEqDiff, Nat.reduceAdd, Nat.add_assoc, if_true, if_false, eq_self, i_sr, i_sn, i_si, false_and, and_false, show (2 : Nat) ≠ 0 from by decide]; rfl
/-- the forty states of a book -/
theorem c_book1 {u : Nat} (hz : w_z w = u + 11) (hb : sh_B w u) (h0 : w_i w (u + 6) 2 = Int32.ofNat 0) {d : Nat} : ∃ w1, (Kp_ (fun b => b < u + 11 ∧ b ≠ u + 6 ∧ b ≠ u + 7) w w1 ∧ w_z w1 = u + 211 ∧ w_s w1 = w_s w + 1880 ∧ sh_B w1 u ∧ w_i w1 (u + 6) 2 = Int32.ofNat 40 ∧ (∀ k, k < 40 → w_r w1 (u + 7) k = some (u + 11 + 5 * k)) ∧ ∀ k, k < 40 → SO_ w1 (u + 11 + 5 * k)) ∧ ∀ Q, wp (d + 3) 130 53 [some (v_R (some u)), some (v_I (Int32.ofNat 0))] [] w Q = Q (Sum.inl none) w1 := by
  obtain ⟨w1, ⟨i1, i2, i3, i4, i5, i6, i7⟩, q1⟩ := lp_ex (fun k (s : Wd) Q => wp (d + 3) 130 53 [some (v_R (some u)), some (v_I (Int32.ofNat k))] [] s Q) (fun k s => Kp_ (fun b => b < u + 11 ∧ b ≠ u + 6 ∧ b ≠ u + 7) w s ∧ w_z s = u + 11 + 5 * k ∧ w_s s = w_s w + 47 * k ∧ sh_B s u ∧ w_i s (u + 6) 2 = Int32.ofNat k ∧ (∀ j, j < k → w_r s (u + 7) j = some (u + 11 + 5 * j)) ∧ ∀ j, j < k → SO_ s (u + 11 + 5 * j)) 40 (fun k s hk hI => by
    obtain ⟨i1, i2, i3, i4, i5, i6, i7⟩ := hI
    obtain ⟨a, ha⟩ : ∃ a, a = u + 11 + 5 * k := ⟨_, rfl⟩
    have nz : w_z s = a := by omega
    obtain ⟨t, ⟨j1, j2, j3, j4, j5, -⟩, q2⟩ := c_state0 (w := s_n s 24 7) (a := a) (d := d + 2) (by rw [t_sn, if_pos nz.symm]) (by rw [z_sn, nz])
    have k1 : Nb_ a s t := nb_tr (nb_n (by omega)) j1
    have hb4 := i4
    obtain ⟨b1, b2, b3, b4, b5, b6, b7, b8, b9, b10, b11, b12, b13, b14, b15⟩ := i4
    have t6 : w_t t (u + 6) = 36 := (k1 _ (by omega)).1.trans b7
    have r6 : w_r t (u + 6) 1 = some (u + 7) := ((k1 _ (by omega)).2.2.2.1 1).trans b8
    have t7 : w_t t (u + 7) = 5 := (k1 _ (by omega)).1.trans b9
    have n7 : w_n t (u + 7) = 40 := (k1 _ (by omega)).2.1.trans b10
    have i6k : w_i t (u + 6) 2 = Int32.ofNat k := ((k1 _ (by omega)).2.2.1 2).trans i5
    have ta : w_t t a = 24 := j5.1
    have tn : w_t (s_n s 24 7) a = 24 := by rw [t_sn, if_pos nz.symm]
    have rn : w_r s u 1 = some (u + 6) := b3
    refine ⟨s_i (s_r (s_i t (u + 6) 0 (w_i t (u + 6) 0 + Int32.ofNat 1)) (u + 7) k (some a)) (u + 6) 2 (Int32.ofNat (k + 1)), ⟨?_, ?_, ?_, ?_, ?_, fun j hj => ?_, fun j hj => ?_⟩, fun Q => ?_⟩
    · refine kp_tr i1 (kp_tr (kp_mo (fun b hb => k1 b hb) (R := fun b => b < u + 11 ∧ b ≠ u + 6 ∧ b ≠ u + 7) fun b hb => ?_) (kp_tr (kp_tr (kp_i fun b hb => hb.2.1) (kp_r fun b hb => hb.2.2)) (kp_i fun b hb => hb.2.1)))
      show b < a
      omega
    · rw [z_si, z_sr, z_si, j3]; omega
    · rw [s_si, s_sr, s_si, j4, s_sn, i3]; omega
    · have T : ∀ b, b < u + 11 → w_t t b = w_t s b := fun b hb => (k1 b (by omega)).1
      have N : ∀ b, b < u + 11 → w_n t b = w_n s b := fun b hb => (k1 b (by omega)).2.1
      have R : ∀ b i, b < u + 11 → b ≠ u + 7 → w_r (s_r (s_i t (u + 6) 0 (w_i t (u + 6) 0 + Int32.ofNat 1)) (u + 7) k (some a)) b i = w_r s b i := fun b i hb h7 => by
        rw [r_sr, if_neg (fun z => h7 z.1), r_si]
        exact (k1 b (by omega)).2.2.2.1 i
      unfold sh_B at hb4 ⊢
      simp (disch := omega) only [t_si, t_sr, n_si, n_sr, r_si, T, N, R]
      exact hb4
    · rw [i_si, if_pos ⟨rfl, rfl⟩]
    · rw [r_si, r_sr]
      by_cases e : j = k
      · rw [if_pos ⟨rfl, e⟩, e, ha]
      · rw [if_neg (fun z => e z.2), r_si]
        exact ((k1 (u + 7) (by omega)).2.2.2.1 j).trans (i6 j (by omega))
    · have fin : SO_ t (u + 11 + 5 * j) := by
        by_cases e : j = k
        · rw [e, ← ha]; exact j5
        · exact SO_ag (i7 j (by omega)) fun b h1 h2 => ⟨(k1 b (by omega)).1, (k1 b (by omega)).2.1, fun i => (k1 b (by omega)).2.2.2.1 i⟩
      refine SO_ag fin fun b h1 h2 => ⟨rfl, rfl, fun i => ?_⟩
      rw [r_si, r_sr, if_neg (by omega), r_si]
    · rw [x_130_53]
      simp (disch := first | omega | decide | exact ko_b _ | assumption | (simp only [t_si, t_sl, t_sr, t_sI, t_sR, n_si, n_sl, n_sr, n_sI, n_sR, r_si, r_sl, r_sI]; first | done | omega)) only [x_130_e, x_130_b, x_130_54, x_130_56, x_130_59, x_130_60, x_130_63, x_130_66, x_130_67, bk_v, bk_n, nl_I, nl_R, nl_L, nl_0, oo_lt, oo_le, oo_eq, oo_add, oo_sub, oo_tn, oo_ir, nn_leT, nn_leF, nn_ltT, nn_ltF, nn_eqT, nn_eqF, bv_0, bv_1, ko_b, ko_1, ko_0, true_and, and_true, if_true, if_false, not_true_eq_false, not_false_eq_true, oo_02, decide_eq_true_eq, decide_eq_false_iff_not, ite_not, Nat.reduceAdd, Nat.reduceLT, Nat.reduceSub, Nat.reduceLeDiff, reduceIte, Bool.true_eq_false, Bool.false_eq_true, reduceCtorEq, eq_self, decide_true, decide_false, bv_t, bv_f, and_self, t_si, t_sl, t_sr, t_sI, t_sR, n_si, n_sl, n_sr, n_sI, n_sR, r_si, r_sl, r_sI, nz, hk, b1]
      rw [q2]
      simp only [x_130_b, bk_v, bk_n]
      simp (disch := first | omega | decide | exact ko_b _ | assumption | (simp only [t_si, t_sl, t_sr, t_sI, t_sR, n_si, n_sl, n_sr, n_sI, n_sR, r_si, r_sl, r_sI]; first | done | omega)) only [x_130_e, x_130_b, x_130_70, x_130_73, x_130_74, x_130_77, bk_v, bk_n, nl_I, nl_R, nl_L, nl_0, oo_lt, oo_le, oo_eq, oo_add, oo_sub, oo_tn, oo_ir, nn_leT, nn_leF, nn_ltT, nn_ltF, nn_eqT, nn_eqF, bv_0, bv_1, ko_b, ko_1, ko_0, true_and, and_true, if_true, if_false, not_true_eq_false, not_false_eq_true, oo_02, decide_eq_true_eq, decide_eq_false_iff_not, ite_not, Nat.reduceAdd, Nat.reduceLT, Nat.reduceSub, Nat.reduceLeDiff, reduceIte, Bool.true_eq_false, Bool.false_eq_true, reduceCtorEq, eq_self, decide_true, decide_false, bv_t, bv_f, and_self, t_si, t_sl, t_sr, t_sI, t_sR, n_si, n_sl, n_sr, n_sI, n_sR, r_si, r_sl, r_sI, rn]
      rw [c_add t6 r6 t7 n7 i6k hk (by omega) ta (by omega)]
      simp (disch := first | omega | decide | exact ko_b _ | assumption | (simp only [t_si, t_sl, t_sr, t_sI, t_sR, n_si, n_sl, n_sr, n_sI, n_sR, r_si, r_sl, r_sI]; first | done | omega)) only [x_130_e, x_130_b, x_130_73, x_130_74, x_130_77, bk_v, bk_n, nl_I, nl_R, nl_L, nl_0, oo_lt, oo_le, oo_eq, oo_add, oo_sub, oo_tn, oo_ir, nn_leT, nn_leF, nn_ltT, nn_ltF, nn_eqT, nn_eqF, bv_0, bv_1, ko_b, ko_1, ko_0, true_and, and_true, if_true, if_false, not_true_eq_false, not_false_eq_true, oo_02, decide_eq_true_eq, decide_eq_false_iff_not, ite_not, Nat.reduceAdd, Nat.reduceLT, Nat.reduceSub, Nat.reduceLeDiff, reduceIte, Bool.true_eq_false, Bool.false_eq_true, reduceCtorEq, eq_self, decide_true, decide_false, bv_t, bv_f, and_self, t_si, t_sl, t_sr, t_sI, t_sR, n_si, n_sl, n_sr, n_sI, n_sR, r_si, r_sl, r_sI]) 40 0 w (by omega) ⟨kp_rf _ _, by omega, by omega, hb, h0, fun j hj => absurd hj (by omega), fun j hj => absurd hj (by omega)⟩
  refine ⟨w1, ⟨i1, i2, i3, i4, i5, i6, i7⟩, fun Q => (q1 Q).trans ?_⟩
  rw [x_130_53]
  simp (disch := first | omega | decide | exact ko_b _ | assumption | (simp only [t_si, t_sl, t_sr, t_sI, t_sR, n_si, n_sl, n_sr, n_sI, n_sR, r_si, r_sl, r_sI]; first | done | omega)) only [x_130_e, x_130_b, x_130_54, x_130_56, x_130_e, x_130_b, x_130_80, bk_v, bk_n, nl_I, nl_R, nl_L, nl_0, oo_lt, oo_le, oo_eq, oo_add, oo_sub, oo_tn, oo_ir, nn_leT, nn_leF, nn_ltT, nn_ltF, nn_eqT, nn_eqF, bv_0, bv_1, ko_b, ko_1, ko_0, true_and, and_true, if_true, if_false, not_true_eq_false, not_false_eq_true, oo_02, decide_eq_true_eq, decide_eq_false_iff_not, ite_not, Nat.reduceAdd, Nat.reduceLT, Nat.reduceSub, Nat.reduceLeDiff, reduceIte, Bool.true_eq_false, Bool.false_eq_true, reduceCtorEq, eq_self, decide_true, decide_false, bv_t, bv_f, and_self, t_si, t_sl, t_sr, t_sI, t_sR, n_si, n_sl, n_sr, n_sI, n_sR, r_si, r_sl, r_sI]
/-- a new book -/
theorem c_book0 {u : Nat} (hu : u = 1007 ∨ u = 1218) (ht : w_t w u = 23) (hz : w_z w = u + 1) {d : Nat} : ∃ w1, (Kp_ (fun b => b < u) w w1 ∧ w_z w1 = u + 211 ∧ w_s w1 = w_s w + 1989 ∧ sh_B w1 u ∧ sh_K w1 u ∧ CL_ w1 u id ∧ (∀ k, w_i w1 u k = w_i w u k) ∧ (∀ k, w_i w1 (u + 10) k = Int32.ofNat 0) ∧ ∀ k, w_i w1 (u + 1) k = Int32.ofNat 0) ∧ ∀ Q, cl (d + 4) 130 [v_R (some u)] w Q = Q (Sum.inl none) w1 := by
  have hz1 : w_z w = u + 1 := hz
  obtain ⟨t, ⟨j1, j2, j3, j4, j5, -⟩, q2⟩ := c_state0 (w := s_n w 24 7) (a := u + 1) (d := d + 3) (by rw [t_sn, if_pos hz1.symm]) (by rw [z_sn, hz1])
  have k1 : Nb_ (u + 1) w t := nb_tr (nb_n (by omega)) j1
  have tt : w_t t u = 23 := (k1 u (by omega)).1.trans ht
  have tz : w_z t = u + 6 := j3
  obtain ⟨e1, e2, e3⟩ := wb_i (w := t) tz
  have e4 := wb_kp (w := t) tz
  have e5 := wb_sh hu tz tt
  have e6 := wb_z (w := t) tz
  obtain ⟨w1, ⟨i1, i2, i3, i4, i5, i6, i7⟩, q1⟩ := c_book1 (w := wb_ t u) (d := d + 1) e6 e5 e3
  refine ⟨w1, ⟨?_, i2, ?_, i4, ⟨?_, i7⟩, ⟨i5, i6, fun k hk => hk, fun i j _ _ e => e⟩, fun k => ?_, fun k => ?_, fun k => ?_⟩, fun Q => ?_⟩
  · exact kp_tr (kp_mo (P := fun b => b < u + 1) (fun b hb => k1 b hb) fun b hb => Nat.lt_succ_of_lt hb) (kp_tr (kp_mo e4 fun b hb => by omega) (kp_mo i1 fun b hb => by omega))
  · rw [i3, wb_s, j4, s_sn]
  · exact kp_SO i1 (kp_SO e4 j5 fun b _ _ => by omega) fun b _ _ => by omega
  · exact ((i1 u (by omega)).2.2.1 k).trans ((e1 k).trans ((k1 u (by omega)).2.2.1 k))
  · exact ((i1 (u + 10) (by omega)).2.2.1 k).trans (e2 k)
  · refine ((i1 (u + 1) (by omega)).2.2.1 k).trans (((e4 (u + 1) (by omega)).2.2.1 k).trans ((j2 k).trans ?_))
    rw [i_sn, if_pos hz1.symm]; rfl
  · have tv : w_t (s_n (s_r t u 0 (some (u + 1))) 36 3) (u + 6) = 36 := by rw [t_sn, if_pos (by rw [z_sr, tz])]
    have zv : w_z (s_n (s_r t u 0 (some (u + 1))) 36 3) = u + 6 + 1 := by rw [z_sn, z_sr, tz]
    have l1 : ∀ Q, cl (d + 1 + 2) 307 [v_R (some (u + 6)), v_I (Int32.ofNat 40)] (s_n (s_r t u 0 (some (u + 1))) 36 3) Q = _ := fun Q => c_list0 (k := 40) (d := d + 1) tv zv (by omega) (by omega)
    have tw : w_t (s_n w 24 7) (u + 1) = 24 := by rw [t_sn, if_pos hz1.symm]
    simp (disch := first | omega | decide | assumption | (simp (disch := omega) only [t_sn, t_sr, t_si, t_sI, t_sR, t_sl, n_sn, n_sr, n_si, n_sI, n_sR, n_sl, z_sn, z_sr, z_si, z_sI, z_sR, z_sl, hz, nn_eqF, nn_eqT, Nat.reduceEqDiff, Nat.reduceAdd, Nat.add_assoc, if_true, if_false, eq_self]; first | done | omega)) only [x_130_e, x_130_b, x_130_0, x_130_1, x_130_4, x_130_5, x_130_8, x_130_9, bk_v, bk_n, nl_I, nl_R, nl_0, hz1]
    rw [q2]
    have hz := tz
    simp (disch := first | omega | decide | assumption | (simp (disch := omega) only [t_sn, t_sr, t_si, t_sI, t_sR, t_sl, n_sn, n_sr, n_si, n_sI, n_sR, n_sl, z_sn, z_sr, z_si, z_sI, z_sR, z_sl, hz, nn_eqF, nn_eqT, Nat.reduceEqDiff, Nat.reduceAdd, Nat.add_assoc, if_true, if_false, eq_self]; first | done | omega)) only [x_130_e, x_130_b, x_130_12, x_130_15, x_130_16, x_130_19, x_130_20, x_130_22, bk_v, bk_n, nl_I, nl_R, nl_0, Nat.reduceAdd, z_sr, tz]
    rw [l1]
    have q3 := q1 Q
    unfold wb_ at q3
    simp (disch := first | omega | decide | assumption | (simp (disch := omega) only [t_sn, t_sr, t_si, t_sI, t_sR, t_sl, n_sn, n_sr, n_si, n_sI, n_sR, n_sl, z_sn, z_sr, z_si, z_sI, z_sR, z_sl, hz, nn_eqF, nn_eqT, Nat.reduceEqDiff, Nat.reduceAdd, Nat.add_assoc, if_true, if_false, eq_self]; first | done | omega)) only [x_130_e, x_130_b, x_130_25, x_130_28, x_130_29, x_130_31, x_130_33, x_130_36, x_130_37, x_130_39, x_130_41, x_130_44, x_130_45, x_130_46, x_130_48, x_130_51, x_130_52, bk_v, bk_n, nl_I, nl_R, nl_0, oo_lt, oo_tn, true_and, not_true_eq_false, not_false_eq_true, Nat.reduceLT, Nat.reduceLeDiff, t_sn, t_sr, t_si, t_sI, t_sR, t_sl, n_sn, n_sr, n_si, n_sI, n_sR, n_sl, z_sn, z_sr, z_si, z_sI, z_sR, z_sl, hz, nn_eqF, nn_eqT, Nat.reduceEqDiff, Nat.reduceAdd, Nat.add_assoc, if_true, if_false, eq_self]
    exact q3
end
