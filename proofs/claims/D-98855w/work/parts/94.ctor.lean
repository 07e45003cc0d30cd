/-! CONSTRUCTORS: new states, lists, towns -/
set_option maxRecDepth 100000
/-- all below z as it was -/
def Nb_ (z : Nat) (w w1 : Wd) : Prop := ∀ b, b < z → w_t w1 b = w_t w b ∧ w_n w1 b = w_n w b ∧ (∀ k, w_i w1 b k = w_i w b k) ∧ (∀ k, w_r w1 b k = w_r w b k) ∧ ∀ k, w_l w1 b k = w_l w b k
theorem nb_rf (z : Nat) (w : Wd) : Nb_ z w w := fun _ _ => ⟨rfl, rfl, fun _ => rfl, fun _ => rfl, fun _ => rfl⟩
theorem nb_tr {z : Nat} {w w1 w2 : Wd} (h1 : Nb_ z w w1) (h2 : Nb_ z w1 w2) : Nb_ z w w2 := fun b hb => by
  obtain ⟨a1, a2, a3, a4, a5⟩ := h1 b hb
  obtain ⟨b1, b2, b3, b4, b5⟩ := h2 b hb
  exact ⟨b1.trans a1, b2.trans a2, fun k => (b3 k).trans (a3 k), fun k => (b4 k).trans (a4 k), fun k => (b5 k).trans (a5 k)⟩
theorem nb_le {z y : Nat} {w w1 : Wd} (h : Nb_ z w w1) (hy : y ≤ z) : Nb_ y w w1 := fun b hb => h b (by omega)
theorem nb_n {z t n : Nat} {w : Wd} (h : z ≤ w_z w) : Nb_ z w (s_n w t n) := fun b hb => by
  have e : b ≠ w_z w := by omega
  refine ⟨?_, ?_, fun k => ?_, fun k => ?_, fun k => ?_⟩
  · rw [t_sn, if_neg e]
  · rw [n_sn, if_neg e]
  · rw [i_sn, if_neg e]
  · rw [r_sn, if_neg e]
  · rw [l_sn, if_neg e]
theorem nb_r {z a k : Nat} {x : Option Nat} {w : Wd} (h : z ≤ a) : Nb_ z w (s_r w a k x) := fun b hb => ⟨rfl, rfl, fun _ => rfl, fun j => by rw [r_sr, if_neg (by omega)], fun _ => rfl⟩
theorem nb_i {z a k : Nat} {x : Int32} {w : Wd} (h : z ≤ a) : Nb_ z w (s_i w a k x) := fun b hb => ⟨rfl, rfl, fun j => by rw [i_si, if_neg (by omega)], fun _ => rfl, fun _ => rfl⟩
theorem nb_R {z a : Nat} {g : Nat → Option Nat} {w : Wd} (h : z ≤ a) : Nb_ z w (s_R w a g) := fun b hb => ⟨rfl, rfl, fun _ => rfl, fun j => by rw [r_sR, if_neg (by omega)], fun _ => rfl⟩
section
variable {w : Wd}
theorem c_state0 {a : Nat} (ht : w_t w a = 24) (hz : w_z w = a + 1) {d : Nat} : ∃ w1, (Nb_ a w w1 ∧ (∀ k, w_i w1 a k = w_i w a k) ∧ w_z w1 = a + 5 ∧ w_s w1 = w_s w + 40 ∧ SO_ w1 a ∧ ∀ b k, a < b → b < a + 5 → w_i w1 b k = Int32.ofNat 0) ∧ ∀ Q, cl d 133 [v_R (some a)] w Q = Q (Sum.inl none) w1 := by
  refine ⟨s_r (s_n (s_r (s_n (s_r (s_n (s_r (s_n w 1 10) a 0 (some (a + 1))) 1 10) a 1 (some (a + 2))) 1 10) a 2 (some (a + 3))) 1 10) a 3 (some (a + 4)), ⟨?_, fun k => ?_, ?_, ?_, ?_, fun b k hb1 hb2 => ?_⟩, fun Q => ?_⟩
  · have e1 : w_z (s_r (s_n w 1 10) a 0 (some (a + 1))) = a + 2 := by rw [z_sr, z_sn, hz]
    have e2 : w_z (s_r (s_n (s_r (s_n w 1 10) a 0 (some (a + 1))) 1 10) a 1 (some (a + 2))) = a + 3 := by rw [z_sr, z_sn, e1]
    have e3 : w_z (s_r (s_n (s_r (s_n (s_r (s_n w 1 10) a 0 (some (a + 1))) 1 10) a 1 (some (a + 2))) 1 10) a 2 (some (a + 3))) = a + 4 := by rw [z_sr, z_sn, e2]
    exact nb_tr (nb_tr (nb_tr (nb_tr (nb_tr (nb_tr (nb_tr (nb_n (by omega)) (nb_r (Nat.le_refl _))) (nb_n (by omega))) (nb_r (Nat.le_refl _))) (nb_n (by omega))) (nb_r (Nat.le_refl _))) (nb_n (by omega))) (nb_r (Nat.le_refl _))
  · simp (disch := omega) only [i_sr, i_sn, t_sn, t_sr, t_si, t_sI, t_sR, t_sl, n_sn, n_sr, n_si, n_sI, n_sR, n_sl, z_sn, z_sr, z_si, z_sI, z_sR, z_sl, hz, nn_eqF, nn_eqT, Nat.reduceEqDiff, Nat.reduceAdd, Nat.add_assoc, if_true, if_false, eq_self]
  · simp (disch := omega) only [t_sn, t_sr, t_si, t_sI, t_sR, t_sl, n_sn, n_sr, n_si, n_sI, n_sR, n_sl, z_sn, z_sr, z_si, z_sI, z_sR, z_sl, hz, nn_eqF, nn_eqT, Nat.reduceEqDiff, Nat.reduceAdd, Nat.add_assoc, if_true, if_false, eq_self]
  · simp only [s_sr, s_sn]
  · unfold SO_
    simp (disch := omega) only [t_sn, t_sr, t_si, t_sI, t_sR, t_sl, n_sn, n_sr, n_si, n_sI, n_sR, n_sl, z_sn, z_sr, z_si, z_sI, z_sR, z_sl, hz, nn_eqF, nn_eqT, Nat.reduceEqDiff, Nat.reduceAdd, Nat.add_assoc, if_true, if_false, eq_self, r_sr, r_sn, and_self, true_and, false_and, and_false, ht]
  · rcases (by omega : b = a + 1 ∨ b = a + 2 ∨ b = a + 3 ∨ b = a + 4) with rfl | rfl | rfl | rfl
    · simp (disch := omega) only [i_sr, i_sn, t_sn, t_sr, t_si, t_sI, t_sR, t_sl, n_sn, n_sr, n_si, n_sI, n_sR, n_sl, z_sn, z_sr, z_si, z_sI, z_sR, z_sl, hz, nn_eqF, nn_eqT, Nat.reduceEqDiff, Nat.reduceAdd, Nat.add_assoc, if_true, if_false, eq_self]; rfl
    · simp (disch := omega) only [i_sr, i_sn, t_sn, t_sr, t_si, t_sI, t_sR, t_sl, n_sn, n_sr, n_si, n_sI, n_sR, n_sl, z_sn, z_sr, z_si, z_sI, z_sR, z_sl, hz, nn_eqF, nn_eqT, Nat.reduceEqDiff, Nat.reduceAdd, Nat.add_assoc, if_true, if_false, eq_self]; rfl
    · simp (disch := omega) only [i_sr, i_sn, t_sn, t_sr, t_si, t_sI, t_sR, t_sl, n_sn, n_sr, n_si, n_sI, n_sR, n_sl, z_sn, z_sr, z_si, z_sI, z_sR, z_sl, hz, nn_eqF, nn_eqT, Nat.reduceEqDiff, Nat.reduceAdd, Nat.add_assoc, if_true, if_false, eq_self]; rfl
    · simp (disch := omega) only [i_sr, i_sn, t_sn, t_sr, t_si, t_sI, t_sR, t_sl, n_sn, n_sr, n_si, n_sI, n_sR, n_sl, z_sn, z_sr, z_si, z_sI, z_sR, z_sl, hz, nn_eqF, nn_eqT, Nat.reduceEqDiff, Nat.reduceAdd, Nat.add_assoc, if_true, if_false, eq_self]; rfl
  · simp (disch := first | omega | decide | assumption | (simp (disch := omega) only [t_sn, t_sr, t_si, t_sI, t_sR, t_sl, n_sn, n_sr, n_si, n_sI, n_sR, n_sl, z_sn, z_sr, z_si, z_sI, z_sR, z_sl, hz, nn_eqF, nn_eqT, Nat.reduceEqDiff, Nat.reduceAdd, Nat.add_assoc, if_true, if_false, eq_self]; first | done | omega)) only [x_133_e, x_133_b, x_133_0, x_133_1, x_133_4, x_133_5, x_133_7, x_133_9, x_133_12, x_133_13, x_133_15, x_133_17, x_133_20, x_133_21, x_133_23, x_133_25, x_133_28, x_133_29, x_133_31, x_133_33, x_133_36, bk_v, bk_n, nl_I, nl_R, nl_0, oo_lt, oo_tn, true_and, not_true_eq_false, not_false_eq_true, Nat.reduceLT, Nat.reduceLeDiff, t_sn, t_sr, t_si, t_sI, t_sR, t_sl, n_sn, n_sr, n_si, n_sI, n_sR, n_sl, z_sn, z_sr, z_si, z_sI, z_sR, z_sl, hz, nn_eqF, nn_eqT, Nat.reduceEqDiff, Nat.reduceAdd, Nat.add_assoc, if_true, if_false, eq_self]
/-- a list made -/
theorem c_list0 {a k : Nat} (ht : w_t w a = 36) (hz : w_z w = a + 1) (h0 : 0 < k) (hk : k ≤ 1000) {d : Nat} {Q : Q_} : cl (d + 2) 307 [v_R (some a), v_I (Int32.ofNat k)] w Q = Q (Sum.inl none) (s_r (s_n (s_i w a 0 (Int32.ofNat 0)) 5 k) a 1 (some (a + 1))) := by
  simp (disch := first | omega | decide | assumption | (simp (disch := omega) only [t_sn, t_sr, t_si, t_sI, t_sR, t_sl, n_sn, n_sr, n_si, n_sI, n_sR, n_sl, z_sn, z_sr, z_si, z_sI, z_sR, z_sl, hz, nn_eqF, nn_eqT, Nat.reduceEqDiff, Nat.reduceAdd, Nat.add_assoc, if_true, if_false, eq_self]; first | done | omega)) only [x_307_e, x_307_b, x_307_0, x_307_1, x_307_4, x_307_5, x_307_8, x_307_9, x_307_10, x_307_13, x_307_16, x_307_19, x_307_20, x_307_23, x_307_27, x_307_30, x_307_e, x_307_b, x_307_60, x_286_e, x_286_b, x_286_0, x_286_1, x_286_4, x_286_5, x_286_6, x_286_9, x_285_e, x_285_b, x_285_0, x_285_1, x_285_4, bk_v, bk_n, nl_I, nl_R, nl_0, oo_le, oo_lt, oo_tn, nn_leF, nn_leT, nn_ltF, and_self, true_and, not_true_eq_false, not_false_eq_true, if_false, Nat.reduceLT, Nat.reduceLeDiff, t_sn, t_sr, t_si, t_sI, t_sR, t_sl, n_sn, n_sr, n_si, n_sI, n_sR, n_sl, z_sn, z_sr, z_si, z_sI, z_sR, z_sl, hz, nn_eqF, nn_eqT, Nat.reduceEqDiff, Nat.reduceAdd, Nat.add_assoc, if_true, if_false, eq_self]
/-- what a new town is -/
def TN_ (w : Wd) (a : Nat) : Prop := w_t w a = 21 ∧ w_r w a 2 = some (a + 1) ∧ w_r w a 3 = none ∧ w_r w a 4 = some (a + 3) ∧ w_i w a 0 = Int32.ofNat 9 ∧ w_i w a 1 = Int32.ofNat 100 ∧ w_t w (a + 1) = 36 ∧ w_r w (a + 1) 1 = some (a + 2) ∧ w_i w (a + 1) 2 = Int32.ofNat 0 ∧ w_t w (a + 2) = 5 ∧ w_n w (a + 2) = 1 ∧ w_t w (a + 3) = 22 ∧ w_r w (a + 3) 0 = some (a + 5) ∧ w_t w (a + 5) = 1 ∧ w_n w (a + 5) = 6
theorem c_town0 {a : Nat} (ht : w_t w a = 21) (hz : w_z w = a + 1) (hr : w_r w a 3 = none) (h220 : w_t w 220 = 15) (hn220 : w_n w 220 = 6) (ha : 220 < a) {d : Nat} : ∃ w1, (Nb_ a w w1 ∧ w_z w1 = a + 6 ∧ w_s w1 = w_s w + 17 ∧ TN_ w1 a) ∧ ∀ Q, cl (d + 3) 125 [v_R (some a)] w Q = Q (Sum.inl none) w1 := by
  have wA : ∃ u, u = s_i (s_i w a 0 (Int32.ofNat 9)) a 1 (Int32.ofNat 100) := ⟨_, rfl⟩
  obtain ⟨u, hu⟩ := wA
  have zu : w_z u = a + 1 := by rw [hu]; exact hz
  have tu : w_t u a = 21 := by rw [hu]; exact ht
  have ru : w_r u a 3 = none := by rw [hu]; exact hr
  have t2 : w_t u 220 = 15 := by rw [hu]; exact h220
  have n2 : w_n u 220 = 6 := by rw [hu]; exact hn220
  have i0 : w_i u a 0 = Int32.ofNat 9 := by rw [hu, i_si, if_neg (by omega), i_si, if_pos ⟨rfl, rfl⟩]
  have i1 : w_i u a 1 = Int32.ofNat 100 := by rw [hu, i_si, if_pos ⟨rfl, rfl⟩]
  have nu : Nb_ a w u := by rw [hu]; exact nb_tr (nb_i (Nat.le_refl _)) (nb_i (Nat.le_refl _))
  have su : w_s u = w_s w := by rw [hu]; rfl
  obtain ⟨v, hv⟩ : ∃ v, v = s_n u 36 3 := ⟨_, rfl⟩
  have zv : w_z v = a + 2 := by rw [hv, z_sn, zu]
  have tv : w_t v (a + 1) = 36 := by rw [hv, t_sn, if_pos zu.symm]
  have l1 : ∀ d Q, cl (d + 2) 307 [v_R (some (a + 1)), v_I (Int32.ofNat 1)] v Q = _ := fun d Q => c_list0 (k := 1) tv zv (by omega) (by omega)
  obtain ⟨x, hx⟩ : ∃ x, x = s_r (s_n (s_i v (a + 1) 0 (Int32.ofNat 0)) 5 1) (a + 1) 1 (some (a + 1 + 1)) := ⟨_, rfl⟩
  rw [← hx] at l1
  have hz := zu
  have zx : w_z x = a + 3 := by rw [hx, z_sr, z_sn, z_si, zv]
  obtain ⟨y, hy⟩ : ∃ y, y = s_n (s_r x a 2 (some (a + 1))) 22 1 := ⟨_, rfl⟩
  have zy : w_z y = a + 4 := by rw [hy, z_sn, z_sr, zx]
  have nx : Nb_ a u x := by
    rw [hx, hv]
    exact nb_tr (nb_tr (nb_tr (nb_n (by omega)) (nb_i (by omega))) (nb_n (by rw [z_si, z_sn]; omega))) (nb_r (by omega))
  have ny : Nb_ a u y := by
    rw [hy]
    exact nb_tr nx (nb_tr (nb_r (Nat.le_refl _)) (nb_n (by rw [z_sr]; omega)))
  have t2y : w_t y 220 = 15 := by rw [(ny 220 ha).1]; exact t2
  have n2y : w_n y 220 = 6 := by rw [(ny 220 ha).2.1]; exact n2
  obtain ⟨p, hp⟩ : ∃ p, p = s_R (s_n y 7 6) (a + 4) (w_r y 220) := ⟨_, rfl⟩
  have zp : w_z p = a + 5 := by rw [hp, z_sR, z_sn, zy]
  have tp : w_t p (a + 4) = 7 := by rw [hp, t_sR, t_sn, if_pos zy.symm]
  have np : w_n p (a + 4) = 6 := by rw [hp, n_sR, n_sn, if_pos zy.symm]
  have vals : ∀ d Q, cl d 129 [] y Q = Q (Sum.inl (some (v_R (some (a + 4))))) p := fun d Q => by
    simp (disch := first | omega | decide | assumption | (simp (disch := omega) only [t_sn, t_sr, t_si, t_sI, t_sR, t_sl, n_sn, n_sr, n_si, n_sI, n_sR, n_sl, z_sn, z_sr, z_si, z_sI, z_sR, z_sl, hz, nn_eqF, nn_eqT, Nat.reduceEqDiff, Nat.reduceAdd, Nat.add_assoc, if_true, if_false, eq_self]; first | done | omega)) only [x_129_e, x_129_b, x_129_0, x_129_3, x_129_6, x_129_9, n2y, zy]
    rw [← hp]
  have ty3 : w_t y (a + 3) = 22 := by rw [hy, t_sn, if_pos (by rw [z_sr, zx])]
  have tp3 : w_t p (a + 3) = 22 := by rw [hp, t_sR, t_sn, if_neg (by omega), ty3]
  have view : ∀ d Q, cl (d + 1) 127 [v_R (some (a + 3))] y Q = Q (Sum.inl none) (s_r (s_n p 1 6) (a + 3) 0 (some (a + 5))) := fun d Q => by
    simp (disch := first | omega | decide | assumption | (simp (disch := omega) only [t_sn, t_sr, t_si, t_sI, t_sR, t_sl, n_sn, n_sr, n_si, n_sI, n_sR, n_sl, z_sn, z_sr, z_si, z_sI, z_sR, z_sl, hz, nn_eqF, nn_eqT, Nat.reduceEqDiff, Nat.reduceAdd, Nat.add_assoc, if_true, if_false, eq_self]; first | done | omega)) only [x_127_e, x_127_b, x_127_0, x_127_1, x_127_4, x_127_5, x_127_8, x_127_9, x_127_11, x_127_14, bk_v, nl_I, nl_R, nl_0, vals, np, zp, oo_lt, oo_tn, true_and, not_true_eq_false, not_false_eq_true, Nat.reduceLT, Nat.reduceLeDiff, Nat.reduceAdd]
  have tx : w_t x a = 21 := by rw [hx, hv]; simp (disch := omega) only [t_sn, t_sr, t_si, t_sI, t_sR, t_sl, n_sn, n_sr, n_si, n_sI, n_sR, n_sl, z_sn, z_sr, z_si, z_sI, z_sR, z_sl, hz, nn_eqF, nn_eqT, Nat.reduceEqDiff, Nat.reduceAdd, Nat.add_assoc, if_true, if_false, eq_self, tu]
  refine ⟨s_r (s_r (s_n p 1 6) (a + 3) 0 (some (a + 5))) a 4 (some (a + 3)), ⟨?_, ?_, ?_, ?_⟩, fun Q => ?_⟩
  · refine nb_tr nu (nb_tr ny (nb_tr ?_ (nb_tr (nb_tr (nb_n (by omega)) (nb_r (by omega))) (nb_r (Nat.le_refl _)))))
    rw [hp]
    exact nb_tr (nb_n (by omega)) (nb_R (by omega))
  · rw [z_sr, z_sr, z_sn, zp]
  · rw [s_sr, s_sr, s_sn, hp, s_sR, s_sn, hy, s_sn, s_sr, hx, s_sr, s_sn, s_si, hv, s_sn, su]
  · have LT : ∀ b, b < a + 4 → w_t (s_r (s_r (s_n p 1 6) (a + 3) 0 (some (a + 5))) a 4 (some (a + 3))) b = w_t y b := fun b hb => by
      rw [t_sr, t_sr, t_sn, if_neg (by omega), hp, t_sR, t_sn, if_neg (by omega)]
    have LN : ∀ b, b < a + 4 → w_n (s_r (s_r (s_n p 1 6) (a + 3) 0 (some (a + 5))) a 4 (some (a + 3))) b = w_n y b := fun b hb => by
      rw [n_sr, n_sr, n_sn, if_neg (by omega), hp, n_sR, n_sn, if_neg (by omega)]
    have LI : ∀ b k, b < a + 4 → w_i (s_r (s_r (s_n p 1 6) (a + 3) 0 (some (a + 5))) a 4 (some (a + 3))) b k = w_i y b k := fun b k hb => by
      rw [i_sr, i_sr, i_sn, if_neg (by omega), hp, i_sR, i_sn, if_neg (by omega)]
    have LR : ∀ b k, b < a + 4 → ¬ (b = a + 3 ∧ k = 0) → ¬ (b = a ∧ k = 4) → w_r (s_r (s_r (s_n p 1 6) (a + 3) 0 (some (a + 5))) a 4 (some (a + 3))) b k = w_r y b k := fun b k hb z1 z2 => by
      rw [r_sr, if_neg z2, r_sr, if_neg z1, r_sn, if_neg (by omega), hp, r_sR, if_neg (by omega), r_sn, if_neg (by omega)]
    have zsx : w_z (s_r x a 2 (some (a + 1))) = a + 3 := by rw [z_sr, zx]
    have YT : ∀ b, b < a + 3 → w_t y b = w_t x b := fun b hb => by rw [hy, t_sn, if_neg (by omega), t_sr]
    have YN : ∀ b, b < a + 3 → w_n y b = w_n x b := fun b hb => by rw [hy, n_sn, if_neg (by omega), n_sr]
    have YI : ∀ b k, b < a + 3 → w_i y b k = w_i x b k := fun b k hb => by rw [hy, i_sn, if_neg (by omega), i_sr]
    have YR : ∀ b k, b < a + 3 → w_r y b k = if b = a ∧ k = 2 then some (a + 1) else w_r x b k := fun b k hb => by rw [hy, r_sn, if_neg (by omega), r_sr]
    have zsv : w_z (s_i v (a + 1) 0 (Int32.ofNat 0)) = a + 2 := by rw [z_si, zv]
    have XT : ∀ b, w_t x b = if b = a + 2 then 5 else w_t v b := fun b => by rw [hx, t_sr, t_sn, zsv, t_si]
    have XN : ∀ b, w_n x b = if b = a + 2 then 1 else w_n v b := fun b => by rw [hx, n_sr, n_sn, zsv, n_si]
    have XI : ∀ b k, b < a + 2 → w_i x b k = if b = a + 1 ∧ k = 0 then Int32.ofNat 0 else w_i v b k := fun b k hb => by rw [hx, i_sr, i_sn, zsv, if_neg (show ¬ b = a + 2 by omega), i_si]
    have XR : ∀ b k, b < a + 2 → w_r x b k = if b = a + 1 ∧ k = 1 then some (a + 1 + 1) else w_r v b k := fun b k hb => by rw [hx, r_sr, r_sn, zsv, r_si, if_neg (show ¬ b = a + 2 by omega)]
    have VT : ∀ b, w_t v b = if b = a + 1 then 36 else w_t u b := fun b => by rw [hv, t_sn, zu]
    have VI : ∀ b k, w_i v b k = if b = a + 1 then 0 else w_i u b k := fun b k => by rw [hv, i_sn, zu]
    have VR : ∀ b k, w_r v b k = if b = a + 1 then none else w_r u b k := fun b k => by rw [hv, r_sn, zu]
    refine ⟨?_, ?_, ?_, ?_, ?_, ?_, ?_, ?_, ?_, ?_, ?_, ?_, ?_, ?_, ?_⟩
    · rw [LT _ (by omega), YT _ (by omega), XT, if_neg (by omega), VT, if_neg (by omega)]; exact tu
    · rw [LR _ _ (by omega) (by omega) (by omega), YR _ _ (by omega), if_pos ⟨rfl, rfl⟩]
    · rw [LR _ _ (by omega) (by omega) (by omega), YR _ _ (by omega), if_neg (by omega), XR _ _ (by omega), if_neg (by omega), VR, if_neg (by omega)]; exact ru
    · rw [r_sr, if_pos ⟨rfl, rfl⟩]
    · rw [LI _ _ (by omega), YI _ _ (by omega), XI _ _ (by omega), if_neg (by omega), VI, if_neg (by omega)]; exact i0
    · rw [LI _ _ (by omega), YI _ _ (by omega), XI _ _ (by omega), if_neg (by omega), VI, if_neg (by omega)]; exact i1
    · rw [LT _ (by omega), YT _ (by omega), XT, if_neg (by omega), VT, if_pos rfl]
    · rw [LR _ _ (by omega) (by omega) (by omega), YR _ _ (by omega), if_neg (by omega), XR _ _ (by omega), if_pos ⟨rfl, rfl⟩]
    · rw [LI _ _ (by omega), YI _ _ (by omega), XI _ _ (by omega), if_neg (by omega), VI, if_pos rfl]; rfl
    · rw [LT _ (by omega), YT _ (by omega), XT, if_pos rfl]
    · rw [LN _ (by omega), YN _ (by omega), XN, if_pos rfl]
    · rw [LT _ (by omega)]; exact ty3
    · rw [r_sr, if_neg (by omega), r_sr, if_pos ⟨rfl, rfl⟩]
    · rw [t_sr, t_sr, t_sn, if_pos zp.symm]
    · rw [n_sr, n_sr, n_sn, if_pos zp.symm]
  · have u0 : w_t (s_i w a 0 (Int32.ofNat 9)) a = 21 := ht
    have ev : w_z v = a + 1 + 1 := zv
    have e1 : w_z u = a + 1 := zu
    have tv1 : w_t v a = 21 := by rw [hv, t_sn, if_neg (by omega)]; exact tu
    have tz : w_t (s_r (s_n p 1 6) (a + 3) 0 (some (a + 5))) a = 21 := by
      rw [t_sr, t_sn, if_neg (by omega), hp, t_sR, t_sn, if_neg (by omega), hy, t_sn, if_neg (by rw [z_sr]; omega), t_sr]; exact tx
    simp (disch := first | omega | decide | assumption | (simp (disch := omega) only [t_sn, t_sr, t_si, t_sI, t_sR, t_sl, n_sn, n_sr, n_si, n_sI, n_sR, n_sl, z_sn, z_sr, z_si, z_sI, z_sR, z_sl, hz, nn_eqF, nn_eqT, Nat.reduceEqDiff, Nat.reduceAdd, Nat.add_assoc, if_true, if_false, eq_self]; first | done | omega)) only [x_125_e, x_125_b, x_125_0, x_125_1, x_125_4, x_125_5, x_125_7, x_125_10, x_125_11, x_125_13, x_125_16, bk_v, bk_n, nl_I, nl_R, nl_0, Nat.reduceAdd]
    rw [← hu]
    simp (disch := first | omega | decide | assumption | (simp (disch := omega) only [t_sn, t_sr, t_si, t_sI, t_sR, t_sl, n_sn, n_sr, n_si, n_sI, n_sR, n_sl, z_sn, z_sr, z_si, z_sI, z_sR, z_sl, hz, nn_eqF, nn_eqT, Nat.reduceEqDiff, Nat.reduceAdd, Nat.add_assoc, if_true, if_false, eq_self]; first | done | omega)) only [x_125_e, x_125_b, x_125_17, x_125_20, x_125_21, x_125_22, bk_v, bk_n, nl_I, nl_R, nl_0, Nat.reduceAdd, e1]
    rw [← hv, l1]
    simp (disch := first | omega | decide | assumption | (simp (disch := omega) only [t_sn, t_sr, t_si, t_sI, t_sR, t_sl, n_sn, n_sr, n_si, n_sI, n_sR, n_sl, z_sn, z_sr, z_si, z_sI, z_sR, z_sl, hz, nn_eqF, nn_eqT, Nat.reduceEqDiff, Nat.reduceAdd, Nat.add_assoc, if_true, if_false, eq_self]; first | done | omega)) only [x_125_e, x_125_b, x_125_25, x_125_28, x_125_29, x_125_32, x_125_33, bk_v, bk_n, nl_I, nl_R, nl_0, Nat.reduceAdd, zx, z_sr]
    rw [← hy, view]
    simp (disch := first | omega | decide | assumption | (simp (disch := omega) only [t_sn, t_sr, t_si, t_sI, t_sR, t_sl, n_sn, n_sr, n_si, n_sI, n_sR, n_sl, z_sn, z_sr, z_si, z_sI, z_sR, z_sl, hz, nn_eqF, nn_eqT, Nat.reduceEqDiff, Nat.reduceAdd, Nat.add_assoc, if_true, if_false, eq_self]; first | done | omega)) only [x_125_e, x_125_b, x_125_36, x_125_39, bk_v, bk_n, nl_I, nl_R, nl_0, Nat.reduceAdd]
end
