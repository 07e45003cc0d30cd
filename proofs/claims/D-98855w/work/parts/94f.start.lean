/-! THE LAW's START -/
set_option maxRecDepth 100000
theorem c_start {L : Nat} {xs : Nat → Int32} {d : Nat} : ∃ w1, (Nb_ 1000 (w_00 L xs) w1 ∧ w_z w1 = 1477 ∧ w_s w1 = 18034 ∧ w_t w1 1476 = 4 ∧ w_n w1 1476 = 1 ∧ RC_ w1 G00_ id S00_ ∧ RM_ w1 S00_ ∧ (∀ k, k < 4 → w_r w1 1441 k = some (38 + k)) ∧ ∀ k, k < 6 → w_r w1 1442 k = some (42 + k)) ∧ ∀ Q, wp (d + 14) 0 0 [some (v_R (some 0)), none, none, none, none, none, none, none] [] (w_00 L xs) Q = wp (d + 14) 0 23 [some (v_R (some 0)), some (v_R (some 1000)), some (v_R (some 1440)), some (v_R (some 1476)), some (v_I (Int32.ofNat 0)), none, none, none] [] w1 Q := by
  have z0 : w_z (w_00 L xs) = 1000 := rfl
  obtain ⟨A, ⟨a1, a2, a3, a4⟩, qA⟩ := c_table0 (w := s_n (w_00 L xs) 20 15) (d := d + 8) (by rw [t_sn, if_pos z0.symm]) (by rw [z_sn, z0]) (fun k => by rw [i_sn, if_pos z0.symm]; rfl) (by rw [t_sn, if_neg (by omega)]; rfl) (by rw [n_sn, if_neg (by omega)]; rfl)
  have kA : Nb_ 1000 (w_00 L xs) A := nb_tr (nb_n (by omega)) a1
  have tB : w_t (s_n A 25 58) 1440 = 25 := by rw [t_sn, if_pos a2.symm]
  obtain ⟨B, ⟨b1, b2, b3, b4⟩, qB⟩ := c_model0 (w := s_n A 25 58) (d := d + 13) tB (by rw [z_sn, a2]) (fun k => by rw [i_sn, if_pos a2.symm]; rfl) (fun i hi => by
    rw [t_sn, if_neg (by omega), (kA (38 + i) (by omega)).1]
    show c_t (38 + i) = 18
    unfold c_t
    rw [if_neg (by omega), if_pos (by omega)])
  have kB : Nb_ 1440 A B := nb_tr (nb_n (by omega)) b1
  have kC : Nb_ 1476 B (s_n B 4 1) := nb_n (by omega)
  obtain ⟨r1, r2, r3⟩ := b4 (s_n B 4 1) (fun b h => kC b (by omega))
  refine ⟨s_n B 4 1, ⟨nb_tr kA (nb_tr (nb_le kB (by omega)) (nb_le kC (by omega))), by rw [z_sn, b2], ?_, by rw [t_sn, if_pos b2.symm], by rw [n_sn, if_pos b2.symm], ?_, r1, r2, r3⟩, fun Q => ?_⟩
  · rw [s_sn, b3, s_sn, a3, s_sn]; rfl
  · exact a4 _ (fun b h => nb_tr kB (nb_le kC (by omega)) b (by omega)) (by rw [z_sn, b2]; omega)
  · have t0 : w_t (s_n (w_00 L xs) 20 15) 1000 = 20 := by rw [t_sn, if_pos z0.symm]
    simp (disch := first | omega | decide | assumption | (simp (disch := omega) only [t_sn, t_sr, t_si, t_sI, t_sR, t_sl, n_sn, n_sr, n_si, n_sI, n_sR, n_sl, z_sn, z_sr, z_si, z_sI, z_sR, z_sl, hz, nn_eqF, nn_eqT, Nat.reduceEqDiff, Nat.reduceAdd, Nat.add_assoc, if_true, if_false, eq_self]; first | done | omega)) only [x_0_e, x_0_b, x_0_0, x_0_3, x_0_4, bk_v, bk_n, nl_I, nl_R, nl_0, Nat.reduceAdd, z0]
    rw [qA]
    simp (disch := first | omega | decide | assumption | (simp (disch := omega) only [t_sn, t_sr, t_si, t_sI, t_sR, t_sl, n_sn, n_sr, n_si, n_sI, n_sR, n_sl, z_sn, z_sr, z_si, z_sI, z_sR, z_sl, hz, nn_eqF, nn_eqT, Nat.reduceEqDiff, Nat.reduceAdd, Nat.add_assoc, if_true, if_false, eq_self]; first | done | omega)) only [x_0_e, x_0_b, x_0_7, x_0_8, x_0_11, x_0_12, bk_v, bk_n, nl_I, nl_R, nl_0, Nat.reduceAdd, a2]
    rw [qB]
    simp (disch := first | omega | decide | assumption | (simp (disch := omega) only [t_sn, t_sr, t_si, t_sI, t_sR, t_sl, n_sn, n_sr, n_si, n_sI, n_sR, n_sl, z_sn, z_sr, z_si, z_sI, z_sR, z_sl, hz, nn_eqF, nn_eqT, Nat.reduceEqDiff, Nat.reduceAdd, Nat.add_assoc, if_true, if_false, eq_self]; first | done | omega)) only [x_0_e, x_0_b, x_0_15, x_0_16, x_0_17, x_0_19, x_0_20, x_0_21, bk_v, bk_n, nl_I, nl_R, nl_0, oo_lt, oo_tn, true_and, not_true_eq_false, not_false_eq_true, Nat.reduceLT, Nat.reduceLeDiff, Nat.reduceAdd, b2]
