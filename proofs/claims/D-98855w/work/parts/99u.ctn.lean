/-! THE COMPONENT's town -/
set_option maxRecDepth 100000
section
variable {t : Tp} {R H : Nat}
theorem c_lns {d : Nat} : ∀ f (s : Ln_) (b : Nat) (w : Wd) (G : Gm), t.2 < f + b → Ce_ w R t → Cr_ w R t b → Tn_ w R H G s → TG_ t s.1 → (s.2.2.2 = false → tm_co s.1 = []) → match lns_ t f s b with | Sum.inl e => Tz_ t R w b e (fun Q => wp (d + 62) 270 8 [some (v_R (some R)), some (v_R (some (gm_b G)))] [] w Q) | Sum.inr T => ∃ w1 G1 fs, (Kz_ R w w1 ∧ Bd_ w b w1 t.2 ∧ Tn_ w1 R H G1 (T, fs) ∧ gm_b G1 = gm_b G) ∧ ∀ Q, wp (d + 62) 270 8 [some (v_R (some R)), some (v_R (some (gm_b G)))] [] w Q = Q (Sum.inl (some (v_R (some (gm_b G))))) w1 := by
  intro f
  induction f with
  | zero => intro s b w G hf he hr hn hT hc; have := hr.1; omega
  | succ f ih =>
    intro s b w G hf he hr hn hT hc
    have t0 := he.1.1
    have hq := hr
    obtain ⟨hb, r2, r3, r6, -, -⟩ := hq
    have hk5 := tk_k5 (t := t) (b := b)
    have y0 := kid_q _ hk5 214 (by omega)
    have x0 := kid_0 _ hk5
    unfold lns_
    by_cases h0 : tk_k t b = 0
    · rw [if_pos h0]
      refine ⟨w, G, s.2, ⟨kz_rf _ _, ⟨hb, by omega, by omega⟩, hn, rfl⟩, fun Q => ?_⟩
      rw [x_270_8]
      simp (disch := first | omega | decide | exact ko_b _ | assumption | (simp only [t_si, t_sl, t_sr, t_sI, t_sR, n_si, n_sl, n_sr, n_sI, n_sR, r_si, r_sl, r_sI]; first | done | omega)) only [x_270_e, x_270_b, x_270_9, x_270_12, x_270_15, x_270_e, x_270_b, x_270_178, x_270_179, bk_v, bk_n, nl_I, nl_R, nl_L, nl_0, oo_lt, oo_le, oo_eq, oo_add, oo_sub, oo_tn, oo_ir, nn_leT, nn_leF, nn_ltT, nn_ltF, nn_eqT, nn_eqF, bv_0, bv_1, ko_b, ko_1, ko_0, true_and, and_true, if_true, if_false, not_true_eq_false, not_false_eq_true, oo_02, decide_eq_true_eq, decide_eq_false_iff_not, ite_not, Nat.reduceAdd, Nat.reduceLT, Nat.reduceSub, Nat.reduceLeDiff, reduceIte, Bool.true_eq_false, Bool.false_eq_true, reduceCtorEq, eq_self, decide_true, decide_false, bv_t, bv_f, and_self, t_si, t_sl, t_sr, t_sI, t_sR, n_si, n_sl, n_sr, n_sI, n_sR, r_si, r_sl, r_sI, r6, kz_, x0, h0]
    · rw [if_neg h0]
      have stp : ∀ Q, wp (d + 62) 270 8 [some (v_R (some R)), some (v_R (some (gm_b G)))] [] w Q = wp (d + 62) 270 18 [some (v_R (some R)), some (v_R (some (gm_b G)))] [] w Q := fun Q => by
        rw [x_270_8]
        simp (disch := first | omega | decide | exact ko_b _ | assumption | (simp only [t_si, t_sl, t_sr, t_sI, t_sR, n_si, n_sl, n_sr, n_sI, n_sR, r_si, r_sl, r_sI]; first | done | omega)) only [x_270_e, x_270_b, x_270_9, x_270_12, x_270_15, bk_v, bk_n, nl_I, nl_R, nl_L, nl_0, oo_lt, oo_le, oo_eq, oo_add, oo_sub, oo_tn, oo_ir, nn_leT, nn_leF, nn_ltT, nn_ltF, nn_eqT, nn_eqF, bv_0, bv_1, ko_b, ko_1, ko_0, true_and, and_true, if_true, if_false, not_true_eq_false, not_false_eq_true, oo_02, decide_eq_true_eq, decide_eq_false_iff_not, ite_not, Nat.reduceAdd, Nat.reduceLT, Nat.reduceSub, Nat.reduceLeDiff, reduceIte, Bool.true_eq_false, Bool.false_eq_true, reduceCtorEq, eq_self, decide_true, decide_false, bv_t, bv_f, and_self, t_si, t_sl, t_sr, t_sI, t_sR, n_si, n_sl, n_sr, n_sI, n_sR, r_si, r_sl, r_sI, r6, x0, h0]
      have X := c_line (d := d) he hr hn hT hc h0
      cases hx : ln_ t s b with
      | inl e =>
        rw [hx] at X
        obtain ⟨w1, x, h1, q1⟩ := X
        exact ⟨w1, x, h1, fun Q => (stp Q).trans (q1 Q)⟩
      | inr r =>
        rw [hx] at X
        obtain ⟨w1, G1, ⟨k1, e1, r1, b1, n1, g1⟩, q1⟩ := X
        have hg := ln_g (s1 := r.1) (b' := r.2) hT h0 hx
        have t1 := e1.1.1
        have hRz := (Ce_z e1).2.1
        have N := c_need (D := d + 61) (q0 := 37) (p0 := 137) (x := 59) (by omega) e1 r1 (g_1 e1.2 (i := 27) (by omega) rfl) (by omega) (by omega)
        simp only
        cases hy : nd_ t 59 r.2 with
        | inl e =>
          rw [hy] at N
          have hb1 := r1.1
          refine tz_ty N k1 hRz hb (by unfold Bd_ at b1; omega) (by unfold Bd_ at b1; omega) (fun w2 x q Q => ?_)
          have q : ∀ Q, cl (d + 61) 281 [v_R (some R), v_R (some 37)] w1 Q = Q (Sum.inr x) w2 := q
          show wp (d + 62) 270 8 _ _ w Q = _
          rw [stp, q1]
          simp (disch := first | omega | decide | exact ko_b _ | assumption | (simp only [t_si, t_sl, t_sr, t_sI, t_sR, n_si, n_sl, n_sr, n_sI, n_sR, r_si, r_sl, r_sI]; first | done | omega)) only [x_270_e, x_270_b, x_270_169, x_270_170, x_270_172, bk_v, bk_n, nl_I, nl_R, nl_L, nl_0, oo_lt, oo_le, oo_eq, oo_add, oo_sub, oo_tn, oo_ir, nn_leT, nn_leF, nn_ltT, nn_ltF, nn_eqT, nn_eqF, bv_0, bv_1, ko_b, ko_1, ko_0, true_and, and_true, if_true, if_false, not_true_eq_false, not_false_eq_true, oo_02, decide_eq_true_eq, decide_eq_false_iff_not, ite_not, Nat.reduceAdd, Nat.reduceLT, Nat.reduceSub, Nat.reduceLeDiff, reduceIte, Bool.true_eq_false, Bool.false_eq_true, reduceCtorEq, eq_self, decide_true, decide_false, bv_t, bv_f, and_self, t_si, t_sl, t_sr, t_sI, t_sR, n_si, n_sl, n_sr, n_sI, n_sR, r_si, r_sl, r_sI, q]
        | inr b2 =>
          rw [hy] at N
          obtain ⟨u2, ⟨f2, e2, r2', -, b2'⟩, q2⟩ := N
          have q2 : ∀ Q, cl (d + 61) 281 [v_R (some R), v_R (some 37)] w1 Q = Q (Sum.inl none) u2 := q2
          have n2 := Tn_fk n1 f2 t1
          have hg2 := nd_g hy
          have I := ih r.1 b2 u2 G1 (by omega) e2 r2' n2 hg.1 (ln_co (s1 := r.1) (b' := r.2) hc hx)
          have stp2 : ∀ Q, wp (d + 62) 270 8 [some (v_R (some R)), some (v_R (some (gm_b G)))] [] w Q = wp (d + 62) 270 8 [some (v_R (some R)), some (v_R (some (gm_b G1)))] [] u2 Q := fun Q => by
            rw [stp, q1, g1]
            simp (disch := first | omega | decide | exact ko_b _ | assumption | (simp only [t_si, t_sl, t_sr, t_sI, t_sR, n_si, n_sl, n_sr, n_sI, n_sR, r_si, r_sl, r_sI]; first | done | omega)) only [x_270_e, x_270_b, x_270_169, x_270_170, x_270_172, x_270_175, bk_v, bk_n, nl_I, nl_R, nl_L, nl_0, oo_lt, oo_le, oo_eq, oo_add, oo_sub, oo_tn, oo_ir, nn_leT, nn_leF, nn_ltT, nn_ltF, nn_eqT, nn_eqF, bv_0, bv_1, ko_b, ko_1, ko_0, true_and, and_true, if_true, if_false, not_true_eq_false, not_false_eq_true, oo_02, decide_eq_true_eq, decide_eq_false_iff_not, ite_not, Nat.reduceAdd, Nat.reduceLT, Nat.reduceSub, Nat.reduceLeDiff, reduceIte, Bool.true_eq_false, Bool.false_eq_true, reduceCtorEq, eq_self, decide_true, decide_false, bv_t, bv_f, and_self, t_si, t_sl, t_sr, t_sI, t_sR, n_si, n_sl, n_sr, n_sI, n_sR, r_si, r_sl, r_sI, q2]
          have K2 := kz_tr k1 (kz_fk f2 hRz)
          have B2 := bd_tr b1 b2'
          simp only
          cases hz : lns_ t f r.1 b2 with
          | inl e =>
            rw [hz] at I
            obtain ⟨w3, x, ⟨k3, d3, t3⟩, q3⟩ := I
            exact ⟨w3, x, ⟨kz_tr K2 k3, bd_tr B2 d3, ft_up t3 K2.1⟩, fun Q => (stp2 Q).trans (q3 Q)⟩
          | inr T =>
            rw [hz] at I
            obtain ⟨w3, G3, fs, ⟨k3, d3, n3, g3⟩, q3⟩ := I
            refine ⟨w3, G3, fs, ⟨kz_tr K2 k3, bd_tr B2 d3, n3, g3.trans g1⟩, fun Q => ?_⟩
            rw [stp2, q3, g1]
/-- the reader's town, whole -/
theorem c_twn {d : Nat} {w : Wd} (he : Ce_ w R t) (hr : Cr_ w R t (sk_ t 0)) (h8 : w_r w R 8 = some H) (tH : w_t w H = 3) (nH : w_n w H = 3) (hH : R < H ∧ H < w_z w) (iH : ∀ k, w_i w H k = Int32.ofNat 0) (h220 : w_t w 220 = 15) (n220 : w_n w 220 = 6) : match town_ t with | Sum.inl e => ∃ w1 x, (Kz_ R w w1 ∧ (w_z w1 ≤ w_z w + 12 * (t.2 + 1) + 6 ∧ w_s w1 ≤ w_s w + 60 * (t.2 + 1) + 22) ∧ Ft_ w w1 x e) ∧ ∀ Q, cl (d + 62) 270 [v_R (some R)] w Q = Q (Sum.inr x) w1 | Sum.inr T => ∃ w1 G1 fs, (Kz_ R w w1 ∧ (w_z w1 ≤ w_z w + 12 * (t.2 + 1) + 6 ∧ w_s w1 ≤ w_s w + 60 * (t.2 + 1) + 22) ∧ Tn_ w1 R H G1 (T, fs)) ∧ ∀ Q, cl (d + 62) 270 [v_R (some R)] w Q = Q (Sum.inl (some (v_R (some (gm_b G1))))) w1 := by
  obtain ⟨hR1, hR2, hN6⟩ := Ce_z he
  obtain ⟨a, ha⟩ : ∃ a, w_z w = a := ⟨_, rfl⟩
  obtain ⟨u0, hu0⟩ : ∃ u, u = s_n w 21 5 := ⟨_, rfl⟩
  have z0 : w_z u0 = a + 1 := by rw [hu0, z_sn, ha]
  have k0 : Kp_ (fun x => x < a) w u0 := by rw [hu0]; exact kp_n fun b hb => by omega
  have t0 : w_t u0 a = 21 := by rw [hu0, t_sn, if_pos ha.symm]
  obtain ⟨u1, ⟨k1, z1, s1, T1⟩, q1⟩ := c_town0 (w := u0) (a := a) (d := d + 58) t0 z0 (by rw [hu0, r_sn, if_pos ha.symm]) ((k0 220 (by omega)).1.trans h220) ((k0 220 (by omega)).2.1.trans n220) (by omega)
  have q1 : ∀ Q, cl (d + 61) 125 [v_R (some a)] u0 Q = Q (Sum.inl none) u1 := q1
  have kk : Kp_ (fun x => x < a) w u1 := kp_tr k0 k1
  have f1 : Fk_ R w u1 := fk_kp kk (by omega) (by omega) hR2
  have e1 := Ce_fk he f1
  have r1 : Cr_ u1 R t (sk_ t 0) := Cr_kp hr kk (by omega) (by omega) (fun b hb _ => by omega)
  have su : w_s u0 = w_s w + 5 := by rw [hu0, s_sn]
  obtain ⟨y1, y2, y3, y4, y5, y6, y7, y8, y9, y10, y11, y12, y13, y14, y15⟩ := T1
  have kR := kk R (by omega)
  have kH := kk H (by omega)
  have n1 : Tn_ u1 R H (a, a + 1, a + 2, a + 3, a + 5, fun _ => 0, none) (T00_, false, false, false) := by
    refine ⟨⟨y1, y2, y3, y4, y5, y6, y7, y8, y9, y10, ?_, ?_, y12, y13, y14, y15, fun t ht => absurd ht (Nat.not_lt_zero _), fun t ht => absurd ht (Nat.not_lt_zero _), fun t ht => absurd ht (Nat.not_lt_zero _), fun t ht => absurd ht (Nat.not_lt_zero _), fun t ht => absurd ht (Nat.not_lt_zero _), fun t ht => absurd ht (Nat.not_lt_zero _)⟩, ⟨?_, ?_⟩, ⟨?_, ?_⟩, ⟨?_, ?_⟩, ⟨?_, ?_⟩, ⟨?_, ?_⟩, fun j hj => absurd hj (Nat.not_lt_zero _), ⟨?_, ?_⟩, Or.inl ⟨rfl, rfl⟩, (kR.2.2.2.1 8).trans h8, kH.1.trans tH, kH.2.1.trans nH, ⟨hH.1, by omega⟩, (kH.2.2.1 0).trans (iH 0), (kH.2.2.1 1).trans (iH 1), (kH.2.2.1 2).trans (iH 2)⟩
    · exact Nat.zero_le _
    · show w_n u1 (a + 2) < _; omega
    · show R < a; omega
    · show a < _; omega
    · show R < a + 1; omega
    · show a + 1 < _; omega
    · show R < a + 2; omega
    · show a + 2 < _; omega
    · show R < a + 3; omega
    · show a + 3 < _; omega
    · show R < a + 5; omega
    · show a + 5 < _; omega
    · show 1 ≤ w_n u1 (a + 2); omega
    · show w_n u1 (a + 2) ≤ 20; omega
  have pre : ∀ Q, cl (d + 62) 270 [v_R (some R)] w Q = wp (d + 62) 270 8 [some (v_R (some R)), some (v_R (some a))] [] u1 Q := fun Q => by
    have t02 : 20 ≤ w_t u0 a := by omega
    simp (disch := first | omega | decide | exact ko_b _ | assumption | (simp only [t_si, t_sl, t_sr, t_sI, t_sR, n_si, n_sl, n_sr, n_sI, n_sR, r_si, r_sl, r_sI]; first | done | omega)) only [x_270_e, x_270_b, x_270_0, bk_v, bk_n, nl_I, nl_R, nl_L, nl_0, oo_lt, oo_le, oo_eq, oo_add, oo_sub, oo_tn, oo_ir, nn_leT, nn_leF, nn_ltT, nn_ltF, nn_eqT, nn_eqF, bv_0, bv_1, ko_b, ko_1, ko_0, true_and, and_true, if_true, if_false, not_true_eq_false, not_false_eq_true, oo_02, decide_eq_true_eq, decide_eq_false_iff_not, ite_not, Nat.reduceAdd, Nat.reduceLT, Nat.reduceSub, Nat.reduceLeDiff, reduceIte, Bool.true_eq_false, Bool.false_eq_true, reduceCtorEq, eq_self, decide_true, decide_false, bv_t, bv_f, and_self, t_si, t_sl, t_sr, t_sI, t_sR, n_si, n_sl, n_sr, n_sI, n_sR, r_si, r_sl, r_sI, ha]
    rw [← hu0]
    simp (disch := first | omega | decide | exact ko_b _ | assumption | (simp only [t_si, t_sl, t_sr, t_sI, t_sR, n_si, n_sl, n_sr, n_sI, n_sR, r_si, r_sl, r_sI]; first | done | omega)) only [x_270_e, x_270_b, x_270_3, x_270_4, x_270_7, bk_v, bk_n, nl_I, nl_R, nl_L, nl_0, oo_lt, oo_le, oo_eq, oo_add, oo_sub, oo_tn, oo_ir, nn_leT, nn_leF, nn_ltT, nn_ltF, nn_eqT, nn_eqF, bv_0, bv_1, ko_b, ko_1, ko_0, true_and, and_true, if_true, if_false, not_true_eq_false, not_false_eq_true, oo_02, decide_eq_true_eq, decide_eq_false_iff_not, ite_not, Nat.reduceAdd, Nat.reduceLT, Nat.reduceSub, Nat.reduceLeDiff, reduceIte, Bool.true_eq_false, Bool.false_eq_true, reduceCtorEq, eq_self, decide_true, decide_false, bv_t, bv_f, and_self, t_si, t_sl, t_sr, t_sI, t_sR, n_si, n_sl, n_sr, n_sI, n_sR, r_si, r_sl, r_sI, q1]
  have L := c_lns (d := d) (t.2 + 1) (T00_, false, false, false) (sk_ t 0) u1 _ (by omega) e1 r1 n1 TG_0 (fun _ => rfl)
  have K1 := kz_fk f1 hR2
  have hx0 : town_ t = lns_ t (t.2 + 1) (T00_, false, false, false) (sk_ t 0) := rfl
  rw [← hx0] at L
  cases hx : town_ t with
  | inl e =>
    rw [hx] at L
    obtain ⟨w1, x, ⟨k2, d2, f2⟩, q2⟩ := L
    unfold Bd_ at d2
    refine ⟨w1, x, ⟨kz_tr K1 k2, ⟨by omega, by omega⟩, ft_up f2 K1.1⟩, fun Q => (pre Q).trans (q2 Q)⟩
  | inr T =>
    rw [hx] at L
    obtain ⟨w1, G1, fs, ⟨k2, d2, n2, g2⟩, q2⟩ := L
    unfold Bd_ at d2
    have g2 : gm_b G1 = a := g2
    refine ⟨w1, G1, fs, ⟨kz_tr K1 k2, ⟨by omega, by omega⟩, n2⟩, fun Q => ?_⟩
    rw [pre, g2]
    exact q2 Q
/-- a reader made -/
theorem c_rd0 {d n : Nat} {w : Wd} (hR : w_z w = R) (h1477 : 1477 ≤ R) (hn : n ≤ 600) (ht : t.2 = n) (h1 : w_t w 1434 = 2) (h2 : w_n w 1434 = 600) (h3 : ∀ k, k < 600 → w_i w 1434 k = sb_y (t.1 k)) (h4 : ∀ k, t.1 k < 256) (hK : KS_ w) : ∃ w1, (Kp_ (fun a => a < R) w w1 ∧ (w_z w1 ≤ R + 6 ∧ w_s w1 ≤ w_s w + 38 ∧ R < w_z w1) ∧ Ce_ w1 R t ∧ Cr_ w1 R t (sk_ t 0) ∧ w_r w1 R 8 = some (R + 1) ∧ w_t w1 (R + 1) = 3 ∧ w_n w1 (R + 1) = 3 ∧ R + 1 < w_z w1 ∧ ∀ k, w_i w1 (R + 1) k = Int32.ofNat 0) ∧ ∀ Q, cl (d + 10) 264 [v_R (some R), v_R (some 1434), v_I (Int32.ofNat n)] (s_n w 26 9) Q = Q (Sum.inl none) w1 := by
  obtain ⟨u0, hu0⟩ : ∃ u, u = s_n w 26 9 := ⟨_, rfl⟩
  rw [← hu0]
  have z0 : w_z u0 = R + 1 := by rw [hu0, z_sn, hR]
  have t0 : w_t u0 R = 26 := by rw [hu0, t_sn, if_pos hR.symm]
  obtain ⟨u1, hu1⟩ : ∃ u, u = s_n (s_r u0 R 7 (some 12)) 3 3 := ⟨_, rfl⟩
  have z1 : w_z u1 = R + 2 := by rw [hu1, z_sn, z_sr, z0]
  have t1 : w_t u1 R = 26 := by rw [hu1, t_sn, z_sr, if_neg (by omega)]; exact t0
  obtain ⟨v, hv⟩ : ∃ v, v = s_i (s_r (s_r u1 R 8 (some (R + 1))) R 0 (some 1434)) R 1 (Int32.ofNat n) := ⟨_, rfl⟩
  have zv : w_z v = R + 2 := by rw [hv]; exact z1
  have tv : w_t v R = 26 := by rw [hv]; exact t1
  have kv : Kp_ (fun a => a < R) w v := by
    rw [hv, hu1, hu0]
    exact kp_tr (kp_n fun b hb => by omega) (kp_tr (kp_r fun b hb => by omega) (kp_tr (kp_n fun b hb => by rw [z_sr, z_sn]; omega) (kp_tr (kp_r fun b hb => by omega) (kp_tr (kp_r fun b hb => by omega) (kp_i fun b hb => by omega)))))
  have k34 := kv 1434 (by omega)
  have hC : Ct_ v R t := by
    refine ⟨tv, ?_, ?_, k34.1.trans h1, k34.2.1.trans h2, by omega, fun k hk => (k34.2.2.1 k).trans (h3 k hk), h4, h1477, by omega⟩
    · rw [hv, r_si, r_sr, if_pos ⟨rfl, rfl⟩]
    · rw [hv, i_si, if_pos ⟨rfl, rfl⟩, ht]
  have iv : w_i v R 2 = Int32.ofNat 0 := by
    rw [hv, i_si, if_neg (by omega), i_sr, i_sr, hu1, i_sn, z_sr, if_neg (by omega), i_sr, hu0, i_sn, if_pos hR.symm]
    rfl
  have KV : KS_ v := KS_lo hK (kp_mo kv fun a ha => by omega)
  obtain ⟨w1, ⟨f1, g1, g2, c1⟩, q1⟩ := c_go (D := d + 9) (by omega) hC iv (Nat.zero_le _)
  have kH := f1.2.1 (R + 1) ⟨by omega, by omega⟩
  have sv : w_s v = w_s w + 12 := by rw [hv, s_si, s_sr, s_sr, hu1, s_sn, s_sr, hu0, s_sn]
  have z2 := f1.1
  refine ⟨w1, ⟨kp_tr kv (kp_mo f1.2.1 fun a ha => by omega), ⟨by omega, by omega, by omega⟩, ⟨Ct_fk hC f1, (Ce_fk ⟨hC, KV⟩ f1).2⟩, c1, ?_, kH.1.trans ?_, kH.2.1.trans ?_, by omega, fun k => (kH.2.2.1 k).trans ?_⟩, fun Q => ?_⟩
  · rw [f1.2.2.2.2.2, hv, r_si, r_sr, if_neg (by omega), r_sr, if_pos ⟨rfl, rfl⟩]
  · rw [hv, t_si, t_sr, t_sr, hu1, t_sn, z_sr, if_pos z0.symm]
  · rw [hv, n_si, n_sr, n_sr, hu1, n_sn, z_sr, if_pos z0.symm]
  · rw [hv, i_si, if_neg (by omega), i_sr, i_sr, hu1, i_sn, z_sr, if_pos z0.symm]; rfl
  · simp (disch := first | omega | decide | exact ko_b _ | assumption | (simp only [t_si, t_sl, t_sr, t_sI, t_sR, n_si, n_sl, n_sr, n_sI, n_sR, r_si, r_sl, r_sI]; first | done | omega)) only [x_264_e, x_264_b, x_264_0, x_264_1, x_264_4, x_264_5, x_264_7, x_264_10, x_264_11, x_264_12, bk_v, bk_n, nl_I, nl_R, nl_L, nl_0, oo_lt, oo_le, oo_eq, oo_add, oo_sub, oo_tn, oo_ir, nn_leT, nn_leF, nn_ltT, nn_ltF, nn_eqT, nn_eqF, bv_0, bv_1, ko_b, ko_1, ko_0, true_and, and_true, if_true, if_false, not_true_eq_false, not_false_eq_true, oo_02, decide_eq_true_eq, decide_eq_false_iff_not, ite_not, Nat.reduceAdd, Nat.reduceLT, Nat.reduceSub, Nat.reduceLeDiff, reduceIte, Bool.true_eq_false, Bool.false_eq_true, reduceCtorEq, eq_self, decide_true, decide_false, bv_t, bv_f, and_self, t_si, t_sl, t_sr, t_sI, t_sR, n_si, n_sl, n_sr, n_sI, n_sR, r_si, r_sl, r_sI, z_sr, z0]
    rw [← hu1]
    simp (disch := first | omega | decide | exact ko_b _ | assumption | (simp only [t_si, t_sl, t_sr, t_sI, t_sR, n_si, n_sl, n_sr, n_sI, n_sR, r_si, r_sl, r_sI]; first | done | omega)) only [x_264_e, x_264_b, x_264_14, x_264_17, x_264_18, x_264_19, x_264_22, x_264_23, x_264_24, bk_v, bk_n, nl_I, nl_R, nl_L, nl_0, oo_lt, oo_le, oo_eq, oo_add, oo_sub, oo_tn, oo_ir, nn_leT, nn_leF, nn_ltT, nn_ltF, nn_eqT, nn_eqF, bv_0, bv_1, ko_b, ko_1, ko_0, true_and, and_true, if_true, if_false, not_true_eq_false, not_false_eq_true, oo_02, decide_eq_true_eq, decide_eq_false_iff_not, ite_not, Nat.reduceAdd, Nat.reduceLT, Nat.reduceSub, Nat.reduceLeDiff, reduceIte, Bool.true_eq_false, Bool.false_eq_true, reduceCtorEq, eq_self, decide_true, decide_false, bv_t, bv_f, and_self, t_si, t_sl, t_sr, t_sI, t_sR, n_si, n_sl, n_sr, n_sI, n_sR, r_si, r_sl, r_sI]
    rw [← hv]
    simp (disch := first | omega | decide | exact ko_b _ | assumption | (simp only [t_si, t_sl, t_sr, t_sI, t_sR, n_si, n_sl, n_sr, n_sI, n_sR, r_si, r_sl, r_sI]; first | done | omega)) only [x_264_e, x_264_b, x_264_27, x_264_28, x_264_31, bk_v, bk_n, nl_I, nl_R, nl_L, nl_0, oo_lt, oo_le, oo_eq, oo_add, oo_sub, oo_tn, oo_ir, nn_leT, nn_leF, nn_ltT, nn_ltF, nn_eqT, nn_eqF, bv_0, bv_1, ko_b, ko_1, ko_0, true_and, and_true, if_true, if_false, not_true_eq_false, not_false_eq_true, oo_02, decide_eq_true_eq, decide_eq_false_iff_not, ite_not, Nat.reduceAdd, Nat.reduceLT, Nat.reduceSub, Nat.reduceLeDiff, reduceIte, Bool.true_eq_false, Bool.false_eq_true, reduceCtorEq, eq_self, decide_true, decide_false, bv_t, bv_f, and_self, t_si, t_sl, t_sr, t_sI, t_sR, n_si, n_sl, n_sr, n_sI, n_sR, r_si, r_sl, r_sI, q1]
end
