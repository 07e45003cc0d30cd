/-! THE COMPONENT's lines, read -/
set_option maxRecDepth 100000
section
variable {t : Tp} {R H : Nat}
theorem Ce_i {w : Wd} {a k : Nat} {x : Int32} (h : Ce_ w R t) (ha : R < a) : Ce_ (s_i w a k x) R t := by
  obtain ⟨⟨h1, h2, h3, h4, h5, h6, h7, h8, h9, h10⟩, hK⟩ := h
  exact ⟨⟨h1, h2, by rw [i_si, if_neg (by omega)]; exact h3, h4, h5, h6, fun j hj => by rw [i_si, if_neg (by omega)]; exact h7 j hj, h8, h9, h10⟩, KS_lo hK (kp_i fun b hb => by omega)⟩
theorem Ce_r {w : Wd} {a k : Nat} {x : Option Nat} (h : Ce_ w R t) (ha : R < a) : Ce_ (s_r w a k x) R t := by
  obtain ⟨⟨h1, h2, h3, h4, h5, h6, h7, h8, h9, h10⟩, hK⟩ := h
  exact ⟨⟨h1, by rw [r_sr, if_neg (by omega)]; exact h2, h3, h4, h5, h6, h7, h8, h9, h10⟩, KS_lo hK (kp_r fun b hb => by omega)⟩
theorem Ce_kp {P : Nat → Prop} {w w1 : Wd} (h : Ce_ w R t) (k : Kp_ P w w1) (hz : w_z w ≤ w_z w1) (hP : ∀ a, a ≤ R → P a) : Ce_ w1 R t := by
  obtain ⟨⟨h1, h2, h3, h4, h5, h6, h7, h8, h9, h10⟩, hK⟩ := h
  have kR := k R (hP R (Nat.le_refl _))
  have kT := k 1434 (hP 1434 (by omega))
  exact ⟨⟨kR.1.trans h1, (kR.2.2.2.1 0).trans h2, (kR.2.2.1 1).trans h3, kT.1.trans h4, kT.2.1.trans h5, h6, fun j hj => (kT.2.2.1 j).trans (h7 j hj), h8, h9, by omega⟩, KS_lo hK (kp_mo k fun a ha => hP a (by omega))⟩
/-- thrown in a line -/
def Tz_ (t : Tp) (R : Nat) (w : Wd) (b : Nat) (e : Nat × Nat) (L : Q_ → Prop) : Prop := ∃ w1 x, (Kz_ R w w1 ∧ Bd_ w b w1 (t.2 + 1) ∧ Ft_ w w1 x e) ∧ ∀ Q, L Q = Q (Sum.inr x) w1
theorem tz_tx {w u : Wd} {b b1 : Nat} {e : Nat × Nat} {L L2 : Q_ → Prop} (h : Tx_ t R u b1 e L2) (f : Kz_ R w u) (hR : R < w_z u) (hd : Bd_ w b u b1) (hL : ∀ w1 x, (∀ Q, L2 Q = Q (Sum.inr x) w1) → ∀ Q, L Q = Q (Sum.inr x) w1) : Tz_ t R w b e L := by
  obtain ⟨w1, x, ⟨f1, d1, t1⟩, q1⟩ := h
  exact ⟨w1, x, ⟨kz_tr f (kz_fk f1 hR), bd_tr hd d1, ft_up t1 f.1⟩, hL w1 x q1⟩
theorem tz_ty {w u : Wd} {b : Nat} {e : Nat × Nat} {L L2 : Q_ → Prop} (h : Ty_ R u e L2) (f : Kz_ R w u) (hR : R < w_z u) (hb : b ≤ t.2) (hz : w_z u ≤ w_z w + 12 * (t.2 - b) + 11) (hs : w_s u ≤ w_s w + 60 * (t.2 - b) + 52) (hL : ∀ w1 x, (∀ Q, L2 Q = Q (Sum.inr x) w1) → ∀ Q, L Q = Q (Sum.inr x) w1) : Tz_ t R w b e L := by
  obtain ⟨w1, x, ⟨f1, ⟨z1, s1⟩, t1⟩, q1⟩ := h
  refine ⟨w1, x, ⟨kz_tr f (kz_fk f1 hR), ?_, ft_up t1 f.1⟩, hL w1 x q1⟩
  unfold Bd_
  omega
variable {w : Wd} {q0 p0 j b : Nat} {s : List Nat}
theorem c_begF {D : Nat} {Q : Q_} (hD : 12 ≤ D) (he : Ce_ w R t) (hr : Cr_ w R t b) (hs : Sc_ w q0 p0 s) (hw : Ws_ s) (h0 : q0 < 200) (hj : j < 3) (e : is_w t b s = false) : cl D 271 [v_R (some R), v_R (some q0), v_I (Int32.ofNat j)] w Q = Q (Sum.inl (some (v_I (Int32.ofNat 0)))) w := by
  obtain ⟨d, rfl⟩ : ∃ d, D = d + 12 := ⟨D - 12, by omega⟩
  have t0 := he.1.1
  have hi := fun Q => c_isw (D := d + 11) (Q := Q) (by omega) he hr hs hw h0
  rw [e] at hi
  simp (disch := first | omega | decide | exact ko_b _ | assumption | (simp only [t_si, t_sl, t_sr, t_sI, t_sR, n_si, n_sl, n_sr, n_sI, n_sR, r_si, r_sl, r_sI]; first | done | omega)) only [x_271_e, x_271_b, x_271_0, x_271_1, x_271_2, x_271_5, x_271_8, x_271_9, bk_v, bk_n, nl_I, nl_R, nl_L, nl_0, oo_lt, oo_le, oo_eq, oo_add, oo_sub, oo_tn, oo_ir, nn_leT, nn_leF, nn_ltT, nn_ltF, nn_eqT, nn_eqF, bv_0, bv_1, ko_b, ko_1, ko_0, true_and, and_true, if_true, if_false, not_true_eq_false, not_false_eq_true, oo_02, decide_eq_true_eq, decide_eq_false_iff_not, ite_not, Nat.reduceAdd, Nat.reduceLT, Nat.reduceSub, Nat.reduceLeDiff, reduceIte, Bool.true_eq_false, Bool.false_eq_true, reduceCtorEq, eq_self, decide_true, decide_false, bv_t, bv_f, and_self, t_si, t_sl, t_sr, t_sI, t_sR, n_si, n_sl, n_sr, n_sI, n_sR, r_si, r_sl, r_sI, hi]
theorem c_begA {D : Nat} (hD : 12 ≤ D) (he : Ce_ w R t) (hr : Cr_ w R t b) (hs : Sc_ w q0 p0 s) (hw : Ws_ s) (h0 : q0 < 200) (hj : j < 3) (e : is_w t b s = true) (h8 : w_r w R 8 = some H) (tH : w_t w H = 3) (nH : w_n w H = 3) (hh : w_i w H j = Int32.ofNat 1) : Ty_ R w (4, b) (fun Q => cl D 271 [v_R (some R), v_R (some q0), v_I (Int32.ofNat j)] w Q) := by
  obtain ⟨d, rfl⟩ : ∃ d, D = d + 12 := ⟨D - 12, by omega⟩
  have t0 := he.1.1
  have hi := fun Q => c_isw (D := d + 11) (Q := Q) (by omega) he hr hs hw h0
  rw [e] at hi
  have ck0 := fun d Q => c_ck0 (d := d) (c := 4) (Q := Q) t0 hr.2.2.1
  refine ⟨_, _, flt_f he.1 hr (by omega), fun Q => ?_⟩
  show cl (d + 12) 271 _ w Q = _
  simp (disch := first | omega | decide | exact ko_b _ | assumption | (simp only [t_si, t_sl, t_sr, t_sI, t_sR, n_si, n_sl, n_sr, n_sI, n_sR, r_si, r_sl, r_sI]; first | done | omega)) only [x_271_e, x_271_b, x_271_0, x_271_1, x_271_2, x_271_5, x_271_8, x_271_9, x_271_10, x_271_11, x_271_12, x_271_15, x_271_16, x_271_17, x_271_20, x_271_21, x_271_24, x_271_25, x_271_26, bk_v, bk_n, nl_I, nl_R, nl_L, nl_0, oo_lt, oo_le, oo_eq, oo_add, oo_sub, oo_tn, oo_ir, nn_leT, nn_leF, nn_ltT, nn_ltF, nn_eqT, nn_eqF, bv_0, bv_1, ko_b, ko_1, ko_0, true_and, and_true, if_true, if_false, not_true_eq_false, not_false_eq_true, oo_02, decide_eq_true_eq, decide_eq_false_iff_not, ite_not, Nat.reduceAdd, Nat.reduceLT, Nat.reduceSub, Nat.reduceLeDiff, reduceIte, Bool.true_eq_false, Bool.false_eq_true, reduceCtorEq, eq_self, decide_true, decide_false, bv_t, bv_f, and_self, t_si, t_sl, t_sr, t_sI, t_sR, n_si, n_sl, n_sr, n_sI, n_sR, r_si, r_sl, r_sI, hi, h8, nH, hh, ck0]
theorem c_begT {D : Nat} (hD : 12 ≤ D) (he : Ce_ w R t) (hr : Cr_ w R t b) (hs : Sc_ w q0 p0 s) (hw : Ws_ s) (h0 : q0 < 200) (hj : j < 3) (e : is_w t b s = true) (h8 : w_r w R 8 = some H) (tH : w_t w H = 3) (nH : w_n w H = 3) (hRH : R < H) (hh : w_i w H j = Int32.ofNat 0) : ∃ w1, (Fk_ R (s_i w H j (Int32.ofNat 1)) w1 ∧ Ce_ w1 R t ∧ Cr_ w1 R t (tk_n t b) ∧ (w_z w1 ≤ w_z w + 4 ∧ w_s w1 ≤ w_s w + 26) ∧ Bd_ w b w1 (tk_n t b)) ∧ ∀ Q, cl D 271 [v_R (some R), v_R (some q0), v_I (Int32.ofNat j)] w Q = Q (Sum.inl (some (v_I (Int32.ofNat 1)))) w1 := by
  obtain ⟨d, rfl⟩ : ∃ d, D = d + 12 := ⟨D - 12, by omega⟩
  have t0 := he.1.1
  have hi := fun Q => c_isw (D := d + 11) (Q := Q) (by omega) he hr hs hw h0
  rw [e] at hi
  have ck1 := fun d x Q => c_ck1 (w := w) (R := R) (d := d) (x := x) (Q := Q)
  have c1 : Cr_ (s_i w H j (Int32.ofNat 1)) R t b := Cr_i hr (by omega) (by omega)
  have no := nar_o1
  obtain ⟨w1, ⟨f1, e1, r1, z1, b1⟩, q1⟩ := c_step (w := s_i w H j (Int32.ofNat 1)) (D := d + 11) (by omega) (Ce_i he hRH) c1 (by have := is_w_k e; omega)
  refine ⟨w1, ⟨f1, e1, r1, z1, b1⟩, fun Q => ?_⟩
  simp (disch := first | omega | decide | exact ko_b _ | assumption | (simp only [t_si, t_sl, t_sr, t_sI, t_sR, n_si, n_sl, n_sr, n_sI, n_sR, r_si, r_sl, r_sI]; first | done | omega)) only [x_271_e, x_271_b, x_271_0, x_271_1, x_271_2, x_271_5, x_271_8, x_271_9, x_271_10, x_271_11, x_271_12, x_271_15, x_271_16, x_271_17, x_271_20, x_271_21, x_271_24, x_271_25, x_271_26, x_271_29, x_271_30, x_271_33, x_271_34, x_271_35, x_271_36, x_271_37, x_271_40, x_271_41, bk_v, bk_n, nl_I, nl_R, nl_L, nl_0, oo_lt, oo_le, oo_eq, oo_add, oo_sub, oo_tn, oo_ir, nn_leT, nn_leF, nn_ltT, nn_ltF, nn_eqT, nn_eqF, bv_0, bv_1, ko_b, ko_1, ko_0, true_and, and_true, if_true, if_false, not_true_eq_false, not_false_eq_true, oo_02, decide_eq_true_eq, decide_eq_false_iff_not, ite_not, Nat.reduceAdd, Nat.reduceLT, Nat.reduceSub, Nat.reduceLeDiff, reduceIte, Bool.true_eq_false, Bool.false_eq_true, reduceCtorEq, eq_self, decide_true, decide_false, bv_t, bv_f, and_self, t_si, t_sl, t_sr, t_sI, t_sR, n_si, n_sl, n_sr, n_sI, n_sR, r_si, r_sl, r_sI, hi, h8, nH, hh, ck1, nar_o1, q1]
theorem ks_n (h : ks_ t b = none) : is_w t b [112, 105, 110, 101] = false ∧ is_w t b [111, 97, 107] = false ∧ is_w t b [102, 111, 108, 100, 105, 110, 103] = false ∧ is_w t b [99, 97, 115, 116, 111, 114] = false := by
  unfold ks_ at h
  by_cases c1 : is_w t b [112, 105, 110, 101] = true
  · rw [if_pos c1] at h; cases h
  · rw [if_neg c1] at h
    by_cases c2 : is_w t b [111, 97, 107] = true
    · rw [if_pos c2] at h; cases h
    · rw [if_neg c2] at h
      by_cases c3 : is_w t b [102, 111, 108, 100, 105, 110, 103] = true
      · rw [if_pos c3] at h; cases h
      · rw [if_neg c3] at h
        by_cases c4 : is_w t b [99, 97, 115, 116, 111, 114] = true
        · rw [if_pos c4] at h; cases h
        · exact ⟨Bool.eq_false_iff.mpr c1, Bool.eq_false_iff.mpr c2, Bool.eq_false_iff.mpr c3, Bool.eq_false_iff.mpr c4⟩
theorem w_lim (h : KS_ w) : Sc_ w 13 113 [108, 105, 109, 105, 116] ∧ Ws_ [108, 105, 109, 105, 116] := ⟨ks_c h (i := 3) (by omega) (by decide), as_d (by decide), by decide, by decide⟩
theorem w_foo (h : KS_ w) : Sc_ w 14 114 [102, 111, 111, 100] ∧ Ws_ [102, 111, 111, 100] := ⟨ks_c h (i := 4) (by omega) (by decide), as_d (by decide), by decide, by decide⟩
theorem w_tak (h : KS_ w) : Sc_ w 15 115 [116, 97, 107, 101, 115] ∧ Ws_ [116, 97, 107, 101, 115] := ⟨ks_c h (i := 5) (by omega) (by decide), as_d (by decide), by decide, by decide⟩
/-- what a line gives, from pc 18 to 169 -/
def Lo_ (t : Tp) (R H d : Nat) (w : Wd) (G : Gm) (b : Nat) (r : (Nat × Nat) ⊕ (Ln_ × Nat)) : Prop := match r with
  | Sum.inl e => Tz_ t R w b e (fun Q => wp (d + 62) 270 18 [some (v_R (some R)), some (v_R (some (gm_b G)))] [] w Q)
  | Sum.inr q => ∃ w1 G1, (Kz_ R w w1 ∧ Ce_ w1 R t ∧ Cr_ w1 R t q.2 ∧ Bd_ w b w1 q.2 ∧ Tn_ w1 R H G1 q.1 ∧ gm_b G1 = gm_b G) ∧ ∀ Q, wp (d + 62) 270 18 [some (v_R (some R)), some (v_R (some (gm_b G)))] [] w Q = wp (d + 62) 270 169 [some (v_R (some R)), some (v_R (some (gm_b G)))] [] w1 Q
theorem c_line {d : Nat} {G : Gm} {s : Ln_} (he : Ce_ w R t) (hr : Cr_ w R t b) (hn : Tn_ w R H G s) (hT : TG_ t s.1) (hc : s.2.2.2 = false → tm_co s.1 = []) (hk : tk_k t b ≠ 0) : Lo_ t R H d w G b (ln_ t s b) := by
  obtain ⟨T, fl, ff, ft⟩ := s
  have t0 := he.1.1
  obtain ⟨hR1, hR2, hN6⟩ := Ce_z he
  have hb := hr.1
  have hbt := tk_gt hk
  have hn' := hn
  obtain ⟨-, y2, y3, -, -, -, -, -, -, g1, g2, g3, g4, g5, g6, g7⟩ := hn'
  obtain ⟨sc1, sw1⟩ := w_lim he.2
  obtain ⟨sc2, sw2⟩ := w_foo he.2
  obtain ⟨sc3, sw3⟩ := w_tak he.2
  have tb : w_t w (gm_b G) = 21 := hn.1.1
  have step1 : ∀ {v u1 : Wd} {s' : Ln_}, Tn_ v R H G s' → Fk_ R v u1 → w_t v R = 26 → Tn_ u1 R H G s' := fun h1 h2 h3 => Tn_fk h1 h2 h3
  unfold ln_
  by_cases c1 : is_w t b [108, 105, 109, 105, 116] = true
  · rw [if_pos c1]
    cases fl with
    | true =>
      rw [if_pos rfl]
      have A := c_begA (D := d + 61) (j := 0) (by omega) he hr sc1 sw1 (by omega) (by omega) c1 g1 g2 g3 g5
      refine tz_ty A (kz_rf _ _) hR2 hb (by omega) (by omega) (fun w1 x q Q => ?_)
      have q : ∀ Q, cl (d + 61) 271 [v_R (some R), v_R (some 13), v_I (Int32.ofNat 0)] w Q = Q (Sum.inr x) w1 := q
      show wp (d + 62) 270 18 _ _ w Q = _
      simp (disch := first | omega | decide | exact ko_b _ | assumption | (simp only [t_si, t_sl, t_sr, t_sI, t_sR, n_si, n_sl, n_sr, n_sI, n_sR, r_si, r_sl, r_sI]; first | done | omega)) only [x_270_e, x_270_b, x_270_18, x_270_19, x_270_21, x_270_22, x_270_25, bk_v, bk_n, nl_I, nl_R, nl_L, nl_0, oo_lt, oo_le, oo_eq, oo_add, oo_sub, oo_tn, oo_ir, nn_leT, nn_leF, nn_ltT, nn_ltF, nn_eqT, nn_eqF, bv_0, bv_1, ko_b, ko_1, ko_0, true_and, and_true, if_true, if_false, not_true_eq_false, not_false_eq_true, oo_02, decide_eq_true_eq, decide_eq_false_iff_not, ite_not, Nat.reduceAdd, Nat.reduceLT, Nat.reduceSub, Nat.reduceLeDiff, reduceIte, Bool.true_eq_false, Bool.false_eq_true, reduceCtorEq, eq_self, decide_true, decide_false, bv_t, bv_f, and_self, t_si, t_sl, t_sr, t_sI, t_sR, n_si, n_sl, n_sr, n_sI, n_sR, r_si, r_sl, r_sI, q]
    | false =>
      rw [if_neg Bool.false_ne_true]
      obtain ⟨u1, ⟨f1, e1, r1, ⟨z1, s1⟩, b1⟩, q1⟩ := c_begT (D := d + 61) (j := 0) (by omega) he hr sc1 sw1 (by omega) (by omega) c1 g1 g2 g3 g4.1 g5
      have n1 : Tn_ u1 R H G (T, true, ff, ft) := step1 (Tn_h (s2 := (true, ff, ft)) hn rfl rfl rfl) f1 t0
      have k1 : Kz_ R w u1 := kz_tr (kz_i (Nat.le_of_lt g4.1)) (kz_fk f1 hR2)
      have t1 := e1.1.1
      have N := c_num (D := d + 61) (lo := 0) (hi := 40) (by omega) e1 r1 (by omega) (by omega)
      cases hx : nm_ t 0 40 (tk_n t b) with
      | inl e =>
        rw [hx] at N
        refine tz_ty N k1 (Ce_z e1).2.1 hb (by omega) (by omega) (fun w1 x q Q => ?_)
        have q : ∀ Q, cl (d + 61) 274 [v_R (some R), v_I (Int32.ofNat 0), v_I (Int32.ofNat 40)] u1 Q = Q (Sum.inr x) w1 := q
        show wp (d + 62) 270 18 _ _ w Q = _
        simp (disch := first | omega | decide | exact ko_b _ | assumption | (simp only [t_si, t_sl, t_sr, t_sI, t_sR, n_si, n_sl, n_sr, n_sI, n_sR, r_si, r_sl, r_sI]; first | done | omega)) only [x_270_e, x_270_b, x_270_18, x_270_19, x_270_21, x_270_22, x_270_25, x_270_28, x_270_29, x_270_30, x_270_31, x_270_33, bk_v, bk_n, nl_I, nl_R, nl_L, nl_0, oo_lt, oo_le, oo_eq, oo_add, oo_sub, oo_tn, oo_ir, nn_leT, nn_leF, nn_ltT, nn_ltF, nn_eqT, nn_eqF, bv_0, bv_1, ko_b, ko_1, ko_0, true_and, and_true, if_true, if_false, not_true_eq_false, not_false_eq_true, oo_02, decide_eq_true_eq, decide_eq_false_iff_not, ite_not, Nat.reduceAdd, Nat.reduceLT, Nat.reduceSub, Nat.reduceLeDiff, reduceIte, Bool.true_eq_false, Bool.false_eq_true, reduceCtorEq, eq_self, decide_true, decide_false, bv_t, bv_f, and_self, t_si, t_sl, t_sr, t_sI, t_sR, n_si, n_sl, n_sr, n_sI, n_sR, r_si, r_sl, r_sI, q1, q]
      | inr r =>
        rw [hx] at N
        obtain ⟨u2, ⟨f2, e2, r2, z2, b2⟩, q2⟩ := N
        have q2 : ∀ Q, cl (d + 61) 274 [v_R (some R), v_I (Int32.ofNat 0), v_I (Int32.ofNat 40)] u1 Q = Q (Sum.inl (some (v_I (Int32.ofNat r.1)))) u2 := q2
        have n2 := Tn_fk n1 f2 t1
        have tb2 : w_t u2 (gm_b G) = 21 := n2.1.1
        have n3 := Tn_b (j := 0) (x := Int32.ofNat r.1) (li := Int32.ofNat r.1) (fo := tm_fo T) n2 rfl rfl
        refine ⟨s_i u2 (gm_b G) 0 (Int32.ofNat r.1), G, ⟨kz_tr k1 (kz_tr (kz_fk f2 (Ce_z e1).2.1) (kz_i (Nat.le_of_lt y2.1))), Ce_i e2 y2.1, Cr_i r2 (by omega) (by omega), bd_tr b1 b2, n3, rfl⟩, fun Q => ?_⟩
        simp (disch := first | omega | decide | exact ko_b _ | assumption | (simp only [t_si, t_sl, t_sr, t_sI, t_sR, n_si, n_sl, n_sr, n_sI, n_sR, r_si, r_sl, r_sI]; first | done | omega)) only [x_270_e, x_270_b, x_270_18, x_270_19, x_270_21, x_270_22, x_270_25, x_270_28, x_270_29, x_270_30, x_270_31, x_270_33, x_270_36, x_270_39, bk_v, bk_n, nl_I, nl_R, nl_L, nl_0, oo_lt, oo_le, oo_eq, oo_add, oo_sub, oo_tn, oo_ir, nn_leT, nn_leF, nn_ltT, nn_ltF, nn_eqT, nn_eqF, bv_0, bv_1, ko_b, ko_1, ko_0, true_and, and_true, if_true, if_false, not_true_eq_false, not_false_eq_true, oo_02, decide_eq_true_eq, decide_eq_false_iff_not, ite_not, Nat.reduceAdd, Nat.reduceLT, Nat.reduceSub, Nat.reduceLeDiff, reduceIte, Bool.true_eq_false, Bool.false_eq_true, reduceCtorEq, eq_self, decide_true, decide_false, bv_t, bv_f, and_self, t_si, t_sl, t_sr, t_sI, t_sR, n_si, n_sl, n_sr, n_sI, n_sR, r_si, r_sl, r_sI, q1, q2]
  · have c1 := Bool.eq_false_iff.mpr c1
    rw [c1, if_neg Bool.false_ne_true]
    have F1 := fun Q => c_begF (D := d + 61) (j := 0) (Q := Q) (by omega) he hr sc1 sw1 (by omega) (by omega) c1
    by_cases c2 : is_w t b [102, 111, 111, 100] = true
    · rw [if_pos c2]
      cases ff with
      | true =>
        rw [if_pos rfl]
        have A := c_begA (D := d + 61) (j := 1) (by omega) he hr sc2 sw2 (by omega) (by omega) c2 g1 g2 g3 g6
        refine tz_ty A (kz_rf _ _) hR2 hb (by omega) (by omega) (fun w1 x q Q => ?_)
        have q : ∀ Q, cl (d + 61) 271 [v_R (some R), v_R (some 14), v_I (Int32.ofNat 1)] w Q = Q (Sum.inr x) w1 := q
        show wp (d + 62) 270 18 _ _ w Q = _
        simp (disch := first | omega | decide | exact ko_b _ | assumption | (simp only [t_si, t_sl, t_sr, t_sI, t_sR, n_si, n_sl, n_sr, n_sI, n_sR, r_si, r_sl, r_sI]; first | done | omega)) only [x_270_e, x_270_b, x_270_18, x_270_19, x_270_21, x_270_22, x_270_25, x_270_e, x_270_b, x_270_42, x_270_43, x_270_45, x_270_46, x_270_49, bk_v, bk_n, nl_I, nl_R, nl_L, nl_0, oo_lt, oo_le, oo_eq, oo_add, oo_sub, oo_tn, oo_ir, nn_leT, nn_leF, nn_ltT, nn_ltF, nn_eqT, nn_eqF, bv_0, bv_1, ko_b, ko_1, ko_0, true_and, and_true, if_true, if_false, not_true_eq_false, not_false_eq_true, oo_02, decide_eq_true_eq, decide_eq_false_iff_not, ite_not, Nat.reduceAdd, Nat.reduceLT, Nat.reduceSub, Nat.reduceLeDiff, reduceIte, Bool.true_eq_false, Bool.false_eq_true, reduceCtorEq, eq_self, decide_true, decide_false, bv_t, bv_f, and_self, t_si, t_sl, t_sr, t_sI, t_sR, n_si, n_sl, n_sr, n_sI, n_sR, r_si, r_sl, r_sI, F1, q]
      | false =>
        rw [if_neg Bool.false_ne_true]
        obtain ⟨u1, ⟨f1, e1, r1, ⟨z1, s1⟩, b1⟩, q1⟩ := c_begT (D := d + 61) (j := 1) (by omega) he hr sc2 sw2 (by omega) (by omega) c2 g1 g2 g3 g4.1 g6
        have n1 : Tn_ u1 R H G (T, fl, true, ft) := step1 (Tn_h (s2 := (fl, true, ft)) hn rfl rfl rfl) f1 t0
        have k1 : Kz_ R w u1 := kz_tr (kz_i (Nat.le_of_lt g4.1)) (kz_fk f1 hR2)
        have t1 := e1.1.1
        have N := c_num (D := d + 61) (lo := 0) (hi := 999) (by omega) e1 r1 (by omega) (by omega)
        cases hx : nm_ t 0 999 (tk_n t b) with
        | inl e =>
          rw [hx] at N
          refine tz_ty N k1 (Ce_z e1).2.1 hb (by omega) (by omega) (fun w1 x q Q => ?_)
          have q : ∀ Q, cl (d + 61) 274 [v_R (some R), v_I (Int32.ofNat 0), v_I (Int32.ofNat 999)] u1 Q = Q (Sum.inr x) w1 := q
          show wp (d + 62) 270 18 _ _ w Q = _
          simp (disch := first | omega | decide | exact ko_b _ | assumption | (simp only [t_si, t_sl, t_sr, t_sI, t_sR, n_si, n_sl, n_sr, n_sI, n_sR, r_si, r_sl, r_sI]; first | done | omega)) only [x_270_e, x_270_b, x_270_18, x_270_19, x_270_21, x_270_22, x_270_25, x_270_e, x_270_b, x_270_42, x_270_43, x_270_45, x_270_46, x_270_49, x_270_52, x_270_53, x_270_54, x_270_55, x_270_58, bk_v, bk_n, nl_I, nl_R, nl_L, nl_0, oo_lt, oo_le, oo_eq, oo_add, oo_sub, oo_tn, oo_ir, nn_leT, nn_leF, nn_ltT, nn_ltF, nn_eqT, nn_eqF, bv_0, bv_1, ko_b, ko_1, ko_0, true_and, and_true, if_true, if_false, not_true_eq_false, not_false_eq_true, oo_02, decide_eq_true_eq, decide_eq_false_iff_not, ite_not, Nat.reduceAdd, Nat.reduceLT, Nat.reduceSub, Nat.reduceLeDiff, reduceIte, Bool.true_eq_false, Bool.false_eq_true, reduceCtorEq, eq_self, decide_true, decide_false, bv_t, bv_f, and_self, t_si, t_sl, t_sr, t_sI, t_sR, n_si, n_sl, n_sr, n_sI, n_sR, r_si, r_sl, r_sI, F1, q1, q]
        | inr r =>
          rw [hx] at N
          obtain ⟨u2, ⟨f2, e2, r2, z2, b2⟩, q2⟩ := N
          have q2 : ∀ Q, cl (d + 61) 274 [v_R (some R), v_I (Int32.ofNat 0), v_I (Int32.ofNat 999)] u1 Q = Q (Sum.inl (some (v_I (Int32.ofNat r.1)))) u2 := q2
          have n2 := Tn_fk n1 f2 t1
          have tb2 : w_t u2 (gm_b G) = 21 := n2.1.1
          have n3 := Tn_b (j := 1) (x := Int32.ofNat r.1) (li := tm_li T) (fo := Int32.ofNat r.1) n2 rfl rfl
          refine ⟨s_i u2 (gm_b G) 1 (Int32.ofNat r.1), G, ⟨kz_tr k1 (kz_tr (kz_fk f2 (Ce_z e1).2.1) (kz_i (Nat.le_of_lt y2.1))), Ce_i e2 y2.1, Cr_i r2 (by omega) (by omega), bd_tr b1 b2, n3, rfl⟩, fun Q => ?_⟩
          simp (disch := first | omega | decide | exact ko_b _ | assumption | (simp only [t_si, t_sl, t_sr, t_sI, t_sR, n_si, n_sl, n_sr, n_sI, n_sR, r_si, r_sl, r_sI]; first | done | omega)) only [x_270_e, x_270_b, x_270_18, x_270_19, x_270_21, x_270_22, x_270_25, x_270_e, x_270_b, x_270_42, x_270_43, x_270_45, x_270_46, x_270_49, x_270_52, x_270_53, x_270_54, x_270_55, x_270_58, x_270_61, x_270_64, bk_v, bk_n, nl_I, nl_R, nl_L, nl_0, oo_lt, oo_le, oo_eq, oo_add, oo_sub, oo_tn, oo_ir, nn_leT, nn_leF, nn_ltT, nn_ltF, nn_eqT, nn_eqF, bv_0, bv_1, ko_b, ko_1, ko_0, true_and, and_true, if_true, if_false, not_true_eq_false, not_false_eq_true, oo_02, decide_eq_true_eq, decide_eq_false_iff_not, ite_not, Nat.reduceAdd, Nat.reduceLT, Nat.reduceSub, Nat.reduceLeDiff, reduceIte, Bool.true_eq_false, Bool.false_eq_true, reduceCtorEq, eq_self, decide_true, decide_false, bv_t, bv_f, and_self, t_si, t_sl, t_sr, t_sI, t_sR, n_si, n_sl, n_sr, n_sI, n_sR, r_si, r_sl, r_sI, F1, q1, q2]
    · have c2 := Bool.eq_false_iff.mpr c2
      rw [c2, if_neg Bool.false_ne_true]
      have F2 := fun Q => c_begF (D := d + 61) (j := 1) (Q := Q) (by omega) he hr sc2 sw2 (by omega) (by omega) c2
      by_cases c3 : is_w t b [116, 97, 107, 101, 115] = true
      · rw [if_pos c3]
        cases ft with
        | true =>
          rw [if_pos rfl]
          have A := c_begA (D := d + 61) (j := 2) (by omega) he hr sc3 sw3 (by omega) (by omega) c3 g1 g2 g3 g7
          refine tz_ty A (kz_rf _ _) hR2 hb (by omega) (by omega) (fun w1 x q Q => ?_)
          have q : ∀ Q, cl (d + 61) 271 [v_R (some R), v_R (some 15), v_I (Int32.ofNat 2)] w Q = Q (Sum.inr x) w1 := q
          show wp (d + 62) 270 18 _ _ w Q = _
          simp (disch := first | omega | decide | exact ko_b _ | assumption | (simp only [t_si, t_sl, t_sr, t_sI, t_sR, n_si, n_sl, n_sr, n_sI, n_sR, r_si, r_sl, r_sI]; first | done | omega)) only [x_270_e, x_270_b, x_270_18, x_270_19, x_270_21, x_270_22, x_270_25, x_270_e, x_270_b, x_270_42, x_270_43, x_270_45, x_270_46, x_270_49, x_270_e, x_270_b, x_270_67, x_270_68, x_270_70, x_270_71, x_270_74, bk_v, bk_n, nl_I, nl_R, nl_L, nl_0, oo_lt, oo_le, oo_eq, oo_add, oo_sub, oo_tn, oo_ir, nn_leT, nn_leF, nn_ltT, nn_ltF, nn_eqT, nn_eqF, bv_0, bv_1, ko_b, ko_1, ko_0, true_and, and_true, if_true, if_false, not_true_eq_false, not_false_eq_true, oo_02, decide_eq_true_eq, decide_eq_false_iff_not, ite_not, Nat.reduceAdd, Nat.reduceLT, Nat.reduceSub, Nat.reduceLeDiff, reduceIte, Bool.true_eq_false, Bool.false_eq_true, reduceCtorEq, eq_self, decide_true, decide_false, bv_t, bv_f, and_self, t_si, t_sl, t_sr, t_sI, t_sR, n_si, n_sl, n_sr, n_sI, n_sR, r_si, r_sl, r_sI, F1, F2, q]
        | false =>
          rw [if_neg Bool.false_ne_true]
          obtain ⟨u1, ⟨f1, e1, r1, ⟨z1, s1⟩, b1⟩, q1⟩ := c_begT (D := d + 61) (j := 2) (by omega) he hr sc3 sw3 (by omega) (by omega) c3 g1 g2 g3 g4.1 g7
          have n1 : Tn_ u1 R H G (T, fl, ff, true) := step1 (Tn_h (s2 := (fl, ff, true)) hn rfl rfl rfl) f1 t0
          have k1 : Kz_ R w u1 := kz_tr (kz_i (Nat.le_of_lt g4.1)) (kz_fk f1 hR2)
          have t1 := e1.1.1
          have N := e_exx (t := t) (R := R) 6 0 (by omega) (d + 61) u1 (tk_n t b) (by omega) e1 r1
          cases hx : ex_p t 6 (tk_n t b) with
          | inl e =>
            rw [hx] at N
            refine tz_tx N k1 (Ce_z e1).2.1 b1 (fun w1 x q Q => ?_)
            have q : ∀ Q, cl (d + 61) 275 [v_R (some R), v_I (Int32.ofNat 0)] u1 Q = Q (Sum.inr x) w1 := q
            show wp (d + 62) 270 18 _ _ w Q = _
            simp (disch := first | omega | decide | exact ko_b _ | assumption | (simp only [t_si, t_sl, t_sr, t_sI, t_sR, n_si, n_sl, n_sr, n_sI, n_sR, r_si, r_sl, r_sI]; first | done | omega)) only [x_270_e, x_270_b, x_270_18, x_270_19, x_270_21, x_270_22, x_270_25, x_270_e, x_270_b, x_270_42, x_270_43, x_270_45, x_270_46, x_270_49, x_270_e, x_270_b, x_270_67, x_270_68, x_270_70, x_270_71, x_270_74, x_270_77, x_270_78, x_270_79, x_270_80, bk_v, bk_n, nl_I, nl_R, nl_L, nl_0, oo_lt, oo_le, oo_eq, oo_add, oo_sub, oo_tn, oo_ir, nn_leT, nn_leF, nn_ltT, nn_ltF, nn_eqT, nn_eqF, bv_0, bv_1, ko_b, ko_1, ko_0, true_and, and_true, if_true, if_false, not_true_eq_false, not_false_eq_true, oo_02, decide_eq_true_eq, decide_eq_false_iff_not, ite_not, Nat.reduceAdd, Nat.reduceLT, Nat.reduceSub, Nat.reduceLeDiff, reduceIte, Bool.true_eq_false, Bool.false_eq_true, reduceCtorEq, eq_self, decide_true, decide_false, bv_t, bv_f, and_self, t_si, t_sl, t_sr, t_sI, t_sR, n_si, n_sl, n_sr, n_sI, n_sR, r_si, r_sl, r_sI, F1, F2, q1, q]
          | inr r =>
            rw [hx] at N
            obtain ⟨u2, o, ⟨f2, e2, r2, b2, x2⟩, q2⟩ := N
            have q2 : ∀ Q, cl (d + 61) 275 [v_R (some R), v_I (Int32.ofNat 0)] u1 Q = Q (Sum.inl (some (v_R (some o)))) u2 := q2
            have n2 := Tn_fk n1 f2 t1
            have tb2 : w_t u2 (gm_b G) = 21 := n2.1.1
            have x3 : EX_ r.1.length u2 o r.1 := x2 u2 (Nat.le_refl _) (fun a _ _ => ⟨rfl, fun _ => rfl, fun _ => rfl⟩)
            have n3 := Tn_x n2 x3
            refine ⟨s_r u2 (gm_b G) 3 (some o), gm_x G o, ⟨kz_tr k1 (kz_tr (kz_fk f2 (Ce_z e1).2.1) (kz_r (Nat.le_of_lt y2.1))), Ce_r e2 y2.1, Cr_r r2 (by omega) (by omega), bd_tr b1 b2, n3, rfl⟩, fun Q => ?_⟩
            simp (disch := first | omega | decide | exact ko_b _ | assumption | (simp only [t_si, t_sl, t_sr, t_sI, t_sR, n_si, n_sl, n_sr, n_sI, n_sR, r_si, r_sl, r_sI]; first | done | omega)) only [x_270_e, x_270_b, x_270_18, x_270_19, x_270_21, x_270_22, x_270_25, x_270_e, x_270_b, x_270_42, x_270_43, x_270_45, x_270_46, x_270_49, x_270_e, x_270_b, x_270_67, x_270_68, x_270_70, x_270_71, x_270_74, x_270_77, x_270_78, x_270_79, x_270_80, x_270_83, x_270_86, bk_v, bk_n, nl_I, nl_R, nl_L, nl_0, oo_lt, oo_le, oo_eq, oo_add, oo_sub, oo_tn, oo_ir, nn_leT, nn_leF, nn_ltT, nn_ltF, nn_eqT, nn_eqF, bv_0, bv_1, ko_b, ko_1, ko_0, true_and, and_true, if_true, if_false, not_true_eq_false, not_false_eq_true, oo_02, decide_eq_true_eq, decide_eq_false_iff_not, ite_not, Nat.reduceAdd, Nat.reduceLT, Nat.reduceSub, Nat.reduceLeDiff, reduceIte, Bool.true_eq_false, Bool.false_eq_true, reduceCtorEq, eq_self, decide_true, decide_false, bv_t, bv_f, and_self, t_si, t_sl, t_sr, t_sI, t_sR, n_si, n_sl, n_sr, n_sI, n_sR, r_si, r_sl, r_sI, F1, F2, q1, q2]
      · have c3 := Bool.eq_false_iff.mpr c3
        rw [c3, if_neg Bool.false_ne_true]
        have F3 := fun Q => c_begF (D := d + 61) (j := 2) (Q := Q) (by omega) he hr sc3 sw3 (by omega) (by omega) c3
        have pre : ∀ Q, wp (d + 62) 270 18 [some (v_R (some R)), some (v_R (some (gm_b G)))] [] w Q = wp (d + 62) 270 89 [some (v_R (some R)), some (v_R (some (gm_b G)))] [] w Q := fun Q => by
          simp (disch := first | omega | decide | exact ko_b _ | assumption | (simp only [t_si, t_sl, t_sr, t_sI, t_sR, n_si, n_sl, n_sr, n_sI, n_sR, r_si, r_sl, r_sI]; first | done | omega)) only [x_270_e, x_270_b, x_270_18, x_270_19, x_270_21, x_270_22, x_270_25, x_270_e, x_270_b, x_270_42, x_270_43, x_270_45, x_270_46, x_270_49, x_270_e, x_270_b, x_270_67, x_270_68, x_270_70, x_270_71, x_270_74, bk_v, bk_n, nl_I, nl_R, nl_L, nl_0, oo_lt, oo_le, oo_eq, oo_add, oo_sub, oo_tn, oo_ir, nn_leT, nn_leF, nn_ltT, nn_ltF, nn_eqT, nn_eqF, bv_0, bv_1, ko_b, ko_1, ko_0, true_and, and_true, if_true, if_false, not_true_eq_false, not_false_eq_true, oo_02, decide_eq_true_eq, decide_eq_false_iff_not, ite_not, Nat.reduceAdd, Nat.reduceLT, Nat.reduceSub, Nat.reduceLeDiff, reduceIte, Bool.true_eq_false, Bool.false_eq_true, reduceCtorEq, eq_self, decide_true, decide_false, bv_t, bv_f, and_self, t_si, t_sl, t_sr, t_sI, t_sR, n_si, n_sl, n_sr, n_sI, n_sR, r_si, r_sl, r_sI, F1, F2, F3]
        obtain ⟨v1, v2, v3, v4⟩ := ws_1
        have I1 := fun Q => c_isw (D := d + 61) (q0 := 33) (p0 := 133) (Q := Q) (by omega) he hr (ks_c he.2 (i := 23) (by omega) (by decide)) v1 (by omega)
        have I2 := fun Q => c_isw (D := d + 61) (q0 := 34) (p0 := 134) (Q := Q) (by omega) he hr (ks_c he.2 (i := 24) (by omega) (by decide)) v2 (by omega)
        have I3 := fun Q => c_isw (D := d + 61) (q0 := 35) (p0 := 135) (Q := Q) (by omega) he hr (ks_c he.2 (i := 25) (by omega) (by decide)) v3 (by omega)
        have I4 := fun Q => c_isw (D := d + 61) (q0 := 36) (p0 := 136) (Q := Q) (by omega) he hr (ks_c he.2 (i := 26) (by omega) (by decide)) v4 (by omega)
        have ck1 := fun d x Q => c_ck1 (w := w) (R := R) (d := d) (x := x) (Q := Q)
        cases hx : ks_ t b with
        | none =>
          obtain ⟨m1, m2, m3, m4⟩ := ks_n hx
          rw [m1] at I1
          rw [m2] at I2
          rw [m3] at I3
          rw [m4] at I4
          have ck0 := fun d Q => c_ck0 (d := d) (c := 1) (Q := Q) t0 hr.2.2.1
          refine tz_ty (L2 := fun Q => wp (d + 62) 270 18 [some (v_R (some R)), some (v_R (some (gm_b G)))] [] w Q) ⟨_, _, flt_f he.1 hr (by omega), fun Q => ?_⟩ (kz_rf _ _) hR2 hb (by omega) (by omega) (fun w1 x q Q => q Q)
          show wp (d + 62) 270 18 _ _ w Q = _
          rw [pre]
          simp (disch := first | omega | decide | exact ko_b _ | assumption | (simp only [t_si, t_sl, t_sr, t_sI, t_sR, n_si, n_sl, n_sr, n_sI, n_sR, r_si, r_sl, r_sI]; first | done | omega)) only [x_270_e, x_270_b, x_270_89, x_270_90, x_270_91, x_270_93, x_270_96, x_270_99, x_270_100, x_270_102, x_270_105, x_270_108, x_270_109, x_270_111, x_270_114, x_270_117, x_270_118, x_270_120, x_270_123, x_270_126, x_270_127, x_270_130, x_270_131, x_270_132, bk_v, bk_n, nl_I, nl_R, nl_L, nl_0, oo_lt, oo_le, oo_eq, oo_add, oo_sub, oo_tn, oo_ir, nn_leT, nn_leF, nn_ltT, nn_ltF, nn_eqT, nn_eqF, bv_0, bv_1, ko_b, ko_1, ko_0, true_and, and_true, if_true, if_false, not_true_eq_false, not_false_eq_true, oo_02, decide_eq_true_eq, decide_eq_false_iff_not, ite_not, Nat.reduceAdd, Nat.reduceLT, Nat.reduceSub, Nat.reduceLeDiff, reduceIte, Bool.true_eq_false, Bool.false_eq_true, reduceCtorEq, eq_self, decide_true, decide_false, bv_t, bv_f, and_self, t_si, t_sl, t_sr, t_sI, t_sR, n_si, n_sl, n_sr, n_sI, n_sR, r_si, r_sl, r_sI, I1, I2, I3, I4, ck0]
        | some k =>
          have hk4 := (ks_lt hx).1
          have hal : w_r w (gm_b G) 2 = some (gm_al G) := hn.1.2.1
          have tal : w_t w (gm_al G) = 36 := hn.1.2.2.2.2.2.2.1
          have ial : w_i w (gm_al G) 2 = Int32.ofNat (tm_n T) := hn.1.2.2.2.2.2.2.2.2.1
          have hn10 : tm_n T ≤ 10 := hT.1
          have pre2 : ∀ Q, wp (d + 62) 270 18 [some (v_R (some R)), some (v_R (some (gm_b G)))] [] w Q = wp (d + 62) 270 135 [some (v_R (some R)), some (v_R (some (gm_b G)))] [] w Q := fun Q => by
            rw [pre]
            rcases ks_cs hx with ⟨rfl, m1⟩ | ⟨rfl, m1, m2⟩ | ⟨rfl, m1, m2, m3⟩ | ⟨rfl, m1, m2, m3, m4⟩
            · rw [m1] at I1
              simp (disch := first | omega | decide | exact ko_b _ | assumption | (simp only [t_si, t_sl, t_sr, t_sI, t_sR, n_si, n_sl, n_sr, n_sI, n_sR, r_si, r_sl, r_sI]; first | done | omega)) only [x_270_e, x_270_b, x_270_89, x_270_90, x_270_91, x_270_93, x_270_96, x_270_99, x_270_100, x_270_102, x_270_105, x_270_108, x_270_109, x_270_111, x_270_114, x_270_117, x_270_118, x_270_120, x_270_123, x_270_126, x_270_127, x_270_130, x_270_131, x_270_132, bk_v, bk_n, nl_I, nl_R, nl_L, nl_0, oo_lt, oo_le, oo_eq, oo_add, oo_sub, oo_tn, oo_ir, nn_leT, nn_leF, nn_ltT, nn_ltF, nn_eqT, nn_eqF, bv_0, bv_1, ko_b, ko_1, ko_0, true_and, and_true, if_true, if_false, not_true_eq_false, not_false_eq_true, oo_02, decide_eq_true_eq, decide_eq_false_iff_not, ite_not, Nat.reduceAdd, Nat.reduceLT, Nat.reduceSub, Nat.reduceLeDiff, reduceIte, Bool.true_eq_false, Bool.false_eq_true, reduceCtorEq, eq_self, decide_true, decide_false, bv_t, bv_f, and_self, t_si, t_sl, t_sr, t_sI, t_sR, n_si, n_sl, n_sr, n_sI, n_sR, r_si, r_sl, r_sI, I1, ck1]
            · rw [m1] at I1
              rw [m2] at I2
              simp (disch := first | omega | decide | exact ko_b _ | assumption | (simp only [t_si, t_sl, t_sr, t_sI, t_sR, n_si, n_sl, n_sr, n_sI, n_sR, r_si, r_sl, r_sI]; first | done | omega)) only [x_270_e, x_270_b, x_270_89, x_270_90, x_270_91, x_270_93, x_270_96, x_270_99, x_270_100, x_270_102, x_270_105, x_270_108, x_270_109, x_270_111, x_270_114, x_270_117, x_270_118, x_270_120, x_270_123, x_270_126, x_270_127, x_270_130, x_270_131, x_270_132, bk_v, bk_n, nl_I, nl_R, nl_L, nl_0, oo_lt, oo_le, oo_eq, oo_add, oo_sub, oo_tn, oo_ir, nn_leT, nn_leF, nn_ltT, nn_ltF, nn_eqT, nn_eqF, bv_0, bv_1, ko_b, ko_1, ko_0, true_and, and_true, if_true, if_false, not_true_eq_false, not_false_eq_true, oo_02, decide_eq_true_eq, decide_eq_false_iff_not, ite_not, Nat.reduceAdd, Nat.reduceLT, Nat.reduceSub, Nat.reduceLeDiff, reduceIte, Bool.true_eq_false, Bool.false_eq_true, reduceCtorEq, eq_self, decide_true, decide_false, bv_t, bv_f, and_self, t_si, t_sl, t_sr, t_sI, t_sR, n_si, n_sl, n_sr, n_sI, n_sR, r_si, r_sl, r_sI, I1, I2, ck1]
            · rw [m1] at I1
              rw [m2] at I2
              rw [m3] at I3
              simp (disch := first | omega | decide | exact ko_b _ | assumption | (simp only [t_si, t_sl, t_sr, t_sI, t_sR, n_si, n_sl, n_sr, n_sI, n_sR, r_si, r_sl, r_sI]; first | done | omega)) only [x_270_e, x_270_b, x_270_89, x_270_90, x_270_91, x_270_93, x_270_96, x_270_99, x_270_100, x_270_102, x_270_105, x_270_108, x_270_109, x_270_111, x_270_114, x_270_117, x_270_118, x_270_120, x_270_123, x_270_126, x_270_127, x_270_130, x_270_131, x_270_132, bk_v, bk_n, nl_I, nl_R, nl_L, nl_0, oo_lt, oo_le, oo_eq, oo_add, oo_sub, oo_tn, oo_ir, nn_leT, nn_leF, nn_ltT, nn_ltF, nn_eqT, nn_eqF, bv_0, bv_1, ko_b, ko_1, ko_0, true_and, and_true, if_true, if_false, not_true_eq_false, not_false_eq_true, oo_02, decide_eq_true_eq, decide_eq_false_iff_not, ite_not, Nat.reduceAdd, Nat.reduceLT, Nat.reduceSub, Nat.reduceLeDiff, reduceIte, Bool.true_eq_false, Bool.false_eq_true, reduceCtorEq, eq_self, decide_true, decide_false, bv_t, bv_f, and_self, t_si, t_sl, t_sr, t_sI, t_sR, n_si, n_sl, n_sr, n_sI, n_sR, r_si, r_sl, r_sI, I1, I2, I3, ck1]
            · rw [m1] at I1
              rw [m2] at I2
              rw [m3] at I3
              rw [m4] at I4
              simp (disch := first | omega | decide | exact ko_b _ | assumption | (simp only [t_si, t_sl, t_sr, t_sI, t_sR, n_si, n_sl, n_sr, n_sI, n_sR, r_si, r_sl, r_sI]; first | done | omega)) only [x_270_e, x_270_b, x_270_89, x_270_90, x_270_91, x_270_93, x_270_96, x_270_99, x_270_100, x_270_102, x_270_105, x_270_108, x_270_109, x_270_111, x_270_114, x_270_117, x_270_118, x_270_120, x_270_123, x_270_126, x_270_127, x_270_130, x_270_131, x_270_132, bk_v, bk_n, nl_I, nl_R, nl_L, nl_0, oo_lt, oo_le, oo_eq, oo_add, oo_sub, oo_tn, oo_ir, nn_leT, nn_leF, nn_ltT, nn_ltF, nn_eqT, nn_eqF, bv_0, bv_1, ko_b, ko_1, ko_0, true_and, and_true, if_true, if_false, not_true_eq_false, not_false_eq_true, oo_02, decide_eq_true_eq, decide_eq_false_iff_not, ite_not, Nat.reduceAdd, Nat.reduceLT, Nat.reduceSub, Nat.reduceLeDiff, reduceIte, Bool.true_eq_false, Bool.false_eq_true, reduceCtorEq, eq_self, decide_true, decide_false, bv_t, bv_f, and_self, t_si, t_sl, t_sr, t_sI, t_sR, n_si, n_sl, n_sr, n_sI, n_sR, r_si, r_sl, r_sI, I1, I2, I3, I4, ck1]
          simp only
          by_cases h10 : tm_n T < 10
          · rw [if_pos h10]
            have X := c_tbl (D := d + 61) (T := T) (by omega) he hr hx
            cases hy : tb_ t T k b with
            | inl e =>
              rw [hy] at X
              refine tz_tx X (kz_rf _ _) hR2 ⟨Nat.le_refl _, Nat.le_refl _, Nat.le_refl _⟩ (fun w1 x q Q => ?_)
              have q : ∀ Q, cl (d + 61) 283 [v_R (some R)] w Q = Q (Sum.inr x) w1 := q
              show wp (d + 62) 270 18 _ _ w Q = _
              rw [pre2]
              simp (disch := first | omega | decide | exact ko_b _ | assumption | (simp only [t_si, t_sl, t_sr, t_sI, t_sR, n_si, n_sl, n_sr, n_sI, n_sR, r_si, r_sl, r_sI]; first | done | omega)) only [x_270_e, x_270_b, x_270_135, x_270_136, x_270_137, x_270_140, x_270_143, x_270_145, x_270_148, x_270_149, x_270_152, x_270_153, x_270_154, x_270_157, x_270_158, x_270_161, x_270_162, x_312_e, x_312_b, x_312_0, x_312_1, x_312_4, bk_v, bk_n, nl_I, nl_R, nl_L, nl_0, oo_lt, oo_le, oo_eq, oo_add, oo_sub, oo_tn, oo_ir, nn_leT, nn_leF, nn_ltT, nn_ltF, nn_eqT, nn_eqF, bv_0, bv_1, ko_b, ko_1, ko_0, true_and, and_true, if_true, if_false, not_true_eq_false, not_false_eq_true, oo_02, decide_eq_true_eq, decide_eq_false_iff_not, ite_not, Nat.reduceAdd, Nat.reduceLT, Nat.reduceSub, Nat.reduceLeDiff, reduceIte, Bool.true_eq_false, Bool.false_eq_true, reduceCtorEq, eq_self, decide_true, decide_false, bv_t, bv_f, and_self, t_si, t_sl, t_sr, t_sI, t_sR, n_si, n_sl, n_sr, n_sI, n_sR, r_si, r_sl, r_sI, hal, ial, h10, ck1, q]
            | inr r =>
              rw [hy] at X
              obtain ⟨u1, N, ⟨f1, e1, r1, ⟨b1, b2, b3⟩, ⟨n1, n2, n3⟩, i0, i1, i2, i3⟩, q1⟩ := X
              have q1 : ∀ Q, cl (d + 61) 283 [v_R (some R)] w Q = Q (Sum.inl (some (v_R (some N)))) u1 := q1
              have m1 := Tn_fk hn f1 t0
              obtain ⟨u2, e2, ⟨m2, k2, z2, z3, z4⟩, q2⟩ := Tn_a (d := d + 55) (T1 := r.1) m1 hT.2.1 (by omega) hk4 ⟨by omega, n2⟩ n3 (tb_x (T1 := r.1) (b1 := r.2) hy) i0 i1 i2 i3
              have q2 : ∀ Q, cl (d + 61) 308 [v_R (some (gm_al G)), v_R (some N)] u1 Q = Q (Sum.inl (some (v_I (Int32.ofNat 1)))) u2 := q2
              have tal1 : w_t u1 (gm_al G) = 36 := m1.1.2.2.2.2.2.2.1
              have ted1 : w_t u1 (gm_ed G) = 5 := m1.1.2.2.2.2.2.2.2.2.2.1
              have yal := m1.2.2.1
              have yed := m1.2.2.2.1
              have hRz := (Ce_z e1).2.1
              have e3 : Ce_ u2 R t := Ce_kp e1 k2 z2 (fun a ha => ⟨by omega, by omega, by omega⟩)
              have r3 : Cr_ u2 R t r.2 := Cr_kp r1 k2 z2 ⟨hRz, by omega, by omega⟩ (fun a ha ht => ⟨ha, fun z => by rw [z] at ht; omega, fun z => by rw [z] at ht; omega⟩)
              refine ⟨u2, gm_a G (tm_n T) N e2, ⟨kz_tr (kz_fk f1 hR2) ⟨z2, kp_mo k2 fun a ha => ⟨by omega, by omega, by omega⟩⟩, e3, r3, ⟨b1, ?_, ?_⟩, m2, rfl⟩, fun Q => ?_⟩
              · show w_z u2 + 12 * b ≤ w_z w + 12 * r.2; omega
              · show w_s u2 + 60 * b ≤ w_s w + 60 * r.2; omega
              · rw [pre2]
                simp (disch := first | omega | decide | exact ko_b _ | assumption | (simp only [t_si, t_sl, t_sr, t_sI, t_sR, n_si, n_sl, n_sr, n_sI, n_sR, r_si, r_sl, r_sI]; first | done | omega)) only [x_270_e, x_270_b, x_270_135, x_270_136, x_270_137, x_270_140, x_270_143, x_270_145, x_270_148, x_270_149, x_270_152, x_270_153, x_270_154, x_270_157, x_270_158, x_270_161, x_270_162, x_270_165, x_270_168, x_312_e, x_312_b, x_312_0, x_312_1, x_312_4, bk_v, bk_n, nl_I, nl_R, nl_L, nl_0, oo_lt, oo_le, oo_eq, oo_add, oo_sub, oo_tn, oo_ir, nn_leT, nn_leF, nn_ltT, nn_ltF, nn_eqT, nn_eqF, bv_0, bv_1, ko_b, ko_1, ko_0, true_and, and_true, if_true, if_false, not_true_eq_false, not_false_eq_true, oo_02, decide_eq_true_eq, decide_eq_false_iff_not, ite_not, Nat.reduceAdd, Nat.reduceLT, Nat.reduceSub, Nat.reduceLeDiff, reduceIte, Bool.true_eq_false, Bool.false_eq_true, reduceCtorEq, eq_self, decide_true, decide_false, bv_t, bv_f, and_self, t_si, t_sl, t_sr, t_sI, t_sR, n_si, n_sl, n_sr, n_sI, n_sR, r_si, r_sl, r_sI, hal, ial, h10, ck1, q1, q2]
          · rw [if_neg h10]
            have ck0 := fun d Q => c_ck0 (d := d) (c := 2) (Q := Q) t0 hr.2.2.1
            refine tz_ty (L2 := fun Q => wp (d + 62) 270 18 [some (v_R (some R)), some (v_R (some (gm_b G)))] [] w Q) ⟨_, _, flt_f he.1 hr (by omega), fun Q => ?_⟩ (kz_rf _ _) hR2 hb (by omega) (by omega) (fun w1 x q Q => q Q)
            show wp (d + 62) 270 18 _ _ w Q = _
            rw [pre2]
            simp (disch := first | omega | decide | exact ko_b _ | assumption | (simp only [t_si, t_sl, t_sr, t_sI, t_sR, n_si, n_sl, n_sr, n_sI, n_sR, r_si, r_sl, r_sI]; first | done | omega)) only [x_270_e, x_270_b, x_270_135, x_270_136, x_270_137, x_270_140, x_270_143, x_270_145, x_270_148, x_270_149, x_270_152, x_270_153, x_270_154, x_312_e, x_312_b, x_312_0, x_312_1, x_312_4, bk_v, bk_n, nl_I, nl_R, nl_L, nl_0, oo_lt, oo_le, oo_eq, oo_add, oo_sub, oo_tn, oo_ir, nn_leT, nn_leF, nn_ltT, nn_ltF, nn_eqT, nn_eqF, bv_0, bv_1, ko_b, ko_1, ko_0, true_and, and_true, if_true, if_false, not_true_eq_false, not_false_eq_true, oo_02, decide_eq_true_eq, decide_eq_false_iff_not, ite_not, Nat.reduceAdd, Nat.reduceLT, Nat.reduceSub, Nat.reduceLeDiff, reduceIte, Bool.true_eq_false, Bool.false_eq_true, reduceCtorEq, eq_self, decide_true, decide_false, bv_t, bv_f, and_self, t_si, t_sl, t_sr, t_sI, t_sR, n_si, n_sl, n_sr, n_sI, n_sR, r_si, r_sl, r_sI, hal, ial, h10, ck0]
end
