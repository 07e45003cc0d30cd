/-! TRIALS, part two: nod, broken, when, without -/
set_option maxRecDepth 100000
theorem s_ss (w : Wd) (a k : Nat) (x y : Int32) : s_i (s_i w a k x) a k y = s_i w a k y := by
  unfold s_i
  have : u_2 (u_2 w.2.2.1 a k x) a k y = u_2 w.2.2.1 a k y := by
    funext b j
    unfold u_2
    by_cases h : b = a ∧ j = k
    · rw [if_pos h, if_pos h]
    · rw [if_neg h, if_neg h, if_neg h]
  simp only [this]
theorem s_id {w : Wd} {a k : Nat} {x : Int32} (h : w_i w a k = x) : s_i w a k x = w := by
  unfold s_i
  have : u_2 w.2.2.1 a k x = w.2.2.1 := by
    funext b j
    unfold u_2
    by_cases e : b = a ∧ j = k
    · rw [if_pos e, e.1, e.2, ← h]; rfl
    · rw [if_neg e]
  rw [this]
theorem lp_fs {σ : Type} (H : Nat → σ → Prop) (K : Option Nat → Prop) (p : Nat → Bool) : ∀ (n k : Nat) (s : σ), (∀ j s, k ≤ j → j < k + n → (p j = true ∧ H j s = K (some j)) ∨ (p j = false ∧ ∃ s1, H j s = H (j + 1) s1)) → (∀ s, H (k + n) s = K none) → H k s = K (ff_ p k n) := by
  intro n
  induction n with
  | zero => intro k s _ e; exact e s
  | succ n ih =>
    intro k s h e
    rw [ff_]
    rcases h k s (Nat.le_refl _) (by omega) with ⟨h1, h2⟩ | ⟨h1, s1, h2⟩
    · rw [if_pos h1, h2]
    · rw [if_neg (by rw [h1]; decide), h2]
      refine ih (k + 1) s1 (fun j s h1 h2 => h j s (by omega) (by omega)) ?_
      rw [show k + 1 + n = k + (n + 1) by omega]
      exact e
/-- the first year ahead that breaks -/
def f_when (T : Tm) (X : Xm) : Option Nat := ff_ (fun k => !f_st T (x_yrs X (xm_y X + Int32.ofNat k))) 0 100
theorem WX_yrs {n : Nat} {X : Xm} {y : Int32} (h : WX_ n X) : WX_ n (x_yrs X y) := h
theorem WX_mea {n t : Nat} {X : Xm} {v : Int32} (h : WX_ n X) : WX_ n (x_mea X t v) := h
theorem add_o (y : Int32) (k : Nat) : y + Int32.ofNat k + Int32.ofNat 1 = y + Int32.ofNat (k + 1) := by rw [Int32.add_assoc, oo_add]
theorem add_00 (y : Int32) : y + Int32.ofNat 0 = y := Int32.add_zero y
theorem add_sb (y x : Int32) : y + x - x = y := Int32.add_sub_cancel y x
section
variable {w : Wd} {S : Sm} {G : Gm} {σ : Nat → Nat}
theorem MS_mea {n t : Nat} {X : Xm} {v : Int32} (h : MS_ w n X) : MS_ (s_i w 1454 t v) n (x_mea X t v) := by
  obtain ⟨h1, h2, h3, h4, h5, h6, h7⟩ := h
  unfold MS_
  simp only [i_si, Nat.reduceEqDiff, false_and, if_false, true_and]
  refine ⟨h1, h2, h3, h4, fun k hk => ?_, h6, h7⟩
  show _ = if k = t then v else xm_m X k
  by_cases e : k = t
  · rw [if_pos e, if_pos e]
  · rw [if_neg e, if_neg e]; exact h5 k hk
theorem MS_yrs {n : Nat} {X : Xm} {v : Int32} (h : MS_ w n X) : MS_ (s_i w 1440 29 v) n (x_yrs X v) := by
  obtain ⟨h1, h2, h3, h4, h5, h6, h7⟩ := h
  unfold MS_
  simp only [i_si, Nat.reduceEqDiff, false_and, and_false, if_false, true_and, and_self, if_true]
  exact ⟨h1, rfl, h3, h4, h5, h6, h7⟩
/-- a state of the model's in a trial -/
theorem MQ_X {T : Tm} {X X1 : Xm} {w1 : Wd} (h : MQ_ w T X) (hf : Fr_ p_st w w1) (hS : MS_ w1 (tm_n T) X1) (hX : WX_ (tm_n T) X1) : MQ_ w1 T X1 := by
  obtain ⟨h1, h2, -, h4, -⟩ := h
  have f6 : ∀ a k, (a ≠ 1440 ∨ k < 28 ∨ 30 < k) ∧ (a < 1453 ∨ 1456 < a) → w_i w1 a k = w_i w a k := fun a k z => hf.2.2.2.2.2 a k (by unfold p_st; omega)
  refine ⟨sh_fr h1 hf, ?_, hS, h4, hX⟩
  unfold MT_ at h2 ⊢
  simp (disch := omega) only [f6]
  exact h2
theorem CS_mea {n t : Nat} {X : Xm} {v : Int32} (h : CS_ w 1429 n X) : CS_ (s_i w 1431 t v) 1429 n (x_mea X t v) := by
  obtain ⟨h1, h2, h3, h4, h5, h6, h7⟩ := h
  unfold CS_
  simp only [i_si, Nat.reduceEqDiff, Nat.reduceAdd, false_and, if_false, true_and] at *
  refine ⟨h1, h2, h3, h4, fun k hk => ?_, h6, h7⟩
  show _ = if k = t then v else xm_m X k
  by_cases e : k = t
  · rw [if_pos e, if_pos e]
  · rw [if_neg e, if_neg e]; exact h5 k hk
theorem CS_yrs {n : Nat} {X : Xm} {v : Int32} (h : CS_ w 1429 n X) : CS_ (s_i w 1429 5 v) 1429 n (x_yrs X v) := by
  obtain ⟨h1, h2, h3, h4, h5, h6, h7⟩ := h
  unfold CS_
  simp only [i_si, Nat.reduceEqDiff, Nat.reduceAdd, false_and, and_false, if_false, true_and, and_self, if_true] at *
  exact ⟨h1, rfl, h3, h4, h5, h6, h7⟩
def tz_ (a _k : Nat) : Prop := 1429 ≤ a ∧ a ≤ 1433
theorem tz_pc {o a k : Nat} (h : tz_ a k) : pc_ o a k := Or.inr (Or.inl h)
theorem tr_q {X : Xm} (h : RC_ w G σ S) (hV : WS_ S) (hS : CS_ w 1429 (tm_n (sm_T S)) X) (hX : WX_ (tm_n (sm_T S)) X) : CQ_ w G 1429 (sm_T S) X := ⟨h.2.2.2.1, h.2.1.2.2.2.2, hS, hV.1, hX⟩
/-- a trial begins -/
theorem c_tr (h : RC_ w G σ S) (hV : WS_ S) {d : Nat} : ∃ w1, Fr_ tz_ w w1 ∧ RC_ w1 G σ S ∧ CS_ w1 1429 (tm_n (sm_T S)) (bm_X (sm_B S)) ∧ ∀ Q, cl d 136 [v_R (some 1429), v_R (some 1008)] w Q = Q (Sum.inl none) w1 := by
  obtain ⟨w1, f1, g1, g2, q1⟩ := c_like (d := d) h.2.1.2.2.2.2 h.2.1.2.1.1 (by omega)
  have hn10 := hV.1.1
  have hL := hV.2.2.2.1.1.1
  exact ⟨w1, f1, RC_fr h hV (fr_mo f1 (fun a k z => tz_pc z)), CS_like (b := 1008) h.2.2.2.2.2.2.2.1.1 (by omega) hn10 g1 g2, q1⟩
theorem RC_tz {w1 : Wd} (h : RC_ w G σ S) (hV : WS_ S) (hf : Fr_ tz_ w w1) : RC_ w1 G σ S := RC_fr h hV (fr_mo hf (fun a k z => tz_pc z))
theorem c_nod2 (h : RC_ w G σ S) (hV : WS_ S) (hS2 : CS_ w 1429 (tm_n (sm_T S)) (bm_X (sm_B S))) {d t : Nat} {x : Int32} {Q : Q_} (ht : t < tm_n (sm_T S)) : wp (d + 12) 85 47 [some (v_R (some 1000)), some (v_I (Int32.ofNat t)), some (v_I x)] [] w Q = Q (Sum.inl (some (v_I (o_i (f_brk (sm_T S) (x_mea (bm_X (sm_B S)) t (xm_m (bm_X (sm_B S)) t + x))))))) (s_i w 1431 t (xm_m (bm_X (sm_B S)) t + x)) := by
  have f1 : Fr_ tz_ w (s_i w 1431 t (xm_m (bm_X (sm_B S)) t + x)) := fr_si (fr_rf _ _) (by unfold tz_; omega)
  have hq1 := tr_q (RC_tz h hV f1) hV (CS_mea (t := t) (v := xm_m (bm_X (sm_B S)) t + x) hS2) (WX_mea hV.2.2.2.1.1)
  have e5 : w_i w 1431 t = xm_m (bm_X (sm_B S)) t := hS2.2.2.2.2.1 t ht
  have hq := RC_CQ h hV
  have hC := h.1
  unfold sh_C at hC
  have hr0 : w_r w 1000 0 = some (gm_b G) := h.2.2.1
  have hT := h.2.2.2.1
  unfold CT_ at hT
  have hA : SO_ w 1008 := h.2.1.2.1.1
  unfold SO_ at hA
  have hA2 : SO_ w 1429 := h.2.1.2.2.2.2
  unfold SO_ at hA2
  have hS : CS_ w 1008 (tm_n (sm_T S)) (bm_X (sm_B S)) := h.2.2.2.2.2.2.2.1.1
  unfold CS_ at hS
  have hK : sh_B w 1007 := h.2.1.1
  unfold sh_B at hK
  have hB := h.2.2.2.2.2.2.2.1.2
  have hR := h.2.2.2.2.2.2.2.2.2
  simp only [Nat.reduceAdd] at hA hA2 hS hK hB
  obtain ⟨hn, hk4⟩ := hV.1
  obtain ⟨hW1, hW2, hW3⟩ := hV.2.2.2.1.1
  simp (disch := first | omega | decide | exact ko_b _ | assumption | (simp only [t_si, t_sl, t_sr, t_sI, t_sR, n_si, n_sl, n_sr, n_sI, n_sR, r_si, r_sl, r_sI]; first | done | omega)) only [x_85_e, x_85_b, x_85_47, x_85_48, x_85_51, x_85_54, x_85_55, x_85_56, x_85_57, x_85_58, x_85_59, x_85_60, x_85_61, x_85_64, x_85_65, x_85_68, x_85_71, bk_v, bk_n, nl_I, nl_R, nl_L, nl_0, oo_lt, oo_le, oo_eq, oo_add, oo_sub, oo_tn, oo_ir, nn_leT, nn_leF, nn_ltT, nn_ltF, nn_eqT, nn_eqF, bv_0, bv_1, ko_b, ko_1, ko_0, true_and, and_true, if_true, if_false, not_true_eq_false, not_false_eq_true, oo_02, decide_eq_true_eq, decide_eq_false_iff_not, ite_not, Nat.reduceAdd, Nat.reduceLT, Nat.reduceSub, Nat.reduceLeDiff, reduceIte, Bool.true_eq_false, Bool.false_eq_true, reduceCtorEq, eq_self, decide_true, decide_false, bv_t, bv_f, and_self, t_si, t_sl, t_sr, t_sI, t_sR, n_si, n_sl, n_sr, n_sI, n_sR, r_si, r_sl, r_sI, hC, hr0, hA2, e5, c_brk hq1]
theorem c_nod (h : RC_ w G σ S) (hV : WS_ S) {d t : Nat} {x : Int32} (ht : t < tm_n (sm_T S)) (hl : (f_lv (bm_X (sm_B S)) t).isNone = false) (hx : Int32.ofNat 0 ≤ x ∧ x ≤ Int32.ofNat 99) : CR_ G (d + 12) 85 [v_R (some 1000), v_I (Int32.ofNat t), v_I x] w (v_I (o_i (f_brk (sm_T S) (x_mea (bm_X (sm_B S)) t (xm_m (bm_X (sm_B S)) t + x))))) := by
  obtain ⟨w1, f1, r1, s1, q1⟩ := c_tr h hV (d := d + 11)
  refine ⟨s_i w1 1431 t (xm_m (bm_X (sm_B S)) t + x), fr_si (fr_mo f1 (fun a k z => tz_pc z)) (by unfold pc_; omega), fun Q => ?_⟩
  refine Eq.trans ?_ (c_nod2 (d := d) r1 hV s1 ht)
  have hb : (o_i (f_lv (bm_X (sm_B S)) t) = Int32.ofInt (-1)) = ((f_lv (bm_X (sm_B S)) t).isNone = true) := oi_m (fun k e => by have := flv_lt e; have := hV.1.1; have := hV.2.2.2.1.1.1; omega)
  have hq := RC_CQ h hV
  have hC := h.1
  unfold sh_C at hC
  have hr0 : w_r w 1000 0 = some (gm_b G) := h.2.2.1
  have hT := h.2.2.2.1
  unfold CT_ at hT
  have hA : SO_ w 1008 := h.2.1.2.1.1
  unfold SO_ at hA
  have hA2 : SO_ w 1429 := h.2.1.2.2.2.2
  unfold SO_ at hA2
  have hS : CS_ w 1008 (tm_n (sm_T S)) (bm_X (sm_B S)) := h.2.2.2.2.2.2.2.1.1
  unfold CS_ at hS
  have hK : sh_B w 1007 := h.2.1.1
  unfold sh_B at hK
  have hB := h.2.2.2.2.2.2.2.1.2
  have hR := h.2.2.2.2.2.2.2.2.2
  simp only [Nat.reduceAdd] at hA hA2 hS hK hB
  obtain ⟨hn, hk4⟩ := hV.1
  obtain ⟨hW1, hW2, hW3⟩ := hV.2.2.2.1.1
  simp (disch := first | omega | decide | exact ko_b _ | assumption | (simp only [t_si, t_sl, t_sr, t_sI, t_sR, n_si, n_sl, n_sr, n_sI, n_sR, r_si, r_sl, r_sI]; first | done | omega)) only [x_85_e, x_85_b, x_85_0, x_85_1, x_85_2, x_85_5, x_85_6, x_85_7, x_85_10, x_85_11, x_85_14, x_85_15, x_85_18, x_85_19, x_85_22, x_85_23, x_85_26, x_85_27, x_85_28, x_85_30, x_85_33, x_85_36, x_85_37, x_85_40, x_85_41, x_85_44, bk_v, bk_n, nl_I, nl_R, nl_L, nl_0, oo_lt, oo_le, oo_eq, oo_add, oo_sub, oo_tn, oo_ir, nn_leT, nn_leF, nn_ltT, nn_ltF, nn_eqT, nn_eqF, bv_0, bv_1, ko_b, ko_1, ko_0, true_and, and_true, if_true, if_false, not_true_eq_false, not_false_eq_true, oo_02, decide_eq_true_eq, decide_eq_false_iff_not, ite_not, Nat.reduceAdd, Nat.reduceLT, Nat.reduceSub, Nat.reduceLeDiff, reduceIte, Bool.true_eq_false, Bool.false_eq_true, reduceCtorEq, eq_self, decide_true, decide_false, bv_t, bv_f, and_self, t_si, t_sl, t_sr, t_sI, t_sR, n_si, n_sl, n_sr, n_sI, n_sR, r_si, r_sl, r_sI, hC, hr0, hT, hA, hS, hK, hB, hR, c_tabAt h hV, c_lv hq, hb, hl, c_th1, c_in, hx, c_ri1, q1]
theorem c_nod_1 (h : RC_ w G σ S) (hV : WS_ S) {d : Nat} {y x : Int32} (hx : no_in y (tm_n (sm_T S)) ∨ ∃ t, t < tm_n (sm_T S) ∧ y = Int32.ofNat t ∧ (f_lv (bm_X (sm_B S)) t).isNone = true) : CX_ G (d + 12) 85 [v_R (some 1000), v_I y, v_I x] w 40 := cx_0 fun Q => by
  have hq := RC_CQ h hV
  have hC := h.1
  unfold sh_C at hC
  have hr0 : w_r w 1000 0 = some (gm_b G) := h.2.2.1
  have hT := h.2.2.2.1
  unfold CT_ at hT
  have hA : SO_ w 1008 := h.2.1.2.1.1
  unfold SO_ at hA
  have hA2 : SO_ w 1429 := h.2.1.2.2.2.2
  unfold SO_ at hA2
  have hS : CS_ w 1008 (tm_n (sm_T S)) (bm_X (sm_B S)) := h.2.2.2.2.2.2.2.1.1
  unfold CS_ at hS
  have hK : sh_B w 1007 := h.2.1.1
  unfold sh_B at hK
  have hB := h.2.2.2.2.2.2.2.1.2
  have hR := h.2.2.2.2.2.2.2.2.2
  simp only [Nat.reduceAdd] at hA hA2 hS hK hB
  obtain ⟨hn, hk4⟩ := hV.1
  obtain ⟨hW1, hW2, hW3⟩ := hV.2.2.2.1.1
  rcases hx with hx | ⟨t, ht, rfl, hl⟩
  · simp (disch := first | omega | decide | exact ko_b _ | assumption | (simp only [t_si, t_sl, t_sr, t_sI, t_sR, n_si, n_sl, n_sr, n_sI, n_sR, r_si, r_sl, r_sI]; first | done | omega)) only [x_85_e, x_85_b, x_85_0, x_85_1, x_85_2, x_85_5, x_85_6, x_85_7, x_85_10, x_85_11, x_85_14, x_85_15, x_85_18, x_85_19, x_85_22, x_85_23, x_85_26, x_85_27, x_85_28, x_85_30, x_85_33, x_85_36, x_85_37, x_85_40, x_85_41, x_85_44, bk_v, bk_n, nl_I, nl_R, nl_L, nl_0, oo_lt, oo_le, oo_eq, oo_add, oo_sub, oo_tn, oo_ir, nn_leT, nn_leF, nn_ltT, nn_ltF, nn_eqT, nn_eqF, bv_0, bv_1, ko_b, ko_1, ko_0, true_and, and_true, if_true, if_false, not_true_eq_false, not_false_eq_true, oo_02, decide_eq_true_eq, decide_eq_false_iff_not, ite_not, Nat.reduceAdd, Nat.reduceLT, Nat.reduceSub, Nat.reduceLeDiff, reduceIte, Bool.true_eq_false, Bool.false_eq_true, reduceCtorEq, eq_self, decide_true, decide_false, bv_t, bv_f, and_self, t_si, t_sl, t_sr, t_sI, t_sR, n_si, n_sl, n_sr, n_sI, n_sR, r_si, r_sl, r_sI, c_tabAt_x h hV hx]
  · have hb : (o_i (f_lv (bm_X (sm_B S)) t) = Int32.ofInt (-1)) = ((f_lv (bm_X (sm_B S)) t).isNone = true) := oi_m (fun k e => by have := flv_lt e; omega)
    simp (disch := first | omega | decide | exact ko_b _ | assumption | (simp only [t_si, t_sl, t_sr, t_sI, t_sR, n_si, n_sl, n_sr, n_sI, n_sR, r_si, r_sl, r_sI]; first | done | omega)) only [x_85_e, x_85_b, x_85_0, x_85_1, x_85_2, x_85_5, x_85_6, x_85_7, x_85_10, x_85_11, x_85_14, x_85_15, x_85_18, x_85_19, x_85_22, x_85_23, x_85_26, x_85_27, x_85_28, x_85_30, x_85_33, x_85_36, x_85_37, x_85_40, x_85_41, x_85_44, bk_v, bk_n, nl_I, nl_R, nl_L, nl_0, oo_lt, oo_le, oo_eq, oo_add, oo_sub, oo_tn, oo_ir, nn_leT, nn_leF, nn_ltT, nn_ltF, nn_eqT, nn_eqF, bv_0, bv_1, ko_b, ko_1, ko_0, true_and, and_true, if_true, if_false, not_true_eq_false, not_false_eq_true, oo_02, decide_eq_true_eq, decide_eq_false_iff_not, ite_not, Nat.reduceAdd, Nat.reduceLT, Nat.reduceSub, Nat.reduceLeDiff, reduceIte, Bool.true_eq_false, Bool.false_eq_true, reduceCtorEq, eq_self, decide_true, decide_false, bv_t, bv_f, and_self, t_si, t_sl, t_sr, t_sI, t_sR, n_si, n_sl, n_sr, n_sI, n_sR, r_si, r_sl, r_sI, hC, hr0, hT, hA, hS, hK, hB, hR, c_tabAt h hV, c_lv hq, hb, hl, c_th0]
theorem c_nod_2 (h : RC_ w G σ S) (hV : WS_ S) {d t : Nat} {x : Int32} (ht : t < tm_n (sm_T S)) (hl : (f_lv (bm_X (sm_B S)) t).isNone = false) (hx : ¬ (Int32.ofNat 0 ≤ x ∧ x ≤ Int32.ofNat 99)) : CX_ G (d + 12) 85 [v_R (some 1000), v_I (Int32.ofNat t), v_I x] w 39 := cx_0 fun Q => by
  have hq := RC_CQ h hV
  have hC := h.1
  unfold sh_C at hC
  have hr0 : w_r w 1000 0 = some (gm_b G) := h.2.2.1
  have hT := h.2.2.2.1
  unfold CT_ at hT
  have hA : SO_ w 1008 := h.2.1.2.1.1
  unfold SO_ at hA
  have hA2 : SO_ w 1429 := h.2.1.2.2.2.2
  unfold SO_ at hA2
  have hS : CS_ w 1008 (tm_n (sm_T S)) (bm_X (sm_B S)) := h.2.2.2.2.2.2.2.1.1
  unfold CS_ at hS
  have hK : sh_B w 1007 := h.2.1.1
  unfold sh_B at hK
  have hB := h.2.2.2.2.2.2.2.1.2
  have hR := h.2.2.2.2.2.2.2.2.2
  simp only [Nat.reduceAdd] at hA hA2 hS hK hB
  obtain ⟨hn, hk4⟩ := hV.1
  obtain ⟨hW1, hW2, hW3⟩ := hV.2.2.2.1.1
  have hb : (o_i (f_lv (bm_X (sm_B S)) t) = Int32.ofInt (-1)) = ((f_lv (bm_X (sm_B S)) t).isNone = true) := oi_m (fun k e => by have := flv_lt e; omega)
  simp (disch := first | omega | decide | exact ko_b _ | assumption | (simp only [t_si, t_sl, t_sr, t_sI, t_sR, n_si, n_sl, n_sr, n_sI, n_sR, r_si, r_sl, r_sI]; first | done | omega)) only [x_85_e, x_85_b, x_85_0, x_85_1, x_85_2, x_85_5, x_85_6, x_85_7, x_85_10, x_85_11, x_85_14, x_85_15, x_85_18, x_85_19, x_85_22, x_85_23, x_85_26, x_85_27, x_85_28, x_85_30, x_85_33, x_85_36, x_85_37, x_85_40, x_85_41, x_85_44, bk_v, bk_n, nl_I, nl_R, nl_L, nl_0, oo_lt, oo_le, oo_eq, oo_add, oo_sub, oo_tn, oo_ir, nn_leT, nn_leF, nn_ltT, nn_ltF, nn_eqT, nn_eqF, bv_0, bv_1, ko_b, ko_1, ko_0, true_and, and_true, if_true, if_false, not_true_eq_false, not_false_eq_true, oo_02, decide_eq_true_eq, decide_eq_false_iff_not, ite_not, Nat.reduceAdd, Nat.reduceLT, Nat.reduceSub, Nat.reduceLeDiff, reduceIte, Bool.true_eq_false, Bool.false_eq_true, reduceCtorEq, eq_self, decide_true, decide_false, bv_t, bv_f, and_self, t_si, t_sl, t_sr, t_sI, t_sR, n_si, n_sl, n_sr, n_sI, n_sR, r_si, r_sl, r_sI, hC, hr0, hT, hA, hS, hK, hB, hR, c_tabAt h hV, c_lv hq, hb, hl, c_th1, c_in, hx, c_ri0]
theorem c_brkn2 (h : RC_ w G σ S) (hV : WS_ S) (hS2 : CS_ w 1429 (tm_n (sm_T S)) (bm_X (sm_B S))) {d : Nat} {x : Int32} {Q : Q_} : wp (d + 12) 89 21 [some (v_R (some 1000)), some (v_I x)] [] w Q = Q (Sum.inl (some (v_I (o_i (f_brk (sm_T S) (x_yrs (bm_X (sm_B S)) (xm_y (bm_X (sm_B S)) + x))))))) (s_i w 1429 5 (xm_y (bm_X (sm_B S)) + x)) := by
  have f1 : Fr_ tz_ w (s_i w 1429 5 (xm_y (bm_X (sm_B S)) + x)) := fr_si (fr_rf _ _) (by unfold tz_; omega)
  have hq1 := tr_q (RC_tz h hV f1) hV (CS_yrs (v := xm_y (bm_X (sm_B S)) + x) hS2) (WX_yrs hV.2.2.2.1.1)
  have e5 : w_i w 1429 5 = xm_y (bm_X (sm_B S)) := hS2.2.1
  have hq := RC_CQ h hV
  have hC := h.1
  unfold sh_C at hC
  have hr0 : w_r w 1000 0 = some (gm_b G) := h.2.2.1
  have hT := h.2.2.2.1
  unfold CT_ at hT
  have hA : SO_ w 1008 := h.2.1.2.1.1
  unfold SO_ at hA
  have hA2 : SO_ w 1429 := h.2.1.2.2.2.2
  unfold SO_ at hA2
  have hS : CS_ w 1008 (tm_n (sm_T S)) (bm_X (sm_B S)) := h.2.2.2.2.2.2.2.1.1
  unfold CS_ at hS
  have hK : sh_B w 1007 := h.2.1.1
  unfold sh_B at hK
  have hB := h.2.2.2.2.2.2.2.1.2
  have hR := h.2.2.2.2.2.2.2.2.2
  simp only [Nat.reduceAdd] at hA hA2 hS hK hB
  obtain ⟨hn, hk4⟩ := hV.1
  obtain ⟨hW1, hW2, hW3⟩ := hV.2.2.2.1.1
  simp (disch := first | omega | decide | exact ko_b _ | assumption | (simp only [t_si, t_sl, t_sr, t_sI, t_sR, n_si, n_sl, n_sr, n_sI, n_sR, r_si, r_sl, r_sI]; first | done | omega)) only [x_89_e, x_89_b, x_89_21, x_89_22, x_89_25, x_89_26, x_89_29, x_89_30, x_89_31, x_89_34, x_89_35, x_89_38, x_89_39, x_89_42, x_89_45, bk_v, bk_n, nl_I, nl_R, nl_L, nl_0, oo_lt, oo_le, oo_eq, oo_add, oo_sub, oo_tn, oo_ir, nn_leT, nn_leF, nn_ltT, nn_ltF, nn_eqT, nn_eqF, bv_0, bv_1, ko_b, ko_1, ko_0, true_and, and_true, if_true, if_false, not_true_eq_false, not_false_eq_true, oo_02, decide_eq_true_eq, decide_eq_false_iff_not, ite_not, Nat.reduceAdd, Nat.reduceLT, Nat.reduceSub, Nat.reduceLeDiff, reduceIte, Bool.true_eq_false, Bool.false_eq_true, reduceCtorEq, eq_self, decide_true, decide_false, bv_t, bv_f, and_self, t_si, t_sl, t_sr, t_sI, t_sR, n_si, n_sl, n_sr, n_sI, n_sR, r_si, r_sl, r_sI, hC, hr0, hA2, e5, c_brk hq1]
theorem c_brkn (h : RC_ w G σ S) (hV : WS_ S) {d : Nat} {x : Int32} (hx : Int32.ofNat 0 ≤ x ∧ x ≤ Int32.ofNat 99) : CR_ G (d + 12) 89 [v_R (some 1000), v_I x] w (v_I (o_i (f_brk (sm_T S) (x_yrs (bm_X (sm_B S)) (xm_y (bm_X (sm_B S)) + x))))) := by
  obtain ⟨w1, f1, r1, s1, q1⟩ := c_tr h hV (d := d + 11)
  refine ⟨s_i w1 1429 5 (xm_y (bm_X (sm_B S)) + x), fr_si (fr_mo f1 (fun a k z => tz_pc z)) (by unfold pc_; omega), fun Q => ?_⟩
  refine Eq.trans ?_ (c_brkn2 (d := d) r1 hV s1)
  have hq := RC_CQ h hV
  have hC := h.1
  unfold sh_C at hC
  have hr0 : w_r w 1000 0 = some (gm_b G) := h.2.2.1
  have hT := h.2.2.2.1
  unfold CT_ at hT
  have hA : SO_ w 1008 := h.2.1.2.1.1
  unfold SO_ at hA
  have hA2 : SO_ w 1429 := h.2.1.2.2.2.2
  unfold SO_ at hA2
  have hS : CS_ w 1008 (tm_n (sm_T S)) (bm_X (sm_B S)) := h.2.2.2.2.2.2.2.1.1
  unfold CS_ at hS
  have hK : sh_B w 1007 := h.2.1.1
  unfold sh_B at hK
  have hB := h.2.2.2.2.2.2.2.1.2
  have hR := h.2.2.2.2.2.2.2.2.2
  simp only [Nat.reduceAdd] at hA hA2 hS hK hB
  obtain ⟨hn, hk4⟩ := hV.1
  obtain ⟨hW1, hW2, hW3⟩ := hV.2.2.2.1.1
  simp (disch := first | omega | decide | exact ko_b _ | assumption | (simp only [t_si, t_sl, t_sr, t_sI, t_sR, n_si, n_sl, n_sr, n_sI, n_sR, r_si, r_sl, r_sI]; first | done | omega)) only [x_89_e, x_89_b, x_89_0, x_89_1, x_89_2, x_89_4, x_89_7, x_89_10, x_89_11, x_89_14, x_89_15, x_89_18, bk_v, bk_n, nl_I, nl_R, nl_L, nl_0, oo_lt, oo_le, oo_eq, oo_add, oo_sub, oo_tn, oo_ir, nn_leT, nn_leF, nn_ltT, nn_ltF, nn_eqT, nn_eqF, bv_0, bv_1, ko_b, ko_1, ko_0, true_and, and_true, if_true, if_false, not_true_eq_false, not_false_eq_true, oo_02, decide_eq_true_eq, decide_eq_false_iff_not, ite_not, Nat.reduceAdd, Nat.reduceLT, Nat.reduceSub, Nat.reduceLeDiff, reduceIte, Bool.true_eq_false, Bool.false_eq_true, reduceCtorEq, eq_self, decide_true, decide_false, bv_t, bv_f, and_self, t_si, t_sl, t_sr, t_sI, t_sR, n_si, n_sl, n_sr, n_sI, n_sR, r_si, r_sl, r_sI, hC, hr0, hT, hA, hS, hK, hB, hR, c_in, hx, c_ri1, q1]
theorem c_brkn_x (h : RC_ w G σ S) (hV : WS_ S) {d : Nat} {x : Int32} (hx : ¬ (Int32.ofNat 0 ≤ x ∧ x ≤ Int32.ofNat 99)) : CX_ G (d + 12) 89 [v_R (some 1000), v_I x] w 39 := cx_0 fun Q => by
  simp (disch := first | omega | decide | exact ko_b _ | assumption | (simp only [t_si, t_sl, t_sr, t_sI, t_sR, n_si, n_sl, n_sr, n_sI, n_sR, r_si, r_sl, r_sI]; first | done | omega)) only [x_89_e, x_89_b, x_89_0, x_89_1, x_89_2, x_89_4, x_89_7, x_89_10, x_89_11, x_89_14, x_89_15, x_89_18, bk_v, bk_n, nl_I, nl_R, nl_L, nl_0, oo_lt, oo_le, oo_eq, oo_add, oo_sub, oo_tn, oo_ir, nn_leT, nn_leF, nn_ltT, nn_ltF, nn_eqT, nn_eqF, bv_0, bv_1, ko_b, ko_1, ko_0, true_and, and_true, if_true, if_false, not_true_eq_false, not_false_eq_true, oo_02, decide_eq_true_eq, decide_eq_false_iff_not, ite_not, Nat.reduceAdd, Nat.reduceLT, Nat.reduceSub, Nat.reduceLeDiff, reduceIte, Bool.true_eq_false, Bool.false_eq_true, reduceCtorEq, eq_self, decide_true, decide_false, bv_t, bv_f, and_self, t_si, t_sl, t_sr, t_sI, t_sR, n_si, n_sl, n_sr, n_sI, n_sR, r_si, r_sl, r_sI, c_in, hx, c_ri0]
theorem c_when2 (h : RC_ w G σ S) (hV : WS_ S) (hS2 : CS_ w 1429 (tm_n (sm_T S)) (bm_X (sm_B S))) {d : Nat} : ∃ w1, Fr_ tz_ w w1 ∧ ∀ Q, wp (d + 12) 45 13 [some (v_R (some 1000)), some (v_I (Int32.ofNat 0))] [] w Q = Q (Sum.inl (some (v_I (o_i (f_when (sm_T S) (bm_X (sm_B S))))))) w1 := by
  refine ⟨s_i w 1429 5 (xm_y (bm_X (sm_B S)) + Int32.ofNat (match f_when (sm_T S) (bm_X (sm_B S)) with | some j => j | none => 100)), fr_si (fr_rf _ _) (by unfold tz_; omega), fun Q => ?_⟩
  have e5 : w_i w 1429 5 = xm_y (bm_X (sm_B S)) := hS2.2.1
  have hlp := lp_fo (fun k => wp (d + 12) 45 13 [some (v_R (some 1000)), some (v_I (Int32.ofNat k))] [] (s_i w 1429 5 (xm_y (bm_X (sm_B S)) + Int32.ofNat k)) Q) (fun o => Q (Sum.inl (some (v_I (o_i o)))) (s_i w 1429 5 (xm_y (bm_X (sm_B S)) + Int32.ofNat (match o with | some j => j | none => 100)))) (fun k => !f_st (sm_T S) (x_yrs (bm_X (sm_B S)) (xm_y (bm_X (sm_B S)) + Int32.ofNat k))) 100 0 (fun k _ hk => ?_) ?_
  · have e0 : s_i w 1429 5 (xm_y (bm_X (sm_B S)) + Int32.ofNat 0) = w := by rw [add_00]; exact s_id e5
    simp only [e0] at hlp
    exact hlp
  · have f1 : Fr_ tz_ w (s_i w 1429 5 (xm_y (bm_X (sm_B S)) + Int32.ofNat k)) := fr_si (fr_rf _ _) (by unfold tz_; omega)
    have hq1 := tr_q (RC_tz h hV f1) hV (CS_yrs (v := xm_y (bm_X (sm_B S)) + Int32.ofNat k) hS2) (WX_yrs hV.2.2.2.1.1)
    have hq := RC_CQ h hV
    have hC := h.1
    unfold sh_C at hC
    have hr0 : w_r w 1000 0 = some (gm_b G) := h.2.2.1
    have hT := h.2.2.2.1
    unfold CT_ at hT
    have hA : SO_ w 1008 := h.2.1.2.1.1
    unfold SO_ at hA
    have hA2 : SO_ w 1429 := h.2.1.2.2.2.2
    unfold SO_ at hA2
    have hS : CS_ w 1008 (tm_n (sm_T S)) (bm_X (sm_B S)) := h.2.2.2.2.2.2.2.1.1
    unfold CS_ at hS
    have hK : sh_B w 1007 := h.2.1.1
    unfold sh_B at hK
    have hB := h.2.2.2.2.2.2.2.1.2
    have hR := h.2.2.2.2.2.2.2.2.2
    simp only [Nat.reduceAdd] at hA hA2 hS hK hB
    obtain ⟨hn, hk4⟩ := hV.1
    obtain ⟨hW1, hW2, hW3⟩ := hV.2.2.2.1.1
    rw [x_45_13]
    cases e : f_st (sm_T S) (x_yrs (bm_X (sm_B S)) (xm_y (bm_X (sm_B S)) + Int32.ofNat k)) with
    | false => simp (disch := first | omega | decide | exact ko_b _ | assumption | (simp only [t_si, t_sl, t_sr, t_sI, t_sR, n_si, n_sl, n_sr, n_sI, n_sR, r_si, r_sl, r_sI]; first | done | omega)) only [x_45_e, x_45_b, x_45_14, x_45_16, x_45_19, x_45_20, x_45_23, x_45_24, x_45_27, x_45_30, x_45_33, x_45_34, x_45_35, x_45_36, x_45_39, x_45_40, x_45_43, x_45_44, x_45_45, x_45_48, x_45_51, x_45_54, x_45_55, bk_v, bk_n, nl_I, nl_R, nl_L, nl_0, oo_lt, oo_le, oo_eq, oo_add, oo_sub, oo_tn, oo_ir, nn_leT, nn_leF, nn_ltT, nn_ltF, nn_eqT, nn_eqF, bv_0, bv_1, ko_b, ko_1, ko_0, true_and, and_true, if_true, if_false, not_true_eq_false, not_false_eq_true, oo_02, decide_eq_true_eq, decide_eq_false_iff_not, ite_not, Nat.reduceAdd, Nat.reduceLT, Nat.reduceSub, Nat.reduceLeDiff, reduceIte, Bool.true_eq_false, Bool.false_eq_true, reduceCtorEq, eq_self, decide_true, decide_false, bv_t, bv_f, and_self, t_si, t_sl, t_sr, t_sI, t_sR, n_si, n_sl, n_sr, n_sI, n_sR, r_si, r_sl, r_sI, hC, hr0, hA2, c_st hq1, i_si, s_ss, add_o, o_i_s, e, Bool.not_false]
    | true => simp (disch := first | omega | decide | exact ko_b _ | assumption | (simp only [t_si, t_sl, t_sr, t_sI, t_sR, n_si, n_sl, n_sr, n_sI, n_sR, r_si, r_sl, r_sI]; first | done | omega)) only [x_45_e, x_45_b, x_45_14, x_45_16, x_45_19, x_45_20, x_45_23, x_45_24, x_45_27, x_45_30, x_45_33, x_45_34, x_45_35, x_45_36, x_45_39, x_45_40, x_45_43, x_45_44, x_45_45, x_45_48, x_45_51, x_45_54, x_45_55, bk_v, bk_n, nl_I, nl_R, nl_L, nl_0, oo_lt, oo_le, oo_eq, oo_add, oo_sub, oo_tn, oo_ir, nn_leT, nn_leF, nn_ltT, nn_ltF, nn_eqT, nn_eqF, bv_0, bv_1, ko_b, ko_1, ko_0, true_and, and_true, if_true, if_false, not_true_eq_false, not_false_eq_true, oo_02, decide_eq_true_eq, decide_eq_false_iff_not, ite_not, Nat.reduceAdd, Nat.reduceLT, Nat.reduceSub, Nat.reduceLeDiff, reduceIte, Bool.true_eq_false, Bool.false_eq_true, reduceCtorEq, eq_self, decide_true, decide_false, bv_t, bv_f, and_self, t_si, t_sl, t_sr, t_sI, t_sR, n_si, n_sl, n_sr, n_sI, n_sR, r_si, r_sl, r_sI, hC, hr0, hA2, c_st hq1, i_si, s_ss, add_o, o_i_s, e, Bool.not_true]
  · rw [x_45_13]
    simp (disch := first | omega | decide | exact ko_b _ | assumption | (simp only [t_si, t_sl, t_sr, t_sI, t_sR, n_si, n_sl, n_sr, n_sI, n_sR, r_si, r_sl, r_sI]; first | done | omega)) only [x_45_e, x_45_b, x_45_14, x_45_16, x_45_19, x_45_20, x_45_23, x_45_24, x_45_27, x_45_30, x_45_33, x_45_34, x_45_35, x_45_36, x_45_39, x_45_40, x_45_43, x_45_44, x_45_45, x_45_48, x_45_51, x_45_54, x_45_55, bk_v, bk_n, nl_I, nl_R, nl_L, nl_0, oo_lt, oo_le, oo_eq, oo_add, oo_sub, oo_tn, oo_ir, nn_leT, nn_leF, nn_ltT, nn_ltF, nn_eqT, nn_eqF, bv_0, bv_1, ko_b, ko_1, ko_0, true_and, and_true, if_true, if_false, not_true_eq_false, not_false_eq_true, oo_02, decide_eq_true_eq, decide_eq_false_iff_not, ite_not, Nat.reduceAdd, Nat.reduceLT, Nat.reduceSub, Nat.reduceLeDiff, reduceIte, Bool.true_eq_false, Bool.false_eq_true, reduceCtorEq, eq_self, decide_true, decide_false, bv_t, bv_f, and_self, t_si, t_sl, t_sr, t_sI, t_sR, n_si, n_sl, n_sr, n_sI, n_sR, r_si, r_sl, r_sI, o_i_n]
theorem c_when (h : RC_ w G σ S) (hV : WS_ S) {d : Nat} : CR_ G (d + 12) 45 [v_R (some 1000)] w (v_I (o_i (f_when (sm_T S) (bm_X (sm_B S))))) := by
  obtain ⟨w1, f1, r1, s1, q1⟩ := c_tr h hV (d := d + 11)
  obtain ⟨w2, f2, q2⟩ := c_when2 (d := d) r1 hV s1
  refine ⟨w2, fr_mo (fr_tr f1 f2) (fun a k z => tz_pc z), fun Q => ?_⟩
  rw [← q2 Q]
  have hq := RC_CQ h hV
  have hC := h.1
  unfold sh_C at hC
  have hr0 : w_r w 1000 0 = some (gm_b G) := h.2.2.1
  have hT := h.2.2.2.1
  unfold CT_ at hT
  have hA : SO_ w 1008 := h.2.1.2.1.1
  unfold SO_ at hA
  have hA2 : SO_ w 1429 := h.2.1.2.2.2.2
  unfold SO_ at hA2
  have hS : CS_ w 1008 (tm_n (sm_T S)) (bm_X (sm_B S)) := h.2.2.2.2.2.2.2.1.1
  unfold CS_ at hS
  have hK : sh_B w 1007 := h.2.1.1
  unfold sh_B at hK
  have hB := h.2.2.2.2.2.2.2.1.2
  have hR := h.2.2.2.2.2.2.2.2.2
  simp only [Nat.reduceAdd] at hA hA2 hS hK hB
  obtain ⟨hn, hk4⟩ := hV.1
  obtain ⟨hW1, hW2, hW3⟩ := hV.2.2.2.1.1
  simp (disch := first | omega | decide | exact ko_b _ | assumption | (simp only [t_si, t_sl, t_sr, t_sI, t_sR, n_si, n_sl, n_sr, n_sI, n_sR, r_si, r_sl, r_sI]; first | done | omega)) only [x_45_e, x_45_b, x_45_0, x_45_1, x_45_4, x_45_5, x_45_8, x_45_11, x_45_12, bk_v, bk_n, nl_I, nl_R, nl_L, nl_0, oo_lt, oo_le, oo_eq, oo_add, oo_sub, oo_tn, oo_ir, nn_leT, nn_leF, nn_ltT, nn_ltF, nn_eqT, nn_eqF, bv_0, bv_1, ko_b, ko_1, ko_0, true_and, and_true, if_true, if_false, not_true_eq_false, not_false_eq_true, oo_02, decide_eq_true_eq, decide_eq_false_iff_not, ite_not, Nat.reduceAdd, Nat.reduceLT, Nat.reduceSub, Nat.reduceLeDiff, reduceIte, Bool.true_eq_false, Bool.false_eq_true, reduceCtorEq, eq_self, decide_true, decide_false, bv_t, bv_f, and_self, t_si, t_sl, t_sr, t_sI, t_sR, n_si, n_sl, n_sr, n_sI, n_sR, r_si, r_sl, r_sI, hC, hr0, hT, hA, hS, hK, hB, hR, q1]
theorem c_wout (h : RC_ w G σ S) (hV : WS_ S) {d t l : Nat} (ht : t < tm_n (sm_T S)) (hf : f_lv (bm_X (sm_B S)) t = some l) : CR_ G (d + 12) 79 [v_R (some 1000), v_I (Int32.ofNat t)] w (v_I (b_v (f_st (sm_T S) (x_take (bm_X (sm_B S)) l)))) := by
  obtain ⟨w1, f1, r1, s1, q1⟩ := c_tr h hV (d := d + 11)
  have hX := hV.2.2.2.1.1
  have hn10 := hV.1.1
  have hl := flv_lt hf
  have hLn := hX.1
  obtain ⟨w2, f2, s2, q2⟩ := c_takes (d := d + 11) r1.2.1.2.2.2.2 s1 hX hn10 hl
  have f2 : Fr_ tz_ w1 w2 := f2
  have hq2 := tr_q (RC_tz r1 hV f2) hV s2 (WX_take hX hl)
  refine ⟨w2, fr_mo (fr_tr f1 f2) (fun a k z => tz_pc z), fun Q => ?_⟩
  have hb := oi_s1 (by omega : l < 2147483648)
  have c1 : w_t w1 1000 = 20 := r1.1.1
  have c2 : w_r w1 1000 4 = some 1429 := r1.1.2.2.2.2.1
  have c3 : w_t w1 1429 = 24 := r1.2.1.2.2.2.2.1
  have d1 : w_t w2 1000 = 20 := by rw [f2.1]; exact c1
  have d2 : w_r w2 1000 4 = some 1429 := by rw [f2.2.2.1]; exact c2
  have d3 : w_t w2 1429 = 24 := by rw [f2.1]; exact c3
  have d4 : w_r w2 1000 0 = some (gm_b G) := by rw [f2.2.2.1]; exact r1.2.2.1
  have hq := RC_CQ h hV
  have hC := h.1
  unfold sh_C at hC
  have hr0 : w_r w 1000 0 = some (gm_b G) := h.2.2.1
  have hT := h.2.2.2.1
  unfold CT_ at hT
  have hA : SO_ w 1008 := h.2.1.2.1.1
  unfold SO_ at hA
  have hA2 : SO_ w 1429 := h.2.1.2.2.2.2
  unfold SO_ at hA2
  have hS : CS_ w 1008 (tm_n (sm_T S)) (bm_X (sm_B S)) := h.2.2.2.2.2.2.2.1.1
  unfold CS_ at hS
  have hK : sh_B w 1007 := h.2.1.1
  unfold sh_B at hK
  have hB := h.2.2.2.2.2.2.2.1.2
  have hR := h.2.2.2.2.2.2.2.2.2
  simp only [Nat.reduceAdd] at hA hA2 hS hK hB
  obtain ⟨hn, hk4⟩ := hV.1
  obtain ⟨hW1, hW2, hW3⟩ := hV.2.2.2.1.1
  simp (disch := first | omega | decide | exact ko_b _ | assumption | (simp only [t_si, t_sl, t_sr, t_sI, t_sR, n_si, n_sl, n_sr, n_sI, n_sR, r_si, r_sl, r_sI]; first | done | omega)) only [x_79_e, x_79_b, x_79_0, x_79_1, x_79_2, x_79_5, x_79_6, x_79_7, x_79_10, x_79_11, x_79_14, x_79_15, x_79_16, x_79_17, x_79_20, x_79_21, x_79_22, x_79_23, x_79_26, x_79_27, x_79_30, x_79_33, x_79_34, x_79_37, x_79_38, x_79_41, x_79_42, x_79_45, x_79_46, x_79_49, x_79_52, bk_v, bk_n, nl_I, nl_R, nl_L, nl_0, oo_lt, oo_le, oo_eq, oo_add, oo_sub, oo_tn, oo_ir, nn_leT, nn_leF, nn_ltT, nn_ltF, nn_eqT, nn_eqF, bv_0, bv_1, ko_b, ko_1, ko_0, true_and, and_true, if_true, if_false, not_true_eq_false, not_false_eq_true, oo_02, decide_eq_true_eq, decide_eq_false_iff_not, ite_not, Nat.reduceAdd, Nat.reduceLT, Nat.reduceSub, Nat.reduceLeDiff, reduceIte, Bool.true_eq_false, Bool.false_eq_true, reduceCtorEq, eq_self, decide_true, decide_false, bv_t, bv_f, and_self, t_si, t_sl, t_sr, t_sI, t_sR, n_si, n_sl, n_sr, n_sI, n_sR, r_si, r_sl, r_sI, hC, hr0, hT, hA, hS, hK, hB, hR, c_tabAt h hV, c_lv hq, hf, o_i_s, hb, q1, c2, q2, d2, d4, c_st hq2]
theorem c_wout_no (h : RC_ w G σ S) (hV : WS_ S) {d t : Nat} (ht : t < tm_n (sm_T S)) (hf : f_lv (bm_X (sm_B S)) t = none) : CR_ G (d + 12) 79 [v_R (some 1000), v_I (Int32.ofNat t)] w (v_I (b_v false)) := cr_0 fun Q => by
  have hq := RC_CQ h hV
  have hC := h.1
  unfold sh_C at hC
  have hr0 : w_r w 1000 0 = some (gm_b G) := h.2.2.1
  have hT := h.2.2.2.1
  unfold CT_ at hT
  have hA : SO_ w 1008 := h.2.1.2.1.1
  unfold SO_ at hA
  have hA2 : SO_ w 1429 := h.2.1.2.2.2.2
  unfold SO_ at hA2
  have hS : CS_ w 1008 (tm_n (sm_T S)) (bm_X (sm_B S)) := h.2.2.2.2.2.2.2.1.1
  unfold CS_ at hS
  have hK : sh_B w 1007 := h.2.1.1
  unfold sh_B at hK
  have hB := h.2.2.2.2.2.2.2.1.2
  have hR := h.2.2.2.2.2.2.2.2.2
  simp only [Nat.reduceAdd] at hA hA2 hS hK hB
  obtain ⟨hn, hk4⟩ := hV.1
  obtain ⟨hW1, hW2, hW3⟩ := hV.2.2.2.1.1
  simp (disch := first | omega | decide | exact ko_b _ | assumption | (simp only [t_si, t_sl, t_sr, t_sI, t_sR, n_si, n_sl, n_sr, n_sI, n_sR, r_si, r_sl, r_sI]; first | done | omega)) only [x_79_e, x_79_b, x_79_0, x_79_1, x_79_2, x_79_5, x_79_6, x_79_7, x_79_10, x_79_11, x_79_14, x_79_15, x_79_16, x_79_17, x_79_20, x_79_21, x_79_22, x_79_23, x_79_26, x_79_27, x_79_30, x_79_33, x_79_34, x_79_37, x_79_38, x_79_41, x_79_42, x_79_45, x_79_46, x_79_49, x_79_52, bk_v, bk_n, nl_I, nl_R, nl_L, nl_0, oo_lt, oo_le, oo_eq, oo_add, oo_sub, oo_tn, oo_ir, nn_leT, nn_leF, nn_ltT, nn_ltF, nn_eqT, nn_eqF, bv_0, bv_1, ko_b, ko_1, ko_0, true_and, and_true, if_true, if_false, not_true_eq_false, not_false_eq_true, oo_02, decide_eq_true_eq, decide_eq_false_iff_not, ite_not, Nat.reduceAdd, Nat.reduceLT, Nat.reduceSub, Nat.reduceLeDiff, reduceIte, Bool.true_eq_false, Bool.false_eq_true, reduceCtorEq, eq_self, decide_true, decide_false, bv_t, bv_f, and_self, t_si, t_sl, t_sr, t_sI, t_sR, n_si, n_sl, n_sr, n_sI, n_sR, r_si, r_sl, r_sI, hC, hr0, hT, hA, hS, hK, hB, hR, c_tabAt h hV, c_lv hq, hf, o_i_n]
theorem c_wout_y (h : RC_ w G σ S) (hV : WS_ S) {d : Nat} {y : Int32} (hx : no_in y (tm_n (sm_T S))) : CX_ G (d + 12) 79 [v_R (some 1000), v_I y] w 40 := cx_0 fun Q => by
  have hq := RC_CQ h hV
  have hC := h.1
  unfold sh_C at hC
  have hr0 : w_r w 1000 0 = some (gm_b G) := h.2.2.1
  have hT := h.2.2.2.1
  unfold CT_ at hT
  have hA : SO_ w 1008 := h.2.1.2.1.1
  unfold SO_ at hA
  have hA2 : SO_ w 1429 := h.2.1.2.2.2.2
  unfold SO_ at hA2
  have hS : CS_ w 1008 (tm_n (sm_T S)) (bm_X (sm_B S)) := h.2.2.2.2.2.2.2.1.1
  unfold CS_ at hS
  have hK : sh_B w 1007 := h.2.1.1
  unfold sh_B at hK
  have hB := h.2.2.2.2.2.2.2.1.2
  have hR := h.2.2.2.2.2.2.2.2.2
  simp only [Nat.reduceAdd] at hA hA2 hS hK hB
  obtain ⟨hn, hk4⟩ := hV.1
  obtain ⟨hW1, hW2, hW3⟩ := hV.2.2.2.1.1
  simp (disch := first | omega | decide | exact ko_b _ | assumption | (simp only [t_si, t_sl, t_sr, t_sI, t_sR, n_si, n_sl, n_sr, n_sI, n_sR, r_si, r_sl, r_sI]; first | done | omega)) only [x_79_e, x_79_b, x_79_0, x_79_1, x_79_2, x_79_5, x_79_6, x_79_7, x_79_10, x_79_11, x_79_14, x_79_15, x_79_16, x_79_17, x_79_20, x_79_21, x_79_22, x_79_23, x_79_26, x_79_27, x_79_30, x_79_33, x_79_34, x_79_37, x_79_38, x_79_41, x_79_42, x_79_45, x_79_46, x_79_49, x_79_52, bk_v, bk_n, nl_I, nl_R, nl_L, nl_0, oo_lt, oo_le, oo_eq, oo_add, oo_sub, oo_tn, oo_ir, nn_leT, nn_leF, nn_ltT, nn_ltF, nn_eqT, nn_eqF, bv_0, bv_1, ko_b, ko_1, ko_0, true_and, and_true, if_true, if_false, not_true_eq_false, not_false_eq_true, oo_02, decide_eq_true_eq, decide_eq_false_iff_not, ite_not, Nat.reduceAdd, Nat.reduceLT, Nat.reduceSub, Nat.reduceLeDiff, reduceIte, Bool.true_eq_false, Bool.false_eq_true, reduceCtorEq, eq_self, decide_true, decide_false, bv_t, bv_f, and_self, t_si, t_sl, t_sr, t_sI, t_sR, n_si, n_sl, n_sr, n_sI, n_sR, r_si, r_sl, r_sI, c_tabAt_x h hV hx]
/-! the model's halves -/
theorem m_nod (h9 : RM_ w S) (hV : WS_ S) {d t : Nat} {x : Int32} (ht : t < tm_n (sm_T S)) (hl : (f_lv (bm_X (sm_B S)) t).isNone = false) (hx : Int32.ofNat 0 ≤ x ∧ x ≤ Int32.ofNat 99) : MR_ (d + 6) 237 [v_R (some 1440), v_I (Int32.ofNat t), v_I x] w (v_I (o_i (f_brk (sm_T S) (x_mea (bm_X (sm_B S)) t (xm_m (bm_X (sm_B S)) t + x))))) 0 := by
  refine mr_go (ls := [some (v_R (some 1440)), some (v_I (Int32.ofNat t)), some (v_I x), none]) (fun Q => ?_) (fun w0 hf hc => mr_0 hc (fun Q => ?_))
  · have h := h9
    have hq := RM_MQ h hV
    have hMM := hq
    obtain ⟨hM, hT, hS, ⟨hn, hk4⟩, hW1, hW2, hW3⟩ := hMM
    unfold sh_M at hM
    unfold MT_ at hT
    unfold MS_ at hS
    have hB := h.2.2.1.2
    unfold PK_ at hB
    have hR := h.2.2.2
    simp (disch := first | omega | decide | exact ko_b _ | assumption | (simp only [t_si, t_sl, t_sr, t_sI, t_sR, n_si, n_sl, n_sr, n_sI, n_sR, r_si, r_sl, r_sI]; first | done | omega)) only [x_237_e, x_237_b, x_237_0, x_237_1, x_237_2, x_237_6, x_237_7, x_237_10, x_237_13, x_237_14, x_237_15, x_237_18, x_237_19, x_237_22, x_237_23, x_237_24, x_237_27, x_237_28, x_237_29, x_237_30, x_237_31, x_237_34, x_237_37, x_237_40, x_237_41, x_237_42, x_237_45, x_237_46, x_237_47, x_237_50, x_237_51, x_237_52, x_237_53, x_237_54, x_237_55, x_237_56, x_237_57, x_237_60, x_237_61, x_237_62, x_237_65, x_237_66, x_237_67, x_237_68, x_237_69, x_237_70, x_237_71, x_237_72, bk_v, bk_n, nl_I, nl_R, nl_L, nl_0, oo_lt, oo_le, oo_eq, oo_add, oo_sub, oo_tn, oo_ir, nn_leT, nn_leF, nn_ltT, nn_ltF, nn_eqT, nn_eqF, bv_0, bv_1, ko_b, ko_1, ko_0, true_and, and_true, if_true, if_false, not_true_eq_false, not_false_eq_true, oo_02, decide_eq_true_eq, decide_eq_false_iff_not, ite_not, Nat.reduceAdd, Nat.reduceLT, Nat.reduceSub, Nat.reduceLeDiff, reduceIte, Bool.true_eq_false, Bool.false_eq_true, reduceCtorEq, eq_self, decide_true, decide_false, bv_t, bv_f, and_self, t_si, t_sl, t_sr, t_sI, t_sR, n_si, n_sl, n_sr, n_sI, n_sR, r_si, r_sl, r_sI, hM, hT, hS, hB, hR]
  · have h := RM_fr h9 hV hf
    have hq1 : MQ_ (s_i w0 1454 t (xm_m (bm_X (sm_B S)) t + x)) (sm_T S) (x_mea (bm_X (sm_B S)) t (xm_m (bm_X (sm_B S)) t + x)) := MQ_X (RM_MQ h hV) (fr_si (fr_rf _ _) (by unfold p_st; omega)) (MS_mea (RM_MQ h hV).2.2.1) (WX_mea hV.2.2.2.1.1)
    have hq := RM_MQ h hV
    have hMM := hq
    obtain ⟨hM, hT, hS, ⟨hn, hk4⟩, hW1, hW2, hW3⟩ := hMM
    unfold sh_M at hM
    unfold MT_ at hT
    unfold MS_ at hS
    have hB := h.2.2.1.2
    unfold PK_ at hB
    have hR := h.2.2.2
    have hy := oo_yes ht (by omega)
    have hb : (o_i (f_lv (bm_X (sm_B S)) t) = Int32.ofInt (-1)) = ((f_lv (bm_X (sm_B S)) t).isNone = true) := oi_m (fun k e => by have := flv_lt e; omega)
    have e5 : w_i w0 1454 t = xm_m (bm_X (sm_B S)) t := hS.2.2.2.2.1 t ht
    have e6 := s_id e5
    simp (disch := first | omega | decide | exact ko_b _ | assumption | (simp only [t_si, t_sl, t_sr, t_sI, t_sR, n_si, n_sl, n_sr, n_sI, n_sR, r_si, r_sl, r_sI]; first | done | omega)) only [x_237_e, x_237_b, x_237_0, x_237_1, x_237_2, x_237_5, x_237_6, x_237_7, x_237_10, x_237_13, x_237_14, x_237_15, x_237_18, x_237_19, x_237_22, x_237_23, x_237_24, x_237_27, x_237_28, x_237_29, x_237_30, x_237_31, x_237_34, x_237_37, x_237_40, x_237_41, x_237_42, x_237_45, x_237_46, x_237_47, x_237_50, x_237_51, x_237_52, x_237_53, x_237_54, x_237_55, x_237_56, x_237_57, x_237_60, x_237_61, x_237_62, x_237_65, x_237_66, x_237_67, x_237_68, x_237_69, x_237_70, x_237_71, x_237_72, bk_v, bk_n, nl_I, nl_R, nl_L, nl_0, oo_lt, oo_le, oo_eq, oo_add, oo_sub, oo_tn, oo_ir, nn_leT, nn_leF, nn_ltT, nn_ltF, nn_eqT, nn_eqF, bv_0, bv_1, ko_b, ko_1, ko_0, true_and, and_true, if_true, if_false, not_true_eq_false, not_false_eq_true, oo_02, decide_eq_true_eq, decide_eq_false_iff_not, ite_not, Nat.reduceAdd, Nat.reduceLT, Nat.reduceSub, Nat.reduceLeDiff, reduceIte, Bool.true_eq_false, Bool.false_eq_true, reduceCtorEq, eq_self, decide_true, decide_false, bv_t, bv_f, and_self, t_si, t_sl, t_sr, t_sI, t_sR, n_si, n_sl, n_sr, n_sI, n_sR, r_si, r_sl, r_sI, hM, hT, hS, hB, hR, m_isT h hV, hy, m_lv hq, hb, hl, m_in, ll_o, ll_le, hx, m_brk hq1, i_si, add_sb, s_ss, e6]
theorem m_nod_1 (h9 : RM_ w S) (hV : WS_ S) {d : Nat} {y x : Int32} (hx : no_in y (tm_n (sm_T S)) ∨ ∃ t, t < tm_n (sm_T S) ∧ y = Int32.ofNat t ∧ (f_lv (bm_X (sm_B S)) t).isNone = true) : MR_ (d + 6) 237 [v_R (some 1440), v_I y, v_I x] w (v_I (Int32.ofNat 0)) 1 := by
  refine mr_go (ls := [some (v_R (some 1440)), some (v_I y), some (v_I x), none]) (fun Q => ?_) (fun w0 hf hc => mr_f (fun Q => ?_))
  · have h := h9
    have hq := RM_MQ h hV
    have hMM := hq
    obtain ⟨hM, hT, hS, ⟨hn, hk4⟩, hW1, hW2, hW3⟩ := hMM
    unfold sh_M at hM
    unfold MT_ at hT
    unfold MS_ at hS
    have hB := h.2.2.1.2
    unfold PK_ at hB
    have hR := h.2.2.2
    simp (disch := first | omega | decide | exact ko_b _ | assumption | (simp only [t_si, t_sl, t_sr, t_sI, t_sR, n_si, n_sl, n_sr, n_sI, n_sR, r_si, r_sl, r_sI]; first | done | omega)) only [x_237_e, x_237_b, x_237_0, x_237_1, x_237_2, x_237_6, x_237_7, x_237_10, x_237_13, x_237_14, x_237_15, x_237_18, x_237_19, x_237_22, x_237_23, x_237_24, x_237_27, x_237_28, x_237_29, x_237_30, x_237_31, x_237_34, x_237_37, x_237_40, x_237_41, x_237_42, x_237_45, x_237_46, x_237_47, x_237_50, x_237_51, x_237_52, x_237_53, x_237_54, x_237_55, x_237_56, x_237_57, x_237_60, x_237_61, x_237_62, x_237_65, x_237_66, x_237_67, x_237_68, x_237_69, x_237_70, x_237_71, x_237_72, bk_v, bk_n, nl_I, nl_R, nl_L, nl_0, oo_lt, oo_le, oo_eq, oo_add, oo_sub, oo_tn, oo_ir, nn_leT, nn_leF, nn_ltT, nn_ltF, nn_eqT, nn_eqF, bv_0, bv_1, ko_b, ko_1, ko_0, true_and, and_true, if_true, if_false, not_true_eq_false, not_false_eq_true, oo_02, decide_eq_true_eq, decide_eq_false_iff_not, ite_not, Nat.reduceAdd, Nat.reduceLT, Nat.reduceSub, Nat.reduceLeDiff, reduceIte, Bool.true_eq_false, Bool.false_eq_true, reduceCtorEq, eq_self, decide_true, decide_false, bv_t, bv_f, and_self, t_si, t_sl, t_sr, t_sI, t_sR, n_si, n_sl, n_sr, n_sI, n_sR, r_si, r_sl, r_sI, hM, hT, hS, hB, hR]
  · have h := RM_fr h9 hV hf
    have hq := RM_MQ h hV
    have hMM := hq
    obtain ⟨hM, hT, hS, ⟨hn, hk4⟩, hW1, hW2, hW3⟩ := hMM
    unfold sh_M at hM
    unfold MT_ at hT
    unfold MS_ at hS
    have hB := h.2.2.1.2
    unfold PK_ at hB
    have hR := h.2.2.2
    have hM0 := hM.1
    rcases hx with hx | ⟨t, ht, rfl, hl⟩
    · have hy := decide_eq_false (oo_no (by omega) hx)
      simp (disch := first | omega | decide | exact ko_b _ | assumption | (simp only [t_si, t_sl, t_sr, t_sI, t_sR, n_si, n_sl, n_sr, n_sI, n_sR, r_si, r_sl, r_sI]; first | done | omega)) only [x_237_e, x_237_b, x_237_0, x_237_1, x_237_2, x_237_5, x_237_6, x_237_7, x_237_10, x_237_13, x_237_14, x_237_15, x_237_18, x_237_19, x_237_22, x_237_23, x_237_24, x_237_27, x_237_28, x_237_29, x_237_30, x_237_31, x_237_34, x_237_37, x_237_40, x_237_41, x_237_42, x_237_45, x_237_46, x_237_47, x_237_50, x_237_51, x_237_52, x_237_53, x_237_54, x_237_55, x_237_56, x_237_57, x_237_60, x_237_61, x_237_62, x_237_65, x_237_66, x_237_67, x_237_68, x_237_69, x_237_70, x_237_71, x_237_72, bk_v, bk_n, nl_I, nl_R, nl_L, nl_0, oo_lt, oo_le, oo_eq, oo_add, oo_sub, oo_tn, oo_ir, nn_leT, nn_leF, nn_ltT, nn_ltF, nn_eqT, nn_eqF, bv_0, bv_1, ko_b, ko_1, ko_0, true_and, and_true, if_true, if_false, not_true_eq_false, not_false_eq_true, oo_02, decide_eq_true_eq, decide_eq_false_iff_not, ite_not, Nat.reduceAdd, Nat.reduceLT, Nat.reduceSub, Nat.reduceLeDiff, reduceIte, Bool.true_eq_false, Bool.false_eq_true, reduceCtorEq, eq_self, decide_true, decide_false, bv_t, bv_f, and_self, t_si, t_sl, t_sr, t_sI, t_sR, n_si, n_sl, n_sr, n_sI, n_sR, r_si, r_sl, r_sI, hM, hT, hS, hB, hR, m_isT h hV, hy, m_fail hM0]
    · have hy := oo_yes ht (by omega)
      have hb : (o_i (f_lv (bm_X (sm_B S)) t) = Int32.ofInt (-1)) = ((f_lv (bm_X (sm_B S)) t).isNone = true) := oi_m (fun k e => by have := flv_lt e; omega)
      simp (disch := first | omega | decide | exact ko_b _ | assumption | (simp only [t_si, t_sl, t_sr, t_sI, t_sR, n_si, n_sl, n_sr, n_sI, n_sR, r_si, r_sl, r_sI]; first | done | omega)) only [x_237_e, x_237_b, x_237_0, x_237_1, x_237_2, x_237_5, x_237_6, x_237_7, x_237_10, x_237_13, x_237_14, x_237_15, x_237_18, x_237_19, x_237_22, x_237_23, x_237_24, x_237_27, x_237_28, x_237_29, x_237_30, x_237_31, x_237_34, x_237_37, x_237_40, x_237_41, x_237_42, x_237_45, x_237_46, x_237_47, x_237_50, x_237_51, x_237_52, x_237_53, x_237_54, x_237_55, x_237_56, x_237_57, x_237_60, x_237_61, x_237_62, x_237_65, x_237_66, x_237_67, x_237_68, x_237_69, x_237_70, x_237_71, x_237_72, bk_v, bk_n, nl_I, nl_R, nl_L, nl_0, oo_lt, oo_le, oo_eq, oo_add, oo_sub, oo_tn, oo_ir, nn_leT, nn_leF, nn_ltT, nn_ltF, nn_eqT, nn_eqF, bv_0, bv_1, ko_b, ko_1, ko_0, true_and, and_true, if_true, if_false, not_true_eq_false, not_false_eq_true, oo_02, decide_eq_true_eq, decide_eq_false_iff_not, ite_not, Nat.reduceAdd, Nat.reduceLT, Nat.reduceSub, Nat.reduceLeDiff, reduceIte, Bool.true_eq_false, Bool.false_eq_true, reduceCtorEq, eq_self, decide_true, decide_false, bv_t, bv_f, and_self, t_si, t_sl, t_sr, t_sI, t_sR, n_si, n_sl, n_sr, n_sI, n_sR, r_si, r_sl, r_sI, hM, hT, hS, hB, hR, m_isT h hV, hy, m_lv hq, hb, hl, m_fail hM0]
theorem m_nod_2 (h9 : RM_ w S) (hV : WS_ S) {d t : Nat} {x : Int32} (ht : t < tm_n (sm_T S)) (hl : (f_lv (bm_X (sm_B S)) t).isNone = false) (hx : ¬ (Int32.ofNat 0 ≤ x ∧ x ≤ Int32.ofNat 99)) : MR_ (d + 6) 237 [v_R (some 1440), v_I (Int32.ofNat t), v_I x] w (v_I (Int32.ofNat 0)) 2 := by
  refine mr_go (ls := [some (v_R (some 1440)), some (v_I (Int32.ofNat t)), some (v_I x), none]) (fun Q => ?_) (fun w0 hf hc => mr_f (fun Q => ?_))
  · have h := h9
    have hq := RM_MQ h hV
    have hMM := hq
    obtain ⟨hM, hT, hS, ⟨hn, hk4⟩, hW1, hW2, hW3⟩ := hMM
    unfold sh_M at hM
    unfold MT_ at hT
    unfold MS_ at hS
    have hB := h.2.2.1.2
    unfold PK_ at hB
    have hR := h.2.2.2
    simp (disch := first | omega | decide | exact ko_b _ | assumption | (simp only [t_si, t_sl, t_sr, t_sI, t_sR, n_si, n_sl, n_sr, n_sI, n_sR, r_si, r_sl, r_sI]; first | done | omega)) only [x_237_e, x_237_b, x_237_0, x_237_1, x_237_2, x_237_6, x_237_7, x_237_10, x_237_13, x_237_14, x_237_15, x_237_18, x_237_19, x_237_22, x_237_23, x_237_24, x_237_27, x_237_28, x_237_29, x_237_30, x_237_31, x_237_34, x_237_37, x_237_40, x_237_41, x_237_42, x_237_45, x_237_46, x_237_47, x_237_50, x_237_51, x_237_52, x_237_53, x_237_54, x_237_55, x_237_56, x_237_57, x_237_60, x_237_61, x_237_62, x_237_65, x_237_66, x_237_67, x_237_68, x_237_69, x_237_70, x_237_71, x_237_72, bk_v, bk_n, nl_I, nl_R, nl_L, nl_0, oo_lt, oo_le, oo_eq, oo_add, oo_sub, oo_tn, oo_ir, nn_leT, nn_leF, nn_ltT, nn_ltF, nn_eqT, nn_eqF, bv_0, bv_1, ko_b, ko_1, ko_0, true_and, and_true, if_true, if_false, not_true_eq_false, not_false_eq_true, oo_02, decide_eq_true_eq, decide_eq_false_iff_not, ite_not, Nat.reduceAdd, Nat.reduceLT, Nat.reduceSub, Nat.reduceLeDiff, reduceIte, Bool.true_eq_false, Bool.false_eq_true, reduceCtorEq, eq_self, decide_true, decide_false, bv_t, bv_f, and_self, t_si, t_sl, t_sr, t_sI, t_sR, n_si, n_sl, n_sr, n_sI, n_sR, r_si, r_sl, r_sI, hM, hT, hS, hB, hR]
  · have h := RM_fr h9 hV hf
    have hq := RM_MQ h hV
    have hMM := hq
    obtain ⟨hM, hT, hS, ⟨hn, hk4⟩, hW1, hW2, hW3⟩ := hMM
    unfold sh_M at hM
    unfold MT_ at hT
    unfold MS_ at hS
    have hB := h.2.2.1.2
    unfold PK_ at hB
    have hR := h.2.2.2
    have hM0 := hM.1
    have hy := oo_yes ht (by omega)
    have hb : (o_i (f_lv (bm_X (sm_B S)) t) = Int32.ofInt (-1)) = ((f_lv (bm_X (sm_B S)) t).isNone = true) := oi_m (fun k e => by have := flv_lt e; omega)
    simp (disch := first | omega | decide | exact ko_b _ | assumption | (simp only [t_si, t_sl, t_sr, t_sI, t_sR, n_si, n_sl, n_sr, n_sI, n_sR, r_si, r_sl, r_sI]; first | done | omega)) only [x_237_e, x_237_b, x_237_0, x_237_1, x_237_2, x_237_5, x_237_6, x_237_7, x_237_10, x_237_13, x_237_14, x_237_15, x_237_18, x_237_19, x_237_22, x_237_23, x_237_24, x_237_27, x_237_28, x_237_29, x_237_30, x_237_31, x_237_34, x_237_37, x_237_40, x_237_41, x_237_42, x_237_45, x_237_46, x_237_47, x_237_50, x_237_51, x_237_52, x_237_53, x_237_54, x_237_55, x_237_56, x_237_57, x_237_60, x_237_61, x_237_62, x_237_65, x_237_66, x_237_67, x_237_68, x_237_69, x_237_70, x_237_71, x_237_72, bk_v, bk_n, nl_I, nl_R, nl_L, nl_0, oo_lt, oo_le, oo_eq, oo_add, oo_sub, oo_tn, oo_ir, nn_leT, nn_leF, nn_ltT, nn_ltF, nn_eqT, nn_eqF, bv_0, bv_1, ko_b, ko_1, ko_0, true_and, and_true, if_true, if_false, not_true_eq_false, not_false_eq_true, oo_02, decide_eq_true_eq, decide_eq_false_iff_not, ite_not, Nat.reduceAdd, Nat.reduceLT, Nat.reduceSub, Nat.reduceLeDiff, reduceIte, Bool.true_eq_false, Bool.false_eq_true, reduceCtorEq, eq_self, decide_true, decide_false, bv_t, bv_f, and_self, t_si, t_sl, t_sr, t_sI, t_sR, n_si, n_sl, n_sr, n_sI, n_sR, r_si, r_sl, r_sI, hM, hT, hS, hB, hR, m_isT h hV, hy, m_lv hq, hb, hl, m_in, ll_o, ll_le, hx, m_fail hM0]
theorem m_brkn (h9 : RM_ w S) (hV : WS_ S) {d : Nat} {x : Int32} (hx : Int32.ofNat 0 ≤ x ∧ x ≤ Int32.ofNat 99) : MR_ (d + 6) 232 [v_R (some 1440), v_I x] w (v_I (o_i (f_brk (sm_T S) (x_yrs (bm_X (sm_B S)) (xm_y (bm_X (sm_B S)) + x))))) 0 := by
  refine mr_go (ls := [some (v_R (some 1440)), some (v_I x), none]) (fun Q => ?_) (fun w0 hf hc => mr_0 hc (fun Q => ?_))
  · have h := h9
    have hq := RM_MQ h hV
    have hMM := hq
    obtain ⟨hM, hT, hS, ⟨hn, hk4⟩, hW1, hW2, hW3⟩ := hMM
    unfold sh_M at hM
    unfold MT_ at hT
    unfold MS_ at hS
    have hB := h.2.2.1.2
    unfold PK_ at hB
    have hR := h.2.2.2
    simp (disch := first | omega | decide | exact ko_b _ | assumption | (simp only [t_si, t_sl, t_sr, t_sI, t_sR, n_si, n_sl, n_sr, n_sI, n_sR, r_si, r_sl, r_sI]; first | done | omega)) only [x_232_e, x_232_b, x_232_0, x_232_1, x_232_2, x_232_6, x_232_7, x_232_8, x_232_11, x_232_14, x_232_17, x_232_18, x_232_19, x_232_22, x_232_23, x_232_24, x_232_25, x_232_28, x_232_29, x_232_30, x_232_33, x_232_34, x_232_37, x_232_38, x_232_39, x_232_40, x_232_43, x_232_44, x_232_45, x_232_48, x_232_49, bk_v, bk_n, nl_I, nl_R, nl_L, nl_0, oo_lt, oo_le, oo_eq, oo_add, oo_sub, oo_tn, oo_ir, nn_leT, nn_leF, nn_ltT, nn_ltF, nn_eqT, nn_eqF, bv_0, bv_1, ko_b, ko_1, ko_0, true_and, and_true, if_true, if_false, not_true_eq_false, not_false_eq_true, oo_02, decide_eq_true_eq, decide_eq_false_iff_not, ite_not, Nat.reduceAdd, Nat.reduceLT, Nat.reduceSub, Nat.reduceLeDiff, reduceIte, Bool.true_eq_false, Bool.false_eq_true, reduceCtorEq, eq_self, decide_true, decide_false, bv_t, bv_f, and_self, t_si, t_sl, t_sr, t_sI, t_sR, n_si, n_sl, n_sr, n_sI, n_sR, r_si, r_sl, r_sI, hM, hT, hS, hB, hR]
  · have h := RM_fr h9 hV hf
    have hq1 : MQ_ (s_i w0 1440 29 (xm_y (bm_X (sm_B S)) + x)) (sm_T S) (x_yrs (bm_X (sm_B S)) (xm_y (bm_X (sm_B S)) + x)) := MQ_X (RM_MQ h hV) (fr_si (fr_rf _ _) (by unfold p_st; omega)) (MS_yrs (RM_MQ h hV).2.2.1) (WX_yrs hV.2.2.2.1.1)
    have hq := RM_MQ h hV
    have hMM := hq
    obtain ⟨hM, hT, hS, ⟨hn, hk4⟩, hW1, hW2, hW3⟩ := hMM
    unfold sh_M at hM
    unfold MT_ at hT
    unfold MS_ at hS
    have hB := h.2.2.1.2
    unfold PK_ at hB
    have hR := h.2.2.2
    have e5 : w_i w0 1440 29 = xm_y (bm_X (sm_B S)) := hS.2.1
    have e6 := s_id e5
    simp (disch := first | omega | decide | exact ko_b _ | assumption | (simp only [t_si, t_sl, t_sr, t_sI, t_sR, n_si, n_sl, n_sr, n_sI, n_sR, r_si, r_sl, r_sI]; first | done | omega)) only [x_232_e, x_232_b, x_232_0, x_232_1, x_232_2, x_232_5, x_232_6, x_232_7, x_232_8, x_232_11, x_232_14, x_232_17, x_232_18, x_232_19, x_232_22, x_232_23, x_232_24, x_232_25, x_232_28, x_232_29, x_232_30, x_232_33, x_232_34, x_232_37, x_232_38, x_232_39, x_232_40, x_232_43, x_232_44, x_232_45, x_232_48, x_232_49, bk_v, bk_n, nl_I, nl_R, nl_L, nl_0, oo_lt, oo_le, oo_eq, oo_add, oo_sub, oo_tn, oo_ir, nn_leT, nn_leF, nn_ltT, nn_ltF, nn_eqT, nn_eqF, bv_0, bv_1, ko_b, ko_1, ko_0, true_and, and_true, if_true, if_false, not_true_eq_false, not_false_eq_true, oo_02, decide_eq_true_eq, decide_eq_false_iff_not, ite_not, Nat.reduceAdd, Nat.reduceLT, Nat.reduceSub, Nat.reduceLeDiff, reduceIte, Bool.true_eq_false, Bool.false_eq_true, reduceCtorEq, eq_self, decide_true, decide_false, bv_t, bv_f, and_self, t_si, t_sl, t_sr, t_sI, t_sR, n_si, n_sl, n_sr, n_sI, n_sR, r_si, r_sl, r_sI, hM, hT, hS, hB, hR, m_in, ll_o, ll_le, hx, m_brk hq1, i_si, add_sb, s_ss, e6]
theorem m_brkn_x (h9 : RM_ w S) (hV : WS_ S) {d : Nat} {x : Int32} (hx : ¬ (Int32.ofNat 0 ≤ x ∧ x ≤ Int32.ofNat 99)) : MR_ (d + 6) 232 [v_R (some 1440), v_I x] w (v_I (Int32.ofNat 0)) 1 := by
  refine mr_go (ls := [some (v_R (some 1440)), some (v_I x), none]) (fun Q => ?_) (fun w0 hf hc => mr_f (fun Q => ?_))
  · have h := h9
    have hq := RM_MQ h hV
    have hMM := hq
    obtain ⟨hM, hT, hS, ⟨hn, hk4⟩, hW1, hW2, hW3⟩ := hMM
    unfold sh_M at hM
    unfold MT_ at hT
    unfold MS_ at hS
    have hB := h.2.2.1.2
    unfold PK_ at hB
    have hR := h.2.2.2
    simp (disch := first | omega | decide | exact ko_b _ | assumption | (simp only [t_si, t_sl, t_sr, t_sI, t_sR, n_si, n_sl, n_sr, n_sI, n_sR, r_si, r_sl, r_sI]; first | done | omega)) only [x_232_e, x_232_b, x_232_0, x_232_1, x_232_2, x_232_6, x_232_7, x_232_8, x_232_11, x_232_14, x_232_17, x_232_18, x_232_19, x_232_22, x_232_23, x_232_24, x_232_25, x_232_28, x_232_29, x_232_30, x_232_33, x_232_34, x_232_37, x_232_38, x_232_39, x_232_40, x_232_43, x_232_44, x_232_45, x_232_48, x_232_49, bk_v, bk_n, nl_I, nl_R, nl_L, nl_0, oo_lt, oo_le, oo_eq, oo_add, oo_sub, oo_tn, oo_ir, nn_leT, nn_leF, nn_ltT, nn_ltF, nn_eqT, nn_eqF, bv_0, bv_1, ko_b, ko_1, ko_0, true_and, and_true, if_true, if_false, not_true_eq_false, not_false_eq_true, oo_02, decide_eq_true_eq, decide_eq_false_iff_not, ite_not, Nat.reduceAdd, Nat.reduceLT, Nat.reduceSub, Nat.reduceLeDiff, reduceIte, Bool.true_eq_false, Bool.false_eq_true, reduceCtorEq, eq_self, decide_true, decide_false, bv_t, bv_f, and_self, t_si, t_sl, t_sr, t_sI, t_sR, n_si, n_sl, n_sr, n_sI, n_sR, r_si, r_sl, r_sI, hM, hT, hS, hB, hR]
  · have h := RM_fr h9 hV hf
    have hq := RM_MQ h hV
    have hMM := hq
    obtain ⟨hM, hT, hS, ⟨hn, hk4⟩, hW1, hW2, hW3⟩ := hMM
    unfold sh_M at hM
    unfold MT_ at hT
    unfold MS_ at hS
    have hB := h.2.2.1.2
    unfold PK_ at hB
    have hR := h.2.2.2
    have hM0 := hM.1
    simp (disch := first | omega | decide | exact ko_b _ | assumption | (simp only [t_si, t_sl, t_sr, t_sI, t_sR, n_si, n_sl, n_sr, n_sI, n_sR, r_si, r_sl, r_sI]; first | done | omega)) only [x_232_e, x_232_b, x_232_0, x_232_1, x_232_2, x_232_5, x_232_6, x_232_7, x_232_8, x_232_11, x_232_14, x_232_17, x_232_18, x_232_19, x_232_22, x_232_23, x_232_24, x_232_25, x_232_28, x_232_29, x_232_30, x_232_33, x_232_34, x_232_37, x_232_38, x_232_39, x_232_40, x_232_43, x_232_44, x_232_45, x_232_48, x_232_49, bk_v, bk_n, nl_I, nl_R, nl_L, nl_0, oo_lt, oo_le, oo_eq, oo_add, oo_sub, oo_tn, oo_ir, nn_leT, nn_leF, nn_ltT, nn_ltF, nn_eqT, nn_eqF, bv_0, bv_1, ko_b, ko_1, ko_0, true_and, and_true, if_true, if_false, not_true_eq_false, not_false_eq_true, oo_02, decide_eq_true_eq, decide_eq_false_iff_not, ite_not, Nat.reduceAdd, Nat.reduceLT, Nat.reduceSub, Nat.reduceLeDiff, reduceIte, Bool.true_eq_false, Bool.false_eq_true, reduceCtorEq, eq_self, decide_true, decide_false, bv_t, bv_f, and_self, t_si, t_sl, t_sr, t_sI, t_sR, n_si, n_sl, n_sr, n_sI, n_sR, r_si, r_sl, r_sI, hM, hT, hS, hB, hR, m_in, ll_o, ll_le, hx, m_fail hM0]
theorem m_when (h9 : RM_ w S) (hV : WS_ S) {d : Nat} : MR_ (d + 6) 231 [v_R (some 1440)] w (v_I (o_i (f_when (sm_T S) (bm_X (sm_B S))))) 0 := by
  refine mr_go (ls := [some (v_R (some 1440)), none, none, none]) (fun Q => ?_) (fun w0 hf hc => mr_0 hc (fun Q => ?_))
  · have h := h9
    have hq := RM_MQ h hV
    have hMM := hq
    obtain ⟨hM, hT, hS, ⟨hn, hk4⟩, hW1, hW2, hW3⟩ := hMM
    unfold sh_M at hM
    unfold MT_ at hT
    unfold MS_ at hS
    have hB := h.2.2.1.2
    unfold PK_ at hB
    have hR := h.2.2.2
    simp (disch := first | omega | decide | exact ko_b _ | assumption | (simp only [t_si, t_sl, t_sr, t_sI, t_sR, n_si, n_sl, n_sr, n_sI, n_sR, r_si, r_sl, r_sI]; first | done | omega)) only [x_231_e, x_231_b, x_231_0, x_231_1, x_231_2, x_231_6, x_231_9, x_231_10, x_231_11, x_231_12, x_231_13, x_231_14, x_231_15, x_231_17, x_231_20, x_231_21, x_231_22, x_231_25, x_231_26, x_231_27, x_231_28, x_231_29, x_231_32, x_231_33, x_231_36, x_231_39, x_231_40, x_231_41, x_231_44, x_231_47, x_231_48, x_231_49, x_231_52, x_231_53, bk_v, bk_n, nl_I, nl_R, nl_L, nl_0, oo_lt, oo_le, oo_eq, oo_add, oo_sub, oo_tn, oo_ir, nn_leT, nn_leF, nn_ltT, nn_ltF, nn_eqT, nn_eqF, bv_0, bv_1, ko_b, ko_1, ko_0, true_and, and_true, if_true, if_false, not_true_eq_false, not_false_eq_true, oo_02, decide_eq_true_eq, decide_eq_false_iff_not, ite_not, Nat.reduceAdd, Nat.reduceLT, Nat.reduceSub, Nat.reduceLeDiff, reduceIte, Bool.true_eq_false, Bool.false_eq_true, reduceCtorEq, eq_self, decide_true, decide_false, bv_t, bv_f, and_self, t_si, t_sl, t_sr, t_sI, t_sR, n_si, n_sl, n_sr, n_sI, n_sR, r_si, r_sl, r_sI, hM, hT, hS, hB, hR]
  · have h := RM_fr h9 hV hf
    have hq9 := RM_MQ h hV
    have hq := RM_MQ h hV
    have hMM := hq
    obtain ⟨hM, hT, hS, ⟨hn, hk4⟩, hW1, hW2, hW3⟩ := hMM
    unfold sh_M at hM
    unfold MT_ at hT
    unfold MS_ at hS
    have hB := h.2.2.1.2
    unfold PK_ at hB
    have hR := h.2.2.2
    have e5 : w_i w0 1440 29 = xm_y (bm_X (sm_B S)) := hS.2.1
    have e6 := s_id e5
    have hlp := fun y => lp_fs (fun k (y : Int32) => wp (d + 6) 231 14 [some (v_R (some 1440)), some (v_I (xm_y (bm_X (sm_B S)))), some (v_I (Int32.ofInt (-1))), some (v_I (Int32.ofNat k))] [] (s_i w0 1440 29 y) Q) (fun o => Q (Sum.inl (some (v_I (o_i o)))) w0) (fun k => !f_st (sm_T S) (x_yrs (bm_X (sm_B S)) (xm_y (bm_X (sm_B S)) + Int32.ofNat k))) 100 0 y (fun k y _ hk => ?_) (fun y => ?_)
    · have := hlp (xm_y (bm_X (sm_B S)))
      rw [e6] at this
      refine Eq.trans ?_ this
      simp (disch := first | omega | decide | exact ko_b _ | assumption | (simp only [t_si, t_sl, t_sr, t_sI, t_sR, n_si, n_sl, n_sr, n_sI, n_sR, r_si, r_sl, r_sI]; first | done | omega)) only [x_231_e, x_231_b, x_231_5, x_231_6, x_231_9, x_231_10, x_231_11, x_231_12, x_231_13, bk_v, bk_n, nl_I, nl_R, nl_L, nl_0, oo_lt, oo_le, oo_eq, oo_add, oo_sub, oo_tn, oo_ir, nn_leT, nn_leF, nn_ltT, nn_ltF, nn_eqT, nn_eqF, bv_0, bv_1, ko_b, ko_1, ko_0, true_and, and_true, if_true, if_false, not_true_eq_false, not_false_eq_true, oo_02, decide_eq_true_eq, decide_eq_false_iff_not, ite_not, Nat.reduceAdd, Nat.reduceLT, Nat.reduceSub, Nat.reduceLeDiff, reduceIte, Bool.true_eq_false, Bool.false_eq_true, reduceCtorEq, eq_self, decide_true, decide_false, bv_t, bv_f, and_self, t_si, t_sl, t_sr, t_sI, t_sR, n_si, n_sl, n_sr, n_sI, n_sR, r_si, r_sl, r_sI, hM, hT, hS, hB, hR]
    · have hq1 : MQ_ (s_i w0 1440 29 (xm_y (bm_X (sm_B S)) + Int32.ofNat k)) (sm_T S) (x_yrs (bm_X (sm_B S)) (xm_y (bm_X (sm_B S)) + Int32.ofNat k)) := MQ_X hq9 (fr_si (fr_rf _ _) (by unfold p_st; omega)) (MS_yrs hq9.2.2.1) (WX_yrs hV.2.2.2.1.1)
      have hne := oi_s1 (by omega : k < 2147483648)
      cases e : f_st (sm_T S) (x_yrs (bm_X (sm_B S)) (xm_y (bm_X (sm_B S)) + Int32.ofNat k)) with
      | false =>
        refine Or.inl ⟨rfl, ?_⟩
        rw [x_231_14]
        simp (disch := first | omega | decide | exact ko_b _ | assumption | (simp only [t_si, t_sl, t_sr, t_sI, t_sR, n_si, n_sl, n_sr, n_sI, n_sR, r_si, r_sl, r_sI]; first | done | omega)) only [x_231_e, x_231_b, x_231_0, x_231_1, x_231_2, x_231_5, x_231_6, x_231_9, x_231_10, x_231_11, x_231_12, x_231_13, x_231_15, x_231_17, x_231_20, x_231_21, x_231_22, x_231_25, x_231_26, x_231_27, x_231_28, x_231_29, x_231_32, x_231_33, x_231_36, x_231_39, x_231_40, x_231_41, x_231_44, x_231_47, x_231_48, x_231_49, x_231_52, x_231_53, bk_v, bk_n, nl_I, nl_R, nl_L, nl_0, oo_lt, oo_le, oo_eq, oo_add, oo_sub, oo_tn, oo_ir, nn_leT, nn_leF, nn_ltT, nn_ltF, nn_eqT, nn_eqF, bv_0, bv_1, ko_b, ko_1, ko_0, true_and, and_true, if_true, if_false, not_true_eq_false, not_false_eq_true, oo_02, decide_eq_true_eq, decide_eq_false_iff_not, ite_not, Nat.reduceAdd, Nat.reduceLT, Nat.reduceSub, Nat.reduceLeDiff, reduceIte, Bool.true_eq_false, Bool.false_eq_true, reduceCtorEq, eq_self, decide_true, decide_false, bv_t, bv_f, and_self, t_si, t_sl, t_sr, t_sI, t_sR, n_si, n_sl, n_sr, n_sI, n_sR, r_si, r_sl, r_sI, hM, s_ss, m_st hq1, e]
        rw [x_231_14]
        simp (disch := first | omega | decide | exact ko_b _ | assumption | (simp only [t_si, t_sl, t_sr, t_sI, t_sR, n_si, n_sl, n_sr, n_sI, n_sR, r_si, r_sl, r_sI]; first | done | omega)) only [x_231_e, x_231_b, x_231_0, x_231_1, x_231_2, x_231_5, x_231_6, x_231_9, x_231_10, x_231_11, x_231_12, x_231_13, x_231_15, x_231_17, x_231_20, x_231_21, x_231_22, x_231_25, x_231_26, x_231_27, x_231_28, x_231_29, x_231_32, x_231_33, x_231_36, x_231_39, x_231_40, x_231_41, x_231_44, x_231_47, x_231_48, x_231_49, x_231_52, x_231_53, bk_v, bk_n, nl_I, nl_R, nl_L, nl_0, oo_lt, oo_le, oo_eq, oo_add, oo_sub, oo_tn, oo_ir, nn_leT, nn_leF, nn_ltT, nn_ltF, nn_eqT, nn_eqF, bv_0, bv_1, ko_b, ko_1, ko_0, true_and, and_true, if_true, if_false, not_true_eq_false, not_false_eq_true, oo_02, decide_eq_true_eq, decide_eq_false_iff_not, ite_not, Nat.reduceAdd, Nat.reduceLT, Nat.reduceSub, Nat.reduceLeDiff, reduceIte, Bool.true_eq_false, Bool.false_eq_true, reduceCtorEq, eq_self, decide_true, decide_false, bv_t, bv_f, and_self, t_si, t_sl, t_sr, t_sI, t_sR, n_si, n_sl, n_sr, n_sI, n_sR, r_si, r_sl, r_sI, hM, s_ss, hne, e6, o_i_s, ite_self]
      | true =>
        refine Or.inr ⟨rfl, xm_y (bm_X (sm_B S)) + Int32.ofNat k, ?_⟩
        rw [x_231_14]
        simp (disch := first | omega | decide | exact ko_b _ | assumption | (simp only [t_si, t_sl, t_sr, t_sI, t_sR, n_si, n_sl, n_sr, n_sI, n_sR, r_si, r_sl, r_sI]; first | done | omega)) only [x_231_e, x_231_b, x_231_0, x_231_1, x_231_2, x_231_5, x_231_6, x_231_9, x_231_10, x_231_11, x_231_12, x_231_13, x_231_15, x_231_17, x_231_20, x_231_21, x_231_22, x_231_25, x_231_26, x_231_27, x_231_28, x_231_29, x_231_32, x_231_33, x_231_36, x_231_39, x_231_40, x_231_41, x_231_44, x_231_47, x_231_48, x_231_49, x_231_52, x_231_53, bk_v, bk_n, nl_I, nl_R, nl_L, nl_0, oo_lt, oo_le, oo_eq, oo_add, oo_sub, oo_tn, oo_ir, nn_leT, nn_leF, nn_ltT, nn_ltF, nn_eqT, nn_eqF, bv_0, bv_1, ko_b, ko_1, ko_0, true_and, and_true, if_true, if_false, not_true_eq_false, not_false_eq_true, oo_02, decide_eq_true_eq, decide_eq_false_iff_not, ite_not, Nat.reduceAdd, Nat.reduceLT, Nat.reduceSub, Nat.reduceLeDiff, reduceIte, Bool.true_eq_false, Bool.false_eq_true, reduceCtorEq, eq_self, decide_true, decide_false, bv_t, bv_f, and_self, t_si, t_sl, t_sr, t_sI, t_sR, n_si, n_sl, n_sr, n_sI, n_sR, r_si, r_sl, r_sI, hM, s_ss, m_st hq1, e]
    · rw [x_231_14]
      simp (disch := first | omega | decide | exact ko_b _ | assumption | (simp only [t_si, t_sl, t_sr, t_sI, t_sR, n_si, n_sl, n_sr, n_sI, n_sR, r_si, r_sl, r_sI]; first | done | omega)) only [x_231_e, x_231_b, x_231_0, x_231_1, x_231_2, x_231_5, x_231_6, x_231_9, x_231_10, x_231_11, x_231_12, x_231_13, x_231_15, x_231_17, x_231_20, x_231_21, x_231_22, x_231_25, x_231_26, x_231_27, x_231_28, x_231_29, x_231_32, x_231_33, x_231_36, x_231_39, x_231_40, x_231_41, x_231_44, x_231_47, x_231_48, x_231_49, x_231_52, x_231_53, bk_v, bk_n, nl_I, nl_R, nl_L, nl_0, oo_lt, oo_le, oo_eq, oo_add, oo_sub, oo_tn, oo_ir, nn_leT, nn_leF, nn_ltT, nn_ltF, nn_eqT, nn_eqF, bv_0, bv_1, ko_b, ko_1, ko_0, true_and, and_true, if_true, if_false, not_true_eq_false, not_false_eq_true, oo_02, decide_eq_true_eq, decide_eq_false_iff_not, ite_not, Nat.reduceAdd, Nat.reduceLT, Nat.reduceSub, Nat.reduceLeDiff, reduceIte, Bool.true_eq_false, Bool.false_eq_true, reduceCtorEq, eq_self, decide_true, decide_false, bv_t, bv_f, and_self, t_si, t_sl, t_sr, t_sI, t_sR, n_si, n_sl, n_sr, n_sI, n_sR, r_si, r_sl, r_sI, hM, s_ss, e6, o_i_n]
end
