/-! MARRIAGES: both halves -/
set_option maxRecDepth 100000
theorem nz_i : ∀ s : Fin 1024, s.val = 0 ∨ ((Int32.ofNat s.val ^^^ Int32.ofInt (-1)) &&& Int32.ofNat (s.val - 1) = Int32.ofNat (2 ^ nz_ s.val - 1) ∧ Int32.ofNat s.val &&& Int32.ofNat (s.val - 1) = Int32.ofNat (rmv_ s.val (nz_ s.val))) := by decide +kernel
theorem rmv_l1 : ∀ s : Fin 1024, ∀ t : Fin 10, s.val.testBit t.val = true → rmv_ s.val t.val < s.val := by decide +kernel
theorem us_1 : ∀ v : Fin 1024, (((Int32.ofNat v.val).toUInt32 >>> ((Int32.ofNat 1).toUInt32 &&& Int32.toUInt32 31)).toInt32) = Int32.ofNat (v.val >>> 1) := by decide +kernel
theorem us_2 : ∀ v : Fin 1024, (((Int32.ofNat v.val).toUInt32 >>> ((Int32.ofNat 2).toUInt32 &&& Int32.toUInt32 31)).toInt32) = Int32.ofNat (v.val >>> 2) := by decide +kernel
theorem us_4 : ∀ v : Fin 1024, (((Int32.ofNat v.val).toUInt32 >>> ((Int32.ofNat 4).toUInt32 &&& Int32.toUInt32 31)).toInt32) = Int32.ofNat (v.val >>> 4) := by decide +kernel
theorem us_8 : ∀ v : Fin 1024, (((Int32.ofNat v.val).toUInt32 >>> ((Int32.ofNat 8).toUInt32 &&& Int32.toUInt32 31)).toInt32) = Int32.ofNat (v.val >>> 8) := by decide +kernel
theorem ns_1 {v : Nat} (h : v < 1024) : (((Int32.ofNat v).toUInt32 >>> ((Int32.ofNat 1).toUInt32 &&& Int32.toUInt32 31)).toInt32) = Int32.ofNat (v >>> 1) := us_1 ⟨v, h⟩
theorem ns_2 {v : Nat} (h : v < 1024) : (((Int32.ofNat v).toUInt32 >>> ((Int32.ofNat 2).toUInt32 &&& Int32.toUInt32 31)).toInt32) = Int32.ofNat (v >>> 2) := us_2 ⟨v, h⟩
theorem ns_4 {v : Nat} (h : v < 1024) : (((Int32.ofNat v).toUInt32 >>> ((Int32.ofNat 4).toUInt32 &&& Int32.toUInt32 31)).toInt32) = Int32.ofNat (v >>> 4) := us_4 ⟨v, h⟩
theorem ns_8 {v : Nat} (h : v < 1024) : (((Int32.ofNat v).toUInt32 >>> ((Int32.ofNat 8).toUInt32 &&& Int32.toUInt32 31)).toInt32) = Int32.ofNat (v >>> 8) := us_8 ⟨v, h⟩
theorem ff_at {p : Nat → Bool} {a : Nat} : ∀ (n k : Nat), k ≤ a → a < k + n → p a = true → (∀ i, k ≤ i → i < a → p i = false) → ff_ p k n = some a := by
  intro n
  induction n with
  | zero => intro k h1 h2; omega
  | succ n ih =>
    intro k h1 h2 h3 h4
    rw [ff_]
    by_cases e : k = a
    · subst e; rw [if_pos h3]
    · rw [if_neg (by rw [h4 k (Nat.le_refl _) (by omega)]; decide)]
      exact ih (k + 1) (by omega) (by omega) h3 (fun i a b => h4 i (by omega) b)
theorem ff_no {p : Nat → Bool} : ∀ (n k : Nat), (∀ i, k ≤ i → i < k + n → p i = false) → ff_ p k n = none := by
  intro n
  induction n with
  | zero => intro k _; rfl
  | succ n ih =>
    intro k h
    rw [ff_, if_neg (by rw [h k (Nat.le_refl _) (by omega)]; decide)]
    exact ih (k + 1) (fun i a b => h i (by omega) (by omega))
theorem tb_n {s n t : Nat} (hs : s < 2 ^ n) (h : s.testBit t = true) : t < n := by
  refine Nat.lt_of_not_le (fun hi => ?_)
  rw [Nat.testBit_lt_two_pow (Nat.lt_of_lt_of_le hs (Nat.pow_le_pow_right (n := 2) (by decide) hi))] at h
  cases h
theorem nz_n {s n : Nat} (hs : s < 2 ^ n) (hn : n ≤ 10) (h0 : s ≠ 0) : s.testBit (nz_ s) = true ∧ nz_ s < n ∧ ff_ (fun t => s.testBit t) 0 n = some (nz_ s) := by
  have h1024 : s < 1024 := Nat.lt_of_lt_of_le hs (p2_le hn)
  rcases nz_and ⟨s, h1024⟩ with h | ⟨h1, h2, -⟩
  · exact absurd h h0
  · have h1 : s.testBit (nz_ s) = true := h1
    have h3 := tb_n hs h1
    refine ⟨h1, h3, ff_at n 0 (Nat.zero_le _) (by omega) h1 (fun i _ hi => ?_)⟩
    unfold nz_ at hi
    cases e : ff_ (fun t => s.testBit t) 0 10 with
    | none =>
      have := ff_n e (nz_ s) (Nat.zero_le _) (by omega)
      rw [h1] at this; cases this
    | some a =>
      rw [e] at hi
      exact (ff_s e).2.2.2 i (Nat.zero_le _) hi
theorem cpl_le (can : Nat → Nat → Bool) (n : Nat) : ∀ (f s : Nat), cpl_ can n f s ≤ f := by
  intro f
  induction f with
  | zero => intro s; exact Nat.le_refl _
  | succ f ih =>
    intro s
    rw [cpl_]
    split
    · exact Nat.zero_le _
    · have key : ∀ (m k v : Nat), v ≤ f + 1 → it_ (cpl1_ can (cpl_ can n f) (nz_ s) (rmv_ s (nz_ s))) k m v ≤ f + 1 := by
        intro m
        induction m with
        | zero => intro k v h; exact h
        | succ m ihm =>
          intro k v h
          rw [it_]
          refine ihm (k + 1) _ ?_
          unfold cpl1_
          have := ih (rmv_ (rmv_ s (nz_ s)) k)
          split <;> omega
      exact key _ _ _ (by have := ih (rmv_ s (nz_ s)); omega)
def f_mrg (T : Tm) (X : Xm) : Nat := cpl_ (f_mar T (xm_y X)) (tm_n T) 10 (2 ^ tm_n T - 1)
theorem cpl_10 (can : Nat → Nat → Bool) {n s : Nat} (hs : s < 1024) (h0 : s ≠ 0) : cpl_ can n 10 s = it_ (cpl1_ can (cpl_ can n 10) (nz_ s) (rmv_ s (nz_ s))) (nz_ s + 1) (n - (nz_ s + 1)) (cpl_ can n 10 (rmv_ s (nz_ s))) := by
  rcases nz_and ⟨s, hs⟩ with h | ⟨h1, h2, -⟩
  · exact absurd h h0
  · have h1 : s.testBit (nz_ s) = true := h1
    have h3 := bt_rm h1 h2
    have h4 : bt_n s ≤ 10 := by
      have : ∀ s : Fin 1024, bt_n s.val ≤ 10 := by decide +kernel
      exact this ⟨s, hs⟩
    rw [show cpl_ can n 10 s = _ from by rw [cpl_, if_neg h0], cpl_f can n 9 10 _ (rm_lt hs) (by omega) (by omega)]
    refine it_c (fun b v _ _ => ?_)
    unfold cpl1_
    by_cases c : ((rmv_ s (nz_ s)).testBit b && can (nz_ s) b) = true
    · rw [if_pos c, if_pos c]
      rw [Bool.and_eq_true] at c
      have := bt_rm c.1 (tb_10 (rm_lt hs) c.1)
      rw [cpl_f can n 9 10 _ (rm_lt (rm_lt hs)) (by omega) (by omega)]
    · rw [if_neg c, if_neg c]
def P38_ (a _k : Nat) : Prop := a = 1438
section
variable {w : Wd} {S : Sm} {G : Gm} {σ : Nat → Nat}
theorem j_ntz {d s : Nat} {Q : Q_} (h0 : 0 < s) (hs : s < 1024) : cl d 304 [v_I (Int32.ofNat s)] w Q = Q (Sum.inl (some (v_I (Int32.ofNat (nz_ s))))) w := by
  have h9 : nz_ s < 10 := by
    rcases nz_and ⟨s, hs⟩ with h | h
    · exact absurd h (by show ¬ s = 0; omega)
    · exact h.2.1
  have hni : (Int32.ofNat s ^^^ Int32.ofInt (-1)) &&& Int32.ofNat (s - 1) = Int32.ofNat (2 ^ nz_ s - 1) := by
    rcases nz_i ⟨s, hs⟩ with h | h
    · exact absurd h (by show ¬ s = 0; omega)
    · exact h.1
  have a0 : Int32.ofNat 0 &&& Int32.ofNat 32 = Int32.ofNat 0 := by decide
  rcases (by omega : nz_ s = 0 ∨ nz_ s = 1 ∨ nz_ s = 2 ∨ nz_ s = 3 ∨ nz_ s = 4 ∨ nz_ s = 5 ∨ nz_ s = 6 ∨ nz_ s = 7 ∨ nz_ s = 8 ∨ nz_ s = 9) with e | e | e | e | e | e | e | e | e | e <;> (rw [e] at hni ⊢; simp only [Nat.reducePow, Nat.reduceSub] at hni; simp (disch := first | omega | decide | exact ko_b _ | assumption | (simp only [t_si, t_sl, t_sr, t_sI, t_sR, n_si, n_sl, n_sr, n_sI, n_sR, r_si, r_sl, r_sI]; first | done | omega)) only [x_304_e, x_304_b, x_304_0, x_304_1, x_304_2, x_304_3, x_304_4, x_304_5, x_304_6, x_304_7, x_304_8, x_304_9, x_304_12, x_304_13, x_304_15, x_304_16, x_304_17, x_304_18, x_304_19, x_304_20, x_304_23, x_304_26, x_304_29, x_304_30, x_304_32, x_304_33, x_304_34, x_304_35, x_304_38, x_304_41, x_304_44, x_304_45, x_304_47, x_304_48, x_304_49, x_304_50, x_304_52, x_304_55, x_304_58, x_304_59, x_304_60, x_304_61, x_304_62, x_304_63, x_304_64, x_304_67, x_304_70, x_304_71, x_304_72, x_304_73, x_304_74, x_304_75, x_304_76, x_304_77, x_304_78, x_304_79, bk_v, bk_n, nl_I, nl_R, nl_L, nl_0, oo_lt, oo_le, oo_eq, oo_add, oo_sub, oo_tn, oo_ir, nn_leT, nn_leF, nn_ltT, nn_ltF, nn_eqT, nn_eqF, bv_0, bv_1, ko_b, ko_1, ko_0, true_and, and_true, if_true, if_false, not_true_eq_false, not_false_eq_true, oo_02, decide_eq_true_eq, decide_eq_false_iff_not, ite_not, Nat.reduceAdd, Nat.reduceLT, Nat.reduceSub, Nat.reduceLeDiff, reduceIte, Bool.true_eq_false, Bool.false_eq_true, reduceCtorEq, eq_self, decide_true, decide_false, bv_t, bv_f, and_self, t_si, t_sl, t_sr, t_sI, t_sR, n_si, n_sl, n_sr, n_sI, n_sR, r_si, r_sl, r_sI, hni, a0, ns_1, ns_2, ns_4, ns_8, Nat.reduceShiftRight])
theorem RC_38 {w1 : Wd} (h : RC_ w G σ S) (hV : WS_ S) (hf : Fr_ P38_ w w1) : RC_ w1 G σ S := RC_fr h hV (fr_mo hf (fun a k z => by unfold P38_ at z; unfold pc_; omega))
theorem c_mr1 (h : RC_ w G σ S) (hV : WS_ S) {d s b v : Nat} {cp : Nat → Nat} (hs : s < 1024) (hsn : s < 2 ^ tm_n (sm_T S)) (h0 : s ≠ 0) (hb : b < tm_n (sm_T S)) (hcp : ∀ x, cp x ≤ 10) (hv : v ≤ 11) (hc : ∀ x, x < s → w_i w 1438 x = Int32.ofNat (cp x)) (hsv : w_i w 1438 s = Int32.ofNat v) {A : Int32} {Q : Q_} : wp (d + 12) 46 53 [some (v_R (some 1000)), some (v_I A), some (v_I (Int32.ofNat s)), some (v_I (Int32.ofNat (nz_ s))), some (v_I (Int32.ofNat (rmv_ s (nz_ s)))), some (v_I (Int32.ofNat b))] [] w Q = wp (d + 12) 46 53 [some (v_R (some 1000)), some (v_I A), some (v_I (Int32.ofNat s)), some (v_I (Int32.ofNat (nz_ s))), some (v_I (Int32.ofNat (rmv_ s (nz_ s)))), some (v_I (Int32.ofNat (b + 1)))] [] (s_i w 1438 s (Int32.ofNat (cpl1_ (f_mar (sm_T S) (xm_y (bm_X (sm_B S)))) cp (nz_ s) (rmv_ s (nz_ s)) b v))) Q := by
  have hn10 := hV.1.1
  obtain ⟨n1, n2, -⟩ := nz_n hsn hn10 h0
  have hr : rmv_ s (nz_ s) < s := rmv_l1 ⟨s, hs⟩ ⟨nz_ s, by omega⟩ n1
  have htb := sb_tb (s := rmv_ s (nz_ s)) (t := b) (by omega) (by omega)
  have ctb := fun d Q => c_tables h hV (d := d) (Q := Q)
  have cm := fun Q => c_mar h hV (d := d + 5) (a := nz_ s) (b := b) (Q := Q) n2 hb
  have ss := sb_s (t := b) (by omega)
  have ri := rm_i (s := rmv_ s (nz_ s)) (t := b) (by omega) (by omega)
  have hh := h.1
  unfold sh_C at hh
  have t0 : w_t w 1000 = 20 := hh.1
  have r12 : w_r w 1000 12 = some 1438 := by simp only [hh]
  have t38 : w_t w 1438 = 1 := by simp only [hh]
  have n38 : w_n w 1438 = 1024 := by simp only [hh]
  clear hh
  unfold cpl1_
  rw [x_46_53]
  cases e1 : (rmv_ s (nz_ s)).testBit b with
  | false =>
    rw [e1] at htb
    simp (disch := first | omega | decide | exact ko_b _ | assumption | (simp only [t_si, t_sl, t_sr, t_sI, t_sR, n_si, n_sl, n_sr, n_sI, n_sR, r_si, r_sl, r_sI]; first | done | omega)) only [x_46_e, x_46_b, x_46_55, x_46_56, x_46_59, x_46_62, x_46_64, x_46_66, x_46_67, x_46_68, x_46_69, x_46_70, x_46_73, x_46_74, x_46_75, x_46_77, x_46_80, x_46_83, x_46_84, x_46_87, x_46_88, x_46_89, x_46_92, x_46_93, x_46_94, x_46_95, x_46_98, x_46_100, x_46_101, x_46_103, x_46_104, x_46_105, x_46_106, x_46_107, x_46_108, x_46_109, x_46_110, x_46_113, x_46_114, x_46_117, bk_v, bk_n, nl_I, nl_R, nl_L, nl_0, oo_lt, oo_le, oo_eq, oo_add, oo_sub, oo_tn, oo_ir, nn_leT, nn_leF, nn_ltT, nn_ltF, nn_eqT, nn_eqF, bv_0, bv_1, ko_b, ko_1, ko_0, true_and, and_true, if_true, if_false, not_true_eq_false, not_false_eq_true, oo_02, decide_eq_true_eq, decide_eq_false_iff_not, ite_not, Nat.reduceAdd, Nat.reduceLT, Nat.reduceSub, Nat.reduceLeDiff, reduceIte, Bool.true_eq_false, Bool.false_eq_true, reduceCtorEq, eq_self, decide_true, decide_false, bv_t, bv_f, and_self, t_si, t_sl, t_sr, t_sI, t_sR, n_si, n_sl, n_sr, n_sI, n_sR, r_si, r_sl, r_sI, ctb, htb, Bool.false_and]
    rw [s_id hsv]
  | true =>
    rw [e1] at htb
    have hr2 : rmv_ (rmv_ s (nz_ s)) b < rmv_ s (nz_ s) := rmv_l1 ⟨rmv_ s (nz_ s), by omega⟩ ⟨b, by omega⟩ e1
    have ec := hc (rmv_ (rmv_ s (nz_ s)) b) (by omega)
    have hcx := hcp (rmv_ (rmv_ s (nz_ s)) b)
    cases e2 : f_mar (sm_T S) (xm_y (bm_X (sm_B S))) (nz_ s) b with
    | false =>
      rw [e2] at cm
      simp (disch := first | omega | decide | exact ko_b _ | assumption | (simp only [t_si, t_sl, t_sr, t_sI, t_sR, n_si, n_sl, n_sr, n_sI, n_sR, r_si, r_sl, r_sI]; first | done | omega)) only [x_46_e, x_46_b, x_46_55, x_46_56, x_46_59, x_46_62, x_46_64, x_46_66, x_46_67, x_46_68, x_46_69, x_46_70, x_46_73, x_46_74, x_46_75, x_46_77, x_46_80, x_46_83, x_46_84, x_46_87, x_46_88, x_46_89, x_46_92, x_46_93, x_46_94, x_46_95, x_46_98, x_46_100, x_46_101, x_46_103, x_46_104, x_46_105, x_46_106, x_46_107, x_46_108, x_46_109, x_46_110, x_46_113, x_46_114, x_46_117, bk_v, bk_n, nl_I, nl_R, nl_L, nl_0, oo_lt, oo_le, oo_eq, oo_add, oo_sub, oo_tn, oo_ir, nn_leT, nn_leF, nn_ltT, nn_ltF, nn_eqT, nn_eqF, bv_0, bv_1, ko_b, ko_1, ko_0, true_and, and_true, if_true, if_false, not_true_eq_false, not_false_eq_true, oo_02, decide_eq_true_eq, decide_eq_false_iff_not, ite_not, Nat.reduceAdd, Nat.reduceLT, Nat.reduceSub, Nat.reduceLeDiff, reduceIte, Bool.true_eq_false, Bool.false_eq_true, reduceCtorEq, eq_self, decide_true, decide_false, bv_t, bv_f, and_self, t_si, t_sl, t_sr, t_sI, t_sR, n_si, n_sl, n_sr, n_sI, n_sR, r_si, r_sl, r_sI, ctb, htb, cm, Bool.and_false]
      rw [s_id hsv]
    | true =>
      rw [e2] at cm
      simp (disch := first | omega | decide | exact ko_b _ | assumption | (simp only [t_si, t_sl, t_sr, t_sI, t_sR, n_si, n_sl, n_sr, n_sI, n_sR, r_si, r_sl, r_sI]; first | done | omega)) only [x_46_e, x_46_b, x_46_55, x_46_56, x_46_59, x_46_62, x_46_64, x_46_66, x_46_67, x_46_68, x_46_69, x_46_70, x_46_73, x_46_74, x_46_75, x_46_77, x_46_80, x_46_83, x_46_84, x_46_87, x_46_88, x_46_89, x_46_92, x_46_93, x_46_94, x_46_95, x_46_98, x_46_100, x_46_101, x_46_103, x_46_104, x_46_105, x_46_106, x_46_107, x_46_108, x_46_109, x_46_110, x_46_113, x_46_114, x_46_117, bk_v, bk_n, nl_I, nl_R, nl_L, nl_0, oo_lt, oo_le, oo_eq, oo_add, oo_sub, oo_tn, oo_ir, nn_leT, nn_leF, nn_ltT, nn_ltF, nn_eqT, nn_eqF, bv_0, bv_1, ko_b, ko_1, ko_0, true_and, and_true, if_true, if_false, not_true_eq_false, not_false_eq_true, oo_02, decide_eq_true_eq, decide_eq_false_iff_not, ite_not, Nat.reduceAdd, Nat.reduceLT, Nat.reduceSub, Nat.reduceLeDiff, reduceIte, Bool.true_eq_false, Bool.false_eq_true, reduceCtorEq, eq_self, decide_true, decide_false, bv_t, bv_f, and_self, t_si, t_sl, t_sr, t_sI, t_sR, n_si, n_sl, n_sr, n_sI, n_sR, r_si, r_sl, r_sI, ctb, htb, cm, Bool.and_true, r12, n38, hsv, ss, ri, ec, mx_n]
theorem c_mrgs (h : RC_ w G σ S) (hV : WS_ S) {d : Nat} : CR_ G (d + 12) 46 [v_R (some 1000)] w (v_I (Int32.ofNat (f_mrg (sm_T S) (bm_X (sm_B S))))) := by
  have hn10 := hV.1.1
  obtain ⟨P, hP⟩ : ∃ P, P = 2 ^ tm_n (sm_T S) := ⟨_, rfl⟩
  have hP1 : 1 ≤ P := by rw [hP]; exact Nat.two_pow_pos _
  have hP2 : P ≤ 1024 := by rw [hP]; exact p2_le hn10
  have sbN : Int32.ofNat 1 <<< (Int32.ofNat (tm_n (sm_T S)) &&& 31) = Int32.ofNat P := by rw [sb_s (by omega), hP]
  have hw0 := h
  have fac : ∀ t, RC_ t G σ S → w_t t 1000 = 20 ∧ w_r t 1000 12 = some 1438 ∧ w_t t 1438 = 1 ∧ w_n t 1438 = 1024 := fun t hr => by
    have hh := hr.1
    unfold sh_C at hh
    simp only [hh, and_self]
  obtain ⟨t, ⟨i1, i2⟩, q1⟩ := lp_ex (fun s (t : (Option Vl × Option Vl × Option Vl) × Wd) Q => wp (d + 12) 46 18 [some (v_R (some 1000)), some (v_I (Int32.ofNat (P - 1))), some (v_I (Int32.ofNat s)), t.1.1, t.1.2.1, t.1.2.2] [] t.2 Q) (fun s t => Fr_ P38_ w t.2 ∧ (1 ≤ s ∧ ∀ v, v < s → w_i t.2 1438 v = Int32.ofNat (cpl_ (f_mar (sm_T S) (xm_y (bm_X (sm_B S)))) (tm_n (sm_T S)) 10 v))) P (fun s t hs hI => by
    obtain ⟨f1, h1, hc⟩ := hI
    have r1 := RC_38 hw0 hV f1
    have h0 : s ≠ 0 := by omega
    obtain ⟨n1, n2, -⟩ := nz_n (s := s) (by rw [← hP]; exact hs) hn10 h0
    have hr : rmv_ s (nz_ s) < s := rmv_l1 ⟨s, by omega⟩ ⟨nz_ s, by omega⟩ n1
    obtain ⟨a1, a2, a3, a4⟩ := fac _ r1
    have ntz := fun d Q => j_ntz (w := t.2) (d := d) (Q := Q) (s := s) (by omega) (by omega)
    have hand : Int32.ofNat s &&& Int32.ofNat (s - 1) = Int32.ofNat (rmv_ s (nz_ s)) := by
      rcases nz_i ⟨s, by omega⟩ with z | z
      · exact absurd z h0
      · exact z.2
    have er := hc _ hr
    have hcl := cpl_le (f_mar (sm_T S) (xm_y (bm_X (sm_B S)))) (tm_n (sm_T S)) 10
    obtain ⟨u, ⟨j1, j2, j3, j4⟩, q2⟩ := lp_ig (fun b (v : Nat) (u : Wd) Q => wp (d + 12) 46 53 [some (v_R (some 1000)), some (v_I (Int32.ofNat (P - 1))), some (v_I (Int32.ofNat s)), some (v_I (Int32.ofNat (nz_ s))), some (v_I (Int32.ofNat (rmv_ s (nz_ s)))), some (v_I (Int32.ofNat b))] [] u Q) (fun b v u => Fr_ P38_ w u ∧ (∀ x, x < s → w_i u 1438 x = Int32.ofNat (cpl_ (f_mar (sm_T S) (xm_y (bm_X (sm_B S)))) (tm_n (sm_T S)) 10 x)) ∧ w_i u 1438 s = Int32.ofNat v ∧ v ≤ 11) (cpl1_ (f_mar (sm_T S) (xm_y (bm_X (sm_B S)))) (cpl_ (f_mar (sm_T S) (xm_y (bm_X (sm_B S)))) (tm_n (sm_T S)) 10) (nz_ s) (rmv_ s (nz_ s))) (tm_n (sm_T S) - (nz_ s + 1)) (nz_ s + 1) (cpl_ (f_mar (sm_T S) (xm_y (bm_X (sm_B S)))) (tm_n (sm_T S)) 10 (rmv_ s (nz_ s))) (s_i t.2 1438 s (Int32.ofNat (cpl_ (f_mar (sm_T S) (xm_y (bm_X (sm_B S)))) (tm_n (sm_T S)) 10 (rmv_ s (nz_ s))))) (fun b v u hb1 hb2 hC => by
      obtain ⟨k1, k2, k3, k4⟩ := hC
      refine ⟨_, ⟨fr_si k1 rfl, fun x hx => ?_, by rw [i_si, if_pos ⟨rfl, rfl⟩], ?_⟩, fun Q => c_mr1 (RC_38 hw0 hV k1) hV (d := d) (by omega) (by rw [← hP]; exact hs) h0 (by omega) hcl k4 k2 k3⟩
      · rw [i_si, if_neg (by omega)]; exact k2 x hx
      · unfold cpl1_
        have := hcl (rmv_ (rmv_ s (nz_ s)) b)
        split <;> omega) ⟨fr_si f1 rfl, fun x hx => by rw [i_si, if_neg (by omega)]; exact hc x hx, by rw [i_si, if_pos ⟨rfl, rfl⟩], by have := hcl (rmv_ s (nz_ s)); omega⟩
    rw [← cpl_10 _ (by omega) h0] at j3 j4
    refine ⟨((some (v_I (Int32.ofNat (nz_ s))), some (v_I (Int32.ofNat (rmv_ s (nz_ s)))), some (v_I (Int32.ofNat (nz_ s + 1 + (tm_n (sm_T S) - (nz_ s + 1)))))), u), ⟨j1, by omega, fun v hv => ?_⟩, fun Q => ?_⟩
    · by_cases e : v = s
      · rw [e]; exact j3
      · exact j2 v (by omega)
    · have r2 := RC_38 hw0 hV j1
      have ctb := fun d Q => c_tables r2 hV (d := d) (Q := Q)
      have b1 : w_t u 1000 = 20 := r2.1.1
      have fin : wp (d + 12) 46 53 [some (v_R (some 1000)), some (v_I (Int32.ofNat (P - 1))), some (v_I (Int32.ofNat s)), some (v_I (Int32.ofNat (nz_ s))), some (v_I (Int32.ofNat (rmv_ s (nz_ s)))), some (v_I (Int32.ofNat (nz_ s + 1 + (tm_n (sm_T S) - (nz_ s + 1)))))] [] u Q = wp (d + 12) 46 18 [some (v_R (some 1000)), some (v_I (Int32.ofNat (P - 1))), some (v_I (Int32.ofNat (s + 1))), some (v_I (Int32.ofNat (nz_ s))), some (v_I (Int32.ofNat (rmv_ s (nz_ s)))), some (v_I (Int32.ofNat (nz_ s + 1 + (tm_n (sm_T S) - (nz_ s + 1)))))] [] u Q := by
        rw [x_46_53]
        simp (disch := first | omega | decide | exact ko_b _ | assumption | (simp only [t_si, t_sl, t_sr, t_sI, t_sR, n_si, n_sl, n_sr, n_sI, n_sR, r_si, r_sl, r_sI]; first | done | omega)) only [x_46_e, x_46_b, x_46_55, x_46_56, x_46_59, x_46_e, x_46_b, x_46_120, x_46_123, bk_v, bk_n, nl_I, nl_R, nl_L, nl_0, oo_lt, oo_le, oo_eq, oo_add, oo_sub, oo_tn, oo_ir, nn_leT, nn_leF, nn_ltT, nn_ltF, nn_eqT, nn_eqF, bv_0, bv_1, ko_b, ko_1, ko_0, true_and, and_true, if_true, if_false, not_true_eq_false, not_false_eq_true, oo_02, decide_eq_true_eq, decide_eq_false_iff_not, ite_not, Nat.reduceAdd, Nat.reduceLT, Nat.reduceSub, Nat.reduceLeDiff, reduceIte, Bool.true_eq_false, Bool.false_eq_true, reduceCtorEq, eq_self, decide_true, decide_false, bv_t, bv_f, and_self, t_si, t_sl, t_sr, t_sI, t_sR, n_si, n_sl, n_sr, n_sI, n_sR, r_si, r_sl, r_sI, ctb]
      refine Eq.trans ?_ ((q2 Q).trans fin)
      rw [x_46_18]
      simp (disch := first | omega | decide | exact ko_b _ | assumption | (simp only [t_si, t_sl, t_sr, t_sI, t_sR, n_si, n_sl, n_sr, n_sI, n_sR, r_si, r_sl, r_sI]; first | done | omega)) only [x_46_e, x_46_b, x_46_19, x_46_20, x_46_23, x_46_24, x_46_27, x_46_28, x_46_29, x_46_30, x_46_31, x_46_32, x_46_33, x_46_35, x_46_36, x_46_39, x_46_40, x_46_41, x_46_44, x_46_46, x_46_47, x_46_48, x_46_49, x_46_50, x_46_51, bk_v, bk_n, nl_I, nl_R, nl_L, nl_0, oo_lt, oo_le, oo_eq, oo_add, oo_sub, oo_tn, oo_ir, nn_leT, nn_leF, nn_ltT, nn_ltF, nn_eqT, nn_eqF, bv_0, bv_1, ko_b, ko_1, ko_0, true_and, and_true, if_true, if_false, not_true_eq_false, not_false_eq_true, oo_02, decide_eq_true_eq, decide_eq_false_iff_not, ite_not, Nat.reduceAdd, Nat.reduceLT, Nat.reduceSub, Nat.reduceLeDiff, reduceIte, Bool.true_eq_false, Bool.false_eq_true, reduceCtorEq, eq_self, decide_true, decide_false, bv_t, bv_f, and_self, t_si, t_sl, t_sr, t_sI, t_sR, n_si, n_sl, n_sr, n_sI, n_sR, r_si, r_sl, r_sI, ntz, hand, a2, a4, er]) (P - 1) 1 ((none, none, none), s_i w 1438 0 (Int32.ofNat 0)) (by omega) ⟨fr_si (fr_rf _ _) rfl, by omega, fun v hv => by
      have e : v = 0 := by omega
      subst e
      rw [i_si, if_pos ⟨rfl, rfl⟩]; rfl⟩
  refine ⟨t.2, fr_mo i1 (fun a k z => by unfold P38_ at z; unfold pc_; omega), fun Q => ?_⟩
  obtain ⟨a1, a2, a3, a4⟩ := fac _ (RC_38 hw0 hV i1)
  obtain ⟨b1, b2, b3, b4⟩ := fac _ hw0
  have ea := i2.2 (P - 1) (by omega)
  have ctb := fun d Q => c_tables hw0 hV (d := d) (Q := Q)
  have fin : wp (d + 12) 46 18 [some (v_R (some 1000)), some (v_I (Int32.ofNat (P - 1))), some (v_I (Int32.ofNat P)), t.1.1, t.1.2.1, t.1.2.2] [] t.2 Q = Q (Sum.inl (some (v_I (Int32.ofNat (f_mrg (sm_T S) (bm_X (sm_B S))))))) t.2 := by
    unfold f_mrg
    rw [x_46_18, ← hP]
    simp (disch := first | omega | decide | exact ko_b _ | assumption | (simp only [t_si, t_sl, t_sr, t_sI, t_sR, n_si, n_sl, n_sr, n_sI, n_sR, r_si, r_sl, r_sI]; first | done | omega)) only [x_46_e, x_46_b, x_46_19, x_46_20, x_46_e, x_46_b, x_46_126, x_46_127, x_46_130, x_46_131, x_46_132, bk_v, bk_n, nl_I, nl_R, nl_L, nl_0, oo_lt, oo_le, oo_eq, oo_add, oo_sub, oo_tn, oo_ir, nn_leT, nn_leF, nn_ltT, nn_ltF, nn_eqT, nn_eqF, bv_0, bv_1, ko_b, ko_1, ko_0, true_and, and_true, if_true, if_false, not_true_eq_false, not_false_eq_true, oo_02, decide_eq_true_eq, decide_eq_false_iff_not, ite_not, Nat.reduceAdd, Nat.reduceLT, Nat.reduceSub, Nat.reduceLeDiff, reduceIte, Bool.true_eq_false, Bool.false_eq_true, reduceCtorEq, eq_self, decide_true, decide_false, bv_t, bv_f, and_self, t_si, t_sl, t_sr, t_sI, t_sR, n_si, n_sl, n_sr, n_sI, n_sR, r_si, r_sl, r_sI, a2, a4, ea]
  refine Eq.trans ?_ ((q1 Q).trans fin)
  simp (disch := first | omega | decide | exact ko_b _ | assumption | (simp only [t_si, t_sl, t_sr, t_sI, t_sR, n_si, n_sl, n_sr, n_sI, n_sR, r_si, r_sl, r_sI]; first | done | omega)) only [x_46_e, x_46_b, x_46_0, x_46_1, x_46_2, x_46_5, x_46_6, x_46_7, x_46_8, x_46_9, x_46_10, x_46_13, x_46_14, x_46_15, x_46_16, x_46_17, bk_v, bk_n, nl_I, nl_R, nl_L, nl_0, oo_lt, oo_le, oo_eq, oo_add, oo_sub, oo_tn, oo_ir, nn_leT, nn_leF, nn_ltT, nn_ltF, nn_eqT, nn_eqF, bv_0, bv_1, ko_b, ko_1, ko_0, true_and, and_true, if_true, if_false, not_true_eq_false, not_false_eq_true, oo_02, decide_eq_true_eq, decide_eq_false_iff_not, ite_not, Nat.reduceAdd, Nat.reduceLT, Nat.reduceSub, Nat.reduceLeDiff, reduceIte, Bool.true_eq_false, Bool.false_eq_true, reduceCtorEq, eq_self, decide_true, decide_false, bv_t, bv_f, and_self, t_si, t_sl, t_sr, t_sI, t_sR, n_si, n_sl, n_sr, n_sI, n_sR, r_si, r_sl, r_sI, ctb, sbN, b2, b4]
/-! the model -/
theorem m_cpl {T : Tm} {X : Xm} (h : MQ_ w T X) {d : Nat} : ∀ (f s : Nat), f ≤ 10 → s < 2 ^ tm_n T → bt_n s ≤ f → ∀ Q, cl (d + f + 3) 236 [v_R (some 1440), v_I (Int32.ofNat s)] w Q = Q (Sum.inl (some (v_I (Int32.ofNat (cpl_ (f_mar T (xm_y X)) (tm_n T) f s))))) w := by
  have hn10 := h.2.2.2.1.1
  have hM := h.1
  unfold sh_M at hM
  have u0 : w_t w 1440 = 25 := hM.1
  have u4 : w_r w 1440 4 = some 1444 := by simp only [hM]
  have t44 : w_t w 1444 = 1 := by simp only [hM]
  have n44 : w_n w 1444 = 8 := by simp only [hM]
  clear hM
  have e0 : w_i w 1444 0 = Int32.ofNat (tm_n T) := h.2.1.1
  -- the first of a set
  have first : ∀ (D s : Nat) (Q : Q_) (a3 a4 a5 : Option Vl), s < 1024 → wp (D + 1) 236 2 [some (v_R (some 1440)), some (v_I (Int32.ofNat s)), some (v_I (Int32.ofNat 0)), a3, a4, a5] [] w Q = wp (D + 1) 236 26 [some (v_R (some 1440)), some (v_I (Int32.ofNat s)), some (v_I (Int32.ofNat (match ff_ (fun t => s.testBit t) 0 (tm_n T) with | some j => j | none => tm_n T))), a3, a4, a5] [] w Q := by
    intro D s Q a3 a4 a5 hs
    refine lp_fo (fun t => wp (D + 1) 236 2 [some (v_R (some 1440)), some (v_I (Int32.ofNat s)), some (v_I (Int32.ofNat t)), a3, a4, a5] [] w Q) (fun o => wp (D + 1) 236 26 [some (v_R (some 1440)), some (v_I (Int32.ofNat s)), some (v_I (Int32.ofNat (match o with | some j => j | none => tm_n T))), a3, a4, a5] [] w Q) (fun t => s.testBit t) (tm_n T) 0 (fun t _ ht => ?_) ?_
    · have hof := fun d Q => m_isOf (w := w) (d := d) (Q := Q) hs (by omega : t < 10)
      rw [x_236_2]
      cases e : s.testBit t with
      | true =>
        rw [e] at hof
        simp (disch := first | omega | decide | exact ko_b _ | assumption | (simp only [t_si, t_sl, t_sr, t_sI, t_sR, n_si, n_sl, n_sr, n_sI, n_sR, r_si, r_sl, r_sI]; first | done | omega)) only [x_236_e, x_236_b, x_236_3, x_236_4, x_236_7, x_236_8, x_236_9, x_236_12, x_236_13, x_236_14, x_236_17, x_236_20, x_236_23, bk_v, bk_n, nl_I, nl_R, nl_L, nl_0, oo_lt, oo_le, oo_eq, oo_add, oo_sub, oo_tn, oo_ir, nn_leT, nn_leF, nn_ltT, nn_ltF, nn_eqT, nn_eqF, bv_0, bv_1, ko_b, ko_1, ko_0, true_and, and_true, if_true, if_false, not_true_eq_false, not_false_eq_true, oo_02, decide_eq_true_eq, decide_eq_false_iff_not, ite_not, Nat.reduceAdd, Nat.reduceLT, Nat.reduceSub, Nat.reduceLeDiff, reduceIte, Bool.true_eq_false, Bool.false_eq_true, reduceCtorEq, eq_self, decide_true, decide_false, bv_t, bv_f, and_self, t_si, t_sl, t_sr, t_sI, t_sR, n_si, n_sl, n_sr, n_sI, n_sR, r_si, r_sl, r_sI, u4, n44, e0, hof]
      | false =>
        rw [e] at hof
        simp (disch := first | omega | decide | exact ko_b _ | assumption | (simp only [t_si, t_sl, t_sr, t_sI, t_sR, n_si, n_sl, n_sr, n_sI, n_sR, r_si, r_sl, r_sI]; first | done | omega)) only [x_236_e, x_236_b, x_236_3, x_236_4, x_236_7, x_236_8, x_236_9, x_236_12, x_236_13, x_236_14, x_236_17, x_236_20, x_236_23, bk_v, bk_n, nl_I, nl_R, nl_L, nl_0, oo_lt, oo_le, oo_eq, oo_add, oo_sub, oo_tn, oo_ir, nn_leT, nn_leF, nn_ltT, nn_ltF, nn_eqT, nn_eqF, bv_0, bv_1, ko_b, ko_1, ko_0, true_and, and_true, if_true, if_false, not_true_eq_false, not_false_eq_true, oo_02, decide_eq_true_eq, decide_eq_false_iff_not, ite_not, Nat.reduceAdd, Nat.reduceLT, Nat.reduceSub, Nat.reduceLeDiff, reduceIte, Bool.true_eq_false, Bool.false_eq_true, reduceCtorEq, eq_self, decide_true, decide_false, bv_t, bv_f, and_self, t_si, t_sl, t_sr, t_sI, t_sR, n_si, n_sl, n_sr, n_sI, n_sR, r_si, r_sl, r_sI, u4, n44, e0, hof]
    · rw [x_236_2]
      simp (disch := first | omega | decide | exact ko_b _ | assumption | (simp only [t_si, t_sl, t_sr, t_sI, t_sR, n_si, n_sl, n_sr, n_sI, n_sR, r_si, r_sl, r_sI]; first | done | omega)) only [x_236_e, x_236_b, x_236_3, x_236_4, x_236_7, x_236_8, x_236_9, x_236_12, x_236_13, x_236_14, x_236_17, x_236_20, x_236_23, bk_v, bk_n, nl_I, nl_R, nl_L, nl_0, oo_lt, oo_le, oo_eq, oo_add, oo_sub, oo_tn, oo_ir, nn_leT, nn_leF, nn_ltT, nn_ltF, nn_eqT, nn_eqF, bv_0, bv_1, ko_b, ko_1, ko_0, true_and, and_true, if_true, if_false, not_true_eq_false, not_false_eq_true, oo_02, decide_eq_true_eq, decide_eq_false_iff_not, ite_not, Nat.reduceAdd, Nat.reduceLT, Nat.reduceSub, Nat.reduceLeDiff, reduceIte, Bool.true_eq_false, Bool.false_eq_true, reduceCtorEq, eq_self, decide_true, decide_false, bv_t, bv_f, and_self, t_si, t_sl, t_sr, t_sI, t_sR, n_si, n_sl, n_sr, n_sI, n_sR, r_si, r_sl, r_sI, u4, n44, e0, Nat.zero_add]
  have zero : ∀ (D : Nat) (Q : Q_), cl (D + 1) 236 [v_R (some 1440), v_I (Int32.ofNat 0)] w Q = Q (Sum.inl (some (v_I (Int32.ofNat 0)))) w := by
    intro D Q
    have fz : ff_ (fun t => (0 : Nat).testBit t) 0 (tm_n T) = none := ff_no _ _ (fun i _ _ => Nat.zero_testBit i)
    have f1 := first D 0 Q none none none (by omega)
    rw [fz] at f1
    simp (disch := first | omega | decide | exact ko_b _ | assumption | (simp only [t_si, t_sl, t_sr, t_sI, t_sR, n_si, n_sl, n_sr, n_sI, n_sR, r_si, r_sl, r_sI]; first | done | omega)) only [x_236_e, x_236_b, x_236_0, x_236_1, bk_v, bk_n, nl_I, nl_R, nl_L, nl_0, oo_lt, oo_le, oo_eq, oo_add, oo_sub, oo_tn, oo_ir, nn_leT, nn_leF, nn_ltT, nn_ltF, nn_eqT, nn_eqF, bv_0, bv_1, ko_b, ko_1, ko_0, true_and, and_true, if_true, if_false, not_true_eq_false, not_false_eq_true, oo_02, decide_eq_true_eq, decide_eq_false_iff_not, ite_not, Nat.reduceAdd, Nat.reduceLT, Nat.reduceSub, Nat.reduceLeDiff, reduceIte, Bool.true_eq_false, Bool.false_eq_true, reduceCtorEq, eq_self, decide_true, decide_false, bv_t, bv_f, and_self, t_si, t_sl, t_sr, t_sI, t_sR, n_si, n_sl, n_sr, n_sI, n_sR, r_si, r_sl, r_sI]
    rw [f1]
    simp (disch := first | omega | decide | exact ko_b _ | assumption | (simp only [t_si, t_sl, t_sr, t_sI, t_sR, n_si, n_sl, n_sr, n_sI, n_sR, r_si, r_sl, r_sI]; first | done | omega)) only [x_236_e, x_236_b, x_236_26, x_236_27, x_236_28, x_236_31, x_236_32, x_236_33, x_236_36, x_236_37, bk_v, bk_n, nl_I, nl_R, nl_L, nl_0, oo_lt, oo_le, oo_eq, oo_add, oo_sub, oo_tn, oo_ir, nn_leT, nn_leF, nn_ltT, nn_ltF, nn_eqT, nn_eqF, bv_0, bv_1, ko_b, ko_1, ko_0, true_and, and_true, if_true, if_false, not_true_eq_false, not_false_eq_true, oo_02, decide_eq_true_eq, decide_eq_false_iff_not, ite_not, Nat.reduceAdd, Nat.reduceLT, Nat.reduceSub, Nat.reduceLeDiff, reduceIte, Bool.true_eq_false, Bool.false_eq_true, reduceCtorEq, eq_self, decide_true, decide_false, bv_t, bv_f, and_self, t_si, t_sl, t_sr, t_sI, t_sR, n_si, n_sl, n_sr, n_sI, n_sR, r_si, r_sl, r_sI, u4, n44, e0]
  intro f
  induction f with
  | zero =>
    intro s hf9 hs hb Q
    have hs0 : s = 0 := bt_0 (Nat.lt_of_lt_of_le hs (p2_le hn10)) (by omega)
    subst hs0
    exact zero (d + 2) Q
  | succ f ih =>
    intro s hf9 hs hb Q
    have h1024 : s < 1024 := Nat.lt_of_lt_of_le hs (p2_le hn10)
    by_cases h0 : s = 0
    · subst h0
      rw [cpl_, if_pos rfl]
      exact zero (d + (f + 1) + 2) Q
    · obtain ⟨n1, n2, n3⟩ := nz_n hs hn10 h0
      have hr : rmv_ s (nz_ s) < s := rmv_l1 ⟨s, h1024⟩ ⟨nz_ s, by omega⟩ n1
      have hbt := bt_rm n1 (by omega)
      have hrn : rmv_ s (nz_ s) < 2 ^ tm_n T := Nat.lt_trans hr hs
      have q1 := ih (rmv_ s (nz_ s)) (by omega) hrn (by omega)
      have hcl := cpl_le (f_mar T (xm_y X)) (tm_n T) f
      have f1 := first (d + f + 3) s Q none none none h1024
      rw [n3] at f1
      have ss := sb_s (t := nz_ s) (by omega)
      have ri := rm_i (s := s) (t := nz_ s) h1024 (by omega)
      rw [cpl_, if_neg h0]
      have key := lp_iv (fun b (v : Nat) => wp (d + f + 4) 236 58 [some (v_R (some 1440)), some (v_I (Int32.ofNat s)), some (v_I (Int32.ofNat (nz_ s))), some (v_I (Int32.ofNat (rmv_ s (nz_ s)))), some (v_I (Int32.ofNat v)), some (v_I (Int32.ofNat b))] [] w Q) (fun v => Q (Sum.inl (some (v_I (Int32.ofNat v)))) w) (fun b v => v ≤ f + 1) (cpl1_ (f_mar T (xm_y X)) (cpl_ (f_mar T (xm_y X)) (tm_n T) f) (nz_ s) (rmv_ s (nz_ s))) (tm_n T - (nz_ s + 1)) (nz_ s + 1) (cpl_ (f_mar T (xm_y X)) (tm_n T) f (rmv_ s (nz_ s))) (by have := hcl (rmv_ s (nz_ s)); omega) (fun b v hb1 hb2 hv => ?_) (fun v hv => ?_)
      · refine Eq.trans ?_ key
        have e5 : d + (f + 1) + 3 = d + f + 4 := by omega
        rw [e5]
        simp (disch := first | omega | decide | exact ko_b _ | assumption | (simp only [t_si, t_sl, t_sr, t_sI, t_sR, n_si, n_sl, n_sr, n_sI, n_sR, r_si, r_sl, r_sI]; first | done | omega)) only [x_236_e, x_236_b, x_236_0, x_236_1, bk_v, bk_n, nl_I, nl_R, nl_L, nl_0, oo_lt, oo_le, oo_eq, oo_add, oo_sub, oo_tn, oo_ir, nn_leT, nn_leF, nn_ltT, nn_ltF, nn_eqT, nn_eqF, bv_0, bv_1, ko_b, ko_1, ko_0, true_and, and_true, if_true, if_false, not_true_eq_false, not_false_eq_true, oo_02, decide_eq_true_eq, decide_eq_false_iff_not, ite_not, Nat.reduceAdd, Nat.reduceLT, Nat.reduceSub, Nat.reduceLeDiff, reduceIte, Bool.true_eq_false, Bool.false_eq_true, reduceCtorEq, eq_self, decide_true, decide_false, bv_t, bv_f, and_self, t_si, t_sl, t_sr, t_sI, t_sR, n_si, n_sl, n_sr, n_sI, n_sR, r_si, r_sl, r_sI]
        rw [f1]
        simp (disch := first | omega | decide | exact ko_b _ | assumption | (simp only [t_si, t_sl, t_sr, t_sI, t_sR, n_si, n_sl, n_sr, n_sI, n_sR, r_si, r_sl, r_sI]; first | done | omega)) only [x_236_e, x_236_b, x_236_26, x_236_27, x_236_28, x_236_31, x_236_32, x_236_33, x_236_36, x_236_37, x_236_38, x_236_39, x_236_40, x_236_41, x_236_42, x_236_43, x_236_44, x_236_45, x_236_46, x_236_47, x_236_48, x_236_51, x_236_53, x_236_54, x_236_55, x_236_56, bk_v, bk_n, nl_I, nl_R, nl_L, nl_0, oo_lt, oo_le, oo_eq, oo_add, oo_sub, oo_tn, oo_ir, nn_leT, nn_leF, nn_ltT, nn_ltF, nn_eqT, nn_eqF, bv_0, bv_1, ko_b, ko_1, ko_0, true_and, and_true, if_true, if_false, not_true_eq_false, not_false_eq_true, oo_02, decide_eq_true_eq, decide_eq_false_iff_not, ite_not, Nat.reduceAdd, Nat.reduceLT, Nat.reduceSub, Nat.reduceLeDiff, reduceIte, Bool.true_eq_false, Bool.false_eq_true, reduceCtorEq, eq_self, decide_true, decide_false, bv_t, bv_f, and_self, t_si, t_sl, t_sr, t_sI, t_sR, n_si, n_sl, n_sr, n_sI, n_sR, r_si, r_sl, r_sI, u4, n44, e0, ss, ri, q1]
      · have hof := fun d Q => m_isOf (w := w) (d := d) (Q := Q) (s := rmv_ s (nz_ s)) (t := b) (by omega) (by omega)
        have mm := fun Q => m_mar h (d := d + f + 1) (a := nz_ s) (b := b) (Q := Q) n2 (by omega)
        have ssb := sb_s (t := b) (by omega)
        have rib := rm_i (s := rmv_ s (nz_ s)) (t := b) (by omega) (by omega)
        have hcb := hcl (rmv_ (rmv_ s (nz_ s)) b)
        refine ⟨?_, ?_⟩
        · rw [x_236_58]
          unfold cpl1_
          cases e1 : (rmv_ s (nz_ s)).testBit b with
          | false =>
            rw [e1] at hof
            simp (disch := first | omega | decide | exact ko_b _ | assumption | (simp only [t_si, t_sl, t_sr, t_sI, t_sR, n_si, n_sl, n_sr, n_sI, n_sR, r_si, r_sl, r_sI]; first | done | omega)) only [x_236_e, x_236_b, x_236_60, x_236_61, x_236_64, x_236_65, x_236_66, x_236_69, x_236_70, x_236_72, x_236_75, x_236_78, x_236_79, x_236_80, x_236_82, x_236_85, x_236_88, x_236_90, x_236_91, x_236_92, x_236_93, x_236_94, x_236_96, x_236_97, x_236_98, x_236_99, x_236_100, x_236_103, x_236_104, x_236_107, x_236_109, x_236_112, bk_v, bk_n, nl_I, nl_R, nl_L, nl_0, oo_lt, oo_le, oo_eq, oo_add, oo_sub, oo_tn, oo_ir, nn_leT, nn_leF, nn_ltT, nn_ltF, nn_eqT, nn_eqF, bv_0, bv_1, ko_b, ko_1, ko_0, true_and, and_true, if_true, if_false, not_true_eq_false, not_false_eq_true, oo_02, decide_eq_true_eq, decide_eq_false_iff_not, ite_not, Nat.reduceAdd, Nat.reduceLT, Nat.reduceSub, Nat.reduceLeDiff, reduceIte, Bool.true_eq_false, Bool.false_eq_true, reduceCtorEq, eq_self, decide_true, decide_false, bv_t, bv_f, and_self, t_si, t_sl, t_sr, t_sI, t_sR, n_si, n_sl, n_sr, n_sI, n_sR, r_si, r_sl, r_sI, u4, n44, e0, hof, Bool.false_and]
          | true =>
            rw [e1] at hof
            have hr2 : rmv_ (rmv_ s (nz_ s)) b < rmv_ s (nz_ s) := rmv_l1 ⟨rmv_ s (nz_ s), by omega⟩ ⟨b, by omega⟩ e1
            have hb2 := bt_rm e1 (by omega)
            have q2 := ih (rmv_ (rmv_ s (nz_ s)) b) (by omega) (Nat.lt_trans hr2 hrn) (by omega)
            cases e2 : f_mar T (xm_y X) (nz_ s) b with
            | false =>
              rw [e2] at mm
              simp (disch := first | omega | decide | exact ko_b _ | assumption | (simp only [t_si, t_sl, t_sr, t_sI, t_sR, n_si, n_sl, n_sr, n_sI, n_sR, r_si, r_sl, r_sI]; first | done | omega)) only [x_236_e, x_236_b, x_236_60, x_236_61, x_236_64, x_236_65, x_236_66, x_236_69, x_236_70, x_236_72, x_236_75, x_236_78, x_236_79, x_236_80, x_236_82, x_236_85, x_236_88, x_236_90, x_236_91, x_236_92, x_236_93, x_236_94, x_236_96, x_236_97, x_236_98, x_236_99, x_236_100, x_236_103, x_236_104, x_236_107, x_236_109, x_236_112, bk_v, bk_n, nl_I, nl_R, nl_L, nl_0, oo_lt, oo_le, oo_eq, oo_add, oo_sub, oo_tn, oo_ir, nn_leT, nn_leF, nn_ltT, nn_ltF, nn_eqT, nn_eqF, bv_0, bv_1, ko_b, ko_1, ko_0, true_and, and_true, if_true, if_false, not_true_eq_false, not_false_eq_true, oo_02, decide_eq_true_eq, decide_eq_false_iff_not, ite_not, Nat.reduceAdd, Nat.reduceLT, Nat.reduceSub, Nat.reduceLeDiff, reduceIte, Bool.true_eq_false, Bool.false_eq_true, reduceCtorEq, eq_self, decide_true, decide_false, bv_t, bv_f, and_self, t_si, t_sl, t_sr, t_sI, t_sR, n_si, n_sl, n_sr, n_sI, n_sR, r_si, r_sl, r_sI, u4, n44, e0, hof, mm, Bool.and_false]
            | true =>
              rw [e2] at mm
              have c1 : (Int32.ofNat 1 : Int32) + Int32.ofNat (cpl_ (f_mar T (xm_y X)) (tm_n T) f (rmv_ (rmv_ s (nz_ s)) b)) = Int32.ofNat (cpl_ (f_mar T (xm_y X)) (tm_n T) f (rmv_ (rmv_ s (nz_ s)) b) + 1) := by
                rw [oo_add, Nat.add_comm]
              simp (disch := first | omega | decide | exact ko_b _ | assumption | (simp only [t_si, t_sl, t_sr, t_sI, t_sR, n_si, n_sl, n_sr, n_sI, n_sR, r_si, r_sl, r_sI]; first | done | omega)) only [x_236_e, x_236_b, x_236_60, x_236_61, x_236_64, x_236_65, x_236_66, x_236_69, x_236_70, x_236_72, x_236_75, x_236_78, x_236_79, x_236_80, x_236_82, x_236_85, x_236_88, x_236_90, x_236_91, x_236_92, x_236_93, x_236_94, x_236_96, x_236_97, x_236_98, x_236_99, x_236_100, x_236_103, x_236_104, x_236_107, x_236_109, x_236_112, bk_v, bk_n, nl_I, nl_R, nl_L, nl_0, oo_lt, oo_le, oo_eq, oo_add, oo_sub, oo_tn, oo_ir, nn_leT, nn_leF, nn_ltT, nn_ltF, nn_eqT, nn_eqF, bv_0, bv_1, ko_b, ko_1, ko_0, true_and, and_true, if_true, if_false, not_true_eq_false, not_false_eq_true, oo_02, decide_eq_true_eq, decide_eq_false_iff_not, ite_not, Nat.reduceAdd, Nat.reduceLT, Nat.reduceSub, Nat.reduceLeDiff, reduceIte, Bool.true_eq_false, Bool.false_eq_true, reduceCtorEq, eq_self, decide_true, decide_false, bv_t, bv_f, and_self, t_si, t_sl, t_sr, t_sI, t_sR, n_si, n_sl, n_sr, n_sI, n_sR, r_si, r_sl, r_sI, u4, n44, e0, hof, mm, Bool.and_true, ssb, rib, q2, c1, Nat.add_comm 1, mx_n]
        · unfold cpl1_
          split <;> omega
      · rw [x_236_58]
        simp (disch := first | omega | decide | exact ko_b _ | assumption | (simp only [t_si, t_sl, t_sr, t_sI, t_sR, n_si, n_sl, n_sr, n_sI, n_sR, r_si, r_sl, r_sI]; first | done | omega)) only [x_236_e, x_236_b, x_236_60, x_236_61, x_236_64, x_236_65, x_236_66, x_236_69, x_236_e, x_236_b, x_236_115, x_236_117, bk_v, bk_n, nl_I, nl_R, nl_L, nl_0, oo_lt, oo_le, oo_eq, oo_add, oo_sub, oo_tn, oo_ir, nn_leT, nn_leF, nn_ltT, nn_ltF, nn_eqT, nn_eqF, bv_0, bv_1, ko_b, ko_1, ko_0, true_and, and_true, if_true, if_false, not_true_eq_false, not_false_eq_true, oo_02, decide_eq_true_eq, decide_eq_false_iff_not, ite_not, Nat.reduceAdd, Nat.reduceLT, Nat.reduceSub, Nat.reduceLeDiff, reduceIte, Bool.true_eq_false, Bool.false_eq_true, reduceCtorEq, eq_self, decide_true, decide_false, bv_t, bv_f, and_self, t_si, t_sl, t_sr, t_sI, t_sR, n_si, n_sl, n_sr, n_sI, n_sR, r_si, r_sl, r_sI, u4, n44, e0]
theorem m_mrgs (h9 : RM_ w S) (hV : WS_ S) {d : Nat} : MR_ (d + 14) 235 [v_R (some 1440)] w (v_I (Int32.ofNat (f_mrg (sm_T S) (bm_X (sm_B S))))) 0 := by
  refine mr_go (ls := [some (v_R (some 1440))]) (fun Q => ?_) (fun w0 hf hc => mr_0 hc (fun Q => ?_))
  · have h := h9
    have hq := RM_MQ h hV
    have hMM := hq
    obtain ⟨hM, hT, hS, ⟨hn, hk4⟩, hW1, hW2, hW3⟩ := hMM
    unfold sh_M at hM
    unfold MT_ at hT
    unfold MS_ at hS
    have hB := h.2.2.1.2
    unfold PK_ at hB
    have hR := h.2.2.2
    simp (disch := first | omega | decide | exact ko_b _ | assumption | (simp only [t_si, t_sl, t_sr, t_sI, t_sR, n_si, n_sl, n_sr, n_sI, n_sR, r_si, r_sl, r_sI]; first | done | omega)) only [x_235_e, x_235_b, x_235_0, x_235_1, x_235_2, x_235_6, x_235_7, x_235_8, x_235_11, x_235_12, x_235_13, x_235_14, x_235_15, x_235_16, x_235_19, bk_v, bk_n, nl_I, nl_R, nl_L, nl_0, oo_lt, oo_le, oo_eq, oo_add, oo_sub, oo_tn, oo_ir, nn_leT, nn_leF, nn_ltT, nn_ltF, nn_eqT, nn_eqF, bv_0, bv_1, ko_b, ko_1, ko_0, true_and, and_true, if_true, if_false, not_true_eq_false, not_false_eq_true, oo_02, decide_eq_true_eq, decide_eq_false_iff_not, ite_not, Nat.reduceAdd, Nat.reduceLT, Nat.reduceSub, Nat.reduceLeDiff, reduceIte, Bool.true_eq_false, Bool.false_eq_true, reduceCtorEq, eq_self, decide_true, decide_false, bv_t, bv_f, and_self, t_si, t_sl, t_sr, t_sI, t_sR, n_si, n_sl, n_sr, n_sI, n_sR, r_si, r_sl, r_sI, hM, hT, hS, hB, hR]
  · have h := RM_fr h9 hV hf
    have h0 := RM_MQ h hV
    have hn10 := hV.1.1
    obtain ⟨P, hP⟩ : ∃ P, P = 2 ^ tm_n (sm_T S) := ⟨_, rfl⟩
    have hP1 : 1 ≤ P := by rw [hP]; exact Nat.two_pow_pos _
    have hP2 : P ≤ 1024 := by rw [hP]; exact p2_le hn10
    have sbN : Int32.ofNat 1 <<< (Int32.ofNat (tm_n (sm_T S)) &&& 31) = Int32.ofNat P := by rw [sb_s (by omega), hP]
    have hb10 : ∀ s : Fin 1024, bt_n s.val ≤ 10 := by decide +kernel
    have q1 := m_cpl h0 (d := d) 10 (P - 1) (by omega) (by rw [← hP]; omega) (hb10 ⟨P - 1, by omega⟩)
    have e0 : w_i w0 1444 0 = Int32.ofNat (tm_n (sm_T S)) := h0.2.1.1
    have hM := h0.1
    unfold sh_M at hM
    have u0 : w_t w0 1440 = 25 := hM.1
    have u4 : w_r w0 1440 4 = some 1444 := by simp only [hM]
    have t44 : w_t w0 1444 = 1 := by simp only [hM]
    have n44 : w_n w0 1444 = 8 := by simp only [hM]
    clear hM
    unfold f_mrg
    rw [← hP]
    simp (disch := first | omega | decide | exact ko_b _ | assumption | (simp only [t_si, t_sl, t_sr, t_sI, t_sR, n_si, n_sl, n_sr, n_sI, n_sR, r_si, r_sl, r_sI]; first | done | omega)) only [x_235_e, x_235_b, x_235_0, x_235_1, x_235_2, x_235_5, x_235_6, x_235_7, x_235_8, x_235_11, x_235_12, x_235_13, x_235_14, x_235_15, x_235_16, x_235_19, bk_v, bk_n, nl_I, nl_R, nl_L, nl_0, oo_lt, oo_le, oo_eq, oo_add, oo_sub, oo_tn, oo_ir, nn_leT, nn_leF, nn_ltT, nn_ltF, nn_eqT, nn_eqF, bv_0, bv_1, ko_b, ko_1, ko_0, true_and, and_true, if_true, if_false, not_true_eq_false, not_false_eq_true, oo_02, decide_eq_true_eq, decide_eq_false_iff_not, ite_not, Nat.reduceAdd, Nat.reduceLT, Nat.reduceSub, Nat.reduceLeDiff, reduceIte, Bool.true_eq_false, Bool.false_eq_true, reduceCtorEq, eq_self, decide_true, decide_false, bv_t, bv_f, and_self, t_si, t_sl, t_sr, t_sI, t_sR, n_si, n_sl, n_sr, n_sI, n_sR, r_si, r_sl, r_sI, u4, n44, e0, sbN, q1]
end
