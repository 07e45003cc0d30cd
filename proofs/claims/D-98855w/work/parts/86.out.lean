/-! OUT: both halves -/
set_option maxRecDepth 100000
theorem lv_gone {n : Nat} {X : Xm} (h : WX_ n X) {t l : Nat} (ht : f_lv X t = some l) : f_lv (x_take X l) t = none := by
  obtain ⟨_, l2, l3, _⟩ := ff_s ht
  have l3 := of_decide_eq_true l3
  cases c : f_lv (x_take X l) t with
  | none => rfl
  | some m =>
    obtain ⟨_, m2, m3, _⟩ := ff_s c
    have m2 : m < 0 + (xm_L X - 1) := m2
    have m3 : (if m < l then xm_t X m else xm_t X (m + 1)) = t := of_decide_eq_true m3
    by_cases e : m < l
    · rw [if_pos e] at m3
      have := h.2.2 m l (by omega) (by omega) (by rw [m3, l3])
      omega
    · rw [if_neg e] at m3
      have := h.2.2 (m + 1) l (by omega) (by omega) (by rw [m3, l3])
      omega
theorem toff_all {n : Nat} {X : Xm} (h : WX_ n X) : xm_L (f_toff n (f_all X) X) = 0 := by
  have key : ∀ k, k ≤ n → WX_ n (it_ (f_off1 (f_all X)) 0 k X) ∧ ∀ j, (f_lv (it_ (f_off1 (f_all X)) 0 k X) j).isSome = (decide (k ≤ j) && (f_lv X j).isSome) := by
    intro k
    induction k with
    | zero => intro _; exact ⟨h, fun j => by rw [decide_eq_true (Nat.zero_le j), Bool.true_and]; rfl⟩
    | succ k ih =>
      intro hk
      obtain ⟨h1, h2⟩ := ih (by omega)
      rw [it_1, Nat.zero_add]
      have h2k := h2 k
      rw [decide_eq_true (Nat.le_refl k), Bool.true_and] at h2k
      rw [show f_off1 (f_all X) k (it_ (f_off1 (f_all X)) 0 k X) = if (f_all X).testBit k = true then x_off (it_ (f_off1 (f_all X)) 0 k X) k else it_ (f_off1 (f_all X)) 0 k X from rfl, all_tb]
      cases e : (f_lv X k).isSome with
      | false =>
        rw [if_neg (by decide)]
        refine ⟨h1, fun j => ?_⟩
        rw [h2 j]
        by_cases c : j = k
        · subst c; rw [e, Bool.and_false, Bool.and_false]
        · by_cases c2 : k ≤ j
          · rw [decide_eq_true c2, decide_eq_true (by omega : k + 1 ≤ j)]
          · rw [decide_eq_false c2, decide_eq_false (by omega : ¬ k + 1 ≤ j)]
      | true =>
        rw [e] at h2k
        obtain ⟨l, hl⟩ := Option.isSome_iff_exists.mp h2k
        rw [if_pos rfl]
        have hll := flv_lt hl
        have ex : x_off (it_ (f_off1 (f_all X)) 0 k X) k = x_take (it_ (f_off1 (f_all X)) 0 k X) l := by
          unfold x_off
          rw [hl]
        rw [ex]
        refine ⟨WX_take h1 hll, fun j => ?_⟩
        by_cases c : j = k
        · subst c
          rw [lv_gone h1 hl, decide_eq_false (by omega)]; rfl
        · rw [lv_take h1 hl c, h2 j]
          by_cases c2 : k ≤ j
          · rw [decide_eq_true c2, decide_eq_true (by omega : k + 1 ≤ j)]
          · rw [decide_eq_false c2, decide_eq_false (by omega : ¬ k + 1 ≤ j)]
  obtain ⟨h1, h2⟩ := key n (Nat.le_refl n)
  show xm_L (it_ (f_off1 (f_all X)) 0 n X) = 0
  generalize it_ (f_off1 (f_all X)) 0 n X = Y at *
  by_cases e : xm_L Y = 0
  · exact e
  · have h3 := h1.2.1 0 (by omega)
    have h4 := lv_is h1 (l := 0) (by omega) rfl
    have h5 := h2 (xm_t Y 0)
    rw [h4, decide_eq_false (by omega), Bool.false_and] at h5
    cases h5
def g_out (T : Tm) (X : Xm) (t s : Nat) : Bool := f_st T (f_toff (tm_n T) (s ||| 2 ^ t) X)
def o_oth (X : Xm) (t : Nat) : Nat := rmv_ (f_all X) t
def f_out (T : Tm) (X : Xm) (t : Nat) : Nat := it_ (om_ (g_out T X t) (o_oth X t)) 0 (2 ^ tm_n T) (o_oth X t)
theorem or_rmv {s t : Nat} (h : s.testBit t = true) : rmv_ s t ||| 2 ^ t = s := by
  apply Nat.eq_of_testBit_eq
  intro i
  rw [Nat.testBit_or, rm_tb]
  by_cases e : i = t
  · subst e; rw [h, Nat.testBit_two_pow_self, Bool.or_true]
  · rw [decide_eq_false e, Nat.testBit_two_pow_of_ne (fun z => e z.symm), Bool.not_false, Bool.and_true, Bool.or_false]
theorem g_oth {T : Tm} {X : Xm} {t : Nat} (h : WX_ (tm_n T) X) (ht : (f_all X).testBit t = true) : g_out T X t (o_oth X t) = true := by
  unfold g_out o_oth
  rw [or_rmv ht]
  have := toff_all h
  unfold f_st f_brk
  rw [this]
  rfl
theorem oth_lt {T : Tm} {X : Xm} {t : Nat} (h : WX_ (tm_n T) X) (ht : (f_all X).testBit t = true) (hn : tm_n T ≤ 10) : o_oth X t < 2 ^ tm_n T ∧ o_oth X t < 1024 := by
  have h1 := all_lt h
  have h2 := p2_le hn
  have h3 : f_all X < 1024 := by omega
  have := rmv_l1 ⟨f_all X, h3⟩ ⟨t, tb_10 h3 ht⟩ ht
  have : rmv_ (f_all X) t < f_all X := this
  unfold o_oth
  omega
theorem out_eq {T : Tm} {X : Xm} {t : Nat} (h : WX_ (tm_n T) X) (ht : (f_all X).testBit t = true) (hn : tm_n T ≤ 10) : it_ (oc_ (g_out T X t) (o_oth X t)) 0 (o_oth X t + 1) none = some (f_out T X t) :=
  oc_om (oth_lt h ht hn).2 (g_oth h ht) (oth_lt h ht hn).1
/-- what is taken off is there -/
theorem out_set {X : Xm} {t s : Nat} (hs : s &&& o_oth X t = s) (ht : (f_all X).testBit t = true) : ∀ j, (s ||| 2 ^ t).testBit j = true → (f_lv X j).isSome = true := by
  intro j hj
  rw [← all_tb]
  rw [Nat.testBit_or] at hj
  by_cases e : j = t
  · rw [e]; exact ht
  · rw [Nat.testBit_two_pow_of_ne (fun z => e z.symm), Bool.or_false] at hj
    have : (s &&& o_oth X t).testBit j = true := by rw [hs]; exact hj
    unfold o_oth at this
    rw [Nat.testBit_and, rm_tb, Bool.and_eq_true, Bool.and_eq_true] at this
    exact this.2.1
theorem or_lt {s t : Nat} (hs : s < 1024) (ht : t < 10) : s ||| 2 ^ t < 1024 := Nat.or_lt_two_pow (n := 10) hs (Nat.pow_lt_pow_right (by decide) ht)
theorem sn_i {s o : Nat} (hs : s < 1024) : (Int32.ofNat (s ^^^ (s &&& o)) = Int32.ofNat 0) = (s &&& o = s) := by
  have h1 : s &&& o < 2 ^ 10 := Nat.lt_of_le_of_lt Nat.and_le_left hs
  have h2 : s ^^^ (s &&& o) < 2 ^ 10 := Nat.xor_lt_two_pow hs h1
  rw [oo_eq (by omega) (by omega), sn_0]
section
variable {w : Wd} {S : Sm} {G : Gm} {σ : Nat → Nat}
theorem c_out1 (h : RC_ w G σ S) (hV : WS_ S) {d t s : Nat} {best : Option Nat} (ht : (f_all (bm_X (sm_B S))).testBit t = true) (hs : s < 1024) (hso : s < o_oth (bm_X (sm_B S)) t + 1) (hb : ∀ x, best = some x → x < 1024) : ∃ w1, Fr_ tz_ w w1 ∧ ∀ Q, wp (d + 12) 86 45 [some (v_R (some 1000)), some (v_I (Int32.ofNat t)), some (v_I (Int32.ofNat (o_oth (bm_X (sm_B S)) t))), some (v_I (o_i best)), some (v_I (Int32.ofNat s))] [] w Q = wp (d + 12) 86 45 [some (v_R (some 1000)), some (v_I (Int32.ofNat t)), some (v_I (Int32.ofNat (o_oth (bm_X (sm_B S)) t))), some (v_I (o_i (oc_ (g_out (sm_T S) (bm_X (sm_B S)) t) (o_oth (bm_X (sm_B S)) t) s best))), some (v_I (Int32.ofNat (s + 1)))] [] w1 Q := by
  have hX9 := hV.2.2.2.1.1
  have hn10 := hV.1.1
  have h1024 : f_all (bm_X (sm_B S)) < 1024 := Nat.lt_of_lt_of_le (all_lt hX9) (p2_le hn10)
  have ht10 := tb_10 h1024 ht
  have ho := (oth_lt hX9 ht hn10).2
  have hsn := sn_i (s := s) (o := o_oth (bm_X (sm_B S)) t) hs
  have hbn := sb_n s (o_oth (bm_X (sm_B S)) t)
  have ss := sb_s (t := t) (by omega)
  have so := sb_o s (2 ^ t)
  have t0 : w_t w 1000 = 20 := h.1.1
  have jb := fun d Q => j_bits (w := w) (d := d) (Q := Q) hs
  by_cases c1 : s &&& o_oth (bm_X (sm_B S)) t = s
  · obtain ⟨w1, f1, s1, x1, q1⟩ := c_tall h hV (d := d + 7) (or_lt hs ht10) (out_set c1 ht)
    have r1 := RC_tz h hV f1
    have hq1 := tr_q r1 hV s1 x1
    have hst := fun Q => c_st hq1 (d := d + 4) (Q := Q)
    have eg : f_st (sm_T S) (f_toff (tm_n (sm_T S)) (s ||| 2 ^ t) (bm_X (sm_B S))) = g_out (sm_T S) (bm_X (sm_B S)) t s := rfl
    rw [eg] at hst
    have hh := r1.1
    unfold sh_C at hh
    have b0 : w_t w1 1000 = 20 := hh.1
    have b4 : w_r w1 1000 4 = some 1429 := by simp only [hh]
    have br : w_r w1 1000 0 = some (gm_b G) := r1.2.2.1
    have b29 : w_t w1 1429 = 24 := r1.2.1.2.2.2.2.1
    clear hh
    have tr : ∀ (v3 : Int32), (∀ x, best = some x → bt_n s < bt_n x) → v3 = o_i best → ∀ Q, wp (d + 12) 86 80 [some (v_R (some 1000)), some (v_I (Int32.ofNat t)), some (v_I (Int32.ofNat (o_oth (bm_X (sm_B S)) t))), some (v_I v3), some (v_I (Int32.ofNat s))] [] w Q = wp (d + 12) 86 45 [some (v_R (some 1000)), some (v_I (Int32.ofNat t)), some (v_I (Int32.ofNat (o_oth (bm_X (sm_B S)) t))), some (v_I (o_i (oc_ (g_out (sm_T S) (bm_X (sm_B S)) t) (o_oth (bm_X (sm_B S)) t) s best))), some (v_I (Int32.ofNat (s + 1)))] [] w1 Q := fun v3 hlt ev Q => by
      unfold oc_
      cases e : g_out (sm_T S) (bm_X (sm_B S)) t s with
      | false =>
        rw [e] at hst
        rw [if_neg (fun z => by cases z.2), ev]
        simp (disch := first | omega | decide | exact ko_b _ | assumption | (simp only [t_si, t_sl, t_sr, t_sI, t_sR, n_si, n_sl, n_sr, n_sI, n_sR, r_si, r_sl, r_sI]; first | done | omega)) only [x_86_e, x_86_b, x_86_80, x_86_81, x_86_83, x_86_84, x_86_85, x_86_86, x_86_87, x_86_90, x_86_91, x_86_94, x_86_95, x_86_98, x_86_101, x_86_104, x_86_106, x_86_107, x_86_110, bk_v, bk_n, nl_I, nl_R, nl_L, nl_0, oo_lt, oo_le, oo_eq, oo_add, oo_sub, oo_tn, oo_ir, nn_leT, nn_leF, nn_ltT, nn_ltF, nn_eqT, nn_eqF, bv_0, bv_1, ko_b, ko_1, ko_0, true_and, and_true, if_true, if_false, not_true_eq_false, not_false_eq_true, oo_02, decide_eq_true_eq, decide_eq_false_iff_not, ite_not, Nat.reduceAdd, Nat.reduceLT, Nat.reduceSub, Nat.reduceLeDiff, reduceIte, Bool.true_eq_false, Bool.false_eq_true, reduceCtorEq, eq_self, decide_true, decide_false, bv_t, bv_f, and_self, t_si, t_sl, t_sr, t_sI, t_sR, n_si, n_sl, n_sr, n_sI, n_sR, r_si, r_sl, r_sI, ss, so, q1, b4, br, hst]
      | true =>
        rw [e] at hst
        rw [if_pos ⟨⟨c1, hlt⟩, rfl⟩]
        simp (disch := first | omega | decide | exact ko_b _ | assumption | (simp only [t_si, t_sl, t_sr, t_sI, t_sR, n_si, n_sl, n_sr, n_sI, n_sR, r_si, r_sl, r_sI]; first | done | omega)) only [x_86_e, x_86_b, x_86_80, x_86_81, x_86_83, x_86_84, x_86_85, x_86_86, x_86_87, x_86_90, x_86_91, x_86_94, x_86_95, x_86_98, x_86_101, x_86_104, x_86_106, x_86_107, x_86_110, bk_v, bk_n, nl_I, nl_R, nl_L, nl_0, oo_lt, oo_le, oo_eq, oo_add, oo_sub, oo_tn, oo_ir, nn_leT, nn_leF, nn_ltT, nn_ltF, nn_eqT, nn_eqF, bv_0, bv_1, ko_b, ko_1, ko_0, true_and, and_true, if_true, if_false, not_true_eq_false, not_false_eq_true, oo_02, decide_eq_true_eq, decide_eq_false_iff_not, ite_not, Nat.reduceAdd, Nat.reduceLT, Nat.reduceSub, Nat.reduceLeDiff, reduceIte, Bool.true_eq_false, Bool.false_eq_true, reduceCtorEq, eq_self, decide_true, decide_false, bv_t, bv_f, and_self, t_si, t_sl, t_sr, t_sI, t_sR, n_si, n_sl, n_sr, n_sI, n_sR, r_si, r_sl, r_sI, ss, so, q1, b4, br, hst, o_i_s]
    cases eb : best with
    | none =>
      refine ⟨w1, f1, fun Q => ?_⟩
      have tq := tr (Int32.ofInt (-1)) (fun x hx => by rw [eb] at hx; cases hx) (by rw [eb]; rfl) Q
      rw [eb] at tq
      rw [← tq, x_86_45, o_i_n]
      simp (disch := first | omega | decide | exact ko_b _ | assumption | (simp only [t_si, t_sl, t_sr, t_sI, t_sR, n_si, n_sl, n_sr, n_sI, n_sR, r_si, r_sl, r_sI]; first | done | omega)) only [x_86_e, x_86_b, x_86_47, x_86_48, x_86_51, x_86_53, x_86_54, x_86_55, x_86_56, x_86_57, x_86_60, x_86_61, x_86_62, x_86_65, x_86_67, x_86_70, x_86_71, x_86_74, x_86_77, bk_v, bk_n, nl_I, nl_R, nl_L, nl_0, oo_lt, oo_le, oo_eq, oo_add, oo_sub, oo_tn, oo_ir, nn_leT, nn_leF, nn_ltT, nn_ltF, nn_eqT, nn_eqF, bv_0, bv_1, ko_b, ko_1, ko_0, true_and, and_true, if_true, if_false, not_true_eq_false, not_false_eq_true, oo_02, decide_eq_true_eq, decide_eq_false_iff_not, ite_not, Nat.reduceAdd, Nat.reduceLT, Nat.reduceSub, Nat.reduceLeDiff, reduceIte, Bool.true_eq_false, Bool.false_eq_true, reduceCtorEq, eq_self, decide_true, decide_false, bv_t, bv_f, and_self, t_si, t_sl, t_sr, t_sI, t_sR, n_si, n_sl, n_sr, n_sI, n_sR, r_si, r_sl, r_sI, hbn, hsn, c1, Nat.xor_self]
    | some x =>
      have hx := hb x eb
      have jx := fun d Q => j_bits (w := w) (d := d) (Q := Q) hx
      have hne := oi_s1 (by omega : x < 2147483648)
      have b1 : ∀ s : Fin 1024, bt_n s.val ≤ 10 := by decide +kernel
      have b2 : bt_n s ≤ 10 := b1 ⟨s, hs⟩
      have b3 : bt_n x ≤ 10 := b1 ⟨x, hx⟩
      by_cases c2 : bt_n s < bt_n x
      · refine ⟨w1, f1, fun Q => ?_⟩
        have tq := tr (Int32.ofNat x) (fun y hy => by rw [eb] at hy; cases hy; exact c2) (by rw [eb]; rfl) Q
        rw [eb] at tq
        rw [← tq, x_86_45, o_i_s]
        simp (disch := first | omega | decide | exact ko_b _ | assumption | (simp only [t_si, t_sl, t_sr, t_sI, t_sR, n_si, n_sl, n_sr, n_sI, n_sR, r_si, r_sl, r_sI]; first | done | omega)) only [x_86_e, x_86_b, x_86_47, x_86_48, x_86_51, x_86_53, x_86_54, x_86_55, x_86_56, x_86_57, x_86_60, x_86_61, x_86_62, x_86_65, x_86_67, x_86_70, x_86_71, x_86_74, x_86_77, bk_v, bk_n, nl_I, nl_R, nl_L, nl_0, oo_lt, oo_le, oo_eq, oo_add, oo_sub, oo_tn, oo_ir, nn_leT, nn_leF, nn_ltT, nn_ltF, nn_eqT, nn_eqF, bv_0, bv_1, ko_b, ko_1, ko_0, true_and, and_true, if_true, if_false, not_true_eq_false, not_false_eq_true, oo_02, decide_eq_true_eq, decide_eq_false_iff_not, ite_not, Nat.reduceAdd, Nat.reduceLT, Nat.reduceSub, Nat.reduceLeDiff, reduceIte, Bool.true_eq_false, Bool.false_eq_true, reduceCtorEq, eq_self, decide_true, decide_false, bv_t, bv_f, and_self, t_si, t_sl, t_sr, t_sI, t_sR, n_si, n_sl, n_sr, n_sI, n_sR, r_si, r_sl, r_sI, hbn, hsn, c1, Nat.xor_self, hne, jb, jx]
      · refine ⟨w, fr_rf _ _, fun Q => ?_⟩
        unfold oc_
        rw [if_neg (fun z => c2 (z.1.2 x rfl)), x_86_45, o_i_s]
        simp (disch := first | omega | decide | exact ko_b _ | assumption | (simp only [t_si, t_sl, t_sr, t_sI, t_sR, n_si, n_sl, n_sr, n_sI, n_sR, r_si, r_sl, r_sI]; first | done | omega)) only [x_86_e, x_86_b, x_86_47, x_86_48, x_86_51, x_86_53, x_86_54, x_86_55, x_86_56, x_86_57, x_86_60, x_86_61, x_86_62, x_86_65, x_86_67, x_86_70, x_86_71, x_86_74, x_86_77, x_86_e, x_86_b, x_86_107, x_86_110, bk_v, bk_n, nl_I, nl_R, nl_L, nl_0, oo_lt, oo_le, oo_eq, oo_add, oo_sub, oo_tn, oo_ir, nn_leT, nn_leF, nn_ltT, nn_ltF, nn_eqT, nn_eqF, bv_0, bv_1, ko_b, ko_1, ko_0, true_and, and_true, if_true, if_false, not_true_eq_false, not_false_eq_true, oo_02, decide_eq_true_eq, decide_eq_false_iff_not, ite_not, Nat.reduceAdd, Nat.reduceLT, Nat.reduceSub, Nat.reduceLeDiff, reduceIte, Bool.true_eq_false, Bool.false_eq_true, reduceCtorEq, eq_self, decide_true, decide_false, bv_t, bv_f, and_self, t_si, t_sl, t_sr, t_sI, t_sR, n_si, n_sl, n_sr, n_sI, n_sR, r_si, r_sl, r_sI, hbn, hsn, c1, Nat.xor_self, hne, jb, jx]
  · refine ⟨w, fr_rf _ _, fun Q => ?_⟩
    unfold oc_
    rw [if_neg (fun z => c1 z.1.1), x_86_45]
    simp (disch := first | omega | decide | exact ko_b _ | assumption | (simp only [t_si, t_sl, t_sr, t_sI, t_sR, n_si, n_sl, n_sr, n_sI, n_sR, r_si, r_sl, r_sI]; first | done | omega)) only [x_86_e, x_86_b, x_86_47, x_86_48, x_86_51, x_86_53, x_86_54, x_86_55, x_86_56, x_86_57, x_86_e, x_86_b, x_86_107, x_86_110, bk_v, bk_n, nl_I, nl_R, nl_L, nl_0, oo_lt, oo_le, oo_eq, oo_add, oo_sub, oo_tn, oo_ir, nn_leT, nn_leF, nn_ltT, nn_ltF, nn_eqT, nn_eqF, bv_0, bv_1, ko_b, ko_1, ko_0, true_and, and_true, if_true, if_false, not_true_eq_false, not_false_eq_true, oo_02, decide_eq_true_eq, decide_eq_false_iff_not, ite_not, Nat.reduceAdd, Nat.reduceLT, Nat.reduceSub, Nat.reduceLeDiff, reduceIte, Bool.true_eq_false, Bool.false_eq_true, reduceCtorEq, eq_self, decide_true, decide_false, bv_t, bv_f, and_self, t_si, t_sl, t_sr, t_sI, t_sR, n_si, n_sl, n_sr, n_sI, n_sR, r_si, r_sl, r_sI, hbn, hsn, c1, Nat.xor_self]
theorem c_out (h : RC_ w G σ S) (hV : WS_ S) {d t : Nat} (htn : t < tm_n (sm_T S)) (hl : (f_lv (bm_X (sm_B S)) t).isNone = false) : CR_ G (d + 12) 86 [v_R (some 1000), v_I (Int32.ofNat t)] w (v_I (Int32.ofNat (f_out (sm_T S) (bm_X (sm_B S)) t))) := by
  have hX9 := hV.2.2.2.1.1
  have hn10 := hV.1.1
  have ht : (f_all (bm_X (sm_B S))).testBit t = true := by
    rw [all_tb]
    cases e : f_lv (bm_X (sm_B S)) t with
    | none => rw [e] at hl; cases hl
    | some l => rfl
  have ho := (oth_lt hX9 ht hn10).2
  have h1024 : f_all (bm_X (sm_B S)) < 1024 := Nat.lt_of_lt_of_le (all_lt hX9) (p2_le hn10)
  obtain ⟨u, ⟨i1, i2⟩, q1⟩ := lp_ig (fun s (b : Option Nat) (u : Wd) Q => wp (d + 12) 86 45 [some (v_R (some 1000)), some (v_I (Int32.ofNat t)), some (v_I (Int32.ofNat (o_oth (bm_X (sm_B S)) t))), some (v_I (o_i b)), some (v_I (Int32.ofNat s))] [] u Q) (fun s b u => Fr_ tz_ w u ∧ ∀ x, b = some x → x < 1024) (oc_ (g_out (sm_T S) (bm_X (sm_B S)) t) (o_oth (bm_X (sm_B S)) t)) (o_oth (bm_X (sm_B S)) t + 1) 0 none w (fun s b u _ hs hC => by
    obtain ⟨w1, f1, q1⟩ := c_out1 (RC_tz h hV hC.1) hV (d := d) (t := t) (s := s) (best := b) ht (by omega) (by omega) hC.2
    refine ⟨w1, ⟨fr_tr hC.1 f1, fun x hx => ?_⟩, q1⟩
    unfold oc_ at hx
    split at hx
    · cases hx; omega
    · exact hC.2 x hx) ⟨fr_rf _ _, fun x hx => by cases hx⟩
  rw [out_eq hX9 ht hn10] at q1
  refine ⟨u, fr_mo i1 (fun a k z => tz_pc z), fun Q => ?_⟩
  have fin : wp (d + 12) 86 45 [some (v_R (some 1000)), some (v_I (Int32.ofNat t)), some (v_I (Int32.ofNat (o_oth (bm_X (sm_B S)) t))), some (v_I (o_i (some (f_out (sm_T S) (bm_X (sm_B S)) t)))), some (v_I (Int32.ofNat (0 + (o_oth (bm_X (sm_B S)) t + 1))))] [] u Q = Q (Sum.inl (some (v_I (Int32.ofNat (f_out (sm_T S) (bm_X (sm_B S)) t))))) u := by
    rw [x_86_45, o_i_s]
    simp (disch := first | omega | decide | exact ko_b _ | assumption | (simp only [t_si, t_sl, t_sr, t_sI, t_sR, n_si, n_sl, n_sr, n_sI, n_sR, r_si, r_sl, r_sI]; first | done | omega)) only [x_86_e, x_86_b, x_86_47, x_86_48, x_86_e, x_86_b, x_86_113, x_86_114, bk_v, bk_n, nl_I, nl_R, nl_L, nl_0, oo_lt, oo_le, oo_eq, oo_add, oo_sub, oo_tn, oo_ir, nn_leT, nn_leF, nn_ltT, nn_ltF, nn_eqT, nn_eqF, bv_0, bv_1, ko_b, ko_1, ko_0, true_and, and_true, if_true, if_false, not_true_eq_false, not_false_eq_true, oo_02, decide_eq_true_eq, decide_eq_false_iff_not, ite_not, Nat.reduceAdd, Nat.reduceLT, Nat.reduceSub, Nat.reduceLeDiff, reduceIte, Bool.true_eq_false, Bool.false_eq_true, reduceCtorEq, eq_self, decide_true, decide_false, bv_t, bv_f, and_self, t_si, t_sl, t_sr, t_sI, t_sR, n_si, n_sl, n_sr, n_sI, n_sR, r_si, r_sl, r_sI]
  refine Eq.trans ?_ ((q1 Q).trans fin)
  have ss := sb_s (t := t) (by omega)
  have ri := rm_i (s := f_all (bm_X (sm_B S))) (t := t) h1024 (by omega)
  have hb : (o_i (f_lv (bm_X (sm_B S)) t) = Int32.ofInt (-1)) = ((f_lv (bm_X (sm_B S)) t).isNone = true) := oi_m (fun k e => by have := flv_lt e; have := hX9.1; omega)
  have eo : rmv_ (f_all (bm_X (sm_B S))) t = o_oth (bm_X (sm_B S)) t := rfl
  have hq := RC_CQ h hV
  have hC := h.1
  unfold sh_C at hC
  have hr0 : w_r _ 1000 0 = some (gm_b G) := h.2.2.1
  have hT := h.2.2.2.1
  unfold CT_ at hT
  have hA : SO_ _ 1008 := h.2.1.2.1.1
  unfold SO_ at hA
  have hA2 : SO_ _ 1429 := h.2.1.2.2.2.2
  unfold SO_ at hA2
  have hS : CS_ _ 1008 (tm_n (sm_T S)) (bm_X (sm_B S)) := h.2.2.2.2.2.2.2.1.1
  unfold CS_ at hS
  have hK : sh_B _ 1007 := h.2.1.1
  unfold sh_B at hK
  have hB := h.2.2.2.2.2.2.2.1.2
  have hR := h.2.2.2.2.2.2.2.2.2
  simp only [Nat.reduceAdd] at hA hA2 hS hK hB
  obtain ⟨hn, hk4⟩ := hV.1
  obtain ⟨hW1, hW2, hW3⟩ := hV.2.2.2.1.1
  simp (disch := first | omega | decide | exact ko_b _ | assumption | (simp only [t_si, t_sl, t_sr, t_sI, t_sR, n_si, n_sl, n_sr, n_sI, n_sR, r_si, r_sl, r_sI]; first | done | omega)) only [x_86_e, x_86_b, x_86_0, x_86_1, x_86_2, x_86_5, x_86_6, x_86_7, x_86_10, x_86_11, x_86_14, x_86_15, x_86_18, x_86_19, x_86_22, x_86_23, x_86_26, x_86_27, x_86_30, x_86_33, x_86_34, x_86_35, x_86_36, x_86_37, x_86_38, x_86_39, x_86_40, x_86_41, x_86_42, x_86_43, bk_v, bk_n, nl_I, nl_R, nl_L, nl_0, oo_lt, oo_le, oo_eq, oo_add, oo_sub, oo_tn, oo_ir, nn_leT, nn_leF, nn_ltT, nn_ltF, nn_eqT, nn_eqF, bv_0, bv_1, ko_b, ko_1, ko_0, true_and, and_true, if_true, if_false, not_true_eq_false, not_false_eq_true, oo_02, decide_eq_true_eq, decide_eq_false_iff_not, ite_not, Nat.reduceAdd, Nat.reduceLT, Nat.reduceSub, Nat.reduceLeDiff, reduceIte, Bool.true_eq_false, Bool.false_eq_true, reduceCtorEq, eq_self, decide_true, decide_false, bv_t, bv_f, and_self, t_si, t_sl, t_sr, t_sI, t_sR, n_si, n_sl, n_sr, n_sI, n_sR, r_si, r_sl, r_sI, hC, hr0, hT, hA, hS, hK, hB, hR, c_tabAt h hV, c_lv hq, hb, hl, c_th1, c_all hq, ss, ri, eo, o_i_n]
theorem c_out_x (h : RC_ w G σ S) (hV : WS_ S) {d : Nat} {y : Int32} (hx : no_in y (tm_n (sm_T S)) ∨ ∃ t, t < tm_n (sm_T S) ∧ y = Int32.ofNat t ∧ (f_lv (bm_X (sm_B S)) t).isNone = true) : CX_ G (d + 12) 86 [v_R (some 1000), v_I y] w 40 := cx_0 fun Q => by
  have hq := RC_CQ h hV
  have hC := h.1
  unfold sh_C at hC
  have hr0 : w_r _ 1000 0 = some (gm_b G) := h.2.2.1
  have hT := h.2.2.2.1
  unfold CT_ at hT
  have hA : SO_ _ 1008 := h.2.1.2.1.1
  unfold SO_ at hA
  have hA2 : SO_ _ 1429 := h.2.1.2.2.2.2
  unfold SO_ at hA2
  have hS : CS_ _ 1008 (tm_n (sm_T S)) (bm_X (sm_B S)) := h.2.2.2.2.2.2.2.1.1
  unfold CS_ at hS
  have hK : sh_B _ 1007 := h.2.1.1
  unfold sh_B at hK
  have hB := h.2.2.2.2.2.2.2.1.2
  have hR := h.2.2.2.2.2.2.2.2.2
  simp only [Nat.reduceAdd] at hA hA2 hS hK hB
  obtain ⟨hn, hk4⟩ := hV.1
  obtain ⟨hW1, hW2, hW3⟩ := hV.2.2.2.1.1
  rcases hx with hx | ⟨t, ht, rfl, hl⟩
  · simp (disch := first | omega | decide | exact ko_b _ | assumption | (simp only [t_si, t_sl, t_sr, t_sI, t_sR, n_si, n_sl, n_sr, n_sI, n_sR, r_si, r_sl, r_sI]; first | done | omega)) only [x_86_e, x_86_b, x_86_0, x_86_1, x_86_2, x_86_5, x_86_6, x_86_7, x_86_10, x_86_11, x_86_14, x_86_15, x_86_18, x_86_19, x_86_22, x_86_23, x_86_26, x_86_27, x_86_30, x_86_33, x_86_34, x_86_35, x_86_36, x_86_37, x_86_38, x_86_39, x_86_40, x_86_41, x_86_42, x_86_43, bk_v, bk_n, nl_I, nl_R, nl_L, nl_0, oo_lt, oo_le, oo_eq, oo_add, oo_sub, oo_tn, oo_ir, nn_leT, nn_leF, nn_ltT, nn_ltF, nn_eqT, nn_eqF, bv_0, bv_1, ko_b, ko_1, ko_0, true_and, and_true, if_true, if_false, not_true_eq_false, not_false_eq_true, oo_02, decide_eq_true_eq, decide_eq_false_iff_not, ite_not, Nat.reduceAdd, Nat.reduceLT, Nat.reduceSub, Nat.reduceLeDiff, reduceIte, Bool.true_eq_false, Bool.false_eq_true, reduceCtorEq, eq_self, decide_true, decide_false, bv_t, bv_f, and_self, t_si, t_sl, t_sr, t_sI, t_sR, n_si, n_sl, n_sr, n_sI, n_sR, r_si, r_sl, r_sI, c_tabAt_x h hV hx]
  · have hb : (o_i (f_lv (bm_X (sm_B S)) t) = Int32.ofInt (-1)) = ((f_lv (bm_X (sm_B S)) t).isNone = true) := oi_m (fun k e => by have := flv_lt e; omega)
    simp (disch := first | omega | decide | exact ko_b _ | assumption | (simp only [t_si, t_sl, t_sr, t_sI, t_sR, n_si, n_sl, n_sr, n_sI, n_sR, r_si, r_sl, r_sI]; first | done | omega)) only [x_86_e, x_86_b, x_86_0, x_86_1, x_86_2, x_86_5, x_86_6, x_86_7, x_86_10, x_86_11, x_86_14, x_86_15, x_86_18, x_86_19, x_86_22, x_86_23, x_86_26, x_86_27, x_86_30, x_86_33, x_86_34, x_86_35, x_86_36, x_86_37, x_86_38, x_86_39, x_86_40, x_86_41, x_86_42, x_86_43, bk_v, bk_n, nl_I, nl_R, nl_L, nl_0, oo_lt, oo_le, oo_eq, oo_add, oo_sub, oo_tn, oo_ir, nn_leT, nn_leF, nn_ltT, nn_ltF, nn_eqT, nn_eqF, bv_0, bv_1, ko_b, ko_1, ko_0, true_and, and_true, if_true, if_false, not_true_eq_false, not_false_eq_true, oo_02, decide_eq_true_eq, decide_eq_false_iff_not, ite_not, Nat.reduceAdd, Nat.reduceLT, Nat.reduceSub, Nat.reduceLeDiff, reduceIte, Bool.true_eq_false, Bool.false_eq_true, reduceCtorEq, eq_self, decide_true, decide_false, bv_t, bv_f, and_self, t_si, t_sl, t_sr, t_sI, t_sR, n_si, n_sl, n_sr, n_sI, n_sR, r_si, r_sl, r_sI, hC, hr0, hT, hA, hS, hK, hB, hR, c_tabAt h hV, c_lv hq, hb, hl, c_th0]
/-! the model -/
theorem m_out (h9 : RM_ w S) (hV : WS_ S) {d t : Nat} (htn : t < tm_n (sm_T S)) (hl : (f_lv (bm_X (sm_B S)) t).isNone = false) : MR_ (d + 8) 241 [v_R (some 1440), v_I (Int32.ofNat t)] w (v_I (Int32.ofNat (f_out (sm_T S) (bm_X (sm_B S)) t))) 0 := by
  refine mr_go (ls := [some (v_R (some 1440)), some (v_I (Int32.ofNat t)), none, none, none]) (fun Q => ?_) (fun w0 hf hc => ?_)
  · have h := h9
    have hq := RM_MQ h hV
    have hMM := hq
    obtain ⟨hM, hT, hS, ⟨hn, hk4⟩, hW1, hW2, hW3⟩ := hMM
    unfold sh_M at hM
    unfold MT_ at hT
    unfold MS_ at hS
    have hB := h.2.2.1.2
    unfold PK_ at hB
    have hR := h.2.2.2
    simp (disch := first | omega | decide | exact ko_b _ | assumption | (simp only [t_si, t_sl, t_sr, t_sI, t_sR, n_si, n_sl, n_sr, n_sI, n_sR, r_si, r_sl, r_sI]; first | done | omega)) only [x_241_e, x_241_b, x_241_0, x_241_1, x_241_2, x_241_6, x_241_7, x_241_10, x_241_13, x_241_14, x_241_15, x_241_18, x_241_19, x_241_22, x_241_23, x_241_24, x_241_27, x_241_28, x_241_29, x_241_32, x_241_33, x_241_34, x_241_35, x_241_36, x_241_37, x_241_38, x_241_39, x_241_40, x_241_41, x_241_42, x_241_43, x_241_46, x_241_47, x_241_50, x_241_51, x_241_53, x_241_55, x_241_56, x_241_57, x_241_60, x_241_61, x_241_62, x_241_63, x_241_66, x_241_68, x_241_69, x_241_70, x_241_71, x_241_72, x_241_75, x_241_77, x_241_80, x_241_81, x_241_84, x_241_87, x_241_89, x_241_92, x_241_93, x_241_96, x_241_99, x_241_101, x_241_102, x_241_105, x_241_108, x_241_109, x_241_111, x_241_112, x_241_113, x_241_114, x_241_115, x_241_118, x_241_119, x_241_122, x_241_125, x_241_127, x_241_128, x_241_129, x_241_130, x_241_133, x_241_134, x_241_137, x_241_140, x_241_143, x_241_144, bk_v, bk_n, nl_I, nl_R, nl_L, nl_0, oo_lt, oo_le, oo_eq, oo_add, oo_sub, oo_tn, oo_ir, nn_leT, nn_leF, nn_ltT, nn_ltF, nn_eqT, nn_eqF, bv_0, bv_1, ko_b, ko_1, ko_0, true_and, and_true, if_true, if_false, not_true_eq_false, not_false_eq_true, oo_02, decide_eq_true_eq, decide_eq_false_iff_not, ite_not, Nat.reduceAdd, Nat.reduceLT, Nat.reduceSub, Nat.reduceLeDiff, reduceIte, Bool.true_eq_false, Bool.false_eq_true, reduceCtorEq, eq_self, decide_true, decide_false, bv_t, bv_f, and_self, t_si, t_sl, t_sr, t_sI, t_sR, n_si, n_sl, n_sr, n_sI, n_sR, r_si, r_sl, r_sI, hM, hT, hS, hB, hR]
  · have h := RM_fr h9 hV hf
    have hX9 := hV.2.2.2.1.1
    have hn10 := hV.1.1
    have ht : (f_all (bm_X (sm_B S))).testBit t = true := by
      rw [all_tb]
      cases e : f_lv (bm_X (sm_B S)) t with
      | none => rw [e] at hl; cases hl
      | some l => rfl
    have ho2 := oth_lt hX9 ht hn10
    have ho := ho2.2
    have h1024 : f_all (bm_X (sm_B S)) < 1024 := Nat.lt_of_lt_of_le (all_lt hX9) (p2_le hn10)
    have hq0 := RM_MQ h hV
    have hM9 := h.1
    unfold sh_M at hM9
    have a0 : w_t w0 1440 = 25 := hM9.1
    have a35 : w_r w0 1440 35 = some 1460 := by simp only [hM9]
    have a4 : w_r w0 1440 4 = some 1444 := by simp only [hM9]
    have a44 : w_t w0 1444 = 1 ∧ w_n w0 1444 = 8 := by simp only [hM9, and_self]
    have a60 : w_t w0 1460 = 1 ∧ w_n w0 1460 = 43 := by simp only [hM9, and_self]
    obtain ⟨wp1, f1, r1, q1⟩ := m_pack (d := d + 7) h.1 (A := 1460) (f := 0) a60.1 (by omega) (by omega) (by omega)
    have c1 : w_i wp1 1440 3 = Int32.ofNat 0 := by rw [f1.2.2.2.2.2 _ _ (by omega)]; exact hc
    have f1 : Fr_ pm_ w0 wp1 := fr_mo f1 (fun a k z => by unfold pm_; omega)
    clear hM9
    obtain ⟨P, hP⟩ : ∃ P, P = 2 ^ tm_n (sm_T S) := ⟨_, rfl⟩
    have hP2 : P ≤ 1024 := by rw [hP]; exact p2_le hn10
    have sbN : Int32.ofNat 1 <<< (Int32.ofNat (tm_n (sm_T S)) &&& 31) = Int32.ofNat P := by rw [sb_s (by omega), hP]
    have ss := sb_s (t := t) (by omega)
    have fac : ∀ u, Fr_ pm_ w0 u → w_t u 1440 = 25 ∧ w_r u 1440 4 = some 1444 ∧ w_t u 1444 = 1 ∧ w_n u 1444 = 8 ∧ w_i u 1444 0 = Int32.ofNat (tm_n (sm_T S)) := fun u hu => ⟨by rw [hu.1]; exact a0, by rw [hu.2.2.1]; exact a4, by rw [hu.1]; exact a44.1, by rw [hu.2.1]; exact a44.2, (MQ_fr hq0 hu).2.1.1⟩
    obtain ⟨u, ⟨i2, i3, i4, i5⟩, q9⟩ := lp_ig (fun s (b : Nat) (u : Wd) Q => wp (d + 8) 241 53 [some (v_R (some 1440)), some (v_I (Int32.ofNat t)), some (v_I (Int32.ofNat (o_oth (bm_X (sm_B S)) t))), some (v_I (Int32.ofNat b)), some (v_I (Int32.ofNat s))] [] u Q) (fun s b u => Fr_ pm_ w0 u ∧ RR_ u w0 1460 0 ∧ w_i u 1440 3 = Int32.ofNat 0 ∧ b < 1024) (om_ (g_out (sm_T S) (bm_X (sm_B S)) t) (o_oth (bm_X (sm_B S)) t)) P 0 (o_oth (bm_X (sm_B S)) t) wp1 (fun s b u _ hs hC => by
      obtain ⟨i2, i3, i4, hb⟩ := hC
      have hs2 : s < P := by omega
      have hs1 : s < 1024 := by omega
      have hq1 := MQ_fr hq0 i2
      obtain ⟨t1, t2, t4, t5, e0⟩ := fac u i2
      have hsn := sn_i (s := s) (o := o_oth (bm_X (sm_B S)) t) hs1
      have hbn := sb_n s (o_oth (bm_X (sm_B S)) t)
      have so := sb_o s (2 ^ t)
      have jb := fun d Q => m_bits (w := u) (d := d) (Q := Q) hs1
      have jx := fun d Q => m_bits (w := u) (d := d) (Q := Q) hb
      have b1 : ∀ s : Fin 1024, bt_n s.val ≤ 10 := by decide +kernel
      have b2 : bt_n s ≤ 10 := b1 ⟨s, hs1⟩
      have b3 : bt_n b ≤ 10 := b1 ⟨b, hb⟩
      by_cases d1 : s &&& o_oth (bm_X (sm_B S)) t = s
      · by_cases d2 : bt_n s < bt_n b ∨ (bt_n s = bt_n b ∧ s < b)
        · obtain ⟨w2, f2, s2, x2, q2⟩ := m_tall hq1 (d := d + 4) (or_lt hs1 (by omega)) (out_set d1 ht)
          have hq2 := MQ_X hq1 f2 s2 x2
          have e3 := fun Q => m_st hq2 (d := d + 2) (Q := Q)
          have eg : f_st (sm_T S) (f_toff (tm_n (sm_T S)) (s ||| 2 ^ t) (bm_X (sm_B S))) = g_out (sm_T S) (bm_X (sm_B S)) t s := rfl
          rw [eg] at e3
          have u0 : w_t w2 1460 = 1 := by rw [f2.1, i2.1]; exact a60.1
          have u9 : w_n w2 1460 = 43 := by rw [f2.2.1, i2.2.1]; exact a60.2
          obtain ⟨w3, f3, r3, q3⟩ := m_unpack (d := d + 7) hq2.1 (A := 1460) (f := 0) u0 (by omega) (by omega) (by omega)
          obtain ⟨g1, g2⟩ := m_back2 i2 i3 (fr_mo f2 (fun a k z => p_st_tr z)) f3 r3
          have u1 : w_t w2 1440 = 25 := by rw [f2.1]; exact t1
          have u35 : w_r w2 1440 35 = some 1460 := by rw [f2.2.2.1, i2.2.2.1]; exact a35
          refine ⟨w3, ⟨g1, g2, ?_, ?_⟩, fun Q => ?_⟩
          · rw [f3.2.2.2.2.2 _ _ (by unfold p_st; omega), f2.2.2.2.2.2 _ _ (by unfold p_st; omega)]; exact i4
          · unfold om_
            split <;> omega
          · have go : wp (d + 8) 241 53 [some (v_R (some 1440)), some (v_I (Int32.ofNat t)), some (v_I (Int32.ofNat (o_oth (bm_X (sm_B S)) t))), some (v_I (Int32.ofNat b)), some (v_I (Int32.ofNat s))] [] u Q = wp (d + 8) 241 108 [some (v_R (some 1440)), some (v_I (Int32.ofNat t)), some (v_I (Int32.ofNat (o_oth (bm_X (sm_B S)) t))), some (v_I (Int32.ofNat b)), some (v_I (Int32.ofNat s))] [] u Q := by
              rw [x_241_53]
              by_cases d3 : bt_n s < bt_n b
              · simp (disch := first | omega | decide | exact ko_b _ | assumption | (simp only [t_si, t_sl, t_sr, t_sI, t_sR, n_si, n_sl, n_sr, n_sI, n_sR, r_si, r_sl, r_sI]; first | done | omega)) only [x_241_e, x_241_b, x_241_55, x_241_56, x_241_57, x_241_60, x_241_61, x_241_62, x_241_63, x_241_66, x_241_68, x_241_69, x_241_70, x_241_71, x_241_72, x_241_75, x_241_77, x_241_80, x_241_81, x_241_84, x_241_87, x_241_89, x_241_92, x_241_93, x_241_96, x_241_99, x_241_101, x_241_102, x_241_105, bk_v, bk_n, nl_I, nl_R, nl_L, nl_0, oo_lt, oo_le, oo_eq, oo_add, oo_sub, oo_tn, oo_ir, nn_leT, nn_leF, nn_ltT, nn_ltF, nn_eqT, nn_eqF, bv_0, bv_1, ko_b, ko_1, ko_0, true_and, and_true, if_true, if_false, not_true_eq_false, not_false_eq_true, oo_02, decide_eq_true_eq, decide_eq_false_iff_not, ite_not, Nat.reduceAdd, Nat.reduceLT, Nat.reduceSub, Nat.reduceLeDiff, reduceIte, Bool.true_eq_false, Bool.false_eq_true, reduceCtorEq, eq_self, decide_true, decide_false, bv_t, bv_f, and_self, t_si, t_sl, t_sr, t_sI, t_sR, n_si, n_sl, n_sr, n_sI, n_sR, r_si, r_sl, r_sI, t2, t5, e0, sbN, hbn, hsn, d1, Nat.xor_self, jb, jx]
              · have d4 : bt_n s = bt_n b ∧ s < b := d2.resolve_left d3
                simp (disch := first | omega | decide | exact ko_b _ | assumption | (simp only [t_si, t_sl, t_sr, t_sI, t_sR, n_si, n_sl, n_sr, n_sI, n_sR, r_si, r_sl, r_sI]; first | done | omega)) only [x_241_e, x_241_b, x_241_55, x_241_56, x_241_57, x_241_60, x_241_61, x_241_62, x_241_63, x_241_66, x_241_68, x_241_69, x_241_70, x_241_71, x_241_72, x_241_75, x_241_77, x_241_80, x_241_81, x_241_84, x_241_87, x_241_89, x_241_92, x_241_93, x_241_96, x_241_99, x_241_101, x_241_102, x_241_105, bk_v, bk_n, nl_I, nl_R, nl_L, nl_0, oo_lt, oo_le, oo_eq, oo_add, oo_sub, oo_tn, oo_ir, nn_leT, nn_leF, nn_ltT, nn_ltF, nn_eqT, nn_eqF, bv_0, bv_1, ko_b, ko_1, ko_0, true_and, and_true, if_true, if_false, not_true_eq_false, not_false_eq_true, oo_02, decide_eq_true_eq, decide_eq_false_iff_not, ite_not, Nat.reduceAdd, Nat.reduceLT, Nat.reduceSub, Nat.reduceLeDiff, reduceIte, Bool.true_eq_false, Bool.false_eq_true, reduceCtorEq, eq_self, decide_true, decide_false, bv_t, bv_f, and_self, t_si, t_sl, t_sr, t_sI, t_sR, n_si, n_sl, n_sr, n_sI, n_sR, r_si, r_sl, r_sI, t2, t5, e0, sbN, hbn, hsn, d1, Nat.xor_self, jb, jx]
            rw [go]
            unfold om_
            cases e : g_out (sm_T S) (bm_X (sm_B S)) t s with
            | false =>
              rw [e] at e3
              rw [if_neg (fun z => by cases z.2)]
              simp (disch := first | omega | decide | exact ko_b _ | assumption | (simp only [t_si, t_sl, t_sr, t_sI, t_sR, n_si, n_sl, n_sr, n_sI, n_sR, r_si, r_sl, r_sI]; first | done | omega)) only [x_241_e, x_241_b, x_241_108, x_241_109, x_241_111, x_241_112, x_241_113, x_241_114, x_241_115, x_241_118, x_241_119, x_241_122, x_241_125, x_241_127, x_241_128, x_241_129, x_241_130, x_241_133, x_241_134, x_241_137, x_241_140, bk_v, bk_n, nl_I, nl_R, nl_L, nl_0, oo_lt, oo_le, oo_eq, oo_add, oo_sub, oo_tn, oo_ir, nn_leT, nn_leF, nn_ltT, nn_ltF, nn_eqT, nn_eqF, bv_0, bv_1, ko_b, ko_1, ko_0, true_and, and_true, if_true, if_false, not_true_eq_false, not_false_eq_true, oo_02, decide_eq_true_eq, decide_eq_false_iff_not, ite_not, Nat.reduceAdd, Nat.reduceLT, Nat.reduceSub, Nat.reduceLeDiff, reduceIte, Bool.true_eq_false, Bool.false_eq_true, reduceCtorEq, eq_self, decide_true, decide_false, bv_t, bv_f, and_self, t_si, t_sl, t_sr, t_sI, t_sR, n_si, n_sl, n_sr, n_sI, n_sR, r_si, r_sl, r_sI, ss, so, q2, e3, u35, q3]
            | true =>
              rw [e] at e3
              rw [if_pos ⟨⟨d1, d2⟩, rfl⟩]
              simp (disch := first | omega | decide | exact ko_b _ | assumption | (simp only [t_si, t_sl, t_sr, t_sI, t_sR, n_si, n_sl, n_sr, n_sI, n_sR, r_si, r_sl, r_sI]; first | done | omega)) only [x_241_e, x_241_b, x_241_108, x_241_109, x_241_111, x_241_112, x_241_113, x_241_114, x_241_115, x_241_118, x_241_119, x_241_122, x_241_125, x_241_127, x_241_128, x_241_129, x_241_130, x_241_133, x_241_134, x_241_137, x_241_140, bk_v, bk_n, nl_I, nl_R, nl_L, nl_0, oo_lt, oo_le, oo_eq, oo_add, oo_sub, oo_tn, oo_ir, nn_leT, nn_leF, nn_ltT, nn_ltF, nn_eqT, nn_eqF, bv_0, bv_1, ko_b, ko_1, ko_0, true_and, and_true, if_true, if_false, not_true_eq_false, not_false_eq_true, oo_02, decide_eq_true_eq, decide_eq_false_iff_not, ite_not, Nat.reduceAdd, Nat.reduceLT, Nat.reduceSub, Nat.reduceLeDiff, reduceIte, Bool.true_eq_false, Bool.false_eq_true, reduceCtorEq, eq_self, decide_true, decide_false, bv_t, bv_f, and_self, t_si, t_sl, t_sr, t_sI, t_sR, n_si, n_sl, n_sr, n_sI, n_sR, r_si, r_sl, r_sI, ss, so, q2, e3, u35, q3]
        · refine ⟨u, ⟨i2, i3, i4, ?_⟩, fun Q => ?_⟩
          · unfold om_
            rw [if_neg (fun z => d2 z.1.2)]; exact hb
          · unfold om_
            rw [if_neg (fun z => d2 z.1.2), x_241_53]
            by_cases d3 : bt_n b < bt_n s
            · simp (disch := first | omega | decide | exact ko_b _ | assumption | (simp only [t_si, t_sl, t_sr, t_sI, t_sR, n_si, n_sl, n_sr, n_sI, n_sR, r_si, r_sl, r_sI]; first | done | omega)) only [x_241_e, x_241_b, x_241_55, x_241_56, x_241_57, x_241_60, x_241_61, x_241_62, x_241_63, x_241_66, x_241_68, x_241_69, x_241_70, x_241_71, x_241_72, x_241_75, x_241_77, x_241_80, x_241_81, x_241_84, x_241_87, x_241_89, x_241_92, x_241_93, x_241_96, x_241_99, x_241_101, x_241_102, x_241_105, x_241_e, x_241_b, x_241_137, x_241_140, bk_v, bk_n, nl_I, nl_R, nl_L, nl_0, oo_lt, oo_le, oo_eq, oo_add, oo_sub, oo_tn, oo_ir, nn_leT, nn_leF, nn_ltT, nn_ltF, nn_eqT, nn_eqF, bv_0, bv_1, ko_b, ko_1, ko_0, true_and, and_true, if_true, if_false, not_true_eq_false, not_false_eq_true, oo_02, decide_eq_true_eq, decide_eq_false_iff_not, ite_not, Nat.reduceAdd, Nat.reduceLT, Nat.reduceSub, Nat.reduceLeDiff, reduceIte, Bool.true_eq_false, Bool.false_eq_true, reduceCtorEq, eq_self, decide_true, decide_false, bv_t, bv_f, and_self, t_si, t_sl, t_sr, t_sI, t_sR, n_si, n_sl, n_sr, n_sI, n_sR, r_si, r_sl, r_sI, t2, t5, e0, sbN, hbn, hsn, d1, Nat.xor_self, jb, jx]
            · simp (disch := first | omega | decide | exact ko_b _ | assumption | (simp only [t_si, t_sl, t_sr, t_sI, t_sR, n_si, n_sl, n_sr, n_sI, n_sR, r_si, r_sl, r_sI]; first | done | omega)) only [x_241_e, x_241_b, x_241_55, x_241_56, x_241_57, x_241_60, x_241_61, x_241_62, x_241_63, x_241_66, x_241_68, x_241_69, x_241_70, x_241_71, x_241_72, x_241_75, x_241_77, x_241_80, x_241_81, x_241_84, x_241_87, x_241_89, x_241_92, x_241_93, x_241_96, x_241_99, x_241_101, x_241_102, x_241_105, x_241_e, x_241_b, x_241_137, x_241_140, bk_v, bk_n, nl_I, nl_R, nl_L, nl_0, oo_lt, oo_le, oo_eq, oo_add, oo_sub, oo_tn, oo_ir, nn_leT, nn_leF, nn_ltT, nn_ltF, nn_eqT, nn_eqF, bv_0, bv_1, ko_b, ko_1, ko_0, true_and, and_true, if_true, if_false, not_true_eq_false, not_false_eq_true, oo_02, decide_eq_true_eq, decide_eq_false_iff_not, ite_not, Nat.reduceAdd, Nat.reduceLT, Nat.reduceSub, Nat.reduceLeDiff, reduceIte, Bool.true_eq_false, Bool.false_eq_true, reduceCtorEq, eq_self, decide_true, decide_false, bv_t, bv_f, and_self, t_si, t_sl, t_sr, t_sI, t_sR, n_si, n_sl, n_sr, n_sI, n_sR, r_si, r_sl, r_sI, t2, t5, e0, sbN, hbn, hsn, d1, Nat.xor_self, jb, jx]
      · refine ⟨u, ⟨i2, i3, i4, ?_⟩, fun Q => ?_⟩
        · unfold om_
          rw [if_neg (fun z => d1 z.1.1)]; exact hb
        · unfold om_
          rw [if_neg (fun z => d1 z.1.1), x_241_53]
          simp (disch := first | omega | decide | exact ko_b _ | assumption | (simp only [t_si, t_sl, t_sr, t_sI, t_sR, n_si, n_sl, n_sr, n_sI, n_sR, r_si, r_sl, r_sI]; first | done | omega)) only [x_241_e, x_241_b, x_241_55, x_241_56, x_241_57, x_241_60, x_241_61, x_241_62, x_241_63, x_241_66, x_241_68, x_241_69, x_241_70, x_241_71, x_241_72, x_241_75, x_241_e, x_241_b, x_241_137, x_241_140, bk_v, bk_n, nl_I, nl_R, nl_L, nl_0, oo_lt, oo_le, oo_eq, oo_add, oo_sub, oo_tn, oo_ir, nn_leT, nn_leF, nn_ltT, nn_ltF, nn_eqT, nn_eqF, bv_0, bv_1, ko_b, ko_1, ko_0, true_and, and_true, if_true, if_false, not_true_eq_false, not_false_eq_true, oo_02, decide_eq_true_eq, decide_eq_false_iff_not, ite_not, Nat.reduceAdd, Nat.reduceLT, Nat.reduceSub, Nat.reduceLeDiff, reduceIte, Bool.true_eq_false, Bool.false_eq_true, reduceCtorEq, eq_self, decide_true, decide_false, bv_t, bv_f, and_self, t_si, t_sl, t_sr, t_sI, t_sR, n_si, n_sl, n_sr, n_sI, n_sR, r_si, r_sl, r_sI, t2, t5, e0, sbN, hbn, hsn, d1, Nat.xor_self]) ⟨f1, r1, c1, ho⟩
    refine ⟨u, i2, i4, fun Q => ?_⟩
    obtain ⟨t1, t2, t4, t5, e0⟩ := fac u i2
    have fin : wp (d + 8) 241 53 [some (v_R (some 1440)), some (v_I (Int32.ofNat t)), some (v_I (Int32.ofNat (o_oth (bm_X (sm_B S)) t))), some (v_I (Int32.ofNat (it_ (om_ (g_out (sm_T S) (bm_X (sm_B S)) t) (o_oth (bm_X (sm_B S)) t)) 0 P (o_oth (bm_X (sm_B S)) t)))), some (v_I (Int32.ofNat (0 + P)))] [] u Q = Q (Sum.inl (some (v_I (Int32.ofNat (f_out (sm_T S) (bm_X (sm_B S)) t))))) u := by
      unfold f_out
      rw [x_241_53, ← hP]
      simp (disch := first | omega | decide | exact ko_b _ | assumption | (simp only [t_si, t_sl, t_sr, t_sI, t_sR, n_si, n_sl, n_sr, n_sI, n_sR, r_si, r_sl, r_sI]; first | done | omega)) only [x_241_e, x_241_b, x_241_55, x_241_56, x_241_57, x_241_60, x_241_61, x_241_62, x_241_63, x_241_e, x_241_b, x_241_143, x_241_144, bk_v, bk_n, nl_I, nl_R, nl_L, nl_0, oo_lt, oo_le, oo_eq, oo_add, oo_sub, oo_tn, oo_ir, nn_leT, nn_leF, nn_ltT, nn_ltF, nn_eqT, nn_eqF, bv_0, bv_1, ko_b, ko_1, ko_0, true_and, and_true, if_true, if_false, not_true_eq_false, not_false_eq_true, oo_02, decide_eq_true_eq, decide_eq_false_iff_not, ite_not, Nat.reduceAdd, Nat.reduceLT, Nat.reduceSub, Nat.reduceLeDiff, reduceIte, Bool.true_eq_false, Bool.false_eq_true, reduceCtorEq, eq_self, decide_true, decide_false, bv_t, bv_f, and_self, t_si, t_sl, t_sr, t_sI, t_sR, n_si, n_sl, n_sr, n_sI, n_sR, r_si, r_sl, r_sI, t2, t5, e0, sbN]
    refine Eq.trans ?_ ((q9 Q).trans fin)
    have ri := rm_i (s := f_all (bm_X (sm_B S))) (t := t) h1024 (by omega)
    have hb : (o_i (f_lv (bm_X (sm_B S)) t) = Int32.ofInt (-1)) = ((f_lv (bm_X (sm_B S)) t).isNone = true) := oi_m (fun k e => by have := flv_lt e; have := hX9.1; omega)
    have eo : rmv_ (f_all (bm_X (sm_B S))) t = o_oth (bm_X (sm_B S)) t := rfl
    have hy := oo_yes htn (by omega)
    have hq := RM_MQ h hV
    have hMM := hq
    obtain ⟨hM, hT, hS, ⟨hn, hk4⟩, hW1, hW2, hW3⟩ := hMM
    unfold sh_M at hM
    unfold MT_ at hT
    unfold MS_ at hS
    have hB := h.2.2.1.2
    unfold PK_ at hB
    have hR := h.2.2.2
    simp (disch := first | omega | decide | exact ko_b _ | assumption | (simp only [t_si, t_sl, t_sr, t_sI, t_sR, n_si, n_sl, n_sr, n_sI, n_sR, r_si, r_sl, r_sI]; first | done | omega)) only [x_241_e, x_241_b, x_241_5, x_241_6, x_241_7, x_241_10, x_241_13, x_241_14, x_241_15, x_241_18, x_241_19, x_241_22, x_241_23, x_241_24, x_241_27, x_241_28, x_241_29, x_241_32, x_241_33, x_241_34, x_241_35, x_241_36, x_241_37, x_241_38, x_241_39, x_241_40, x_241_41, x_241_42, x_241_43, x_241_46, x_241_47, x_241_50, x_241_51, bk_v, bk_n, nl_I, nl_R, nl_L, nl_0, oo_lt, oo_le, oo_eq, oo_add, oo_sub, oo_tn, oo_ir, nn_leT, nn_leF, nn_ltT, nn_ltF, nn_eqT, nn_eqF, bv_0, bv_1, ko_b, ko_1, ko_0, true_and, and_true, if_true, if_false, not_true_eq_false, not_false_eq_true, oo_02, decide_eq_true_eq, decide_eq_false_iff_not, ite_not, Nat.reduceAdd, Nat.reduceLT, Nat.reduceSub, Nat.reduceLeDiff, reduceIte, Bool.true_eq_false, Bool.false_eq_true, reduceCtorEq, eq_self, decide_true, decide_false, bv_t, bv_f, and_self, t_si, t_sl, t_sr, t_sI, t_sR, n_si, n_sl, n_sr, n_sI, n_sR, r_si, r_sl, r_sI, m_isT h hV, hy, m_lv hq, hb, hl, m_all hq, ss, ri, eo, a35, q1]
theorem m_out_x (h9 : RM_ w S) (hV : WS_ S) {d : Nat} {y : Int32} (hx : no_in y (tm_n (sm_T S)) ∨ ∃ t, t < tm_n (sm_T S) ∧ y = Int32.ofNat t ∧ (f_lv (bm_X (sm_B S)) t).isNone = true) : MR_ (d + 8) 241 [v_R (some 1440), v_I y] w (v_I (Int32.ofNat 0)) 1 := by
  refine mr_go (ls := [some (v_R (some 1440)), some (v_I y), none, none, none]) (fun Q => ?_) (fun w0 hf hc => mr_f (fun Q => ?_))
  · have h := h9
    have hq := RM_MQ h hV
    have hMM := hq
    obtain ⟨hM, hT, hS, ⟨hn, hk4⟩, hW1, hW2, hW3⟩ := hMM
    unfold sh_M at hM
    unfold MT_ at hT
    unfold MS_ at hS
    have hB := h.2.2.1.2
    unfold PK_ at hB
    have hR := h.2.2.2
    simp (disch := first | omega | decide | exact ko_b _ | assumption | (simp only [t_si, t_sl, t_sr, t_sI, t_sR, n_si, n_sl, n_sr, n_sI, n_sR, r_si, r_sl, r_sI]; first | done | omega)) only [x_241_e, x_241_b, x_241_0, x_241_1, x_241_2, x_241_6, x_241_7, x_241_10, x_241_13, x_241_14, x_241_15, x_241_18, x_241_19, x_241_22, x_241_23, x_241_24, x_241_27, x_241_28, x_241_29, x_241_32, x_241_33, x_241_34, x_241_35, x_241_36, x_241_37, x_241_38, x_241_39, x_241_40, x_241_41, x_241_42, x_241_43, x_241_46, x_241_47, x_241_50, x_241_51, x_241_53, x_241_55, x_241_56, x_241_57, x_241_60, x_241_61, x_241_62, x_241_63, x_241_66, x_241_68, x_241_69, x_241_70, x_241_71, x_241_72, x_241_75, x_241_77, x_241_80, x_241_81, x_241_84, x_241_87, x_241_89, x_241_92, x_241_93, x_241_96, x_241_99, x_241_101, x_241_102, x_241_105, x_241_108, x_241_109, x_241_111, x_241_112, x_241_113, x_241_114, x_241_115, x_241_118, x_241_119, x_241_122, x_241_125, x_241_127, x_241_128, x_241_129, x_241_130, x_241_133, x_241_134, x_241_137, x_241_140, x_241_143, x_241_144, bk_v, bk_n, nl_I, nl_R, nl_L, nl_0, oo_lt, oo_le, oo_eq, oo_add, oo_sub, oo_tn, oo_ir, nn_leT, nn_leF, nn_ltT, nn_ltF, nn_eqT, nn_eqF, bv_0, bv_1, ko_b, ko_1, ko_0, true_and, and_true, if_true, if_false, not_true_eq_false, not_false_eq_true, oo_02, decide_eq_true_eq, decide_eq_false_iff_not, ite_not, Nat.reduceAdd, Nat.reduceLT, Nat.reduceSub, Nat.reduceLeDiff, reduceIte, Bool.true_eq_false, Bool.false_eq_true, reduceCtorEq, eq_self, decide_true, decide_false, bv_t, bv_f, and_self, t_si, t_sl, t_sr, t_sI, t_sR, n_si, n_sl, n_sr, n_sI, n_sR, r_si, r_sl, r_sI, hM, hT, hS, hB, hR]
  · have h := RM_fr h9 hV hf
    have hq := RM_MQ h hV
    have hMM := hq
    obtain ⟨hM, hT, hS, ⟨hn, hk4⟩, hW1, hW2, hW3⟩ := hMM
    unfold sh_M at hM
    unfold MT_ at hT
    unfold MS_ at hS
    have hB := h.2.2.1.2
    unfold PK_ at hB
    have hR := h.2.2.2
    have hM0 := hM.1
    rcases hx with hx | ⟨t, ht, rfl, hl⟩
    · have hy := decide_eq_false (oo_no (by omega) hx)
      simp (disch := first | omega | decide | exact ko_b _ | assumption | (simp only [t_si, t_sl, t_sr, t_sI, t_sR, n_si, n_sl, n_sr, n_sI, n_sR, r_si, r_sl, r_sI]; first | done | omega)) only [x_241_e, x_241_b, x_241_5, x_241_6, x_241_7, x_241_10, x_241_13, x_241_14, x_241_15, x_241_18, x_241_19, x_241_22, x_241_23, x_241_24, x_241_27, x_241_28, bk_v, bk_n, nl_I, nl_R, nl_L, nl_0, oo_lt, oo_le, oo_eq, oo_add, oo_sub, oo_tn, oo_ir, nn_leT, nn_leF, nn_ltT, nn_ltF, nn_eqT, nn_eqF, bv_0, bv_1, ko_b, ko_1, ko_0, true_and, and_true, if_true, if_false, not_true_eq_false, not_false_eq_true, oo_02, decide_eq_true_eq, decide_eq_false_iff_not, ite_not, Nat.reduceAdd, Nat.reduceLT, Nat.reduceSub, Nat.reduceLeDiff, reduceIte, Bool.true_eq_false, Bool.false_eq_true, reduceCtorEq, eq_self, decide_true, decide_false, bv_t, bv_f, and_self, t_si, t_sl, t_sr, t_sI, t_sR, n_si, n_sl, n_sr, n_sI, n_sR, r_si, r_sl, r_sI, hM, hT, hS, hB, hR, m_isT h hV, hy, m_fail hM0]
    · have hy := oo_yes ht (by omega)
      have hb : (o_i (f_lv (bm_X (sm_B S)) t) = Int32.ofInt (-1)) = ((f_lv (bm_X (sm_B S)) t).isNone = true) := oi_m (fun k e => by have := flv_lt e; omega)
      simp (disch := first | omega | decide | exact ko_b _ | assumption | (simp only [t_si, t_sl, t_sr, t_sI, t_sR, n_si, n_sl, n_sr, n_sI, n_sR, r_si, r_sl, r_sI]; first | done | omega)) only [x_241_e, x_241_b, x_241_5, x_241_6, x_241_7, x_241_10, x_241_13, x_241_14, x_241_15, x_241_18, x_241_19, x_241_22, x_241_23, x_241_24, x_241_27, x_241_28, bk_v, bk_n, nl_I, nl_R, nl_L, nl_0, oo_lt, oo_le, oo_eq, oo_add, oo_sub, oo_tn, oo_ir, nn_leT, nn_leF, nn_ltT, nn_ltF, nn_eqT, nn_eqF, bv_0, bv_1, ko_b, ko_1, ko_0, true_and, and_true, if_true, if_false, not_true_eq_false, not_false_eq_true, oo_02, decide_eq_true_eq, decide_eq_false_iff_not, ite_not, Nat.reduceAdd, Nat.reduceLT, Nat.reduceSub, Nat.reduceLeDiff, reduceIte, Bool.true_eq_false, Bool.false_eq_true, reduceCtorEq, eq_self, decide_true, decide_false, bv_t, bv_f, and_self, t_si, t_sl, t_sr, t_sI, t_sR, n_si, n_sl, n_sr, n_sI, n_sR, r_si, r_sl, r_sI, hM, hT, hS, hB, hR, m_isT h hV, hy, m_lv hq, hb, hl, m_fail hM0]
end
