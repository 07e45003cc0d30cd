/-! SETS: the model's ways, orders, lifted, most, row -/
set_option maxRecDepth 100000
theorem hi_bit : ∀ (k n m : Nat), n < 2 ^ k → m < 2 ^ k → n < m → ∃ i, i < k ∧ n.testBit i = false ∧ m.testBit i = true ∧ ∀ j, i < j → n.testBit j = m.testBit j := by
  intro k
  induction k with
  | zero => intro n m h1 h2 h3; omega
  | succ k ih =>
    intro n m h1 h2 h3
    have big : ∀ x, x < 2 ^ (k + 1) → ∀ j, k + 1 ≤ j → x.testBit j = false := fun x hx j hj => Nat.testBit_lt_two_pow (Nat.lt_of_lt_of_le hx (Nat.pow_le_pow_right (n := 2) (by decide) hj))
    have low : ∀ x, x.testBit k = false → x < 2 ^ (k + 1) → x < 2 ^ k := fun x hx hx2 => Nat.lt_pow_two_of_testBit _ (fun j hj => by
      by_cases e : j = k
      · rw [e]; exact hx
      · exact big x hx2 j (by omega))
    cases en : n.testBit k with
    | false =>
      cases em : m.testBit k with
      | true =>
        exact ⟨k, by omega, en, em, fun j hj => by rw [big n h1 j (by omega), big m h2 j (by omega)]⟩
      | false =>
        obtain ⟨i, a1, a2, a3, a4⟩ := ih n m (low n en h1) (low m em h2) h3
        exact ⟨i, by omega, a2, a3, a4⟩
    | true =>
      cases em : m.testBit k with
      | false =>
        have := low m em h2
        have h4 : 2 ^ k ≤ n := Nat.le_of_not_lt (fun z => by
          have := Nat.testBit_lt_two_pow z
          rw [en] at this; cases this)
        omega
      | true =>
        have rn := low (rmv_ n k) (by rw [rm_tb, decide_eq_true rfl]; simp) (Nat.lt_pow_two_of_testBit _ (fun j hj => by rw [rm_tb, big n h1 j hj]; rfl))
        have rm := low (rmv_ m k) (by rw [rm_tb, decide_eq_true rfl]; simp) (Nat.lt_pow_two_of_testBit _ (fun j hj => by rw [rm_tb, big m h2 j hj]; rfl))
        have lo : ∀ x, x.testBit k = true → x < 2 ^ (k + 1) → x = rmv_ x k + 2 ^ k := fun x hx hx2 => by
          have h5 := or_rmv hx
          have h6 : rmv_ x k < 2 ^ k := low _ (by rw [rm_tb, decide_eq_true rfl]; simp) (Nat.lt_pow_two_of_testBit _ (fun j hj => by rw [rm_tb, big x hx2 j hj]; rfl))
          have h7 := Nat.two_pow_add_eq_or_of_lt h6 1
          rw [Nat.mul_one] at h7
          rw [Nat.add_comm, h7, Nat.or_comm]
          exact h5.symm
        have l1 := lo n en h1
        have l2 := lo m em h2
        obtain ⟨i, a1, a2, a3, a4⟩ := ih (rmv_ n k) (rmv_ m k) rn rm (by omega)
        rw [rm_tb] at a2 a3
        have hik : i ≠ k := by omega
        rw [decide_eq_false hik, Bool.not_false, Bool.and_true] at a2 a3
        refine ⟨i, by omega, a2, a3, fun j hj => ?_⟩
        by_cases e : j = k
        · rw [e, en, em]
        · have := a4 j hj
          rw [rm_tb, rm_tb, decide_eq_false e, Bool.not_false, Bool.and_true, Bool.and_true] at this
          exact this
/-- the next part is the next -/
theorem part_all {p all v : Nat} (hall : all < 1024) (hp : p &&& all = p) (h0 : p ≠ 0) (hv : v &&& all = v) (hq : (p - 1) &&& all < v) : p ≤ v := by
  have hp1024 : p < 1024 := Nat.lt_of_le_of_lt (sub_le hp) hall
  have hv1024 : v < 1024 := Nat.lt_of_le_of_lt (sub_le hv) hall
  obtain ⟨i, i1, i2, i3, i4⟩ := hi_bit 10 ((p - 1) &&& all) v (by omega) hv1024 hq
  have hai := sub_tb hv i3
  have bits : ∀ j, j < 10 → (p - 1).testBit j = (decide (j < nz_ p) || (!decide (j = nz_ p) && p.testBit j)) := fun j hj => (pm1_t ⟨p, hp1024⟩ ⟨j, hj⟩).resolve_left h0
  have big : ∀ (s j : Nat), s < 1024 → 10 ≤ j → s.testBit j = false := fun s j hs hj => by
    cases e : s.testBit j with
    | false => rfl
    | true => have := tb_10 hs e; omega
  have hqt : (p - 1).testBit i = false := by
    rw [Nat.testBit_and, hai, Bool.and_true] at i2
    exact i2
  rw [bits i i1] at hqt
  simp only [Bool.or_eq_false_iff, decide_eq_false_iff_not] at hqt
  obtain ⟨q1, q2⟩ := hqt
  have above : ∀ j, i < j → v.testBit j = p.testBit j := fun j hj => by
    rw [← i4 j hj, Nat.testBit_and]
    by_cases hj10 : j < 10
    · rw [bits j hj10, decide_eq_false (by omega : ¬ j < nz_ p), decide_eq_false (by omega : ¬ j = nz_ p)]
      cases ej : p.testBit j with
      | false => rfl
      | true => rw [sub_tb hp ej]; rfl
    · rw [big p j hp1024 (by omega), big all j hall (by omega), Bool.and_false]
  by_cases e : i = nz_ p
  · refine sub_le (tb_sub (fun j hj => ?_))
    by_cases c : j = i
    · rw [c]; exact i3
    · have hj10 : j < 10 := tb_10 hp1024 hj
      have hjn : ¬ j < nz_ p := fun z => by
        unfold nz_ at z
        cases ee : ff_ (fun t => p.testBit t) 0 10 with
        | none =>
          have := ff_n ee j (Nat.zero_le _) (by omega)
          rw [hj] at this; cases this
        | some a =>
          rw [ee] at z
          have := (ff_s ee).2.2.2 j (Nat.zero_le _) z
          rw [hj] at this; cases this
      rw [above j (by omega)]; exact hj
  · refine Nat.le_of_lt (lt_tb (i := i) ?_ i3 (fun j hj => (above j hj).symm))
    have : (!decide (i = nz_ p)) = true := by rw [decide_eq_false e]; rfl
    rw [this, Bool.true_and] at q2
    exact q2
section
variable {w : Wd} {T : Tm} {X : Xm} {S : Sm}
theorem MQ_n {w1 : Wd} (h : MQ_ w T X) (hf : Fr_ Pn_ w w1) : MQ_ w1 T X := MQ_fr h (fr_mo hf (fun a k z => z.elim))
theorem LS_n {some sea : Nat} {w1 : Wd} (h : LS_ w some sea) (hf : Fr_ Pn_ w w1) : LS_ w1 some sea := by
  unfold LS_ at h ⊢
  rw [hf.2.2.2.2.2 1440 39 (fun z => z), hf.2.2.2.2.2 1440 40 (fun z => z)]
  exact h
theorem m_tw2 (h : MQ_ w T X) (hW : WM_ w T X) {d p all some sea : Nat} (hp : p &&& all = p) (h0 : p ≠ 0) (ha : all < 2 ^ tm_n T) (hso : some < 1024) (hl : LS_ w some sea) (hD : DW_ w (E_ T X some sea all) (tm_n T) all p) {a3 : Option Vl} : ∃ s : Option Vl × Wd, (Fr_ Pn_ w s.2 ∧ DW_ s.2 (E_ T X some sea all) (tm_n T) all ((p - 1) &&& all)) ∧ ∀ Q, wp (d + 4) 222 9 [Option.some (v_R (Option.some 1440)), Option.some (v_I (Int32.ofNat all)), Option.some (v_I (Int32.ofNat p)), a3] [] w Q = wp (d + 4) 222 9 [Option.some (v_R (Option.some 1440)), Option.some (v_I (Int32.ofNat all)), Option.some (v_I (Int32.ofNat ((p - 1) &&& all))), s.1] [] s.2 Q := by
  have hw0 := h
  have hn10 := h.2.2.2.1.1
  have ha1024 : all < 1024 := Nat.lt_of_lt_of_le ha (p2_le hn10)
  have hpl : p < 1024 := Nat.lt_of_le_of_lt (sub_le hp) ha1024
  obtain ⟨q, hq⟩ : ∃ q, q = (p - 1) &&& all := ⟨_, rfl⟩
  have hqs : q &&& all = q := by rw [hq]; exact part_sub p all
  have hqp : q < p := by
    have : (p - 1) &&& all ≤ p - 1 := Nat.and_le_left
    omega
  have hqall : q ≠ all := fun z => by have := sub_le hp; omega
  have sa := sb_a (p - 1) all
  rw [← hq] at sa ⊢
  obtain ⟨k, hk⟩ : ∃ k, bt_n all = bt_n q + (k + 1) := by
    have := bt_ssub ha1024 hqs hqall
    exact ⟨bt_n all - bt_n q - 1, by omega⟩
  have up : ∀ v, v &&& all = v → q < v → p ≤ v := fun v hv hlt => part_all ha1024 hp h0 hv (by rw [← hq]; exact hlt)
  have hM := h.1
  unfold sh_M at hM
  have u0 : w_t w 1440 = 25 := hM.1
  have u38 : w_r w 1440 38 = Option.some 1463 := by simp only [hM]
  have t63 : w_t w 1463 = 4 := by simp only [hM]
  have n63 : w_n w 1463 = 1024 := by simp only [hM]
  clear hM
  obtain ⟨u, ⟨i1, i2, i3⟩, q1⟩ := lp_ex (fun t (u : Wd) Q => wp (d + 4) 222 28 [Option.some (v_R (Option.some 1440)), Option.some (v_I (Int32.ofNat all)), Option.some (v_I (Int32.ofNat q)), Option.some (v_I (Int32.ofNat t))] [] u Q) (fun t u => Fr_ Pn_ w u ∧ (∀ v, v ≠ q → w_l u 1463 v = w_l w 1463 v) ∧ w_l u 1463 q = Int64.ofNat (sm_ (dn_ (E_ T X some sea all) (tm_n T) all k q) t)) (tm_n T) (fun t u ht hI => by
    obtain ⟨j1, j2, j3⟩ := hI
    obtain ⟨w1, g1, g2, g3, g4⟩ := m_tw1 (MQ_n hw0 j1) (WM_fr hW j1 (fun k => ⟨fun z => z, fun z => z⟩)) (d := d) ht hqs ha hso (LS_n hl j1) hk (fun hat hqt => by
      have hs2 : (q ||| 2 ^ t) &&& all = q ||| 2 ^ t := tb_sub (fun i hi => by
        rw [Nat.testBit_or] at hi
        by_cases c : i = t
        · rw [c]; exact hat
        · rw [Nat.testBit_two_pow_of_ne (fun z => c z.symm), Bool.or_false] at hi
          exact sub_tb hqs hi)
      have hbt := bt_or hqt (by omega : t < 10)
      have hne : q ||| 2 ^ t ≠ q := fun z => by rw [z] at hbt; omega
      have hle : q ≤ q ||| 2 ^ t := sub_le (tb_sub (fun i hi => by rw [Nat.testBit_or, hi, Bool.true_or]))
      rw [j2 _ hne, hD _ hs2 (up _ hs2 (by omega)), show bt_n all - bt_n (q ||| 2 ^ t) = k by omega]) j3
    exact ⟨w1, ⟨fr_tr j1 g1, fun v hv => (g2 v hv).trans (j2 v hv), g3⟩, g4⟩) (tm_n T) 0 (s_l w 1463 q (Int64.ofNat 0)) (Nat.zero_add _) ⟨fr_sl (fr_rf _ _) (by omega), fun v hv => by rw [l_sl, if_neg (fun z => hv z.2)], by rw [l_sl, if_pos ⟨rfl, rfl⟩]; rfl⟩
  rw [dn_wk] at i3
  refine ⟨(Option.some (v_I (Int32.ofNat (tm_n T))), u), ⟨i1, fun v hv hle => ?_⟩, fun Q => ?_⟩
  · by_cases e : v = q
    · rw [e, i3, show bt_n all - bt_n q = k + 1 by omega]
    · rw [i2 v e]; exact hD v hv (up v hv (by omega))
  · have hq1 := MQ_n hw0 i1
    have hM := hq1.1
    unfold sh_M at hM
    have v0 : w_t u 1440 = 25 := hM.1
    have v4 : w_r u 1440 4 = Option.some 1444 := by simp only [hM]
    have t44 : w_t u 1444 = 1 := by simp only [hM]
    have n44 : w_n u 1444 = 8 := by simp only [hM]
    clear hM
    have e0 : w_i u 1444 0 = Int32.ofNat (tm_n T) := hq1.2.1.1
    have fin : wp (d + 4) 222 28 [Option.some (v_R (Option.some 1440)), Option.some (v_I (Int32.ofNat all)), Option.some (v_I (Int32.ofNat q)), Option.some (v_I (Int32.ofNat (tm_n T)))] [] u Q = wp (d + 4) 222 9 [Option.some (v_R (Option.some 1440)), Option.some (v_I (Int32.ofNat all)), Option.some (v_I (Int32.ofNat q)), Option.some (v_I (Int32.ofNat (tm_n T)))] [] u Q := by
      rw [x_222_28]
      simp (disch := first | omega | decide | exact ko_b _ | assumption | (simp only [t_si, t_sl, t_sr, t_sI, t_sR, n_si, n_sl, n_sr, n_sI, n_sR, r_si, r_sl, r_sI]; first | done | omega)) only [x_222_e, x_222_b, x_222_29, x_222_30, x_222_33, x_222_34, x_222_35, x_222_e, x_222_b, x_222_100, bk_v, bk_n, nl_I, nl_R, nl_L, nl_0, oo_lt, oo_le, oo_eq, oo_add, oo_sub, oo_tn, oo_ir, nn_leT, nn_leF, nn_ltT, nn_ltF, nn_eqT, nn_eqF, bv_0, bv_1, ko_b, ko_1, ko_0, true_and, and_true, if_true, if_false, not_true_eq_false, not_false_eq_true, oo_02, decide_eq_true_eq, decide_eq_false_iff_not, ite_not, Nat.reduceAdd, Nat.reduceLT, Nat.reduceSub, Nat.reduceLeDiff, reduceIte, Bool.true_eq_false, Bool.false_eq_true, reduceCtorEq, eq_self, decide_true, decide_false, bv_t, bv_f, and_self, t_si, t_sl, t_sr, t_sI, t_sR, n_si, n_sl, n_sr, n_sI, n_sR, r_si, r_sl, r_sI, v4, n44, e0]
    refine Eq.trans ?_ ((q1 Q).trans fin)
    rw [x_222_9]
    simp (disch := first | omega | decide | exact ko_b _ | assumption | (simp only [t_si, t_sl, t_sr, t_sI, t_sR, n_si, n_sl, n_sr, n_sI, n_sR, r_si, r_sl, r_sI]; first | done | omega)) only [x_222_e, x_222_b, x_222_10, x_222_13, x_222_14, x_222_15, x_222_16, x_222_17, x_222_18, x_222_19, x_222_20, x_222_23, x_222_24, x_222_25, x_222_26, x_222_27, bk_v, bk_n, nl_I, nl_R, nl_L, nl_0, oo_lt, oo_le, oo_eq, oo_add, oo_sub, oo_tn, oo_ir, nn_leT, nn_leF, nn_ltT, nn_ltF, nn_eqT, nn_eqF, bv_0, bv_1, ko_b, ko_1, ko_0, true_and, and_true, if_true, if_false, not_true_eq_false, not_false_eq_true, oo_02, decide_eq_true_eq, decide_eq_false_iff_not, ite_not, Nat.reduceAdd, Nat.reduceLT, Nat.reduceSub, Nat.reduceLeDiff, reduceIte, Bool.true_eq_false, Bool.false_eq_true, reduceCtorEq, eq_self, decide_true, decide_false, bv_t, bv_f, and_self, t_si, t_sl, t_sr, t_sI, t_sR, n_si, n_sl, n_sr, n_sI, n_sR, r_si, r_sl, r_sI, sa, u38, n63]
theorem m_tw (h : MQ_ w T X) (hW : WM_ w T X) {d all some sea : Nat} (ha : all < 2 ^ tm_n T) (hso : some < 1024) (hl : LS_ w some sea) : ∃ w1, Fr_ Pn_ w w1 ∧ DW_ w1 (E_ T X some sea all) (tm_n T) all 0 ∧ ∀ Q, cl (d + 4) 222 [v_R (Option.some 1440), v_I (Int32.ofNat all)] w Q = Q (Sum.inl none) w1 := by
  have hw0 := h
  have hn10 := h.2.2.2.1.1
  have ha1024 : all < 1024 := Nat.lt_of_lt_of_le ha (p2_le hn10)
  have go : ∀ (m p : Nat) (w1 : Wd) (a3 : Option Vl), p ≤ m → Fr_ Pn_ w w1 → p &&& all = p → DW_ w1 (E_ T X some sea all) (tm_n T) all p → ∃ w2, Fr_ Pn_ w w2 ∧ DW_ w2 (E_ T X some sea all) (tm_n T) all 0 ∧ ∀ Q, wp (d + 4) 222 9 [Option.some (v_R (Option.some 1440)), Option.some (v_I (Int32.ofNat all)), Option.some (v_I (Int32.ofNat p)), a3] [] w1 Q = Q (Sum.inl none) w2 := by
    intro m
    induction m with
    | zero =>
      intro p w1 a3 hm hf hp hD
      have e : p = 0 := by omega
      subst e
      refine ⟨w1, hf, hD, fun Q => ?_⟩
      rw [x_222_9]
      simp (disch := first | omega | decide | exact ko_b _ | assumption | (simp only [t_si, t_sl, t_sr, t_sI, t_sR, n_si, n_sl, n_sr, n_sI, n_sR, r_si, r_sl, r_sI]; first | done | omega)) only [x_222_e, x_222_b, x_222_10, x_222_e, x_222_b, x_222_103, bk_v, bk_n, nl_I, nl_R, nl_L, nl_0, oo_lt, oo_le, oo_eq, oo_add, oo_sub, oo_tn, oo_ir, nn_leT, nn_leF, nn_ltT, nn_ltF, nn_eqT, nn_eqF, bv_0, bv_1, ko_b, ko_1, ko_0, true_and, and_true, if_true, if_false, not_true_eq_false, not_false_eq_true, oo_02, decide_eq_true_eq, decide_eq_false_iff_not, ite_not, Nat.reduceAdd, Nat.reduceLT, Nat.reduceSub, Nat.reduceLeDiff, reduceIte, Bool.true_eq_false, Bool.false_eq_true, reduceCtorEq, eq_self, decide_true, decide_false, bv_t, bv_f, and_self, t_si, t_sl, t_sr, t_sI, t_sR, n_si, n_sl, n_sr, n_sI, n_sR, r_si, r_sl, r_sI]
    | succ m ih =>
      intro p w1 a3 hm hf hp hD
      by_cases e : p = 0
      · subst e
        exact ih 0 w1 a3 (by omega) hf hp hD
      · obtain ⟨s, ⟨g1, g2⟩, g3⟩ := m_tw2 (MQ_n hw0 hf) (WM_fr hW hf (fun k => ⟨fun z => z, fun z => z⟩)) (d := d) (a3 := a3) hp e ha hso (LS_n hl hf) hD
        have hlt : (p - 1) &&& all ≤ p - 1 := Nat.and_le_left
        obtain ⟨w2, k1, k2, k3⟩ := ih ((p - 1) &&& all) s.2 s.1 (by omega) (fr_tr hf g1) (part_sub p all) g2
        exact ⟨w2, k1, k2, fun Q => (g3 Q).trans (k3 Q)⟩
  have f1 : Fr_ Pn_ w (s_l w 1463 all (Int64.ofNat 1)) := fr_sl (fr_rf _ _) (by omega)
  obtain ⟨w2, k1, k2, k3⟩ := go all all (s_l w 1463 all (Int64.ofNat 1)) none (Nat.le_refl _) f1 (Nat.and_self all) (fun v hv hle => by
    have e : v = all := Nat.le_antisymm (sub_le hv) hle
    subst e
    rw [l_sl, if_pos ⟨rfl, rfl⟩, Nat.sub_self]
    show Int64.ofNat 1 = Int64.ofNat (if v = v then 1 else 0)
    rw [if_pos rfl])
  refine ⟨w2, k1, k2, fun Q => ?_⟩
  rw [← k3 Q]
  have hM := h.1
  unfold sh_M at hM
  have u0 : w_t w 1440 = 25 := hM.1
  have u38 : w_r w 1440 38 = Option.some 1463 := by simp only [hM]
  have t63 : w_t w 1463 = 4 := by simp only [hM]
  have n63 : w_n w 1463 = 1024 := by simp only [hM]
  clear hM
  simp (disch := first | omega | decide | exact ko_b _ | assumption | (simp only [t_si, t_sl, t_sr, t_sI, t_sR, n_si, n_sl, n_sr, n_sI, n_sR, r_si, r_sl, r_sI]; first | done | omega)) only [x_222_e, x_222_b, x_222_0, x_222_1, x_222_4, x_222_5, x_222_6, x_222_7, x_222_8, bk_v, bk_n, nl_I, nl_R, nl_L, nl_0, oo_lt, oo_le, oo_eq, oo_add, oo_sub, oo_tn, oo_ir, nn_leT, nn_leF, nn_ltT, nn_ltF, nn_eqT, nn_eqF, bv_0, bv_1, ko_b, ko_1, ko_0, true_and, and_true, if_true, if_false, not_true_eq_false, not_false_eq_true, oo_02, decide_eq_true_eq, decide_eq_false_iff_not, ite_not, Nat.reduceAdd, Nat.reduceLT, Nat.reduceSub, Nat.reduceLeDiff, reduceIte, Bool.true_eq_false, Bool.false_eq_true, reduceCtorEq, eq_self, decide_true, decide_false, bv_t, bv_f, and_self, t_si, t_sl, t_sr, t_sI, t_sR, n_si, n_sl, n_sr, n_sI, n_sR, r_si, r_sl, r_sI, u38, n63]
theorem DW_0 {E : Nat → Nat → Bool} {n all : Nat} {w1 : Wd} (h : DW_ w1 E n all 0) : w_l w1 1463 0 = Int64.ofNat (wk_ E n all (bt_n all) 0) := by
  have := h 0 (Nat.zero_and _) (Nat.le_refl _)
  rw [show bt_n 0 = 0 from rfl, Nat.sub_zero] at this
  exact this
def Psl_ (a k : Nat) : Prop := P62_ a k ∨ (a = 1440 ∧ (k = 39 ∨ k = 40))
theorem Psl_pm {a k : Nat} (h : Psl_ a k) : pm_ a k := by unfold Psl_ P62_ at h; unfold pm_; omega
theorem m_ooo (h : MQ_ w T X) {d all some sea : Nat} (ha : all < 2 ^ tm_n T) (hso : some < 1024) (hl : LS_ w some sea) : ∃ w1, Fr_ P62_ w w1 ∧ ∀ Q, cl (d + 5) 227 [v_R (Option.some 1440), v_I (Int32.ofNat all)] w Q = Q (Sum.inl (Option.some (v_L (Int64.ofNat (wy_ T X some sea all))))) w1 := by
  have hn10 := h.2.2.2.1.1
  have ha1024 : all < 1024 := Nat.lt_of_lt_of_le ha (p2_le hn10)
  obtain ⟨w1, f1, hW, q1⟩ := m_sums h (d := d + 3)
  have h1 := MQ_fr h (fr_mo f1 (fun a k z => by unfold P62_ at z; unfold pm_; omega))
  have hl1 : LS_ w1 some sea := by
    unfold LS_ at hl ⊢
    rw [f1.2.2.2.2.2 _ _ (by unfold P62_; omega), f1.2.2.2.2.2 _ _ (by unfold P62_; omega)]
    exact hl
  have u0 : w_t w 1440 = 25 := h.1.1
  have u1 : w_t w1 1440 = 25 := h1.1.1
  by_cases c : all = 0
  · subst c
    refine ⟨w1, f1, fun Q => ?_⟩
    have e1 : wy_ T X some sea 0 = 1 := rfl
    rw [e1]
    simp (disch := first | omega | decide | exact ko_b _ | assumption | (simp only [t_si, t_sl, t_sr, t_sI, t_sR, n_si, n_sl, n_sr, n_sI, n_sR, r_si, r_sl, r_sI]; first | done | omega)) only [x_227_e, x_227_b, x_227_0, x_227_1, x_227_4, x_227_5, x_227_8, x_227_9, x_227_10, x_227_11, x_227_12, x_227_15, x_227_16, x_227_19, x_227_20, x_227_21, bk_v, bk_n, nl_I, nl_R, nl_L, nl_0, oo_lt, oo_le, oo_eq, oo_add, oo_sub, oo_tn, oo_ir, nn_leT, nn_leF, nn_ltT, nn_ltF, nn_eqT, nn_eqF, bv_0, bv_1, ko_b, ko_1, ko_0, true_and, and_true, if_true, if_false, not_true_eq_false, not_false_eq_true, oo_02, decide_eq_true_eq, decide_eq_false_iff_not, ite_not, Nat.reduceAdd, Nat.reduceLT, Nat.reduceSub, Nat.reduceLeDiff, reduceIte, Bool.true_eq_false, Bool.false_eq_true, reduceCtorEq, eq_self, decide_true, decide_false, bv_t, bv_f, and_self, t_si, t_sl, t_sr, t_sI, t_sR, n_si, n_sl, n_sr, n_sI, n_sR, r_si, r_sl, r_sI, q1]
  · obtain ⟨w2, f2, hD, q2⟩ := m_tw h1 hW (d := d) ha hso hl1
    refine ⟨w2, fr_tr f1 (fr_mo f2 (fun a k z => z.elim)), fun Q => ?_⟩
    have h2 := MQ_n h1 f2
    have hM := h2.1
    unfold sh_M at hM
    have v0 : w_t w2 1440 = 25 := hM.1
    have u38 : w_r w2 1440 38 = Option.some 1463 := by simp only [hM]
    have t63 : w_t w2 1463 = 4 := by simp only [hM]
    have n63 : w_n w2 1463 = 1024 := by simp only [hM]
    clear hM
    have ed := DW_0 hD
    unfold wy_
    simp (disch := first | omega | decide | exact ko_b _ | assumption | (simp only [t_si, t_sl, t_sr, t_sI, t_sR, n_si, n_sl, n_sr, n_sI, n_sR, r_si, r_sl, r_sI]; first | done | omega)) only [x_227_e, x_227_b, x_227_0, x_227_1, x_227_4, x_227_5, x_227_8, x_227_9, x_227_10, x_227_11, x_227_12, x_227_15, x_227_16, x_227_19, x_227_20, x_227_21, bk_v, bk_n, nl_I, nl_R, nl_L, nl_0, oo_lt, oo_le, oo_eq, oo_add, oo_sub, oo_tn, oo_ir, nn_leT, nn_leF, nn_ltT, nn_ltF, nn_eqT, nn_eqF, bv_0, bv_1, ko_b, ko_1, ko_0, true_and, and_true, if_true, if_false, not_true_eq_false, not_false_eq_true, oo_02, decide_eq_true_eq, decide_eq_false_iff_not, ite_not, Nat.reduceAdd, Nat.reduceLT, Nat.reduceSub, Nat.reduceLeDiff, reduceIte, Bool.true_eq_false, Bool.false_eq_true, reduceCtorEq, eq_self, decide_true, decide_false, bv_t, bv_f, and_self, t_si, t_sl, t_sr, t_sI, t_sR, n_si, n_sl, n_sr, n_sI, n_sR, r_si, r_sl, r_sI, q1, c, q2, u38, n63, ed]
theorem m_orders (h9 : RM_ w S) (hV : WS_ S) {d : Nat} : MR_ (d + 6) 226 [v_R (some 1440)] w (v_L (Int64.ofNat (wy_ (sm_T S) (bm_X (sm_B S)) 0 0 (f_all (bm_X (sm_B S)))))) 0 := by
  refine mr_go (ls := [some (v_R (some 1440))]) (fun Q => ?_) (fun w0 hf hc => ?_)
  · have h := h9
    have hq := RM_MQ h hV
    have hMM := hq
    obtain ⟨hM, hT, hS, ⟨hn, hk4⟩, hW1, hW2, hW3⟩ := hMM
    unfold sh_M at hM
    unfold MT_ at hT
    unfold MS_ at hS
    have hB := h.2.2.1.2
    unfold PK_ at hB
    have hR := h.2.2.2
    simp (disch := first | omega | decide | exact ko_b _ | assumption | (simp only [t_si, t_sl, t_sr, t_sI, t_sR, n_si, n_sl, n_sr, n_sI, n_sR, r_si, r_sl, r_sI]; first | done | omega)) only [x_226_e, x_226_b, x_226_0, x_226_1, x_226_2, x_226_6, x_226_7, x_226_10, x_226_11, x_226_12, x_226_15, x_226_18, bk_v, bk_n, nl_I, nl_R, nl_L, nl_0, oo_lt, oo_le, oo_eq, oo_add, oo_sub, oo_tn, oo_ir, nn_leT, nn_leF, nn_ltT, nn_ltF, nn_eqT, nn_eqF, bv_0, bv_1, ko_b, ko_1, ko_0, true_and, and_true, if_true, if_false, not_true_eq_false, not_false_eq_true, oo_02, decide_eq_true_eq, decide_eq_false_iff_not, ite_not, Nat.reduceAdd, Nat.reduceLT, Nat.reduceSub, Nat.reduceLeDiff, reduceIte, Bool.true_eq_false, Bool.false_eq_true, reduceCtorEq, eq_self, decide_true, decide_false, bv_t, bv_f, and_self, t_si, t_sl, t_sr, t_sI, t_sR, n_si, n_sl, n_sr, n_sI, n_sR, r_si, r_sl, r_sI, hM, hT, hS, hB, hR]
  · have h := RM_fr h9 hV hf
    have hq0 := RM_MQ h hV
    have hX9 := hV.2.2.2.1.1
    have f1 : Fr_ pm_ w0 (s_i w0 1440 39 (Int32.ofNat 0)) := fr_si (fr_rf _ _) (by unfold pm_; omega)
    have hq1 := MQ_fr hq0 f1
    obtain ⟨w2, f2, q2⟩ := m_ooo hq1 (d := d) (all := f_all (bm_X (sm_B S))) (some := 0) (sea := 0) (all_lt hX9) (by omega) ⟨by rw [i_si, if_pos ⟨rfl, rfl⟩], Or.inl rfl⟩
    refine ⟨w2, fr_tr f1 (fr_mo f2 (fun a k z => by unfold P62_ at z; unfold pm_; omega)), ?_, fun Q => ?_⟩
    · rw [f2.2.2.2.2.2 _ _ (by unfold P62_; omega), i_si, if_neg (by omega)]; exact hc
    · have u0 : w_t w0 1440 = 25 := h.1.1
      have qa := fun d Q => m_all hq1 (d := d) (Q := Q)
      simp (disch := first | omega | decide | exact ko_b _ | assumption | (simp only [t_si, t_sl, t_sr, t_sI, t_sR, n_si, n_sl, n_sr, n_sI, n_sR, r_si, r_sl, r_sI]; first | done | omega)) only [x_226_e, x_226_b, x_226_5, x_226_6, x_226_7, x_226_10, x_226_11, x_226_12, x_226_15, x_226_18, bk_v, bk_n, nl_I, nl_R, nl_L, nl_0, oo_lt, oo_le, oo_eq, oo_add, oo_sub, oo_tn, oo_ir, nn_leT, nn_leF, nn_ltT, nn_ltF, nn_eqT, nn_eqF, bv_0, bv_1, ko_b, ko_1, ko_0, true_and, and_true, if_true, if_false, not_true_eq_false, not_false_eq_true, oo_02, decide_eq_true_eq, decide_eq_false_iff_not, ite_not, Nat.reduceAdd, Nat.reduceLT, Nat.reduceSub, Nat.reduceLeDiff, reduceIte, Bool.true_eq_false, Bool.false_eq_true, reduceCtorEq, eq_self, decide_true, decide_false, bv_t, bv_f, and_self, t_si, t_sl, t_sr, t_sI, t_sR, n_si, n_sl, n_sr, n_sI, n_sR, r_si, r_sl, r_sI, qa, q2]
theorem m_lifted (h9 : RM_ w S) (hV : WS_ S) {d s sea : Nat} (hs : s < 2 ^ tm_n (sm_T S)) (hsea : sea ≤ 10) : MR_ (d + 6) 228 [v_R (some 1440), v_I (Int32.ofNat s), v_I (Int32.ofNat sea)] w (v_L (Int64.ofNat (wy_ (sm_T S) (bm_X (sm_B S)) s sea (f_all (bm_X (sm_B S)))))) 0 := by
  refine mr_go (ls := [some (v_R (some 1440)), some (v_I (Int32.ofNat s)), some (v_I (Int32.ofNat sea)), none, none]) (fun Q => ?_) (fun w0 hf hc => ?_)
  · have h := h9
    have hq := RM_MQ h hV
    have hMM := hq
    obtain ⟨hM, hT, hS, ⟨hn, hk4⟩, hW1, hW2, hW3⟩ := hMM
    unfold sh_M at hM
    unfold MT_ at hT
    unfold MS_ at hS
    have hB := h.2.2.1.2
    unfold PK_ at hB
    have hR := h.2.2.2
    simp (disch := first | omega | decide | exact ko_b _ | assumption | (simp only [t_si, t_sl, t_sr, t_sI, t_sR, n_si, n_sl, n_sr, n_sI, n_sR, r_si, r_sl, r_sI]; first | done | omega)) only [x_228_e, x_228_b, x_228_0, x_228_1, x_228_2, x_228_6, x_228_7, x_228_8, x_228_9, x_228_10, x_228_13, x_228_14, x_228_15, x_228_16, x_228_17, x_228_18, x_228_19, x_228_22, x_228_25, x_228_26, x_228_27, x_228_28, x_228_31, x_228_34, x_228_37, x_228_38, x_228_39, x_228_42, x_228_43, x_228_44, x_228_45, x_228_46, x_228_49, x_228_50, x_228_51, x_228_54, x_228_55, x_228_56, x_228_59, x_228_62, x_228_63, x_228_64, x_228_65, x_228_68, x_228_69, bk_v, bk_n, nl_I, nl_R, nl_L, nl_0, oo_lt, oo_le, oo_eq, oo_add, oo_sub, oo_tn, oo_ir, nn_leT, nn_leF, nn_ltT, nn_ltF, nn_eqT, nn_eqF, bv_0, bv_1, ko_b, ko_1, ko_0, true_and, and_true, if_true, if_false, not_true_eq_false, not_false_eq_true, oo_02, decide_eq_true_eq, decide_eq_false_iff_not, ite_not, Nat.reduceAdd, Nat.reduceLT, Nat.reduceSub, Nat.reduceLeDiff, reduceIte, Bool.true_eq_false, Bool.false_eq_true, reduceCtorEq, eq_self, decide_true, decide_false, bv_t, bv_f, and_self, t_si, t_sl, t_sr, t_sI, t_sR, n_si, n_sl, n_sr, n_sI, n_sR, r_si, r_sl, r_sI, hM, hT, hS, hB, hR]
  · have h := RM_fr h9 hV hf
    have hq0 := RM_MQ h hV
    have hX9 := hV.2.2.2.1.1
    have hn10 := hV.1.1
    obtain ⟨P, hP⟩ : ∃ P, P = 2 ^ tm_n (sm_T S) := ⟨_, rfl⟩
    have hP2 : P ≤ 1024 := by rw [hP]; exact p2_le hn10
    rw [← hP] at hs
    have sbN : Int32.ofNat 1 <<< (Int32.ofNat (tm_n (sm_T S)) &&& 31) = Int32.ofNat P := by rw [sb_s (by omega), hP]
    have f1 : Fr_ pm_ w0 (s_i (s_i w0 1440 39 (Int32.ofNat s)) 1440 40 (Int32.ofNat sea)) := fr_si (fr_si (fr_rf _ _) (by unfold pm_; omega)) (by unfold pm_; omega)
    have hq1 := MQ_fr hq0 f1
    obtain ⟨w2, f2, q2⟩ := m_ooo hq1 (d := d) (all := f_all (bm_X (sm_B S))) (some := s) (sea := sea) (all_lt hX9) (by omega) ⟨by rw [i_si, if_neg (by omega), i_si, if_pos ⟨rfl, rfl⟩], Or.inr ⟨by rw [i_si, if_pos ⟨rfl, rfl⟩], by omega⟩⟩
    refine ⟨s_i w2 1440 39 (Int32.ofNat 0), fr_si (fr_tr f1 (fr_mo f2 (fun a k z => by unfold P62_ at z; unfold pm_; omega))) (by unfold pm_; omega), ?_, fun Q => ?_⟩
    · rw [i_si, if_neg (by omega), f2.2.2.2.2.2 _ _ (by unfold P62_; omega), i_si, if_neg (by omega), i_si, if_neg (by omega)]; exact hc
    · have qa := fun d Q => m_all hq1 (d := d) (Q := Q)
      have u2 : w_t w2 1440 = 25 := by rw [f2.1]; exact h.1.1
      have hM := hq0.1
      unfold sh_M at hM
      have u0 : w_t w0 1440 = 25 := hM.1
      have u4 : w_r w0 1440 4 = Option.some 1444 := by simp only [hM]
      have t44 : w_t w0 1444 = 1 := by simp only [hM]
      have n44 : w_n w0 1444 = 8 := by simp only [hM]
      clear hM
      have e0 : w_i w0 1444 0 = Int32.ofNat (tm_n (sm_T S)) := hq0.2.1.1
      have g1 : Int32.ofNat 0 ≤ Int32.ofNat s ∧ Int32.ofNat s ≤ Int32.ofNat (P - 1) := by
        rw [oo_le (by omega) (by omega), oo_le (by omega) (by omega)]; omega
      have g2 : Int32.ofNat 0 ≤ Int32.ofNat sea ∧ Int32.ofNat sea ≤ Int32.ofNat 10 := by
        rw [oo_le (by omega) (by omega), oo_le (by omega) (by omega)]; omega
      simp (disch := first | omega | decide | exact ko_b _ | assumption | (simp only [t_si, t_sl, t_sr, t_sI, t_sR, n_si, n_sl, n_sr, n_sI, n_sR, r_si, r_sl, r_sI]; first | done | omega)) only [x_228_e, x_228_b, x_228_5, x_228_6, x_228_7, x_228_8, x_228_9, x_228_10, x_228_13, x_228_14, x_228_15, x_228_16, x_228_17, x_228_18, x_228_19, x_228_22, x_228_25, x_228_26, x_228_27, x_228_28, x_228_31, x_228_34, x_228_37, x_228_38, x_228_39, x_228_42, x_228_43, x_228_44, x_228_45, x_228_46, x_228_49, x_228_50, x_228_51, x_228_54, x_228_55, x_228_56, x_228_59, x_228_62, x_228_63, x_228_64, x_228_65, x_228_68, x_228_69, bk_v, bk_n, nl_I, nl_R, nl_L, nl_0, oo_lt, oo_le, oo_eq, oo_add, oo_sub, oo_tn, oo_ir, nn_leT, nn_leF, nn_ltT, nn_ltF, nn_eqT, nn_eqF, bv_0, bv_1, ko_b, ko_1, ko_0, true_and, and_true, if_true, if_false, not_true_eq_false, not_false_eq_true, oo_02, decide_eq_true_eq, decide_eq_false_iff_not, ite_not, Nat.reduceAdd, Nat.reduceLT, Nat.reduceSub, Nat.reduceLeDiff, reduceIte, Bool.true_eq_false, Bool.false_eq_true, reduceCtorEq, eq_self, decide_true, decide_false, bv_t, bv_f, and_self, t_si, t_sl, t_sr, t_sI, t_sR, n_si, n_sl, n_sr, n_sI, n_sR, r_si, r_sl, r_sI, u4, n44, e0, sbN, m_in, ll_o, ll_le, g1, g2, qa, q2]
theorem m_lifted_x (h9 : RM_ w S) (hV : WS_ S) {d : Nat} {x y : Int32} (hx : no_li x y (2 ^ tm_n (sm_T S))) : MR_ (d + 6) 228 [v_R (some 1440), v_I x, v_I y] w (v_L (Int32.ofNat 0).toInt64) 1 := by
  refine mr_go (ls := [some (v_R (some 1440)), some (v_I x), some (v_I y), none, none]) (fun Q => ?_) (fun w0 hf hc => mr_f (fun Q => ?_))
  · have h := h9
    have hq := RM_MQ h hV
    have hMM := hq
    obtain ⟨hM, hT, hS, ⟨hn, hk4⟩, hW1, hW2, hW3⟩ := hMM
    unfold sh_M at hM
    unfold MT_ at hT
    unfold MS_ at hS
    have hB := h.2.2.1.2
    unfold PK_ at hB
    have hR := h.2.2.2
    simp (disch := first | omega | decide | exact ko_b _ | assumption | (simp only [t_si, t_sl, t_sr, t_sI, t_sR, n_si, n_sl, n_sr, n_sI, n_sR, r_si, r_sl, r_sI]; first | done | omega)) only [x_228_e, x_228_b, x_228_0, x_228_1, x_228_2, x_228_6, x_228_7, x_228_8, x_228_9, x_228_10, x_228_13, x_228_14, x_228_15, x_228_16, x_228_17, x_228_18, x_228_19, x_228_22, x_228_25, x_228_26, x_228_27, x_228_28, x_228_31, x_228_34, x_228_37, x_228_38, x_228_39, x_228_42, x_228_43, x_228_44, x_228_45, x_228_46, x_228_49, x_228_50, x_228_51, x_228_54, x_228_55, x_228_56, x_228_59, x_228_62, x_228_63, x_228_64, x_228_65, x_228_68, x_228_69, bk_v, bk_n, nl_I, nl_R, nl_L, nl_0, oo_lt, oo_le, oo_eq, oo_add, oo_sub, oo_tn, oo_ir, nn_leT, nn_leF, nn_ltT, nn_ltF, nn_eqT, nn_eqF, bv_0, bv_1, ko_b, ko_1, ko_0, true_and, and_true, if_true, if_false, not_true_eq_false, not_false_eq_true, oo_02, decide_eq_true_eq, decide_eq_false_iff_not, ite_not, Nat.reduceAdd, Nat.reduceLT, Nat.reduceSub, Nat.reduceLeDiff, reduceIte, Bool.true_eq_false, Bool.false_eq_true, reduceCtorEq, eq_self, decide_true, decide_false, bv_t, bv_f, and_self, t_si, t_sl, t_sr, t_sI, t_sR, n_si, n_sl, n_sr, n_sI, n_sR, r_si, r_sl, r_sI, hM, hT, hS, hB, hR]
  · have h := RM_fr h9 hV hf
    have hq0 := RM_MQ h hV
    have hn10 := hV.1.1
    obtain ⟨P, hP⟩ : ∃ P, P = 2 ^ tm_n (sm_T S) := ⟨_, rfl⟩
    have hP1 : 1 ≤ P := by rw [hP]; exact Nat.two_pow_pos _
    have hP2 : P ≤ 1024 := by rw [hP]; exact p2_le hn10
    unfold no_li at hx
    rw [← hP] at hx
    have sbN : Int32.ofNat 1 <<< (Int32.ofNat (tm_n (sm_T S)) &&& 31) = Int32.ofNat P := by rw [sb_s (by omega), hP]
    have hM := hq0.1
    unfold sh_M at hM
    have u0 : w_t w0 1440 = 25 := hM.1
    have u4 : w_r w0 1440 4 = Option.some 1444 := by simp only [hM]
    have t44 : w_t w0 1444 = 1 := by simp only [hM]
    have n44 : w_n w0 1444 = 8 := by simp only [hM]
    clear hM
    have e0 : w_i w0 1444 0 = Int32.ofNat (tm_n (sm_T S)) := hq0.2.1.1
    by_cases c1 : Int32.ofNat 0 ≤ x ∧ x ≤ Int32.ofNat (P - 1)
    · have c2 : ¬ (Int32.ofNat 0 ≤ y ∧ y ≤ Int32.ofNat 10) := by
        refine (hx.resolve_left (Int32.not_lt.mpr c1.1)).resolve_left (fun z => z ?_)
        have := c1.2
        rw [Int32.le_iff_toInt_le, oo_in (by omega)] at this
        rw [Int32.lt_iff_toInt_lt, oo_in (by omega)]
        omega
      simp (disch := first | omega | decide | exact ko_b _ | assumption | (simp only [t_si, t_sl, t_sr, t_sI, t_sR, n_si, n_sl, n_sr, n_sI, n_sR, r_si, r_sl, r_sI]; first | done | omega)) only [x_228_e, x_228_b, x_228_5, x_228_6, x_228_7, x_228_8, x_228_9, x_228_10, x_228_13, x_228_14, x_228_15, x_228_16, x_228_17, x_228_18, x_228_19, x_228_22, x_228_25, x_228_26, x_228_27, x_228_28, x_228_31, x_228_34, x_228_37, x_228_38, x_228_39, x_228_42, x_228_43, bk_v, bk_n, nl_I, nl_R, nl_L, nl_0, oo_lt, oo_le, oo_eq, oo_add, oo_sub, oo_tn, oo_ir, nn_leT, nn_leF, nn_ltT, nn_ltF, nn_eqT, nn_eqF, bv_0, bv_1, ko_b, ko_1, ko_0, true_and, and_true, if_true, if_false, not_true_eq_false, not_false_eq_true, oo_02, decide_eq_true_eq, decide_eq_false_iff_not, ite_not, Nat.reduceAdd, Nat.reduceLT, Nat.reduceSub, Nat.reduceLeDiff, reduceIte, Bool.true_eq_false, Bool.false_eq_true, reduceCtorEq, eq_self, decide_true, decide_false, bv_t, bv_f, and_self, t_si, t_sl, t_sr, t_sI, t_sR, n_si, n_sl, n_sr, n_sI, n_sR, r_si, r_sl, r_sI, u4, n44, e0, sbN, m_in, ll_o, ll_le, c1, c2, m_fail u0]
    · simp (disch := first | omega | decide | exact ko_b _ | assumption | (simp only [t_si, t_sl, t_sr, t_sI, t_sR, n_si, n_sl, n_sr, n_sI, n_sR, r_si, r_sl, r_sI]; first | done | omega)) only [x_228_e, x_228_b, x_228_5, x_228_6, x_228_7, x_228_8, x_228_9, x_228_10, x_228_13, x_228_14, x_228_15, x_228_16, x_228_17, x_228_18, x_228_19, x_228_22, x_228_25, x_228_26, x_228_27, x_228_28, x_228_31, x_228_34, x_228_37, x_228_38, x_228_39, x_228_42, x_228_43, bk_v, bk_n, nl_I, nl_R, nl_L, nl_0, oo_lt, oo_le, oo_eq, oo_add, oo_sub, oo_tn, oo_ir, nn_leT, nn_leF, nn_ltT, nn_ltF, nn_eqT, nn_eqF, bv_0, bv_1, ko_b, ko_1, ko_0, true_and, and_true, if_true, if_false, not_true_eq_false, not_false_eq_true, oo_02, decide_eq_true_eq, decide_eq_false_iff_not, ite_not, Nat.reduceAdd, Nat.reduceLT, Nat.reduceSub, Nat.reduceLeDiff, reduceIte, Bool.true_eq_false, Bool.false_eq_true, reduceCtorEq, eq_self, decide_true, decide_false, bv_t, bv_f, and_self, t_si, t_sl, t_sr, t_sI, t_sR, n_si, n_sl, n_sr, n_sI, n_sR, r_si, r_sl, r_sI, u4, n44, e0, sbN, m_in, ll_o, ll_le, c1, m_fail u0]
end
