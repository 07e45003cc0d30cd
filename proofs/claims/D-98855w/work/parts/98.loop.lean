/-! THE LAW's LOOP (by program, wip/pure/gen98.py) -/
set_option maxRecDepth 100000
theorem an_63 (x : Int32) : ∃ k, k < 64 ∧ x &&& Int32.ofNat 63 = Int32.ofNat k := by
  refine ⟨(x.toBitVec &&& 63#32).toNat, ?_, ?_⟩
  · rw [BitVec.toNat_and]
    exact Nat.lt_succ_of_le Nat.and_le_right
  · apply Int32.toBitVec_inj.mp
    rw [Int32.toBitVec_and]
    apply BitVec.eq_of_toNat_eq
    simp
/-- town's call -/
def Twn_ (d : Nat) : Prop := ∀ (L : Nat) (xs : Nat → Int32) (c : Nat) (w : Wd) (G : Gm) (σ : Nat → Nat) (S : Sm), In_ L xs c w G σ S → L ≤ 384 → 6 * c + 6 ≤ L → Stp_ L xs c d 305 w
section
variable {w : Wd} {d c L : Nat} {xs : Nat → Int32} {G : Gm} {σ : Nat → Nat} {S : Sm}
theorem in_up (I : In_ L xs c w G σ S) : In_ L xs (c + 1) w G σ S := by
  obtain ⟨i1, i2, i3, i4, i5, i6, i7, i8, i9⟩ := I
  have j8 : w_z w ≤ 1477 + (c + 1) * 18744 := Nat.le_trans i8 (Nat.add_le_add_left (Nat.mul_le_mul_right _ (Nat.le_succ c)) _)
  have j9 : w_s w ≤ 18034 + (c + 1) * 85672 := Nat.le_trans i9 (Nat.add_le_add_left (Nat.mul_le_mul_right _ (Nat.le_succ c)) _)
  exact ⟨i1, i2, i3, i4, i5, i6, i7, j8, j9⟩
theorem st_no (I : In_ L xs c w G σ S) : Stp_ L xs c (d + 602) 1995 w := by
  intro a5 a6 a7
  exact ⟨w, a5, a6, a7, G, σ, S, in_up I, fun Q => rfl⟩
/-- the switch -/
theorem law_sw (hT : Twn_ (d + 602)) (I : In_ L xs c w G σ S) (hL : L ≤ 384) (hi : 6 * c + 6 ≤ L) {k : Nat} (hk : k < 64) : ∃ e, Stp_ L xs c (d + 602) e w ∧ ∀ ls Q, wp (d + 602 + 14) 0 40 ls [v_I (Int32.ofNat k)] w Q = wp (d + 602 + 14) 0 e ls [] w Q := by
  by_cases h44 : k < 44
  · rcases (by omega : k = 0 ∨ k = 1 ∨ k = 2 ∨ k = 3 ∨ k = 4 ∨ k = 5 ∨ k = 6 ∨ k = 7 ∨ k = 8 ∨ k = 9 ∨ k = 10 ∨ k = 11 ∨ k = 12 ∨ k = 13 ∨ k = 14 ∨ k = 15 ∨ k = 16 ∨ k = 17 ∨ k = 18 ∨ k = 19 ∨ k = 20 ∨ k = 21 ∨ k = 22 ∨ k = 23 ∨ k = 24 ∨ k = 25 ∨ k = 26 ∨ k = 27 ∨ k = 28 ∨ k = 29 ∨ k = 30 ∨ k = 31 ∨ k = 32 ∨ k = 33 ∨ k = 34 ∨ k = 35 ∨ k = 36 ∨ k = 37 ∨ k = 38 ∨ k = 39 ∨ k = 40 ∨ k = 41 ∨ k = 42 ∨ k = 43) with rfl | rfl | rfl | rfl | rfl | rfl | rfl | rfl | rfl | rfl | rfl | rfl | rfl | rfl | rfl | rfl | rfl | rfl | rfl | rfl | rfl | rfl | rfl | rfl | rfl | rfl | rfl | rfl | rfl | rfl | rfl | rfl | rfl | rfl | rfl | rfl | rfl | rfl | rfl | rfl | rfl | rfl | rfl | rfl
    · exact ⟨232, st_0 I hL hi, fun ls Q => by simp only [x_0_40]⟩
    · exact ⟨305, hT L xs c w G σ S I hL hi, fun ls Q => by simp only [x_0_40]⟩
    · exact ⟨361, st_2 I hL hi, fun ls Q => by simp only [x_0_40]⟩
    · exact ⟨374, st_3 I hL hi, fun ls Q => by simp only [x_0_40]⟩
    · exact ⟨430, st_4 I hL hi, fun ls Q => by simp only [x_0_40]⟩
    · exact ⟨498, st_5 I hL hi, fun ls Q => by simp only [x_0_40]⟩
    · exact ⟨566, st_6 I hL hi, fun ls Q => by simp only [x_0_40]⟩
    · exact ⟨579, st_7 I hL hi, fun ls Q => by simp only [x_0_40]⟩
    · exact ⟨647, st_8 I hL hi, fun ls Q => by simp only [x_0_40]⟩
    · exact ⟨703, st_9 I hL hi, fun ls Q => by simp only [x_0_40]⟩
    · exact ⟨778, st_10 I hL hi, fun ls Q => by simp only [x_0_40]⟩
    · exact ⟨846, st_11 I hL hi, fun ls Q => by simp only [x_0_40]⟩
    · exact ⟨914, st_12 I hL hi, fun ls Q => by simp only [x_0_40]⟩
    · exact ⟨927, st_13 I hL hi, fun ls Q => by simp only [x_0_40]⟩
    · exact ⟨952, st_14 I hL hi, fun ls Q => by simp only [x_0_40]⟩
    · exact ⟨965, st_15 I hL hi, fun ls Q => by simp only [x_0_40]⟩
    · exact ⟨978, st_16 I hL hi, fun ls Q => by simp only [x_0_40]⟩
    · exact ⟨1041, st_17 I hL hi, fun ls Q => by simp only [x_0_40]⟩
    · exact ⟨1097, st_18 I hL hi, fun ls Q => by simp only [x_0_40]⟩
    · exact ⟨1153, st_19 I hL hi, fun ls Q => by simp only [x_0_40]⟩
    · exact ⟨1167, st_20 I hL hi, fun ls Q => by simp only [x_0_40]⟩
    · exact ⟨1180, st_21 I hL hi, fun ls Q => by simp only [x_0_40]⟩
    · exact ⟨1193, st_22 I hL hi, fun ls Q => by simp only [x_0_40]⟩
    · exact ⟨1206, st_23 I hL hi, fun ls Q => by simp only [x_0_40]⟩
    · exact ⟨1281, st_24 I hL hi, fun ls Q => by simp only [x_0_40]⟩
    · exact ⟨1349, st_25 I hL hi, fun ls Q => by simp only [x_0_40]⟩
    · exact ⟨1362, st_26 I hL hi, fun ls Q => by simp only [x_0_40]⟩
    · exact ⟨1418, st_27 I hL hi, fun ls Q => by simp only [x_0_40]⟩
    · exact ⟨1431, st_28 I hL hi, fun ls Q => by simp only [x_0_40]⟩
    · exact ⟨1498, st_29 I hL hi, fun ls Q => by simp only [x_0_40]⟩
    · exact ⟨1511, st_30 I hL hi, fun ls Q => by simp only [x_0_40]⟩
    · exact ⟨1567, st_31 I hL hi, fun ls Q => by simp only [x_0_40]⟩
    · exact ⟨1623, st_32 I hL hi, fun ls Q => by simp only [x_0_40]⟩
    · exact ⟨1636, st_33 I hL hi, fun ls Q => by simp only [x_0_40]⟩
    · exact ⟨1692, st_34 I hL hi, fun ls Q => by simp only [x_0_40]⟩
    · exact ⟨1705, st_35 I hL hi, fun ls Q => by simp only [x_0_40]⟩
    · exact ⟨1718, st_36 I hL hi, fun ls Q => by simp only [x_0_40]⟩
    · exact ⟨1755, st_37 I hL hi, fun ls Q => by simp only [x_0_40]⟩
    · exact ⟨1811, st_38 I hL hi, fun ls Q => by simp only [x_0_40]⟩
    · exact ⟨1824, st_39 I hL hi, fun ls Q => by simp only [x_0_40]⟩
    · exact ⟨1835, st_40 I hL hi, fun ls Q => by simp only [x_0_40]⟩
    · exact ⟨1891, st_41 I hL hi, fun ls Q => by simp only [x_0_40]⟩
    · exact ⟨1971, st_42 I hL hi, fun ls Q => by simp only [x_0_40]⟩
    · exact ⟨1982, st_43 I hL hi, fun ls Q => by simp only [x_0_40]⟩
  · refine ⟨1995, st_no I, fun ls Q => ?_⟩
    rcases (by omega : k = 44 ∨ k = 45 ∨ k = 46 ∨ k = 47 ∨ k = 48 ∨ k = 49 ∨ k = 50 ∨ k = 51 ∨ k = 52 ∨ k = 53 ∨ k = 54 ∨ k = 55 ∨ k = 56 ∨ k = 57 ∨ k = 58 ∨ k = 59 ∨ k = 60 ∨ k = 61 ∨ k = 62 ∨ k = 63) with rfl | rfl | rfl | rfl | rfl | rfl | rfl | rfl | rfl | rfl | rfl | rfl | rfl | rfl | rfl | rfl | rfl | rfl | rfl | rfl <;> exact by simp (disch := decide) only [x_0_40]

/-- one round -/
theorem law_1 (hT : Twn_ (d + 602)) (I : In_ L xs c w G σ S) (hL : L ≤ 384) (hi : 6 * c + 6 ≤ L) (a5 a6 a7 : Option Vl) : ∃ w2 b5 b6 b7 G1 σ1 S1, In_ L xs (c + 1) w2 G1 σ1 S1 ∧ ∀ Q, wp (d + 602 + 14) 0 23 [some (v_R (some 0)), some (v_R (some 1000)), some (v_R (some 1440)), some (v_R (some 1476)), some (v_I (Int32.ofNat (6 * c))), a5, a6, a7] [] w Q = wp (d + 602 + 14) 0 23 [some (v_R (some 0)), some (v_R (some 1000)), some (v_R (some 1440)), some (v_R (some 1476)), some (v_I (Int32.ofNat (6 * (c + 1)))), b5, b6, b7] [] w2 Q := by
  obtain ⟨h0, hn, -, -, -⟩ := in_0 I
  obtain ⟨k, hk, ek⟩ := an_63 (w_i w 0 (6 * c))
  obtain ⟨e, hs, q1⟩ := law_sw hT I hL hi hk
  obtain ⟨w2, b5, b6, b7, G1, σ1, S1, I2, q2⟩ := hs a5 a6 a7
  refine ⟨w2, b5, b6, b7, G1, σ1, S1, I2, fun Q => ?_⟩
  have e6 : Int32.ofNat (6 * c) + Int32.ofNat 6 = Int32.ofNat (6 * (c + 1)) := by rw [oo_add]; rfl
  rw [x_0_23]
  simp (disch := first | omega | decide | exact ko_b _ | assumption | (simp only [t_si, t_sl, t_sr, t_sI, t_sR, n_si, n_sl, n_sr, n_sI, n_sR, r_si, r_sl, r_sI]; first | done | omega)) only [x_0_e, x_0_b, x_0_25, x_0_26, x_0_27, x_0_29, x_0_30, x_0_33, x_0_34, x_0_36, x_0_37, x_0_39, bk_v, bk_n, nl_I, nl_R, nl_L, nl_0, oo_lt, oo_le, oo_eq, oo_add, oo_sub, oo_tn, oo_ir, nn_leT, nn_leF, nn_ltT, nn_ltF, nn_eqT, nn_eqF, bv_0, bv_1, ko_b, ko_1, ko_0, true_and, and_true, if_true, if_false, not_true_eq_false, not_false_eq_true, oo_02, decide_eq_true_eq, decide_eq_false_iff_not, ite_not, Nat.reduceAdd, Nat.reduceLT, Nat.reduceSub, Nat.reduceLeDiff, reduceIte, Bool.true_eq_false, Bool.false_eq_true, reduceCtorEq, eq_self, decide_true, decide_false, bv_t, bv_f, and_self, t_si, t_sl, t_sr, t_sI, t_sR, n_si, n_sl, n_sr, n_sI, n_sR, r_si, r_sl, r_sI, hn, ek]
  rw [q1, q2]
  simp (disch := first | omega | decide | exact ko_b _ | assumption | (simp only [t_si, t_sl, t_sr, t_sI, t_sR, n_si, n_sl, n_sr, n_sI, n_sR, r_si, r_sl, r_sI]; first | done | omega)) only [x_0_e, x_0_b, x_0_1995, x_0_1998, bk_v, bk_n, nl_I, nl_R, nl_L, nl_0, oo_lt, oo_le, oo_eq, oo_add, oo_sub, oo_tn, oo_ir, nn_leT, nn_leF, nn_ltT, nn_ltF, nn_eqT, nn_eqF, bv_0, bv_1, ko_b, ko_1, ko_0, true_and, and_true, if_true, if_false, not_true_eq_false, not_false_eq_true, oo_02, decide_eq_true_eq, decide_eq_false_iff_not, ite_not, Nat.reduceAdd, Nat.reduceLT, Nat.reduceSub, Nat.reduceLeDiff, reduceIte, Bool.true_eq_false, Bool.false_eq_true, reduceCtorEq, eq_self, decide_true, decide_false, bv_t, bv_f, and_self, t_si, t_sl, t_sr, t_sI, t_sR, n_si, n_sl, n_sr, n_sI, n_sR, r_si, r_sl, r_sI, e6]
theorem law_all (hT : Twn_ (d + 602)) (hL : L ≤ 384) : ∀ (n c : Nat) (w : Wd) (G : Gm) (σ : Nat → Nat) (S : Sm) (a5 a6 a7 : Option Vl), In_ L xs c w G σ S → c + n = L / 6 → ∃ w2 G1 σ1 S1, In_ L xs (L / 6) w2 G1 σ1 S1 ∧ ∀ Q, wp (d + 602 + 14) 0 23 [some (v_R (some 0)), some (v_R (some 1000)), some (v_R (some 1440)), some (v_R (some 1476)), some (v_I (Int32.ofNat (6 * c))), a5, a6, a7] [] w Q = Q (Sum.inl (some (v_I (Int32.ofNat 1)))) w2 := by
  intro n
  induction n with
  | zero =>
    intro c w G σ S a5 a6 a7 I hc
    have e : c = L / 6 := by omega
    subst e
    refine ⟨w, G, σ, S, I, fun Q => ?_⟩
    obtain ⟨h0, hn, -, -, -⟩ := in_0 I
    rw [x_0_23]
    by_cases h6 : 6 ≤ L
    · simp (disch := first | omega | decide | exact ko_b _ | assumption | (simp only [t_si, t_sl, t_sr, t_sI, t_sR, n_si, n_sl, n_sr, n_sI, n_sR, r_si, r_sl, r_sI]; first | done | omega)) only [x_0_e, x_0_b, x_0_25, x_0_26, x_0_27, x_0_29, x_0_30, x_0_e, x_0_b, x_0_2001, x_0_2002, bk_v, bk_n, nl_I, nl_R, nl_L, nl_0, oo_lt, oo_le, oo_eq, oo_add, oo_sub, oo_tn, oo_ir, nn_leT, nn_leF, nn_ltT, nn_ltF, nn_eqT, nn_eqF, bv_0, bv_1, ko_b, ko_1, ko_0, true_and, and_true, if_true, if_false, not_true_eq_false, not_false_eq_true, oo_02, decide_eq_true_eq, decide_eq_false_iff_not, ite_not, Nat.reduceAdd, Nat.reduceLT, Nat.reduceSub, Nat.reduceLeDiff, reduceIte, Bool.true_eq_false, Bool.false_eq_true, reduceCtorEq, eq_self, decide_true, decide_false, bv_t, bv_f, and_self, t_si, t_sl, t_sr, t_sI, t_sR, n_si, n_sl, n_sr, n_sI, n_sR, r_si, r_sl, r_sI, hn]
    · have es : Int32.ofNat L - Int32.ofNat 6 = Int32.ofInt ((L : Int) - 6) := by
        rcases (by omega : L = 0 ∨ L = 1 ∨ L = 2 ∨ L = 3 ∨ L = 4 ∨ L = 5) with rfl | rfl | rfl | rfl | rfl | rfl <;> decide
      have el : (Int32.ofInt ((L : Int) - 6) < Int32.ofNat (6 * (L / 6))) = True := by
        rcases (by omega : L = 0 ∨ L = 1 ∨ L = 2 ∨ L = 3 ∨ L = 4 ∨ L = 5) with rfl | rfl | rfl | rfl | rfl | rfl <;> exact eq_true (by decide)
      simp (disch := first | omega | decide | exact ko_b _ | assumption | (simp only [t_si, t_sl, t_sr, t_sI, t_sR, n_si, n_sl, n_sr, n_sI, n_sR, r_si, r_sl, r_sI]; first | done | omega)) only [x_0_e, x_0_b, x_0_25, x_0_26, x_0_27, x_0_29, x_0_30, x_0_e, x_0_b, x_0_2001, x_0_2002, hn, es, el, if_true]
  | succ n ih =>
    intro c w G σ S a5 a6 a7 I hc
    obtain ⟨w1, b5, b6, b7, G1, σ1, S1, I1, q1⟩ := law_1 hT I hL (by omega) a5 a6 a7
    obtain ⟨w2, G2, σ2, S2, I2, q2⟩ := ih (c + 1) w1 G1 σ1 S1 b5 b6 b7 I1 (by omega)
    exact ⟨w2, G2, σ2, S2, I2, fun Q => (q1 Q).trans (q2 Q)⟩
/-- the law, from town's call alone -/
theorem law_pure (hT : Twn_ (d + 602)) (hL : L ≤ 384) : ∃ w2, (w_z w2 ≤ 1201128 ∧ w_s w2 ≤ 5501098) ∧ ∀ Q, wp (d + 602 + 14) 0 0 [some (v_R (some 0)), none, none, none, none, none, none, none] [] (w_00 L xs) Q = Q (Sum.inl (some (v_I (Int32.ofNat 1)))) w2 := by
  obtain ⟨w1, ⟨k1, k2, k3, k4, k5, k6, k7, k8, k9⟩, q1⟩ := c_start (L := L) (xs := xs) (d := d + 602)
  have I : In_ L xs 0 w1 G00_ id S00_ := ⟨k6, k7, WS_00, WE_00, fun a ha => ⟨(k1 a ha).1, (k1 a ha).2.1, (k1 a ha).2.2.2.1, (k1 a ha).2.2.1⟩, ⟨k4, k5⟩, ⟨k8, k9⟩, by omega, by omega⟩
  obtain ⟨w2, G2, σ2, S2, I2, q2⟩ := law_all hT hL (L / 6) 0 w1 G00_ id S00_ none none none I (by omega)
  refine ⟨w2, ⟨?_, ?_⟩, fun Q => (q1 Q).trans (q2 Q)⟩
  · have := I2.2.2.2.2.2.2.2.1
    omega
  · have := I2.2.2.2.2.2.2.2.2
    omega
end
