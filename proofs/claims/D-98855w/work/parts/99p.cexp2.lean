/-! THE COMPONENT's expressions: nots, ands, ors -/
set_option maxRecDepth 100000
section
variable {t : Tp} {R : Nat}
theorem w_not {w : Wd} (h : KS_ w) : Sc_ w 17 117 ws_not ∧ Ws_ ws_not := ⟨ks_c h (i := 7) (by omega) (by decide), as_d (by decide), by decide, by decide⟩
theorem w_and {w : Wd} (h : KS_ w) : Sc_ w 31 131 ws_and ∧ Ws_ ws_and := ⟨ks_c h (i := 21) (by omega) (by decide), as_d (by decide), by decide, by decide⟩
theorem w_or {w : Wd} (h : KS_ w) : Sc_ w 32 132 ws_or ∧ Ws_ ws_or := ⟨ks_c h (i := 22) (by omega) (by decide), as_d (by decide), by decide, by decide⟩
theorem e_cm {K a k n lo : Nat} {f : Nat → Rs_} (hX : CEx_ t R K 278 a f) (hg : ∀ b, RG_ k t b (f b)) {d b : Nat} (hd : K ≤ d + 11) {w : Wd} {a3 a4 : Option Vl} (he : Ce_ w R t) (hr : Cr_ w R t b) (hlo : R < lo ∧ lo ≤ w_z w) : match cm_ t f b with | Sum.inl e => Tx_ t R w b e (fun Q => wp (d + 12) 277 37 [some (v_R (some R)), some (v_I (Int32.ofNat a)), some (v_I (Int32.ofNat n)), a3, a4] [] w Q) | Sum.inr q => ∃ w1 o a5, (Fk_ R w w1 ∧ Ce_ w1 R t ∧ Cr_ w1 R t q.2 ∧ Bd_ w b w1 q.2 ∧ EXr_ lo w1 o q.1) ∧ ∀ Q, wp (d + 12) 277 37 [some (v_R (some R)), some (v_I (Int32.ofNat a)), some (v_I (Int32.ofNat n)), a3, a4] [] w Q = wp (d + 12) 277 91 [some (v_R (some R)), some (v_I (Int32.ofNat a)), some (v_I (Int32.ofNat n)), some (v_R (some o)), a5] [] w1 Q := by
  have t0 := he.1.1
  have X := hX (d + 11) w b hd he hr
  unfold cm_
  cases hx : f b with
  | inl e =>
    rw [hx] at X
    obtain ⟨w1, x, h1, q1⟩ := X
    have q1 : ∀ Q, cl (d + 11) 278 [v_R (some R), v_I (Int32.ofNat a)] w Q = Q (Sum.inr x) w1 := q1
    refine ⟨w1, x, h1, fun Q => ?_⟩
    show wp (d + 12) 277 37 _ _ w Q = _
    simp (disch := first | omega | decide | exact ko_b _ | assumption | (simp only [t_si, t_sl, t_sr, t_sI, t_sR, n_si, n_sl, n_sr, n_sI, n_sR, r_si, r_sl, r_sI]; first | done | omega)) only [x_277_e, x_277_b, x_277_37, x_277_38, x_277_39, x_277_42, bk_v, bk_n, nl_I, nl_R, nl_L, nl_0, oo_lt, oo_le, oo_eq, oo_add, oo_sub, oo_tn, oo_ir, nn_leT, nn_leF, nn_ltT, nn_ltF, nn_eqT, nn_eqF, bv_0, bv_1, ko_b, ko_1, ko_0, true_and, and_true, if_true, if_false, not_true_eq_false, not_false_eq_true, oo_02, decide_eq_true_eq, decide_eq_false_iff_not, ite_not, Nat.reduceAdd, Nat.reduceLT, Nat.reduceSub, Nat.reduceLeDiff, reduceIte, Bool.true_eq_false, Bool.false_eq_true, reduceCtorEq, eq_self, decide_true, decide_false, bv_t, bv_f, and_self, t_si, t_sl, t_sr, t_sI, t_sR, n_si, n_sl, n_sr, n_sI, n_sR, r_si, r_sl, r_sI, q1]
  | inr r =>
    rw [hx] at X
    obtain ⟨u, o, ⟨f1, e1, c1, b1, x1⟩, q1⟩ := X
    have q1 : ∀ Q, cl (d + 11) 278 [v_R (some R), v_I (Int32.ofNat a)] w Q = Q (Sum.inl (some (v_R (some o)))) u := q1
    obtain ⟨-, g2, g3, g4⟩ := hg _ r.1 r.2 hx
    have tu := e1.1.1
    have zz1 := f1.1
    have xl : EXr_ lo u o r.1 := fun w' h1' h2' => x1 w' h1' fun a ha hb => h2' a (by omega) hb
    have ha := fun Q => c_isg (D := d + 11) (q0 := 29) (p0 := 129) (x := 60) (Q := Q) (by omega) e1 c1 (g_1 e1.2 (i := 19) (by omega) rfl) (by omega) (by omega)
    have hb := fun Q => c_isg (D := d + 11) (q0 := 30) (p0 := 130) (x := 61) (Q := Q) (by omega) e1 c1 (g_1 e1.2 (i := 20) (by omega) rfl) (by omega) (by omega)
    simp only
    cases hop : op_c t r.2 with
    | none =>
      unfold op_c at hop
      have s1 : is_s t r.2 60 = false := by
        cases h : is_s t r.2 60 with
        | false => rfl
        | true => rw [if_pos h] at hop; cases hop
      have s2 : is_s t r.2 61 = false := by
        cases h : is_s t r.2 61 with
        | false => rfl
        | true => rw [s1, if_neg Bool.false_ne_true, if_pos h] at hop; cases hop
      rw [s1] at ha
      rw [s2] at hb
      refine ⟨u, o, a4.map id, ⟨f1, e1, c1, b1, xl⟩, fun Q => ?_⟩
      cases a4 with
      | none => simp (disch := first | omega | decide | exact ko_b _ | assumption | (simp only [t_si, t_sl, t_sr, t_sI, t_sR, n_si, n_sl, n_sr, n_sI, n_sR, r_si, r_sl, r_sI]; first | done | omega)) only [x_277_e, x_277_b, x_277_37, x_277_38, x_277_39, x_277_42, x_277_43, x_277_44, x_277_46, x_277_49, x_277_52, x_277_53, x_277_55, x_277_58, bk_v, bk_n, nl_I, nl_R, nl_L, nl_0, oo_lt, oo_le, oo_eq, oo_add, oo_sub, oo_tn, oo_ir, nn_leT, nn_leF, nn_ltT, nn_ltF, nn_eqT, nn_eqF, bv_0, bv_1, ko_b, ko_1, ko_0, true_and, and_true, if_true, if_false, not_true_eq_false, not_false_eq_true, oo_02, decide_eq_true_eq, decide_eq_false_iff_not, ite_not, Nat.reduceAdd, Nat.reduceLT, Nat.reduceSub, Nat.reduceLeDiff, reduceIte, Bool.true_eq_false, Bool.false_eq_true, reduceCtorEq, eq_self, decide_true, decide_false, bv_t, bv_f, and_self, t_si, t_sl, t_sr, t_sI, t_sR, n_si, n_sl, n_sr, n_sI, n_sR, r_si, r_sl, r_sI, q1, ha, hb, Option.map_none]
      | some v => simp (disch := first | omega | decide | exact ko_b _ | assumption | (simp only [t_si, t_sl, t_sr, t_sI, t_sR, n_si, n_sl, n_sr, n_sI, n_sR, r_si, r_sl, r_sI]; first | done | omega)) only [x_277_e, x_277_b, x_277_37, x_277_38, x_277_39, x_277_42, x_277_43, x_277_44, x_277_46, x_277_49, x_277_52, x_277_53, x_277_55, x_277_58, bk_v, bk_n, nl_I, nl_R, nl_L, nl_0, oo_lt, oo_le, oo_eq, oo_add, oo_sub, oo_tn, oo_ir, nn_leT, nn_leF, nn_ltT, nn_ltF, nn_eqT, nn_eqF, bv_0, bv_1, ko_b, ko_1, ko_0, true_and, and_true, if_true, if_false, not_true_eq_false, not_false_eq_true, oo_02, decide_eq_true_eq, decide_eq_false_iff_not, ite_not, Nat.reduceAdd, Nat.reduceLT, Nat.reduceSub, Nat.reduceLeDiff, reduceIte, Bool.true_eq_false, Bool.false_eq_true, reduceCtorEq, eq_self, decide_true, decide_false, bv_t, bv_f, and_self, t_si, t_sl, t_sr, t_sI, t_sR, n_si, n_sl, n_sr, n_sI, n_sR, r_si, r_sl, r_sI, q1, ha, hb, Option.map_some, id]
    | some oo =>
      have sg : ∃ ch, Int32.ofNat ch = ch_o oo ∧ oo < 8 ∧ tk_k t r.2 = 3 ∧ t.1 r.2 = ch ∧ ((is_s t r.2 60 = true) ∨ (is_s t r.2 60 = false ∧ is_s t r.2 61 = true)) := by
        unfold op_c at hop
        by_cases s1 : is_s t r.2 60 = true
        · rw [if_pos s1] at hop
          cases hop
          exact ⟨60, rfl, by omega, (is_s_k s1).1, (is_s_k s1).2, Or.inl s1⟩
        · rw [if_neg s1] at hop
          by_cases s2 : is_s t r.2 61 = true
          · rw [if_pos s2] at hop
            cases hop
            exact ⟨61, rfl, by omega, (is_s_k s2).1, (is_s_k s2).2, Or.inr ⟨Bool.eq_false_iff.mpr s1, s2⟩⟩
          · rw [if_neg s2] at hop; cases hop
      obtain ⟨ch, g5, o8, g6, g7, g8⟩ := sg
      obtain ⟨q, a1, tq, a3'⟩ := c_act c1 g6
      rw [g7, g5] at a3'
      have pre : ∃ v4, ∀ Q, wp (d + 12) 277 37 [some (v_R (some R)), some (v_I (Int32.ofNat a)), some (v_I (Int32.ofNat n)), a3, a4] [] w Q = wp (d + 12) 277 61 [some (v_R (some R)), some (v_I (Int32.ofNat a)), some (v_I (Int32.ofNat n)), some (v_R (some o)), v4] [] u Q := by
        refine ⟨a4, fun Q => ?_⟩
        rcases g8 with s1 | ⟨s1, s2⟩
        · rw [s1] at ha
          simp (disch := first | omega | decide | exact ko_b _ | assumption | (simp only [t_si, t_sl, t_sr, t_sI, t_sR, n_si, n_sl, n_sr, n_sI, n_sR, r_si, r_sl, r_sI]; first | done | omega)) only [x_277_e, x_277_b, x_277_37, x_277_38, x_277_39, x_277_42, x_277_43, x_277_44, x_277_46, x_277_49, x_277_52, x_277_53, x_277_55, x_277_58, bk_v, bk_n, nl_I, nl_R, nl_L, nl_0, oo_lt, oo_le, oo_eq, oo_add, oo_sub, oo_tn, oo_ir, nn_leT, nn_leF, nn_ltT, nn_ltF, nn_eqT, nn_eqF, bv_0, bv_1, ko_b, ko_1, ko_0, true_and, and_true, if_true, if_false, not_true_eq_false, not_false_eq_true, oo_02, decide_eq_true_eq, decide_eq_false_iff_not, ite_not, Nat.reduceAdd, Nat.reduceLT, Nat.reduceSub, Nat.reduceLeDiff, reduceIte, Bool.true_eq_false, Bool.false_eq_true, reduceCtorEq, eq_self, decide_true, decide_false, bv_t, bv_f, and_self, t_si, t_sl, t_sr, t_sI, t_sR, n_si, n_sl, n_sr, n_sI, n_sR, r_si, r_sl, r_sI, q1, ha]
        · rw [s1] at ha
          rw [s2] at hb
          simp (disch := first | omega | decide | exact ko_b _ | assumption | (simp only [t_si, t_sl, t_sr, t_sI, t_sR, n_si, n_sl, n_sr, n_sI, n_sR, r_si, r_sl, r_sI]; first | done | omega)) only [x_277_e, x_277_b, x_277_37, x_277_38, x_277_39, x_277_42, x_277_43, x_277_44, x_277_46, x_277_49, x_277_52, x_277_53, x_277_55, x_277_58, bk_v, bk_n, nl_I, nl_R, nl_L, nl_0, oo_lt, oo_le, oo_eq, oo_add, oo_sub, oo_tn, oo_ir, nn_leT, nn_leF, nn_ltT, nn_ltF, nn_eqT, nn_eqF, bv_0, bv_1, ko_b, ko_1, ko_0, true_and, and_true, if_true, if_false, not_true_eq_false, not_false_eq_true, oo_02, decide_eq_true_eq, decide_eq_false_iff_not, ite_not, Nat.reduceAdd, Nat.reduceLT, Nat.reduceSub, Nat.reduceLeDiff, reduceIte, Bool.true_eq_false, Bool.false_eq_true, reduceCtorEq, eq_self, decide_true, decide_false, bv_t, bv_f, and_self, t_si, t_sl, t_sr, t_sI, t_sR, n_si, n_sl, n_sr, n_sI, n_sR, r_si, r_sl, r_sI, q1, ha, hb]
      obtain ⟨v4, pre⟩ := pre
      obtain ⟨u1, y1, ⟨ty, tn, tN⟩, B⟩ := c_both (oo := oo) (d := d + 11) hX hg hd (by omega) e1 c1 (by omega) ⟨hlo.1, by omega⟩ o8 xl
      unfold Bo_ at B
      simp only
      cases hy : f (tk_n t r.2) with
      | inl e =>
        rw [hy] at B
        obtain ⟨u3, x, h3, q3⟩ := B
        refine tx_up (L2 := fun Q => cl (d + 11) 278 [v_R (some R), v_I (Int32.ofNat a)] (s_n u1 30 3) Q) ⟨u3, x, h3, q3⟩ f1 b1 (fun Q => ?_)
        show wp (d + 12) 277 37 _ _ w Q = _
        rw [pre, q3]
        simp (disch := first | omega | decide | exact ko_b _ | assumption | (simp only [t_si, t_sl, t_sr, t_sI, t_sR, n_si, n_sl, n_sr, n_sI, n_sR, r_si, r_sl, r_sI]; first | done | omega)) only [x_277_e, x_277_b, x_277_61, x_277_62, x_277_65, x_277_66, x_277_69, x_277_71, x_277_72, x_277_75, x_277_78, x_277_79, x_277_81, x_277_82, x_277_83, x_277_84, x_277_87, bk_v, bk_n, nl_I, nl_R, nl_L, nl_0, oo_lt, oo_le, oo_eq, oo_add, oo_sub, oo_tn, oo_ir, nn_leT, nn_leF, nn_ltT, nn_ltF, nn_eqT, nn_eqF, bv_0, bv_1, ko_b, ko_1, ko_0, true_and, and_true, if_true, if_false, not_true_eq_false, not_false_eq_true, oo_02, decide_eq_true_eq, decide_eq_false_iff_not, ite_not, Nat.reduceAdd, Nat.reduceLT, Nat.reduceSub, Nat.reduceLeDiff, reduceIte, Bool.true_eq_false, Bool.false_eq_true, reduceCtorEq, eq_self, decide_true, decide_false, bv_t, bv_f, and_self, t_si, t_sl, t_sr, t_sI, t_sR, n_si, n_sl, n_sr, n_sI, n_sR, r_si, r_sl, r_sI, a1, a3', y1, q3]
      | inr r2 =>
        rw [hy] at B
        obtain ⟨u3, o2, u4, ⟨f4, e4, c4, b4, x4⟩, t3, q3, q4⟩ := B
        refine ⟨u4, w_z u1, some (v_I (ch_o oo)), ⟨fk_tr f1 f4, e4, c4, bd_tr b1 b4, x4⟩, fun Q => ?_⟩
        rw [pre]
        simp (disch := first | omega | decide | exact ko_b _ | assumption | (simp only [t_si, t_sl, t_sr, t_sI, t_sR, n_si, n_sl, n_sr, n_sI, n_sR, r_si, r_sl, r_sI]; first | done | omega)) only [x_277_e, x_277_b, x_277_61, x_277_62, x_277_65, x_277_66, x_277_69, x_277_71, x_277_72, x_277_75, x_277_78, x_277_79, x_277_81, x_277_82, x_277_83, x_277_84, x_277_87, x_277_90, bk_v, bk_n, nl_I, nl_R, nl_L, nl_0, oo_lt, oo_le, oo_eq, oo_add, oo_sub, oo_tn, oo_ir, nn_leT, nn_leF, nn_ltT, nn_ltF, nn_eqT, nn_eqF, bv_0, bv_1, ko_b, ko_1, ko_0, true_and, and_true, if_true, if_false, not_true_eq_false, not_false_eq_true, oo_02, decide_eq_true_eq, decide_eq_false_iff_not, ite_not, Nat.reduceAdd, Nat.reduceLT, Nat.reduceSub, Nat.reduceLeDiff, reduceIte, Bool.true_eq_false, Bool.false_eq_true, reduceCtorEq, eq_self, decide_true, decide_false, bv_t, bv_f, and_self, t_si, t_sl, t_sr, t_sI, t_sR, n_si, n_sl, n_sr, n_sI, n_sR, r_si, r_sl, r_sI, a1, a3', y1, q3, q4]
theorem e_nl {d a b lo : Nat} {a4 : Option Vl} : ∀ n (w : Wd) (o : Nat) (c : List Int32), n ≤ 6 → Ce_ w R t → Cr_ w R t b → R < lo ∧ lo ≤ w_z w → EXr_ lo w o c → ∃ w1 o1, (Fk_ R w w1 ∧ Ce_ w1 R t ∧ Cr_ w1 R t b ∧ (w_z w1 ≤ w_z w + n ∧ w_s w1 ≤ w_s w + n) ∧ EXr_ lo w1 o1 (c ++ List.replicate n (Int32.ofInt (-28)))) ∧ ∀ Q, wp (d + 12) 277 91 [some (v_R (some R)), some (v_I (Int32.ofNat a)), some (v_I (Int32.ofNat n)), some (v_R (some o)), a4] [] w Q = Q (Sum.inl (some (v_R (some o1)))) w1 := by
  intro n
  induction n with
  | zero =>
    intro w o c hn he hr hlo hx
    refine ⟨w, o, ⟨fk_rf _ _, he, hr, ⟨Nat.le_refl _, Nat.le_refl _⟩, by rw [List.replicate_zero, List.append_nil]; exact hx⟩, fun Q => ?_⟩
    rw [x_277_91]
    simp (disch := first | omega | decide | exact ko_b _ | assumption | (simp only [t_si, t_sl, t_sr, t_sI, t_sR, n_si, n_sl, n_sr, n_sI, n_sR, r_si, r_sl, r_sI]; first | done | omega)) only [x_277_e, x_277_b, x_277_92, x_277_e, x_277_b, x_277_110, x_277_111, bk_v, bk_n, nl_I, nl_R, nl_L, nl_0, oo_lt, oo_le, oo_eq, oo_add, oo_sub, oo_tn, oo_ir, nn_leT, nn_leF, nn_ltT, nn_ltF, nn_eqT, nn_eqF, bv_0, bv_1, ko_b, ko_1, ko_0, true_and, and_true, if_true, if_false, not_true_eq_false, not_false_eq_true, oo_02, decide_eq_true_eq, decide_eq_false_iff_not, ite_not, Nat.reduceAdd, Nat.reduceLT, Nat.reduceSub, Nat.reduceLeDiff, reduceIte, Bool.true_eq_false, Bool.false_eq_true, reduceCtorEq, eq_self, decide_true, decide_false, bv_t, bv_f, and_self, t_si, t_sl, t_sr, t_sI, t_sR, n_si, n_sl, n_sr, n_sI, n_sR, r_si, r_sl, r_sI]
  | succ n ih =>
    intro w o c hn he hr hlo hx
    obtain ⟨hR1, hR2, hN6⟩ := Ce_z he
    obtain ⟨u, hu⟩ : ∃ u, u = s_n w 31 1 := ⟨_, rfl⟩
    have f1 : Fk_ R w u := by rw [hu]; exact fk_n hR2
    have tN : w_t u (w_z w) = 31 := by rw [hu, t_sn, if_pos rfl]
    have zu : w_z u = w_z w + 1 := by rw [hu, z_sn]
    have su : w_s u = w_s w + 1 := by rw [hu, s_sn]
    have f2 : Fk_ R w (s_r u (w_z w) 0 (some o)) := fk_nwr f1 (Nat.le_refl _) hR2
    have c1 : Cr_ u R t b := by rw [hu]; exact Cr_n hr hR2
    have e2 := Ce_fk he f2
    have x2 : EXr_ lo (s_r u (w_z w) 0 (some o)) (w_z w) (c ++ [Int32.ofInt (-28)]) := exr_not (by omega) hlo.2 (by show w_z w < w_z u; omega) tN (by rw [r_sr, if_pos ⟨rfl, rfl⟩]) (exr_up hx (Nat.le_refl _) f2.1 fun a h1 h2 => ag_fk f2 h2 (by omega))
    obtain ⟨w1, o1, ⟨f3, e3, c3, ⟨z3, s3⟩, x3⟩, q3⟩ := ih _ (w_z w) (c ++ [Int32.ofInt (-28)]) (by omega) e2 (Cr_r c1 (by omega) (by omega)) ⟨hlo.1, by show lo ≤ w_z u; omega⟩ x2
    rw [z_sr] at z3
    rw [s_sr] at s3
    refine ⟨w1, o1, ⟨fk_tr f2 f3, e3, c3, ⟨by omega, by omega⟩, ?_⟩, fun Q => ?_⟩
    · rw [List.append_assoc] at x3
      rw [List.replicate_succ]
      exact x3
    · have o1' := om_1 n
      have n0 : ¬ Int32.ofNat (n + 1) ≤ Int32.ofNat 0 := by rw [oo_le (by omega) (by omega)]; omega
      rw [← q3 Q, x_277_91]
      simp (disch := first | omega | decide | exact ko_b _ | assumption | (simp only [t_si, t_sl, t_sr, t_sI, t_sR, n_si, n_sl, n_sr, n_sI, n_sR, r_si, r_sl, r_sI]; first | done | omega)) only [x_277_e, x_277_b, x_277_92, x_277_95, bk_v, bk_n, nl_I, nl_R, nl_L, nl_0, oo_lt, oo_le, oo_eq, oo_add, oo_sub, oo_tn, oo_ir, nn_leT, nn_leF, nn_ltT, nn_ltF, nn_eqT, nn_eqF, bv_0, bv_1, ko_b, ko_1, ko_0, true_and, and_true, if_true, if_false, not_true_eq_false, not_false_eq_true, oo_02, decide_eq_true_eq, decide_eq_false_iff_not, ite_not, Nat.reduceAdd, Nat.reduceLT, Nat.reduceSub, Nat.reduceLeDiff, reduceIte, Bool.true_eq_false, Bool.false_eq_true, reduceCtorEq, eq_self, decide_true, decide_false, bv_t, bv_f, and_self, t_si, t_sl, t_sr, t_sI, t_sR, n_si, n_sl, n_sr, n_sI, n_sR, r_si, r_sl, r_sI, n0]
      rw [← hu]
      simp (disch := first | omega | decide | exact ko_b _ | assumption | (simp only [t_si, t_sl, t_sr, t_sI, t_sR, n_si, n_sl, n_sr, n_sI, n_sR, r_si, r_sl, r_sI]; first | done | omega)) only [x_277_e, x_277_b, x_277_98, x_277_99, x_277_100, x_277_103, x_277_104, x_277_107, x_106_e, x_106_b, x_106_0, x_106_1, x_106_4, x_106_5, x_106_6, x_106_9, x_98_e, x_98_b, x_98_0, x_98_1, x_98_4, bk_v, bk_n, nl_I, nl_R, nl_L, nl_0, oo_lt, oo_le, oo_eq, oo_add, oo_sub, oo_tn, oo_ir, nn_leT, nn_leF, nn_ltT, nn_ltF, nn_eqT, nn_eqF, bv_0, bv_1, ko_b, ko_1, ko_0, true_and, and_true, if_true, if_false, not_true_eq_false, not_false_eq_true, oo_02, decide_eq_true_eq, decide_eq_false_iff_not, ite_not, Nat.reduceAdd, Nat.reduceLT, Nat.reduceSub, Nat.reduceLeDiff, reduceIte, Bool.true_eq_false, Bool.false_eq_true, reduceCtorEq, eq_self, decide_true, decide_false, bv_t, bv_f, and_self, t_si, t_sl, t_sr, t_sI, t_sR, n_si, n_sl, n_sr, n_sI, n_sR, r_si, r_sl, r_sI, o1']
theorem e_nots {K a k lo : Nat} {f : Nat → Rs_} (hK : 11 ≤ K) (hX : CEx_ t R K 278 a f) (hg : ∀ b, RG_ k t b (f b)) {d : Nat} (hd : K ≤ d + 11) : ∀ j n (w : Wd) (b : Nat) (a3 a4 : Option Vl), n + j = 6 → Ce_ w R t → Cr_ w R t b → R < lo ∧ lo ≤ w_z w → match nots_ t (cm_ t f) j b with | Sum.inl e => Tx_ t R w b e (fun Q => wp (d + 12) 277 2 [some (v_R (some R)), some (v_I (Int32.ofNat a)), some (v_I (Int32.ofNat n)), a3, a4] [] w Q) | Sum.inr r => ∃ w1 o, (Fk_ R w w1 ∧ Ce_ w1 R t ∧ Cr_ w1 R t r.2 ∧ (b ≤ r.2 ∧ w_z w1 + 12 * b ≤ w_z w + 12 * r.2 + n ∧ w_s w1 + 60 * b ≤ w_s w + 60 * r.2 + n) ∧ EXr_ lo w1 o (r.1 ++ List.replicate n (Int32.ofInt (-28)))) ∧ ∀ Q, wp (d + 12) 277 2 [some (v_R (some R)), some (v_I (Int32.ofNat a)), some (v_I (Int32.ofNat n)), a3, a4] [] w Q = Q (Sum.inl (some (v_R (some o)))) w1 := by
  have go : ∀ n (w : Wd) (b : Nat) (a3 a4 : Option Vl), n ≤ 6 → Ce_ w R t → Cr_ w R t b → R < lo ∧ lo ≤ w_z w → match cm_ t f b with | Sum.inl e => Tx_ t R w b e (fun Q => wp (d + 12) 277 37 [some (v_R (some R)), some (v_I (Int32.ofNat a)), some (v_I (Int32.ofNat n)), a3, a4] [] w Q) | Sum.inr r => ∃ w1 o, (Fk_ R w w1 ∧ Ce_ w1 R t ∧ Cr_ w1 R t r.2 ∧ (b ≤ r.2 ∧ w_z w1 + 12 * b ≤ w_z w + 12 * r.2 + n ∧ w_s w1 + 60 * b ≤ w_s w + 60 * r.2 + n) ∧ EXr_ lo w1 o (r.1 ++ List.replicate n (Int32.ofInt (-28)))) ∧ ∀ Q, wp (d + 12) 277 37 [some (v_R (some R)), some (v_I (Int32.ofNat a)), some (v_I (Int32.ofNat n)), a3, a4] [] w Q = Q (Sum.inl (some (v_R (some o)))) w1 := by
    intro n w b a3 a4 hn he hr hlo
    have C := e_cm (n := n) (lo := lo) (a3 := a3) (a4 := a4) hX hg hd he hr hlo
    cases hx : cm_ t f b with
    | inl e => rw [hx] at C; exact C
    | inr q =>
      rw [hx] at C
      obtain ⟨w1, o, a5, ⟨f1, e1, c1, b1, x1⟩, q1⟩ := C
      obtain ⟨w2, o2, ⟨f2, e2, c2, ⟨z2, s2⟩, x2⟩, q2⟩ := e_nl (d := d) (a := a) (a4 := a5) n w1 o q.1 hn e1 c1 ⟨hlo.1, by have := f1.1; omega⟩ x1
      unfold Bd_ at b1
      exact ⟨w2, o2, ⟨fk_tr f1 f2, e2, c2, ⟨b1.1, by omega, by omega⟩, x2⟩, fun Q => (q1 Q).trans (q2 Q)⟩
  intro j
  induction j with
  | zero =>
    intro n w b a3 a4 hj he hr hlo
    have hn6 : n = 6 := by omega
    subst hn6
    have t0 := he.1.1
    obtain ⟨sc, sw⟩ := w_not he.2
    have hw := fun Q => c_isw (D := d + 11) (q0 := 17) (Q := Q) (by omega) he hr sc sw (by omega)
    unfold nots_
    by_cases c1 : is_w t b ws_not = true
    · rw [if_pos c1]
      rw [c1] at hw
      have ck0 := fun d Q => c_ck0 (d := d) (c := 2) (Q := Q) t0 hr.2.2.1
      refine ty_tx (L2 := fun Q => wp (d + 12) 277 2 [some (v_R (some R)), some (v_I (Int32.ofNat a)), some (v_I (Int32.ofNat 6)), a3, a4] [] w Q) ⟨_, _, flt_f he.1 hr (by omega), fun Q => ?_⟩ (fk_rf _ _) hr.1 (by omega) (by omega) (fun Q => rfl)
      show wp (d + 12) 277 2 _ _ w Q = _
      rw [x_277_2]
      simp (disch := first | omega | decide | exact ko_b _ | assumption | (simp only [t_si, t_sl, t_sr, t_sI, t_sR, n_si, n_sl, n_sr, n_sI, n_sR, r_si, r_sl, r_sI]; first | done | omega)) only [x_277_e, x_277_b, x_277_3, x_277_5, x_277_8, x_277_11, x_277_12, x_277_13, x_277_15, x_277_18, x_277_19, x_277_22, x_277_23, x_277_24, bk_v, bk_n, nl_I, nl_R, nl_L, nl_0, oo_lt, oo_le, oo_eq, oo_add, oo_sub, oo_tn, oo_ir, nn_leT, nn_leF, nn_ltT, nn_ltF, nn_eqT, nn_eqF, bv_0, bv_1, ko_b, ko_1, ko_0, true_and, and_true, if_true, if_false, not_true_eq_false, not_false_eq_true, oo_02, decide_eq_true_eq, decide_eq_false_iff_not, ite_not, Nat.reduceAdd, Nat.reduceLT, Nat.reduceSub, Nat.reduceLeDiff, reduceIte, Bool.true_eq_false, Bool.false_eq_true, reduceCtorEq, eq_self, decide_true, decide_false, bv_t, bv_f, and_self, t_si, t_sl, t_sr, t_sI, t_sR, n_si, n_sl, n_sr, n_sI, n_sR, r_si, r_sl, r_sI, hw, ck0]
    · rw [if_neg c1]
      rw [Bool.eq_false_iff.mpr c1] at hw
      have G := go 6 w b a3 a4 (by omega) he hr hlo
      have stp : ∀ Q, wp (d + 12) 277 2 [some (v_R (some R)), some (v_I (Int32.ofNat a)), some (v_I (Int32.ofNat 6)), a3, a4] [] w Q = wp (d + 12) 277 37 [some (v_R (some R)), some (v_I (Int32.ofNat a)), some (v_I (Int32.ofNat 6)), a3, a4] [] w Q := fun Q => by
        rw [x_277_2]
        simp (disch := first | omega | decide | exact ko_b _ | assumption | (simp only [t_si, t_sl, t_sr, t_sI, t_sR, n_si, n_sl, n_sr, n_sI, n_sR, r_si, r_sl, r_sI]; first | done | omega)) only [x_277_e, x_277_b, x_277_3, x_277_5, x_277_8, bk_v, bk_n, nl_I, nl_R, nl_L, nl_0, oo_lt, oo_le, oo_eq, oo_add, oo_sub, oo_tn, oo_ir, nn_leT, nn_leF, nn_ltT, nn_ltF, nn_eqT, nn_eqF, bv_0, bv_1, ko_b, ko_1, ko_0, true_and, and_true, if_true, if_false, not_true_eq_false, not_false_eq_true, oo_02, decide_eq_true_eq, decide_eq_false_iff_not, ite_not, Nat.reduceAdd, Nat.reduceLT, Nat.reduceSub, Nat.reduceLeDiff, reduceIte, Bool.true_eq_false, Bool.false_eq_true, reduceCtorEq, eq_self, decide_true, decide_false, bv_t, bv_f, and_self, t_si, t_sl, t_sr, t_sI, t_sR, n_si, n_sl, n_sr, n_sI, n_sR, r_si, r_sl, r_sI, hw]
      cases hx : cm_ t f b with
      | inl e =>
        rw [hx] at G
        exact tx_up G (fk_rf _ _) ⟨Nat.le_refl _, Nat.le_refl _, Nat.le_refl _⟩ stp
      | inr r =>
        rw [hx] at G
        obtain ⟨w1, o, h1, q1⟩ := G
        exact ⟨w1, o, h1, fun Q => (stp Q).trans (q1 Q)⟩
  | succ j ih =>
    intro n w b a3 a4 hj he hr hlo
    have t0 := he.1.1
    obtain ⟨sc, sw⟩ := w_not he.2
    have hw := fun Q => c_isw (D := d + 11) (q0 := 17) (Q := Q) (by omega) he hr sc sw (by omega)
    unfold nots_
    by_cases c1 : is_w t b ws_not = true
    · rw [if_pos c1]
      rw [c1] at hw
      have hkk : tk_k t b ≠ 0 := by have := is_w_k c1; omega
      have hbt := tk_gt hkk
      have ck1 := fun d x Q => c_ck1 (w := w) (R := R) (d := d) (x := x) (Q := Q)
      obtain ⟨u1, ⟨f1, e1, r1, ⟨z1, s1⟩, b1⟩, q1⟩ := c_step (D := d + 11) (by omega) he hr hkk
      have stp : ∀ Q, wp (d + 12) 277 2 [some (v_R (some R)), some (v_I (Int32.ofNat a)), some (v_I (Int32.ofNat n)), a3, a4] [] w Q = wp (d + 12) 277 2 [some (v_R (some R)), some (v_I (Int32.ofNat a)), some (v_I (Int32.ofNat (n + 1))), a3, a4] [] u1 Q := fun Q => by
        have t1 := e1.1.1
        have n6 : n < 6 := by omega
        rw [x_277_2]
        simp (disch := first | omega | decide | exact ko_b _ | assumption | (simp only [t_si, t_sl, t_sr, t_sI, t_sR, n_si, n_sl, n_sr, n_sI, n_sR, r_si, r_sl, r_sI]; first | done | omega)) only [x_277_e, x_277_b, x_277_3, x_277_5, x_277_8, x_277_11, x_277_12, x_277_13, x_277_15, x_277_18, x_277_19, x_277_22, x_277_23, x_277_24, x_277_27, x_277_28, x_277_31, x_277_34, bk_v, bk_n, nl_I, nl_R, nl_L, nl_0, oo_lt, oo_le, oo_eq, oo_add, oo_sub, oo_tn, oo_ir, nn_leT, nn_leF, nn_ltT, nn_ltF, nn_eqT, nn_eqF, bv_0, bv_1, ko_b, ko_1, ko_0, true_and, and_true, if_true, if_false, not_true_eq_false, not_false_eq_true, oo_02, decide_eq_true_eq, decide_eq_false_iff_not, ite_not, Nat.reduceAdd, Nat.reduceLT, Nat.reduceSub, Nat.reduceLeDiff, reduceIte, Bool.true_eq_false, Bool.false_eq_true, reduceCtorEq, eq_self, decide_true, decide_false, bv_t, bv_f, and_self, t_si, t_sl, t_sr, t_sI, t_sR, n_si, n_sl, n_sr, n_sI, n_sR, r_si, r_sl, r_sI, hw, ck1, q1, n6]
      have I := ih (n + 1) u1 (tk_n t b) a3 a4 (by omega) e1 r1 ⟨hlo.1, by have := f1.1; omega⟩
      cases hx : nots_ t (cm_ t f) j (tk_n t b) with
      | inl e =>
        rw [hx] at I
        exact tx_up I f1 b1 stp
      | inr r =>
        rw [hx] at I
        obtain ⟨w1, o, ⟨f2, e2, c2, ⟨b2, z2, s2⟩, x2⟩, q2⟩ := I
        refine ⟨w1, o, ⟨fk_tr f1 f2, e2, c2, ⟨by show b ≤ r.2; omega, by show _ ≤ _ + 12 * r.2 + n; omega, by show _ ≤ _ + 60 * r.2 + n; omega⟩, ?_⟩, fun Q => (stp Q).trans (q2 Q)⟩
        rw [List.replicate_succ] at x2
        show EXr_ lo w1 o (r.1 ++ [Int32.ofInt (-28)] ++ List.replicate n (Int32.ofInt (-28)))
        rw [List.append_assoc r.1]
        exact x2
    · rw [if_neg c1]
      rw [Bool.eq_false_iff.mpr c1] at hw
      have G := go n w b a3 a4 (by omega) he hr hlo
      have stp : ∀ Q, wp (d + 12) 277 2 [some (v_R (some R)), some (v_I (Int32.ofNat a)), some (v_I (Int32.ofNat n)), a3, a4] [] w Q = wp (d + 12) 277 37 [some (v_R (some R)), some (v_I (Int32.ofNat a)), some (v_I (Int32.ofNat n)), a3, a4] [] w Q := fun Q => by
        rw [x_277_2]
        simp (disch := first | omega | decide | exact ko_b _ | assumption | (simp only [t_si, t_sl, t_sr, t_sI, t_sR, n_si, n_sl, n_sr, n_sI, n_sR, r_si, r_sl, r_sI]; first | done | omega)) only [x_277_e, x_277_b, x_277_3, x_277_5, x_277_8, bk_v, bk_n, nl_I, nl_R, nl_L, nl_0, oo_lt, oo_le, oo_eq, oo_add, oo_sub, oo_tn, oo_ir, nn_leT, nn_leF, nn_ltT, nn_ltF, nn_eqT, nn_eqF, bv_0, bv_1, ko_b, ko_1, ko_0, true_and, and_true, if_true, if_false, not_true_eq_false, not_false_eq_true, oo_02, decide_eq_true_eq, decide_eq_false_iff_not, ite_not, Nat.reduceAdd, Nat.reduceLT, Nat.reduceSub, Nat.reduceLeDiff, reduceIte, Bool.true_eq_false, Bool.false_eq_true, reduceCtorEq, eq_self, decide_true, decide_false, bv_t, bv_f, and_self, t_si, t_sl, t_sr, t_sI, t_sR, n_si, n_sl, n_sr, n_sI, n_sR, r_si, r_sl, r_sI, hw]
      cases hx : cm_ t f b with
      | inl e =>
        rw [hx] at G
        exact tx_up G (fk_rf _ _) ⟨Nat.le_refl _, Nat.le_refl _, Nat.le_refl _⟩ stp
      | inr r =>
        rw [hx] at G
        obtain ⟨w1, o, h1, q1⟩ := G
        exact ⟨w1, o, h1, fun Q => (stp Q).trans (q1 Q)⟩
theorem e_not {K a k : Nat} {f : Nat → Rs_} (hK : 11 ≤ K) (hX : CEx_ t R K 278 a f) (hg : ∀ b, RG_ k t b (f b)) : CEx_ t R (K + 1) 277 a (nots_ t (cm_ t f) 6) := by
  intro D w b hD he hr
  obtain ⟨d, rfl⟩ : ∃ d, D = d + 12 := ⟨D - 12, by omega⟩
  have N := e_nots (lo := w_z w) hK hX hg (d := d) (by omega) 6 0 w b none none (by omega) he hr ⟨(Ce_z he).2.1, Nat.le_refl _⟩
  have stp : ∀ Q, cl (d + 12) 277 [v_R (some R), v_I (Int32.ofNat a)] w Q = wp (d + 12) 277 2 [some (v_R (some R)), some (v_I (Int32.ofNat a)), some (v_I (Int32.ofNat 0)), none, none] [] w Q := fun Q => by
    simp (disch := first | omega | decide | exact ko_b _ | assumption | (simp only [t_si, t_sl, t_sr, t_sI, t_sR, n_si, n_sl, n_sr, n_sI, n_sR, r_si, r_sl, r_sI]; first | done | omega)) only [x_277_e, x_277_b, x_277_0, x_277_1, bk_v, bk_n, nl_I, nl_R, nl_L, nl_0, oo_lt, oo_le, oo_eq, oo_add, oo_sub, oo_tn, oo_ir, nn_leT, nn_leF, nn_ltT, nn_ltF, nn_eqT, nn_eqF, bv_0, bv_1, ko_b, ko_1, ko_0, true_and, and_true, if_true, if_false, not_true_eq_false, not_false_eq_true, oo_02, decide_eq_true_eq, decide_eq_false_iff_not, ite_not, Nat.reduceAdd, Nat.reduceLT, Nat.reduceSub, Nat.reduceLeDiff, reduceIte, Bool.true_eq_false, Bool.false_eq_true, reduceCtorEq, eq_self, decide_true, decide_false, bv_t, bv_f, and_self, t_si, t_sl, t_sr, t_sI, t_sR, n_si, n_sl, n_sr, n_sI, n_sR, r_si, r_sl, r_sI]
  cases hx : nots_ t (cm_ t f) 6 b with
  | inl e =>
    rw [hx] at N
    exact tx_up N (fk_rf _ _) ⟨Nat.le_refl _, Nat.le_refl _, Nat.le_refl _⟩ stp
  | inr r =>
    rw [hx] at N
    obtain ⟨w1, o, ⟨f2, e2, c2, b2, x2⟩, q2⟩ := N
    rw [List.replicate_zero, List.append_nil] at x2
    exact ⟨w1, o, ⟨f2, e2, c2, b2, x2⟩, fun Q => (stp Q).trans (q2 Q)⟩
theorem e_notn {K a : Nat} (hK : 11 ≤ K) (hN : CEn_ t R K 278 a) : CEn_ t R (K + 1) 277 a := by
  intro D w b hD he hr hs
  obtain ⟨d, rfl⟩ : ∃ d, D = d + 12 := ⟨D - 12, by omega⟩
  have t0 := he.1.1
  obtain ⟨sc, sw⟩ := w_not he.2
  have hw := fun Q => c_isw (D := d + 11) (q0 := 17) (Q := Q) (by omega) he hr sc sw (by omega)
  have e : is_w t b ws_not = false := by
    unfold st_x at hs
    simp only [Bool.or_eq_false_iff, decide_eq_false_iff_not] at hs
    unfold is_w
    rw [decide_eq_false hs.1.2, Bool.false_and, Bool.false_and]
  rw [e] at hw
  obtain ⟨w1, x, h1, q1⟩ := hN (d + 11) w b (by omega) he hr hs
  have q1 : ∀ Q, cl (d + 11) 278 [v_R (some R), v_I (Int32.ofNat a)] w Q = Q (Sum.inr x) w1 := q1
  refine ⟨w1, x, h1, fun Q => ?_⟩
  show cl (d + 12) 277 _ w Q = _
  simp (disch := first | omega | decide | exact ko_b _ | assumption | (simp only [t_si, t_sl, t_sr, t_sI, t_sR, n_si, n_sl, n_sr, n_sI, n_sR, r_si, r_sl, r_sI]; first | done | omega)) only [x_277_e, x_277_b, x_277_0, x_277_1, x_277_2, x_277_3, x_277_5, x_277_8, x_277_e, x_277_b, x_277_37, x_277_38, x_277_39, bk_v, bk_n, nl_I, nl_R, nl_L, nl_0, oo_lt, oo_le, oo_eq, oo_add, oo_sub, oo_tn, oo_ir, nn_leT, nn_leF, nn_ltT, nn_ltF, nn_eqT, nn_eqF, bv_0, bv_1, ko_b, ko_1, ko_0, true_and, and_true, if_true, if_false, not_true_eq_false, not_false_eq_true, oo_02, decide_eq_true_eq, decide_eq_false_iff_not, ite_not, Nat.reduceAdd, Nat.reduceLT, Nat.reduceSub, Nat.reduceLeDiff, reduceIte, Bool.true_eq_false, Bool.false_eq_true, reduceCtorEq, eq_self, decide_true, decide_false, bv_t, bv_f, and_self, t_si, t_sl, t_sr, t_sI, t_sR, n_si, n_sl, n_sr, n_sI, n_sR, r_si, r_sl, r_sI, hw, q1]
theorem e_and {K a k : Nat} {f : Nat → Rs_} (hK : 11 ≤ K) (hX : CEx_ t R K 277 a f) (hg : ∀ b, RG_ k t b (f b)) : CEx_ t R (K + 1) 276 a (lv_c t f (op_n t)) := by
  intro D w0 b0 hD he0 hr0
  obtain ⟨d, rfl⟩ : ∃ d, D = d + 12 := ⟨D - 12, by omega⟩
  have t00 := he0.1.1
  refine lv_cc (a2 := none) (fun a2 o w Q => wp (d + 12) 276 6 [some (v_R (some R)), some (v_I (Int32.ofNat a)), some (v_R (some o))] [] w Q) hX (d := d + 11) (by omega) he0 hr0 hg (ch_c hg op_ng _ ?_ ?_) ?_ ?_
  · intro a2 o w b he hr hop Q
    have t0 := he.1.1
    obtain ⟨sc, sw⟩ := w_and he.2
    have ha := fun Q => c_isw (D := d + 11) (q0 := 31) (Q := Q) (by omega) he hr sc sw (by omega)
    unfold op_n at hop
    have s1 : is_w t b ws_and = false := by
      cases h : is_w t b ws_and with
      | false => rfl
      | true => rw [if_pos h] at hop; cases hop
    rw [s1] at ha
    show wp (d + 12) 276 6 _ _ w Q = _
    rw [x_276_6]
    simp (disch := first | omega | decide | exact ko_b _ | assumption | (simp only [t_si, t_sl, t_sr, t_sI, t_sR, n_si, n_sl, n_sr, n_sI, n_sR, r_si, r_sl, r_sI]; first | done | omega)) only [x_276_e, x_276_b, x_276_7, x_276_9, x_276_12, x_276_e, x_276_b, x_276_38, x_276_39, bk_v, bk_n, nl_I, nl_R, nl_L, nl_0, oo_lt, oo_le, oo_eq, oo_add, oo_sub, oo_tn, oo_ir, nn_leT, nn_leF, nn_ltT, nn_ltF, nn_eqT, nn_eqF, bv_0, bv_1, ko_b, ko_1, ko_0, true_and, and_true, if_true, if_false, not_true_eq_false, not_false_eq_true, oo_02, decide_eq_true_eq, decide_eq_false_iff_not, ite_not, Nat.reduceAdd, Nat.reduceLT, Nat.reduceSub, Nat.reduceLeDiff, reduceIte, Bool.true_eq_false, Bool.false_eq_true, reduceCtorEq, eq_self, decide_true, decide_false, bv_t, bv_f, and_self, t_si, t_sl, t_sr, t_sI, t_sR, n_si, n_sl, n_sr, n_sI, n_sR, r_si, r_sl, r_sI, ha]
  · intro a2 o w b c oo he hr hlo hx hop
    have t0 := he.1.1
    obtain ⟨sc, sw⟩ := w_and he.2
    have ha := fun Q => c_isw (D := d + 11) (q0 := 31) (Q := Q) (by omega) he hr sc sw (by omega)
    obtain ⟨o8, hk⟩ := op_ng b oo hop
    obtain ⟨u1, y1, ⟨ty, tn, tN⟩, B⟩ := c_both (oo := oo) (d := d + 11) hX hg (by omega) (by omega) he hr hk ⟨(Ce_z he0).2.1, hlo⟩ o8 hx
    have sg : is_w t b ws_and = true ∧ ch_o oo = Int32.ofNat 38 := by
      unfold op_n at hop
      by_cases s1 : is_w t b ws_and = true
      · rw [if_pos s1] at hop
        cases hop
        exact ⟨s1, rfl⟩
      · rw [if_neg s1] at hop; cases hop
    rw [sg.1] at ha
    unfold Bo_ at B
    cases hy : f (tk_n t b) with
    | inl e =>
      rw [hy] at B
      obtain ⟨u3, x, h3, q3⟩ := B
      refine ⟨u3, x, h3, fun Q => ?_⟩
      show wp (d + 12) 276 6 _ _ w Q = _
      rw [x_276_6]
      simp (disch := first | omega | decide | exact ko_b _ | assumption | (simp only [t_si, t_sl, t_sr, t_sI, t_sR, n_si, n_sl, n_sr, n_sI, n_sR, r_si, r_sl, r_sI]; first | done | omega)) only [x_276_e, x_276_b, x_276_7, x_276_9, x_276_12, x_276_15, x_276_16, x_276_19, x_276_22, x_276_23, x_276_25, x_276_26, x_276_27, x_276_28, x_276_31, x_276_34, x_276_35, bk_v, bk_n, nl_I, nl_R, nl_L, nl_0, oo_lt, oo_le, oo_eq, oo_add, oo_sub, oo_tn, oo_ir, nn_leT, nn_leF, nn_ltT, nn_ltF, nn_eqT, nn_eqF, bv_0, bv_1, ko_b, ko_1, ko_0, true_and, and_true, if_true, if_false, not_true_eq_false, not_false_eq_true, oo_02, decide_eq_true_eq, decide_eq_false_iff_not, ite_not, Nat.reduceAdd, Nat.reduceLT, Nat.reduceSub, Nat.reduceLeDiff, reduceIte, Bool.true_eq_false, Bool.false_eq_true, reduceCtorEq, eq_self, decide_true, decide_false, bv_t, bv_f, and_self, t_si, t_sl, t_sr, t_sI, t_sR, n_si, n_sl, n_sr, n_sI, n_sR, r_si, r_sl, r_sI, ha, y1, q3]
    | inr r =>
      rw [hy] at B
      obtain ⟨u3, o2, u4, h4, t3, q3, q4⟩ := B
      rw [sg.2] at q4
      refine ⟨none, w_z u1, u4, h4, fun Q => ?_⟩
      show wp (d + 12) 276 6 _ _ w Q = wp (d + 12) 276 6 _ _ u4 Q
      rw [x_276_6]
      simp (disch := first | omega | decide | exact ko_b _ | assumption | (simp only [t_si, t_sl, t_sr, t_sI, t_sR, n_si, n_sl, n_sr, n_sI, n_sR, r_si, r_sl, r_sI]; first | done | omega)) only [x_276_e, x_276_b, x_276_7, x_276_9, x_276_12, x_276_15, x_276_16, x_276_19, x_276_22, x_276_23, x_276_25, x_276_26, x_276_27, x_276_28, x_276_31, x_276_34, x_276_35, bk_v, bk_n, nl_I, nl_R, nl_L, nl_0, oo_lt, oo_le, oo_eq, oo_add, oo_sub, oo_tn, oo_ir, nn_leT, nn_leF, nn_ltT, nn_ltF, nn_eqT, nn_eqF, bv_0, bv_1, ko_b, ko_1, ko_0, true_and, and_true, if_true, if_false, not_true_eq_false, not_false_eq_true, oo_02, decide_eq_true_eq, decide_eq_false_iff_not, ite_not, Nat.reduceAdd, Nat.reduceLT, Nat.reduceSub, Nat.reduceLeDiff, reduceIte, Bool.true_eq_false, Bool.false_eq_true, reduceCtorEq, eq_self, decide_true, decide_false, bv_t, bv_f, and_self, t_si, t_sl, t_sr, t_sI, t_sR, n_si, n_sl, n_sr, n_sI, n_sR, r_si, r_sl, r_sI, ha, y1, q3, q4]
  · intro x w1 q1 Q
    show cl (d + 12) 276 _ w0 Q = _
    simp (disch := first | omega | decide | exact ko_b _ | assumption | (simp only [t_si, t_sl, t_sr, t_sI, t_sR, n_si, n_sl, n_sr, n_sI, n_sR, r_si, r_sl, r_sI]; first | done | omega)) only [x_276_e, x_276_b, x_276_0, x_276_1, x_276_2, x_276_5, bk_v, bk_n, nl_I, nl_R, nl_L, nl_0, oo_lt, oo_le, oo_eq, oo_add, oo_sub, oo_tn, oo_ir, nn_leT, nn_leF, nn_ltT, nn_ltF, nn_eqT, nn_eqF, bv_0, bv_1, ko_b, ko_1, ko_0, true_and, and_true, if_true, if_false, not_true_eq_false, not_false_eq_true, oo_02, decide_eq_true_eq, decide_eq_false_iff_not, ite_not, Nat.reduceAdd, Nat.reduceLT, Nat.reduceSub, Nat.reduceLeDiff, reduceIte, Bool.true_eq_false, Bool.false_eq_true, reduceCtorEq, eq_self, decide_true, decide_false, bv_t, bv_f, and_self, t_si, t_sl, t_sr, t_sI, t_sR, n_si, n_sl, n_sr, n_sI, n_sR, r_si, r_sl, r_sI, q1]
  · intro o w1 t1 q1 Q
    show cl (d + 12) 276 _ w0 Q = wp (d + 12) 276 6 _ _ w1 Q
    simp (disch := first | omega | decide | exact ko_b _ | assumption | (simp only [t_si, t_sl, t_sr, t_sI, t_sR, n_si, n_sl, n_sr, n_sI, n_sR, r_si, r_sl, r_sI]; first | done | omega)) only [x_276_e, x_276_b, x_276_0, x_276_1, x_276_2, x_276_5, bk_v, bk_n, nl_I, nl_R, nl_L, nl_0, oo_lt, oo_le, oo_eq, oo_add, oo_sub, oo_tn, oo_ir, nn_leT, nn_leF, nn_ltT, nn_ltF, nn_eqT, nn_eqF, bv_0, bv_1, ko_b, ko_1, ko_0, true_and, and_true, if_true, if_false, not_true_eq_false, not_false_eq_true, oo_02, decide_eq_true_eq, decide_eq_false_iff_not, ite_not, Nat.reduceAdd, Nat.reduceLT, Nat.reduceSub, Nat.reduceLeDiff, reduceIte, Bool.true_eq_false, Bool.false_eq_true, reduceCtorEq, eq_self, decide_true, decide_false, bv_t, bv_f, and_self, t_si, t_sl, t_sr, t_sI, t_sR, n_si, n_sl, n_sr, n_sI, n_sR, r_si, r_sl, r_sI, q1]
theorem e_andn {K a : Nat} (hK : 11 ≤ K) (hN : CEn_ t R K 277 a) : CEn_ t R (K + 1) 276 a := by
  intro D w b hD he hr hs
  obtain ⟨d, rfl⟩ : ∃ d, D = d + 12 := ⟨D - 12, by omega⟩
  have t0 := he.1.1
  obtain ⟨w1, x, h1, q1⟩ := hN (d + 11) w b (by omega) he hr hs
  have q1 : ∀ Q, cl (d + 11) 277 [v_R (some R), v_I (Int32.ofNat a)] w Q = Q (Sum.inr x) w1 := q1
  refine ⟨w1, x, h1, fun Q => ?_⟩
  show cl (d + 12) 276 _ w Q = _
  simp (disch := first | omega | decide | exact ko_b _ | assumption | (simp only [t_si, t_sl, t_sr, t_sI, t_sR, n_si, n_sl, n_sr, n_sI, n_sR, r_si, r_sl, r_sI]; first | done | omega)) only [x_276_e, x_276_b, x_276_0, x_276_1, x_276_2, x_276_5, bk_v, bk_n, nl_I, nl_R, nl_L, nl_0, oo_lt, oo_le, oo_eq, oo_add, oo_sub, oo_tn, oo_ir, nn_leT, nn_leF, nn_ltT, nn_ltF, nn_eqT, nn_eqF, bv_0, bv_1, ko_b, ko_1, ko_0, true_and, and_true, if_true, if_false, not_true_eq_false, not_false_eq_true, oo_02, decide_eq_true_eq, decide_eq_false_iff_not, ite_not, Nat.reduceAdd, Nat.reduceLT, Nat.reduceSub, Nat.reduceLeDiff, reduceIte, Bool.true_eq_false, Bool.false_eq_true, reduceCtorEq, eq_self, decide_true, decide_false, bv_t, bv_f, and_self, t_si, t_sl, t_sr, t_sI, t_sR, n_si, n_sl, n_sr, n_sI, n_sR, r_si, r_sl, r_sI, q1]
/-! whole expressions -/
theorem e_lown {a : Nat} : CEn_ t R 16 276 a := e_andn (by omega) (e_notn (by omega) (e_sumn (by omega) (e_prodn (by omega) e_partn)))
theorem e_below {K a k : Nat} {f : Nat → Rs_} (hK : 11 ≤ K) (hX : CEx_ t R K 275 (a + 1) f) (hg : ∀ b, RG_ (k + 1) t b (f b)) : CEx_ t R (K + 5) 276 a (mxf_ t f) := by
  have g1 := fun b => pt_g hg (by omega) b
  have g2 := fun b => lv_g g1 op_mg b
  have g3 := fun b => lv_g g2 op_ag b
  have g4 := fun b => cm_g g3 b
  have g5 := fun b => nots_g g4 6 b
  have e1 := e_part hK hX hg
  have e2 := e_prod (by omega) e1 g1
  have e3 := e_sum (by omega) e2 g2
  have e4 := e_not (by omega) e3 g3
  exact e_and (by omega) e4 g5
/-- where nothing begins, at any depth -/
theorem e_ex0 {a D b : Nat} {w : Wd} (ha : a ≤ 6) (hD : 17 ≤ D) (he : Ce_ w R t) (hr : Cr_ w R t b) (hs : st_x t b = false) : Tx_ t R w b (1, b) (fun Q => cl D 275 [v_R (some R), v_I (Int32.ofNat a)] w Q) := by
  obtain ⟨d, rfl⟩ : ∃ d, D = d + 12 := ⟨D - 12, by omega⟩
  have t0 := he.1.1
  obtain ⟨w1, x, h1, q1⟩ := e_lown (a := a) (d + 11) w b (by omega) he hr hs
  have q1 : ∀ Q, cl (d + 11) 276 [v_R (some R), v_I (Int32.ofNat a)] w Q = Q (Sum.inr x) w1 := q1
  refine ty_tx (L2 := fun Q => cl (d + 12) 275 [v_R (some R), v_I (Int32.ofNat a)] w Q) ⟨w1, x, h1, fun Q => ?_⟩ (fk_rf _ _) hr.1 (by omega) (by omega) (fun Q => rfl)
  show cl (d + 12) 275 _ w Q = _
  by_cases a6 : a < 6
  · simp (disch := first | omega | decide | exact ko_b _ | assumption | (simp only [t_si, t_sl, t_sr, t_sI, t_sR, n_si, n_sl, n_sr, n_sI, n_sR, r_si, r_sl, r_sI]; first | done | omega)) only [x_275_e, x_275_b, x_275_0, x_275_1, x_275_3, x_275_e, x_275_b, x_275_45, x_275_46, x_275_47, x_275_50, bk_v, bk_n, nl_I, nl_R, nl_L, nl_0, oo_lt, oo_le, oo_eq, oo_add, oo_sub, oo_tn, oo_ir, nn_leT, nn_leF, nn_ltT, nn_ltF, nn_eqT, nn_eqF, bv_0, bv_1, ko_b, ko_1, ko_0, true_and, and_true, if_true, if_false, not_true_eq_false, not_false_eq_true, oo_02, decide_eq_true_eq, decide_eq_false_iff_not, ite_not, Nat.reduceAdd, Nat.reduceLT, Nat.reduceSub, Nat.reduceLeDiff, reduceIte, Bool.true_eq_false, Bool.false_eq_true, reduceCtorEq, eq_self, decide_true, decide_false, bv_t, bv_f, and_self, t_si, t_sl, t_sr, t_sI, t_sR, n_si, n_sl, n_sr, n_sI, n_sR, r_si, r_sl, r_sI, q1, a6]
  · have a6 : a = 6 := by omega
    subst a6
    have hq := hr
    obtain ⟨hb, r2, r3, r6, -, -⟩ := hq
    have hk5 := tk_k5 (t := t) (b := b)
    have y1 := kid_q _ hk5 210 (by omega)
    have y2 := kid_q _ hk5 211 (by omega)
    have x1 := kid_1 _ hk5
    have x2 := kid_2 _ hk5
    have hp := fun Q => c_isg (D := d + 11) (q0 := 16) (p0 := 116) (x := 40) (Q := Q) (by omega) he hr (g_1 he.2 (i := 6) (by omega) rfl) (by omega) (by omega)
    unfold st_x at hs
    simp only [Bool.or_eq_false_iff, decide_eq_false_iff_not] at hs
    obtain ⟨⟨k2, k1⟩, s4⟩ := hs
    rw [s4] at hp
    have ck1 := fun d x Q => c_ck1 (w := w) (R := R) (d := d) (x := x) (Q := Q)
    simp (disch := first | omega | decide | exact ko_b _ | assumption | (simp only [t_si, t_sl, t_sr, t_sI, t_sR, n_si, n_sl, n_sr, n_sI, n_sR, r_si, r_sl, r_sI]; first | done | omega)) only [x_275_e, x_275_b, x_275_0, x_275_1, x_275_3, x_275_6, x_275_7, x_275_8, x_275_11, x_275_14, x_275_17, x_275_18, x_275_21, x_275_24, x_275_27, x_275_28, x_275_30, x_275_33, x_275_36, x_275_37, x_275_40, x_275_41, x_275_42, x_275_45, x_275_46, x_275_47, x_275_50, bk_v, bk_n, nl_I, nl_R, nl_L, nl_0, oo_lt, oo_le, oo_eq, oo_add, oo_sub, oo_tn, oo_ir, nn_leT, nn_leF, nn_ltT, nn_ltF, nn_eqT, nn_eqF, bv_0, bv_1, ko_b, ko_1, ko_0, true_and, and_true, if_true, if_false, not_true_eq_false, not_false_eq_true, oo_02, decide_eq_true_eq, decide_eq_false_iff_not, ite_not, Nat.reduceAdd, Nat.reduceLT, Nat.reduceSub, Nat.reduceLeDiff, reduceIte, Bool.true_eq_false, Bool.false_eq_true, reduceCtorEq, eq_self, decide_true, decide_false, bv_t, bv_f, and_self, t_si, t_sl, t_sr, t_sI, t_sR, n_si, n_sl, n_sr, n_sI, n_sR, r_si, r_sl, r_sI, r6, kz_, x1, x2, k1, k2, hp, ck1, q1]
/-- too deep -/
theorem e_ex6 {D b : Nat} {w : Wd} (hD : 17 ≤ D) (he : Ce_ w R t) (hr : Cr_ w R t b) (hs : st_x t b = true) : Tx_ t R w b (2, b) (fun Q => cl D 275 [v_R (some R), v_I (Int32.ofNat 6)] w Q) := by
  obtain ⟨d, rfl⟩ : ∃ d, D = d + 12 := ⟨D - 12, by omega⟩
  have t0 := he.1.1
  have hp := fun Q => c_isg (D := d + 11) (q0 := 16) (p0 := 116) (x := 40) (Q := Q) (by omega) he hr (g_1 he.2 (i := 6) (by omega) rfl) (by omega) (by omega)
  have hq := hr
  obtain ⟨hb, r2, r3, r6, -, -⟩ := hq
  have hk5 := tk_k5 (t := t) (b := b)
  have y1 := kid_q _ hk5 210 (by omega)
  have y2 := kid_q _ hk5 211 (by omega)
  have x1 := kid_1 _ hk5
  have x2 := kid_2 _ hk5
  have ck0 := fun d Q => c_ck0 (d := d) (c := 2) (Q := Q) t0 r3
  refine ty_tx (L2 := fun Q => cl (d + 12) 275 [v_R (some R), v_I (Int32.ofNat 6)] w Q) ⟨_, _, flt_f he.1 hr (by omega), fun Q => ?_⟩ (fk_rf _ _) hr.1 (by omega) (by omega) (fun Q => rfl)
  show cl (d + 12) 275 _ w Q = _
  unfold st_x at hs
  by_cases k2 : tk_k t b = 2
  · simp (disch := first | omega | decide | exact ko_b _ | assumption | (simp only [t_si, t_sl, t_sr, t_sI, t_sR, n_si, n_sl, n_sr, n_sI, n_sR, r_si, r_sl, r_sI]; first | done | omega)) only [x_275_e, x_275_b, x_275_0, x_275_1, x_275_3, x_275_6, x_275_7, x_275_8, x_275_11, x_275_14, x_275_17, x_275_18, x_275_21, x_275_24, x_275_27, x_275_28, x_275_30, x_275_33, x_275_36, x_275_37, x_275_40, x_275_41, x_275_42, bk_v, bk_n, nl_I, nl_R, nl_L, nl_0, oo_lt, oo_le, oo_eq, oo_add, oo_sub, oo_tn, oo_ir, nn_leT, nn_leF, nn_ltT, nn_ltF, nn_eqT, nn_eqF, bv_0, bv_1, ko_b, ko_1, ko_0, true_and, and_true, if_true, if_false, not_true_eq_false, not_false_eq_true, oo_02, decide_eq_true_eq, decide_eq_false_iff_not, ite_not, Nat.reduceAdd, Nat.reduceLT, Nat.reduceSub, Nat.reduceLeDiff, reduceIte, Bool.true_eq_false, Bool.false_eq_true, reduceCtorEq, eq_self, decide_true, decide_false, bv_t, bv_f, and_self, t_si, t_sl, t_sr, t_sI, t_sR, n_si, n_sl, n_sr, n_sI, n_sR, r_si, r_sl, r_sI, r6, kz_, x1, x2, k2, ck0]
  · by_cases k1 : tk_k t b = 1
    · simp (disch := first | omega | decide | exact ko_b _ | assumption | (simp only [t_si, t_sl, t_sr, t_sI, t_sR, n_si, n_sl, n_sr, n_sI, n_sR, r_si, r_sl, r_sI]; first | done | omega)) only [x_275_e, x_275_b, x_275_0, x_275_1, x_275_3, x_275_6, x_275_7, x_275_8, x_275_11, x_275_14, x_275_17, x_275_18, x_275_21, x_275_24, x_275_27, x_275_28, x_275_30, x_275_33, x_275_36, x_275_37, x_275_40, x_275_41, x_275_42, bk_v, bk_n, nl_I, nl_R, nl_L, nl_0, oo_lt, oo_le, oo_eq, oo_add, oo_sub, oo_tn, oo_ir, nn_leT, nn_leF, nn_ltT, nn_ltF, nn_eqT, nn_eqF, bv_0, bv_1, ko_b, ko_1, ko_0, true_and, and_true, if_true, if_false, not_true_eq_false, not_false_eq_true, oo_02, decide_eq_true_eq, decide_eq_false_iff_not, ite_not, Nat.reduceAdd, Nat.reduceLT, Nat.reduceSub, Nat.reduceLeDiff, reduceIte, Bool.true_eq_false, Bool.false_eq_true, reduceCtorEq, eq_self, decide_true, decide_false, bv_t, bv_f, and_self, t_si, t_sl, t_sr, t_sI, t_sR, n_si, n_sl, n_sr, n_sI, n_sR, r_si, r_sl, r_sI, r6, kz_, x1, x2, k1, ck0]
    · rw [decide_eq_false k2, decide_eq_false k1, Bool.false_or, Bool.false_or] at hs
      rw [hs] at hp
      simp (disch := first | omega | decide | exact ko_b _ | assumption | (simp only [t_si, t_sl, t_sr, t_sI, t_sR, n_si, n_sl, n_sr, n_sI, n_sR, r_si, r_sl, r_sI]; first | done | omega)) only [x_275_e, x_275_b, x_275_0, x_275_1, x_275_3, x_275_6, x_275_7, x_275_8, x_275_11, x_275_14, x_275_17, x_275_18, x_275_21, x_275_24, x_275_27, x_275_28, x_275_30, x_275_33, x_275_36, x_275_37, x_275_40, x_275_41, x_275_42, bk_v, bk_n, nl_I, nl_R, nl_L, nl_0, oo_lt, oo_le, oo_eq, oo_add, oo_sub, oo_tn, oo_ir, nn_leT, nn_leF, nn_ltT, nn_ltF, nn_eqT, nn_eqF, bv_0, bv_1, ko_b, ko_1, ko_0, true_and, and_true, if_true, if_false, not_true_eq_false, not_false_eq_true, oo_02, decide_eq_true_eq, decide_eq_false_iff_not, ite_not, Nat.reduceAdd, Nat.reduceLT, Nat.reduceSub, Nat.reduceLeDiff, reduceIte, Bool.true_eq_false, Bool.false_eq_true, reduceCtorEq, eq_self, decide_true, decide_false, bv_t, bv_f, and_self, t_si, t_sl, t_sr, t_sI, t_sR, n_si, n_sl, n_sr, n_sI, n_sR, r_si, r_sl, r_sI, r6, kz_, x1, x2, k1, k2, hp, ck0]
theorem e_exx : ∀ r a, r + a = 6 → CEx_ t R (20 + 6 * r) 275 a (ex_p t r) := by
  intro r
  induction r with
  | zero =>
    intro a ha D w b hD he hr
    have a6 : a = 6 := by omega
    subst a6
    cases hs : st_x t b with
    | true =>
      have e : ex_p t 0 b = Sum.inl (2, b) := by unfold ex_p; rw [if_pos hs]
      rw [e]
      exact e_ex6 (by omega) he hr hs
    | false =>
      have e : ex_p t 0 b = Sum.inl (1, b) := by unfold ex_p; rw [hs]; rfl
      rw [e]
      exact e_ex0 (by omega) (by omega) he hr hs
  | succ r ih =>
    intro a ha D w0 b0 hD he0 hr0
    have hA := e_below (k := 5 * r) (by omega) (ih (a + 1) (by omega)) (ex_g r)
    cases hs : st_x t b0 with
    | false =>
      have e : ex_p t (r + 1) b0 = Sum.inl (1, b0) := by unfold ex_p; rw [hs]; rfl
      rw [e]
      exact e_ex0 (by omega) (by omega) he0 hr0 hs
    | true =>
      obtain ⟨d, rfl⟩ : ∃ d, D = d + 12 := ⟨D - 12, by omega⟩
      have t00 := he0.1.1
      have a6 : a < 6 := by omega
      have g1 := fun b => pt_g (ex_g (t := t) r) (by omega) b
      have g2 := fun b => lv_g g1 op_mg b
      have g3 := fun b => lv_g g2 op_ag b
      have g4 := fun b => cm_g g3 b
      have g5 := fun b => nots_g g4 6 b
      have g6 := fun b => lv_g g5 op_ng b
      have ee : ex_p t (r + 1) b0 = lv_c t (mxf_ t (ex_p t r)) (op_o t) b0 := by
        show (if st_x t b0 = true then _ else _) = _
        rw [if_pos hs]
        rfl
      rw [ee]
      refine lv_cc (a2 := none) (fun a2 o w Q => wp (d + 12) 275 51 [some (v_R (some R)), some (v_I (Int32.ofNat a)), some (v_R (some o))] [] w Q) hA (d := d + 11) (by omega) he0 hr0 g6 (ch_c (f := mxf_ t (ex_p t r)) g6 op_og _ ?_ ?_) ?_ ?_
      · intro a2 o w b he hr hop Q
        have t0 := he.1.1
        obtain ⟨sc, sw⟩ := w_or he.2
        have ha := fun Q => c_isw (D := d + 11) (q0 := 32) (Q := Q) (by omega) he hr sc sw (by omega)
        unfold op_o at hop
        have s1 : is_w t b ws_or = false := by
          cases h : is_w t b ws_or with
          | false => rfl
          | true => rw [if_pos h] at hop; cases hop
        rw [s1] at ha
        show wp (d + 12) 275 51 _ _ w Q = _
        rw [x_275_51]
        simp (disch := first | omega | decide | exact ko_b _ | assumption | (simp only [t_si, t_sl, t_sr, t_sI, t_sR, n_si, n_sl, n_sr, n_sI, n_sR, r_si, r_sl, r_sI]; first | done | omega)) only [x_275_e, x_275_b, x_275_52, x_275_54, x_275_57, x_275_e, x_275_b, x_275_83, x_275_84, bk_v, bk_n, nl_I, nl_R, nl_L, nl_0, oo_lt, oo_le, oo_eq, oo_add, oo_sub, oo_tn, oo_ir, nn_leT, nn_leF, nn_ltT, nn_ltF, nn_eqT, nn_eqF, bv_0, bv_1, ko_b, ko_1, ko_0, true_and, and_true, if_true, if_false, not_true_eq_false, not_false_eq_true, oo_02, decide_eq_true_eq, decide_eq_false_iff_not, ite_not, Nat.reduceAdd, Nat.reduceLT, Nat.reduceSub, Nat.reduceLeDiff, reduceIte, Bool.true_eq_false, Bool.false_eq_true, reduceCtorEq, eq_self, decide_true, decide_false, bv_t, bv_f, and_self, t_si, t_sl, t_sr, t_sI, t_sR, n_si, n_sl, n_sr, n_sI, n_sR, r_si, r_sl, r_sI, ha]
      · intro a2 o w b c oo he hr hlo hx hop
        have t0 := he.1.1
        obtain ⟨sc, sw⟩ := w_or he.2
        have ha := fun Q => c_isw (D := d + 11) (q0 := 32) (Q := Q) (by omega) he hr sc sw (by omega)
        obtain ⟨o8, hk⟩ := op_og b oo hop
        obtain ⟨u1, y1, ⟨ty, tn, tN⟩, B⟩ := c_both (oo := oo) (d := d + 11) hA g6 (by omega) (by omega) he hr hk ⟨(Ce_z he0).2.1, hlo⟩ o8 hx
        have sg : is_w t b ws_or = true ∧ ch_o oo = Int32.ofNat 124 := by
          unfold op_o at hop
          by_cases s1 : is_w t b ws_or = true
          · rw [if_pos s1] at hop
            cases hop
            exact ⟨s1, rfl⟩
          · rw [if_neg s1] at hop; cases hop
        rw [sg.1] at ha
        unfold Bo_ at B
        cases hy : mxf_ t (ex_p t r) (tk_n t b) with
        | inl e =>
          rw [hy] at B
          obtain ⟨u3, x, h3, q3⟩ := B
          refine ⟨u3, x, h3, fun Q => ?_⟩
          show wp (d + 12) 275 51 _ _ w Q = _
          rw [x_275_51]
          simp (disch := first | omega | decide | exact ko_b _ | assumption | (simp only [t_si, t_sl, t_sr, t_sI, t_sR, n_si, n_sl, n_sr, n_sI, n_sR, r_si, r_sl, r_sI]; first | done | omega)) only [x_275_e, x_275_b, x_275_52, x_275_54, x_275_57, x_275_60, x_275_61, x_275_64, x_275_67, x_275_68, x_275_70, x_275_71, x_275_72, x_275_73, x_275_76, x_275_79, x_275_80, bk_v, bk_n, nl_I, nl_R, nl_L, nl_0, oo_lt, oo_le, oo_eq, oo_add, oo_sub, oo_tn, oo_ir, nn_leT, nn_leF, nn_ltT, nn_ltF, nn_eqT, nn_eqF, bv_0, bv_1, ko_b, ko_1, ko_0, true_and, and_true, if_true, if_false, not_true_eq_false, not_false_eq_true, oo_02, decide_eq_true_eq, decide_eq_false_iff_not, ite_not, Nat.reduceAdd, Nat.reduceLT, Nat.reduceSub, Nat.reduceLeDiff, reduceIte, Bool.true_eq_false, Bool.false_eq_true, reduceCtorEq, eq_self, decide_true, decide_false, bv_t, bv_f, and_self, t_si, t_sl, t_sr, t_sI, t_sR, n_si, n_sl, n_sr, n_sI, n_sR, r_si, r_sl, r_sI, ha, y1, q3]
        | inr q =>
          rw [hy] at B
          obtain ⟨u3, o2, u4, h4, t3, q3, q4⟩ := B
          rw [sg.2] at q4
          refine ⟨none, w_z u1, u4, h4, fun Q => ?_⟩
          show wp (d + 12) 275 51 _ _ w Q = wp (d + 12) 275 51 _ _ u4 Q
          rw [x_275_51]
          simp (disch := first | omega | decide | exact ko_b _ | assumption | (simp only [t_si, t_sl, t_sr, t_sI, t_sR, n_si, n_sl, n_sr, n_sI, n_sR, r_si, r_sl, r_sI]; first | done | omega)) only [x_275_e, x_275_b, x_275_52, x_275_54, x_275_57, x_275_60, x_275_61, x_275_64, x_275_67, x_275_68, x_275_70, x_275_71, x_275_72, x_275_73, x_275_76, x_275_79, x_275_80, bk_v, bk_n, nl_I, nl_R, nl_L, nl_0, oo_lt, oo_le, oo_eq, oo_add, oo_sub, oo_tn, oo_ir, nn_leT, nn_leF, nn_ltT, nn_ltF, nn_eqT, nn_eqF, bv_0, bv_1, ko_b, ko_1, ko_0, true_and, and_true, if_true, if_false, not_true_eq_false, not_false_eq_true, oo_02, decide_eq_true_eq, decide_eq_false_iff_not, ite_not, Nat.reduceAdd, Nat.reduceLT, Nat.reduceSub, Nat.reduceLeDiff, reduceIte, Bool.true_eq_false, Bool.false_eq_true, reduceCtorEq, eq_self, decide_true, decide_false, bv_t, bv_f, and_self, t_si, t_sl, t_sr, t_sI, t_sR, n_si, n_sl, n_sr, n_sI, n_sR, r_si, r_sl, r_sI, ha, y1, q3, q4]
      · intro x w1 q1 Q
        show cl (d + 12) 275 _ w0 Q = _
        simp (disch := first | omega | decide | exact ko_b _ | assumption | (simp only [t_si, t_sl, t_sr, t_sI, t_sR, n_si, n_sl, n_sr, n_sI, n_sR, r_si, r_sl, r_sI]; first | done | omega)) only [x_275_e, x_275_b, x_275_0, x_275_1, x_275_3, x_275_e, x_275_b, x_275_45, x_275_46, x_275_47, x_275_50, bk_v, bk_n, nl_I, nl_R, nl_L, nl_0, oo_lt, oo_le, oo_eq, oo_add, oo_sub, oo_tn, oo_ir, nn_leT, nn_leF, nn_ltT, nn_ltF, nn_eqT, nn_eqF, bv_0, bv_1, ko_b, ko_1, ko_0, true_and, and_true, if_true, if_false, not_true_eq_false, not_false_eq_true, oo_02, decide_eq_true_eq, decide_eq_false_iff_not, ite_not, Nat.reduceAdd, Nat.reduceLT, Nat.reduceSub, Nat.reduceLeDiff, reduceIte, Bool.true_eq_false, Bool.false_eq_true, reduceCtorEq, eq_self, decide_true, decide_false, bv_t, bv_f, and_self, t_si, t_sl, t_sr, t_sI, t_sR, n_si, n_sl, n_sr, n_sI, n_sR, r_si, r_sl, r_sI, a6, q1]
      · intro o w1 t1 q1 Q
        show cl (d + 12) 275 _ w0 Q = wp (d + 12) 275 51 _ _ w1 Q
        simp (disch := first | omega | decide | exact ko_b _ | assumption | (simp only [t_si, t_sl, t_sr, t_sI, t_sR, n_si, n_sl, n_sr, n_sI, n_sR, r_si, r_sl, r_sI]; first | done | omega)) only [x_275_e, x_275_b, x_275_0, x_275_1, x_275_3, x_275_e, x_275_b, x_275_45, x_275_46, x_275_47, x_275_50, bk_v, bk_n, nl_I, nl_R, nl_L, nl_0, oo_lt, oo_le, oo_eq, oo_add, oo_sub, oo_tn, oo_ir, nn_leT, nn_leF, nn_ltT, nn_ltF, nn_eqT, nn_eqF, bv_0, bv_1, ko_b, ko_1, ko_0, true_and, and_true, if_true, if_false, not_true_eq_false, not_false_eq_true, oo_02, decide_eq_true_eq, decide_eq_false_iff_not, ite_not, Nat.reduceAdd, Nat.reduceLT, Nat.reduceSub, Nat.reduceLeDiff, reduceIte, Bool.true_eq_false, Bool.false_eq_true, reduceCtorEq, eq_self, decide_true, decide_false, bv_t, bv_f, and_self, t_si, t_sl, t_sr, t_sI, t_sR, n_si, n_sl, n_sr, n_sI, n_sR, r_si, r_sl, r_sI, a6, q1]
end
