/-! THE MODEL's lines and town -/
set_option maxRecDepth 100000
section
variable {w : Wd} {t : Tp}
/-- the upper halves hold a town -/
def MTu_ (w : Wd) (T : Tm) : Prop := w_i w 1444 4 = Int32.ofNat (tm_n T) ∧ w_i w 1444 5 = tm_li T ∧ w_i w 1444 6 = tm_fo T ∧ (∀ j, j < tm_n T → w_i w 1445 (10 + j) = Int32.ofNat (tm_kd T j)) ∧ (∀ j, j < tm_n T → w_i w 1446 (10 + j) = tm_wt T j) ∧ (∀ j, j < tm_n T → w_i w 1447 (10 + j) = tm_br T j) ∧ (∀ j, j < tm_n T → w_i w 1448 (10 + j) = tm_ln T j) ∧ (∀ j, j < tm_n T → w_i w 1449 (10 + j) = tm_hg T j) ∧ Mc_ w (tm_co T)
theorem pk_o {w1 : Wd} (hf : Fr_ pk_ w w1) : ∀ a k, a ≠ 1440 → w_i w1 a k = w_i w a k := fun a k h => hf.2.2.2.2.2 a k (fun z => h z.1)
theorem MTu_k {w1 : Wd} {T : Tm} (h : MTu_ w T) (hf : Fr_ pk_ w w1) : MTu_ w1 T := by
  have g := pk_o hf
  unfold MTu_ Mc_ at h ⊢
  simp (disch := omega) only [g]
  exact h
def bn_ (t : Tp) (lo hi : Nat) (r : (Nat × Nat) ⊕ Nat) : (Nat × Nat) ⊕ (Nat × Nat) := match r with
  | Sum.inl e => Sum.inl e
  | Sum.inr b => nm_ t lo hi b
def pj_ (r : (Nat × Nat) ⊕ (Nat × Nat)) : (Nat × Nat) ⊕ Nat := match r with
  | Sum.inl e => Sum.inl e
  | Sum.inr q => Sum.inr q.2
theorem Mn_pj {v : Int32} {r : (Nat × Nat) ⊕ (Nat × Nat)} (h : Mn_ w t v r) : Mo_ w t (pj_ r) := by
  cases r with
  | inl e => exact h
  | inr q => exact h.1
theorem m_numo {D lo hi : Nat} {r : (Nat × Nat) ⊕ Nat} (hD : 2 ≤ D) (h : MTp_ w t) (hr : Mo_ w t r) (hl : lo < 10000) (hh : hi < 10000) : ∃ w1 v, (Fr_ pk_ w w1 ∧ MTp_ w1 t ∧ Mn_ w1 t v (bn_ t lo hi r)) ∧ ∀ Q, cl D 163 [v_R (some 1440), v_I (Int32.ofNat lo), v_I (Int32.ofNat hi)] w Q = Q (Sum.inl (some (v_I v))) w1 := by
  cases r with
  | inl e => exact ⟨w, _, ⟨fr_rf _ _, h, hr⟩, fun Q => m_numf h.1 hr⟩
  | inr b => exact m_num hD h hr hl hh
theorem Mf_si {a k : Nat} {x : Int32} {e : Nat × Nat} (h : Mf_ w t e) (ha : a ≠ 1440) : Mf_ (s_i w a k x) t e := ⟨h.1, by rw [i_si, if_neg (by omega)]; exact h.2.1, by rw [i_si, if_neg (by omega)]; exact h.2.2⟩
theorem Mr_si {a k b : Nat} {x : Int32} (h : Mr_ w t b) (ha : a ≠ 1440) : Mr_ (s_i w a k x) t b := by
  obtain ⟨h1, h2, h3, h4, h5, h6, h7⟩ := h
  have g : ∀ j, w_i (s_i w a k x) 1440 j = w_i w 1440 j := fun j => by rw [i_si, if_neg (by omega)]
  exact ⟨h1, (g _).trans h2, (g _).trans h3, (g _).trans h4, (g _).trans h5, (g _).trans h6, fun z => (g _).trans (h7 z)⟩
theorem Mo_si {a k : Nat} {x : Int32} {r : (Nat × Nat) ⊕ Nat} (h : Mo_ w t r) (ha : a ≠ 1440) : Mo_ (s_i w a k x) t r := by
  cases r with
  | inl e => exact Mf_si h ha
  | inr b => exact Mr_si h ha
theorem MTp_sj {a k : Nat} {x : Int32} (h : MTp_ w t) (ha : a ≠ 1440) (h2 : a ≠ 1452) : MTp_ (s_i w a k x) t := by
  obtain ⟨h1, h2', h3, h4, h5, h6, h7, h8⟩ := h
  exact ⟨h1, h2', h3, h4, h5, fun j hj => by rw [i_si, if_neg (by omega)]; exact h6 j hj, h7, by rw [i_si, if_neg (by omega)]; exact h8⟩
/-- a minus sign, if there is one -/
def mi_ (t : Tp) (r : (Nat × Nat) ⊕ Nat) : Bool := match r with
  | Sum.inl _ => false
  | Sum.inr b => is_s t b 45
def ms_ (t : Tp) (r : (Nat × Nat) ⊕ Nat) : (Nat × Nat) ⊕ Nat := match r with
  | Sum.inl e => Sum.inl e
  | Sum.inr b => Sum.inr (if is_s t b 45 then tk_n t b else b)
theorem m_mi {D : Nat} {r : (Nat × Nat) ⊕ Nat} (h : MTp_ w t) (hr : Mo_ w t r) {Q : Q_} : cl D 165 [v_R (some 1440), v_I (Int32.ofNat 45)] w Q = Q (Sum.inl (some (v_I (b_v (mi_ t r))))) w := by
  cases r with
  | inl e => exact m_iskf h.1 hr
  | inr b => exact m_isk h hr (by omega)
theorem m_ms {D : Nat} {r : (Nat × Nat) ⊕ Nat} (hD : 1 ≤ D) (h : MTp_ w t) (hr : Mo_ w t r) : ∃ w1, (Fr_ pk_ w w1 ∧ MTp_ w1 t ∧ Mo_ w1 t (ms_ t r)) ∧ (mi_ t r = true → ∀ Q, cl D 154 [v_R (some 1440)] w Q = Q (Sum.inl none) w1) ∧ (mi_ t r = false → w1 = w) := by
  cases r with
  | inl e => exact ⟨w, ⟨fr_rf _ _, h, hr⟩, (fun z => by cases z), fun _ => rfl⟩
  | inr b =>
    unfold ms_ mi_
    simp only
    cases s : is_s t b 45 with
    | true =>
      have hr : Mr_ w t b := hr
      obtain ⟨w1, ⟨f1, g1, p1⟩, q1⟩ := m_step (D := D) hD h hr.2.1 hr.2.2.1 (tk_ebd hr.1).2
      exact ⟨w1, ⟨f1, g1, p1⟩, fun _ => q1, (fun z => by cases z)⟩
    | false => exact ⟨w, ⟨fr_rf _ _, h, hr⟩, (fun z => by cases z), fun _ => rfl⟩
/-- a town's line as the model reads it -/
def tl_ (t : Tp) (T : Tm) (k b : Nat) : (Nat × Nat) ⊕ (Tm × Nat) := if tm_n T < 10 then tb_ t T k b else Sum.inl (2, b)
def Ml_ (w : Wd) (t : Tp) (r : (Nat × Nat) ⊕ (Tm × Nat)) : Prop := match r with
  | Sum.inl e => Mf_ w t e
  | Sum.inr q => Mr_ w t q.2 ∧ MTu_ w q.1
theorem m_tbl {D b k : Nat} {T : Tm} (hD : 4 ≤ D) (he : Me_ w t) (hr : Mr_ w t b) (hu : MTu_ w T) (hn : tm_n T ≤ 10) (hk : tk_k t b ≠ 0) (h4 : k < 4) : ∃ w1, (Fr_ pu_ w w1 ∧ Ml_ w1 t (tl_ t T k b)) ∧ ∀ Q, cl D 173 [v_R (some 1440), v_I (Int32.ofNat k)] w Q = Q (Sum.inl none) w1 := by
  obtain ⟨d, rfl⟩ : ∃ d, D = d + 4 := ⟨D - 4, by omega⟩
  have hM := he.2.1
  unfold sh_M at hM
  have t0 := he.1.1
  have r1 := hr.2.1
  have u4 := hu.1
  unfold tl_
  by_cases c : tm_n T < 10
  · rw [if_pos c]
    obtain ⟨w1, ⟨f1, g1, p1⟩, q1⟩ := m_step (D := d + 3) (by omega) he.1 hr.2.1 hr.2.2.1 (tk_ebd hr.1).2
    have p1 : Mo_ w1 t (Sum.inr (tk_n t b)) := p1
    obtain ⟨w2, v1, ⟨f2, g2, p2⟩, q2⟩ := m_numo (w := s_i w1 1445 (10 + tm_n T) (Int32.ofNat k)) (D := d + 3) (lo := 1) (hi := 99) (by omega) (MTp_sj g1 (by omega) (by omega)) (Mo_si p1 (by omega)) (by omega) (by omega)
    have o2 := Mn_pj p2
    obtain ⟨w3, v2, ⟨f3, g3, p3⟩, q3⟩ := m_numo (w := s_i w2 1446 (10 + tm_n T) v1) (D := d + 3) (lo := 0) (hi := 999) (by omega) (MTp_sj g2 (by omega) (by omega)) (Mo_si o2 (by omega)) (by omega) (by omega)
    have o3 := Mn_pj p3
    have qm := fun D Q => m_mi (w := s_i w3 1447 (10 + tm_n T) v2) (D := D) (Q := Q) (MTp_sj g3 (by omega) (by omega)) (Mo_si o3 (by omega))
    obtain ⟨w4, ⟨f4, g4, p4⟩, q4, z4⟩ := m_ms (w := s_i w3 1447 (10 + tm_n T) v2) (D := d + 3) (by omega) (MTp_sj g3 (by omega) (by omega)) (Mo_si o3 (by omega))
    obtain ⟨w5, v3, ⟨f5, g5, p5⟩, q5⟩ := m_numo (w := w4) (D := d + 3) (lo := 0) (hi := 9) (by omega) g4 p4 (by omega) (by omega)
    have o5 := Mn_pj p5
    generalize hm : mi_ t (pj_ (bn_ t 0 999 (pj_ (bn_ t 1 99 (Sum.inr (tk_n t b)))))) = mn at qm q4 z4
    obtain ⟨w6, v4, ⟨f6, g6, p6⟩, q6⟩ := m_numo (w := s_i w5 1448 (10 + tm_n T) (if mn then -v3 else v3)) (D := d + 3) (lo := 0) (hi := 99) (by omega) (MTp_sj g5 (by omega) (by omega)) (Mo_si o5 (by omega)) (by omega) (by omega)
    have o6 := Mn_pj p6
    have k1 := pk_o f1
    have k2 := pk_o f2
    have k3 := pk_o f3
    have k4 := pk_o f4
    have k5 := pk_o f5
    have k6 := pk_o f6
    have a1 : ∀ {a k}, pk_ a k → pu_ a k := fun z => Or.inl z
    have a2 : ∀ {a k}, 1445 ≤ a → a ≤ 1449 → 10 ≤ k → pu_ a k := fun h1 h2 h3 => Or.inr (Or.inr (Or.inl ⟨h1, h2, h3⟩))
    have F1 : Fr_ pu_ w (s_i w1 1445 (10 + tm_n T) (Int32.ofNat k)) := fr_si (fr_mo f1 (fun _ _ z => a1 z)) (a2 (by omega) (by omega) (by omega))
    have F2 : Fr_ pu_ w (s_i w2 1446 (10 + tm_n T) v1) := fr_si (fr_tr F1 (fr_mo f2 (fun _ _ z => a1 z))) (a2 (by omega) (by omega) (by omega))
    have F3 : Fr_ pu_ w (s_i w3 1447 (10 + tm_n T) v2) := fr_si (fr_tr F2 (fr_mo f3 (fun _ _ z => a1 z))) (a2 (by omega) (by omega) (by omega))
    have F5 : Fr_ pu_ w (s_i w5 1448 (10 + tm_n T) (if mn then -v3 else v3)) := fr_si (fr_tr F3 (fr_mo (fr_tr f4 f5) (fun _ _ z => a1 z))) (a2 (by omega) (by omega) (by omega))
    have F6 : Fr_ pu_ w (s_i (s_i w6 1449 (10 + tm_n T) v4) 1444 4 (Int32.ofNat (tm_n T + 1))) := fr_si (fr_si (fr_tr F5 (fr_mo f6 (fun _ _ z => a1 z))) (a2 (by omega) (by omega) (by omega))) (Or.inr (Or.inl ⟨rfl, by omega⟩))
    have s1 : sh_M w1 := (Me_k he f1).2.1
    have s2 : sh_M w2 := (Me_k (Me_fr he F1) f2).2.1
    have s3 : sh_M w3 := (Me_k (Me_fr he F2) f3).2.1
    have e4 := Me_k (Me_fr he F3) f4
    have s5 : sh_M w5 := (Me_k e4 f5).2.1
    have s6 : sh_M w6 := (Me_k (Me_fr he F5) f6).2.1
    have t4 := e4.1.1
    unfold sh_M at s1 s2 s3 s5 s6
    have n6 : w_i w6 1444 4 = Int32.ofNat (tm_n T) := by
      simp (disch := omega) only [k6, k5, k4, k3, k2, k1, i_si, Nat.reduceEqDiff, false_and, if_false]
      exact u4
    have n1 : w_i w1 1444 4 = Int32.ofNat (tm_n T) := (k1 _ _ (by omega)).trans u4
    refine ⟨s_i (s_i w6 1449 (10 + tm_n T) v4) 1444 4 (Int32.ofNat (tm_n T + 1)), ⟨F6, ?_⟩, fun Q => ?_⟩
    · unfold tb_
      cases x1 : nm_ t 1 99 (tk_n t b) with
      | inl e =>
        have p6 := p6
        simp only [bn_, pj_, ms_, x1] at p6
        exact Mf_si (Mf_si p6 (by omega)) (by omega)
      | inr y1 =>
        simp only
        simp only [bn_, pj_, ms_, mi_, x1] at p2 p3 p5 p6 hm
        cases x2 : nm_ t 0 999 y1.2 with
        | inl e =>
          simp only [x2] at p6
          exact Mf_si (Mf_si p6 (by omega)) (by omega)
        | inr y2 =>
          simp only
          simp only [x2] at p3 p5 p6 hm
          cases x3 : nm_ t 0 9 (if is_s t y2.2 45 = true then tk_n t y2.2 else y2.2) with
          | inl e =>
            simp only [x3] at p6
            exact Mf_si (Mf_si p6 (by omega)) (by omega)
          | inr y3 =>
            simp only
            simp only [x3] at p5 p6
            cases x4 : nm_ t 0 99 y3.2 with
            | inl e =>
              simp only [x4] at p6
              exact Mf_si (Mf_si p6 (by omega)) (by omega)
            | inr y4 =>
              simp only [x4] at p6
              obtain ⟨-, rfl⟩ := p2
              obtain ⟨-, rfl⟩ := p3
              obtain ⟨-, rfl⟩ := p5
              obtain ⟨p6, rfl⟩ := p6
              refine ⟨Mr_si (Mr_si p6 (by omega)) (by omega), ?_⟩
              obtain ⟨u1, u2, u3, u4, u5, u6, u7, u8, u9, u10⟩ := hu
              subst hm
              unfold MTu_ Mc_
              refine ⟨?_, ?_, ?_, fun j hj => ?_, fun j hj => ?_, fun j hj => ?_, fun j hj => ?_, fun j hj => ?_, ?_, fun j hj => ?_⟩
              · simp only [i_si, and_self, if_true]; rfl
              · simp (disch := omega) only [k6, k5, k4, k3, k2, k1, i_si, Nat.reduceEqDiff, false_and, and_false, if_false]
                exact u2
              · simp (disch := omega) only [k6, k5, k4, k3, k2, k1, i_si, Nat.reduceEqDiff, false_and, and_false, if_false]
                exact u3
              · have hj : j < tm_n T + 1 := hj
                simp (disch := omega) only [k6, k5, k4, k3, k2, k1, i_si, Nat.reduceEqDiff, false_and, and_false, if_false, true_and]
                show _ = Int32.ofNat (ap_ (tm_n T) (tm_kd T) k j)
                unfold ap_
                by_cases e : j = tm_n T
                · rw [if_pos e, if_pos (by omega)]
                · rw [if_neg e, if_neg (by omega)]; exact u4 j (by omega)
              · have hj : j < tm_n T + 1 := hj
                simp (disch := omega) only [k6, k5, k4, k3, k2, k1, i_si, Nat.reduceEqDiff, false_and, and_false, if_false, true_and]
                show _ = ap_ (tm_n T) (tm_wt T) _ j
                unfold ap_
                by_cases e : j = tm_n T
                · rw [if_pos e, if_pos (by omega)]
                · rw [if_neg e, if_neg (by omega)]; exact u5 j (by omega)
              · have hj : j < tm_n T + 1 := hj
                simp (disch := omega) only [k6, k5, k4, k3, k2, k1, i_si, Nat.reduceEqDiff, false_and, and_false, if_false, true_and]
                show _ = ap_ (tm_n T) (tm_br T) _ j
                unfold ap_
                by_cases e : j = tm_n T
                · rw [if_pos e, if_pos (by omega)]
                · rw [if_neg e, if_neg (by omega)]; exact u6 j (by omega)
              · have hj : j < tm_n T + 1 := hj
                simp (disch := omega) only [k6, k5, k4, k3, k2, k1, i_si, Nat.reduceEqDiff, false_and, and_false, if_false, true_and]
                show _ = ap_ (tm_n T) (tm_ln T) _ j
                unfold ap_
                by_cases e : j = tm_n T
                · rw [if_pos e, if_pos (by omega)]
                · rw [if_neg e, if_neg (by omega)]; exact u7 j (by omega)
              · have hj : j < tm_n T + 1 := hj
                simp (disch := omega) only [k6, k5, k4, k3, k2, k1, i_si, Nat.reduceEqDiff, false_and, and_false, if_false, true_and]
                show _ = ap_ (tm_n T) (tm_hg T) _ j
                unfold ap_
                by_cases e : j = tm_n T
                · rw [if_pos e, if_pos (by omega)]
                · rw [if_neg e, if_neg (by omega)]; exact u8 j (by omega)
              · simp (disch := omega) only [k6, k5, k4, k3, k2, k1, i_si, Nat.reduceEqDiff, false_and, and_false, if_false]
                exact u9
              · simp (disch := omega) only [k6, k5, k4, k3, k2, k1, i_si, Nat.reduceEqDiff, false_and, and_false, if_false]
                exact u10 j hj
    · clear p1 p2 p3 p4 p5 p6 o2 o3 o5 o6 k1 k2 k3 k4 k5 k6 F1 F2 F3 F5 F6 f1 f2 f3 f4 f5 f6 g1 g2 g3 g4 g5 g6 hu hm
      cases mn with
      | true =>
        have q4 := q4 rfl
        simp only [eq_self, if_true] at q6
        simp (disch := first | omega | decide | exact ko_b _ | assumption | (simp only [t_si, t_sl, t_sr, t_sI, t_sR, n_si, n_sl, n_sr, n_sI, n_sR, r_si, r_sl, r_sI]; first | done | omega)) only [x_173_e, x_173_b, x_173_0, x_173_1, x_173_4, x_173_5, x_173_6, x_173_8, x_173_11, x_173_12, x_173_13, x_173_16, x_173_17, x_173_20, x_173_23, x_173_24, x_173_25, x_173_28, x_173_30, x_173_31, x_173_34, x_173_35, x_173_36, x_173_37, x_173_38, x_173_39, x_173_42, x_173_43, x_173_44, x_173_45, x_173_46, x_173_49, x_173_50, x_173_51, x_173_52, x_173_54, x_173_57, x_173_58, x_173_59, x_173_62, x_173_63, x_173_64, x_173_65, x_173_68, x_173_71, x_173_72, x_173_73, x_173_75, x_173_78, x_173_79, x_173_80, x_173_83, x_173_84, x_173_87, x_173_88, x_173_89, x_173_91, x_173_94, x_173_96, x_173_97, x_173_100, x_173_101, x_173_102, x_173_105, x_173_107, x_173_108, x_173_111, x_173_113, x_173_114, x_173_115, x_173_118, x_173_119, x_173_120, x_173_121, x_173_123, x_173_126, x_173_127, x_173_128, x_173_131, x_173_132, x_173_133, x_173_134, x_173_135, x_173_136, x_173_137, bk_v, bk_n, nl_I, nl_R, nl_L, nl_0, oo_lt, oo_le, oo_eq, oo_add, oo_sub, oo_tn, oo_ir, nn_leT, nn_leF, nn_ltT, nn_ltF, nn_eqT, nn_eqF, bv_0, bv_1, ko_b, ko_1, ko_0, true_and, and_true, if_true, if_false, not_true_eq_false, not_false_eq_true, oo_02, decide_eq_true_eq, decide_eq_false_iff_not, ite_not, Nat.reduceAdd, Nat.reduceLT, Nat.reduceSub, Nat.reduceLeDiff, reduceIte, Bool.true_eq_false, Bool.false_eq_true, reduceCtorEq, eq_self, decide_true, decide_false, bv_t, bv_f, and_self, t_si, t_sl, t_sr, t_sI, t_sR, n_si, n_sl, n_sr, n_sI, n_sR, r_si, r_sl, r_sI, hM, r1, u4, n1, n6, s1, s2, s3, s5, s6, q1, q2, q3, qm, q4, q5, q6, i_si, Nat.reduceEqDiff, false_and, and_false]
      | false =>
        have z4 := z4 rfl
        subst z4
        simp only [Bool.false_eq_true, if_false] at q6
        simp (disch := first | omega | decide | exact ko_b _ | assumption | (simp only [t_si, t_sl, t_sr, t_sI, t_sR, n_si, n_sl, n_sr, n_sI, n_sR, r_si, r_sl, r_sI]; first | done | omega)) only [x_173_e, x_173_b, x_173_0, x_173_1, x_173_4, x_173_5, x_173_6, x_173_8, x_173_11, x_173_12, x_173_13, x_173_16, x_173_17, x_173_20, x_173_23, x_173_24, x_173_25, x_173_28, x_173_30, x_173_31, x_173_34, x_173_35, x_173_36, x_173_37, x_173_38, x_173_39, x_173_42, x_173_43, x_173_44, x_173_45, x_173_46, x_173_49, x_173_50, x_173_51, x_173_52, x_173_54, x_173_57, x_173_58, x_173_59, x_173_62, x_173_63, x_173_64, x_173_65, x_173_68, x_173_71, x_173_72, x_173_73, x_173_75, x_173_78, x_173_79, x_173_80, x_173_83, x_173_84, x_173_87, x_173_88, x_173_89, x_173_91, x_173_94, x_173_96, x_173_97, x_173_100, x_173_101, x_173_102, x_173_105, x_173_107, x_173_108, x_173_111, x_173_113, x_173_114, x_173_115, x_173_118, x_173_119, x_173_120, x_173_121, x_173_123, x_173_126, x_173_127, x_173_128, x_173_131, x_173_132, x_173_133, x_173_134, x_173_135, x_173_136, x_173_137, bk_v, bk_n, nl_I, nl_R, nl_L, nl_0, oo_lt, oo_le, oo_eq, oo_add, oo_sub, oo_tn, oo_ir, nn_leT, nn_leF, nn_ltT, nn_ltF, nn_eqT, nn_eqF, bv_0, bv_1, ko_b, ko_1, ko_0, true_and, and_true, if_true, if_false, not_true_eq_false, not_false_eq_true, oo_02, decide_eq_true_eq, decide_eq_false_iff_not, ite_not, Nat.reduceAdd, Nat.reduceLT, Nat.reduceSub, Nat.reduceLeDiff, reduceIte, Bool.true_eq_false, Bool.false_eq_true, reduceCtorEq, eq_self, decide_true, decide_false, bv_t, bv_f, and_self, t_si, t_sl, t_sr, t_sI, t_sR, n_si, n_sl, n_sr, n_sI, n_sR, r_si, r_sl, r_sI, hM, r1, u4, n1, n6, s1, s2, s3, s5, s6, q1, q2, q3, qm, q5, q6, i_si, Nat.reduceEqDiff, false_and, and_false]
  · rw [if_neg c]
    have n10 : tm_n T = 10 := by omega
    rw [n10] at u4
    obtain ⟨f1, g1, p1⟩ := wr_f he.1 hr (c := 2) (by omega)
    have hw := fun d Q => m_wr (d := d) (c := 2) (Q := Q) t0 hr
    have hn := Mf_n p1
    have t1 := g1.1
    refine ⟨wr_ w 2 b, ⟨fr_mo f1 (fun _ _ z => Or.inl z), p1⟩, fun Q => ?_⟩
    simp (disch := first | omega | decide | exact ko_b _ | assumption | (simp only [t_si, t_sl, t_sr, t_sI, t_sR, n_si, n_sl, n_sr, n_sI, n_sR, r_si, r_sl, r_sI]; first | done | omega)) only [x_173_e, x_173_b, x_173_0, x_173_1, x_173_4, x_173_5, x_173_6, x_173_8, x_173_11, x_173_12, x_173_13, x_173_16, x_173_17, x_173_20, x_173_23, bk_v, bk_n, nl_I, nl_R, nl_L, nl_0, oo_lt, oo_le, oo_eq, oo_add, oo_sub, oo_tn, oo_ir, nn_leT, nn_leF, nn_ltT, nn_ltF, nn_eqT, nn_eqF, bv_0, bv_1, ko_b, ko_1, ko_0, true_and, and_true, if_true, if_false, not_true_eq_false, not_false_eq_true, oo_02, decide_eq_true_eq, decide_eq_false_iff_not, ite_not, Nat.reduceAdd, Nat.reduceLT, Nat.reduceSub, Nat.reduceLeDiff, reduceIte, Bool.true_eq_false, Bool.false_eq_true, reduceCtorEq, eq_self, decide_true, decide_false, bv_t, bv_f, and_self, t_si, t_sl, t_sr, t_sI, t_sR, n_si, n_sl, n_sr, n_sI, n_sR, r_si, r_sl, r_sI, hM, u4, hw, hn]
/-! lines -/
def dne_ (s : Bool × Bool × Bool) : Nat := (if s.1 then 1 else 0) + (if s.2.1 then 2 else 0) + (if s.2.2 then 4 else 0)
theorem dnx_1 : ∀ a b c : Bool, (Int32.ofNat 1 &&& Int32.ofNat (dne_ (a, b, c)) = Int32.ofNat 0) = (a = false) := by decide
theorem dnx_2 : ∀ a b c : Bool, (Int32.ofNat 2 &&& Int32.ofNat (dne_ (a, b, c)) = Int32.ofNat 0) = (b = false) := by decide
theorem dnx_4 : ∀ a b c : Bool, (Int32.ofNat 4 &&& Int32.ofNat (dne_ (a, b, c)) = Int32.ofNat 0) = (c = false) := by decide
theorem dnx_0 : ∀ a b c : Bool, (Int32.ofNat 0 &&& Int32.ofNat (dne_ (a, b, c)) = Int32.ofNat 0) = True := by decide
theorem do_1 : ∀ b c : Bool, Int32.ofNat (dne_ (false, b, c)) ||| Int32.ofNat 1 = Int32.ofNat (dne_ (true, b, c)) := by decide
theorem do_2 : ∀ a c : Bool, Int32.ofNat (dne_ (a, false, c)) ||| Int32.ofNat 2 = Int32.ofNat (dne_ (a, true, c)) := by decide
theorem do_4 : ∀ a b : Bool, Int32.ofNat (dne_ (a, b, false)) ||| Int32.ofNat 4 = Int32.ofNat (dne_ (a, b, true)) := by decide
theorem do_0 : ∀ a b c : Bool, Int32.ofNat (dne_ (a, b, c)) ||| Int32.ofNat 0 = Int32.ofNat (dne_ (a, b, c)) := by decide
def Mg_ (w : Wd) (t : Tp) (x : Int32) (r : (Nat × Nat) ⊕ (Ln_ × Nat)) : Prop := match r with
  | Sum.inl e => Mf_ w t e
  | Sum.inr q => Mr_ w t q.2 ∧ MTu_ w q.1.1 ∧ x = Int32.ofNat (dne_ q.1.2)
/-- a line with its end -/
def le_ (t : Tp) (r : (Nat × Nat) ⊕ (Ln_ × Nat)) : (Nat × Nat) ⊕ (Ln_ × Nat) := match r with
  | Sum.inl e => Sum.inl e
  | Sum.inr q => match nd_ t 59 q.2 with
    | Sum.inl e => Sum.inl e
    | Sum.inr b2 => Sum.inr (q.1, b2)
theorem m_fin {D : Nat} {x : Int32} {r : (Nat × Nat) ⊕ (Ln_ × Nat)} (hD : 2 ≤ D) (h : MTp_ w t) (hm : Mg_ w t x r) : ∃ w1, (Fr_ pk_ w w1 ∧ Mg_ w1 t x (le_ t r)) ∧ ∀ Q, cl D 172 [v_R (some 1440), v_I (Int32.ofNat 59)] w Q = Q (Sum.inl none) w1 := by
  cases r with
  | inl e => exact ⟨w, ⟨fr_rf _ _, hm⟩, fun Q => m_markf h.1 hm⟩
  | inr q =>
    obtain ⟨h1, h2, h3⟩ := hm
    obtain ⟨w1, ⟨f1, g1, p1⟩, q1⟩ := m_mark (D := D) (c := 59) hD h h1 (by omega)
    refine ⟨w1, ⟨f1, ?_⟩, q1⟩
    unfold le_
    simp only
    cases hx : nd_ t 59 q.2 with
    | inl e => rw [hx] at p1; exact p1
    | inr b2 => rw [hx] at p1; exact ⟨p1, MTu_k h2 f1, h3⟩
theorem s_lim (h : KS_ w) : Sc_ w 48 148 [108, 105, 109, 105, 116] ∧ As_ [108, 105, 109, 105, 116] := ⟨ks_c h (i := 38) (by omega) (by decide), as_d (by decide)⟩
theorem s_foo (h : KS_ w) : Sc_ w 49 149 [102, 111, 111, 100] ∧ As_ [102, 111, 111, 100] := ⟨ks_c h (i := 39) (by omega) (by decide), as_d (by decide)⟩
theorem s_tak (h : KS_ w) : Sc_ w 50 150 [116, 97, 107, 101, 115] ∧ As_ [116, 97, 107, 101, 115] := ⟨ks_c h (i := 40) (by omega) (by decide), as_d (by decide)⟩
end
