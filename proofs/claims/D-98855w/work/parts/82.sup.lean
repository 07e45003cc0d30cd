/-! MEALS: what a supper leaves; both programs' suppers in a trial -/
set_option maxRecDepth 100000
/-- what a rule asks of its code -/
def WE_ (T : Tm) : Prop := (tm_co T).length ≤ 600 ∧ (∀ t, t < tm_n T → Int32.ofNat 0 ≤ tm_hg T t) ∧ Int32.ofNat 0 ≤ tm_fo T ∧ (tm_co T = [] ∨ ∀ A, ∃ v, ev_ A (tm_co T) [] = some [v])
def f_val (T : Tm) (A : Nat → Int32) : Int32 := match ev_ A (tm_co T) [] with
  | some (v :: _) => v
  | _ => 0
def f_ask (T : Tm) (X : Xm) (l : Nat) (left : Int32) (k : Nat) : Int32 := if k = 0 then Int32.ofNat l else if k = 1 then tm_hg T (xm_t X l) else if k = 2 then left else if k = 3 then Int32.ofNat (tm_kd T (xm_t X l)) else if k = 4 then Int32.ofNat (xm_L X - 1 - l) else tm_wt T (xm_t X l)
def f_tk (T : Tm) (X : Xm) (l : Nat) (left : Int32) : Int32 := i_mx (Int32.ofNat 0) (i_mn left (if tm_co T = [] then tm_hg T (xm_t X l) else f_val T (f_ask T X l left)))
def f_sp1 (T : Tm) (l : Nat) (s : Xm × Int32) : Xm × Int32 := (x_mea s.1 (xm_t s.1 l) (f_tk T s.1 l s.2), s.2 - f_tk T s.1 l s.2)
def f_sup (T : Tm) (X : Xm) (food : Int32) : Xm × Int32 := it_ (f_sp1 T) 0 (xm_L X) (X, food)
theorem mn_cm {a b : Int32} : i_mn a b = i_mn b a := by
  unfold i_mn
  by_cases h : b < a
  · rw [if_pos h, if_neg (fun z => Int32.lt_irrefl (Int32.lt_trans h z))]
  · rw [if_neg h]
    by_cases h2 : a < b
    · rw [if_pos h2]
    · rw [if_neg h2]
      exact Int32.le_antisymm (Int32.not_lt.mp h) (Int32.not_lt.mp h2)
theorem mx_0 {a b : Int32} (ha : Int32.ofNat 0 ≤ a) (hb : Int32.ofNat 0 ≤ b) : i_mx (Int32.ofNat 0) (i_mn a b) = i_mn a b := by
  have h : Int32.ofNat 0 ≤ i_mn a b := by
    unfold i_mn
    split
    · exact hb
    · exact ha
  unfold i_mx
  by_cases h2 : Int32.ofNat 0 < i_mn a b
  · rw [if_pos h2]
  · rw [if_neg h2]
    exact Int32.le_antisymm h (Int32.not_lt.mp h2)
theorem tk_le {T : Tm} {X : Xm} {l : Nat} {left : Int32} (h : Int32.ofNat 0 ≤ left) : Int32.ofNat 0 ≤ f_tk T X l left ∧ f_tk T X l left ≤ left := by
  unfold f_tk i_mx i_mn
  generalize (if tm_co T = [] then tm_hg T (xm_t X l) else f_val T (f_ask T X l left)) = v
  by_cases c : v < left
  · rw [if_pos c]
    by_cases c2 : Int32.ofNat 0 < v
    · rw [if_pos c2]; exact ⟨Int32.le_of_lt c2, Int32.le_of_lt c⟩
    · rw [if_neg c2]; exact ⟨Int32.le_refl _, h⟩
  · rw [if_neg c]
    by_cases c2 : Int32.ofNat 0 < left
    · rw [if_pos c2]; exact ⟨h, Int32.le_refl _⟩
    · rw [if_neg c2]; exact ⟨Int32.le_refl _, h⟩
theorem sub_0 {a b : Int32} (h1 : Int32.ofNat 0 ≤ b) (h2 : b ≤ a) : Int32.ofNat 0 ≤ a - b := by
  rw [Int32.le_iff_toInt_le] at *
  rw [oo_in (by omega)] at *
  have := Int32.toInt_lt a
  rw [Int32.toInt_sub, Int.bmod_eq_of_le (by omega) (by omega)]
  omega
/-- what a supper leaves alone -/
def sp_ok (X : Xm) (s : Xm × Int32) : Prop := xm_L s.1 = xm_L X ∧ xm_t s.1 = xm_t X ∧ xm_w s.1 = xm_w X ∧ xm_l s.1 = xm_l X ∧ xm_y s.1 = xm_y X ∧ xm_c s.1 = xm_c X ∧ Int32.ofNat 0 ≤ s.2
theorem sp_ok1 {T : Tm} {X : Xm} {l : Nat} {s : Xm × Int32} (h : sp_ok X s) : sp_ok X (f_sp1 T l s) := ⟨h.1, h.2.1, h.2.2.1, h.2.2.2.1, h.2.2.2.2.1, h.2.2.2.2.2.1, sub_0 (tk_le h.2.2.2.2.2.2).1 (tk_le h.2.2.2.2.2.2).2⟩
theorem sp_ok0 {X : Xm} {f : Int32} (h : Int32.ofNat 0 ≤ f) : sp_ok X (X, f) := ⟨rfl, rfl, rfl, rfl, rfl, rfl, h⟩
theorem WX_sp {n : Nat} {X : Xm} {s : Xm × Int32} (h : WX_ n X) (hs : sp_ok X s) : WX_ n s.1 := by
  unfold WX_ at h ⊢
  rw [hs.1, hs.2.1]
  exact h
section
variable {w : Wd} {S : Sm} {G : Gm} {σ : Nat → Nat}
/-! the component -/
def Pv_ (G : Gm) (a _k : Nat) : Prop := a = gm_of G
theorem c_see1 {vw ar j : Nat} {v : Int32} {d : Nat} {Q : Q_} (hv : w_t w vw = 22) (hr : w_r w vw 0 = some ar) (ht : w_t w ar = 1) (hn : w_n w ar = 6) (hj : j < 6) (hK : KC_ w) : cl (d + 1) 128 [v_R (some vw), v_R (some (200 + j)), v_I v] w Q = Q (Sum.inl none) (s_i w ar j v) := by
  have k1 := (hK j hj).1
  have ho := fun d Q => j_ord (d := d) (Q := Q) k1
  rw [(hK j hj).2] at ho
  simp (disch := first | omega | decide | exact ko_b _ | assumption | (simp only [t_si, t_sl, t_sr, t_sI, t_sR, n_si, n_sl, n_sr, n_sI, n_sR, r_si, r_sl, r_sI]; first | done | omega)) only [x_128_e, x_128_b, x_128_0, x_128_1, x_128_4, x_128_5, x_128_8, x_128_9, x_128_10, bk_v, bk_n, nl_I, nl_R, nl_L, nl_0, oo_lt, oo_le, oo_eq, oo_add, oo_sub, oo_tn, oo_ir, nn_leT, nn_leF, nn_ltT, nn_ltF, nn_eqT, nn_eqF, bv_0, bv_1, ko_b, ko_1, ko_0, true_and, and_true, if_true, if_false, not_true_eq_false, not_false_eq_true, oo_02, decide_eq_true_eq, decide_eq_false_iff_not, ite_not, Nat.reduceAdd, Nat.reduceLT, Nat.reduceSub, Nat.reduceLeDiff, reduceIte, Bool.true_eq_false, Bool.false_eq_true, reduceCtorEq, eq_self, decide_true, decide_false, bv_t, bv_f, and_self, t_si, t_sl, t_sr, t_sI, t_sR, n_si, n_sl, n_sr, n_sI, n_sR, r_si, r_sl, r_sI, hr, hn, ho]
theorem KC_fr {P : Nat → Nat → Prop} {w1 : Wd} (h : KC_ w) (hf : Fr_ P w w1) (hP : ∀ a k, P a k → 206 ≤ a) : KC_ w1 := fun j hj => ⟨by rw [hf.1]; exact (h j hj).1, by rw [hf.2.2.2.2.2 _ _ (fun z => by have := hP _ _ z; omega)]; exact (h j hj).2⟩
theorem vb_t {a d : Nat} {x : Option Nat} {ls : L_} {y z : Vl} {Q : Q_} (h : xt_ (w_t w a)) : wp (d + 1) 126 119 ls [v_R x, v_R (some a), y, z] w Q = cl d (mb_ (w_t w a)) [v_R (some a), v_R x] w (bk (d + 1) 126 119 ls [y, z] Q) := by
  rcases h with h | h | h | h
  · rw [x_126_119.1 _ _ _ _ _ _ _ _ h, h]; rfl
  · rw [x_126_119.2.1 _ _ _ _ _ _ _ _ h, h]; rfl
  · rw [x_126_119.2.2.1 _ _ _ _ _ _ _ _ h, h]; rfl
  · rw [x_126_119.2.2.2 _ _ _ _ _ _ _ _ h, h]; rfl
theorem vk_t {p d k : Nat} {ls : L_} {y z : Vl} {Q : Q_} (hp : w_t w p = 32 + k) (hk : k < 4) : wp (d + 1) 126 76 ls [v_R (some p), y, z] w Q = cl d (if k = 0 then 107 else if k = 1 then 114 else if k = 2 then 117 else 121) [v_R (some p)] w (bk (d + 1) 126 76 ls [y, z] Q) := by
  rcases (by omega : k = 0 ∨ k = 1 ∨ k = 2 ∨ k = 3) with rfl | rfl | rfl | rfl
  · rw [x_126_76.1 _ _ _ _ _ _ _ hp]; rfl
  · rw [x_126_76.2.1 _ _ _ _ _ _ _ hp]; rfl
  · rw [x_126_76.2.2.1 _ _ _ _ _ _ _ hp]; rfl
  · rw [x_126_76.2.2.2 _ _ _ _ _ _ _ hp]; rfl
theorem c_tks {T : Tm} {X : Xm} {d l : Nat} {left : Int32} (hT : CT_ w G T) (hE : CE_ w G T) (hZ : GZ_ w G T) (hK : KC_ w) (hW : WT_ T) (hWE : WE_ T) (ht : xm_t X l < tm_n T) (h0 : Int32.ofNat 0 ≤ left) : ∃ w1, Fr_ (Pv_ G) w w1 ∧ ∀ Q, cl (d + 612) 126 [v_R (some (gm_b G)), v_I (Int32.ofNat (xm_t X l)), v_I (Int32.ofNat l), v_I left, v_I (Int32.ofNat (xm_L X - 1 - l))] w Q = Q (Sum.inl (some (v_I (f_tk T X l left)))) w1 := by
  have hn10 := hW.1
  have hk4 := hW.2 _ ht
  have ctab := fun d Q => c_tab hT hW (d := d) (Q := Q) ht
  have hgof : 1001 ≤ gm_of G := by have := hZ.2.2.2.2.1.1; unfold gz_ at this; omega
  have hT0 := hT
  obtain ⟨h1, h2, h3, h4, h5, h6, h7, h8, h9, h10, h11, h12, h13, h14, h15, h16, h17, h18, h19, h20, h21, h22⟩ := hT0
  have hp := h18 _ ht
  have hhg := h22 _ ht
  have hwt := h19 _ ht
  rcases hE with ⟨hE, hx⟩ | ⟨e, hx, hE⟩
  · refine ⟨w, fr_rf _ _, fun Q => ?_⟩
    have hqk : q_k none = true := rfl
    rw [hx] at h3
    have ef : f_tk T X l left = i_mn (tm_hg T (xm_t X l)) left := by
      unfold f_tk
      rw [if_pos hE, mx_0 h0 (hWE.2.1 _ ht), mn_cm]
    rw [ef]
    unfold i_mn
    simp (disch := first | omega | decide | exact ko_b _ | assumption | (simp only [t_si, t_sl, t_sr, t_sI, t_sR, n_si, n_sl, n_sr, n_sI, n_sR, r_si, r_sl, r_sI]; first | done | omega)) only [x_126_e, x_126_b, x_126_0, x_126_1, x_126_4, x_126_5, x_126_8, x_126_11, x_126_13, x_126_14, x_126_17, x_126_20, x_126_22, x_126_25, x_126_26, x_126_29, bk_v, bk_n, nl_I, nl_R, nl_L, nl_0, oo_lt, oo_le, oo_eq, oo_add, oo_sub, oo_tn, oo_ir, nn_leT, nn_leF, nn_ltT, nn_ltF, nn_eqT, nn_eqF, bv_0, bv_1, ko_b, ko_1, ko_0, true_and, and_true, if_true, if_false, not_true_eq_false, not_false_eq_true, oo_02, decide_eq_true_eq, decide_eq_false_iff_not, ite_not, Nat.reduceAdd, Nat.reduceLT, Nat.reduceSub, Nat.reduceLeDiff, reduceIte, Bool.true_eq_false, Bool.false_eq_true, reduceCtorEq, eq_self, decide_true, decide_false, bv_t, bv_f, and_self, t_si, t_sl, t_sr, t_sI, t_sR, n_si, n_sl, n_sr, n_sI, n_sR, r_si, r_sl, r_sI, h2, h3, ctab, hhg]
  · have mk : ∀ (t : Wd) (j : Nat) (v : Int32), Fr_ (Pv_ G) w t → j < 6 → ∃ t1, Fr_ (Pv_ G) w t1 ∧ (∀ i, i ≠ j → w_i t1 (gm_of G) i = w_i t (gm_of G) i) ∧ w_i t1 (gm_of G) j = v ∧ ∀ d Q, cl (d + 1) 128 [v_R (some (gm_vw G)), v_R (some (200 + j)), v_I v] t Q = Q (Sum.inl none) t1 := fun t j v hf hj => by
      refine ⟨s_i t (gm_of G) j v, fr_si hf rfl, fun i hi => by rw [i_si, if_neg (fun z => hi z.2)], by rw [i_si, if_pos ⟨rfl, rfl⟩], fun d Q => ?_⟩
      exact c_see1 (by rw [hf.1]; exact h13) (by rw [hf.2.2.1]; exact h14) (by rw [hf.1]; exact h15) (by rw [hf.2.1]; exact h16) hj (KC_fr hK hf (fun a k z => by have z : a = gm_of G := z; omega))
    have fac : ∀ t, Fr_ (Pv_ G) w t → w_t t (gm_b G) = 21 ∧ w_r t (gm_b G) 4 = some (gm_vw G) ∧ w_t t (gm_vw G) = 22 ∧ w_t t (gm_pn G (xm_t X l)) = 32 + tm_kd T (xm_t X l) ∧ w_i t (gm_pn G (xm_t X l)) 3 = tm_hg T (xm_t X l) ∧ w_i t (gm_pn G (xm_t X l)) 0 = tm_wt T (xm_t X l) := fun t hf => by
      have hne : gm_pn G (xm_t X l) ≠ gm_of G := fun z => by rw [z, h15] at hp; omega
      exact ⟨by rw [hf.1]; exact h1, by rw [hf.2.2.1]; exact h4, by rw [hf.1]; exact h13, by rw [hf.1]; exact hp, by rw [hf.2.2.2.2.2 _ _ (fun z => hne z)]; exact hhg, by rw [hf.2.2.2.2.2 _ _ (fun z => hne z)]; exact hwt⟩
    obtain ⟨t1, f1, k1, e1, q1⟩ := mk w 0 (Int32.ofNat l) (fr_rf _ _) (by omega)
    obtain ⟨t2, f2, k2, e2, q2⟩ := mk t1 1 (tm_hg T (xm_t X l)) f1 (by omega)
    obtain ⟨t3, f3, k3, e3, q3⟩ := mk t2 2 left f2 (by omega)
    obtain ⟨t4, f4, k4, e4, q4⟩ := mk t3 3 (Int32.ofNat (tm_kd T (xm_t X l))) f3 (by omega)
    obtain ⟨t5, f5, k5, e5, q5⟩ := mk t4 4 (Int32.ofNat (xm_L X - 1 - l)) f4 (by omega)
    obtain ⟨t6, f6, k6, e6, q6⟩ := mk t5 5 (tm_wt T (xm_t X l)) f5 (by omega)
    clear mk
    have hA : ∀ j, j < 6 → w_i t6 (gm_of G) j = f_ask T X l left j := fun j hj => by
      unfold f_ask
      rcases (by omega : j = 0 ∨ j = 1 ∨ j = 2 ∨ j = 3 ∨ j = 4 ∨ j = 5) with rfl | rfl | rfl | rfl | rfl | rfl
      · rw [k6 _ (by omega), k5 _ (by omega), k4 _ (by omega), k3 _ (by omega), k2 _ (by omega), e1]; rfl
      · rw [k6 _ (by omega), k5 _ (by omega), k4 _ (by omega), k3 _ (by omega), e2]; rfl
      · rw [k6 _ (by omega), k5 _ (by omega), k4 _ (by omega), e3]; rfl
      · rw [k6 _ (by omega), k5 _ (by omega), e4]; rfl
      · rw [k6 _ (by omega), e5]; rfl
      · rw [e6]; rfl
    have hE6 : EX_ 610 t6 e (tm_co T) := EX_ag (by rw [f6.2.2.2.1]; exact Nat.le_refl _) (fun a _ _ => ⟨by rw [f6.1], by rw [f6.2.1], fun k => by rw [f6.2.2.1]⟩) (fun a k _ _ h20 => f6.2.2.2.2.2 a k (fun z => by have z : a = gm_of G := z; rw [z, h15] at h20; omega)) 610 e (tm_co T) hE
    obtain ⟨hxt, v, hev, qv⟩ := c_byx (KC_fr hK f6 (fun a k z => by have z : a = gm_of G := z; omega)) (vw := gm_vw G) (ar := gm_of G) (by rw [f6.1]; exact h13) (by rw [f6.2.2.1]; exact h14) (by rw [f6.1]; exact h15) (by rw [f6.2.1]; exact h16) hA 610 e (tm_co T) hE6
    have hne : tm_co T ≠ [] := fun z => by
      have := hev [] [] [] (by rw [z]; rfl)
      cases this
    have hval : f_val T (f_ask T X l left) = v := by
      rcases hWE.2.2.2 with z | z
      · exact absurd z hne
      · obtain ⟨v', hv'⟩ := z (f_ask T X l left)
        have := hev [] [] [v'] (by rw [List.append_nil]; exact hv')
        have this : some [v] = some [v'] := this
        injection this with this
        injection this with this
        unfold f_val
        rw [hv']
        exact this.symm
    refine ⟨t6, f6, fun Q => ?_⟩
    have he : gz_ e := hE6.1
    unfold gz_ at he
    have hqk : q_k (some e) = true := decide_eq_true (Or.inl (by omega))
    have q1 : ∀ d Q, cl (d + 1) 128 [v_R (some (gm_vw G)), v_R (some 200), v_I (Int32.ofNat l)] w Q = Q (Sum.inl none) t1 := q1
    have q2 : ∀ d Q, cl (d + 1) 128 [v_R (some (gm_vw G)), v_R (some 201), v_I (tm_hg T (xm_t X l))] t1 Q = Q (Sum.inl none) t2 := q2
    have q3 : ∀ d Q, cl (d + 1) 128 [v_R (some (gm_vw G)), v_R (some 202), v_I left] t2 Q = Q (Sum.inl none) t3 := q3
    have q4 : ∀ d Q, cl (d + 1) 128 [v_R (some (gm_vw G)), v_R (some 203), v_I (Int32.ofNat (tm_kd T (xm_t X l)))] t3 Q = Q (Sum.inl none) t4 := q4
    have q5 : ∀ d Q, cl (d + 1) 128 [v_R (some (gm_vw G)), v_R (some 204), v_I (Int32.ofNat (xm_L X - 1 - l))] t4 Q = Q (Sum.inl none) t5 := q5
    have q6 : ∀ d Q, cl (d + 1) 128 [v_R (some (gm_vw G)), v_R (some 205), v_I (tm_wt T (xm_t X l))] t5 Q = Q (Sum.inl none) t6 := q6
    obtain ⟨a1, b1, c1, d1, g1, m1⟩ := fac t1 f1
    obtain ⟨a2, b2, c2, d2, g2, m2⟩ := fac t2 f2
    obtain ⟨a3, b3, c3, d3, g3, m3⟩ := fac t3 f3
    obtain ⟨a4, b4, c4, d4, g4, m4⟩ := fac t4 f4
    obtain ⟨a5, b5, c5, d5, g5, m5⟩ := fac t5 f5
    obtain ⟨a6, b6, c6, d6, g6, m6⟩ := fac t6 f6
    have x6 : w_r t6 (gm_b G) 3 = some e := by rw [f6.2.2.1, h3, hx]
    have vk := fun d ls y z Q => vk_t (d := d) (ls := ls) (y := y) (z := z) (Q := Q) d3 hk4
    have pk := fun d Q => p_kind (d := d) (Q := Q) d3 hk4
    have vb := fun d x ls y z Q => vb_t (d := d) (x := x) (ls := ls) (y := y) (z := z) (Q := Q) hxt
    have ef : f_tk T X l left = i_mx (Int32.ofNat 0) (i_mn left v) := by
      unfold f_tk
      rw [if_neg hne, hval]
    rw [ef]
    unfold i_mx i_mn
    rw [hx] at h3
    have hse : (some e = none) = False := eq_false (fun z => by cases z)
    simp (disch := first | omega | decide | exact ko_b _ | assumption | (simp only [t_si, t_sl, t_sr, t_sI, t_sR, n_si, n_sl, n_sr, n_sI, n_sR, r_si, r_sl, r_sI]; first | done | omega)) only [x_126_e, x_126_b, x_126_0, x_126_1, x_126_4, x_126_5, x_126_8, x_126_11, x_126_13, x_126_14, x_126_17, x_126_20, x_126_22, x_126_25, x_126_26, x_126_29, bk_v, bk_n, nl_I, nl_R, nl_L, nl_0, oo_lt, oo_le, oo_eq, oo_add, oo_sub, oo_tn, oo_ir, nn_leT, nn_leF, nn_ltT, nn_ltF, nn_eqT, nn_eqF, bv_0, bv_1, ko_b, ko_1, ko_0, true_and, and_true, if_true, if_false, not_true_eq_false, not_false_eq_true, oo_02, decide_eq_true_eq, decide_eq_false_iff_not, ite_not, Nat.reduceAdd, Nat.reduceLT, Nat.reduceSub, Nat.reduceLeDiff, reduceIte, Bool.true_eq_false, Bool.false_eq_true, reduceCtorEq, eq_self, decide_true, decide_false, bv_t, bv_f, and_self, t_si, t_sl, t_sr, t_sI, t_sR, n_si, n_sl, n_sr, n_sI, n_sR, r_si, r_sl, r_sI, h2, h3, ctab, hse]
    simp (disch := first | omega | decide | exact ko_b _ | assumption | (simp only [t_si, t_sl, t_sr, t_sI, t_sR, n_si, n_sl, n_sr, n_sI, n_sR, r_si, r_sl, r_sI]; first | done | omega)) only [x_126_e, x_126_b, x_126_30, x_126_31, x_126_34, x_126_37, x_126_38, x_126_41, x_126_42, x_126_45, x_126_48, x_126_50, x_126_53, x_126_56, x_126_57, x_126_60, x_126_63, x_126_64, x_126_67, x_126_68, x_126_71, x_126_74, bk_v, bk_n, nl_I, nl_R, nl_L, nl_0, oo_lt, oo_le, oo_eq, oo_add, oo_sub, oo_tn, oo_ir, nn_leT, nn_leF, nn_ltT, nn_ltF, nn_eqT, nn_eqF, bv_0, bv_1, ko_b, ko_1, ko_0, true_and, and_true, if_true, if_false, not_true_eq_false, not_false_eq_true, oo_02, decide_eq_true_eq, decide_eq_false_iff_not, ite_not, Nat.reduceAdd, Nat.reduceLT, Nat.reduceSub, Nat.reduceLeDiff, reduceIte, Bool.true_eq_false, Bool.false_eq_true, reduceCtorEq, eq_self, decide_true, decide_false, bv_t, bv_f, and_self, t_si, t_sl, t_sr, t_sI, t_sR, n_si, n_sl, n_sr, n_sI, n_sR, r_si, r_sl, r_sI, h4, q1, b1, g1, q2, b2, q3, b3]
    rw [vk, pk]
    simp (disch := first | omega | decide | exact ko_b _ | assumption | (simp only [t_si, t_sl, t_sr, t_sI, t_sR, n_si, n_sl, n_sr, n_sI, n_sR, r_si, r_sl, r_sI]; first | done | omega)) only [x_126_e, x_126_b, x_126_79, x_126_82, x_126_83, x_126_86, x_126_89, x_126_91, x_126_94, x_126_95, x_126_98, x_126_101, x_126_103, x_126_106, x_126_109, x_126_110, x_126_111, x_126_112, x_126_115, x_126_116, bk_v, bk_n, nl_I, nl_R, nl_L, nl_0, oo_lt, oo_le, oo_eq, oo_add, oo_sub, oo_tn, oo_ir, nn_leT, nn_leF, nn_ltT, nn_ltF, nn_eqT, nn_eqF, bv_0, bv_1, ko_b, ko_1, ko_0, true_and, and_true, if_true, if_false, not_true_eq_false, not_false_eq_true, oo_02, decide_eq_true_eq, decide_eq_false_iff_not, ite_not, Nat.reduceAdd, Nat.reduceLT, Nat.reduceSub, Nat.reduceLeDiff, reduceIte, Bool.true_eq_false, Bool.false_eq_true, reduceCtorEq, eq_self, decide_true, decide_false, bv_t, bv_f, and_self, t_si, t_sl, t_sr, t_sI, t_sR, n_si, n_sl, n_sr, n_sI, n_sR, r_si, r_sl, r_sI, q4, b4, q5, b5, m5, q6, x6, b6]
    rw [vb, qv]
    simp (disch := first | omega | decide | exact ko_b _ | assumption | (simp only [t_si, t_sl, t_sr, t_sI, t_sR, n_si, n_sl, n_sr, n_sI, n_sR, r_si, r_sl, r_sI]; first | done | omega)) only [x_126_e, x_126_b, x_126_122, x_126_125, x_126_128, bk_v, bk_n, nl_I, nl_R, nl_L, nl_0, oo_lt, oo_le, oo_eq, oo_add, oo_sub, oo_tn, oo_ir, nn_leT, nn_leF, nn_ltT, nn_ltF, nn_eqT, nn_eqF, bv_0, bv_1, ko_b, ko_1, ko_0, true_and, and_true, if_true, if_false, not_true_eq_false, not_false_eq_true, oo_02, decide_eq_true_eq, decide_eq_false_iff_not, ite_not, Nat.reduceAdd, Nat.reduceLT, Nat.reduceSub, Nat.reduceLeDiff, reduceIte, Bool.true_eq_false, Bool.false_eq_true, reduceCtorEq, eq_self, decide_true, decide_false, bv_t, bv_f, and_self, t_si, t_sl, t_sr, t_sI, t_sR, n_si, n_sl, n_sr, n_sI, n_sR, r_si, r_sl, r_sI]
theorem CS_mea2 {a n t : Nat} {X : Xm} {v : Int32} (h : CS_ w a n X) : CS_ (s_i w (a + 2) t v) a n (x_mea X t v) := by
  obtain ⟨h1, h2, h3, h4, h5, h6, h7⟩ := h
  have g : ∀ b k, b ≠ a + 2 → w_i (s_i w (a + 2) t v) b k = w_i w b k := fun b k hb => by rw [i_si, if_neg (fun z => hb z.1)]
  refine ⟨(g _ _ (by omega)).trans h1, (g _ _ (by omega)).trans h2, (g _ _ (by omega)).trans h3, fun k hk => (g _ _ (by omega)).trans (h4 k hk), fun k hk => ?_, fun k hk => (g _ _ (by omega)).trans (h6 k hk), fun k hk => (g _ _ (by omega)).trans (h7 k hk)⟩
  show _ = if k = t then v else xm_m X k
  rw [i_si]
  by_cases e : k = t
  · rw [if_pos ⟨rfl, e⟩, if_pos e]
  · rw [if_neg (fun z => e z.2), if_neg e]; exact h5 k hk
def Pw_ (G : Gm) (a b _k : Nat) : Prop := b = gm_of G ∨ b = a + 2
theorem c_sups {T : Tm} {X : Xm} {a d : Nat} {food : Int32} (hT : CT_ w G T) (hE : CE_ w G T) (hZ : GZ_ w G T) (hK : KC_ w) (hW : WT_ T) (hWE : WE_ T) (hA : SO_ w a) (hS : CS_ w a (tm_n T) X) (hX : WX_ (tm_n T) X) (ha : 1006 < a ∧ a + 4 < 1440) (h0 : Int32.ofNat 0 ≤ food) : ∃ w1, Fr_ (Pw_ G a) w w1 ∧ CS_ w1 a (tm_n T) (f_sup T X food).1 ∧ sp_ok X (f_sup T X food) ∧ ∀ Q, cl (d + 613) 137 [v_R (some a), v_R (some (gm_b G)), v_I food] w Q = Q (Sum.inl (some (v_I (f_sup T X food).2))) w1 := by
  have hn10 := hW.1
  have hL9 := hX.1
  have hgz : gz_ (gm_of G) := hZ.2.2.2.2.1.1
  have h15 : w_t w (gm_of G) = 1 := hT.2.2.2.2.2.2.2.2.2.2.2.2.2.2.1
  have h1 : w_t w (gm_b G) = 21 := hT.1
  have hof : ∀ i, i ≤ 4 → a + i ≠ gm_of G := fun i hi => by unfold gz_ at hgz; omega
  obtain ⟨t, ⟨i1, i2, i3⟩, q1⟩ := lp_ig (fun l (s : Xm × Int32) (t : Option Vl × Wd) Q => wp (d + 613) 137 5 [some (v_R (some a)), some (v_R (some (gm_b G))), some (v_I food), some (v_I s.2), some (v_I (Int32.ofNat l)), t.1] [] t.2 Q) (fun l s t => Fr_ (Pw_ G a) w t.2 ∧ CS_ t.2 a (tm_n T) s.1 ∧ sp_ok X s) (f_sp1 T) (xm_L X) 0 (X, food) (none, w) (fun l s t _ hl hC => by
    obtain ⟨i1, i2, i3⟩ := hC
    have hl : l < xm_L X := by omega
    have hsh : ∀ b, Sh_ w t.2 b := fun b => ⟨by rw [i1.1], by rw [i1.2.1], fun k => by rw [i1.2.2.1]⟩
    have h6 : ∀ b k, gz_ b → b < w_z w → 20 ≤ w_t w b → w_i t.2 b k = w_i w b k := fun b k g1 _ g3 => i1.2.2.2.2.2 b k (fun z => z.elim (fun z => by rw [z, h15] at g3; omega) (fun z => by unfold gz_ at g1; omega))
    have hz9 : w_z w ≤ w_z t.2 := by rw [i1.2.2.2.1]; exact Nat.le_refl _
    have hX1 := WX_sp hX i3
    have eL : xm_L s.1 = xm_L X := i3.1
    have ht := hX1.2.1 l (by omega)
    obtain ⟨t1, f1, g1⟩ := c_tks (X := s.1) (l := l) (left := s.2) (d := d) (CT_ag hT hZ (fun b _ _ => hsh b) h6) (CE_ag hE hz9 (fun b _ _ => hsh b) h6) (GZ_ag hZ hz9) (KC_fr hK i1 (fun b k z => by rcases z with z | z <;> (unfold gz_ at hgz; omega))) hW hWE ht i3.2.2.2.2.2.2
    have s1 : CS_ t1 a (tm_n T) s.1 := CS_ag i2 (fun b k b1 b2 => f1.2.2.2.2.2 b k (fun z => by have := hof (b - a) (by omega); have z : b = gm_of G := z; omega))
    have s2 := CS_mea2 (t := xm_t s.1 l) (v := f_tk T s.1 l s.2) s1
    have hA1 : SO_ t1 a := SO_ag hA (fun b _ _ => ⟨by rw [f1.1, i1.1], by rw [f1.2.1, i1.2.1], fun k => by rw [f1.2.2.1, i1.2.2.1]⟩)
    have hA0 : SO_ t.2 a := SO_ag hA (fun b _ _ => hsh b)
    refine ⟨(some (v_I (f_tk T s.1 l s.2)), s_i t1 (a + 2) (xm_t s.1 l) (f_tk T s.1 l s.2)), ⟨fr_si (fr_tr i1 (fr_mo f1 (fun b k z => Or.inl z))) (Or.inr rfl), s2, sp_ok1 i3⟩, fun Q => ?_⟩
    have tb : w_t t.2 (gm_b G) = 21 := by rw [i1.1]; exact h1
    unfold SO_ at hA0 hA1
    unfold CS_ at i2 s1
    obtain ⟨j1, j2, j3, j4, j5, j6, j7⟩ := i2
    obtain ⟨m1, m2, m3, m4, m5, m6, m7⟩ := s1
    have j4l := j4 l (by omega)
    have m4l := m4 l (by omega)
    have eab : Int32.ofNat (xm_L s.1) - Int32.ofNat 1 - Int32.ofNat l = Int32.ofNat (xm_L s.1 - 1 - l) := by
      rw [oo_sub (by omega), oo_sub (by omega)]
    rw [x_137_5]
    simp (disch := first | omega | decide | exact ko_b _ | assumption | (simp only [t_si, t_sl, t_sr, t_sI, t_sR, n_si, n_sl, n_sr, n_sI, n_sR, r_si, r_sl, r_sI]; first | done | omega)) only [x_137_e, x_137_b, x_137_7, x_137_8, x_137_11, x_137_14, x_137_15, x_137_16, x_137_19, x_137_21, x_137_22, x_137_24, x_137_25, x_137_26, x_137_29, x_137_30, x_137_31, x_137_33, x_137_34, x_137_37, x_137_39, x_137_40, x_137_43, x_137_44, x_137_47, x_137_49, x_137_50, x_137_52, x_137_53, x_137_54, x_137_56, x_137_57, x_137_58, x_137_61, bk_v, bk_n, nl_I, nl_R, nl_0, oo_le, oo_lt, nn_leF, nn_ltT, if_false, if_true, oo_tn, oo_ir, true_and, hA0, hA1, j1, j4l, m4l, eab, g1, oo_add, Nat.reduceAdd, t_si, t_sl, t_sr, t_sI, t_sR, n_si, n_sl, n_sr, n_sI, n_sR, r_si, r_sl, r_sI]
    rfl) ⟨fr_rf _ _, hS, sp_ok0 h0⟩
  have i3 : sp_ok X (f_sup T X food) := i3
  refine ⟨t.2, i1, i2, i3, fun Q => ?_⟩
  have hA0 : SO_ t.2 a := SO_ag hA (fun b _ _ => ⟨by rw [i1.1], by rw [i1.2.1], fun k => by rw [i1.2.2.1]⟩)
  have j1 : w_i t.2 a 4 = Int32.ofNat (xm_L X) := i2.1.trans (by rw [show xm_L (it_ (f_sp1 T) 0 (xm_L X) (X, food)).1 = xm_L X from i3.1])
  unfold SO_ at hA0
  have fin : wp (d + 613) 137 5 [some (v_R (some a)), some (v_R (some (gm_b G))), some (v_I food), some (v_I (it_ (f_sp1 T) 0 (xm_L X) (X, food)).2), some (v_I (Int32.ofNat (0 + xm_L X))), t.1] [] t.2 Q = Q (Sum.inl (some (v_I (f_sup T X food).2))) t.2 := by
    rw [x_137_5]
    simp (disch := first | omega | decide | exact ko_b _ | assumption | (simp only [t_si, t_sl, t_sr, t_sI, t_sR, n_si, n_sl, n_sr, n_sI, n_sR, r_si, r_sl, r_sI]; first | done | omega)) only [x_137_e, x_137_b, x_137_7, x_137_8, x_137_11, x_137_e, x_137_b, x_137_64, x_137_65, bk_v, bk_n, nl_I, nl_R, nl_L, nl_0, oo_lt, oo_le, oo_eq, oo_add, oo_sub, oo_tn, oo_ir, nn_leT, nn_leF, nn_ltT, nn_ltF, nn_eqT, nn_eqF, bv_0, bv_1, ko_b, ko_1, ko_0, true_and, and_true, if_true, if_false, not_true_eq_false, not_false_eq_true, oo_02, decide_eq_true_eq, decide_eq_false_iff_not, ite_not, Nat.reduceAdd, Nat.reduceLT, Nat.reduceSub, Nat.reduceLeDiff, reduceIte, Bool.true_eq_false, Bool.false_eq_true, reduceCtorEq, eq_self, decide_true, decide_false, bv_t, bv_f, and_self, t_si, t_sl, t_sr, t_sI, t_sR, n_si, n_sl, n_sr, n_sI, n_sR, r_si, r_sl, r_sI, hA0, j1]
    rfl
  refine Eq.trans ?_ ((q1 Q).trans fin)
  simp (disch := first | omega | decide | exact ko_b _ | assumption | (simp only [t_si, t_sl, t_sr, t_sI, t_sR, n_si, n_sl, n_sr, n_sI, n_sR, r_si, r_sl, r_sI]; first | done | omega)) only [x_137_e, x_137_b, x_137_0, x_137_1, x_137_2, x_137_3, bk_v, bk_n, nl_I, nl_R, nl_L, nl_0, oo_lt, oo_le, oo_eq, oo_add, oo_sub, oo_tn, oo_ir, nn_leT, nn_leF, nn_ltT, nn_ltF, nn_eqT, nn_eqF, bv_0, bv_1, ko_b, ko_1, ko_0, true_and, and_true, if_true, if_false, not_true_eq_false, not_false_eq_true, oo_02, decide_eq_true_eq, decide_eq_false_iff_not, ite_not, Nat.reduceAdd, Nat.reduceLT, Nat.reduceSub, Nat.reduceLeDiff, reduceIte, Bool.true_eq_false, Bool.false_eq_true, reduceCtorEq, eq_self, decide_true, decide_false, bv_t, bv_f, and_self, t_si, t_sl, t_sr, t_sI, t_sR, n_si, n_sl, n_sr, n_sI, n_sR, r_si, r_sl, r_sI]
end
