/-! THE COMPONENT's expressions -/
set_option maxRecDepth 100000
theorem om_1 (n : Nat) : Int32.ofNat (n + 1) + Int32.ofInt (-1) = Int32.ofNat n := by
  rw [← oo_add n 1, Int32.add_assoc]
  have e : Int32.ofNat 1 + Int32.ofInt (-1) = 0 := by decide
  rw [e, Int32.add_zero]
theorem EX_mo : ∀ (n m : Nat) (w : Wd) (e : Nat) (c : List Int32), n ≤ m → EX_ n w e c → EX_ m w e c := by
  intro n
  induction n with
  | zero => intro m w e c _ h; exact h.elim
  | succ n ih =>
    intro m w e c hm h
    cases m with
    | zero => omega
    | succ m =>
      obtain ⟨h1, h2, h3⟩ := h
      refine ⟨h1, h2, ?_⟩
      rcases h3 with h | h | ⟨a1, p, c1, a2, a3, a4⟩ | ⟨a1, l, r, c1, c2, o, a2, a3, a4, a5, a6, a7, a8⟩
      · exact Or.inl h
      · exact Or.inr (Or.inl h)
      · exact Or.inr (Or.inr (Or.inl ⟨a1, p, c1, a2, ih m w p c1 (by omega) a3, a4⟩))
      · exact Or.inr (Or.inr (Or.inr ⟨a1, l, r, c1, c2, o, a2, a3, a4, a5, ih m w l c1 (by omega) a6, ih m w r c2 (by omega) a7, a8⟩))
def Ag_ (w w1 : Wd) (a : Nat) : Prop := w_t w1 a = w_t w a ∧ (∀ k, w_i w1 a k = w_i w a k) ∧ ∀ k, w_r w1 a k = w_r w a k
theorem ag_tr {w w1 w2 : Wd} {a : Nat} (h1 : Ag_ w w1 a) (h2 : Ag_ w1 w2 a) : Ag_ w w2 a := ⟨h2.1.trans h1.1, fun k => (h2.2.1 k).trans (h1.2.1 k), fun k => (h2.2.2 k).trans (h1.2.2 k)⟩
theorem ag_kp {P : Nat → Prop} {w w1 : Wd} {a : Nat} (h : Kp_ P w w1) (ha : P a) : Ag_ w w1 a := ⟨(h a ha).1, (h a ha).2.2.1, (h a ha).2.2.2.1⟩
/-- an expression that stays one wherever its own cells stay -/
def EXr_ (lo : Nat) (w : Wd) (o : Nat) (c : List Int32) : Prop := ∀ w1, w_z w ≤ w_z w1 → (∀ a, lo ≤ a → a < w_z w → Ag_ w w1 a) → EX_ c.length w1 o c
theorem exr_up {lo lo1 o : Nat} {w w1 : Wd} {c : List Int32} (h : EXr_ lo1 w o c) (hl : lo ≤ lo1) (hz : w_z w ≤ w_z w1) (ha : ∀ a, lo1 ≤ a → a < w_z w → Ag_ w w1 a) : EXr_ lo w1 o c := fun w2 h2 a2 => h w2 (by omega) fun a h3 h4 => ag_tr (ha a h3 h4) (a2 a (by omega) (by omega))
theorem exr_both {lo N l r o : Nat} {w : Wd} {c1 c2 : List Int32} (hlo : 1477 ≤ lo) (hN : lo ≤ N) (hz : N < w_z w) (ho : o < 8) (tN : w_t w N = 30) (iN : w_i w N 0 = ch_o o) (r1 : w_r w N 1 = some l) (r2 : w_r w N 2 = some r) (hl : EXr_ lo w l c1) (hr : EXr_ lo w r c2) : EXr_ lo w N (c1 ++ (c2 ++ [sg_n o])) := fun w1 h1 a1 => by
  obtain ⟨g1, g2, g3⟩ := a1 N hN hz
  have e : (c1 ++ (c2 ++ [sg_n o])).length = (c1.length + c2.length) + 1 := by simp only [List.length_append, List.length_singleton]; omega
  rw [e]
  exact ⟨Or.inr (by omega), by omega, Or.inr (Or.inr (Or.inr ⟨g1.trans tN, l, r, c1, c2, o, ho, (g2 0).trans iN, (g3 1).trans r1, (g3 2).trans r2, EX_mo _ _ _ _ _ (by omega) (hl w1 h1 a1), EX_mo _ _ _ _ _ (by omega) (hr w1 h1 a1), rfl⟩))⟩
theorem exr_not {lo N p : Nat} {w : Wd} {c : List Int32} (hlo : 1477 ≤ lo) (hN : lo ≤ N) (hz : N < w_z w) (tN : w_t w N = 31) (r1 : w_r w N 0 = some p) (hp : EXr_ lo w p c) : EXr_ lo w N (c ++ [Int32.ofInt (-28)]) := fun w1 h1 a1 => by
  obtain ⟨g1, g2, g3⟩ := a1 N hN hz
  have e : (c ++ [Int32.ofInt (-28)]).length = c.length + 1 := by simp only [List.length_append, List.length_singleton]
  rw [e]
  exact ⟨Or.inr (by omega), by omega, Or.inr (Or.inr (Or.inl ⟨g1.trans tN, p, c, (g3 0).trans r1, hp w1 h1 a1, rfl⟩))⟩
theorem exr_num {lo N v : Nat} {w : Wd} (hlo : 1477 ≤ lo) (hN : lo ≤ N) (hz : N < w_z w) (tN : w_t w N = 28) (iN : w_i w N 0 = Int32.ofNat v) (hv : v ≤ 9999) : EXr_ lo w N [Int32.ofNat v] := fun w1 h1 a1 => by
  obtain ⟨g1, g2, g3⟩ := a1 N hN hz
  exact ⟨Or.inr (by omega), by omega, Or.inl ⟨g1.trans tN, v, hv, rfl, (g2 0).trans iN⟩⟩
theorem exr_val {lo N j : Nat} {w : Wd} (hlo : 1477 ≤ lo) (hN : lo ≤ N) (hz : N < w_z w) (tN : w_t w N = 29) (rN : w_r w N 0 = some (200 + j)) (hj : j < 6) : EXr_ lo w N [Int32.ofInt (-1 - ((j : Nat) : Int))] := fun w1 h1 a1 => by
  obtain ⟨g1, g2, g3⟩ := a1 N hN hz
  exact ⟨Or.inr (by omega), by omega, Or.inr (Or.inl ⟨g1.trans tN, j, hj, (g3 0).trans rN, rfl⟩)⟩
section
variable {t : Tp} {R : Nat}
/-- what a reading of an expression gives -/
def Ov_ (lo : Nat) (t : Tp) (R : Nat) (w : Wd) (b : Nat) (r : Rs_) (L : Q_ → Prop) : Prop := match r with
  | Sum.inl e => Tx_ t R w b e L
  | Sum.inr q => ∃ w1 o, (Fk_ R w w1 ∧ Ce_ w1 R t ∧ Cr_ w1 R t q.2 ∧ Bd_ w b w1 q.2 ∧ EXr_ lo w1 o q.1) ∧ ∀ Q, L Q = Q (Sum.inl (some (v_R (some o)))) w1
def CEx_ (t : Tp) (R K mid ar : Nat) (f : Nat → Rs_) : Prop := ∀ (D : Nat) (w : Wd) (b : Nat), K ≤ D → Ce_ w R t → Cr_ w R t b → Ov_ (w_z w) t R w b (f b) (fun Q => cl D mid [v_R (some R), v_I (Int32.ofNat ar)] w Q)
/-- where no expression begins -/
def CEn_ (t : Tp) (R K mid ar : Nat) : Prop := ∀ (D : Nat) (w : Wd) (b : Nat), K ≤ D → Ce_ w R t → Cr_ w R t b → st_x t b = false → Ty_ R w (1, b) (fun Q => cl D mid [v_R (some R), v_I (Int32.ofNat ar)] w Q)
theorem Ce_z {w : Wd} (h : Ce_ w R t) : 1477 ≤ R ∧ R < w_z w ∧ t.2 ≤ 600 := ⟨h.1.2.2.2.2.2.2.2.2.1, h.1.2.2.2.2.2.2.2.2.2, h.1.2.2.2.2.2.1⟩
theorem ag_fk {w w1 : Wd} {a : Nat} (f : Fk_ R w w1) (ha : a < w_z w) (hR : R < a) : Ag_ w w1 a := ag_kp f.2.1 ⟨ha, by omega⟩
/-- the token stays where its own cells stay -/
theorem Cr_kp {P : Nat → Prop} {w w1 : Wd} {b : Nat} (h : Cr_ w R t b) (k : Kp_ P w w1) (hz : w_z w ≤ w_z w1) (hR : P R) (hP : ∀ a, a < w_z w → w_t w a = 38 ∨ w_t w a = 2 → P a) : Cr_ w1 R t b := by
  obtain ⟨h1, h2, h3, h4, h5, h6⟩ := h
  obtain ⟨k1, k2, k3, k4, k5⟩ := k R hR
  refine ⟨h1, (k3 2).trans h2, (k3 3).trans h3, (k4 6).trans h4, fun z => ?_, fun z => ?_⟩
  · obtain ⟨g1, g2, v, g3⟩ := h5 z
    exact ⟨(k3 5).trans g1, fun y => (k3 4).trans (g2 y), v, (k3 4).trans g3⟩
  · obtain ⟨q, p, g1, ⟨g2, g3, g4, g5⟩, d1, d2, d3, d4, d5, d6, d7, d8, d9⟩ := h6 z
    obtain ⟨a1, a2, a3, a4, a5⟩ := k q (hP q g2 (Or.inl d1))
    obtain ⟨b1, b2, b3, b4, b5⟩ := k p (hP p g3 (Or.inr d4))
    exact ⟨q, p, (k4 7).trans g1, ⟨by omega, by omega, g4, g5⟩, a1.trans d1, (a4 0).trans d2, (a3 1).trans d3, b1.trans d4, b2.trans d5, d6, fun k hk => (b3 k).trans (d7 k hk), d8, d9⟩
theorem Cr_n {w : Wd} {b g n : Nat} (h : Cr_ w R t b) (hR : R < w_z w) : Cr_ (s_n w g n) R t b := Cr_kp (P := fun a => a < w_z w) h (kp_n fun b hb => by omega) (by rw [z_sn]; omega) hR (fun a ha _ => ha)
theorem Cr_i {w : Wd} {b a k : Nat} {x : Int32} (h : Cr_ w R t b) (hR : a ≠ R) (ht : w_t w a ≠ 38 ∧ w_t w a ≠ 2) : Cr_ (s_i w a k x) R t b := Cr_kp (P := fun c => c ≠ a) h (kp_i fun b hb => hb) (Nat.le_refl _) (fun z => hR z.symm) (fun c _ hc z => by subst z; omega)
theorem Cr_r {w : Wd} {b a k : Nat} {x : Option Nat} (h : Cr_ w R t b) (hR : a ≠ R) (ht : w_t w a ≠ 38 ∧ w_t w a ≠ 2) : Cr_ (s_r w a k x) R t b := Cr_kp (P := fun c => c ≠ a) h (kp_r fun b hb => hb) (Nat.le_refl _) (fun z => hR z.symm) (fun c _ hc z => by subst z; omega)
theorem st_chd {w : Wd} {d q p n : Nat} {c : Nat → Nat} {Q : Q_} (h : Sd_ w q p n c) (hn : 0 < n) : cl (d + 3) 348 [v_R (some q), v_I (Int32.ofNat 0)] w Q = Q (Sum.inl (some (v_I (Int32.ofNat (c 0))))) w := by
  obtain ⟨h1, h2, h3, h4, h5, h6, h7, h8, h9⟩ := h
  obtain ⟨c1, c2⟩ := ch_26 ⟨c 0, h8 0 hn⟩
  have c1 : ((Int32.ofNat (c 0) &&& Int32.ofNat 255).toUInt32 % 65536).toInt32 = Int32.ofNat (c 0) := c1
  have c2 : k_o 5 (Int32.ofNat (c 0)) = true := c2
  have i9 := h7 0 hn
  simp (disch := first | omega | decide | exact ko_b _ | assumption | (simp only [t_si, t_sl, t_sr, t_sI, t_sR, n_si, n_sl, n_sr, n_sI, n_sR, r_si, r_sl, r_sI]; first | done | omega)) only [x_348_e, x_348_b, x_348_0, x_348_1, x_348_4, x_348_7, x_348_8, x_348_11, x_348_12, x_348_15, x_348_16, x_348_17, x_348_20, x_348_24, x_349_e, x_349_b, x_349_0, x_349_3, x_349_6, x_349_7, x_349_10, x_349_13, x_349_14, x_349_17, x_349_18, x_300_e, x_300_b, x_300_0, x_300_1, x_300_2, x_300_3, x_300_6, x_300_7, x_300_8, x_300_9, x_300_12, x_300_13, x_300_14, x_344_e, x_344_b, x_344_0, x_344_1, x_344_2, x_344_5, x_344_8, x_344_9, x_296_e, x_296_b, x_296_0, x_296_1, x_296_4, x_296_5, x_296_6, x_296_9, x_296_10, x_296_11, x_296_16, x_296_17, bk_v, bk_n, nl_I, nl_R, nl_L, nl_0, oo_lt, oo_le, oo_eq, oo_add, oo_sub, oo_tn, oo_ir, nn_leT, nn_leF, nn_ltT, nn_ltF, nn_eqT, nn_eqF, bv_0, bv_1, ko_b, ko_1, ko_0, true_and, and_true, if_true, if_false, not_true_eq_false, not_false_eq_true, oo_02, decide_eq_true_eq, decide_eq_false_iff_not, ite_not, Nat.reduceAdd, Nat.reduceLT, Nat.reduceSub, Nat.reduceLeDiff, reduceIte, Bool.true_eq_false, Bool.false_eq_true, reduceCtorEq, eq_self, decide_true, decide_false, bv_t, bv_f, and_self, t_si, t_sl, t_sr, t_sI, t_sR, n_si, n_sl, n_sr, n_sI, n_sR, r_si, r_sl, r_sI, h2, h3, h5, i9, c1]
/-- a sign's character -/
theorem c_act {w : Wd} {b : Nat} (hr : Cr_ w R t b) (k3 : tk_k t b = 3) : ∃ q, w_r w R 7 = some q ∧ w_t w q = 38 ∧ ∀ d Q, cl (d + 3) 348 [v_R (some q), v_I (Int32.ofNat 0)] w Q = Q (Sum.inl (some (v_I (Int32.ofNat (t.1 b))))) w := by
  have k0 : ¬ tk_k t b = 0 := by omega
  have k1 : ¬ tk_k t b = 1 := by omega
  have k2 : ¬ tk_k t b = 2 := by omega
  have e : tk_e t b = b + 1 := by unfold tk_e; rw [if_neg k0, if_neg k1, if_neg k2]
  obtain ⟨q, p, g1, g2, g3⟩ := hr.2.2.2.2.2 (Or.inr k3)
  exact ⟨q, g1, g3.1, fun d Q => st_chd g3 (by omega)⟩
theorem ko_o : ∀ o : Fin 8, k_o 5 (ch_o o.val) = true := by decide
/-- a node of two: a step, the node made, what is below, the node filled -/
def Bo_ (lo : Nat) (t : Tp) (R d mid a : Nat) (w : Wd) (b : Nat) (o oo : Nat) (c : List Int32) (r : Rs_) (u1 : Wd) : Prop := match r with
  | Sum.inl e => ∃ u3 x, (Fk_ R w u3 ∧ Bd_ w b u3 (t.2 + 1) ∧ Ft_ w u3 x e) ∧ ∀ Q, cl d mid [v_R (some R), v_I (Int32.ofNat a)] (s_n u1 30 3) Q = Q (Sum.inr x) u3
  | Sum.inr r => ∃ u3 o2 u4, (Fk_ R w u4 ∧ Ce_ u4 R t ∧ Cr_ u4 R t r.2 ∧ Bd_ w b u4 r.2 ∧ EXr_ lo u4 (w_z u1) (c ++ (r.1 ++ [sg_n oo]))) ∧ w_t u3 (w_z u1) = 30 ∧ (∀ Q, cl d mid [v_R (some R), v_I (Int32.ofNat a)] (s_n u1 30 3) Q = Q (Sum.inl (some (v_R (some o2)))) u3) ∧ ∀ Q, cl d 104 [v_R (some (w_z u1)), v_I (ch_o oo), v_R (some o), v_R (some o2)] u3 Q = Q (Sum.inl none) u4
theorem c_both {K k mid a d b o oo lo : Nat} {f : Nat → Rs_} {w : Wd} {c : List Int32} (hX : CEx_ t R K mid a f) (hg : ∀ b, RG_ k t b (f b)) (hd : K ≤ d) (h9 : 9 ≤ d) (he : Ce_ w R t) (hr : Cr_ w R t b) (hk : tk_k t b ≠ 0) (hlo : R < lo ∧ lo ≤ w_z w) (ho : oo < 8) (hex : EXr_ lo w o c) : ∃ u1, (∀ Q, cl d 265 [v_R (some R)] w Q = Q (Sum.inl none) u1) ∧ (w_t u1 R = 26 ∧ w_t (s_n u1 30 3) R = 26 ∧ 20 ≤ w_t (s_n u1 30 3) (w_z u1)) ∧ Bo_ lo t R d mid a w b o oo c (f (tk_n t b)) u1 := by
  obtain ⟨d, rfl⟩ : ∃ d', d = d' + 1 := ⟨d - 1, by omega⟩
  have hbt := tk_gt hk
  obtain ⟨u1, ⟨f1, e1, c1, ⟨z1, s1⟩, -⟩, q1⟩ := c_step (D := d + 1) h9 he hr hk
  obtain ⟨g1, g2, g3⟩ := Ce_z e1
  refine ⟨u1, q1, ⟨e1.1.1, by rw [t_sn, if_neg (by omega)]; exact e1.1.1, by rw [t_sn, if_pos rfl]; omega⟩, ?_⟩
  have f2 : Fk_ R u1 (s_n u1 30 3) := fk_n g2
  have e2 := Ce_fk e1 f2
  have c2 : Cr_ (s_n u1 30 3) R t (tk_n t b) := Cr_n c1 g2
  have X := hX (d + 1) (s_n u1 30 3) (tk_n t b) hd e2 c2
  have b2 : Bd_ w b (s_n u1 30 3) (tk_n t b) := by
    refine ⟨by omega, ?_, ?_⟩
    · rw [z_sn]; omega
    · rw [s_sn]; omega
  have tN : w_t (s_n u1 30 3) (w_z u1) = 30 := by rw [t_sn, if_pos rfl]
  unfold Bo_
  cases hx : f (tk_n t b) with
  | inl e =>
    rw [hx] at X
    obtain ⟨w3, x, ⟨f3, d3, t3⟩, q3⟩ := tx_up (L := fun Q => cl (d + 1) mid [v_R (some R), v_I (Int32.ofNat a)] (s_n u1 30 3) Q) X (fk_tr f1 f2) b2 (fun Q => rfl)
    exact ⟨w3, x, ⟨f3, d3, t3⟩, q3⟩
  | inr r =>
    rw [hx] at X
    obtain ⟨u3, o2, ⟨f3, e3, c3, b3, x3⟩, q3⟩ := X
    obtain ⟨-, g5, g6, g7⟩ := hg _ r.1 r.2 hx
    have hz3 := f3.1
    rw [z_sn] at hz3
    have tN3 : w_t u3 (w_z u1) = 30 := (f3.2.1 (w_z u1) ⟨by rw [z_sn]; omega, by omega⟩).1.trans tN
    have zz1 := f1.1
    have k5 := ko_o ⟨oo, ho⟩
    have k5 : k_o 5 (ch_o oo) = true := k5
    have f4 : Fk_ R w (s_r (s_r (s_i u3 (w_z u1) 0 (ch_o oo)) (w_z u1) 1 (some o)) (w_z u1) 2 (some o2)) := fk_nwr (fk_nwr (fk_new (fk_tr f1 (fk_tr f2 f3)) (by omega) (Ce_z he).2.1) (by omega) (Ce_z he).2.1) (by omega) (Ce_z he).2.1
    have A : ∀ a, a ≠ w_z u1 → Ag_ u3 (s_r (s_r (s_i u3 (w_z u1) 0 (ch_o oo)) (w_z u1) 1 (some o)) (w_z u1) 2 (some o2)) a := fun a ha => ⟨rfl, fun k => by rw [i_sr, i_sr, i_si, if_neg (by omega)], fun k => by rw [r_sr, if_neg (by omega), r_sr, if_neg (by omega), r_si]⟩
    refine ⟨u3, o2, _, ⟨f4, Ce_fk he f4, ?_, ?_, ?_⟩, tN3, q3, fun Q => ?_⟩
    · exact Cr_r (Cr_r (Cr_i c3 (by omega) (by omega)) (by omega) (by show w_t u3 _ ≠ _ ∧ w_t u3 _ ≠ _; omega)) (by omega) (by show w_t u3 _ ≠ _ ∧ w_t u3 _ ≠ _; omega)
    · have := bd_tr b2 b3
      exact this
    · refine exr_both (by omega) (by omega) (by show w_z u1 < w_z u3; omega) ho tN3 ?_ ?_ ?_ (exr_up hex (Nat.le_refl _) f4.1 fun a h1 h2 => ag_fk f4 h2 (by omega)) (exr_up x3 (by rw [z_sn]; omega) (Nat.le_refl _) fun a h1 h2 => A a (by rw [z_sn] at h1; omega))
      · rw [i_sr, i_sr, i_si, if_pos ⟨rfl, rfl⟩]
      · rw [r_sr, if_neg (by omega), r_sr, if_pos ⟨rfl, rfl⟩]
      · rw [r_sr, if_pos ⟨rfl, rfl⟩]
    · simp (disch := first | omega | decide | exact ko_b _ | assumption | (simp only [t_si, t_sl, t_sr, t_sI, t_sR, n_si, n_sl, n_sr, n_sI, n_sR, r_si, r_sl, r_sI]; first | done | omega)) only [x_104_e, x_104_b, x_104_0, x_104_1, x_104_4, x_104_5, x_104_6, x_104_9, x_104_10, x_104_11, x_104_14, x_104_15, x_104_16, x_104_19, x_98_e, x_98_b, x_98_0, x_98_1, x_98_4, bk_v, bk_n, nl_I, nl_R, nl_L, nl_0, oo_lt, oo_le, oo_eq, oo_add, oo_sub, oo_tn, oo_ir, nn_leT, nn_leF, nn_ltT, nn_ltF, nn_eqT, nn_eqF, bv_0, bv_1, ko_b, ko_1, ko_0, true_and, and_true, if_true, if_false, not_true_eq_false, not_false_eq_true, oo_02, decide_eq_true_eq, decide_eq_false_iff_not, ite_not, Nat.reduceAdd, Nat.reduceLT, Nat.reduceSub, Nat.reduceLeDiff, reduceIte, Bool.true_eq_false, Bool.false_eq_true, reduceCtorEq, eq_self, decide_true, decide_false, bv_t, bv_f, and_self, t_si, t_sl, t_sr, t_sI, t_sR, n_si, n_sl, n_sr, n_sI, n_sR, r_si, r_sl, r_sI]
/-! chains -/
theorem ch_c {k lo : Nat} {f : Nat → Rs_} {op : Nat → Option Nat} (hg : ∀ b, RG_ k t b (f b)) (ho : ∀ b o, op b = some o → o < 8 ∧ tk_k t b ≠ 0) (H : Option Vl → Nat → Wd → Q_ → Prop) (h0 : ∀ a2 o w b, Ce_ w R t → Cr_ w R t b → op b = none → ∀ Q, H a2 o w Q = Q (Sum.inl (some (v_R (some o)))) w) (h1 : ∀ a2 o w b c oo, Ce_ w R t → Cr_ w R t b → lo ≤ w_z w → EXr_ lo w o c → op b = some oo → match f (tk_n t b) with | Sum.inl e => Tx_ t R w b e (H a2 o w) | Sum.inr r => ∃ a3 o1 w1, (Fk_ R w w1 ∧ Ce_ w1 R t ∧ Cr_ w1 R t r.2 ∧ Bd_ w b w1 r.2 ∧ EXr_ lo w1 o1 (c ++ (r.1 ++ [sg_n oo]))) ∧ ∀ Q, H a2 o w Q = H a3 o1 w1 Q) : ∀ n a2 o w b c, t.2 < n + b → Ce_ w R t → Cr_ w R t b → lo ≤ w_z w → EXr_ lo w o c → Ov_ lo t R w b (ch_ t f op n c b) (H a2 o w) := by
  intro n
  induction n with
  | zero => intro a2 o w b c hn he hr hl hx; have := hr.1; omega
  | succ n ih =>
    intro a2 o w b c hn he hr hl hx
    unfold ch_
    cases hop : op b with
    | none => exact ⟨w, o, ⟨fk_rf _ _, he, hr, ⟨Nat.le_refl _, Nat.le_refl _, Nat.le_refl _⟩, hx⟩, h0 a2 o w b he hr hop⟩
    | some oo =>
      obtain ⟨o8, hk⟩ := ho b oo hop
      have hbt := tk_gt hk
      have S := h1 a2 o w b c oo he hr hl hx hop
      cases hy : f (tk_n t b) with
      | inl e =>
        rw [hy] at S
        exact S
      | inr r =>
        rw [hy] at S
        obtain ⟨a3, o1, w1, ⟨f1, e1, c1, b1, x1⟩, q1⟩ := S
        obtain ⟨-, g2, g3, g4⟩ := hg _ r.1 r.2 hy
        have I := ih a3 o1 w1 r.2 (c ++ (r.1 ++ [sg_n oo])) (by omega) e1 c1 (Nat.le_trans hl f1.1) x1
        simp only
        cases hz : ch_ t f op n (c ++ (r.1 ++ [sg_n oo])) r.2 with
        | inl e =>
          rw [hz] at I
          exact tx_up I f1 b1 q1
        | inr q =>
          rw [hz] at I
          obtain ⟨w2, o2, ⟨f2, e2, c2, b2, x2⟩, q2⟩ := I
          exact ⟨w2, o2, ⟨fk_tr f1 f2, e2, c2, bd_tr b1 b2, x2⟩, fun Q => (q1 Q).trans (q2 Q)⟩
theorem lv_cc {K a k sub d : Nat} {f : Nat → Rs_} {op : Nat → Option Nat} {w : Wd} {b : Nat} {a2 : Option Vl} (H : Option Vl → Nat → Wd → Q_ → Prop) (hX : CEx_ t R K sub a f) (hd : K ≤ d) (he : Ce_ w R t) (hr : Cr_ w R t b) (hg : ∀ b, RG_ k t b (f b)) (hL : ∀ n a2 o w2 b c, t.2 < n + b → Ce_ w2 R t → Cr_ w2 R t b → w_z w ≤ w_z w2 → EXr_ (w_z w) w2 o c → Ov_ (w_z w) t R w2 b (ch_ t f op n c b) (H a2 o w2)) {Q1 : Q_ → Prop} (hT : ∀ x w1, (∀ Q, cl d sub [v_R (some R), v_I (Int32.ofNat a)] w Q = Q (Sum.inr x) w1) → ∀ Q, Q1 Q = Q (Sum.inr x) w1) (hQ : ∀ o w1, w_t w1 R = 26 → (∀ Q, cl d sub [v_R (some R), v_I (Int32.ofNat a)] w Q = Q (Sum.inl (some (v_R (some o)))) w1) → ∀ Q, Q1 Q = H a2 o w1 Q) : Ov_ (w_z w) t R w b (lv_c t f op b) Q1 := by
  have X := hX d w b hd he hr
  unfold lv_c
  cases hx : f b with
  | inl e =>
    rw [hx] at X
    obtain ⟨w1, x, h1, q1⟩ := X
    exact ⟨w1, x, h1, hT x w1 q1⟩
  | inr r =>
    rw [hx] at X
    obtain ⟨w1, o, ⟨f1, e1, c1, b1, x1⟩, q1⟩ := X
    have q2 := hQ o w1 e1.1.1 q1
    obtain ⟨-, g2, g3, g4⟩ := hg _ r.1 r.2 hx
    have I := hL (t.2 + 1) a2 o w1 r.2 r.1 (by omega) e1 c1 f1.1 x1
    simp only
    cases hz : ch_ t f op (t.2 + 1) r.1 r.2 with
    | inl e =>
      rw [hz] at I
      exact tx_up I f1 b1 q2
    | inr q =>
      rw [hz] at I
      obtain ⟨w2, o2, ⟨f2, e2, c2, b2, x2⟩, q3⟩ := I
      exact ⟨w2, o2, ⟨fk_tr f1 f2, e2, c2, bd_tr b1 b2, x2⟩, fun Q => (q2 Q).trans (q3 Q)⟩
theorem g_1 {w : Wd} (h : KS_ w) {i x : Nat} (hi : i < 44) (hs : t_b.getD i [] = [Int32.ofNat x]) : Sc_ w (10 + i) (110 + i) [x] := ks_c h hi (by rw [hs]; rfl)
theorem e_prod {K a k : Nat} {f : Nat → Rs_} (hK : 11 ≤ K) (hX : CEx_ t R K 280 a f) (hg : ∀ b, RG_ k t b (f b)) : CEx_ t R (K + 1) 279 a (lv_c t f (op_m t)) := by
  intro D w0 b0 hD he0 hr0
  obtain ⟨d, rfl⟩ : ∃ d, D = d + 12 := ⟨D - 12, by omega⟩
  have t00 := he0.1.1
  refine lv_cc (a2 := none) (fun a2 o w Q => wp (d + 12) 279 6 [some (v_R (some R)), some (v_I (Int32.ofNat a)), some (v_R (some o)), a2] [] w Q) hX (d := d + 11) (by omega) he0 hr0 hg (ch_c hg op_mg _ ?_ ?_) ?_ ?_
  · intro a2 o w b he hr hop Q
    have t0 := he.1.1
    have ha := fun Q => c_isg (D := d + 11) (q0 := 25) (p0 := 125) (x := 42) (Q := Q) (by omega) he hr (g_1 he.2 (i := 15) (by omega) rfl) (by omega) (by omega)
    have hb := fun Q => c_isg (D := d + 11) (q0 := 26) (p0 := 126) (x := 47) (Q := Q) (by omega) he hr (g_1 he.2 (i := 16) (by omega) rfl) (by omega) (by omega)
    unfold op_m at hop
    have s1 : is_s t b 42 = false := by
      cases h : is_s t b 42 with
      | false => rfl
      | true => rw [if_pos h] at hop; cases hop
    have s2 : is_s t b 47 = false := by
      cases h : is_s t b 47 with
      | false => rfl
      | true => rw [s1, if_neg Bool.false_ne_true, if_pos h] at hop; cases hop
    rw [s1] at ha
    rw [s2] at hb
    show wp (d + 12) 279 6 _ _ w Q = _
    rw [x_279_6]
    simp (disch := first | omega | decide | exact ko_b _ | assumption | (simp only [t_si, t_sl, t_sr, t_sI, t_sR, n_si, n_sl, n_sr, n_sI, n_sR, r_si, r_sl, r_sI]; first | done | omega)) only [x_279_e, x_279_b, x_279_7, x_279_9, x_279_12, x_279_15, x_279_16, x_279_18, x_279_21, x_279_e, x_279_b, x_279_55, x_279_56, bk_v, bk_n, nl_I, nl_R, nl_L, nl_0, oo_lt, oo_le, oo_eq, oo_add, oo_sub, oo_tn, oo_ir, nn_leT, nn_leF, nn_ltT, nn_ltF, nn_eqT, nn_eqF, bv_0, bv_1, ko_b, ko_1, ko_0, true_and, and_true, if_true, if_false, not_true_eq_false, not_false_eq_true, oo_02, decide_eq_true_eq, decide_eq_false_iff_not, ite_not, Nat.reduceAdd, Nat.reduceLT, Nat.reduceSub, Nat.reduceLeDiff, reduceIte, Bool.true_eq_false, Bool.false_eq_true, reduceCtorEq, eq_self, decide_true, decide_false, bv_t, bv_f, and_self, t_si, t_sl, t_sr, t_sI, t_sR, n_si, n_sl, n_sr, n_sI, n_sR, r_si, r_sl, r_sI, ha, hb]
  · intro a2 o w b c oo he hr hlo hx hop
    have t0 := he.1.1
    have hRz := (Ce_z he).2.1
    have hop0 := hop
    have ha := fun Q => c_isg (D := d + 11) (q0 := 25) (p0 := 125) (x := 42) (Q := Q) (by omega) he hr (g_1 he.2 (i := 15) (by omega) rfl) (by omega) (by omega)
    have hb := fun Q => c_isg (D := d + 11) (q0 := 26) (p0 := 126) (x := 47) (Q := Q) (by omega) he hr (g_1 he.2 (i := 16) (by omega) rfl) (by omega) (by omega)
    obtain ⟨o8, hk⟩ := op_mg b oo hop
    obtain ⟨u1, y1, ⟨ty, tn, tN⟩, B⟩ := c_both (oo := oo) (d := d + 11) hX hg (by omega) (by omega) he hr hk ⟨(Ce_z he0).2.1, hlo⟩ o8 hx
    unfold op_m at hop
    have sg : ∃ ch, Int32.ofNat ch = ch_o oo ∧ tk_k t b = 3 ∧ t.1 b = ch ∧ ((is_s t b 42 = true) ∨ (is_s t b 42 = false ∧ is_s t b 47 = true)) := by
      by_cases s1 : is_s t b 42 = true
      · rw [if_pos s1] at hop
        cases hop
        exact ⟨42, rfl, (is_s_k s1).1, (is_s_k s1).2, Or.inl s1⟩
      · rw [if_neg s1] at hop
        by_cases s2 : is_s t b 47 = true
        · rw [if_pos s2] at hop
          cases hop
          exact ⟨47, rfl, (is_s_k s2).1, (is_s_k s2).2, Or.inr ⟨Bool.eq_false_iff.mpr s1, s2⟩⟩
        · rw [if_neg s2] at hop; cases hop
    obtain ⟨ch, g1, g2, g3, g4⟩ := sg
    obtain ⟨q, a1, tq, a3⟩ := c_act hr g2
    rw [g3, g1] at a3
    have pre : ∀ Q, wp (d + 12) 279 6 [some (v_R (some R)), some (v_I (Int32.ofNat a)), some (v_R (some o)), a2] [] w Q = wp (d + 12) 279 24 [some (v_R (some R)), some (v_I (Int32.ofNat a)), some (v_R (some o)), a2] [] w Q := fun Q => by
      rcases g4 with s1 | ⟨s1, s2⟩
      · rw [s1] at ha
        rw [x_279_6]
        simp (disch := first | omega | decide | exact ko_b _ | assumption | (simp only [t_si, t_sl, t_sr, t_sI, t_sR, n_si, n_sl, n_sr, n_sI, n_sR, r_si, r_sl, r_sI]; first | done | omega)) only [x_279_e, x_279_b, x_279_7, x_279_9, x_279_12, x_279_15, x_279_16, x_279_18, x_279_21, bk_v, bk_n, nl_I, nl_R, nl_L, nl_0, oo_lt, oo_le, oo_eq, oo_add, oo_sub, oo_tn, oo_ir, nn_leT, nn_leF, nn_ltT, nn_ltF, nn_eqT, nn_eqF, bv_0, bv_1, ko_b, ko_1, ko_0, true_and, and_true, if_true, if_false, not_true_eq_false, not_false_eq_true, oo_02, decide_eq_true_eq, decide_eq_false_iff_not, ite_not, Nat.reduceAdd, Nat.reduceLT, Nat.reduceSub, Nat.reduceLeDiff, reduceIte, Bool.true_eq_false, Bool.false_eq_true, reduceCtorEq, eq_self, decide_true, decide_false, bv_t, bv_f, and_self, t_si, t_sl, t_sr, t_sI, t_sR, n_si, n_sl, n_sr, n_sI, n_sR, r_si, r_sl, r_sI, ha]
      · rw [s1] at ha
        rw [s2] at hb
        rw [x_279_6]
        simp (disch := first | omega | decide | exact ko_b _ | assumption | (simp only [t_si, t_sl, t_sr, t_sI, t_sR, n_si, n_sl, n_sr, n_sI, n_sR, r_si, r_sl, r_sI]; first | done | omega)) only [x_279_e, x_279_b, x_279_7, x_279_9, x_279_12, x_279_15, x_279_16, x_279_18, x_279_21, bk_v, bk_n, nl_I, nl_R, nl_L, nl_0, oo_lt, oo_le, oo_eq, oo_add, oo_sub, oo_tn, oo_ir, nn_leT, nn_leF, nn_ltT, nn_ltF, nn_eqT, nn_eqF, bv_0, bv_1, ko_b, ko_1, ko_0, true_and, and_true, if_true, if_false, not_true_eq_false, not_false_eq_true, oo_02, decide_eq_true_eq, decide_eq_false_iff_not, ite_not, Nat.reduceAdd, Nat.reduceLT, Nat.reduceSub, Nat.reduceLeDiff, reduceIte, Bool.true_eq_false, Bool.false_eq_true, reduceCtorEq, eq_self, decide_true, decide_false, bv_t, bv_f, and_self, t_si, t_sl, t_sr, t_sI, t_sR, n_si, n_sl, n_sr, n_sI, n_sR, r_si, r_sl, r_sI, ha, hb]
    unfold Bo_ at B
    cases hy : f (tk_n t b) with
    | inl e =>
      rw [hy] at B
      obtain ⟨u3, x, h3, q3⟩ := B
      refine ⟨u3, x, h3, fun Q => ?_⟩
      show wp (d + 12) 279 6 _ _ w Q = _
      rw [pre]
      simp (disch := first | omega | decide | exact ko_b _ | assumption | (simp only [t_si, t_sl, t_sr, t_sI, t_sR, n_si, n_sl, n_sr, n_sI, n_sR, r_si, r_sl, r_sI]; first | done | omega)) only [x_279_e, x_279_b, x_279_24, x_279_25, x_279_28, x_279_29, x_279_32, x_279_33, x_279_34, x_279_37, x_279_40, x_279_41, x_279_42, x_279_43, x_279_44, x_279_45, x_279_48, bk_v, bk_n, nl_I, nl_R, nl_L, nl_0, oo_lt, oo_le, oo_eq, oo_add, oo_sub, oo_tn, oo_ir, nn_leT, nn_leF, nn_ltT, nn_ltF, nn_eqT, nn_eqF, bv_0, bv_1, ko_b, ko_1, ko_0, true_and, and_true, if_true, if_false, not_true_eq_false, not_false_eq_true, oo_02, decide_eq_true_eq, decide_eq_false_iff_not, ite_not, Nat.reduceAdd, Nat.reduceLT, Nat.reduceSub, Nat.reduceLeDiff, reduceIte, Bool.true_eq_false, Bool.false_eq_true, reduceCtorEq, eq_self, decide_true, decide_false, bv_t, bv_f, and_self, t_si, t_sl, t_sr, t_sI, t_sR, n_si, n_sl, n_sr, n_sI, n_sR, r_si, r_sl, r_sI, a1, a3, y1, q3]
    | inr r =>
      rw [hy] at B
      obtain ⟨u3, o2, u4, ⟨f4, e4, c4, b4, x4⟩, t3, q3, q4⟩ := B
      refine ⟨some (v_I (ch_o oo)), w_z u1, u4, ⟨f4, e4, c4, b4, x4⟩, fun Q => ?_⟩
      show wp (d + 12) 279 6 _ _ w Q = wp (d + 12) 279 6 _ _ u4 Q
      rw [pre]
      simp (disch := first | omega | decide | exact ko_b _ | assumption | (simp only [t_si, t_sl, t_sr, t_sI, t_sR, n_si, n_sl, n_sr, n_sI, n_sR, r_si, r_sl, r_sI]; first | done | omega)) only [x_279_e, x_279_b, x_279_24, x_279_25, x_279_28, x_279_29, x_279_32, x_279_33, x_279_34, x_279_37, x_279_40, x_279_41, x_279_42, x_279_43, x_279_44, x_279_45, x_279_48, x_279_51, x_279_52, bk_v, bk_n, nl_I, nl_R, nl_L, nl_0, oo_lt, oo_le, oo_eq, oo_add, oo_sub, oo_tn, oo_ir, nn_leT, nn_leF, nn_ltT, nn_ltF, nn_eqT, nn_eqF, bv_0, bv_1, ko_b, ko_1, ko_0, true_and, and_true, if_true, if_false, not_true_eq_false, not_false_eq_true, oo_02, decide_eq_true_eq, decide_eq_false_iff_not, ite_not, Nat.reduceAdd, Nat.reduceLT, Nat.reduceSub, Nat.reduceLeDiff, reduceIte, Bool.true_eq_false, Bool.false_eq_true, reduceCtorEq, eq_self, decide_true, decide_false, bv_t, bv_f, and_self, t_si, t_sl, t_sr, t_sI, t_sR, n_si, n_sl, n_sr, n_sI, n_sR, r_si, r_sl, r_sI, a1, a3, y1, q3, q4]
  · intro x w1 q1 Q
    show cl (d + 12) 279 _ w0 Q = _
    simp (disch := first | omega | decide | exact ko_b _ | assumption | (simp only [t_si, t_sl, t_sr, t_sI, t_sR, n_si, n_sl, n_sr, n_sI, n_sR, r_si, r_sl, r_sI]; first | done | omega)) only [x_279_e, x_279_b, x_279_0, x_279_1, x_279_2, x_279_5, bk_v, bk_n, nl_I, nl_R, nl_L, nl_0, oo_lt, oo_le, oo_eq, oo_add, oo_sub, oo_tn, oo_ir, nn_leT, nn_leF, nn_ltT, nn_ltF, nn_eqT, nn_eqF, bv_0, bv_1, ko_b, ko_1, ko_0, true_and, and_true, if_true, if_false, not_true_eq_false, not_false_eq_true, oo_02, decide_eq_true_eq, decide_eq_false_iff_not, ite_not, Nat.reduceAdd, Nat.reduceLT, Nat.reduceSub, Nat.reduceLeDiff, reduceIte, Bool.true_eq_false, Bool.false_eq_true, reduceCtorEq, eq_self, decide_true, decide_false, bv_t, bv_f, and_self, t_si, t_sl, t_sr, t_sI, t_sR, n_si, n_sl, n_sr, n_sI, n_sR, r_si, r_sl, r_sI, q1]
  · intro o w1 t1 q1 Q
    show cl (d + 12) 279 _ w0 Q = wp (d + 12) 279 6 _ _ w1 Q
    simp (disch := first | omega | decide | exact ko_b _ | assumption | (simp only [t_si, t_sl, t_sr, t_sI, t_sR, n_si, n_sl, n_sr, n_sI, n_sR, r_si, r_sl, r_sI]; first | done | omega)) only [x_279_e, x_279_b, x_279_0, x_279_1, x_279_2, x_279_5, bk_v, bk_n, nl_I, nl_R, nl_L, nl_0, oo_lt, oo_le, oo_eq, oo_add, oo_sub, oo_tn, oo_ir, nn_leT, nn_leF, nn_ltT, nn_ltF, nn_eqT, nn_eqF, bv_0, bv_1, ko_b, ko_1, ko_0, true_and, and_true, if_true, if_false, not_true_eq_false, not_false_eq_true, oo_02, decide_eq_true_eq, decide_eq_false_iff_not, ite_not, Nat.reduceAdd, Nat.reduceLT, Nat.reduceSub, Nat.reduceLeDiff, reduceIte, Bool.true_eq_false, Bool.false_eq_true, reduceCtorEq, eq_self, decide_true, decide_false, bv_t, bv_f, and_self, t_si, t_sl, t_sr, t_sI, t_sR, n_si, n_sl, n_sr, n_sI, n_sR, r_si, r_sl, r_sI, q1]
theorem e_prodn {K a : Nat} (hK : 11 ≤ K) (hN : CEn_ t R K 280 a) : CEn_ t R (K + 1) 279 a := by
  intro D w b hD he hr hs
  obtain ⟨d, rfl⟩ : ∃ d, D = d + 12 := ⟨D - 12, by omega⟩
  have t0 := he.1.1
  obtain ⟨w1, x, h1, q1⟩ := hN (d + 11) w b (by omega) he hr hs
  refine ⟨w1, x, h1, fun Q => ?_⟩
  show cl (d + 12) 279 _ w Q = _
  simp (disch := first | omega | decide | exact ko_b _ | assumption | (simp only [t_si, t_sl, t_sr, t_sI, t_sR, n_si, n_sl, n_sr, n_sI, n_sR, r_si, r_sl, r_sI]; first | done | omega)) only [x_279_e, x_279_b, x_279_0, x_279_1, x_279_2, x_279_5, bk_v, bk_n, nl_I, nl_R, nl_L, nl_0, oo_lt, oo_le, oo_eq, oo_add, oo_sub, oo_tn, oo_ir, nn_leT, nn_leF, nn_ltT, nn_ltF, nn_eqT, nn_eqF, bv_0, bv_1, ko_b, ko_1, ko_0, true_and, and_true, if_true, if_false, not_true_eq_false, not_false_eq_true, oo_02, decide_eq_true_eq, decide_eq_false_iff_not, ite_not, Nat.reduceAdd, Nat.reduceLT, Nat.reduceSub, Nat.reduceLeDiff, reduceIte, Bool.true_eq_false, Bool.false_eq_true, reduceCtorEq, eq_self, decide_true, decide_false, bv_t, bv_f, and_self, t_si, t_sl, t_sr, t_sI, t_sR, n_si, n_sl, n_sr, n_sI, n_sR, r_si, r_sl, r_sI, q1]
theorem e_sum {K a k : Nat} {f : Nat → Rs_} (hK : 11 ≤ K) (hX : CEx_ t R K 279 a f) (hg : ∀ b, RG_ k t b (f b)) : CEx_ t R (K + 1) 278 a (lv_c t f (op_a t)) := by
  intro D w0 b0 hD he0 hr0
  obtain ⟨d, rfl⟩ : ∃ d, D = d + 12 := ⟨D - 12, by omega⟩
  have t00 := he0.1.1
  refine lv_cc (a2 := none) (fun a2 o w Q => wp (d + 12) 278 6 [some (v_R (some R)), some (v_I (Int32.ofNat a)), some (v_R (some o)), a2] [] w Q) hX (d := d + 11) (by omega) he0 hr0 hg (ch_c hg op_ag _ ?_ ?_) ?_ ?_
  · intro a2 o w b he hr hop Q
    have t0 := he.1.1
    have ha := fun Q => c_isg (D := d + 11) (q0 := 27) (p0 := 127) (x := 43) (Q := Q) (by omega) he hr (g_1 he.2 (i := 17) (by omega) rfl) (by omega) (by omega)
    have hb := fun Q => c_isg (D := d + 11) (q0 := 28) (p0 := 128) (x := 45) (Q := Q) (by omega) he hr (g_1 he.2 (i := 18) (by omega) rfl) (by omega) (by omega)
    unfold op_a at hop
    have s1 : is_s t b 43 = false := by
      cases h : is_s t b 43 with
      | false => rfl
      | true => rw [if_pos h] at hop; cases hop
    have s2 : is_s t b 45 = false := by
      cases h : is_s t b 45 with
      | false => rfl
      | true => rw [s1, if_neg Bool.false_ne_true, if_pos h] at hop; cases hop
    rw [s1] at ha
    rw [s2] at hb
    show wp (d + 12) 278 6 _ _ w Q = _
    rw [x_278_6]
    simp (disch := first | omega | decide | exact ko_b _ | assumption | (simp only [t_si, t_sl, t_sr, t_sI, t_sR, n_si, n_sl, n_sr, n_sI, n_sR, r_si, r_sl, r_sI]; first | done | omega)) only [x_278_e, x_278_b, x_278_7, x_278_9, x_278_12, x_278_15, x_278_16, x_278_18, x_278_21, x_278_e, x_278_b, x_278_55, x_278_56, bk_v, bk_n, nl_I, nl_R, nl_L, nl_0, oo_lt, oo_le, oo_eq, oo_add, oo_sub, oo_tn, oo_ir, nn_leT, nn_leF, nn_ltT, nn_ltF, nn_eqT, nn_eqF, bv_0, bv_1, ko_b, ko_1, ko_0, true_and, and_true, if_true, if_false, not_true_eq_false, not_false_eq_true, oo_02, decide_eq_true_eq, decide_eq_false_iff_not, ite_not, Nat.reduceAdd, Nat.reduceLT, Nat.reduceSub, Nat.reduceLeDiff, reduceIte, Bool.true_eq_false, Bool.false_eq_true, reduceCtorEq, eq_self, decide_true, decide_false, bv_t, bv_f, and_self, t_si, t_sl, t_sr, t_sI, t_sR, n_si, n_sl, n_sr, n_sI, n_sR, r_si, r_sl, r_sI, ha, hb]
  · intro a2 o w b c oo he hr hlo hx hop
    have t0 := he.1.1
    have hRz := (Ce_z he).2.1
    have hop0 := hop
    have ha := fun Q => c_isg (D := d + 11) (q0 := 27) (p0 := 127) (x := 43) (Q := Q) (by omega) he hr (g_1 he.2 (i := 17) (by omega) rfl) (by omega) (by omega)
    have hb := fun Q => c_isg (D := d + 11) (q0 := 28) (p0 := 128) (x := 45) (Q := Q) (by omega) he hr (g_1 he.2 (i := 18) (by omega) rfl) (by omega) (by omega)
    obtain ⟨o8, hk⟩ := op_ag b oo hop
    obtain ⟨u1, y1, ⟨ty, tn, tN⟩, B⟩ := c_both (oo := oo) (d := d + 11) hX hg (by omega) (by omega) he hr hk ⟨(Ce_z he0).2.1, hlo⟩ o8 hx
    unfold op_a at hop
    have sg : ∃ ch, Int32.ofNat ch = ch_o oo ∧ tk_k t b = 3 ∧ t.1 b = ch ∧ ((is_s t b 43 = true) ∨ (is_s t b 43 = false ∧ is_s t b 45 = true)) := by
      by_cases s1 : is_s t b 43 = true
      · rw [if_pos s1] at hop
        cases hop
        exact ⟨43, rfl, (is_s_k s1).1, (is_s_k s1).2, Or.inl s1⟩
      · rw [if_neg s1] at hop
        by_cases s2 : is_s t b 45 = true
        · rw [if_pos s2] at hop
          cases hop
          exact ⟨45, rfl, (is_s_k s2).1, (is_s_k s2).2, Or.inr ⟨Bool.eq_false_iff.mpr s1, s2⟩⟩
        · rw [if_neg s2] at hop; cases hop
    obtain ⟨ch, g1, g2, g3, g4⟩ := sg
    obtain ⟨q, a1, tq, a3⟩ := c_act hr g2
    rw [g3, g1] at a3
    have pre : ∀ Q, wp (d + 12) 278 6 [some (v_R (some R)), some (v_I (Int32.ofNat a)), some (v_R (some o)), a2] [] w Q = wp (d + 12) 278 24 [some (v_R (some R)), some (v_I (Int32.ofNat a)), some (v_R (some o)), a2] [] w Q := fun Q => by
      rcases g4 with s1 | ⟨s1, s2⟩
      · rw [s1] at ha
        rw [x_278_6]
        simp (disch := first | omega | decide | exact ko_b _ | assumption | (simp only [t_si, t_sl, t_sr, t_sI, t_sR, n_si, n_sl, n_sr, n_sI, n_sR, r_si, r_sl, r_sI]; first | done | omega)) only [x_278_e, x_278_b, x_278_7, x_278_9, x_278_12, x_278_15, x_278_16, x_278_18, x_278_21, bk_v, bk_n, nl_I, nl_R, nl_L, nl_0, oo_lt, oo_le, oo_eq, oo_add, oo_sub, oo_tn, oo_ir, nn_leT, nn_leF, nn_ltT, nn_ltF, nn_eqT, nn_eqF, bv_0, bv_1, ko_b, ko_1, ko_0, true_and, and_true, if_true, if_false, not_true_eq_false, not_false_eq_true, oo_02, decide_eq_true_eq, decide_eq_false_iff_not, ite_not, Nat.reduceAdd, Nat.reduceLT, Nat.reduceSub, Nat.reduceLeDiff, reduceIte, Bool.true_eq_false, Bool.false_eq_true, reduceCtorEq, eq_self, decide_true, decide_false, bv_t, bv_f, and_self, t_si, t_sl, t_sr, t_sI, t_sR, n_si, n_sl, n_sr, n_sI, n_sR, r_si, r_sl, r_sI, ha]
      · rw [s1] at ha
        rw [s2] at hb
        rw [x_278_6]
        simp (disch := first | omega | decide | exact ko_b _ | assumption | (simp only [t_si, t_sl, t_sr, t_sI, t_sR, n_si, n_sl, n_sr, n_sI, n_sR, r_si, r_sl, r_sI]; first | done | omega)) only [x_278_e, x_278_b, x_278_7, x_278_9, x_278_12, x_278_15, x_278_16, x_278_18, x_278_21, bk_v, bk_n, nl_I, nl_R, nl_L, nl_0, oo_lt, oo_le, oo_eq, oo_add, oo_sub, oo_tn, oo_ir, nn_leT, nn_leF, nn_ltT, nn_ltF, nn_eqT, nn_eqF, bv_0, bv_1, ko_b, ko_1, ko_0, true_and, and_true, if_true, if_false, not_true_eq_false, not_false_eq_true, oo_02, decide_eq_true_eq, decide_eq_false_iff_not, ite_not, Nat.reduceAdd, Nat.reduceLT, Nat.reduceSub, Nat.reduceLeDiff, reduceIte, Bool.true_eq_false, Bool.false_eq_true, reduceCtorEq, eq_self, decide_true, decide_false, bv_t, bv_f, and_self, t_si, t_sl, t_sr, t_sI, t_sR, n_si, n_sl, n_sr, n_sI, n_sR, r_si, r_sl, r_sI, ha, hb]
    unfold Bo_ at B
    cases hy : f (tk_n t b) with
    | inl e =>
      rw [hy] at B
      obtain ⟨u3, x, h3, q3⟩ := B
      refine ⟨u3, x, h3, fun Q => ?_⟩
      show wp (d + 12) 278 6 _ _ w Q = _
      rw [pre]
      simp (disch := first | omega | decide | exact ko_b _ | assumption | (simp only [t_si, t_sl, t_sr, t_sI, t_sR, n_si, n_sl, n_sr, n_sI, n_sR, r_si, r_sl, r_sI]; first | done | omega)) only [x_278_e, x_278_b, x_278_24, x_278_25, x_278_28, x_278_29, x_278_32, x_278_33, x_278_34, x_278_37, x_278_40, x_278_41, x_278_42, x_278_43, x_278_44, x_278_45, x_278_48, bk_v, bk_n, nl_I, nl_R, nl_L, nl_0, oo_lt, oo_le, oo_eq, oo_add, oo_sub, oo_tn, oo_ir, nn_leT, nn_leF, nn_ltT, nn_ltF, nn_eqT, nn_eqF, bv_0, bv_1, ko_b, ko_1, ko_0, true_and, and_true, if_true, if_false, not_true_eq_false, not_false_eq_true, oo_02, decide_eq_true_eq, decide_eq_false_iff_not, ite_not, Nat.reduceAdd, Nat.reduceLT, Nat.reduceSub, Nat.reduceLeDiff, reduceIte, Bool.true_eq_false, Bool.false_eq_true, reduceCtorEq, eq_self, decide_true, decide_false, bv_t, bv_f, and_self, t_si, t_sl, t_sr, t_sI, t_sR, n_si, n_sl, n_sr, n_sI, n_sR, r_si, r_sl, r_sI, a1, a3, y1, q3]
    | inr r =>
      rw [hy] at B
      obtain ⟨u3, o2, u4, ⟨f4, e4, c4, b4, x4⟩, t3, q3, q4⟩ := B
      refine ⟨some (v_I (ch_o oo)), w_z u1, u4, ⟨f4, e4, c4, b4, x4⟩, fun Q => ?_⟩
      show wp (d + 12) 278 6 _ _ w Q = wp (d + 12) 278 6 _ _ u4 Q
      rw [pre]
      simp (disch := first | omega | decide | exact ko_b _ | assumption | (simp only [t_si, t_sl, t_sr, t_sI, t_sR, n_si, n_sl, n_sr, n_sI, n_sR, r_si, r_sl, r_sI]; first | done | omega)) only [x_278_e, x_278_b, x_278_24, x_278_25, x_278_28, x_278_29, x_278_32, x_278_33, x_278_34, x_278_37, x_278_40, x_278_41, x_278_42, x_278_43, x_278_44, x_278_45, x_278_48, x_278_51, x_278_52, bk_v, bk_n, nl_I, nl_R, nl_L, nl_0, oo_lt, oo_le, oo_eq, oo_add, oo_sub, oo_tn, oo_ir, nn_leT, nn_leF, nn_ltT, nn_ltF, nn_eqT, nn_eqF, bv_0, bv_1, ko_b, ko_1, ko_0, true_and, and_true, if_true, if_false, not_true_eq_false, not_false_eq_true, oo_02, decide_eq_true_eq, decide_eq_false_iff_not, ite_not, Nat.reduceAdd, Nat.reduceLT, Nat.reduceSub, Nat.reduceLeDiff, reduceIte, Bool.true_eq_false, Bool.false_eq_true, reduceCtorEq, eq_self, decide_true, decide_false, bv_t, bv_f, and_self, t_si, t_sl, t_sr, t_sI, t_sR, n_si, n_sl, n_sr, n_sI, n_sR, r_si, r_sl, r_sI, a1, a3, y1, q3, q4]
  · intro x w1 q1 Q
    show cl (d + 12) 278 _ w0 Q = _
    simp (disch := first | omega | decide | exact ko_b _ | assumption | (simp only [t_si, t_sl, t_sr, t_sI, t_sR, n_si, n_sl, n_sr, n_sI, n_sR, r_si, r_sl, r_sI]; first | done | omega)) only [x_278_e, x_278_b, x_278_0, x_278_1, x_278_2, x_278_5, bk_v, bk_n, nl_I, nl_R, nl_L, nl_0, oo_lt, oo_le, oo_eq, oo_add, oo_sub, oo_tn, oo_ir, nn_leT, nn_leF, nn_ltT, nn_ltF, nn_eqT, nn_eqF, bv_0, bv_1, ko_b, ko_1, ko_0, true_and, and_true, if_true, if_false, not_true_eq_false, not_false_eq_true, oo_02, decide_eq_true_eq, decide_eq_false_iff_not, ite_not, Nat.reduceAdd, Nat.reduceLT, Nat.reduceSub, Nat.reduceLeDiff, reduceIte, Bool.true_eq_false, Bool.false_eq_true, reduceCtorEq, eq_self, decide_true, decide_false, bv_t, bv_f, and_self, t_si, t_sl, t_sr, t_sI, t_sR, n_si, n_sl, n_sr, n_sI, n_sR, r_si, r_sl, r_sI, q1]
  · intro o w1 t1 q1 Q
    show cl (d + 12) 278 _ w0 Q = wp (d + 12) 278 6 _ _ w1 Q
    simp (disch := first | omega | decide | exact ko_b _ | assumption | (simp only [t_si, t_sl, t_sr, t_sI, t_sR, n_si, n_sl, n_sr, n_sI, n_sR, r_si, r_sl, r_sI]; first | done | omega)) only [x_278_e, x_278_b, x_278_0, x_278_1, x_278_2, x_278_5, bk_v, bk_n, nl_I, nl_R, nl_L, nl_0, oo_lt, oo_le, oo_eq, oo_add, oo_sub, oo_tn, oo_ir, nn_leT, nn_leF, nn_ltT, nn_ltF, nn_eqT, nn_eqF, bv_0, bv_1, ko_b, ko_1, ko_0, true_and, and_true, if_true, if_false, not_true_eq_false, not_false_eq_true, oo_02, decide_eq_true_eq, decide_eq_false_iff_not, ite_not, Nat.reduceAdd, Nat.reduceLT, Nat.reduceSub, Nat.reduceLeDiff, reduceIte, Bool.true_eq_false, Bool.false_eq_true, reduceCtorEq, eq_self, decide_true, decide_false, bv_t, bv_f, and_self, t_si, t_sl, t_sr, t_sI, t_sR, n_si, n_sl, n_sr, n_sI, n_sR, r_si, r_sl, r_sI, q1]
theorem e_sumn {K a : Nat} (hK : 11 ≤ K) (hN : CEn_ t R K 279 a) : CEn_ t R (K + 1) 278 a := by
  intro D w b hD he hr hs
  obtain ⟨d, rfl⟩ : ∃ d, D = d + 12 := ⟨D - 12, by omega⟩
  have t0 := he.1.1
  obtain ⟨w1, x, h1, q1⟩ := hN (d + 11) w b (by omega) he hr hs
  refine ⟨w1, x, h1, fun Q => ?_⟩
  show cl (d + 12) 278 _ w Q = _
  simp (disch := first | omega | decide | exact ko_b _ | assumption | (simp only [t_si, t_sl, t_sr, t_sI, t_sR, n_si, n_sl, n_sr, n_sI, n_sR, r_si, r_sl, r_sI]; first | done | omega)) only [x_278_e, x_278_b, x_278_0, x_278_1, x_278_2, x_278_5, bk_v, bk_n, nl_I, nl_R, nl_L, nl_0, oo_lt, oo_le, oo_eq, oo_add, oo_sub, oo_tn, oo_ir, nn_leT, nn_leF, nn_ltT, nn_ltF, nn_eqT, nn_eqF, bv_0, bv_1, ko_b, ko_1, ko_0, true_and, and_true, if_true, if_false, not_true_eq_false, not_false_eq_true, oo_02, decide_eq_true_eq, decide_eq_false_iff_not, ite_not, Nat.reduceAdd, Nat.reduceLT, Nat.reduceSub, Nat.reduceLeDiff, reduceIte, Bool.true_eq_false, Bool.false_eq_true, reduceCtorEq, eq_self, decide_true, decide_false, bv_t, bv_f, and_self, t_si, t_sl, t_sr, t_sI, t_sR, n_si, n_sl, n_sr, n_sI, n_sR, r_si, r_sl, r_sI, q1]
/-! a part -/
theorem e_part {K k a : Nat} {f : Nat → Rs_} (hK : 11 ≤ K) (hX : CEx_ t R K 275 (a + 1) f) (hg : ∀ b, RG_ k t b (f b)) : CEx_ t R (K + 1) 280 a (pt_ t f) := by
  intro D w b hD he hr
  obtain ⟨d, rfl⟩ : ∃ d, D = d + 12 := ⟨D - 12, by omega⟩
  have t0 := he.1.1
  obtain ⟨hR1, hR2, hN6⟩ := Ce_z he
  have hq := hr
  obtain ⟨hb, r2, r3, r6, -, -⟩ := hq
  have hk5 := tk_k5 (t := t) (b := b)
  have y1 := kid_q _ hk5 210 (by omega)
  have y2 := kid_q _ hk5 211 (by omega)
  have x1 := kid_1 _ hk5
  have x2 := kid_2 _ hk5
  have ck1 := fun d x Q => c_ck1 (w := w) (R := R) (d := d) (x := x) (Q := Q)
  have hp := fun Q => c_isg (D := d + 11) (q0 := 16) (p0 := 116) (x := 40) (Q := Q) (by omega) he hr (g_1 he.2 (i := 6) (by omega) rfl) (by omega) (by omega)
  unfold pt_
  by_cases k2 : tk_k t b = 2
  · rw [if_pos k2]
    have f1 : Fk_ R w (s_n w 28 1) := fk_n hR2
    have e1 := Ce_fk he f1
    have c1 : Cr_ (s_n w 28 1) R t b := Cr_n hr hR2
    have tn : w_t (s_n w 28 1) R = 26 := e1.1.1
    have tN : w_t (s_n w 28 1) (w_z w) = 28 := by rw [t_sn, if_pos rfl]
    have N := c_num (D := d + 11) (lo := 0) (hi := 9999) (by omega) e1 c1 (by omega) (by omega)
    cases hx : nm_ t 0 9999 b with
    | inl e =>
      rw [hx] at N
      refine ty_tx (L2 := fun Q => cl (d + 11) 274 [v_R (some R), v_I (Int32.ofNat 0), v_I (Int32.ofNat 9999)] (s_n w 28 1) Q) N f1 hb (by rw [z_sn]; omega) (by rw [s_sn]; omega) (fun Q => ?_)
      obtain ⟨w1, x, h1, q1⟩ := N
      show cl (d + 12) 280 _ w Q = _
      have q1 : ∀ Q, cl (d + 11) 274 [v_R (some R), v_I (Int32.ofNat 0), v_I (Int32.ofNat 9999)] (s_n w 28 1) Q = Q (Sum.inr x) w1 := q1
      rw [q1]
      simp (disch := first | omega | decide | exact ko_b _ | assumption | (simp only [t_si, t_sl, t_sr, t_sI, t_sR, n_si, n_sl, n_sr, n_sI, n_sR, r_si, r_sl, r_sI]; first | done | omega)) only [x_280_e, x_280_b, x_280_0, x_280_1, x_280_4, x_280_7, x_280_10, x_280_13, x_280_14, x_280_15, x_280_16, x_280_19, x_280_22, x_280_25, bk_v, bk_n, nl_I, nl_R, nl_L, nl_0, oo_lt, oo_le, oo_eq, oo_add, oo_sub, oo_tn, oo_ir, nn_leT, nn_leF, nn_ltT, nn_ltF, nn_eqT, nn_eqF, bv_0, bv_1, ko_b, ko_1, ko_0, true_and, and_true, if_true, if_false, not_true_eq_false, not_false_eq_true, oo_02, decide_eq_true_eq, decide_eq_false_iff_not, ite_not, Nat.reduceAdd, Nat.reduceLT, Nat.reduceSub, Nat.reduceLeDiff, reduceIte, Bool.true_eq_false, Bool.false_eq_true, reduceCtorEq, eq_self, decide_true, decide_false, bv_t, bv_f, and_self, t_si, t_sl, t_sr, t_sI, t_sR, n_si, n_sl, n_sr, n_sI, n_sR, r_si, r_sl, r_sI, r6, kz_, x2, k2, q1]
    | inr r =>
      rw [hx] at N
      obtain ⟨w1, ⟨f2, e2, c2, ⟨z2, s2⟩, b2⟩, q1⟩ := N
      have q1 : ∀ Q, cl (d + 11) 274 [v_R (some R), v_I (Int32.ofNat 0), v_I (Int32.ofNat 9999)] (s_n w 28 1) Q = Q (Sum.inl (some (v_I (Int32.ofNat r.1)))) w1 := q1
      obtain ⟨-, -, n3, n4, n5, n6, n7, n8⟩ := nm_g (v := r.1) (b' := r.2) hx
      have zz2 := f2.1
      rw [z_sn] at zz2 z2
      rw [s_sn] at s2
      have t1N : w_t w1 (w_z w) = 28 := (f2.2.1 (w_z w) ⟨by rw [z_sn]; omega, by omega⟩).1.trans tN
      have t1R := e2.1.1
      have f3 : Fk_ R w (s_i w1 (w_z w) 0 (Int32.ofNat r.1)) := fk_new (fk_tr f1 f2) (Nat.le_refl _) hR2
      refine ⟨s_i w1 (w_z w) 0 (Int32.ofNat r.1), w_z w, ⟨f3, Ce_fk he f3, Cr_i c2 (by omega) (by omega), ⟨by omega, ?_, ?_⟩, exr_num (by omega) (Nat.le_refl _) (by show w_z w < w_z w1; omega) t1N (by rw [i_si, if_pos ⟨rfl, rfl⟩]) n6⟩, fun Q => ?_⟩
      · show w_z w1 + _ ≤ _; omega
      · show w_s w1 + _ ≤ _; omega
      · show cl (d + 12) 280 _ w Q = _
        simp (disch := first | omega | decide | exact ko_b _ | assumption | (simp only [t_si, t_sl, t_sr, t_sI, t_sR, n_si, n_sl, n_sr, n_sI, n_sR, r_si, r_sl, r_sI]; first | done | omega)) only [x_280_e, x_280_b, x_280_0, x_280_1, x_280_4, x_280_7, x_280_10, x_280_13, x_280_14, x_280_15, x_280_16, x_280_19, x_280_22, x_280_25, x_100_e, x_100_b, x_100_0, x_100_1, x_100_4, x_100_5, x_100_6, x_100_9, x_98_e, x_98_b, x_98_0, x_98_1, x_98_4, bk_v, bk_n, nl_I, nl_R, nl_L, nl_0, oo_lt, oo_le, oo_eq, oo_add, oo_sub, oo_tn, oo_ir, nn_leT, nn_leF, nn_ltT, nn_ltF, nn_eqT, nn_eqF, bv_0, bv_1, ko_b, ko_1, ko_0, true_and, and_true, if_true, if_false, not_true_eq_false, not_false_eq_true, oo_02, decide_eq_true_eq, decide_eq_false_iff_not, ite_not, Nat.reduceAdd, Nat.reduceLT, Nat.reduceSub, Nat.reduceLeDiff, reduceIte, Bool.true_eq_false, Bool.false_eq_true, reduceCtorEq, eq_self, decide_true, decide_false, bv_t, bv_f, and_self, t_si, t_sl, t_sr, t_sI, t_sR, n_si, n_sl, n_sr, n_sI, n_sR, r_si, r_sl, r_sI, r6, kz_, x2, k2, q1]
  · rw [if_neg k2]
    by_cases s4 : is_s t b 40 = true
    · rw [if_pos s4]
      rw [s4] at hp
      have hk := (is_s_k s4).1
      obtain ⟨u1, ⟨f1, e1, c1, ⟨z1, s1⟩, b1⟩, q1⟩ := c_step (D := d + 11) (by omega) he hr (by omega)
      have X := hX (d + 11) u1 (tk_n t b) (by omega) e1 c1
      have t1 := e1.1.1
      have pre : ∀ Q, cl (d + 12) 280 [v_R (some R), v_I (Int32.ofNat a)] w Q = wp (d + 12) 280 43 [some (v_R (some R)), some (v_I (Int32.ofNat a)), none] [v_I (Int32.ofNat (a + 1)), v_R (some R)] u1 Q := fun Q => by
        simp (disch := first | omega | decide | exact ko_b _ | assumption | (simp only [t_si, t_sl, t_sr, t_sI, t_sR, n_si, n_sl, n_sr, n_sI, n_sR, r_si, r_sl, r_sI]; first | done | omega)) only [x_280_e, x_280_b, x_280_0, x_280_1, x_280_4, x_280_7, x_280_e, x_280_b, x_280_26, x_280_27, x_280_29, x_280_32, x_280_35, x_280_36, x_280_39, x_280_40, x_280_41, x_280_42, bk_v, bk_n, nl_I, nl_R, nl_L, nl_0, oo_lt, oo_le, oo_eq, oo_add, oo_sub, oo_tn, oo_ir, nn_leT, nn_leF, nn_ltT, nn_ltF, nn_eqT, nn_eqF, bv_0, bv_1, ko_b, ko_1, ko_0, true_and, and_true, if_true, if_false, not_true_eq_false, not_false_eq_true, oo_02, decide_eq_true_eq, decide_eq_false_iff_not, ite_not, Nat.reduceAdd, Nat.reduceLT, Nat.reduceSub, Nat.reduceLeDiff, reduceIte, Bool.true_eq_false, Bool.false_eq_true, reduceCtorEq, eq_self, decide_true, decide_false, bv_t, bv_f, and_self, t_si, t_sl, t_sr, t_sI, t_sR, n_si, n_sl, n_sr, n_sI, n_sR, r_si, r_sl, r_sI, r6, kz_, x2, k2, hp, q1]
      cases hx : f (tk_n t b) with
      | inl e =>
        rw [hx] at X
        refine tx_up (L2 := fun Q => cl (d + 11) 275 [v_R (some R), v_I (Int32.ofNat (a + 1))] u1 Q) X f1 b1 (fun Q => ?_)
        obtain ⟨w1, x, h1, q2⟩ := X
        have q2 : ∀ Q, cl (d + 11) 275 [v_R (some R), v_I (Int32.ofNat (a + 1))] u1 Q = Q (Sum.inr x) w1 := q2
        show cl (d + 12) 280 _ w Q = _
        rw [pre, q2]
        simp (disch := first | omega | decide | exact ko_b _ | assumption | (simp only [t_si, t_sl, t_sr, t_sI, t_sR, n_si, n_sl, n_sr, n_sI, n_sR, r_si, r_sl, r_sI]; first | done | omega)) only [x_280_e, x_280_b, x_280_43, x_280_46, x_280_47, x_280_48, x_280_50, x_280_53, x_280_54, bk_v, bk_n, nl_I, nl_R, nl_L, nl_0, oo_lt, oo_le, oo_eq, oo_add, oo_sub, oo_tn, oo_ir, nn_leT, nn_leF, nn_ltT, nn_ltF, nn_eqT, nn_eqF, bv_0, bv_1, ko_b, ko_1, ko_0, true_and, and_true, if_true, if_false, not_true_eq_false, not_false_eq_true, oo_02, decide_eq_true_eq, decide_eq_false_iff_not, ite_not, Nat.reduceAdd, Nat.reduceLT, Nat.reduceSub, Nat.reduceLeDiff, reduceIte, Bool.true_eq_false, Bool.false_eq_true, reduceCtorEq, eq_self, decide_true, decide_false, bv_t, bv_f, and_self, t_si, t_sl, t_sr, t_sI, t_sR, n_si, n_sl, n_sr, n_sI, n_sR, r_si, r_sl, r_sI, q2]
      | inr r =>
        rw [hx] at X
        obtain ⟨u2, o, ⟨f2, e2, c2, b2, x2'⟩, q2⟩ := X
        have q2 : ∀ Q, cl (d + 11) 275 [v_R (some R), v_I (Int32.ofNat (a + 1))] u1 Q = Q (Sum.inl (some (v_R (some o)))) u2 := q2
        obtain ⟨-, g2, g3, g4⟩ := hg _ r.1 r.2 hx
        have N := c_need (D := d + 11) (q0 := 18) (p0 := 118) (x := 41) (by omega) e2 c2 (g_1 e2.2 (i := 8) (by omega) rfl) (by omega) (by omega)
        have t2 := e2.1.1
        simp only
        cases hy : nd_ t 41 r.2 with
        | inl e =>
          rw [hy] at N
          have bb := bd_tr b1 b2
          unfold Bd_ at bb
          have hb2 := c2.1
          refine ty_tx (L2 := fun Q => cl (d + 11) 281 [v_R (some R), v_R (some 18)] u2 Q) N (fk_tr f1 f2) hb (by omega) (by omega) (fun Q => ?_)
          obtain ⟨w1, x, h1, q3⟩ := N
          have q3 : ∀ Q, cl (d + 11) 281 [v_R (some R), v_R (some 18)] u2 Q = Q (Sum.inr x) w1 := q3
          show cl (d + 12) 280 _ w Q = _
          rw [pre, q3]
          simp (disch := first | omega | decide | exact ko_b _ | assumption | (simp only [t_si, t_sl, t_sr, t_sI, t_sR, n_si, n_sl, n_sr, n_sI, n_sR, r_si, r_sl, r_sI]; first | done | omega)) only [x_280_e, x_280_b, x_280_43, x_280_46, x_280_47, x_280_48, x_280_50, x_280_53, x_280_54, bk_v, bk_n, nl_I, nl_R, nl_L, nl_0, oo_lt, oo_le, oo_eq, oo_add, oo_sub, oo_tn, oo_ir, nn_leT, nn_leF, nn_ltT, nn_ltF, nn_eqT, nn_eqF, bv_0, bv_1, ko_b, ko_1, ko_0, true_and, and_true, if_true, if_false, not_true_eq_false, not_false_eq_true, oo_02, decide_eq_true_eq, decide_eq_false_iff_not, ite_not, Nat.reduceAdd, Nat.reduceLT, Nat.reduceSub, Nat.reduceLeDiff, reduceIte, Bool.true_eq_false, Bool.false_eq_true, reduceCtorEq, eq_self, decide_true, decide_false, bv_t, bv_f, and_self, t_si, t_sl, t_sr, t_sI, t_sR, n_si, n_sl, n_sr, n_sI, n_sR, r_si, r_sl, r_sI, q2, q3]
        | inr b3 =>
          rw [hy] at N
          obtain ⟨u3, ⟨f3, e3, c3, -, b3'⟩, q3⟩ := N
          have q3 : ∀ Q, cl (d + 11) 281 [v_R (some R), v_R (some 18)] u2 Q = Q (Sum.inl none) u3 := q3
          refine ⟨u3, o, ⟨fk_tr f1 (fk_tr f2 f3), e3, c3, bd_tr b1 (bd_tr b2 b3'), exr_up x2' f1.1 f3.1 fun a h1 h2 => ag_fk f3 h2 (by have := f1.1; omega)⟩, fun Q => ?_⟩
          show cl (d + 12) 280 _ w Q = _
          rw [pre]
          simp (disch := first | omega | decide | exact ko_b _ | assumption | (simp only [t_si, t_sl, t_sr, t_sI, t_sR, n_si, n_sl, n_sr, n_sI, n_sR, r_si, r_sl, r_sI]; first | done | omega)) only [x_280_e, x_280_b, x_280_43, x_280_46, x_280_47, x_280_48, x_280_50, x_280_53, x_280_54, bk_v, bk_n, nl_I, nl_R, nl_L, nl_0, oo_lt, oo_le, oo_eq, oo_add, oo_sub, oo_tn, oo_ir, nn_leT, nn_leF, nn_ltT, nn_ltF, nn_eqT, nn_eqF, bv_0, bv_1, ko_b, ko_1, ko_0, true_and, and_true, if_true, if_false, not_true_eq_false, not_false_eq_true, oo_02, decide_eq_true_eq, decide_eq_false_iff_not, ite_not, Nat.reduceAdd, Nat.reduceLT, Nat.reduceSub, Nat.reduceLeDiff, reduceIte, Bool.true_eq_false, Bool.false_eq_true, reduceCtorEq, eq_self, decide_true, decide_false, bv_t, bv_f, and_self, t_si, t_sl, t_sr, t_sI, t_sR, n_si, n_sl, n_sr, n_sI, n_sR, r_si, r_sl, r_sI, q2, q3]
    · rw [if_neg s4]
      rw [Bool.eq_false_iff.mpr s4] at hp
      by_cases k1 : tk_k t b = 1
      · rw [if_pos k1]
        obtain ⟨q, p, g1, g2, g3⟩ := hr.2.2.2.2.2 (Or.inl k1)
        have hv := fun d Q => c_val (d := d) (Q := Q) he.2 k1 g3
        have tq := g3.1
        cases hx : vw_ t b with
        | none =>
          rw [hx, Option.map_none] at hv
          have ck0 := fun d Q => c_ck0 (d := d) (c := 3) (Q := Q) t0 r3
          refine ty_tx (L2 := fun Q => cl (d + 12) 280 [v_R (some R), v_I (Int32.ofNat a)] w Q) ⟨_, _, flt_f he.1 hr (by omega), fun Q => ?_⟩ (fk_rf _ _) hb (by omega) (by omega) (fun Q => rfl)
          show cl (d + 12) 280 _ w Q = _
          have qn : q_k none = true := rfl
          simp (disch := first | omega | decide | exact ko_b _ | assumption | (simp only [t_si, t_sl, t_sr, t_sI, t_sR, n_si, n_sl, n_sr, n_sI, n_sR, r_si, r_sl, r_sI]; first | done | omega)) only [x_280_e, x_280_b, x_280_0, x_280_1, x_280_4, x_280_7, x_280_e, x_280_b, x_280_26, x_280_27, x_280_29, x_280_32, x_280_e, x_280_b, x_280_55, x_280_56, x_280_57, x_280_60, x_280_63, x_280_66, x_280_67, x_280_70, x_280_71, x_280_72, x_280_75, x_280_76, x_280_79, x_280_82, x_280_83, x_280_84, x_280_85, x_280_88, x_280_89, x_280_92, x_280_93, x_280_94, bk_v, bk_n, nl_I, nl_R, nl_L, nl_0, oo_lt, oo_le, oo_eq, oo_add, oo_sub, oo_tn, oo_ir, nn_leT, nn_leF, nn_ltT, nn_ltF, nn_eqT, nn_eqF, bv_0, bv_1, ko_b, ko_1, ko_0, true_and, and_true, if_true, if_false, not_true_eq_false, not_false_eq_true, oo_02, decide_eq_true_eq, decide_eq_false_iff_not, ite_not, Nat.reduceAdd, Nat.reduceLT, Nat.reduceSub, Nat.reduceLeDiff, reduceIte, Bool.true_eq_false, Bool.false_eq_true, reduceCtorEq, eq_self, decide_true, decide_false, bv_t, bv_f, and_self, t_si, t_sl, t_sr, t_sI, t_sR, n_si, n_sl, n_sr, n_sI, n_sR, r_si, r_sl, r_sI, r6, kz_, x1, x2, k2, k1, hp, ck1, g1, hv, ck0]
        | some j =>
          have hj := vw_lt hx
          rw [hx, Option.map_some] at hv
          obtain ⟨u1, ⟨f1, e1, c1, ⟨z1, s1⟩, b1⟩, q1⟩ := c_step (D := d + 11) (by omega) he hr (by omega)
          obtain ⟨u2, hu2⟩ : ∃ u2, u2 = s_n u1 29 1 := ⟨_, rfl⟩
          have hbt := tk_gt (t := t) (b := b) (by omega)
          have zz1 := f1.1
          have f2 : Fk_ R u1 u2 := by rw [hu2]; exact fk_n (by omega)
          have t2N : w_t u2 (w_z u1) = 29 := by rw [hu2, t_sn, if_pos rfl]
          have t2R : w_t u2 R = 26 := f2.2.2.1.trans e1.1.1
          have t1R := e1.1.1
          have z2 : w_z u2 = w_z u1 + 1 := by rw [hu2, z_sn]
          have s2 : w_s u2 = w_s u1 + 1 := by rw [hu2, s_sn]
          have f3 : Fk_ R w (s_r u2 (w_z u1) 0 (some (200 + j))) := fk_nwr (fk_tr f1 f2) zz1 hR2
          have c2 : Cr_ u2 R t (tk_n t b) := by rw [hu2]; exact Cr_n c1 (by omega)
          refine ⟨s_r u2 (w_z u1) 0 (some (200 + j)), w_z u1, ⟨f3, Ce_fk he f3, Cr_r c2 (by omega) (by omega), ⟨by omega, ?_, ?_⟩, exr_val (by omega) zz1 (by show w_z u1 < w_z u2; omega) t2N (by rw [r_sr, if_pos ⟨rfl, rfl⟩]) hj⟩, fun Q => ?_⟩
          · show w_z u2 + _ ≤ _; omega
          · show w_s u2 + _ ≤ _; omega
          · show cl (d + 12) 280 _ w Q = _
            have qn : q_k (some (200 + j)) = true := by unfold q_k; simp only [decide_eq_true_eq]; omega
            have e9 : ¬ (some (200 + j) : Option Nat) = none := fun z => by cases z
            simp (disch := first | omega | decide | exact ko_b _ | assumption | (simp only [t_si, t_sl, t_sr, t_sI, t_sR, n_si, n_sl, n_sr, n_sI, n_sR, r_si, r_sl, r_sI]; first | done | omega)) only [x_280_e, x_280_b, x_280_0, x_280_1, x_280_4, x_280_7, x_280_e, x_280_b, x_280_26, x_280_27, x_280_29, x_280_32, x_280_e, x_280_b, x_280_55, x_280_56, x_280_57, x_280_60, x_280_63, x_280_66, x_280_67, x_280_70, x_280_71, x_280_72, x_280_75, x_280_76, x_280_79, x_280_82, x_280_83, x_280_84, x_280_85, x_280_88, x_280_89, x_280_92, x_280_93, x_280_94, x_280_97, x_280_98, x_280_101, bk_v, bk_n, nl_I, nl_R, nl_L, nl_0, oo_lt, oo_le, oo_eq, oo_add, oo_sub, oo_tn, oo_ir, nn_leT, nn_leF, nn_ltT, nn_ltF, nn_eqT, nn_eqF, bv_0, bv_1, ko_b, ko_1, ko_0, true_and, and_true, if_true, if_false, not_true_eq_false, not_false_eq_true, oo_02, decide_eq_true_eq, decide_eq_false_iff_not, ite_not, Nat.reduceAdd, Nat.reduceLT, Nat.reduceSub, Nat.reduceLeDiff, reduceIte, Bool.true_eq_false, Bool.false_eq_true, reduceCtorEq, eq_self, decide_true, decide_false, bv_t, bv_f, and_self, t_si, t_sl, t_sr, t_sI, t_sR, n_si, n_sl, n_sr, n_sI, n_sR, r_si, r_sl, r_sI, r6, kz_, x1, x2, k2, k1, hp, ck1, g1, hv, e9, q1]
            rw [← hu2]
            simp (disch := first | omega | decide | exact ko_b _ | assumption | (simp only [t_si, t_sl, t_sr, t_sI, t_sR, n_si, n_sl, n_sr, n_sI, n_sR, r_si, r_sl, r_sI]; first | done | omega)) only [x_280_e, x_280_b, x_280_104, x_280_105, x_280_106, x_280_109, x_102_e, x_102_b, x_102_0, x_102_1, x_102_4, x_102_5, x_102_6, x_102_9, x_98_e, x_98_b, x_98_0, x_98_1, x_98_4, bk_v, bk_n, nl_I, nl_R, nl_L, nl_0, oo_lt, oo_le, oo_eq, oo_add, oo_sub, oo_tn, oo_ir, nn_leT, nn_leF, nn_ltT, nn_ltF, nn_eqT, nn_eqF, bv_0, bv_1, ko_b, ko_1, ko_0, true_and, and_true, if_true, if_false, not_true_eq_false, not_false_eq_true, oo_02, decide_eq_true_eq, decide_eq_false_iff_not, ite_not, Nat.reduceAdd, Nat.reduceLT, Nat.reduceSub, Nat.reduceLeDiff, reduceIte, Bool.true_eq_false, Bool.false_eq_true, reduceCtorEq, eq_self, decide_true, decide_false, bv_t, bv_f, and_self, t_si, t_sl, t_sr, t_sI, t_sR, n_si, n_sl, n_sr, n_sI, n_sR, r_si, r_sl, r_sI]
      · rw [if_neg k1]
        have ck0 := fun d Q => c_ck0 (d := d) (c := 1) (Q := Q) t0 r3
        refine ty_tx (L2 := fun Q => cl (d + 12) 280 [v_R (some R), v_I (Int32.ofNat a)] w Q) ⟨_, _, flt_f he.1 hr (by omega), fun Q => ?_⟩ (fk_rf _ _) hb (by omega) (by omega) (fun Q => rfl)
        show cl (d + 12) 280 _ w Q = _
        simp (disch := first | omega | decide | exact ko_b _ | assumption | (simp only [t_si, t_sl, t_sr, t_sI, t_sR, n_si, n_sl, n_sr, n_sI, n_sR, r_si, r_sl, r_sI]; first | done | omega)) only [x_280_e, x_280_b, x_280_0, x_280_1, x_280_4, x_280_7, x_280_e, x_280_b, x_280_26, x_280_27, x_280_29, x_280_32, x_280_e, x_280_b, x_280_55, x_280_56, x_280_57, x_280_60, x_280_63, x_280_66, x_280_67, x_280_70, x_280_71, x_280_72, bk_v, bk_n, nl_I, nl_R, nl_L, nl_0, oo_lt, oo_le, oo_eq, oo_add, oo_sub, oo_tn, oo_ir, nn_leT, nn_leF, nn_ltT, nn_ltF, nn_eqT, nn_eqF, bv_0, bv_1, ko_b, ko_1, ko_0, true_and, and_true, if_true, if_false, not_true_eq_false, not_false_eq_true, oo_02, decide_eq_true_eq, decide_eq_false_iff_not, ite_not, Nat.reduceAdd, Nat.reduceLT, Nat.reduceSub, Nat.reduceLeDiff, reduceIte, Bool.true_eq_false, Bool.false_eq_true, reduceCtorEq, eq_self, decide_true, decide_false, bv_t, bv_f, and_self, t_si, t_sl, t_sr, t_sI, t_sR, n_si, n_sl, n_sr, n_sI, n_sR, r_si, r_sl, r_sI, r6, kz_, x1, x2, k2, k1, hp, ck0]
theorem e_partn {a : Nat} : CEn_ t R 12 280 a := by
  intro D w b hD he hr hs
  obtain ⟨d, rfl⟩ : ∃ d, D = d + 12 := ⟨D - 12, by omega⟩
  have t0 := he.1.1
  have hq := hr
  obtain ⟨hb, r2, r3, r6, -, -⟩ := hq
  have hk5 := tk_k5 (t := t) (b := b)
  have y1 := kid_q _ hk5 210 (by omega)
  have y2 := kid_q _ hk5 211 (by omega)
  have x1 := kid_1 _ hk5
  have x2 := kid_2 _ hk5
  have hp := fun Q => c_isg (D := d + 11) (q0 := 16) (p0 := 116) (x := 40) (Q := Q) (by omega) he hr (g_1 he.2 (i := 6) (by omega) rfl) (by omega) (by omega)
  unfold st_x at hs
  simp only [Bool.or_eq_false_iff, decide_eq_false_iff_not] at hs
  obtain ⟨⟨k2, k1⟩, s4⟩ := hs
  rw [s4] at hp
  have ck0 := fun d Q => c_ck0 (d := d) (c := 1) (Q := Q) t0 r3
  refine ⟨_, _, flt_f he.1 hr (by omega), fun Q => ?_⟩
  show cl (d + 12) 280 _ w Q = _
  simp (disch := first | omega | decide | exact ko_b _ | assumption | (simp only [t_si, t_sl, t_sr, t_sI, t_sR, n_si, n_sl, n_sr, n_sI, n_sR, r_si, r_sl, r_sI]; first | done | omega)) only [x_280_e, x_280_b, x_280_0, x_280_1, x_280_4, x_280_7, x_280_e, x_280_b, x_280_26, x_280_27, x_280_29, x_280_32, x_280_e, x_280_b, x_280_55, x_280_56, x_280_57, x_280_60, x_280_63, x_280_66, x_280_67, x_280_70, x_280_71, x_280_72, bk_v, bk_n, nl_I, nl_R, nl_L, nl_0, oo_lt, oo_le, oo_eq, oo_add, oo_sub, oo_tn, oo_ir, nn_leT, nn_leF, nn_ltT, nn_ltF, nn_eqT, nn_eqF, bv_0, bv_1, ko_b, ko_1, ko_0, true_and, and_true, if_true, if_false, not_true_eq_false, not_false_eq_true, oo_02, decide_eq_true_eq, decide_eq_false_iff_not, ite_not, Nat.reduceAdd, Nat.reduceLT, Nat.reduceSub, Nat.reduceLeDiff, reduceIte, Bool.true_eq_false, Bool.false_eq_true, reduceCtorEq, eq_self, decide_true, decide_false, bv_t, bv_f, and_self, t_si, t_sl, t_sr, t_sI, t_sR, n_si, n_sl, n_sr, n_sI, n_sR, r_si, r_sl, r_sI, r6, kz_, x1, x2, k2, k1, hp, ck0]
end
