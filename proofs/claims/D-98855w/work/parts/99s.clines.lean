/-! THE COMPONENT's lines -/
set_option maxRecDepth 100000
theorem EX_tg {w w1 : Wd} (hz : w_z w ≤ w_z w1) (f : ∀ a, a < w_z w → 28 ≤ w_t w a → w_t w a ≤ 31 → Ag_ w w1 a) : ∀ (n e : Nat) (c : List Int32), EX_ n w e c → EX_ n w1 e c := by
  intro n
  induction n with
  | zero => intro e c h; exact h
  | succ n ih =>
    intro e c h
    obtain ⟨h1, h2, h3⟩ := h
    refine ⟨h1, by omega, ?_⟩
    rcases h3 with ⟨a1, v, a2, a3, a4⟩ | ⟨a1, j, a2, a3, a4⟩ | ⟨a1, p, c1, a2, a3, a4⟩ | ⟨a1, l, r, c1, c2, o, a2, a3, a4, a5, a6, a7, a8⟩
    · have g := f e h2 (by omega) (by omega)
      exact Or.inl ⟨g.1.trans a1, v, a2, a3, (g.2.1 0).trans a4⟩
    · have g := f e h2 (by omega) (by omega)
      exact Or.inr (Or.inl ⟨g.1.trans a1, j, a2, (g.2.2 0).trans a3, a4⟩)
    · have g := f e h2 (by omega) (by omega)
      exact Or.inr (Or.inr (Or.inl ⟨g.1.trans a1, p, c1, (g.2.2 0).trans a2, ih p c1 a3, a4⟩))
    · have g := f e h2 (by omega) (by omega)
      exact Or.inr (Or.inr (Or.inr ⟨g.1.trans a1, l, r, c1, c2, o, a2, (g.2.1 0).trans a3, (g.2.2 1).trans a4, (g.2.2 2).trans a5, ih l c1 a6, ih r c2 a7, a8⟩))
theorem CT_kp {P : Nat → Prop} {w w1 : Wd} {G : Gm} {T : Tm} (h : CT_ w G T) (k : Kp_ P w w1) (p1 : P (gm_b G)) (p2 : P (gm_al G)) (p3 : P (gm_ed G)) (p4 : P (gm_vw G)) (p5 : P (gm_of G)) (p6 : ∀ j, j < tm_n T → P (gm_pn G j)) : CT_ w1 G T := by
  have g1 := k _ p1
  have g2 := k _ p2
  have g3 := k _ p3
  have g4 := k _ p4
  have g5 := k _ p5
  obtain ⟨h1, h2, h3, h4, h5, h6, h7, h8, h9, h10, h11, h12, h13, h14, h15, h16, h17, h18, h19, h20, h21, h22⟩ := h
  exact ⟨g1.1.trans h1, (g1.2.2.2.1 2).trans h2, (g1.2.2.2.1 3).trans h3, (g1.2.2.2.1 4).trans h4, (g1.2.2.1 0).trans h5, (g1.2.2.1 1).trans h6, g2.1.trans h7, (g2.2.2.2.1 1).trans h8, (g2.2.2.1 2).trans h9, g3.1.trans h10, by rw [g3.2.1]; exact h11, by rw [g3.2.1]; exact h12, g4.1.trans h13, (g4.2.2.2.1 0).trans h14, g5.1.trans h15, g5.2.1.trans h16, fun t ht => (g3.2.2.2.1 t).trans (h17 t ht), fun t ht => (k _ (p6 t ht)).1.trans (h18 t ht), fun t ht => ((k _ (p6 t ht)).2.2.1 0).trans (h19 t ht), fun t ht => ((k _ (p6 t ht)).2.2.1 1).trans (h20 t ht), fun t ht => ((k _ (p6 t ht)).2.2.1 2).trans (h21 t ht), fun t ht => ((k _ (p6 t ht)).2.2.1 3).trans (h22 t ht)⟩
def Kz_ (R : Nat) (w w1 : Wd) : Prop := w_z w ≤ w_z w1 ∧ Kp_ (fun a => a < R) w w1
theorem kz_rf (R : Nat) (w : Wd) : Kz_ R w w := ⟨Nat.le_refl _, kp_rf _ _⟩
theorem kz_tr {R : Nat} {w w1 w2 : Wd} (h1 : Kz_ R w w1) (h2 : Kz_ R w1 w2) : Kz_ R w w2 := ⟨Nat.le_trans h1.1 h2.1, kp_tr h1.2 h2.2⟩
theorem kz_fk {R : Nat} {w w1 : Wd} (h : Fk_ R w w1) (hR : R < w_z w) : Kz_ R w w1 := ⟨h.1, kp_mo h.2.1 fun a ha => by omega⟩
theorem kz_i {R a k : Nat} {x : Int32} {w : Wd} (h : R ≤ a) : Kz_ R w (s_i w a k x) := ⟨Nat.le_refl _, kp_i fun b hb => by omega⟩
theorem kz_r {R a k : Nat} {x : Option Nat} {w : Wd} (h : R ≤ a) : Kz_ R w (s_r w a k x) := ⟨Nat.le_refl _, kp_r fun b hb => by omega⟩
section
variable {t : Tp} {R H : Nat} {G : Gm}
def Tn_ (w : Wd) (R H : Nat) (G : Gm) (s : Ln_) : Prop := CT_ w G s.1 ∧ (R < gm_b G ∧ gm_b G < w_z w) ∧ (R < gm_al G ∧ gm_al G < w_z w) ∧ (R < gm_ed G ∧ gm_ed G < w_z w) ∧ (R < gm_vw G ∧ gm_vw G < w_z w) ∧ (R < gm_of G ∧ gm_of G < w_z w) ∧ (∀ j, j < tm_n s.1 → R < gm_pn G j ∧ gm_pn G j < w_z w) ∧ (1 ≤ w_n w (gm_ed G) ∧ w_n w (gm_ed G) ≤ 20) ∧ ((tm_co s.1 = [] ∧ gm_ex G = none) ∨ ∃ e, gm_ex G = some e ∧ EX_ (tm_co s.1).length w e (tm_co s.1)) ∧ (w_r w R 8 = some H ∧ w_t w H = 3 ∧ w_n w H = 3 ∧ (R < H ∧ H < w_z w) ∧ w_i w H 0 = b_v s.2.1 ∧ w_i w H 1 = b_v s.2.2.1 ∧ w_i w H 2 = b_v s.2.2.2)
theorem Tn_kp {P : Nat → Prop} {w w1 : Wd} {s : Ln_} (h : Tn_ w R H G s) (k : Kp_ P w w1) (hz : w_z w ≤ w_z w1) (h8 : w_r w1 R 8 = w_r w R 8) (hP : ∀ a, R < a → a < w_z w → P a) (hE : ∀ a, a < w_z w → 28 ≤ w_t w a → w_t w a ≤ 31 → P a) : Tn_ w1 R H G s := by
  obtain ⟨h1, h2, h3, h4, h5, h6, h7, h9, h10, g1, g2, g3, g4, g5, g6, g7⟩ := h
  have kH := k H (hP H g4.1 g4.2)
  have kE := k (gm_ed G) (hP _ h4.1 h4.2)
  refine ⟨CT_kp h1 k (hP _ h2.1 h2.2) (hP _ h3.1 h3.2) (hP _ h4.1 h4.2) (hP _ h5.1 h5.2) (hP _ h6.1 h6.2) (fun j hj => hP _ (h7 j hj).1 (h7 j hj).2), ⟨h2.1, by omega⟩, ⟨h3.1, by omega⟩, ⟨h4.1, by omega⟩, ⟨h5.1, by omega⟩, ⟨h6.1, by omega⟩, fun j hj => ⟨(h7 j hj).1, by have := (h7 j hj).2; omega⟩, by rw [kE.2.1]; exact h9, ?_, h8.trans g1, kH.1.trans g2, kH.2.1.trans g3, ⟨g4.1, by omega⟩, (kH.2.2.1 0).trans g5, (kH.2.2.1 1).trans g6, (kH.2.2.1 2).trans g7⟩
  rcases h10 with z | ⟨e, z1, z2⟩
  · exact Or.inl z
  · exact Or.inr ⟨e, z1, EX_tg hz (fun a h1 h2 h3 => ag_kp k (hE a h1 h2 h3)) _ _ _ z2⟩
theorem Tn_fk {w w1 : Wd} {s : Ln_} (h : Tn_ w R H G s) (f : Fk_ R w w1) (tR : w_t w R = 26) : Tn_ w1 R H G s := Tn_kp h f.2.1 f.1 f.2.2.2.2.2 (fun a h1 h2 => ⟨h2, by omega⟩) (fun a h1 h2 h3 => ⟨h1, fun z => by rw [z] at h2; omega⟩)
/-- the cells of a town are not the list of what was seen -/
theorem Tn_ne {w : Wd} {s : Ln_} (h : Tn_ w R H G s) : gm_b G ≠ H ∧ gm_al G ≠ H ∧ gm_ed G ≠ H ∧ gm_vw G ≠ H ∧ gm_of G ≠ H ∧ (∀ j, j < tm_n s.1 → gm_pn G j ≠ H) := by
  obtain ⟨⟨c1, -, -, -, -, -, c7, -, -, c10, -, -, c13, -, c15, -, -, c18, -⟩, -, -, -, -, -, -, -, -, -, g2, -⟩ := h
  refine ⟨fun z => ?_, fun z => ?_, fun z => ?_, fun z => ?_, fun z => ?_, fun j hj z => ?_⟩
  · rw [z] at c1; omega
  · rw [z] at c7; omega
  · rw [z] at c10; omega
  · rw [z] at c13; omega
  · rw [z] at c15; omega
  · have := c18 j hj
    rw [z] at this; omega
theorem Tn_h {w : Wd} {s : Ln_} {j : Nat} {x : Int32} {s2 : Bool × Bool × Bool} (h : Tn_ w R H G s) (h0 : (if 0 = j then x else b_v s.2.1) = b_v s2.1) (h1 : (if 1 = j then x else b_v s.2.2.1) = b_v s2.2.1) (h2 : (if 2 = j then x else b_v s.2.2.2) = b_v s2.2.2) : Tn_ (s_i w H j x) R H G (s.1, s2) := by
  obtain ⟨n1, n2, n3, n4, n5, n6⟩ := Tn_ne h
  obtain ⟨c1, c2, c3, c4, c5, c6, c7, c8, c9, g1, g2, g3, g4, g5, g6, g7⟩ := h
  refine ⟨CT_kp (P := fun a => a ≠ H) c1 (kp_i fun b hb => hb) n1 n2 n3 n4 n5 n6, c2, c3, c4, c5, c6, c7, c8, ?_, g1, g2, g3, g4, ?_, ?_, ?_⟩
  · rcases c9 with z | ⟨e, z1, z2⟩
    · exact Or.inl z
    · exact Or.inr ⟨e, z1, EX_tg (w := w) (w1 := s_i w H j x) (Nat.le_refl (w_z w)) (fun a h1 h2 h3 => ag_kp (P := fun a => a ≠ H) (kp_i fun b hb => hb) (fun z => by rw [z] at h2; omega)) _ _ _ z2⟩
  · rw [i_si]
    rw [← h0]
    by_cases e : 0 = j
    · rw [if_pos e, if_pos ⟨rfl, e⟩]
    · rw [if_neg e, if_neg (fun z => e z.2)]; exact g5
  · rw [i_si]
    rw [← h1]
    by_cases e : 1 = j
    · rw [if_pos e, if_pos ⟨rfl, e⟩]
    · rw [if_neg e, if_neg (fun z => e z.2)]; exact g6
  · rw [i_si]
    rw [← h2]
    by_cases e : 2 = j
    · rw [if_pos e, if_pos ⟨rfl, e⟩]
    · rw [if_neg e, if_neg (fun z => e z.2)]; exact g7
theorem Tn_nb {w : Wd} {s : Ln_} (h : Tn_ w R H G s) : gm_al G ≠ gm_b G ∧ gm_b G ≠ H ∧ (∀ j, j < tm_n s.1 → gm_pn G j ≠ gm_b G) := by
  obtain ⟨⟨c1, -, -, -, -, -, c7, -, -, c10, -, -, c13, -, c15, -, -, c18, -⟩, -, -, -, -, -, -, -, -, -, g2, -⟩ := h
  refine ⟨fun z => ?_, fun z => ?_, fun j hj z => ?_⟩
  · rw [z] at c7; omega
  · rw [z] at c1; omega
  · have := c18 j hj
    rw [z] at this; omega
theorem Tn_b {w : Wd} {T : Tm} {fs : Bool × Bool × Bool} {j : Nat} {x li fo : Int32} (h : Tn_ w R H G (T, fs)) (h0 : (if 0 = j then x else tm_li T) = li) (h1 : (if 1 = j then x else tm_fo T) = fo) : Tn_ (s_i w (gm_b G) j x) R H G ((tm_n T, li, fo, tm_kd T, tm_wt T, tm_br T, tm_ln T, tm_hg T, tm_co T), fs) := by
  obtain ⟨n1, n2, n3⟩ := Tn_nb h
  obtain ⟨⟨d1, d2, d3, d4, d5, d6, d7, d8, d9, d10, d11, d12, d13, d14, d15, d16, d17, d18, d19, d20, d21, d22⟩, c2, c3, c4, c5, c6, c7, c8, c9, g1, g2, g3, g4, g5, g6, g7⟩ := h
  have oth : ∀ a k, a ≠ gm_b G → w_i (s_i w (gm_b G) j x) a k = w_i w a k := fun a k ha => by rw [i_si, if_neg (fun z => ha z.1)]
  refine ⟨⟨d1, d2, d3, d4, ?_, ?_, d7, d8, (oth _ _ n1).trans d9, d10, d11, d12, d13, d14, d15, d16, d17, d18, fun k hk => (oth _ _ (n3 k hk)).trans (d19 k hk), fun k hk => (oth _ _ (n3 k hk)).trans (d20 k hk), fun k hk => (oth _ _ (n3 k hk)).trans (d21 k hk), fun k hk => (oth _ _ (n3 k hk)).trans (d22 k hk)⟩, c2, c3, c4, c5, c6, c7, c8, ?_, g1, g2, g3, g4, (oth _ _ n2.symm).trans g5, (oth _ _ n2.symm).trans g6, (oth _ _ n2.symm).trans g7⟩
  · show _ = li
    rw [i_si, ← h0]
    by_cases e : 0 = j
    · rw [if_pos e, if_pos ⟨rfl, e⟩]
    · rw [if_neg e, if_neg (fun z => e z.2)]; exact d5
  · show _ = fo
    rw [i_si, ← h1]
    by_cases e : 1 = j
    · rw [if_pos e, if_pos ⟨rfl, e⟩]
    · rw [if_neg e, if_neg (fun z => e z.2)]; exact d6
  · rcases c9 with z | ⟨e, z1, z2⟩
    · exact Or.inl z
    · exact Or.inr ⟨e, z1, EX_tg (w := w) (w1 := s_i w (gm_b G) j x) (Nat.le_refl (w_z w)) (fun a h1 h2 h3 => ag_kp (P := fun a => a ≠ gm_b G) (kp_i fun b hb => hb) (fun z => by rw [z] at h2 h3; omega)) _ _ _ z2⟩
def gm_x (G : Gm) (e : Nat) : Gm := (gm_b G, gm_al G, gm_ed G, gm_vw G, gm_of G, gm_pn G, some e)
theorem Tn_x {w : Wd} {T : Tm} {fs : Bool × Bool × Bool} {e : Nat} {c : List Int32} (h : Tn_ w R H G (T, fs)) (he : EX_ c.length w e c) : Tn_ (s_r w (gm_b G) 3 (some e)) R H (gm_x G e) ((tm_n T, tm_li T, tm_fo T, tm_kd T, tm_wt T, tm_br T, tm_ln T, tm_hg T, c), fs) := by
  obtain ⟨⟨d1, d2, d3, d4, d5, d6, d7, d8, d9, d10, d11, d12, d13, d14, d15, d16, d17, d18, d19, d20, d21, d22⟩, c2, c3, c4, c5, c6, c7, c8, c9, g1, g2, g3, g4, g5, g6, g7⟩ := h
  have oth : ∀ a k, (a ≠ gm_b G ∨ k ≠ 3) → w_r (s_r w (gm_b G) 3 (some e)) a k = w_r w a k := fun a k ha => by rw [r_sr, if_neg (by omega)]
  refine ⟨⟨d1, (oth _ _ (Or.inr (by omega))).trans d2, by rw [r_sr]; exact if_pos ⟨rfl, rfl⟩, (oth _ _ (Or.inr (by omega))).trans d4, d5, d6, d7, (oth _ _ (Or.inr (by omega))).trans d8, d9, d10, d11, d12, d13, (oth _ _ (Or.inr (by omega))).trans d14, d15, d16, fun k hk => (oth _ _ (Or.inl (fun z => ?_))).trans (d17 k hk), d18, d19, d20, d21, d22⟩, c2, c3, c4, c5, c6, c7, c8, ?_, (oth _ _ (Or.inr (by omega))).trans g1, g2, g3, g4, g5, g6, g7⟩
  · have z : gm_ed G = gm_b G := z
    rw [z] at d10; omega
  · exact Or.inr ⟨e, rfl, EX_tg (w := w) (w1 := s_r w (gm_b G) 3 (some e)) (Nat.le_refl (w_z w)) (fun a h1 h2 h3 => ag_kp (P := fun a => a ≠ gm_b G) (kp_r fun b hb => hb) (fun z => by rw [z] at h2 h3; omega)) _ _ _ he⟩
theorem tb_x {T T1 : Tm} {k b b1 : Nat} (h : tb_ t T k b = Sum.inr (T1, b1)) : tm_n T1 = tm_n T + 1 ∧ tm_li T1 = tm_li T ∧ tm_fo T1 = tm_fo T ∧ tm_co T1 = tm_co T ∧ tm_kd T1 (tm_n T) = k ∧ ∀ j, j < tm_n T → tm_kd T1 j = tm_kd T j ∧ tm_wt T1 j = tm_wt T j ∧ tm_br T1 j = tm_br T j ∧ tm_ln T1 j = tm_ln T j ∧ tm_hg T1 j = tm_hg T j := by
  unfold tb_ at h
  split at h
  · cases h
  · split at h
    · cases h
    · split at h
      · cases h
      · split at h
        · cases h
        · cases h
          have ap : ∀ {α : Type} (f : Nat → α) (x : α) j, j < tm_n T → ap_ (tm_n T) f x j = f j := fun f x j hj => by
            unfold ap_
            rw [if_neg (by omega)]
          exact ⟨rfl, rfl, rfl, rfl, by show ap_ _ _ _ _ = _; unfold ap_; rw [if_pos rfl], fun j hj => ⟨ap _ _ j hj, ap _ _ j hj, ap _ _ j hj, ap _ _ j hj, ap _ _ j hj⟩⟩
def gm_a (G : Gm) (n N e1 : Nat) : Gm := (gm_b G, gm_al G, e1, gm_vw G, gm_of G, ap_ n (gm_pn G) N, gm_ex G)
/-- a table added -/
theorem Tn_a {w : Wd} {T T1 : Tm} {fs : Bool × Bool × Bool} {N k d : Nat} (h : Tn_ w R H G (T, fs)) (hkd : ∀ j, j < tm_n T → tm_kd T j < 4) (hn : tm_n T ≤ 9) (hk : k < 4) (hN : R < N ∧ N < w_z w) (tN : w_t w N = 32 + k) (hx : tm_n T1 = tm_n T + 1 ∧ tm_li T1 = tm_li T ∧ tm_fo T1 = tm_fo T ∧ tm_co T1 = tm_co T ∧ tm_kd T1 (tm_n T) = k ∧ ∀ j, j < tm_n T → tm_kd T1 j = tm_kd T j ∧ tm_wt T1 j = tm_wt T j ∧ tm_br T1 j = tm_br T j ∧ tm_ln T1 j = tm_ln T j ∧ tm_hg T1 j = tm_hg T j) (i0 : w_i w N 0 = tm_wt T1 (tm_n T)) (i1 : w_i w N 1 = tm_br T1 (tm_n T)) (i2 : w_i w N 2 = tm_ln T1 (tm_n T)) (i3 : w_i w N 3 = tm_hg T1 (tm_n T)) : ∃ w1 e1, (Tn_ w1 R H (gm_a G (tm_n T) N e1) (T1, fs) ∧ Kp_ (fun a => a < w_z w ∧ a ≠ gm_al G ∧ a ≠ gm_ed G) w w1 ∧ (w_z w ≤ w_z w1 ∧ w_z w1 ≤ w_z w + 1 ∧ w_s w1 ≤ w_s w + 15)) ∧ ∀ Q, cl (d + 6) 308 [v_R (some (gm_al G)), v_R (some N)] w Q = Q (Sum.inl (some (v_I (Int32.ofNat 1)))) w1 := by
  obtain ⟨⟨d1, d2, d3, d4, d5, d6, d7, d8, d9, d10, d11, d12, d13, d14, d15, d16, d17, d18, d19, d20, d21, d22⟩, c2, c3, c4, c5, c6, c7, c8, c9, g1, g2, g3, g4, g5, g6, g7⟩ := h
  obtain ⟨x1, x2, x3, x4, x5, x6⟩ := hx
  have ale : gm_al G ≠ gm_ed G := fun z => by rw [z] at d7; omega
  have Nne : N ≠ gm_ed G := fun z => by rw [z] at tN; omega
  have Nal : N ≠ gm_al G := fun z => by rw [z] at tN; omega
  have kd4 : ∀ j, j < tm_n T → 32 ≤ w_t w (gm_pn G j) ∧ w_t w (gm_pn G j) < 36 := fun j hj => by have := hkd j hj; have e : w_t w (gm_pn G j) = 32 + tm_kd T j := d18 j hj; omega
  obtain ⟨w1, e1, ⟨k1, ⟨z1, z2, z3⟩, e2, e3, t1, ⟨n1, n2⟩, t2, r1, i5, r2, r3⟩, q1⟩ := c_addl (w := w) (d := d) (x := N) d7 d8 d10 rfl d9 d11 hn c8 (fun j hj => ⟨_, d17 j hj, by have := kd4 j hj; omega, (c7 j hj).2⟩) rfl c3.2 c4.2 ale (by omega) hN.2 Nne
  have kb := k1 (gm_b G) ⟨c2.2, fun z => by rw [z] at d1; omega, fun z => by rw [z] at d1; omega⟩
  have kv := k1 (gm_vw G) ⟨c5.2, fun z => by rw [z] at d13; omega, fun z => by rw [z] at d13; omega⟩
  have ko := k1 (gm_of G) ⟨c6.2, fun z => by rw [z] at d15; omega, fun z => by rw [z] at d15; omega⟩
  have kN := k1 N ⟨hN.2, Nal, Nne⟩
  have kp : ∀ j, j < tm_n T → _ := fun j hj => k1 (gm_pn G j) ⟨(c7 j hj).2, fun z => by have := kd4 j hj; rw [z] at this; omega, fun z => by have := kd4 j hj; rw [z] at this; omega⟩
  have kH := k1 H ⟨g4.2, fun z => by rw [z] at g2; omega, fun z => by rw [z] at g2; omega⟩
  have kR := k1 R ⟨by omega, by omega, by omega⟩
  have pn : ∀ j, j < tm_n T → gm_pn (gm_a G (tm_n T) N e1) j = gm_pn G j := fun j hj => by show ap_ _ _ _ _ = _; unfold ap_; rw [if_neg (by omega)]
  have pN : gm_pn (gm_a G (tm_n T) N e1) (tm_n T) = N := by show ap_ _ _ _ _ = _; unfold ap_; rw [if_pos rfl]
  have spl : ∀ j, j < tm_n T1 → j < tm_n T ∨ j = tm_n T := fun j hj => by omega
  refine ⟨w1, e1, ⟨⟨⟨kb.1.trans d1, (kb.2.2.2.1 2).trans d2, (kb.2.2.2.1 3).trans d3, (kb.2.2.2.1 4).trans d4, (kb.2.2.1 0).trans (d5.trans x2.symm), (kb.2.2.1 1).trans (d6.trans x3.symm), t2, r1, by rw [x1]; exact i5, t1, by rw [x1]; exact n1, by show w_n w1 e1 < _; omega, kv.1.trans d13, (kv.2.2.2.1 0).trans d14, ko.1.trans d15, ko.2.1.trans d16, fun j hj => ?_, fun j hj => ?_, fun j hj => ?_, fun j hj => ?_, fun j hj => ?_, fun j hj => ?_⟩, ⟨c2.1, Nat.lt_of_lt_of_le c2.2 z1⟩, ⟨c3.1, Nat.lt_of_lt_of_le c3.2 z1⟩, ?_, ⟨c5.1, Nat.lt_of_lt_of_le c5.2 z1⟩, ⟨c6.1, Nat.lt_of_lt_of_le c6.2 z1⟩, fun j hj => ?_, ⟨by show 1 ≤ w_n w1 e1; omega, n2⟩, ?_, (kR.2.2.2.1 8).trans g1, kH.1.trans g2, kH.2.1.trans g3, ⟨g4.1, Nat.lt_of_lt_of_le g4.2 z1⟩, (kH.2.2.1 0).trans g5, (kH.2.2.1 1).trans g6, (kH.2.2.1 2).trans g7⟩, k1, z1, z2, z3⟩, q1⟩
  · show w_r w1 e1 j = _
    rcases spl j hj with z | z
    · rw [pn j z, r2 j z]; exact d17 j z
    · rw [z, pN]; exact r3
  · rcases spl j hj with z | z
    · rw [pn j z, (kp j z).1, (x6 j z).1]; exact d18 j z
    · rw [z, pN, kN.1, x5]; exact tN
  · rcases spl j hj with z | z
    · rw [pn j z, (kp j z).2.2.1, (x6 j z).2.1]; exact d19 j z
    · rw [z, pN, kN.2.2.1]; exact i0
  · rcases spl j hj with z | z
    · rw [pn j z, (kp j z).2.2.1, (x6 j z).2.2.1]; exact d20 j z
    · rw [z, pN, kN.2.2.1]; exact i1
  · rcases spl j hj with z | z
    · rw [pn j z, (kp j z).2.2.1, (x6 j z).2.2.2.1]; exact d21 j z
    · rw [z, pN, kN.2.2.1]; exact i2
  · rcases spl j hj with z | z
    · rw [pn j z, (kp j z).2.2.1, (x6 j z).2.2.2.2]; exact d22 j z
    · rw [z, pN, kN.2.2.1]; exact i3
  · refine ⟨?_, e3⟩
    show R < e1
    rcases e2 with z | z
    · rw [z]; exact c4.1
    · omega
  · rcases spl j hj with z | z
    · rw [pn j z]; exact ⟨(c7 j z).1, Nat.lt_of_lt_of_le (c7 j z).2 z1⟩
    · rw [z, pN]; exact ⟨hN.1, Nat.lt_of_lt_of_le hN.2 z1⟩
  · rcases c9 with ⟨y1, y2⟩ | ⟨e, y1, y2⟩
    · exact Or.inl ⟨x4.trans y1, y2⟩
    · refine Or.inr ⟨e, y1, ?_⟩
      show EX_ (tm_co T1).length w1 e (tm_co T1)
      rw [x4]
      exact EX_tg z1 (fun a h1 h2 h3 => ag_kp k1 ⟨h1, fun z => by rw [z] at h2 h3; omega, fun z => by rw [z] at h2 h3; omega⟩) _ _ _ y2
end
