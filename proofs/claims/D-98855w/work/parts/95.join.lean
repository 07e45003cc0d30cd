/-! JOINING a call's two halves -/
set_option maxRecDepth 100000
def q_a (a : Nat) : Prop := a < 1000 ∨ (1440 ≤ a ∧ a ≤ 1476)
theorem CR_CF {G : Gm} {d t : Nat} {as : S_} {w : Wd} {r : Vl} {σ : Nat → Nat} {S : Sm} (h : RC_ w G σ S) (hV : WS_ S) (hc : CR_ G d t as w r) : CF_ d t as w r G S := by
  obtain ⟨w1, f, q⟩ := hc
  have hof : gz_ (gm_of G) := h.2.2.2.2.2.1.2.2.2.2.1.1
  refine ⟨w1, σ, fun a ha => ⟨by rw [f.1], by rw [f.2.1], fun k => by rw [f.2.2.1], fun k => f.2.2.2.2.2 a k ?_⟩, f.2.2.2.1, f.2.2.2.2.1, RC_fr h hV f, q⟩
  unfold pc_
  unfold gz_ at hof
  omega
theorem CA_CF {G : Gm} {d t : Nat} {as : S_} {w : Wd} {r : Vl} {S1 : Sm} (hc : CA_ d t as w r G S1) : CF_ d t as w r G S1 := by
  obtain ⟨w1, σ1, f, h, q⟩ := hc
  exact ⟨w1, σ1, fun a ha => ⟨by rw [f.1], by rw [f.2.1], fun k => f.2.2.1 a k (by omega), fun k => f.2.2.2.2.2 a k (by omega)⟩, f.2.2.2.1, f.2.2.2.2.1, h, q⟩
/-- thrown -/
def CXF_ (d t : Nat) (as : S_) (w : Wd) (g : Nat) (G : Gm) (S1 : Sm) : Prop := ∃ w1 σ1, (∀ a, a < 1000 ∨ (1440 ≤ a ∧ a ≤ 1476) → Eq_ w w1 a) ∧ w_z w1 = w_z w ∧ sl_ w1 = sl_ w ∧ RC_ w1 G σ1 S1 ∧ ∀ Q, cl d t as w Q = Q (Sum.inr (w_z w1)) (s_n w1 g 6)
theorem CX_CF {G : Gm} {d t g : Nat} {as : S_} {w : Wd} {σ : Nat → Nat} {S : Sm} (h : RC_ w G σ S) (hV : WS_ S) (hc : CX_ G d t as w g) : CXF_ d t as w g G S := by
  obtain ⟨w1, f, q⟩ := hc
  have hof : gz_ (gm_of G) := h.2.2.2.2.2.1.2.2.2.2.1.1
  refine ⟨w1, σ, fun a ha => ⟨by rw [f.1], by rw [f.2.1], fun k => by rw [f.2.2.1], fun k => f.2.2.2.2.2 a k ?_⟩, f.2.2.2.1, f.2.2.2.2.1, RC_fr h hV f, q⟩
  unfold pc_
  unfold gz_ at hof
  omega
/-- the model's cells -/
def mo_ (a _k : Nat) : Prop := 1440 ≤ a ∧ a ≤ 1475
def MU_ (d t : Nat) (as : S_) (w : Wd) (r : Vl) (c : Nat) (S1 : Sm) : Prop := ∃ w1, Fr_ mo_ w w1 ∧ RM_ w1 S1 ∧ w_i w1 1440 3 = Int32.ofNat c ∧ ∀ Q, cl d t as w Q = Q (Sum.inl (some r)) w1
theorem MR_MU {d t c : Nat} {as : S_} {w : Wd} {r : Vl} {S : Sm} (h : RM_ w S) (hV : WS_ S) (hm : MR_ d t as w r c) : MU_ d t as w r c S := by
  obtain ⟨w1, f, hc, q⟩ := hm
  refine ⟨w1, fr_mo f fun a k hp => ?_, RM_fr h hV f, hc, q⟩
  unfold pm_ at hp
  unfold mo_
  omega
theorem MA_MU {d t c : Nat} {as : S_} {w : Wd} {r : Vl} {S1 : Sm} (hm : MA_ d t as w r c S1) : MU_ d t as w r c S1 := by
  obtain ⟨w1, f, h, hc, q⟩ := hm
  refine ⟨w1, fr_mo f fun a k hp => ?_, h, hc, q⟩
  unfold pb_ pm_ at hp
  unfold mo_
  omega
theorem MF_MU {d t c : Nat} {as : S_} {w : Wd} {r : Vl} {S1 : Sm} (hm : MF_ d t as w r c S1) : MU_ d t as w r c S1 := by
  obtain ⟨w1, f, h, hc, q⟩ := hm
  refine ⟨w1, fr_mo f fun a k hp => ?_, h, hc, q⟩
  unfold mz_ at hp
  unfold mo_
  omega
/-- what holds at the loop's head before call c -/
def In_ (L : Nat) (xs : Nat → Int32) (c : Nat) (w : Wd) (G : Gm) (σ : Nat → Nat) (S : Sm) : Prop := RC_ w G σ S ∧ RM_ w S ∧ WS_ S ∧ WE_ (sm_T S) ∧ (∀ a, a < 1000 → Eq_ (w_00 L xs) w a) ∧ (w_t w 1476 = 4 ∧ w_n w 1476 = 1) ∧ ((∀ k, k < 4 → w_r w 1441 k = some (38 + k)) ∧ ∀ k, k < 6 → w_r w 1442 k = some (42 + k)) ∧ w_z w ≤ 1477 + c * 18744 ∧ w_s w ≤ 18034 + c * 85672
theorem eq_rf (w : Wd) (a : Nat) : Eq_ w w a := ⟨rfl, rfl, fun _ => rfl, fun _ => rfl⟩
theorem eq_tr {w w1 w2 : Wd} {a : Nat} (h1 : Eq_ w w1 a) (h2 : Eq_ w1 w2 a) : Eq_ w w2 a := ⟨h2.1.trans h1.1, h2.2.1.trans h1.2.1, fun k => (h2.2.2.1 k).trans (h1.2.2.1 k), fun k => (h2.2.2.2 k).trans (h1.2.2.2 k)⟩
theorem eq_fr {P : Nat → Nat → Prop} {w w1 : Wd} {a : Nat} (h : Fr_ P w w1) (hp : ∀ k, ¬ P a k) : Eq_ w w1 a := ⟨by rw [h.1], by rw [h.2.1], fun k => by rw [h.2.2.1], fun k => h.2.2.2.2.2 a k (hp k)⟩
theorem jn_ {L c : Nat} {xs : Nat → Int32} {w w1 w2 : Wd} {G G1 : Gm} {σ σ1 : Nat → Nat} {S S1 : Sm} (I : In_ L xs c w G σ S) (e : ∀ a, q_a a → Eq_ w w1 a) (hz : w_z w1 ≤ w_z w + 18744) (hs : w_s w1 ≤ w_s w + 85672) (hC : RC_ w1 G1 σ1 S1) (hf : Fr_ mo_ w1 w2) (hM : RM_ w2 S1) (hV : WS_ S1) (hE : WE_ (sm_T S1)) : In_ L xs (c + 1) w2 G1 σ1 S1 := by
  obtain ⟨-, -, -, -, i5, ⟨i6, i7⟩, ⟨i8, i9⟩, i10, i11⟩ := I
  have e2 : ∀ a, a < 1440 ∨ 1475 < a → Eq_ w1 w2 a := fun a ha => eq_fr hf fun k hk => by unfold mo_ at hk; omega
  have e6 := eq_tr (e 1476 (Or.inr ⟨by omega, by omega⟩)) (e2 1476 (by omega))
  refine ⟨RC_ag hC hV (Nat.le_of_eq hf.2.2.2.1.symm) (fun a h1 h2 h3 => ⟨(e2 a h3).1, (e2 a h3).2.1, (e2 a h3).2.2.1⟩) (fun a k h1 h2 h3 h4 => (e2 a h3).2.2.2 k), hM, hV, hE, fun a ha => eq_tr (eq_tr (i5 a ha) (e a (Or.inl ha))) (e2 a (by omega)), ⟨e6.1.trans i6, e6.2.1.trans i7⟩, ⟨fun k hk => ?_, fun k hk => ?_⟩, ?_, ?_⟩
  · rw [hf.2.2.1]; exact ((e 1441 (Or.inr ⟨by omega, by omega⟩)).2.2.1 k).trans (i8 k hk)
  · rw [hf.2.2.1]; exact ((e 1442 (Or.inr ⟨by omega, by omega⟩)).2.2.1 k).trans (i9 k hk)
  · rw [hf.2.2.2.1]; omega
  · have := congrArg Prod.fst hf.2.2.2.2.1
    have h2 : w_s w2 = w_s w1 := this
    rw [h2]; omega
theorem RC_sl {w : Wd} {G : Gm} {σ : Nat → Nat} {S : Sm} {x : Int64} {a k : Nat} (h : RC_ w G σ S) (hV : WS_ S) : RC_ (s_l w a k x) G σ S := RC_ag h hV (Nat.le_refl _) (fun _ _ _ _ => ⟨rfl, rfl, fun _ => rfl⟩) (fun _ _ _ _ _ _ => rfl)
theorem RC_sn {w : Wd} {G : Gm} {σ : Nat → Nat} {S : Sm} {g n : Nat} (h : RC_ w G σ S) (hV : WS_ S) : RC_ (s_n w g n) G σ S := RC_ag h hV (by rw [z_sn]; omega) (fun a _ ha _ => ⟨by rw [t_sn, if_neg (by omega)], by rw [n_sn, if_neg (by omega)], fun k => by rw [r_sn, if_neg (by omega)]⟩) (fun a k _ ha _ _ => by rw [i_sn, if_neg (by omega)])
theorem in_kc {L c : Nat} {xs : Nat → Int32} {w : Wd} {G : Gm} {σ : Nat → Nat} {S : Sm} (I : In_ L xs c w G σ S) : KC_ w := fun j hj => by
  obtain ⟨e1, e2, e3, e4⟩ := I.2.2.2.2.1 (200 + j) (by omega)
  refine ⟨e1.trans ?_, (e4 0).trans ?_⟩
  · show c_t (200 + j) = 17
    unfold c_t
    rw [if_neg (by omega), if_neg (by omega), if_neg (by omega), if_pos (by omega)]
  · show c_ii xs (200 + j) 0 = _
    unfold c_ii
    rw [if_neg (by omega), if_neg (by omega), if_pos (by omega), show 200 + j - 200 = j from by omega]
theorem in_0 {L c : Nat} {xs : Nat → Int32} {w : Wd} {G : Gm} {σ : Nat → Nat} {S : Sm} (I : In_ L xs c w G σ S) : w_t w 0 = 8 ∧ w_n w 0 = L ∧ w_t w 1000 = 20 ∧ w_t w 1440 = 25 ∧ 1477 ≤ w_z w := by
  obtain ⟨e1, e2, -, -⟩ := I.2.2.2.2.1 0 (by omega)
  have hC := I.1.1
  exact ⟨e1, e2, hC.1, I.2.1.1.1, hC.2.2.2.2.2.2.2.2.2.2.2.2.2.2.2.2.2.2.2.2.2.2.2⟩
/-- a call of the law, done -/
def Stp_ (L : Nat) (xs : Nat → Int32) (c d e : Nat) (w : Wd) : Prop := ∀ a5 a6 a7 : Option Vl, ∃ w2 b5 b6 b7 G1 σ1 S1, In_ L xs (c + 1) w2 G1 σ1 S1 ∧ ∀ Q, wp (d + 14) 0 e [some (v_R (some 0)), some (v_R (some 1000)), some (v_R (some 1440)), some (v_R (some 1476)), some (v_I (Int32.ofNat (6 * c))), a5, a6, a7] [] w Q = wp (d + 14) 0 1995 [some (v_R (some 0)), some (v_R (some 1000)), some (v_R (some 1440)), some (v_R (some 1476)), some (v_I (Int32.ofNat (6 * c))), b5, b6, b7] [] w2 Q
def CFV_ (d t : Nat) (as : S_) (w : Wd) (G : Gm) (S1 : Sm) : Prop := ∃ w1 σ1, (∀ a, a < 1000 ∨ (1440 ≤ a ∧ a ≤ 1476) → Eq_ w w1 a) ∧ w_z w1 = w_z w ∧ sl_ w1 = sl_ w ∧ RC_ w1 G σ1 S1 ∧ ∀ Q, cl d t as w Q = Q (Sum.inl none) w1
def MUV_ (d t : Nat) (as : S_) (w : Wd) (S1 : Sm) : Prop := ∃ w1, Fr_ mo_ w w1 ∧ RM_ w1 S1 ∧ ∀ Q, cl d t as w Q = Q (Sum.inl none) w1
