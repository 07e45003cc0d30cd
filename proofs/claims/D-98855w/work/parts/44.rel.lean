/-! THE WHOLE STATE in mathematics, both programs' relations to it, frames -/
set_option maxRecDepth 100000
/-! frames: a change of ints only, where P allows it -/
/-- slots, and what lies in the law's out -/
def sl_ (w : Wd) : Nat × (Nat → Int64) := (w_s w, w_l w 1476)
def Fr_ (P : Nat → Nat → Prop) (w w1 : Wd) : Prop := w_t w1 = w_t w ∧ w_n w1 = w_n w ∧ w_r w1 = w_r w ∧ w_z w1 = w_z w ∧ sl_ w1 = sl_ w ∧ ∀ a k, ¬ P a k → w_i w1 a k = w_i w a k
theorem fr_rf (P : Nat → Nat → Prop) (w : Wd) : Fr_ P w w := ⟨rfl, rfl, rfl, rfl, rfl, fun _ _ _ => rfl⟩
theorem fr_tr {P : Nat → Nat → Prop} {w w1 w2 : Wd} (h1 : Fr_ P w w1) (h2 : Fr_ P w1 w2) : Fr_ P w w2 :=
  ⟨h2.1.trans h1.1, h2.2.1.trans h1.2.1, h2.2.2.1.trans h1.2.2.1, h2.2.2.2.1.trans h1.2.2.2.1, h2.2.2.2.2.1.trans h1.2.2.2.2.1, fun a k h => (h2.2.2.2.2.2 a k h).trans (h1.2.2.2.2.2 a k h)⟩
theorem fr_mo {P P1 : Nat → Nat → Prop} {w w1 : Wd} (h : Fr_ P w w1) (hP : ∀ a k, P a k → P1 a k) : Fr_ P1 w w1 :=
  ⟨h.1, h.2.1, h.2.2.1, h.2.2.2.1, h.2.2.2.2.1, fun a k e => h.2.2.2.2.2 a k (fun z => e (hP a k z))⟩
theorem fr_si {P : Nat → Nat → Prop} {w w1 : Wd} {a k : Nat} {x : Int32} (h : Fr_ P w w1) (hp : P a k) : Fr_ P w (s_i w1 a k x) := by
  refine ⟨h.1, h.2.1, h.2.2.1, h.2.2.2.1, h.2.2.2.2.1, fun b j e => ?_⟩
  rw [i_si, if_neg (fun z => e (by rw [z.1, z.2]; exact hp))]
  exact h.2.2.2.2.2 b j e
theorem sl_l {w : Wd} {a k : Nat} {x : Int64} (ha : a ≠ 1476) : sl_ (s_l w a k x) = sl_ w := by
  unfold sl_
  have e : w_l (s_l w a k x) 1476 = w_l w 1476 := by
    funext j
    rw [l_sl, if_neg (fun z => ha z.1.symm)]
  rw [e]
  rfl
theorem fr_sl {P : Nat → Nat → Prop} {w w1 : Wd} {a k : Nat} {x : Int64} (h : Fr_ P w w1) (ha : a ≠ 1476) : Fr_ P w (s_l w1 a k x) :=
  ⟨h.1, h.2.1, h.2.2.1, h.2.2.2.1, (sl_l ha).trans h.2.2.2.2.1, fun b j e => h.2.2.2.2.2 b j e⟩
theorem fr_sI {P : Nat → Nat → Prop} {w w1 : Wd} {a : Nat} {g : Nat → Int32} (h : Fr_ P w w1) (hp : ∀ k, ¬ P a k → g k = w_i w a k) : Fr_ P w (s_I w1 a g) := by
  refine ⟨h.1, h.2.1, h.2.2.1, h.2.2.2.1, h.2.2.2.2.1, fun b j e => ?_⟩
  rw [i_sI]
  by_cases hb : b = a
  · subst hb; rw [if_pos rfl]; exact hp j e
  · rw [if_neg hb]; exact h.2.2.2.2.2 b j e
/-! loops with an invariant -/
theorem lp_ex {σ : Type} (H : Nat → σ → Q_ → Prop) (I : Nat → σ → Prop) (b : Nat) (hs : ∀ k s, k < b → I k s → ∃ s1, I (k + 1) s1 ∧ ∀ Q, H k s Q = H (k + 1) s1 Q) : ∀ (n k : Nat) (s : σ), k + n = b → I k s → ∃ s1, I b s1 ∧ ∀ Q, H k s Q = H b s1 Q := by
  intro n
  induction n with
  | zero => intro k s e hI; subst e; exact ⟨s, hI, fun _ => rfl⟩
  | succ n ih =>
    intro k s e hI
    obtain ⟨s1, h1, h2⟩ := hs k s (by omega) hI
    obtain ⟨s2, h3, h4⟩ := ih (k + 1) s1 (by omega) h1
    exact ⟨s2, h3, fun Q => (h2 Q).trans (h4 Q)⟩
theorem lp_ee {σ ρ : Type} (H : Nat → σ → Q_ → Prop) (R : ρ → Q_ → Prop) (I : Nat → σ → Prop) (J : ρ → Prop) (b : Nat) (hs : ∀ k s, k < b → I k s → (∃ s1, I (k + 1) s1 ∧ ∀ Q, H k s Q = H (k + 1) s1 Q) ∨ ∃ r, J r ∧ ∀ Q, H k s Q = R r Q) : ∀ (n k : Nat) (s : σ), k + n = b → I k s → (∃ s1, I b s1 ∧ ∀ Q, H k s Q = H b s1 Q) ∨ ∃ r, J r ∧ ∀ Q, H k s Q = R r Q := by
  intro n
  induction n with
  | zero => intro k s e hI; subst e; exact Or.inl ⟨s, hI, fun _ => rfl⟩
  | succ n ih =>
    intro k s e hI
    rcases hs k s (by omega) hI with ⟨s1, h1, h2⟩ | ⟨r, h1, h2⟩
    · rcases ih (k + 1) s1 (by omega) h1 with ⟨s2, h3, h4⟩ | ⟨r, h3, h4⟩
      · exact Or.inl ⟨s2, h3, fun Q => (h2 Q).trans (h4 Q)⟩
      · exact Or.inr ⟨r, h3, fun Q => (h2 Q).trans (h4 Q)⟩
    · exact Or.inr ⟨r, h1, h2⟩
/-! the whole state -/
/-- a book: its state, acts, what it keeps, how many seen, their levels, tilts, what was refused -/
abbrev Bm : Type := Xm × Nat × (Nat → Xm) × Nat × (Nat → Nat) × (Nat → Int32) × (Nat → Int32)
def bm_X (B : Bm) : Xm := B.1
def bm_a (B : Bm) : Nat := B.2.1
def bm_h (B : Bm) : Nat → Xm := B.2.2.1
def bm_m (B : Bm) : Nat := B.2.2.2.1
def bm_l (B : Bm) : Nat → Nat := B.2.2.2.2.1
def bm_t (B : Bm) : Nat → Int32 := B.2.2.2.2.2.1
def bm_r (B : Bm) : Nat → Int32 := B.2.2.2.2.2.2
/-- town, book, image, tape, taped, fault -/
abbrev Sm : Type := Tm × Bm × Option Bm × (Nat → Nat) × Nat × Int32
def sm_T (S : Sm) : Tm := S.1
def sm_B (S : Sm) : Bm := S.2.1
def sm_I (S : Sm) : Option Bm := S.2.2.1
def sm_tp (S : Sm) : Nat → Nat := S.2.2.2.1
def sm_n (S : Sm) : Nat := S.2.2.2.2.1
def sm_f (S : Sm) : Int32 := S.2.2.2.2.2
def in_9 (x : Int32) : Prop := -9 ≤ x.toInt ∧ x.toInt ≤ 9
def WL_ (n : Nat) (X : Xm) : Prop := (∀ t, t < n → in_9 (xm_w X t)) ∧ (∀ t, t < n → in_9 (xm_l X t))
def WB_ (n : Nat) (B : Bm) : Prop := WX_ n (bm_X B) ∧ WL_ n (bm_X B) ∧ bm_a B ≤ 40 ∧ (∀ k, k < bm_a B → WX_ n (bm_h B k)) ∧ (∀ k, k < bm_a B → WL_ n (bm_h B k)) ∧ bm_m B ≤ 8 ∧ ∀ k, k < bm_m B → bm_l B k < 10
/-- a rule's code: what it needs of the stack -/
def WS_ (S : Sm) : Prop := WT_ (sm_T S) ∧ (∃ l, l ≤ 40 ∧ tm_li (sm_T S) = Int32.ofNat l) ∧ (∀ t, t < tm_n (sm_T S) → in_9 (tm_ln (sm_T S) t)) ∧ WB_ (tm_n (sm_T S)) (sm_B S) ∧ (∀ B, sm_I S = some B → WB_ (tm_n (sm_T S)) B) ∧ sm_n S ≤ 600 ∧ ∀ k, sm_tp S k < 256
/-! the model -/
/-- a packed row -/
def PK_ (w : Wd) (A f n : Nat) (X : Xm) : Prop := w_i w A f = Int32.ofNat (xm_L X) ∧ w_i w A (f + 1) = xm_y X ∧ w_i w A (f + 2) = xm_c X ∧ (∀ k, k < xm_L X → w_i w A (f + 3 + k) = Int32.ofNat (xm_t X k)) ∧ (∀ t, t < n → w_i w A (f + 13 + t) = xm_m X t) ∧ (∀ t, t < n → w_i w A (f + 23 + t) = xm_w X t) ∧ (∀ t, t < n → w_i w A (f + 33 + t) = xm_l X t)
def MB_ (w : Wd) (n : Nat) (B : Bm) : Prop := MS_ w n (bm_X B) ∧ w_i w 1440 31 = Int32.ofNat (bm_a B) ∧ (∀ k, k < bm_a B → PK_ w 1457 (43 * k) n (bm_h B k)) ∧ w_i w 1440 32 = Int32.ofNat (bm_m B) ∧ (∀ k, k < bm_m B → w_i w 1466 k = Int32.ofNat (bm_l B k)) ∧ (∀ k, k < bm_m B → w_i w 1467 k = bm_t B k) ∧ (∀ k, k < 3 → w_i w 1451 k = bm_r B k)
def MI_ (w : Wd) (n : Nat) (B : Bm) : Prop := PK_ w 1471 0 n (bm_X B) ∧ w_i w 1440 51 = Int32.ofNat (bm_a B) ∧ (∀ k, k < bm_a B → PK_ w 1472 (43 * k) n (bm_h B k)) ∧ w_i w 1440 52 = Int32.ofNat (bm_m B) ∧ (∀ k, k < bm_m B → w_i w 1473 k = Int32.ofNat (bm_l B k)) ∧ (∀ k, k < bm_m B → w_i w 1474 k = bm_t B k) ∧ (∀ k, k < 3 → w_i w 1475 k = bm_r B k)
def RM_ (w : Wd) (S : Sm) : Prop := sh_M w ∧ MT_ w (sm_T S) ∧ MB_ w (tm_n (sm_T S)) (sm_B S) ∧ w_i w 1440 50 = b_v (sm_I S).isSome ∧ (∀ B, sm_I S = some B → MI_ w (tm_n (sm_T S)) B) ∧ (∀ k, k < 600 → w_i w 1452 k = Int32.ofNat (sm_tp S k)) ∧ w_i w 1440 13 = Int32.ofNat (sm_n S) ∧ w_i w 1440 22 = sm_f S
/-- what the model's questions may change: code 3, lifted 39, sea 40, fitMany 47, seedNow 49; asked .. fewer, fitTable .. tiltOf -/
def pm_ (a k : Nat) : Prop := (a = 1440 ∧ (k = 3 ∨ k = 39 ∨ k = 40 ∨ k = 47 ∨ k = 49)) ∨ (1458 ≤ a ∧ a ≤ 1465) ∨ (1468 ≤ a ∧ a ≤ 1470) ∨ (1453 ≤ a ∧ a ≤ 1456 ∧ 10 ≤ k)
/-! the component -/
/-- the shape of a book at u -/
def sh_B (w : Wd) (u : Nat) : Prop := w_t w u = 23 ∧ w_r w u 0 = some (u + 1) ∧ w_r w u 1 = some (u + 6) ∧ w_r w u 2 = some (u + 8) ∧ w_r w u 3 = some (u + 9) ∧ w_r w u 4 = some (u + 10) ∧ w_t w (u + 6) = 36 ∧ w_r w (u + 6) 1 = some (u + 7) ∧ w_t w (u + 7) = 5 ∧ w_n w (u + 7) = 40 ∧ w_t w (u + 8) = 1 ∧ w_n w (u + 8) = 8 ∧ w_t w (u + 9) = 1 ∧ w_n w (u + 9) = 8 ∧ w_t w (u + 10) = 1 ∧ w_n w (u + 10) = 3
def sh_K (w : Wd) (u : Nat) : Prop := SO_ w (u + 1) ∧ ∀ k, k < 40 → SO_ w (u + 11 + 5 * k)
def sh_C (w : Wd) : Prop := w_t w 1000 = 20 ∧ w_r w 1000 1 = some 1007 ∧ w_r w 1000 2 = some 1218 ∧ w_r w 1000 3 = some 1008 ∧ w_r w 1000 4 = some 1429 ∧ w_r w 1000 6 = some 1434 ∧ w_r w 1000 9 = some 1435 ∧ w_r w 1000 10 = some 1436 ∧ w_r w 1000 11 = some 1437 ∧ w_r w 1000 12 = some 1438 ∧ w_r w 1000 13 = some 1439 ∧ w_t w 1434 = 2 ∧ w_n w 1434 = 600 ∧ w_t w 1435 = 4 ∧ w_n w 1435 = 1024 ∧ w_t w 1436 = 1 ∧ w_n w 1436 = 10 ∧ w_t w 1437 = 1 ∧ w_n w 1437 = 810 ∧ w_t w 1438 = 1 ∧ w_n w 1438 = 1024 ∧ w_t w 1439 = 3 ∧ w_n w 1439 = 1001 ∧ 1477 ≤ w_z w
def sh_D (w : Wd) : Prop := sh_B w 1007 ∧ sh_K w 1007 ∧ sh_B w 1218 ∧ sh_K w 1218 ∧ SO_ w 1429
def CL_ (w : Wd) (u : Nat) (σ : Nat → Nat) : Prop := w_i w (u + 6) 2 = Int32.ofNat 40 ∧ (∀ k, k < 40 → w_r w (u + 7) k = some (u + 11 + 5 * σ k)) ∧ (∀ k, k < 40 → σ k < 40) ∧ (∀ i j, i < 40 → j < 40 → σ i = σ j → i = j)
def CB_ (w : Wd) (u : Nat) (σ : Nat → Nat) (n : Nat) (B : Bm) : Prop := CS_ w (u + 1) n (bm_X B) ∧ w_i w u 5 = Int32.ofNat (bm_a B) ∧ (∀ k, k < bm_a B → CS_ w (u + 11 + 5 * σ k) n (bm_h B k)) ∧ w_i w u 6 = Int32.ofNat (bm_m B) ∧ (∀ k, k < bm_m B → w_i w (u + 8) k = Int32.ofNat (bm_l B k)) ∧ (∀ k, k < bm_m B → w_i w (u + 9) k = bm_t B k) ∧ (∀ k, k < 3 → w_i w (u + 10) k = bm_r B k)
/-- where towns lie -/
def gz_ (a : Nat) : Prop := (1001 ≤ a ∧ a ≤ 1006) ∨ 1477 ≤ a
def ch_o (o : Nat) : Int32 := if o = 0 then Int32.ofNat 43 else if o = 1 then Int32.ofNat 45 else if o = 2 then Int32.ofNat 42 else if o = 3 then Int32.ofNat 47 else if o = 4 then Int32.ofNat 60 else if o = 5 then Int32.ofNat 61 else if o = 6 then Int32.ofNat 38 else Int32.ofNat 124
def sg_n (o : Nat) : Int32 := Int32.ofInt (-(20 + (o : Int)))
/-- an expression object and its code -/
def EX_ : Nat → Wd → Nat → List Int32 → Prop
  | 0, _, _, _ => False
  | n + 1, w, e, c => gz_ e ∧ e < w_z w ∧ ((w_t w e = 28 ∧ ∃ v : Nat, v ≤ 9999 ∧ c = [Int32.ofNat v] ∧ w_i w e 0 = Int32.ofNat v) ∨ (w_t w e = 29 ∧ ∃ j : Nat, j < 6 ∧ w_r w e 0 = some (200 + j) ∧ c = [Int32.ofInt (-1 - ((j : Nat) : Int))]) ∨ (w_t w e = 31 ∧ ∃ p c1, w_r w e 0 = some p ∧ EX_ n w p c1 ∧ c = c1 ++ [Int32.ofInt (-28)]) ∨ (w_t w e = 30 ∧ ∃ l r c1 c2 o, o < 8 ∧ w_i w e 0 = ch_o o ∧ w_r w e 1 = some l ∧ w_r w e 2 = some r ∧ EX_ n w l c1 ∧ EX_ n w r c2 ∧ c = c1 ++ (c2 ++ [sg_n o])))
def CE_ (w : Wd) (G : Gm) (T : Tm) : Prop := (tm_co T = [] ∧ gm_ex G = none) ∨ ∃ e, gm_ex G = some e ∧ EX_ 610 w e (tm_co T)
def GZ_ (w : Wd) (G : Gm) (T : Tm) : Prop := (gz_ (gm_b G) ∧ gm_b G < w_z w) ∧ (gz_ (gm_al G) ∧ gm_al G < w_z w) ∧ (gz_ (gm_ed G) ∧ gm_ed G < w_z w) ∧ (gz_ (gm_vw G) ∧ gm_vw G < w_z w) ∧ (gz_ (gm_of G) ∧ gm_of G < w_z w) ∧ (∀ t, t < tm_n T → gz_ (gm_pn G t)) ∧ (∀ t, t < tm_n T → gm_pn G t < w_z w)
/-- a byte, as Java has it -/
def sb_y (x : Nat) : Int32 := if x < 128 then Int32.ofNat x else Int32.ofInt ((x : Int) - 256)
def RC_ (w : Wd) (G : Gm) (σ : Nat → Nat) (S : Sm) : Prop := sh_C w ∧ sh_D w ∧ w_r w 1000 0 = some (gm_b G) ∧ CT_ w G (sm_T S) ∧ CE_ w G (sm_T S) ∧ GZ_ w G (sm_T S) ∧ CL_ w 1007 σ ∧ CB_ w 1007 σ (tm_n (sm_T S)) (sm_B S) ∧ CL_ w 1218 id ∧ w_i w 1000 5 = b_v (sm_I S).isSome ∧ (∀ B, sm_I S = some B → CB_ w 1218 id (tm_n (sm_T S)) B) ∧ (∀ k, k < 600 → w_i w 1434 k = sb_y (sm_tp S k)) ∧ w_i w 1000 7 = Int32.ofNat (sm_n S) ∧ w_i w 1000 8 = sm_f S
/-- what the component's questions may change, o being the view's array: tried, row, keptWedges, couples, isTilt, its -/
def pc_ (o a k : Nat) : Prop := a = o ∨ (1429 ≤ a ∧ a ≤ 1433) ∨ (1436 ≤ a ∧ a ≤ 1439) ∨ (a = 1000 ∧ k = 14)
/-! the relations under frames -/
theorem pm_o {a k : Nat} (h : (a ≠ 1440 ∨ (k ≠ 3 ∧ k ≠ 39 ∧ k ≠ 40 ∧ k ≠ 47 ∧ k ≠ 49)) ∧ (a < 1458 ∨ 1465 < a) ∧ (a < 1468 ∨ 1470 < a) ∧ (a < 1453 ∨ 1456 < a ∨ k < 10)) : ¬ pm_ a k := by
  unfold pm_
  omega
theorem fr_m {w w1 : Wd} (hf : Fr_ pm_ w w1) : ∀ a k, (a ≠ 1440 ∨ (k ≠ 3 ∧ k ≠ 39 ∧ k ≠ 40 ∧ k ≠ 47 ∧ k ≠ 49)) ∧ (a < 1458 ∨ 1465 < a) ∧ (a < 1468 ∨ 1470 < a) ∧ (a < 1453 ∨ 1456 < a ∨ k < 10) → w_i w1 a k = w_i w a k := fun a k h => hf.2.2.2.2.2 a k (pm_o h)
theorem MS_fr {w w1 : Wd} {n : Nat} {X : Xm} (h : MS_ w n X) (hf : Fr_ pm_ w w1) (hn : n ≤ 10) (hL : xm_L X ≤ 10) : MS_ w1 n X := by
  have f6 := fr_m hf
  obtain ⟨h1, h2, h3, h4, h5, h6, h7⟩ := h
  exact ⟨(f6 _ _ (by omega)).trans h1, (f6 _ _ (by omega)).trans h2, (f6 _ _ (by omega)).trans h3, fun k hk => (f6 _ _ (by omega)).trans (h4 k hk), fun k hk => (f6 _ _ (by omega)).trans (h5 k hk), fun k hk => (f6 _ _ (by omega)).trans (h6 k hk), fun k hk => (f6 _ _ (by omega)).trans (h7 k hk)⟩
theorem RM_fr {w w1 : Wd} {S : Sm} (h : RM_ w S) (hV : WS_ S) (hf : Fr_ pm_ w w1) : RM_ w1 S := by
  have f6 := fr_m hf
  have hn := hV.1.1
  have hL := hV.2.2.2.1.1.1
  obtain ⟨h1, h2, ⟨h3, h4⟩, h5⟩ := h
  have h6 := MS_fr h3 hf hn (by omega)
  obtain ⟨f1, f2, f3, f4, f5, -⟩ := hf
  refine ⟨?_, ?_, ⟨h6, ?_⟩, ?_⟩
  · unfold sh_M at h1 ⊢
    rw [f1, f2, f3]
    exact h1
  · unfold MT_ at h2 ⊢
    simp (disch := omega) only [f6]
    exact h2
  · unfold PK_ at h4 ⊢
    simp (disch := omega) only [f6]
    exact h4
  · unfold MI_ PK_ at h5 ⊢
    simp (disch := omega) only [f6]
    exact h5
theorem RM_3 {w : Wd} {S : Sm} {x : Int32} (h : RM_ w S) : RM_ (s_i w 1440 3 x) S := by
  unfold RM_ sh_M MT_ MB_ MI_ MS_ PK_ at h ⊢
  simp only [t_si, n_si, r_si, i_si, Nat.reduceEqDiff, false_and, and_false, if_false]
  exact h
theorem MQ_fr {w w1 : Wd} {T : Tm} {X : Xm} (h : MQ_ w T X) (hf : Fr_ pm_ w w1) : MQ_ w1 T X := by
  have f6 := fr_m hf
  obtain ⟨h1, h2, h3, h4, h5⟩ := h
  have h6 := MS_fr h3 hf h4.1 (Nat.le_trans h5.1 h4.1)
  obtain ⟨f1, f2, f3, -, -, -⟩ := hf
  refine ⟨?_, ?_, h6, h4, h5⟩
  · unfold sh_M at h1 ⊢
    rw [f1, f2, f3]
    exact h1
  · unfold MT_ at h2 ⊢
    simp (disch := omega) only [f6]
    exact h2
theorem RM_MQ {w : Wd} {S : Sm} (h : RM_ w S) (hW : WS_ S) : MQ_ w (sm_T S) (bm_X (sm_B S)) := ⟨h.1, h.2.1, h.2.2.1.1, hW.1, hW.2.2.2.1.1⟩
theorem RC_CQ {w : Wd} {G : Gm} {σ : Nat → Nat} {S : Sm} (h : RC_ w G σ S) (hW : WS_ S) : CQ_ w G 1008 (sm_T S) (bm_X (sm_B S)) := ⟨h.2.2.2.1, h.2.1.2.1.1, h.2.2.2.2.2.2.2.1.1, hW.1, hW.2.2.2.1.1⟩
/-- the code of a model's call -/
theorem fr_3 (w : Wd) (x : Int32) : Fr_ pm_ w (s_i w 1440 3 x) := fr_si (fr_rf _ _) (Or.inl ⟨rfl, Or.inl rfl⟩)
/-! where cells agree -/
def Eq_ (w w1 : Wd) (a : Nat) : Prop := w_t w1 a = w_t w a ∧ w_n w1 a = w_n w a ∧ (∀ k, w_r w1 a k = w_r w a k) ∧ ∀ k, w_i w1 a k = w_i w a k
def Sh_ (w w1 : Wd) (a : Nat) : Prop := w_t w1 a = w_t w a ∧ w_n w1 a = w_n w a ∧ ∀ k, w_r w1 a k = w_r w a k
theorem SO_ag {w w1 : Wd} {a : Nat} (h : SO_ w a) (f : ∀ b, a ≤ b → b ≤ a + 4 → Sh_ w w1 b) : SO_ w1 a := by
  have f1 : ∀ b, a ≤ b → b ≤ a + 4 → w_t w1 b = w_t w b := fun b h1 h2 => (f b h1 h2).1
  have f2 : ∀ b, a ≤ b → b ≤ a + 4 → w_n w1 b = w_n w b := fun b h1 h2 => (f b h1 h2).2.1
  have f3 : ∀ b k, a ≤ b → b ≤ a + 4 → w_r w1 b k = w_r w b k := fun b k h1 h2 => (f b h1 h2).2.2 k
  unfold SO_ at h ⊢
  simp (disch := omega) only [f1, f2, f3]
  exact h
theorem CS_ag {w w1 : Wd} {a n : Nat} {X : Xm} (h : CS_ w a n X) (f : ∀ b k, a ≤ b → b ≤ a + 4 → w_i w1 b k = w_i w b k) : CS_ w1 a n X := by
  unfold CS_ at h ⊢
  simp (disch := omega) only [f]
  exact h
theorem sh_B_ag {w w1 : Wd} {u : Nat} (h : sh_B w u) (f : ∀ b, u ≤ b → b ≤ u + 10 → Sh_ w w1 b) : sh_B w1 u := by
  have f1 : ∀ b, u ≤ b → b ≤ u + 10 → w_t w1 b = w_t w b := fun b h1 h2 => (f b h1 h2).1
  have f2 : ∀ b, u ≤ b → b ≤ u + 10 → w_n w1 b = w_n w b := fun b h1 h2 => (f b h1 h2).2.1
  have f3 : ∀ b k, u ≤ b → b ≤ u + 10 → w_r w1 b k = w_r w b k := fun b k h1 h2 => (f b h1 h2).2.2 k
  unfold sh_B at h ⊢
  simp (disch := omega) only [f1, f2, f3]
  exact h
theorem sh_K_ag {w w1 : Wd} {u : Nat} (h : sh_K w u) (f : ∀ b, u ≤ b → b ≤ u + 210 → Sh_ w w1 b) : sh_K w1 u :=
  ⟨SO_ag h.1 (fun b h1 h2 => f b (by omega) (by omega)), fun k hk => SO_ag (h.2 k hk) (fun b h1 h2 => f b (by omega) (by omega))⟩
theorem sh_C_ag {w w1 : Wd} (h : sh_C w) (hz : w_z w ≤ w_z w1) (f : ∀ b, 1000 ≤ b → b < 1440 → w_t w1 b = w_t w b ∧ w_n w1 b = w_n w b) (fr : ∀ k, k ≠ 0 → w_r w1 1000 k = w_r w 1000 k) : sh_C w1 := by
  have f1 : ∀ b, 1000 ≤ b → b < 1440 → w_t w1 b = w_t w b := fun b h1 h2 => (f b h1 h2).1
  have f2 : ∀ b, 1000 ≤ b → b < 1440 → w_n w1 b = w_n w b := fun b h1 h2 => (f b h1 h2).2
  unfold sh_C at h ⊢
  simp (disch := omega) only [f1, f2, fr]
  refine ⟨h.1, h.2.1, h.2.2.1, h.2.2.2.1, h.2.2.2.2.1, h.2.2.2.2.2.1, h.2.2.2.2.2.2.1, h.2.2.2.2.2.2.2.1, h.2.2.2.2.2.2.2.2.1, h.2.2.2.2.2.2.2.2.2.1, h.2.2.2.2.2.2.2.2.2.2.1, h.2.2.2.2.2.2.2.2.2.2.2.1, h.2.2.2.2.2.2.2.2.2.2.2.2.1, h.2.2.2.2.2.2.2.2.2.2.2.2.2.1, h.2.2.2.2.2.2.2.2.2.2.2.2.2.2.1, h.2.2.2.2.2.2.2.2.2.2.2.2.2.2.2.1, h.2.2.2.2.2.2.2.2.2.2.2.2.2.2.2.2.1, h.2.2.2.2.2.2.2.2.2.2.2.2.2.2.2.2.2.1, h.2.2.2.2.2.2.2.2.2.2.2.2.2.2.2.2.2.2.1, h.2.2.2.2.2.2.2.2.2.2.2.2.2.2.2.2.2.2.2.1, h.2.2.2.2.2.2.2.2.2.2.2.2.2.2.2.2.2.2.2.2.1, h.2.2.2.2.2.2.2.2.2.2.2.2.2.2.2.2.2.2.2.2.2.1, h.2.2.2.2.2.2.2.2.2.2.2.2.2.2.2.2.2.2.2.2.2.2.1, ?_⟩
  have := h.2.2.2.2.2.2.2.2.2.2.2.2.2.2.2.2.2.2.2.2.2.2.2
  omega
theorem CL_ag {w w1 : Wd} {u : Nat} {σ : Nat → Nat} (h : CL_ w u σ) (h1 : w_i w1 (u + 6) 2 = w_i w (u + 6) 2) (h2 : ∀ k, w_r w1 (u + 7) k = w_r w (u + 7) k) : CL_ w1 u σ :=
  ⟨h1.trans h.1, fun k hk => (h2 k).trans (h.2.1 k hk), h.2.2.1, h.2.2.2⟩
theorem CB_ag {w w1 : Wd} {u n : Nat} {σ : Nat → Nat} {B : Bm} (h : CB_ w u σ n B) (ha : bm_a B ≤ 40) (hσ : ∀ k, k < 40 → σ k < 40) (f : ∀ b k, u ≤ b → b ≤ u + 210 → w_i w1 b k = w_i w b k) : CB_ w1 u σ n B := by
  obtain ⟨h1, h2, h3, h4, h5, h6, h7⟩ := h
  refine ⟨CS_ag h1 (fun b k e1 e2 => f b k (by omega) (by omega)), (f u 5 (by omega) (by omega)).trans h2, fun k hk => CS_ag (h3 k hk) (fun b j e1 e2 => f b j (by omega) (by have := hσ k (by omega); omega)), (f u 6 (by omega) (by omega)).trans h4, fun k hk => (f _ k (by omega) (by omega)).trans (h5 k hk), fun k hk => (f _ k (by omega) (by omega)).trans (h6 k hk), fun k hk => (f _ k (by omega) (by omega)).trans (h7 k hk)⟩
/-- a town is left alone when its zone's objects are -/
theorem CT_ag {w w1 : Wd} {G : Gm} {T : Tm} (h : CT_ w G T) (hz : GZ_ w G T) (f : ∀ a, gz_ a → a < w_z w → Sh_ w w1 a) (f6 : ∀ a k, gz_ a → a < w_z w → 20 ≤ w_t w a → w_i w1 a k = w_i w a k) : CT_ w1 G T := by
  obtain ⟨⟨z1, y1⟩, ⟨z2, y2⟩, ⟨z3, y3⟩, ⟨z4, y4⟩, ⟨z5, y5⟩, z6, y6⟩ := hz
  obtain ⟨h1, h2, h3, h4, h5, h6, h7, h8, h9, h10, h11, h12, h13, h14, h15, h16, h17, h18, h19, h20, h21, h22⟩ := h
  have g1 := f _ z1 y1
  have g2 := f _ z2 y2
  have g3 := f _ z3 y3
  have g4 := f _ z4 y4
  have g5 := f _ z5 y5
  refine ⟨g1.1.trans h1, (g1.2.2 2).trans h2, (g1.2.2 3).trans h3, (g1.2.2 4).trans h4, (f6 _ 0 z1 y1 (by omega)).trans h5, (f6 _ 1 z1 y1 (by omega)).trans h6, g2.1.trans h7, (g2.2.2 1).trans h8, (f6 _ 2 z2 y2 (by omega)).trans h9, g3.1.trans h10, by rw [g3.2.1]; exact h11, by rw [g3.2.1]; exact h12, g4.1.trans h13, (g4.2.2 0).trans h14, g5.1.trans h15, g5.2.1.trans h16, fun t ht => (g3.2.2 t).trans (h17 t ht), fun t ht => (f _ (z6 t ht) (y6 t ht)).1.trans (h18 t ht), fun t ht => (f6 _ 0 (z6 t ht) (y6 t ht) (by rw [h18 t ht]; omega)).trans (h19 t ht), fun t ht => (f6 _ 1 (z6 t ht) (y6 t ht) (by rw [h18 t ht]; omega)).trans (h20 t ht), fun t ht => (f6 _ 2 (z6 t ht) (y6 t ht) (by rw [h18 t ht]; omega)).trans (h21 t ht), fun t ht => (f6 _ 3 (z6 t ht) (y6 t ht) (by rw [h18 t ht]; omega)).trans (h22 t ht)⟩
theorem EX_ag {w w1 : Wd} (hz : w_z w ≤ w_z w1) (f : ∀ a, gz_ a → a < w_z w → Sh_ w w1 a) (f6 : ∀ a k, gz_ a → a < w_z w → 20 ≤ w_t w a → w_i w1 a k = w_i w a k) : ∀ (n e : Nat) (c : List Int32), EX_ n w e c → EX_ n w1 e c := by
  intro n
  induction n with
  | zero => intro e c h; exact h
  | succ n ih =>
    intro e c h
    obtain ⟨h1, h2, h3⟩ := h
    refine ⟨h1, by omega, ?_⟩
    have g := f e h1 h2
    rcases h3 with ⟨a1, v, a2, a3, a4⟩ | ⟨a1, j, a2, a3, a4⟩ | ⟨a1, p, c1, a2, a3, a4⟩ | ⟨a1, l, r, c1, c2, o, a2, a3, a4, a5, a6, a7, a8⟩
    · exact Or.inl ⟨g.1.trans a1, v, a2, a3, (f6 e 0 h1 h2 (by omega)).trans a4⟩
    · exact Or.inr (Or.inl ⟨g.1.trans a1, j, a2, (g.2.2 0).trans a3, a4⟩)
    · exact Or.inr (Or.inr (Or.inl ⟨g.1.trans a1, p, c1, (g.2.2 0).trans a2, ih p c1 a3, a4⟩))
    · exact Or.inr (Or.inr (Or.inr ⟨g.1.trans a1, l, r, c1, c2, o, a2, (f6 e 0 h1 h2 (by omega)).trans a3, (g.2.2 1).trans a4, (g.2.2 2).trans a5, ih l c1 a6, ih r c2 a7, a8⟩))
theorem CE_ag {w w1 : Wd} {G : Gm} {T : Tm} (h : CE_ w G T) (hz : w_z w ≤ w_z w1) (f : ∀ a, gz_ a → a < w_z w → Sh_ w w1 a) (f6 : ∀ a k, gz_ a → a < w_z w → 20 ≤ w_t w a → w_i w1 a k = w_i w a k) : CE_ w1 G T := by
  rcases h with h | ⟨e, h1, h2⟩
  · exact Or.inl h
  · exact Or.inr ⟨e, h1, EX_ag hz f f6 _ _ _ h2⟩
theorem GZ_ag {w w1 : Wd} {G : Gm} {T : Tm} (h : GZ_ w G T) (hz : w_z w ≤ w_z w1) : GZ_ w1 G T := by
  obtain ⟨⟨z1, y1⟩, ⟨z2, y2⟩, ⟨z3, y3⟩, ⟨z4, y4⟩, ⟨z5, y5⟩, z6, y6⟩ := h
  exact ⟨⟨z1, by omega⟩, ⟨z2, by omega⟩, ⟨z3, by omega⟩, ⟨z4, by omega⟩, ⟨z5, by omega⟩, z6, fun t ht => by have := y6 t ht; omega⟩
/-- the model's relation looks at its own cells alone -/
theorem RM_ag {w w1 : Wd} {S : Sm} (h : RM_ w S) (f : ∀ a, 1440 ≤ a → a ≤ 1475 → Eq_ w w1 a) : RM_ w1 S := by
  have f1 : ∀ a, 1440 ≤ a → a ≤ 1475 → w_t w1 a = w_t w a := fun a h1 h2 => (f a h1 h2).1
  have f2 : ∀ a, 1440 ≤ a → a ≤ 1475 → w_n w1 a = w_n w a := fun a h1 h2 => (f a h1 h2).2.1
  have f3 : ∀ a k, 1440 ≤ a → a ≤ 1475 → w_r w1 a k = w_r w a k := fun a k h1 h2 => (f a h1 h2).2.2.1 k
  have f6 : ∀ a k, 1440 ≤ a → a ≤ 1475 → w_i w1 a k = w_i w a k := fun a k h1 h2 => (f a h1 h2).2.2.2 k
  unfold RM_ sh_M MT_ MB_ MI_ MS_ PK_ at h ⊢
  simp (disch := omega) only [f1, f2, f3, f6]
  exact h
/-- the component's relation looks at its own cells alone, but for its questions' scratch -/
theorem RC_ag {w w1 : Wd} {G : Gm} {σ : Nat → Nat} {S : Sm} (h : RC_ w G σ S) (hW : WS_ S) (hz : w_z w ≤ w_z w1) (f : ∀ a, 1000 ≤ a → a < w_z w → (a < 1440 ∨ 1475 < a) → Sh_ w w1 a) (f6 : ∀ a k, 1000 ≤ a → a < w_z w → (a < 1440 ∨ 1475 < a) → ¬ pc_ (gm_of G) a k → w_i w1 a k = w_i w a k) : RC_ w1 G σ S := by
  obtain ⟨h1, h2, h3, h4, h5, h6, h7, h8, h9, h10, h11, h12, h13, h14⟩ := h
  have hzz : 1477 ≤ w_z w := h1.2.2.2.2.2.2.2.2.2.2.2.2.2.2.2.2.2.2.2.2.2.2.2
  have hof : gz_ (gm_of G) := h6.2.2.2.2.1.1
  have htf : w_t w (gm_of G) = 1 := h4.2.2.2.2.2.2.2.2.2.2.2.2.2.2.1
  have fP : ∀ a k, a ≠ gm_of G → (a < 1429 ∨ 1433 < a) → (a < 1436 ∨ 1439 < a) → (a ≠ 1000 ∨ k ≠ 14) → ¬ pc_ (gm_of G) a k := by
    intro a k b1 b2 b3 b4
    unfold pc_
    omega
  have fS : ∀ a, gz_ a → a < w_z w → Sh_ w w1 a := fun a b1 b2 => by
    unfold gz_ at b1
    exact f a (by omega) b2 (by omega)
  have f6S : ∀ a k, gz_ a → a < w_z w → 20 ≤ w_t w a → w_i w1 a k = w_i w a k := fun a k b1 b2 b3 => by
    have : a ≠ gm_of G := fun e => by rw [e, htf] at b3; omega
    unfold gz_ at b1
    exact f6 a k (by omega) b2 (by omega) (fP a k this (by omega) (by omega) (by omega))
  have hg6 : ∀ a k, 1000 ≤ a → a < 1429 ∨ 1433 < a → a < 1436 → (a ≠ 1000 ∨ k ≠ 14) → (a < 1001 ∨ 1006 < a) → w_i w1 a k = w_i w a k := fun a k b0 b1 b2 b3 b4 => by
    unfold gz_ at hof
    exact f6 a k b0 (by omega) (by omega) (fP a k (by omega) b1 (by omega) b3)
  have hS : ∀ a, 1000 ≤ a → a < 1440 → Sh_ w w1 a := fun a b0 b1 => f a b0 (by omega) (by omega)
  refine ⟨sh_C_ag h1 hz (fun b b0 b1 => ⟨(hS b b0 b1).1, (hS b b0 b1).2.1⟩) (fun k _ => (hS 1000 (by omega) (by omega)).2.2 k), ⟨sh_B_ag h2.1 (fun b b1 b2 => hS b (by omega) (by omega)), sh_K_ag h2.2.1 (fun b b1 b2 => hS b (by omega) (by omega)), sh_B_ag h2.2.2.1 (fun b b1 b2 => hS b (by omega) (by omega)), sh_K_ag h2.2.2.2.1 (fun b b1 b2 => hS b (by omega) (by omega)), SO_ag h2.2.2.2.2 (fun b b1 b2 => hS b (by omega) (by omega))⟩, ((hS 1000 (by omega) (by omega)).2.2 0).trans h3, CT_ag h4 h6 fS f6S, CE_ag h5 hz fS f6S, GZ_ag h6 hz, CL_ag h7 (hg6 _ _ (by omega) (by omega) (by omega) (by omega) (by omega)) (fun k => (hS 1014 (by omega) (by omega)).2.2 k), CB_ag h8 hW.2.2.2.1.2.2.1 h7.2.2.1 (fun b k b1 b2 => hg6 b k (by omega) (by omega) (by omega) (by omega) (by omega)), CL_ag h9 (hg6 _ _ (by omega) (by omega) (by omega) (by omega) (by omega)) (fun k => (hS 1225 (by omega) (by omega)).2.2 k), (hg6 _ _ (by omega) (by omega) (by omega) (by omega) (by omega)).trans h10, fun B hB => CB_ag (h11 B hB) (hW.2.2.2.2.1 B hB).2.2.1 (fun k hk => hk) (fun b k b1 b2 => hg6 b k (by omega) (by omega) (by omega) (by omega) (by omega)), fun k hk => (hg6 _ _ (by omega) (by omega) (by omega) (by omega) (by omega)).trans (h12 k hk), (hg6 _ _ (by omega) (by omega) (by omega) (by omega) (by omega)).trans h13, (hg6 _ _ (by omega) (by omega) (by omega) (by omega) (by omega)).trans h14⟩
theorem RC_fr {w w1 : Wd} {G : Gm} {σ : Nat → Nat} {S : Sm} (h : RC_ w G σ S) (hW : WS_ S) (hf : Fr_ (pc_ (gm_of G)) w w1) : RC_ w1 G σ S := by
  obtain ⟨f1, f2, f3, f4, f5, f6⟩ := hf
  exact RC_ag h hW (by omega) (fun a _ _ _ => ⟨by rw [f1], by rw [f2], fun k => by rw [f3]⟩) (fun a k _ _ _ h9 => f6 a k h9)
