/-! THE WORLD UNDER A STEP: reading it, writing it, adding to it -/
set_option maxRecDepth 100000
section
variable {p : Program} {l : Launch} {e : Env} {R : Room} {s : State} {m : MethodId} {args : Array Value} {below : List Frame} {meth : Method} {c : Code} {D : va_G} {G : GG_} {w0 : Wd} {Q : State → Prop} {nL zE sE : Nat}
/-- where a method runs: what the rows ask of it -/
def Cx_ (p : Program) (l : Launch) (R : Room) (s : State) (m : MethodId) (args : Array Value) (meth : Method) (c : Code) (G : GG_) (w0 : Wd) (zE : Nat) (mi d : Nat) : Prop :=
  p.tables.exec = Jvm.exec ∧ c.code = m_c mi ∧ meth.sig.returnType = m_r mi ∧ c.maxLocals = m_l mi ∧ s.vm.findClass (o_s (o_m mi)) = some m.cls ∧ (∀ w ∈ lw_all, w.before args s = true) ∧ meth.locks = false ∧ ((m_y mi).name = "<init>" → meth.name = "<init>") ∧
  (match m_h mi with | none => ∀ x ∈ c.exceptionTable.toList, False | some hh => c.exceptionTable.toList = tableOf hh) ∧ GN_ G w0 ∧ GI_ G w0 s s.heap ∧ l.stackTraces = false ∧ d + 8 ≤ R.frames ∧ 60 * d + 400 ≤ R.locals ∧ s.heap.size = G.1 + (zE - 1000) ∧ 1000 ≤ zE
/-- all that a world says but the heap's size -/
def RX_ (D : va_G) (G : GG_) (w0 w : Wd) (U : State) (H : Heap) (ws : va_W) (tys : List (ClassId × FieldType)) : Prop := va_K D cL_ tys U ∧ va_P D cL_ ws H ∧ va_D (A_ G) ws ∧ (∀ a, 1000 ≤ a → a < w_z w → ∃ q, R1_ G w ws tys a q) ∧ 1000 ≤ w_z w ∧ (∀ a, w_z w ≤ a → w_t w a = 0) ∧ K0_ w0 w
def WW_ (p : Program) (l : Launch) (e : Env) (R : Room) (s : State) (m : MethodId) (args : Array Value) (below : List Frame) (meth : Method) (c : Code) (D : va_G) (G : GG_) (w0 : Wd) (Q : State → Prop) (nL zE sE : Nat) (w : Wd) (ls : List (Option Vl)) (st : List Vl) (pc : Nat) : Prop :=
  ∀ (H : Heap) (locs : List Loc) (L : Array Slot), RW_ D G w0 w s H → va_S (A_ G) s.heap H locs → LH_ G L ls nL → W p l e R s m args below meth c H locs (w_z w - zE) (w_s w - sE) Q (F0 m pc L (st.map (tv_ G)))
theorem RW_.parts {w : Wd} {U : State} {H : Heap} (h : RW_ D G w0 w U H) : ∃ ws tys, RX_ D G w0 w U H ws tys ∧ H.size = G.1 + (w_z w - 1000) := by
  obtain ⟨ws, tys, h1, h2, h3, h4, h5, h6, h7, h8⟩ := h
  exact ⟨ws, tys, ⟨h1, h2, h3, h4, h6, h7, h8⟩, h5⟩
theorem RX_.size {w : Wd} {U : State} {H : Heap} {ws : va_W} {tys : List (ClassId × FieldType)} (h : RX_ D G w0 w U H ws tys) (h0 : G.1 ≤ H.size) (hz : H.size ≤ G.1 + (w_z w - 1000)) : RW_ D G w0 w U H := by
  obtain ⟨h1, h2, h3, h4, h6, h7, h8⟩ := h
  refine ⟨ws, tys, h1, h2, h3, h4, ?_, h6, h7, h8⟩
  by_cases hw : w_z w = 1000
  · rw [hw] at hz ⊢
    omega
  · obtain ⟨q, hq⟩ := h4 (w_z w - 1) (by omega) (by omega)
    have hlt : G.1 + (w_z w - 1 - 1000) < H.size := by
      rcases hq with ⟨-, -, hq⟩ | ⟨-, -, ⟨cA, t0, hq, -⟩, -⟩ | ⟨-, cA, hq, -⟩
      · exact (h2 q _ hq).lt
      · exact (h2 q _ hq).lt
      · exact (h2 q _ hq).lt
    omega
/-- a step that ends in a new heap: its size is found -/
theorem fin_ {w : Wd} {ls : List (Option Vl)} {st : List Vl} {pc mi d : Nat} (C : Cx_ p l R s m args meth c G w0 zE mi d) (k : WW_ p l e R s m args below meth c D G w0 Q nL zE sE w ls st pc) (hz : zE ≤ w_z w) {H : Heap} {locs : List Loc} {L : Array Slot} {ws : va_W} {tys : List (ClassId × FieldType)}
    (hX : RX_ D G w0 w s H ws tys) (hS : va_S (A_ G) s.heap H locs) (hL : LH_ G L ls nL) : W p l e R s m args below meth c H locs (w_z w - zE) (w_s w - sE) Q (F0 m pc L (st.map (tv_ G))) := by
  intro T hT X
  have hb := X.heapSize
  rw [hT] at hb
  obtain ⟨-, -, -, -, -, -, -, -, -, -, -, -, -, -, hE, hE0⟩ := C
  have h0 := hS.1
  exact k H locs L (hX.size (by omega) (by omega)) hS hL T hT X
theorem K0_.tag (hN : GN_ G w0) {w : Wd} (h : K0_ w0 w) {a : Nat} (ha : a < 1000) : w_t w a = 0 ∨ (8 ≤ w_t w a ∧ w_t w a ≤ 9) ∨ (15 ≤ w_t w a ∧ w_t w a ≤ 18) := by
  rw [(h a ha).1]
  exact hN.1 a ha
theorem RX_.obj (hN : GN_ G w0) {w : Wd} {U : State} {H : Heap} {ws : va_W} {tys : List (ClassId × FieldType)} (h : RX_ D G w0 w U H ws tys) {a : Nat} (ht : 20 ≤ w_t w a) : ∃ q : Nat, 1000 ≤ a ∧ a < w_z w ∧ w_t w a ≤ 41 ∧ ws[q]? = some (G.1 + (a - 1000), (Sum.inr (w_t w a - 20, fl_ G w a (w_t w a - 20)) : va_E)) := by
  obtain ⟨h1, h2, h3, h4, h6, h7, h8⟩ := h
  have ha : 1000 ≤ a := by
    rcases Nat.lt_or_ge a 1000 with hl | hl
    · have := K0_.tag hN h8 hl
      omega
    · exact hl
  have hb : a < w_z w := by
    rcases Nat.lt_or_ge a (w_z w) with hl | hl
    · exact hl
    · have := h7 a hl
      omega
  obtain ⟨q, hq⟩ := h4 a ha hb
  rcases hq with ⟨-, x, hq⟩ | ⟨-, hq, -⟩ | ⟨hq, -⟩
  · exact ⟨q, ha, hb, x, hq⟩
  · omega
  · omega
theorem RX_.arr (hN : GN_ G w0) {w : Wd} {U : State} {H : Heap} {ws : va_W} {tys : List (ClassId × FieldType)} (h : RX_ D G w0 w U H ws tys) {a : Nat} (ht : 1 ≤ w_t w a) (ht2 : w_t w a ≤ 6) : ∃ (q : Nat) (cA : ClassId) (t0 : Nat), 1000 ≤ a ∧ a < w_z w ∧ ws[q]? = some (G.1 + (a - 1000), (Sum.inl (cA, ar_ G w a) : va_E)) ∧ tys[t0]? = some (cA, ty_ (w_t w a)) ∧ (w_t w a = 2 → ∀ j, (w_i w a j).toInt8.toInt32 = w_i w a j) := by
  obtain ⟨h1, h2, h3, h4, h6, h7, h8⟩ := h
  have ha : 1000 ≤ a := by
    rcases Nat.lt_or_ge a 1000 with hl | hl
    · have := K0_.tag hN h8 hl
      omega
    · exact hl
  have hb : a < w_z w := by
    rcases Nat.lt_or_ge a (w_z w) with hl | hl
    · exact hl
    · have := h7 a hl
      omega
  obtain ⟨q, hq⟩ := h4 a ha hb
  rcases hq with ⟨x, -, hq⟩ | ⟨-, -, ⟨cA, t0, h9, h10⟩, h11⟩ | ⟨hq, -⟩
  · omega
  · exact ⟨q, cA, t0, ha, hb, h9, h10, h11⟩
  · omega
theorem RX_.arr7 (hN : GN_ G w0) {w : Wd} {U : State} {H : Heap} {ws : va_W} {tys : List (ClassId × FieldType)} (h : RX_ D G w0 w U H ws tys) {a : Nat} (ht : w_t w a = 7) : ∃ (q : Nat) (cA : ClassId), 1000 ≤ a ∧ a < w_z w ∧ ws[q]? = some (G.1 + (a - 1000), (Sum.inl (cA, ar_ G w a) : va_E)) ∧ G.2 1000 = some cA := by
  obtain ⟨h1, h2, h3, h4, h6, h7, h8⟩ := h
  have ha : 1000 ≤ a := by
    rcases Nat.lt_or_ge a 1000 with hl | hl
    · have := K0_.tag hN h8 hl
      omega
    · exact hl
  have hb : a < w_z w := by
    rcases Nat.lt_or_ge a (w_z w) with hl | hl
    · exact hl
    · have := h7 a hl
      omega
  obtain ⟨q, hq⟩ := h4 a ha hb
  rcases hq with ⟨x, -, hq⟩ | ⟨-, x, -⟩ | ⟨-, cA, h9, h10⟩
  · omega
  · omega
  · exact ⟨q, cA, ha, hb, h9, h10⟩
/-- the machine's reference of a dynamic one -/
theorem ad_dyn {a : Nat} (ha : 1000 ≤ a) : ad_ G a = some (G.1 + (a - 1000)) := by
  unfold ad_
  rw [if_neg (by omega)]
theorem tv_dyn {a : Nat} (ha : 1000 ≤ a) : tv_ G (v_R (some a)) = .ref (G.1 + (a - 1000)) := by
  show va_rf (ad_ G a) = _
  rw [ad_dyn ha]
  rfl
/-- one cell's row changed -/
theorem RX_.put {w w1 : Wd} {H H1 : Heap} {ws : va_W} {tys : List (ClassId × FieldType)} {a q : Nat} {e0 e1 : va_E} (h : RX_ D G w0 w s H ws tys) (ha : 1000 ≤ a) (haz : a < w_z w) (he : ws[q]? = some (G.1 + (a - 1000), e0)) (hP : va_P D cL_ (ws.set q (G.1 + (a - 1000), e1)) H1) (hD : va_D (A_ G) (ws.set q (G.1 + (a - 1000), e1)))
    (hz : w_z w1 = w_z w) (ht : ∀ b, b ≠ a → w_t w1 b = w_t w b) (hn : ∀ b, b ≠ a → w_n w1 b = w_n w b) (hi : ∀ b j, b ≠ a → w_i w1 b j = w_i w b j) (hl : ∀ b j, b ≠ a → w_l w1 b j = w_l w b j) (hr : ∀ b j, b ≠ a → w_r w1 b j = w_r w b j)
    (h1 : R1_ G w1 (ws.set q (G.1 + (a - 1000), e1)) tys a q) : RX_ D G w0 w1 s H1 (ws.set q (G.1 + (a - 1000), e1)) tys := by
  obtain ⟨g1, g2, g3, g4, g6, g7, g8⟩ := h
  have hlen := (List.getElem?_eq_some_iff.mp he).1
  refine ⟨g1, hP, hD, fun b hb hbz => ?_, by rw [hz]; exact g6, fun b hb => ?_, fun b hb => ?_⟩
  · by_cases hab : b = a
    · subst hab; exact ⟨q, h1⟩
    · obtain ⟨q2, hq2⟩ := g4 b hb (by rw [← hz]; exact hbz)
      have hne : ∀ {ex : va_E}, ws[q2]? = some (G.1 + (b - 1000), ex) → q ≠ q2 := fun hx hqq => by
        subst hqq
        rw [he] at hx
        have := (Prod.mk.inj (Option.some.inj hx)).1
        omega
      have hfl : ∀ ci, fl_ G w1 b ci = fl_ G w b ci := fun ci => by
        unfold fl_
        refine List.map_congr_left fun k _ => ?_
        unfold f_v
        rw [hi b k hab, hl b k hab, hr b k hab]
      have har : ar_ G w1 b = ar_ G w b := by
        have e1 : w_i w1 b = w_i w b := funext fun j => hi b j hab
        have e2 : w_l w1 b = w_l w b := funext fun j => hl b j hab
        unfold ar_
        rw [ht b hab, hn b hab, e1, e2]
        simp only [hr b _ hab]
      refine ⟨q2, ?_⟩
      rcases hq2 with ⟨x, y, z⟩ | ⟨x, y, ⟨cA, t0, z1, z2⟩, z3⟩ | ⟨x, cA, z1, z2⟩
      · exact Or.inl ⟨by rw [ht b hab]; exact x, by rw [ht b hab]; exact y, by rw [ht b hab, hfl, List.getElem?_set_ne (hne z)]; exact z⟩
      rotate_left
      · exact Or.inr (Or.inr ⟨by rw [ht b hab]; exact x, cA, by rw [har, List.getElem?_set_ne (hne z1)]; exact z1, z2⟩)
      · exact Or.inr <| Or.inl ⟨by rw [ht b hab]; exact x, by rw [ht b hab]; exact y, ⟨cA, t0, by rw [har, List.getElem?_set_ne (hne z1)]; exact z1, by rw [ht b hab]; exact z2⟩, fun t2 j => by rw [hi b j hab]; exact z3 (by rw [← ht b hab]; exact t2) j⟩
  · rw [hz] at hb
    by_cases hab : b = a
    · omega
    · rw [ht b hab]; exact g7 b hb
  · have hab : b ≠ a := by omega
    obtain ⟨x, y, z, u⟩ := g8 b hb
    exact ⟨by rw [ht b hab]; exact x, by rw [hn b hab]; exact y, fun k => by rw [hi b k hab]; exact z k, fun k => by rw [hr b k hab]; exact u k⟩
/-- a new cell lies at the end -/
theorem new_q {w : Wd} {H H1 : Heap} {ws : va_W} {tys : List (ClassId × FieldType)} {q : Nat} {e1 : va_E} (h : RX_ D G w0 w s H ws tys) (hsz : H.size = G.1 + (w_z w - 1000)) (hP : va_P D cL_ (ws ++ [(q, e1)]) H1) (hD : va_D (A_ G) (ws ++ [(q, e1)])) (hle : H1.size ≤ H.size + 1) : q = G.1 + (w_z w - 1000) := by
  obtain ⟨g1, g2, g3, g4, g6, g7, g8⟩ := h
  have hl : (ws ++ [(q, e1)])[ws.length]? = some (q, e1) := by simp
  have h1 : q < H1.size := (hP _ _ hl).lt
  have h2 : G.1 ≤ q := hD.2 _ _ hl
  rcases Nat.lt_or_ge q H.size with hlt | hge
  · exfalso
    obtain ⟨q2, hq2⟩ := g4 (1000 + (q - G.1)) (by omega) (by omega)
    have key : ∀ ex : va_E, ws[q2]? = some (G.1 + (1000 + (q - G.1) - 1000), ex) → False := fun ex hx => by
      have hlen := (List.getElem?_eq_some_iff.mp hx).1
      have := hD.1 q2 ws.length (G.1 + (1000 + (q - G.1) - 1000), ex) (q, e1) (by rw [List.getElem?_append_left hlen]; exact hx) hl (by show G.1 + (1000 + (q - G.1) - 1000) = q; omega)
      omega
    rcases hq2 with ⟨-, -, z⟩ | ⟨-, -, ⟨cA, t0, z, -⟩, -⟩ | ⟨-, cA, z, -⟩
    · exact key _ z
    · exact key _ z
    · exact key _ z
  · omega
/-- one cell more -/
theorem RX_.push {w w1 : Wd} {H H1 : Heap} {ws : va_W} {tys tys1 : List (ClassId × FieldType)} {q : Nat} {e1 : va_E} (h : RX_ D G w0 w s H ws tys) (hP : va_P D cL_ (ws ++ [(q, e1)]) H1) (hD : va_D (A_ G) (ws ++ [(q, e1)])) (hK : va_K D cL_ tys1 s) (hty : ∀ (i : Nat) (x : ClassId × FieldType), tys[i]? = some x → tys1[i]? = some x)
    (hz : w_z w1 = w_z w + 1) (ht : ∀ b, b ≠ w_z w → w_t w1 b = w_t w b) (hn : ∀ b, b ≠ w_z w → w_n w1 b = w_n w b) (hi : ∀ b j, b ≠ w_z w → w_i w1 b j = w_i w b j) (hl : ∀ b j, b ≠ w_z w → w_l w1 b j = w_l w b j) (hr : ∀ b j, b ≠ w_z w → w_r w1 b j = w_r w b j)
    (h1 : R1_ G w1 (ws ++ [(q, e1)]) tys1 (w_z w) ws.length) : RX_ D G w0 w1 s H1 (ws ++ [(q, e1)]) tys1 := by
  obtain ⟨g1, g2, g3, g4, g6, g7, g8⟩ := h
  refine ⟨hK, hP, hD, fun b hb hbz => ?_, by omega, fun b hb => ?_, fun b hb => ?_⟩
  · by_cases hab : b = w_z w
    · subst hab; exact ⟨_, h1⟩
    · obtain ⟨q2, hq2⟩ := g4 b hb (by omega)
      have hfl : ∀ ci, fl_ G w1 b ci = fl_ G w b ci := fun ci => by
        unfold fl_
        refine List.map_congr_left fun k _ => ?_
        unfold f_v
        rw [hi b k hab, hl b k hab, hr b k hab]
      have har : ar_ G w1 b = ar_ G w b := by
        have e1 : w_i w1 b = w_i w b := funext fun j => hi b j hab
        have e2 : w_l w1 b = w_l w b := funext fun j => hl b j hab
        unfold ar_
        rw [ht b hab, hn b hab, e1, e2]
        simp only [hr b _ hab]
      have happ : ∀ x : Nat × va_E, ws[q2]? = some x → (ws ++ [(q, e1)])[q2]? = some x := fun x hx => by
        rw [List.getElem?_append_left (List.getElem?_eq_some_iff.mp hx).1]; exact hx
      refine ⟨q2, ?_⟩
      rcases hq2 with ⟨x, y, z⟩ | ⟨x, y, ⟨cA, t0, z1, z2⟩, z3⟩ | ⟨x, cA, z1, z2⟩
      · exact Or.inl ⟨by rw [ht b hab]; exact x, by rw [ht b hab]; exact y, by rw [ht b hab, hfl]; exact happ _ z⟩
      rotate_left
      · exact Or.inr (Or.inr ⟨by rw [ht b hab]; exact x, cA, by rw [har]; exact happ _ z1, z2⟩)
      · exact Or.inr <| Or.inl ⟨by rw [ht b hab]; exact x, by rw [ht b hab]; exact y, ⟨cA, t0, by rw [har]; exact happ _ z1, by rw [ht b hab]; exact hty _ _ z2⟩, fun t2 j => by rw [hi b j hab]; exact z3 (by rw [← ht b hab]; exact t2) j⟩
  · rw [ht b (by omega)]; exact g7 b (by omega)
  · have hab : b ≠ w_z w := by omega
    obtain ⟨x, y, z, u⟩ := g8 b hb
    exact ⟨by rw [ht b hab]; exact x, by rw [hn b hab]; exact y, fun k => by rw [hi b k hab]; exact z k, fun k => by rw [hr b k hab]; exact u k⟩
theorem fin_n {w w1 : Wd} {ls : List (Option Vl)} {r : List Vl} {pc1 mi d : Nat} (C : Cx_ p l R s m args meth c G w0 zE mi d) (k : WW_ p l e R s m args below meth c D G w0 Q nL zE sE w1 ls (v_R (some (w_z w)) :: r) pc1) (hz : zE ≤ w_z w) {H H1 : Heap} {locs : List Loc} {L : Array Slot} {ws : va_W} {tys tys1 : List (ClassId × FieldType)} {q cells1 slots1 : Nat} {e1 : va_E}
    (hX : RX_ D G w0 w s H ws tys) (hsz : H.size = G.1 + (w_z w - 1000)) (hP : va_P D cL_ (ws ++ [(q, e1)]) H1) (hD : va_D (A_ G) (ws ++ [(q, e1)])) (hS : va_S (A_ G) s.heap H1 locs) (hL : LH_ G L ls nL) (hc : cells1 = w_z w1 - zE) (hs : slots1 = w_s w1 - sE) (hz1 : w_z w1 = w_z w + 1)
    (hX1 : q = G.1 + (w_z w - 1000) → RX_ D G w0 w1 s H1 (ws ++ [(q, e1)]) tys1) : W p l e R s m args below meth c H1 locs cells1 slots1 Q (F0 m pc1 L (.ref q :: r.map (tv_ G))) := by
  intro T hT X
  have hb := X.heapSize
  rw [hT] at hb
  have C2 := C
  obtain ⟨-, -, -, -, -, -, -, -, -, -, -, -, -, -, hE, hE0⟩ := C2
  have hq := new_q hX hsz hP hD (by omega)
  have h1 := hX1 hq
  have hg := hX.2.2.2.2.1
  subst hq
  have kk := fin_ C k (by omega) h1 hS hL
  rw [List.map_cons, tv_dyn hg, ← hc, ← hs] at kk
  exact kk T hT X
/-- a field's place changed -/
theorem fl_set {w w1 : Wd} {a ci k : Nat} {v : Vl} (hk : k < (c_e ci).2.2) (ho : ∀ j, j ≠ k → f_v w1 a j (kd_ ci j) = f_v w a j (kd_ ci j)) (hv : f_v w1 a k (kd_ ci k) = v) : fl_ G w1 a ci = (fl_ G w a ci).set k (tv_ G v) := by
  refine List.ext_getElem? fun j => ?_
  rw [List.getElem?_set]
  unfold fl_
  rw [List.length_map, List.length_range]
  by_cases hj : k = j
  · subst hj
    simp [hk, hv]
  · rw [if_neg hj]
    simp only [List.getElem?_map]
    by_cases hl : j < (c_e ci).2.2
    · simp [hl, ho j (fun z => hj z.symm)]
    · simp [hl]
theorem fl_at {w : Wd} {a ci k : Nat} (hk : k < (c_e ci).2.2) : (fl_ G w a ci)[k]? = some (tv_ G (f_v w a k (kd_ ci k))) := by
  unfold fl_
  simp [hk]
theorem fl_len {w : Wd} {a ci : Nat} : (fl_ G w a ci).length = (c_e ci).2.2 := by
  unfold fl_
  simp
theorem cL_e {ci : Nat} {C : String} {T : u_T} {N : Nat} (h : cL_[ci]? = some (C, T, N)) : c_e ci = (C, T, N) := by
  unfold c_e
  simp [List.getD, h]
end
