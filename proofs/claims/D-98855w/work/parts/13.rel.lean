/-! THE ABSTRACT WORLD AND THE MACHINE'S HEAP: what a world says of the heap; what stays true all through; what the tables must be -/
set_option maxRecDepth 100000
/-- where constants lie, where the first new cell lies -/
abbrev GG_ : Type := Nat × (Nat → Option Nat)
def ad_ (G : GG_) (a : Nat) : Option Nat := if a < 1000 then G.2 a else some (G.1 + (a - 1000))
def tv_ (G : GG_) : Vl → Value
  | Sum.inl x => .int x
  | Sum.inr (Sum.inl x) => .long x
  | Sum.inr (Sum.inr o) => va_rf (o.bind (ad_ G))
def fl_ (G : GG_) (w : Wd) (a ci : Nat) : List Value := (List.range (c_e ci).2.2).map (fun k => tv_ G (f_v w a k (kd_ ci k)))
def ar_ (G : GG_) (w : Wd) (a : Nat) : vp_A := (w_n w a, if w_t w a = 4 then .inr (.inl (w_l w a)) else if w_t w a ≤ 3 then .inl (w_i w a) else .inr (.inr (.inr (.inr (fun j => (w_r w a j).bind (ad_ G))))))
def ty_ (t : Nat) : FieldType := match t with
  | 1 => .int
  | 2 => .byte
  | 3 => .boolean
  | 4 => .long
  | 5 => .object "java/lang/Object"
  | 6 => .object "java/lang/String"
  | _ => .object "TableTower$Value"
def A_ (G : GG_) : Nat → Prop := fun q => G.1 ≤ q
def R1_ (G : GG_) (w : Wd) (ws : va_W) (tys : List (ClassId × FieldType)) (a q : Nat) : Prop :=
  (20 ≤ w_t w a ∧ w_t w a ≤ 41 ∧ ws[q]? = some (G.1 + (a - 1000), .inr (w_t w a - 20, fl_ G w a (w_t w a - 20)))) ∨
  (1 ≤ w_t w a ∧ w_t w a ≤ 6 ∧ (∃ (cA : ClassId) (t0 : Nat), ws[q]? = some (G.1 + (a - 1000), .inl (cA, ar_ G w a)) ∧ tys[t0]? = some (cA, ty_ (w_t w a))) ∧ (w_t w a = 2 → ∀ j, (w_i w a j).toInt8.toInt32 = w_i w a j)) ∨
  (w_t w a = 7 ∧ ∃ cA : ClassId, ws[q]? = some (G.1 + (a - 1000), .inl (cA, ar_ G w a)) ∧ G.2 1000 = some cA)
/-- the constants' part of a world is as it was -/
def K0_ (w0 w : Wd) : Prop := ∀ a, a < 1000 → w_t w a = w_t w0 a ∧ w_n w a = w_n w0 a ∧ (∀ k, w_i w a k = w_i w0 a k) ∧ ∀ k, w_r w a k = w_r w0 a k
def RW_ (D : va_G) (G : GG_) (w0 w : Wd) (U : State) (H : Heap) : Prop := ∃ (ws : va_W) (tys : List (ClassId × FieldType)), va_K D cL_ tys U ∧ va_P D cL_ ws H ∧ va_D (A_ G) ws ∧ (∀ a, 1000 ≤ a → a < w_z w → ∃ q, R1_ G w ws tys a q) ∧
  H.size = G.1 + (w_z w - 1000) ∧ 1000 ≤ w_z w ∧ (∀ a, w_z w ≤ a → w_t w a = 0) ∧ K0_ w0 w
theorem RW_.moved {D : va_G} {G : GG_} {w0 w : Wd} {u U : State} {H : Heap} (hvm : u.vm.Alike U.vm) (h : RW_ D G w0 w u H) : RW_ D G w0 w U H := by
  obtain ⟨ws, tys, hK, r⟩ := h
  exact ⟨ws, tys, va_K.moved hvm hK, r⟩
/-- an array of before, its length exact -/
def va_T9 (ty : FieldType) (t N : Nat) (f : Nat → Value) (A : Nat → Prop) (U : State) (H : Heap) : Prop := ∃ cell : Cell, H[t]? = some cell ∧ U.isArrayOf cell ty ∧ cell.vm ≠ .unknown ∧ cell.slots.size = N ∧ (∀ j : Nat, j < N → cell.slots[j]? = some (f j)) ∧ ¬ A t
theorem va_T9.moved {ty : FieldType} {t N : Nat} {f : Nat → Value} {A : Nat → Prop} {u U : State} {H : Heap} (hvm : u.vm.Alike U.vm) (h : va_T9 ty t N f A u H) : va_T9 ty t N f A U H := by
  obtain ⟨cell, h1, h2, h3⟩ := h
  exact ⟨cell, h1, State.isArrayOf_alike hvm h2, h3⟩
theorem va_T9.kept {ty : FieldType} {t N : Nat} {f : Nat → Value} {A : Nat → Prop} {U : State} {H H1 : Heap} (h : va_T9 ty t N f A U H) (hq : ∀ a : Nat, a < H.size → ¬ A a → H1[a]? = H[a]?) : va_T9 ty t N f A U H1 := by
  obtain ⟨cell, h1, h2, h3, h4, h5, h7⟩ := h
  exact ⟨cell, by rw [hq t (Array.getElem?_eq_some_iff.mp h1).1 h7]; exact h1, h2, h3, h4, h5, h7⟩
/-- what holds at every state of the run: A are the cells that may change -/
def GC_ (G : GG_) (w0 : Wd) (s : State) (H : Heap) : Prop := ∀ a, a < 1000 →
  (w_t w0 a = 18 → ∃ q, G.2 a = some q ∧ va_O "java/lang/String" q (A_ G) s H ∧ va_OF "java/lang/String" "value" "[B" (tv_ G (v_R (w_r w0 a 0))) q (A_ G) s H ∧ va_OF "java/lang/String" "coder" "B" (.int (w_i w0 a 1)) q (A_ G) s H) ∧
  (w_t w0 a = 17 → ∃ q, G.2 a = some q ∧ va_O "TableTower$Value" q (A_ G) s H ∧ va_OF "java/lang/Enum" "ordinal" "I" (.int (w_i w0 a 0)) q (A_ G) s H) ∧
  (w_t w0 a = 15 → ∃ q, G.2 a = some q ∧ va_O "[LTableTower$Value;" q (A_ G) s H ∧ va_T9 (.object "TableTower$Value") q (w_n w0 a) (fun j => va_rf ((w_r w0 a j).bind (ad_ G))) (A_ G) s H) ∧
  (w_t w0 a = 9 → ∃ q, G.2 a = some q ∧ va_T .byte q (w_n w0 a) (fun j => .int (w_i w0 a j)) (A_ G) s H) ∧
  (w_t w0 a = 8 → ∃ q, G.2 a = some q ∧ va_X q (w_n w0 a) (w_i w0 a) s H ∧ q < H.size ∧ q < G.1)
/-- numbers alone: no state is spoken of -/
def GN_ (G : GG_) (w0 : Wd) : Prop := (∀ a, a < 1000 → w_t w0 a = 0 ∨ (8 ≤ w_t w0 a ∧ w_t w0 a ≤ 9) ∨ (15 ≤ w_t w0 a ∧ w_t w0 a ≤ 18)) ∧ (∀ a q, a < 1000 → a ≠ 230 → a ≠ 232 → G.2 a = some q → q < G.1) ∧ (∀ a, a < 232 → G.2 a ≠ none) ∧ ∀ a b, 210 ≤ a → a < 215 → 210 ≤ b → b < 215 → G.2 a = G.2 b → a = b
def GI_ (G : GG_) (w0 : Wd) (s : State) (H : Heap) : Prop :=
  (∀ e ∈ nF_L, va_Nw (.fieldLinkNest e.1 e.2.1 e.2.2.1 e.2.2.2.1 e.2.2.2.2.1 e.2.2.2.2.2) s) ∧ (∀ e ∈ nM_L, va_Nw (.methodLinkNest e.1 e.2.1 e.2.2.1 e.2.2.2) s) ∧ (∀ e ∈ nC_L, va_Nw (.castable e.1 e.2) s) ∧ (∀ e ∈ nD_L, va_Nw (.declares e) s) ∧
  (∀ e ∈ nS_L, va_Z e.1 e.2.1 e.2.2.1 (tv_ G e.2.2.2) (A_ G) s H) ∧ (∀ e ∈ nT_L, ∃ q, G.2 e.2.2.2 = some q ∧ vk_R e.1 e.2.1 e.2.2.1 q s) ∧
  va_AO "java/lang/Object" s ∧ va_AO "java/lang/String" s ∧ (∃ mi, G.2 230 = some mi ∧ va_Mi "[Ljava/lang/Object;" mi s) ∧ va_Nc "java/lang/IllegalArgumentException" "java/util/NoSuchElementException" s ∧
  vx_Zq Bundle.tN "UNASSIGNED_STACK" Bundle.steD (A_ G) s H ∧ vx_Zq Bundle.tN "SUPPRESSED_SENTINEL" Bundle.listD (A_ G) s H ∧ GC_ G w0 s H ∧ G.1 ≤ H.size ∧ (∀ e ∈ nP_L, (Cond.selects e.1 e.2 e.2).before #[] s = true) ∧ ∃ cA : ClassId, G.2 1000 = some cA ∧ s.vm.findClass "[LTableTower$Value;" = some cA ∧ ArrOfT s cA (.object "TableTower$Value")
theorem GC_.moved {G : GG_} {w0 : Wd} {s U : State} {H H1 : Heap} (hvm : s.vm.Alike U.vm) (hz : H.size ≤ H1.size) (hq : ∀ q : Nat, q < H.size → ¬ A_ G q → H1[q]? = H[q]?) (h : GC_ G w0 s H) : GC_ G w0 U H1 := by
  intro a ha
  obtain ⟨h1, h2, h3, h4, h5⟩ := h a ha
  refine ⟨fun t => ?_, fun t => ?_, fun t => ?_, fun t => ?_, fun t => ?_⟩
  · obtain ⟨q, e, x, y, z⟩ := h1 t
    exact ⟨q, e, va_O.moved hvm (x.kept hq), va_OF.moved hvm (y.kept hq), va_OF.moved hvm (z.kept hq)⟩
  · obtain ⟨q, e, x, y⟩ := h2 t
    exact ⟨q, e, va_O.moved hvm (x.kept hq), va_OF.moved hvm (y.kept hq)⟩
  · obtain ⟨q, e, x, y⟩ := h3 t
    exact ⟨q, e, va_O.moved hvm (x.kept hq), va_T9.moved hvm (y.kept hq)⟩
  · obtain ⟨q, e, x⟩ := h4 t
    exact ⟨q, e, va_T.moved hvm (x.kept hq)⟩
  · obtain ⟨q, e, x, y, hlt⟩ := h5 t
    exact ⟨q, e, va_X.moved hvm (x.kept (hq q y (fun z => Nat.lt_irrefl _ (Nat.lt_of_lt_of_le hlt z)))), Nat.lt_of_lt_of_le y hz, hlt⟩
theorem GI_.moved {G : GG_} {w0 : Wd} {s U : State} {H H1 : Heap} (hN : GN_ G w0) (hW : s.WarmedH U.vm) (hz : H.size ≤ H1.size) (hq : ∀ q : Nat, q < H.size → ¬ A_ G q → H1[q]? = H[q]?) (h : GI_ G w0 s H) : GI_ G w0 U H1 := by
  have hvm := hW.alike
  obtain ⟨h1, h2, h3, h4, h5, h6, h7, h8, ⟨mi, h9, h9'⟩, h10, h11, h12, h13, h14, h15, ⟨cA, h16, h17, h18⟩⟩ := h
  refine ⟨fun e he => va_Nw.warmF hW (h1 e he), fun e he => va_Nw.warmM hW (h2 e he), fun e he => va_Nw.warmC hW (h3 e he), fun e he => va_Nw.warmD hW (h4 e he), fun e he => va_Z.moved hvm ((h5 e he).kept hq), fun e he => ?_, va_AO.moved hvm h7, va_AO.moved hvm h8, ⟨mi, h9, va_Mi.moved hvm h9'⟩, va_Nc.moved hvm h10, vx_Zq.moved hvm (h11.kept hq), vx_Zq.moved hvm (h12.kept hq), GC_.moved hvm hz hq h13, Nat.le_trans h14 hz, fun e he => word_at hW (Or.inl rfl) (h15 e he), ⟨cA, h16, by rw [hvm.findClass]; exact h17, arrOfT_moved hvm h18⟩⟩
  obtain ⟨q, e1, e2⟩ := h6 e he
  exact ⟨q, e1, vk_R.warm hW e2⟩
/-! what the tables must be -/
def F_ok (o i t k kd : Nat) (fin : Bool) : Prop :=
  (20 ≤ t ∧ ∃ (C : String) (T : u_T) (N : Nat) (ref : String), cL_[t - 20]? = some (C, T, N) ∧ k < N ∧ kd_ (t - 20) k = kd ∧ (T k).2.2.2 = fin ∧
    (∀ (s : State) (args : Array Value), (∀ w ∈ lw_all, w.before args s = true) → ∀ x, s.fieldFound? (T k).1 (T k).2.1 (T k).2.2.1 = some x → s.fieldFound? ref (T k).2.1 (T k).2.2.1 = some x) ∧
    (Cond.fieldLink (o_s o) i ref (T k).2.1 (T k).2.2.1 ∈ lw_all ∨ (∃ host, (o_s o, i, ref, (T k).2.1, (T k).2.2.1, host) ∈ nF_L ∧ (T k).1 ≠ o_s o))) ∨
  (t = 18 ∧ ((k = 0 ∧ kd = 2 ∧ Cond.fieldLink (o_s o) i "java/lang/String" "value" "[B" ∈ lw_all) ∨ (k = 1 ∧ kd = 4 ∧ Cond.fieldLink (o_s o) i "java/lang/String" "coder" "B" ∈ lw_all))) ∨
  (t = 17 ∧ k = 0 ∧ kd = 0 ∧ Cond.fieldLink (o_s o) i "java/lang/Enum" "ordinal" "I" ∈ lw_all)
def G_ok (o i : Nat) (v : Vl) : Prop := ∃ (C n d : String), (C, n, d, v) ∈ nS_L ∧ Cond.fieldLink (o_s o) i C n d ∈ lw_all
def L_ok (o i : Nat) (v : Vl) : Prop := (∃ x, v = v_I x ∧ Cond.constant (o_s o) i x ∈ lw_all) ∨ (∃ x, v = v_L x ∧ Cond.constantLong (o_s o) i x ∈ lw_all) ∨ (∃ a tx, v = v_R (some a) ∧ a < 1000 ∧ (o_s o, i, tx, a) ∈ nT_L) ∨ (v = v_R (some 230) ∧ Cond.classLink (o_s o) i "[Ljava/lang/Object;" ∈ lw_all)
def N_ok (o i t n : Nat) : Prop := 20 ≤ t ∧ ∃ (C : String) (T : u_T), cL_[t - 20]? = some (C, T, n) ∧ Cond.classLink (o_s o) i C ∈ lw_all ∧ Cond.instantiable C n ∈ lw_all ∧ Cond.initialized C ∈ lw_all
def AN_ok (o i t : Nat) : Prop := (t = 5 ∨ t = 6) ∧ ∃ C, ty_ t = .object C ∧ Cond.classLink (o_s o) i C ∈ lw_all
def C_ok (o i t : Nat) : Prop := (20 ≤ t ∧ ∃ (C : String) (T : u_T) (N : Nat) (nm : String), cL_[t - 20]? = some (C, T, N) ∧ Cond.classLink (o_s o) i nm ∈ lw_all ∧ (C = nm ∨ (C, nm) ∈ nC_L)) ∨ (t = 18 ∧ Cond.classLink (o_s o) i "java/lang/String" ∈ lw_all) ∨ ((t = 2 ∨ t = 5 ∨ t = 7) ∧ Cond.classLink (o_s o) i ("[" ++ (ty_ t).toString) ∈ lw_all)
/-- a method: its code word, its names -/
def cd_ (t : Nat) : Prop := match m_h t with
  | none => Cond.code (m_y t) (m_c t) (m_l t) (m_r t) ∈ lw_all
  | some hh => Cond.codeWith (m_y t) (m_c t) (m_l t) (m_r t) hh ∈ lw_all
def S_ok (o i t : Nat) : Prop := Cond.methodLink (o_s o) i (m_y t) ∈ lw_all ∧ Cond.static (m_y t) ∈ lw_all ∧ Cond.initialized (m_y t).cls ∈ lw_all ∧ cd_ t
/-- a class's name by its tag -/
def c_n (t : Nat) : String := if t = 17 then "TableTower$Value" else if t = 18 then "java/lang/String" else (c_e (t - 20)).1
def V_ok (o i g t : Nat) : Prop := (g = 17 ∨ g = 18 ∨ (20 ≤ g ∧ g ≤ 41)) ∧ ((m_y t).cls = c_n g ∧ Cond.methodLink (o_s o) i (m_y t) ∈ lw_all ∧ Cond.instanceMethod (m_y t) ∈ lw_all ∧ Cond.selects (c_n g) (m_y t) (m_y t) ∈ lw_all ∧ Cond.initialized (c_n g) ∈ lw_all ∧ cd_ t ∨
  (m_h t = none ∧ ∃ (own : String) (x : MethodName), Cond.methodLink (o_s o) i x ∈ lw_all ∧ Cond.sameMethod x.cls own x.name x.desc ∈ lw_all ∧ Cond.selects (c_n g) x (m_y t) ∈ lw_all ∧ Cond.instanceMethod (m_y t) ∈ lw_all ∧ Cond.initialized (m_y t).cls ∈ lw_all ∧ cd_ t ∧
    (own ≠ "java/lang/invoke/MethodHandle" ∧ own ≠ "java/lang/invoke/VarHandle" ∧ (parseMethodDescriptor x.desc).map (fun d => d.parameters.length) = some (m_n t)) ∧
    ((∃ b m r, Cond.code ⟨own, x.name, x.desc⟩ b m r ∈ lw_all ∧ Cond.instanceMethod ⟨own, x.name, x.desc⟩ ∈ lw_all) ∨ (⟨own, x.name, x.desc⟩ : MethodName) ∈ nD_L)) ∨
  (m_h t = none ∧ (c_n g, m_y t) ∈ nP_L ∧ Cond.methodLink (o_s o) i (m_y t) ∈ lw_all ∧ Cond.sameMethod (m_y t).cls (m_y t).cls (m_y t).name (m_y t).desc ∈ lw_all ∧ Cond.instanceMethod (m_y t) ∈ lw_all ∧ Cond.initialized (m_y t).cls ∈ lw_all ∧ cd_ t ∧ m_h t = none))
def P_ok (o i t : Nat) : Prop := m_h t = none ∧ cd_ t ∧ Cond.instanceMethod (m_y t) ∈ lw_all ∧ Cond.initialized (m_y t).cls ∈ lw_all ∧
  ((m_y t).name = "<init>" ∧ m_r t = none ∧ (Cond.methodLink (o_s o) i (m_y t) ∈ lw_all ∨ ∃ host, (o_s o, i, m_y t, host) ∈ nM_L) ∨
   (m_y t).name ≠ "<init>" ∧ ∃ X : String, Cond.methodLink (o_s o) i ⟨X, (m_y t).name, (m_y t).desc⟩ ∈ lw_all ∧ Cond.sameMethod X (m_y t).cls (m_y t).name (m_y t).desc ∈ lw_all ∧ Cond.superclass (o_s o) X ∈ lw_all ∧ (X = (m_y t).cls ∨ Cond.superclass X (m_y t).cls ∈ lw_all))
def B_ok (o i b : Nat) : Prop := (b = 1 ∧ Cond.methodLink (o_s o) i arraycopyName ∈ lw_all) ∨ (b = 2 ∧ Cond.methodLink (o_s o) i Lib.objectInit ∈ lw_all) ∨
  (b = 3 ∧ Cond.methodLink (o_s o) i ⟨"java/lang/Object", "getClass", "()Ljava/lang/Class;"⟩ ∈ lw_all) ∨ (b = 4 ∧ Cond.methodLink (o_s o) i ⟨"[B", "clone", "()Ljava/lang/Object;"⟩ ∈ lw_all) ∨
  (b = 5 ∧ o_s o = "TableTower$Fault" ∧ i = 1) ∨ (b = 6 ∧ Cond.methodLink (o_s o) i Lib.Math.max.name ∈ lw_all) ∨ (b = 7 ∧ Cond.methodLink (o_s o) i Lib.Math.min.name ∈ lw_all) ∨ (b = 8 ∧ Cond.methodLink (o_s o) i Lib.Math.abs.name ∈ lw_all) ∨ (b = 9 ∧ Cond.methodLink (o_s o) i ⟨"[LTableTower$Value;", "clone", "()Ljava/lang/Object;"⟩ ∈ lw_all)
/-- a method's kind of answer, its numbers -/
def M_ok (e : ME_) : Bool := plainName e.2.1.cls && decide (e.2.1.cls ≠ "java/lang/invoke/MethodHandle") && decide (e.2.1.cls ≠ "java/lang/invoke/VarHandle") && decide ((parseMethodDescriptor e.2.1.desc).map (fun d => d.parameters.length) = some e.2.2.2.2.2.2.1) && decide (e.2.2.2.1 ≤ 30) && decide (o_s e.1 = e.2.1.cls) && (match e.2.2.2.2.1 with | none => decide (e.2.2.2.2.2.1 = 6) | some ty => decide (k_d ty = e.2.2.2.2.2.1))
