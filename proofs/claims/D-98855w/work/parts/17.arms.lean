/-! THE STEPS, ONE BY ONE (by program, wip/gen/genarms.py) -/
set_option maxRecDepth 100000
section
variable {p : Program} {l : Launch} {e : Env} {R : Room} {s : State} {m : MethodId} {args : Array Value} {below : List Frame} {meth : Method} {c : Code} {D : va_G} {G : GG_} {w0 : Wd} {Q : State → Prop} {zE sE mi d pc pc1 : Nat} {ls ls1 : List (Option Vl)} {st st1 : List Vl} {w w1 : Wd}

theorem s4 {α β γ δ : Type} {a a1 : α} {b b1 : β} {c c1 : γ} {d d1 : δ} (h : some (a, b, c, d) = some (a1, b1, c1, d1)) : a = a1 ∧ b = b1 ∧ c = c1 ∧ d = d1 := by
  cases h; exact ⟨rfl, rfl, rfl, rfl⟩
theorem ld_0 {k pc2 : Nat} (h : ld_ ls k pc2 0 st w = some (pc1, ls1, st1, w1)) : ∃ x, ls[k]? = some (some (v_I x)) ∧ pc2 = pc1 ∧ ls = ls1 ∧ v_I x :: st = st1 ∧ w = w1 := by
  unfold ld_ at h
  split at h
  · rename_i x hx
    exact ⟨x, hx, s4 (by simpa using h)⟩
  · simp at h
  · simp at h
  · cases h
theorem ld_1 {k pc2 : Nat} (h : ld_ ls k pc2 1 st w = some (pc1, ls1, st1, w1)) : ∃ x, ls[k]? = some (some (v_L x)) ∧ pc2 = pc1 ∧ ls = ls1 ∧ v_L x :: st = st1 ∧ w = w1 := by
  unfold ld_ at h
  split at h
  · simp at h
  · rename_i x hx
    exact ⟨x, hx, s4 (by simpa using h)⟩
  · simp at h
  · cases h
theorem ld_2 {k pc2 : Nat} (h : ld_ ls k pc2 2 st w = some (pc1, ls1, st1, w1)) : ∃ x, ls[k]? = some (some (v_R x)) ∧ pc2 = pc1 ∧ ls = ls1 ∧ v_R x :: st = st1 ∧ w = w1 := by
  unfold ld_ at h
  split at h
  · simp at h
  · simp at h
  · rename_i x hx
    exact ⟨x, hx, s4 (by simpa using h)⟩
  · cases h
theorem sv_0 {k pc2 : Nat} (h : sv_ ls k pc2 0 st w = some (pc1, ls1, st1, w1)) : ∃ x r, st = v_I x :: r ∧ k < ls.length ∧ pc2 = pc1 ∧ l_set ls k (v_I x) = ls1 ∧ r = st1 ∧ w = w1 := by
  unfold sv_ at h
  split at h
  · rename_i x r
    split at h
    · rename_i hh
      exact ⟨x, r, rfl, hh.2, s4 h⟩
    · cases h
  · simp at h
  · simp at h
  · cases h
theorem sv_1 {k pc2 : Nat} (h : sv_ ls k pc2 1 st w = some (pc1, ls1, st1, w1)) : ∃ x r, st = v_L x :: r ∧ k + 1 < ls.length ∧ pc2 = pc1 ∧ l_set2 ls k (v_L x) = ls1 ∧ r = st1 ∧ w = w1 := by
  unfold sv_ at h
  split at h
  · simp at h
  · rename_i x r
    split at h
    · rename_i hh
      exact ⟨x, r, rfl, hh.2, s4 h⟩
    · cases h
  · simp at h
  · cases h
theorem sv_2 {k pc2 : Nat} (h : sv_ ls k pc2 2 st w = some (pc1, ls1, st1, w1)) : ∃ x r, st = v_R x :: r ∧ k < ls.length ∧ pc2 = pc1 ∧ l_set ls k (v_R x) = ls1 ∧ r = st1 ∧ w = w1 := by
  unfold sv_ at h
  split at h
  · simp at h
  · simp at h
  · rename_i x r
    split at h
    · rename_i hh
      exact ⟨x, r, rfl, hh.2, s4 h⟩
    · cases h
  · cases h
theorem b_2i {f : Int32 → Int32 → Int32} (h : b_2 f pc ls st w = some (pc1, ls1, st1, w1)) : ∃ x y r, st = v_I y :: v_I x :: r ∧ pc + 1 = pc1 ∧ ls = ls1 ∧ v_I (f x y) :: r = st1 ∧ w = w1 := by
  unfold b_2 at h
  split at h
  · exact ⟨_, _, _, rfl, s4 h⟩
  · cases h
theorem b_1i {f : Int32 → Vl} (h : b_1 f pc ls st w = some (pc1, ls1, st1, w1)) : ∃ x r, st = v_I x :: r ∧ pc + 1 = pc1 ∧ ls = ls1 ∧ f x :: r = st1 ∧ w = w1 := by
  unfold b_1 at h
  split at h
  · exact ⟨_, _, rfl, s4 h⟩
  · cases h
theorem g_oi {b : Bool} {off : Int} {pc2 : Nat} {r : List Vl} (h : g_o b pc off pc2 ls r w = some (pc1, ls1, st1, w1)) : (pc : Int) + off = (j_t pc off : Int) ∧ ls = ls1 ∧ r = st1 ∧ w = w1 ∧ ((b = true ∧ j_t pc off = pc1) ∨ (b = false ∧ pc2 = pc1)) := by
  unfold g_o at h
  split at h
  · rename_i hj
    have hj := of_decide_eq_true hj
    have hj2 : (pc : Int) + off = (j_t pc off : Int) := (Int.toNat_of_nonneg hj).symm
    split at h
    · rename_i hb
      obtain ⟨a, b, c, d⟩ := s4 h
      exact ⟨hj2, b, c, d, Or.inl ⟨hb, a⟩⟩
    · rename_i hb
      obtain ⟨a, b, c, d⟩ := s4 h
      exact ⟨hj2, b, c, d, Or.inr ⟨by simpa using hb, a⟩⟩
  · cases h
theorem tv_ref (G : GG_) (o : Option Nat) : tv_ G (v_R o) = .null ∨ ∃ q, tv_ G (v_R o) = .ref q := by
  show va_rf _ = _ ∨ ∃ q, va_rf _ = _
  cases o.bind (ad_ G) with
  | none => exact Or.inl rfl
  | some q => exact Or.inr ⟨q, rfl⟩
theorem a_iconst {n : Int} (C : Cx_ p l R s m args meth c G w0 zE mi d) (hz : zE ≤ w_z w) (hsl : sE ≤ w_s w) (hr : w_z w1 - zE ≤ R.cells ∧ w_s w1 - sE ≤ R.slots) (hd : decode (m_c mi) pc = .ok (.iconst n, 1)) (h : s_1 mi (.iconst n) pc ls st w = some (pc1, ls1, st1, w1)) (k : WW_ p l e R s m args below meth c D G w0 Q (m_l mi) zE sE w1 ls1 st1 pc1) : WW_ p l e R s m args below meth c D G w0 Q (m_l mi) zE sE w ls st pc := by
  have C2 := C
  obtain ⟨hx, hb, hrt, hml, hown, hts, hlk, hini, hht, hN, hI, hst0, hRf, hRl, hE, hE0⟩ := C2
  intro H locs L hW hS hL
  obtain ⟨rfl, rfl, rfl, rfl⟩ := s4 h
  exact lv_iconst hx hb hd rfl (k H locs L hW hS hL)
theorem a_bipush {n : Int} (C : Cx_ p l R s m args meth c G w0 zE mi d) (hz : zE ≤ w_z w) (hsl : sE ≤ w_s w) (hr : w_z w1 - zE ≤ R.cells ∧ w_s w1 - sE ≤ R.slots) (hd : decode (m_c mi) pc = .ok (.bipush n, 2)) (h : s_1 mi (.bipush n) pc ls st w = some (pc1, ls1, st1, w1)) (k : WW_ p l e R s m args below meth c D G w0 Q (m_l mi) zE sE w1 ls1 st1 pc1) : WW_ p l e R s m args below meth c D G w0 Q (m_l mi) zE sE w ls st pc := by
  have C2 := C
  obtain ⟨hx, hb, hrt, hml, hown, hts, hlk, hini, hht, hN, hI, hst0, hRf, hRl, hE, hE0⟩ := C2
  intro H locs L hW hS hL
  obtain ⟨rfl, rfl, rfl, rfl⟩ := s4 h
  exact lv_bipush hx hb hd rfl (k H locs L hW hS hL)
theorem a_sipush {n : Int} (C : Cx_ p l R s m args meth c G w0 zE mi d) (hz : zE ≤ w_z w) (hsl : sE ≤ w_s w) (hr : w_z w1 - zE ≤ R.cells ∧ w_s w1 - sE ≤ R.slots) (hd : decode (m_c mi) pc = .ok (.sipush n, 3)) (h : s_1 mi (.sipush n) pc ls st w = some (pc1, ls1, st1, w1)) (k : WW_ p l e R s m args below meth c D G w0 Q (m_l mi) zE sE w1 ls1 st1 pc1) : WW_ p l e R s m args below meth c D G w0 Q (m_l mi) zE sE w ls st pc := by
  have C2 := C
  obtain ⟨hx, hb, hrt, hml, hown, hts, hlk, hini, hht, hN, hI, hst0, hRf, hRl, hE, hE0⟩ := C2
  intro H locs L hW hS hL
  obtain ⟨rfl, rfl, rfl, rfl⟩ := s4 h
  exact lv_sipush hx hb hd rfl (k H locs L hW hS hL)
theorem a_lconst {n : Fin 2} (C : Cx_ p l R s m args meth c G w0 zE mi d) (hz : zE ≤ w_z w) (hsl : sE ≤ w_s w) (hr : w_z w1 - zE ≤ R.cells ∧ w_s w1 - sE ≤ R.slots) (hd : decode (m_c mi) pc = .ok (.lconst n, 1)) (h : s_1 mi (.lconst n) pc ls st w = some (pc1, ls1, st1, w1)) (k : WW_ p l e R s m args below meth c D G w0 Q (m_l mi) zE sE w1 ls1 st1 pc1) : WW_ p l e R s m args below meth c D G w0 Q (m_l mi) zE sE w ls st pc := by
  have C2 := C
  obtain ⟨hx, hb, hrt, hml, hown, hts, hlk, hini, hht, hN, hI, hst0, hRf, hRl, hE, hE0⟩ := C2
  intro H locs L hW hS hL
  obtain ⟨rfl, rfl, rfl, rfl⟩ := s4 h
  exact lv_lconst hx hb hd rfl (k H locs L hW hS hL)
theorem a_aconst_null (C : Cx_ p l R s m args meth c G w0 zE mi d) (hz : zE ≤ w_z w) (hsl : sE ≤ w_s w) (hr : w_z w1 - zE ≤ R.cells ∧ w_s w1 - sE ≤ R.slots) (hd : decode (m_c mi) pc = .ok (.aconst_null, 1)) (h : s_1 mi (.aconst_null) pc ls st w = some (pc1, ls1, st1, w1)) (k : WW_ p l e R s m args below meth c D G w0 Q (m_l mi) zE sE w1 ls1 st1 pc1) : WW_ p l e R s m args below meth c D G w0 Q (m_l mi) zE sE w ls st pc := by
  have C2 := C
  obtain ⟨hx, hb, hrt, hml, hown, hts, hlk, hini, hht, hN, hI, hst0, hRf, hRl, hE, hE0⟩ := C2
  intro H locs L hW hS hL
  obtain ⟨rfl, rfl, rfl, rfl⟩ := s4 h
  exact lv_null hx hb hd (k H locs L hW hS hL)
theorem a_iload_n {k9 : Fin 4} (C : Cx_ p l R s m args meth c G w0 zE mi d) (hz : zE ≤ w_z w) (hsl : sE ≤ w_s w) (hr : w_z w1 - zE ≤ R.cells ∧ w_s w1 - sE ≤ R.slots) (hd : decode (m_c mi) pc = .ok (.iload_n k9, 1)) (h : s_1 mi (.iload_n k9) pc ls st w = some (pc1, ls1, st1, w1)) (k : WW_ p l e R s m args below meth c D G w0 Q (m_l mi) zE sE w1 ls1 st1 pc1) : WW_ p l e R s m args below meth c D G w0 Q (m_l mi) zE sE w ls st pc := by
  have C2 := C
  obtain ⟨hx, hb, hrt, hml, hown, hts, hlk, hini, hht, hN, hI, hst0, hRf, hRl, hE, hE0⟩ := C2
  intro H locs L hW hS hL
  obtain ⟨x, hk, rfl, rfl, rfl, rfl⟩ := ld_0 h
  exact lv_iload_n hx hb hd rfl (hL.get hk) (k H locs L hW hS hL)
theorem a_iload {k9 : Nat} (C : Cx_ p l R s m args meth c G w0 zE mi d) (hz : zE ≤ w_z w) (hsl : sE ≤ w_s w) (hr : w_z w1 - zE ≤ R.cells ∧ w_s w1 - sE ≤ R.slots) (hd : decode (m_c mi) pc = .ok (.iload k9, 2)) (h : s_1 mi (.iload k9) pc ls st w = some (pc1, ls1, st1, w1)) (k : WW_ p l e R s m args below meth c D G w0 Q (m_l mi) zE sE w1 ls1 st1 pc1) : WW_ p l e R s m args below meth c D G w0 Q (m_l mi) zE sE w ls st pc := by
  have C2 := C
  obtain ⟨hx, hb, hrt, hml, hown, hts, hlk, hini, hht, hN, hI, hst0, hRf, hRl, hE, hE0⟩ := C2
  intro H locs L hW hS hL
  obtain ⟨x, hk, rfl, rfl, rfl, rfl⟩ := ld_0 h
  exact lv_iload hx hb hd (hL.get hk) (k H locs L hW hS hL)
theorem a_lload_n {k9 : Fin 4} (C : Cx_ p l R s m args meth c G w0 zE mi d) (hz : zE ≤ w_z w) (hsl : sE ≤ w_s w) (hr : w_z w1 - zE ≤ R.cells ∧ w_s w1 - sE ≤ R.slots) (hd : decode (m_c mi) pc = .ok (.lload_n k9, 1)) (h : s_1 mi (.lload_n k9) pc ls st w = some (pc1, ls1, st1, w1)) (k : WW_ p l e R s m args below meth c D G w0 Q (m_l mi) zE sE w1 ls1 st1 pc1) : WW_ p l e R s m args below meth c D G w0 Q (m_l mi) zE sE w ls st pc := by
  have C2 := C
  obtain ⟨hx, hb, hrt, hml, hown, hts, hlk, hini, hht, hN, hI, hst0, hRf, hRl, hE, hE0⟩ := C2
  intro H locs L hW hS hL
  obtain ⟨x, hk, rfl, rfl, rfl, rfl⟩ := ld_1 h
  exact lv_lload_n hx hb hd rfl (hL.get hk) (k H locs L hW hS hL)
theorem a_lload {k9 : Nat} (C : Cx_ p l R s m args meth c G w0 zE mi d) (hz : zE ≤ w_z w) (hsl : sE ≤ w_s w) (hr : w_z w1 - zE ≤ R.cells ∧ w_s w1 - sE ≤ R.slots) (hd : decode (m_c mi) pc = .ok (.lload k9, 2)) (h : s_1 mi (.lload k9) pc ls st w = some (pc1, ls1, st1, w1)) (k : WW_ p l e R s m args below meth c D G w0 Q (m_l mi) zE sE w1 ls1 st1 pc1) : WW_ p l e R s m args below meth c D G w0 Q (m_l mi) zE sE w ls st pc := by
  have C2 := C
  obtain ⟨hx, hb, hrt, hml, hown, hts, hlk, hini, hht, hN, hI, hst0, hRf, hRl, hE, hE0⟩ := C2
  intro H locs L hW hS hL
  obtain ⟨x, hk, rfl, rfl, rfl, rfl⟩ := ld_1 h
  exact lv_lload hx hb hd (hL.get hk) (k H locs L hW hS hL)
theorem a_aload_n {k9 : Fin 4} (C : Cx_ p l R s m args meth c G w0 zE mi d) (hz : zE ≤ w_z w) (hsl : sE ≤ w_s w) (hr : w_z w1 - zE ≤ R.cells ∧ w_s w1 - sE ≤ R.slots) (hd : decode (m_c mi) pc = .ok (.aload_n k9, 1)) (h : s_1 mi (.aload_n k9) pc ls st w = some (pc1, ls1, st1, w1)) (k : WW_ p l e R s m args below meth c D G w0 Q (m_l mi) zE sE w1 ls1 st1 pc1) : WW_ p l e R s m args below meth c D G w0 Q (m_l mi) zE sE w ls st pc := by
  have C2 := C
  obtain ⟨hx, hb, hrt, hml, hown, hts, hlk, hini, hht, hN, hI, hst0, hRf, hRl, hE, hE0⟩ := C2
  intro H locs L hW hS hL
  obtain ⟨x, hk, rfl, rfl, rfl, rfl⟩ := ld_2 h
  have hg := hL.get hk
  have kk := k H locs L hW hS hL
  rw [List.map_cons] at kk
  rcases tv_ref G x with hq | ⟨q, hq⟩
  · rw [hq] at hg kk
    exact lv_aload_nN hx hb hd rfl hg kk
  · rw [hq] at hg kk
    exact lv_aload_n hx hb hd rfl hg kk
theorem a_aload {k9 : Nat} (C : Cx_ p l R s m args meth c G w0 zE mi d) (hz : zE ≤ w_z w) (hsl : sE ≤ w_s w) (hr : w_z w1 - zE ≤ R.cells ∧ w_s w1 - sE ≤ R.slots) (hd : decode (m_c mi) pc = .ok (.aload k9, 2)) (h : s_1 mi (.aload k9) pc ls st w = some (pc1, ls1, st1, w1)) (k : WW_ p l e R s m args below meth c D G w0 Q (m_l mi) zE sE w1 ls1 st1 pc1) : WW_ p l e R s m args below meth c D G w0 Q (m_l mi) zE sE w ls st pc := by
  have C2 := C
  obtain ⟨hx, hb, hrt, hml, hown, hts, hlk, hini, hht, hN, hI, hst0, hRf, hRl, hE, hE0⟩ := C2
  intro H locs L hW hS hL
  obtain ⟨x, hk, rfl, rfl, rfl, rfl⟩ := ld_2 h
  have hg := hL.get hk
  have kk := k H locs L hW hS hL
  rw [List.map_cons] at kk
  rcases tv_ref G x with hq | ⟨q, hq⟩
  · rw [hq] at hg kk
    exact lv_aloadN hx hb hd hg kk
  · rw [hq] at hg kk
    exact lv_aload hx hb hd hg kk
theorem a_istore_n {k9 : Fin 4} (C : Cx_ p l R s m args meth c G w0 zE mi d) (hz : zE ≤ w_z w) (hsl : sE ≤ w_s w) (hr : w_z w1 - zE ≤ R.cells ∧ w_s w1 - sE ≤ R.slots) (hd : decode (m_c mi) pc = .ok (.istore_n k9, 1)) (h : s_1 mi (.istore_n k9) pc ls st w = some (pc1, ls1, st1, w1)) (k : WW_ p l e R s m args below meth c D G w0 Q (m_l mi) zE sE w1 ls1 st1 pc1) : WW_ p l e R s m args below meth c D G w0 Q (m_l mi) zE sE w ls st pc := by
  have C2 := C
  obtain ⟨hx, hb, hrt, hml, hown, hts, hlk, hini, hht, hN, hI, hst0, hRf, hRl, hE, hE0⟩ := C2
  intro H locs L hW hS hL
  obtain ⟨x, r, rfl, hlt, rfl, rfl, rfl, rfl⟩ := sv_0 h
  exact lv_istore_n hx hb hd rfl hL.1 (by rw [← hL.2]; exact hlt) rfl (fun L1 h1 => k H locs L1 hW hS (hL.set h1))
theorem a_istore {k9 : Nat} (C : Cx_ p l R s m args meth c G w0 zE mi d) (hz : zE ≤ w_z w) (hsl : sE ≤ w_s w) (hr : w_z w1 - zE ≤ R.cells ∧ w_s w1 - sE ≤ R.slots) (hd : decode (m_c mi) pc = .ok (.istore k9, 2)) (h : s_1 mi (.istore k9) pc ls st w = some (pc1, ls1, st1, w1)) (k : WW_ p l e R s m args below meth c D G w0 Q (m_l mi) zE sE w1 ls1 st1 pc1) : WW_ p l e R s m args below meth c D G w0 Q (m_l mi) zE sE w ls st pc := by
  have C2 := C
  obtain ⟨hx, hb, hrt, hml, hown, hts, hlk, hini, hht, hN, hI, hst0, hRf, hRl, hE, hE0⟩ := C2
  intro H locs L hW hS hL
  obtain ⟨x, r, rfl, hlt, rfl, rfl, rfl, rfl⟩ := sv_0 h
  exact lv_istore hx hb hd hL.1 (by rw [← hL.2]; exact hlt) rfl (fun L1 h1 => k H locs L1 hW hS (hL.set h1))
theorem a_lstore_n {k9 : Fin 4} (C : Cx_ p l R s m args meth c G w0 zE mi d) (hz : zE ≤ w_z w) (hsl : sE ≤ w_s w) (hr : w_z w1 - zE ≤ R.cells ∧ w_s w1 - sE ≤ R.slots) (hd : decode (m_c mi) pc = .ok (.lstore_n k9, 1)) (h : s_1 mi (.lstore_n k9) pc ls st w = some (pc1, ls1, st1, w1)) (k : WW_ p l e R s m args below meth c D G w0 Q (m_l mi) zE sE w1 ls1 st1 pc1) : WW_ p l e R s m args below meth c D G w0 Q (m_l mi) zE sE w ls st pc := by
  have C2 := C
  obtain ⟨hx, hb, hrt, hml, hown, hts, hlk, hini, hht, hN, hI, hst0, hRf, hRl, hE, hE0⟩ := C2
  intro H locs L hW hS hL
  obtain ⟨x, r, rfl, hlt, rfl, rfl, rfl, rfl⟩ := sv_1 h
  exact lv_lstore_n hx hb hd rfl hL.1 (by rw [← hL.2]; exact hlt) rfl (fun L1 h1 => k H locs L1 hW hS (hL.set2 h1))
theorem a_lstore {k9 : Nat} (C : Cx_ p l R s m args meth c G w0 zE mi d) (hz : zE ≤ w_z w) (hsl : sE ≤ w_s w) (hr : w_z w1 - zE ≤ R.cells ∧ w_s w1 - sE ≤ R.slots) (hd : decode (m_c mi) pc = .ok (.lstore k9, 2)) (h : s_1 mi (.lstore k9) pc ls st w = some (pc1, ls1, st1, w1)) (k : WW_ p l e R s m args below meth c D G w0 Q (m_l mi) zE sE w1 ls1 st1 pc1) : WW_ p l e R s m args below meth c D G w0 Q (m_l mi) zE sE w ls st pc := by
  have C2 := C
  obtain ⟨hx, hb, hrt, hml, hown, hts, hlk, hini, hht, hN, hI, hst0, hRf, hRl, hE, hE0⟩ := C2
  intro H locs L hW hS hL
  obtain ⟨x, r, rfl, hlt, rfl, rfl, rfl, rfl⟩ := sv_1 h
  exact lv_lstore hx hb hd hL.1 (by rw [← hL.2]; exact hlt) rfl (fun L1 h1 => k H locs L1 hW hS (hL.set2 h1))
theorem a_astore_n {k9 : Fin 4} (C : Cx_ p l R s m args meth c G w0 zE mi d) (hz : zE ≤ w_z w) (hsl : sE ≤ w_s w) (hr : w_z w1 - zE ≤ R.cells ∧ w_s w1 - sE ≤ R.slots) (hd : decode (m_c mi) pc = .ok (.astore_n k9, 1)) (h : s_1 mi (.astore_n k9) pc ls st w = some (pc1, ls1, st1, w1)) (k : WW_ p l e R s m args below meth c D G w0 Q (m_l mi) zE sE w1 ls1 st1 pc1) : WW_ p l e R s m args below meth c D G w0 Q (m_l mi) zE sE w ls st pc := by
  have C2 := C
  obtain ⟨hx, hb, hrt, hml, hown, hts, hlk, hini, hht, hN, hI, hst0, hRf, hRl, hE, hE0⟩ := C2
  intro H locs L hW hS hL
  obtain ⟨x, r, rfl, hlt, rfl, rfl, rfl, rfl⟩ := sv_2 h
  rw [List.map_cons]
  rcases tv_ref G x with hq | ⟨q, hq⟩
  · rw [hq]
    exact lv_astore_nN hx hb hd rfl hL.1 (by rw [← hL.2]; exact hlt) rfl (fun L1 h1 => k H locs L1 hW hS (hL.set (by rw [hq]; exact h1)))
  · rw [hq]
    exact lv_astore_n hx hb hd rfl hL.1 (by rw [← hL.2]; exact hlt) rfl (fun L1 h1 => k H locs L1 hW hS (hL.set (by rw [hq]; exact h1)))
theorem a_astore {k9 : Nat} (C : Cx_ p l R s m args meth c G w0 zE mi d) (hz : zE ≤ w_z w) (hsl : sE ≤ w_s w) (hr : w_z w1 - zE ≤ R.cells ∧ w_s w1 - sE ≤ R.slots) (hd : decode (m_c mi) pc = .ok (.astore k9, 2)) (h : s_1 mi (.astore k9) pc ls st w = some (pc1, ls1, st1, w1)) (k : WW_ p l e R s m args below meth c D G w0 Q (m_l mi) zE sE w1 ls1 st1 pc1) : WW_ p l e R s m args below meth c D G w0 Q (m_l mi) zE sE w ls st pc := by
  have C2 := C
  obtain ⟨hx, hb, hrt, hml, hown, hts, hlk, hini, hht, hN, hI, hst0, hRf, hRl, hE, hE0⟩ := C2
  intro H locs L hW hS hL
  obtain ⟨x, r, rfl, hlt, rfl, rfl, rfl, rfl⟩ := sv_2 h
  rw [List.map_cons]
  rcases tv_ref G x with hq | ⟨q, hq⟩
  · rw [hq]
    exact lv_astoreN hx hb hd hL.1 (by rw [← hL.2]; exact hlt) rfl (fun L1 h1 => k H locs L1 hW hS (hL.set (by rw [hq]; exact h1)))
  · rw [hq]
    exact lv_astore hx hb hd hL.1 (by rw [← hL.2]; exact hlt) rfl (fun L1 h1 => k H locs L1 hW hS (hL.set (by rw [hq]; exact h1)))
theorem a_iinc {k9 : Nat} {n9 : Int} (C : Cx_ p l R s m args meth c G w0 zE mi d) (hz : zE ≤ w_z w) (hsl : sE ≤ w_s w) (hr : w_z w1 - zE ≤ R.cells ∧ w_s w1 - sE ≤ R.slots) (hd : decode (m_c mi) pc = .ok (.iinc k9 n9, 3)) (h : s_1 mi (.iinc k9 n9) pc ls st w = some (pc1, ls1, st1, w1)) (k : WW_ p l e R s m args below meth c D G w0 Q (m_l mi) zE sE w1 ls1 st1 pc1) : WW_ p l e R s m args below meth c D G w0 Q (m_l mi) zE sE w ls st pc := by
  have C2 := C
  obtain ⟨hx, hb, hrt, hml, hown, hts, hlk, hini, hht, hN, hI, hst0, hRf, hRl, hE, hE0⟩ := C2
  intro H locs L hW hS hL
  simp only [s_1] at h
  split at h
  · rename_i x hk
    obtain ⟨rfl, rfl, rfl, rfl⟩ := s4 h
    obtain ⟨j, hj⟩ := List.getElem?_of_mem (l_p_mem (f := tv_ G) ls 0 k9 _ hk)
    rw [Nat.zero_add] at hj
    have hlt := (List.getElem?_eq_some_iff.mp hk).1
    exact lv_iinc hx hb hd hL.1 hj rfl (by rw [← hL.2]; exact hlt) rfl (fun L1 h1 => k H locs L1 hW hS (hL.set h1))
  · cases h
theorem a_iadd (C : Cx_ p l R s m args meth c G w0 zE mi d) (hz : zE ≤ w_z w) (hsl : sE ≤ w_s w) (hr : w_z w1 - zE ≤ R.cells ∧ w_s w1 - sE ≤ R.slots) (hd : decode (m_c mi) pc = .ok (.iadd, 1)) (h : s_1 mi (.iadd) pc ls st w = some (pc1, ls1, st1, w1)) (k : WW_ p l e R s m args below meth c D G w0 Q (m_l mi) zE sE w1 ls1 st1 pc1) : WW_ p l e R s m args below meth c D G w0 Q (m_l mi) zE sE w ls st pc := by
  have C2 := C
  obtain ⟨hx, hb, hrt, hml, hown, hts, hlk, hini, hht, hN, hI, hst0, hRf, hRl, hE, hE0⟩ := C2
  intro H locs L hW hS hL
  obtain ⟨x, y, r, rfl, rfl, rfl, rfl, rfl⟩ := b_2i h
  exact lv_iadd hx hb hd (k H locs L hW hS hL)
theorem a_isub (C : Cx_ p l R s m args meth c G w0 zE mi d) (hz : zE ≤ w_z w) (hsl : sE ≤ w_s w) (hr : w_z w1 - zE ≤ R.cells ∧ w_s w1 - sE ≤ R.slots) (hd : decode (m_c mi) pc = .ok (.isub, 1)) (h : s_1 mi (.isub) pc ls st w = some (pc1, ls1, st1, w1)) (k : WW_ p l e R s m args below meth c D G w0 Q (m_l mi) zE sE w1 ls1 st1 pc1) : WW_ p l e R s m args below meth c D G w0 Q (m_l mi) zE sE w ls st pc := by
  have C2 := C
  obtain ⟨hx, hb, hrt, hml, hown, hts, hlk, hini, hht, hN, hI, hst0, hRf, hRl, hE, hE0⟩ := C2
  intro H locs L hW hS hL
  obtain ⟨x, y, r, rfl, rfl, rfl, rfl, rfl⟩ := b_2i h
  exact lv_isub hx hb hd (k H locs L hW hS hL)
theorem a_imul (C : Cx_ p l R s m args meth c G w0 zE mi d) (hz : zE ≤ w_z w) (hsl : sE ≤ w_s w) (hr : w_z w1 - zE ≤ R.cells ∧ w_s w1 - sE ≤ R.slots) (hd : decode (m_c mi) pc = .ok (.imul, 1)) (h : s_1 mi (.imul) pc ls st w = some (pc1, ls1, st1, w1)) (k : WW_ p l e R s m args below meth c D G w0 Q (m_l mi) zE sE w1 ls1 st1 pc1) : WW_ p l e R s m args below meth c D G w0 Q (m_l mi) zE sE w ls st pc := by
  have C2 := C
  obtain ⟨hx, hb, hrt, hml, hown, hts, hlk, hini, hht, hN, hI, hst0, hRf, hRl, hE, hE0⟩ := C2
  intro H locs L hW hS hL
  obtain ⟨x, y, r, rfl, rfl, rfl, rfl, rfl⟩ := b_2i h
  exact lv_imul hx hb hd (k H locs L hW hS hL)
theorem a_iand (C : Cx_ p l R s m args meth c G w0 zE mi d) (hz : zE ≤ w_z w) (hsl : sE ≤ w_s w) (hr : w_z w1 - zE ≤ R.cells ∧ w_s w1 - sE ≤ R.slots) (hd : decode (m_c mi) pc = .ok (.iand, 1)) (h : s_1 mi (.iand) pc ls st w = some (pc1, ls1, st1, w1)) (k : WW_ p l e R s m args below meth c D G w0 Q (m_l mi) zE sE w1 ls1 st1 pc1) : WW_ p l e R s m args below meth c D G w0 Q (m_l mi) zE sE w ls st pc := by
  have C2 := C
  obtain ⟨hx, hb, hrt, hml, hown, hts, hlk, hini, hht, hN, hI, hst0, hRf, hRl, hE, hE0⟩ := C2
  intro H locs L hW hS hL
  obtain ⟨x, y, r, rfl, rfl, rfl, rfl, rfl⟩ := b_2i h
  exact lv_iand hx hb hd (k H locs L hW hS hL)
theorem a_ior (C : Cx_ p l R s m args meth c G w0 zE mi d) (hz : zE ≤ w_z w) (hsl : sE ≤ w_s w) (hr : w_z w1 - zE ≤ R.cells ∧ w_s w1 - sE ≤ R.slots) (hd : decode (m_c mi) pc = .ok (.ior, 1)) (h : s_1 mi (.ior) pc ls st w = some (pc1, ls1, st1, w1)) (k : WW_ p l e R s m args below meth c D G w0 Q (m_l mi) zE sE w1 ls1 st1 pc1) : WW_ p l e R s m args below meth c D G w0 Q (m_l mi) zE sE w ls st pc := by
  have C2 := C
  obtain ⟨hx, hb, hrt, hml, hown, hts, hlk, hini, hht, hN, hI, hst0, hRf, hRl, hE, hE0⟩ := C2
  intro H locs L hW hS hL
  obtain ⟨x, y, r, rfl, rfl, rfl, rfl, rfl⟩ := b_2i h
  exact lv_ior hx hb hd (k H locs L hW hS hL)
theorem a_ixor (C : Cx_ p l R s m args meth c G w0 zE mi d) (hz : zE ≤ w_z w) (hsl : sE ≤ w_s w) (hr : w_z w1 - zE ≤ R.cells ∧ w_s w1 - sE ≤ R.slots) (hd : decode (m_c mi) pc = .ok (.ixor, 1)) (h : s_1 mi (.ixor) pc ls st w = some (pc1, ls1, st1, w1)) (k : WW_ p l e R s m args below meth c D G w0 Q (m_l mi) zE sE w1 ls1 st1 pc1) : WW_ p l e R s m args below meth c D G w0 Q (m_l mi) zE sE w ls st pc := by
  have C2 := C
  obtain ⟨hx, hb, hrt, hml, hown, hts, hlk, hini, hht, hN, hI, hst0, hRf, hRl, hE, hE0⟩ := C2
  intro H locs L hW hS hL
  obtain ⟨x, y, r, rfl, rfl, rfl, rfl, rfl⟩ := b_2i h
  exact lv_ixor hx hb hd (k H locs L hW hS hL)
theorem a_ishl (C : Cx_ p l R s m args meth c G w0 zE mi d) (hz : zE ≤ w_z w) (hsl : sE ≤ w_s w) (hr : w_z w1 - zE ≤ R.cells ∧ w_s w1 - sE ≤ R.slots) (hd : decode (m_c mi) pc = .ok (.ishl, 1)) (h : s_1 mi (.ishl) pc ls st w = some (pc1, ls1, st1, w1)) (k : WW_ p l e R s m args below meth c D G w0 Q (m_l mi) zE sE w1 ls1 st1 pc1) : WW_ p l e R s m args below meth c D G w0 Q (m_l mi) zE sE w ls st pc := by
  have C2 := C
  obtain ⟨hx, hb, hrt, hml, hown, hts, hlk, hini, hht, hN, hI, hst0, hRf, hRl, hE, hE0⟩ := C2
  intro H locs L hW hS hL
  obtain ⟨x, y, r, rfl, rfl, rfl, rfl, rfl⟩ := b_2i h
  exact lv_ishl hx hb hd (k H locs L hW hS hL)
theorem a_ishr (C : Cx_ p l R s m args meth c G w0 zE mi d) (hz : zE ≤ w_z w) (hsl : sE ≤ w_s w) (hr : w_z w1 - zE ≤ R.cells ∧ w_s w1 - sE ≤ R.slots) (hd : decode (m_c mi) pc = .ok (.ishr, 1)) (h : s_1 mi (.ishr) pc ls st w = some (pc1, ls1, st1, w1)) (k : WW_ p l e R s m args below meth c D G w0 Q (m_l mi) zE sE w1 ls1 st1 pc1) : WW_ p l e R s m args below meth c D G w0 Q (m_l mi) zE sE w ls st pc := by
  have C2 := C
  obtain ⟨hx, hb, hrt, hml, hown, hts, hlk, hini, hht, hN, hI, hst0, hRf, hRl, hE, hE0⟩ := C2
  intro H locs L hW hS hL
  obtain ⟨x, y, r, rfl, rfl, rfl, rfl, rfl⟩ := b_2i h
  exact lv_ishr hx hb hd (k H locs L hW hS hL)
theorem a_iushr (C : Cx_ p l R s m args meth c G w0 zE mi d) (hz : zE ≤ w_z w) (hsl : sE ≤ w_s w) (hr : w_z w1 - zE ≤ R.cells ∧ w_s w1 - sE ≤ R.slots) (hd : decode (m_c mi) pc = .ok (.iushr, 1)) (h : s_1 mi (.iushr) pc ls st w = some (pc1, ls1, st1, w1)) (k : WW_ p l e R s m args below meth c D G w0 Q (m_l mi) zE sE w1 ls1 st1 pc1) : WW_ p l e R s m args below meth c D G w0 Q (m_l mi) zE sE w ls st pc := by
  have C2 := C
  obtain ⟨hx, hb, hrt, hml, hown, hts, hlk, hini, hht, hN, hI, hst0, hRf, hRl, hE, hE0⟩ := C2
  intro H locs L hW hS hL
  obtain ⟨x, y, r, rfl, rfl, rfl, rfl, rfl⟩ := b_2i h
  exact lv_iushr hx hb hd rfl (k H locs L hW hS hL)
theorem a_idiv (C : Cx_ p l R s m args meth c G w0 zE mi d) (hz : zE ≤ w_z w) (hsl : sE ≤ w_s w) (hr : w_z w1 - zE ≤ R.cells ∧ w_s w1 - sE ≤ R.slots) (hd : decode (m_c mi) pc = .ok (.idiv, 1)) (h : s_1 mi (.idiv) pc ls st w = some (pc1, ls1, st1, w1)) (k : WW_ p l e R s m args below meth c D G w0 Q (m_l mi) zE sE w1 ls1 st1 pc1) : WW_ p l e R s m args below meth c D G w0 Q (m_l mi) zE sE w ls st pc := by
  have C2 := C
  obtain ⟨hx, hb, hrt, hml, hown, hts, hlk, hini, hht, hN, hI, hst0, hRf, hRl, hE, hE0⟩ := C2
  intro H locs L hW hS hL
  simp only [s_1] at h
  split at h
  · split at h
    · cases h
    · rename_i hne
      obtain ⟨rfl, rfl, rfl, rfl⟩ := s4 h
      exact lv_idiv hx hb hd hne (k H locs L hW hS hL)
  · cases h
theorem a_irem (C : Cx_ p l R s m args meth c G w0 zE mi d) (hz : zE ≤ w_z w) (hsl : sE ≤ w_s w) (hr : w_z w1 - zE ≤ R.cells ∧ w_s w1 - sE ≤ R.slots) (hd : decode (m_c mi) pc = .ok (.irem, 1)) (h : s_1 mi (.irem) pc ls st w = some (pc1, ls1, st1, w1)) (k : WW_ p l e R s m args below meth c D G w0 Q (m_l mi) zE sE w1 ls1 st1 pc1) : WW_ p l e R s m args below meth c D G w0 Q (m_l mi) zE sE w ls st pc := by
  have C2 := C
  obtain ⟨hx, hb, hrt, hml, hown, hts, hlk, hini, hht, hN, hI, hst0, hRf, hRl, hE, hE0⟩ := C2
  intro H locs L hW hS hL
  simp only [s_1] at h
  split at h
  · split at h
    · cases h
    · rename_i hne
      obtain ⟨rfl, rfl, rfl, rfl⟩ := s4 h
      exact lv_irem hx hb hd hne (k H locs L hW hS hL)
  · cases h
theorem a_ineg (C : Cx_ p l R s m args meth c G w0 zE mi d) (hz : zE ≤ w_z w) (hsl : sE ≤ w_s w) (hr : w_z w1 - zE ≤ R.cells ∧ w_s w1 - sE ≤ R.slots) (hd : decode (m_c mi) pc = .ok (.ineg, 1)) (h : s_1 mi (.ineg) pc ls st w = some (pc1, ls1, st1, w1)) (k : WW_ p l e R s m args below meth c D G w0 Q (m_l mi) zE sE w1 ls1 st1 pc1) : WW_ p l e R s m args below meth c D G w0 Q (m_l mi) zE sE w ls st pc := by
  have C2 := C
  obtain ⟨hx, hb, hrt, hml, hown, hts, hlk, hini, hht, hN, hI, hst0, hRf, hRl, hE, hE0⟩ := C2
  intro H locs L hW hS hL
  obtain ⟨x, r, rfl, rfl, rfl, rfl, rfl⟩ := b_1i h
  exact lv_ineg hx hb hd (k H locs L hW hS hL)
theorem a_i2l (C : Cx_ p l R s m args meth c G w0 zE mi d) (hz : zE ≤ w_z w) (hsl : sE ≤ w_s w) (hr : w_z w1 - zE ≤ R.cells ∧ w_s w1 - sE ≤ R.slots) (hd : decode (m_c mi) pc = .ok (.i2l, 1)) (h : s_1 mi (.i2l) pc ls st w = some (pc1, ls1, st1, w1)) (k : WW_ p l e R s m args below meth c D G w0 Q (m_l mi) zE sE w1 ls1 st1 pc1) : WW_ p l e R s m args below meth c D G w0 Q (m_l mi) zE sE w ls st pc := by
  have C2 := C
  obtain ⟨hx, hb, hrt, hml, hown, hts, hlk, hini, hht, hN, hI, hst0, hRf, hRl, hE, hE0⟩ := C2
  intro H locs L hW hS hL
  obtain ⟨x, r, rfl, rfl, rfl, rfl, rfl⟩ := b_1i h
  exact lv_i2l hx hb hd rfl (k H locs L hW hS hL)
theorem a_i2b (C : Cx_ p l R s m args meth c G w0 zE mi d) (hz : zE ≤ w_z w) (hsl : sE ≤ w_s w) (hr : w_z w1 - zE ≤ R.cells ∧ w_s w1 - sE ≤ R.slots) (hd : decode (m_c mi) pc = .ok (.i2b, 1)) (h : s_1 mi (.i2b) pc ls st w = some (pc1, ls1, st1, w1)) (k : WW_ p l e R s m args below meth c D G w0 Q (m_l mi) zE sE w1 ls1 st1 pc1) : WW_ p l e R s m args below meth c D G w0 Q (m_l mi) zE sE w ls st pc := by
  have C2 := C
  obtain ⟨hx, hb, hrt, hml, hown, hts, hlk, hini, hht, hN, hI, hst0, hRf, hRl, hE, hE0⟩ := C2
  intro H locs L hW hS hL
  obtain ⟨x, r, rfl, rfl, rfl, rfl, rfl⟩ := b_1i h
  exact lv_i2b hx hb hd rfl (k H locs L hW hS hL)
theorem a_i2c (C : Cx_ p l R s m args meth c G w0 zE mi d) (hz : zE ≤ w_z w) (hsl : sE ≤ w_s w) (hr : w_z w1 - zE ≤ R.cells ∧ w_s w1 - sE ≤ R.slots) (hd : decode (m_c mi) pc = .ok (.i2c, 1)) (h : s_1 mi (.i2c) pc ls st w = some (pc1, ls1, st1, w1)) (k : WW_ p l e R s m args below meth c D G w0 Q (m_l mi) zE sE w1 ls1 st1 pc1) : WW_ p l e R s m args below meth c D G w0 Q (m_l mi) zE sE w ls st pc := by
  have C2 := C
  obtain ⟨hx, hb, hrt, hml, hown, hts, hlk, hini, hht, hN, hI, hst0, hRf, hRl, hE, hE0⟩ := C2
  intro H locs L hW hS hL
  obtain ⟨x, r, rfl, rfl, rfl, rfl, rfl⟩ := b_1i h
  exact lv_i2c hx hb hd rfl (k H locs L hW hS hL)
theorem a_ladd (C : Cx_ p l R s m args meth c G w0 zE mi d) (hz : zE ≤ w_z w) (hsl : sE ≤ w_s w) (hr : w_z w1 - zE ≤ R.cells ∧ w_s w1 - sE ≤ R.slots) (hd : decode (m_c mi) pc = .ok (.ladd, 1)) (h : s_1 mi (.ladd) pc ls st w = some (pc1, ls1, st1, w1)) (k : WW_ p l e R s m args below meth c D G w0 Q (m_l mi) zE sE w1 ls1 st1 pc1) : WW_ p l e R s m args below meth c D G w0 Q (m_l mi) zE sE w ls st pc := by
  have C2 := C
  obtain ⟨hx, hb, hrt, hml, hown, hts, hlk, hini, hht, hN, hI, hst0, hRf, hRl, hE, hE0⟩ := C2
  intro H locs L hW hS hL
  simp only [s_1] at h
  split at h
  · obtain ⟨rfl, rfl, rfl, rfl⟩ := s4 h
    exact lv_ladd hx hb hd (k H locs L hW hS hL)
  · cases h
theorem a_lcmp (C : Cx_ p l R s m args meth c G w0 zE mi d) (hz : zE ≤ w_z w) (hsl : sE ≤ w_s w) (hr : w_z w1 - zE ≤ R.cells ∧ w_s w1 - sE ≤ R.slots) (hd : decode (m_c mi) pc = .ok (.lcmp, 1)) (h : s_1 mi (.lcmp) pc ls st w = some (pc1, ls1, st1, w1)) (k : WW_ p l e R s m args below meth c D G w0 Q (m_l mi) zE sE w1 ls1 st1 pc1) : WW_ p l e R s m args below meth c D G w0 Q (m_l mi) zE sE w ls st pc := by
  have C2 := C
  obtain ⟨hx, hb, hrt, hml, hown, hts, hlk, hini, hht, hN, hI, hst0, hRf, hRl, hE, hE0⟩ := C2
  intro H locs L hW hS hL
  simp only [s_1] at h
  split at h
  · obtain ⟨rfl, rfl, rfl, rfl⟩ := s4 h
    exact W.lcmp hx hb hd (k H locs L hW hS hL)
  · cases h
theorem a_dup (C : Cx_ p l R s m args meth c G w0 zE mi d) (hz : zE ≤ w_z w) (hsl : sE ≤ w_s w) (hr : w_z w1 - zE ≤ R.cells ∧ w_s w1 - sE ≤ R.slots) (hd : decode (m_c mi) pc = .ok (.dup, 1)) (h : s_1 mi (.dup) pc ls st w = some (pc1, ls1, st1, w1)) (k : WW_ p l e R s m args below meth c D G w0 Q (m_l mi) zE sE w1 ls1 st1 pc1) : WW_ p l e R s m args below meth c D G w0 Q (m_l mi) zE sE w ls st pc := by
  have C2 := C
  obtain ⟨hx, hb, hrt, hml, hown, hts, hlk, hini, hht, hN, hI, hst0, hRf, hRl, hE, hE0⟩ := C2
  intro H locs L hW hS hL
  simp only [s_1] at h
  split at h
  · split at h
    · rename_i hc
      obtain ⟨rfl, rfl, rfl, rfl⟩ := s4 h
      exact lv_dup hx hb hd (by rw [tv_c]; exact hc) (k H locs L hW hS hL)
    · cases h
  · cases h
theorem a_pop (C : Cx_ p l R s m args meth c G w0 zE mi d) (hz : zE ≤ w_z w) (hsl : sE ≤ w_s w) (hr : w_z w1 - zE ≤ R.cells ∧ w_s w1 - sE ≤ R.slots) (hd : decode (m_c mi) pc = .ok (.pop, 1)) (h : s_1 mi (.pop) pc ls st w = some (pc1, ls1, st1, w1)) (k : WW_ p l e R s m args below meth c D G w0 Q (m_l mi) zE sE w1 ls1 st1 pc1) : WW_ p l e R s m args below meth c D G w0 Q (m_l mi) zE sE w ls st pc := by
  have C2 := C
  obtain ⟨hx, hb, hrt, hml, hown, hts, hlk, hini, hht, hN, hI, hst0, hRf, hRl, hE, hE0⟩ := C2
  intro H locs L hW hS hL
  simp only [s_1] at h
  split at h
  · split at h
    · rename_i hc
      obtain ⟨rfl, rfl, rfl, rfl⟩ := s4 h
      exact lv_pop hx hb hd (by rw [tv_c]; exact hc) (k H locs L hW hS hL)
    · cases h
  · cases h
theorem a_dup_x1 (C : Cx_ p l R s m args meth c G w0 zE mi d) (hz : zE ≤ w_z w) (hsl : sE ≤ w_s w) (hr : w_z w1 - zE ≤ R.cells ∧ w_s w1 - sE ≤ R.slots) (hd : decode (m_c mi) pc = .ok (.dup_x1, 1)) (h : s_1 mi (.dup_x1) pc ls st w = some (pc1, ls1, st1, w1)) (k : WW_ p l e R s m args below meth c D G w0 Q (m_l mi) zE sE w1 ls1 st1 pc1) : WW_ p l e R s m args below meth c D G w0 Q (m_l mi) zE sE w ls st pc := by
  have C2 := C
  obtain ⟨hx, hb, hrt, hml, hown, hts, hlk, hini, hht, hN, hI, hst0, hRf, hRl, hE, hE0⟩ := C2
  intro H locs L hW hS hL
  simp only [s_1] at h
  split at h
  · split at h
    · rename_i hc
      obtain ⟨rfl, rfl, rfl, rfl⟩ := s4 h
      exact lv_dup_x1 hx hb hd (by rw [tv_c]; exact hc.1) (by rw [tv_c]; exact hc.2) (k H locs L hW hS hL)
    · cases h
  · cases h
theorem a_dup2 (C : Cx_ p l R s m args meth c G w0 zE mi d) (hz : zE ≤ w_z w) (hsl : sE ≤ w_s w) (hr : w_z w1 - zE ≤ R.cells ∧ w_s w1 - sE ≤ R.slots) (hd : decode (m_c mi) pc = .ok (.dup2, 1)) (h : s_1 mi (.dup2) pc ls st w = some (pc1, ls1, st1, w1)) (k : WW_ p l e R s m args below meth c D G w0 Q (m_l mi) zE sE w1 ls1 st1 pc1) : WW_ p l e R s m args below meth c D G w0 Q (m_l mi) zE sE w ls st pc := by
  have C2 := C
  obtain ⟨hx, hb, hrt, hml, hown, hts, hlk, hini, hht, hN, hI, hst0, hRf, hRl, hE, hE0⟩ := C2
  intro H locs L hW hS hL
  simp only [s_1] at h
  split at h
  · split at h
    · rename_i hc
      obtain ⟨rfl, rfl, rfl, rfl⟩ := s4 h
      exact lv_dup2_11 hx hb hd (by rw [tv_c]; exact hc.1) (by rw [tv_c]; exact hc.2) (k H locs L hW hS hL)
    · cases h
  · cases h
theorem a_goto {off : Int} (C : Cx_ p l R s m args meth c G w0 zE mi d) (hz : zE ≤ w_z w) (hsl : sE ≤ w_s w) (hr : w_z w1 - zE ≤ R.cells ∧ w_s w1 - sE ≤ R.slots) (hd : decode (m_c mi) pc = .ok (.goto off, 3)) (h : s_1 mi (.goto off) pc ls st w = some (pc1, ls1, st1, w1)) (k : WW_ p l e R s m args below meth c D G w0 Q (m_l mi) zE sE w1 ls1 st1 pc1) : WW_ p l e R s m args below meth c D G w0 Q (m_l mi) zE sE w ls st pc := by
  have C2 := C
  obtain ⟨hx, hb, hrt, hml, hown, hts, hlk, hini, hht, hN, hI, hst0, hRf, hRl, hE, hE0⟩ := C2
  intro H locs L hW hS hL
  obtain ⟨hj, rfl, rfl, rfl, ⟨-, rfl⟩ | ⟨hf, -⟩⟩ := g_oi h
  · exact lv_goto hx hb hd hj (k H locs L hW hS hL)
  · cases hf
theorem a_ifCond {cn : Jvm.ClassFile.Cond} {off : Int} (C : Cx_ p l R s m args meth c G w0 zE mi d) (hz : zE ≤ w_z w) (hsl : sE ≤ w_s w) (hr : w_z w1 - zE ≤ R.cells ∧ w_s w1 - sE ≤ R.slots) (hd : decode (m_c mi) pc = .ok (.ifCond cn off, 3)) (h : s_1 mi (.ifCond cn off) pc ls st w = some (pc1, ls1, st1, w1)) (k : WW_ p l e R s m args below meth c D G w0 Q (m_l mi) zE sE w1 ls1 st1 pc1) : WW_ p l e R s m args below meth c D G w0 Q (m_l mi) zE sE w ls st pc := by
  have C2 := C
  obtain ⟨hx, hb, hrt, hml, hown, hts, hlk, hini, hht, hN, hI, hst0, hRf, hRl, hE, hE0⟩ := C2
  intro H locs L hW hS hL
  simp only [s_1] at h
  split at h
  · obtain ⟨hj, rfl, rfl, rfl, hb9⟩ := g_oi h
    cases cn with
    | eq =>
      refine lv_if_eq hx hb hd hj (fun t => ?_) (fun t => ?_)
      · rcases hb9 with ⟨-, rfl⟩ | ⟨hf, -⟩
        · exact (k H locs L hW hS hL)
        · exact absurd t (by simpa [z_c] using hf)
      · rcases hb9 with ⟨hf, -⟩ | ⟨-, rfl⟩
        · first | exact absurd (by simpa [z_c] using hf) t | exact absurd t (by simpa [z_c] using hf)
        · exact (k H locs L hW hS hL)
    | ne =>
      refine lv_if_ne hx hb hd hj (fun t => ?_) (fun t => ?_)
      · rcases hb9 with ⟨-, rfl⟩ | ⟨hf, -⟩
        · exact (k H locs L hW hS hL)
        · exact absurd t (by simpa [z_c] using hf)
      · rcases hb9 with ⟨hf, -⟩ | ⟨-, rfl⟩
        · first | exact absurd (by simpa [z_c] using hf) t | exact absurd t (by simpa [z_c] using hf)
        · exact (k H locs L hW hS hL)
    | lt =>
      refine lv_if_lt hx hb hd hj (fun t => ?_) (fun t => ?_)
      · rcases hb9 with ⟨-, rfl⟩ | ⟨hf, -⟩
        · exact (k H locs L hW hS hL)
        · exact absurd t (by simpa [z_c] using hf)
      · rcases hb9 with ⟨hf, -⟩ | ⟨-, rfl⟩
        · first | exact absurd (by simpa [z_c] using hf) t | exact absurd t (by simpa [z_c] using hf)
        · exact (k H locs L hW hS hL)
    | ge =>
      refine lv_if_ge hx hb hd hj (fun t => ?_) (fun t => ?_)
      · rcases hb9 with ⟨-, rfl⟩ | ⟨hf, -⟩
        · exact (k H locs L hW hS hL)
        · exact absurd t (by simpa [z_c] using hf)
      · rcases hb9 with ⟨hf, -⟩ | ⟨-, rfl⟩
        · first | exact absurd (by simpa [z_c] using hf) t | exact absurd t (by simpa [z_c] using hf)
        · exact (k H locs L hW hS hL)
    | gt =>
      refine lv_if_gt hx hb hd hj (fun t => ?_) (fun t => ?_)
      · rcases hb9 with ⟨-, rfl⟩ | ⟨hf, -⟩
        · exact (k H locs L hW hS hL)
        · exact absurd t (by simpa [z_c] using hf)
      · rcases hb9 with ⟨hf, -⟩ | ⟨-, rfl⟩
        · first | exact absurd (by simpa [z_c] using hf) t | exact absurd t (by simpa [z_c] using hf)
        · exact (k H locs L hW hS hL)
    | le =>
      refine lv_if_le hx hb hd hj (fun t => ?_) (fun t => ?_)
      · rcases hb9 with ⟨-, rfl⟩ | ⟨hf, -⟩
        · exact (k H locs L hW hS hL)
        · exact absurd t (by simpa [z_c] using hf)
      · rcases hb9 with ⟨hf, -⟩ | ⟨-, rfl⟩
        · first | exact absurd (by simpa [z_c] using hf) t | exact absurd t (by simpa [z_c] using hf)
        · exact (k H locs L hW hS hL)
  · cases h
theorem a_if_icmp {cn : Jvm.ClassFile.Cond} {off : Int} (C : Cx_ p l R s m args meth c G w0 zE mi d) (hz : zE ≤ w_z w) (hsl : sE ≤ w_s w) (hr : w_z w1 - zE ≤ R.cells ∧ w_s w1 - sE ≤ R.slots) (hd : decode (m_c mi) pc = .ok (.if_icmp cn off, 3)) (h : s_1 mi (.if_icmp cn off) pc ls st w = some (pc1, ls1, st1, w1)) (k : WW_ p l e R s m args below meth c D G w0 Q (m_l mi) zE sE w1 ls1 st1 pc1) : WW_ p l e R s m args below meth c D G w0 Q (m_l mi) zE sE w ls st pc := by
  have C2 := C
  obtain ⟨hx, hb, hrt, hml, hown, hts, hlk, hini, hht, hN, hI, hst0, hRf, hRl, hE, hE0⟩ := C2
  intro H locs L hW hS hL
  simp only [s_1] at h
  split at h
  · obtain ⟨hj, rfl, rfl, rfl, hb9⟩ := g_oi h
    cases cn with
    | eq =>
      refine lv_icmp_eq hx hb hd hj (fun t => ?_) (fun t => ?_)
      · rcases hb9 with ⟨-, rfl⟩ | ⟨hf, -⟩
        · exact (k H locs L hW hS hL)
        · exact absurd t (by simpa [i_c] using hf)
      · rcases hb9 with ⟨hf, -⟩ | ⟨-, rfl⟩
        · first | exact absurd (by simpa [i_c] using hf) t | exact absurd t (by simpa [i_c] using hf)
        · exact (k H locs L hW hS hL)
    | ne =>
      refine lv_icmp_ne hx hb hd hj (fun t => ?_) (fun t => ?_)
      · rcases hb9 with ⟨-, rfl⟩ | ⟨hf, -⟩
        · exact (k H locs L hW hS hL)
        · exact absurd t (by simpa [i_c] using hf)
      · rcases hb9 with ⟨hf, -⟩ | ⟨-, rfl⟩
        · first | exact absurd (by simpa [i_c] using hf) t | exact absurd t (by simpa [i_c] using hf)
        · exact (k H locs L hW hS hL)
    | lt =>
      refine lv_icmp_lt hx hb hd hj (fun t => ?_) (fun t => ?_)
      · rcases hb9 with ⟨-, rfl⟩ | ⟨hf, -⟩
        · exact (k H locs L hW hS hL)
        · exact absurd t (by simpa [i_c] using hf)
      · rcases hb9 with ⟨hf, -⟩ | ⟨-, rfl⟩
        · first | exact absurd (by simpa [i_c] using hf) t | exact absurd t (by simpa [i_c] using hf)
        · exact (k H locs L hW hS hL)
    | ge =>
      refine lv_icmp_ge hx hb hd hj (fun t => ?_) (fun t => ?_)
      · rcases hb9 with ⟨-, rfl⟩ | ⟨hf, -⟩
        · exact (k H locs L hW hS hL)
        · exact absurd t (by simpa [i_c] using hf)
      · rcases hb9 with ⟨hf, -⟩ | ⟨-, rfl⟩
        · first | exact absurd (by simpa [i_c] using hf) t | exact absurd t (by simpa [i_c] using hf)
        · exact (k H locs L hW hS hL)
    | gt =>
      refine lv_icmp_gt hx hb hd hj (fun t => ?_) (fun t => ?_)
      · rcases hb9 with ⟨-, rfl⟩ | ⟨hf, -⟩
        · exact (k H locs L hW hS hL)
        · exact absurd t (by simpa [i_c] using hf)
      · rcases hb9 with ⟨hf, -⟩ | ⟨-, rfl⟩
        · first | exact absurd (by simpa [i_c] using hf) t | exact absurd t (by simpa [i_c] using hf)
        · exact (k H locs L hW hS hL)
    | le =>
      refine lv_icmp_le hx hb hd hj (fun t => ?_) (fun t => ?_)
      · rcases hb9 with ⟨-, rfl⟩ | ⟨hf, -⟩
        · exact (k H locs L hW hS hL)
        · exact absurd t (by simpa [i_c] using hf)
      · rcases hb9 with ⟨hf, -⟩ | ⟨-, rfl⟩
        · first | exact absurd (by simpa [i_c] using hf) t | exact absurd t (by simpa [i_c] using hf)
        · exact (k H locs L hW hS hL)
  · cases h
theorem q_kb (hN : GN_ G w0) {o : Option Nat} (h : q_k o = true) : o.bind (ad_ G) = none ↔ o = none := by
  cases o with
  | none => exact ⟨fun _ => rfl, fun _ => rfl⟩
  | some a =>
    have h := of_decide_eq_true h
    refine ⟨fun z => ?_, fun z => by cases z⟩
    exfalso
    show False
    have z : ad_ G a = none := z
    unfold ad_ at z
    split at z
    · exact hN.2.2.1 a (by omega) z
    · cases z
theorem q_qb (hN : GN_ G w0) {x y : Option Nat} (h : q_q x y = true) : x.bind (ad_ G) = y.bind (ad_ G) ↔ x = y := by
  cases x with
  | none =>
    have h2 : q_k y = true := by simpa [q_q, q_k] using h
    have := q_kb hN h2
    constructor
    · intro z; exact (this.mp z.symm).symm
    · intro z; subst z; rfl
  | some a =>
    cases y with
    | none =>
      have h2 : q_k (some a) = true := by simpa [q_q, q_k] using h
      exact q_kb hN h2
    | some b =>
      simp only [q_q, Bool.and_eq_true] at h
      obtain ⟨⟨h1, h2⟩, h3⟩ := h
      have h1 := of_decide_eq_true h1
      constructor
      · intro z
        have z : ad_ G a = ad_ G b := z
        by_cases hab : a = b
        · rw [hab]
        · exfalso
          have n1 : ad_ G a ≠ none := fun t => by have := (q_kb hN h2).mp t; cases this
          unfold ad_ at z n1
          by_cases ha : a < 1000
          · rw [if_pos ha] at z n1
            cases hq : G.2 a with
            | none => exact n1 hq
            | some q =>
              have hk9 : 1000 ≤ a ∨ a < 232 := of_decide_eq_true h2
              have hq1 := hN.2.1 a q ha (by omega) (by omega) hq
              by_cases hb : b < 1000
              · rw [if_pos hb] at z
                exact hab (hN.2.2.2 a b (by omega) (by omega) (by omega) (by omega) z)
              · rw [if_neg hb, hq] at z
                have := Option.some.inj z
                omega
          · rw [if_neg ha] at z
            by_cases hb : b < 1000
            · rw [if_pos hb] at z
              have hk9 : 1000 ≤ b ∨ b < 232 := of_decide_eq_true h3
              have := hN.2.1 b _ hb (by omega) (by omega) z.symm
              omega
            · rw [if_neg hb] at z
              have := Option.some.inj z
              omega
      · intro z; rw [z]
theorem a_acmp_eq {off : Int} (C : Cx_ p l R s m args meth c G w0 zE mi d) (hz : zE ≤ w_z w) (hsl : sE ≤ w_s w) (hr : w_z w1 - zE ≤ R.cells ∧ w_s w1 - sE ≤ R.slots) (hd : decode (m_c mi) pc = .ok (.if_acmp .eq off, 3)) (h : s_1 mi (.if_acmp .eq off) pc ls st w = some (pc1, ls1, st1, w1)) (k : WW_ p l e R s m args below meth c D G w0 Q (m_l mi) zE sE w1 ls1 st1 pc1) : WW_ p l e R s m args below meth c D G w0 Q (m_l mi) zE sE w ls st pc := by
  have C2 := C
  obtain ⟨hx, hb, hrt, hml, hown, hts, hlk, hini, hht, hN, hI, hst0, hRf, hRl, hE, hE0⟩ := C2
  intro H locs L hW hS hL
  simp only [s_1] at h
  split at h
  · rename_i y x r
    split at h
    · rename_i hq
      have hqq := q_qb hN hq
      obtain ⟨hj, rfl, rfl, rfl, hb9⟩ := g_oi h
      refine lv_acmp_eq (rx := x.bind (ad_ G)) (ry := y.bind (ad_ G)) hx hb hd hj (fun t => ?_) (fun t => ?_)
      · rw [hqq] at t
        rcases hb9 with ⟨-, rfl⟩ | ⟨hf, -⟩
        · exact (k H locs L hW hS hL)
        · simp [t] at hf
      · rw [hqq] at t
        rcases hb9 with ⟨hf, -⟩ | ⟨-, rfl⟩
        · simp [t] at hf
        · exact (k H locs L hW hS hL)
    · cases h
  · cases h
theorem a_acmp_ne {off : Int} (C : Cx_ p l R s m args meth c G w0 zE mi d) (hz : zE ≤ w_z w) (hsl : sE ≤ w_s w) (hr : w_z w1 - zE ≤ R.cells ∧ w_s w1 - sE ≤ R.slots) (hd : decode (m_c mi) pc = .ok (.if_acmp .ne off, 3)) (h : s_1 mi (.if_acmp .ne off) pc ls st w = some (pc1, ls1, st1, w1)) (k : WW_ p l e R s m args below meth c D G w0 Q (m_l mi) zE sE w1 ls1 st1 pc1) : WW_ p l e R s m args below meth c D G w0 Q (m_l mi) zE sE w ls st pc := by
  have C2 := C
  obtain ⟨hx, hb, hrt, hml, hown, hts, hlk, hini, hht, hN, hI, hst0, hRf, hRl, hE, hE0⟩ := C2
  intro H locs L hW hS hL
  simp only [s_1] at h
  split at h
  · rename_i y x r
    split at h
    · rename_i hq
      have hqq := q_qb hN hq
      obtain ⟨hj, rfl, rfl, rfl, hb9⟩ := g_oi h
      refine lv_acmp_ne (rx := x.bind (ad_ G)) (ry := y.bind (ad_ G)) hx hb hd hj (fun t => ?_) (fun t => ?_)
      · rw [hqq] at t
        rcases hb9 with ⟨-, rfl⟩ | ⟨hf, -⟩
        · exact (k H locs L hW hS hL)
        · simp [t] at hf
      · rw [hqq] at t
        rcases hb9 with ⟨hf, -⟩ | ⟨-, rfl⟩
        · simp [t] at hf
        · exact (k H locs L hW hS hL)
    · cases h
  · cases h
theorem a_ifnull {off : Int} (C : Cx_ p l R s m args meth c G w0 zE mi d) (hz : zE ≤ w_z w) (hsl : sE ≤ w_s w) (hr : w_z w1 - zE ≤ R.cells ∧ w_s w1 - sE ≤ R.slots) (hd : decode (m_c mi) pc = .ok (.ifnull off, 3)) (h : s_1 mi (.ifnull off) pc ls st w = some (pc1, ls1, st1, w1)) (k : WW_ p l e R s m args below meth c D G w0 Q (m_l mi) zE sE w1 ls1 st1 pc1) : WW_ p l e R s m args below meth c D G w0 Q (m_l mi) zE sE w ls st pc := by
  have C2 := C
  obtain ⟨hx, hb, hrt, hml, hown, hts, hlk, hini, hht, hN, hI, hst0, hRf, hRl, hE, hE0⟩ := C2
  intro H locs L hW hS hL
  simp only [s_1] at h
  split at h
  · rename_i x r
    split at h
    · rename_i hq
      have hqq := q_kb hN hq
      obtain ⟨hj, rfl, rfl, rfl, hb9⟩ := g_oi h
      cases x with
      | none =>
        rcases hb9 with ⟨-, rfl⟩ | ⟨hf, rfl⟩
        · exact lv_ifnullN hx hb hd hj (k H locs L hW hS hL)
        · cases hf
      | some a =>
        have hne : ad_ G a ≠ none := fun z => by have := hqq.mp z; cases this
        cases ha : ad_ G a with
        | none => exact absurd ha hne
        | some q =>
          have ht : tv_ G (v_R (some a)) = .ref q := by
            show va_rf (ad_ G a) = _
            rw [ha]; rfl
          rw [List.map_cons, ht]
          rcases hb9 with ⟨hf, rfl⟩ | ⟨-, rfl⟩
          · cases hf
          · exact lv_ifnull hx hb hd (k H locs L hW hS hL)
    · cases h
  · cases h
theorem a_ifnonnull {off : Int} (C : Cx_ p l R s m args meth c G w0 zE mi d) (hz : zE ≤ w_z w) (hsl : sE ≤ w_s w) (hr : w_z w1 - zE ≤ R.cells ∧ w_s w1 - sE ≤ R.slots) (hd : decode (m_c mi) pc = .ok (.ifnonnull off, 3)) (h : s_1 mi (.ifnonnull off) pc ls st w = some (pc1, ls1, st1, w1)) (k : WW_ p l e R s m args below meth c D G w0 Q (m_l mi) zE sE w1 ls1 st1 pc1) : WW_ p l e R s m args below meth c D G w0 Q (m_l mi) zE sE w ls st pc := by
  have C2 := C
  obtain ⟨hx, hb, hrt, hml, hown, hts, hlk, hini, hht, hN, hI, hst0, hRf, hRl, hE, hE0⟩ := C2
  intro H locs L hW hS hL
  simp only [s_1] at h
  split at h
  · rename_i x r
    split at h
    · rename_i hq
      have hqq := q_kb hN hq
      obtain ⟨hj, rfl, rfl, rfl, hb9⟩ := g_oi h
      cases x with
      | none =>
        rcases hb9 with ⟨hf, rfl⟩ | ⟨-, rfl⟩
        · cases hf
        · exact lv_ifnonnullN hx hb hd (k H locs L hW hS hL)
      | some a =>
        have hne : ad_ G a ≠ none := fun z => by have := hqq.mp z; cases this
        cases ha : ad_ G a with
        | none => exact absurd ha hne
        | some q =>
          have ht : tv_ G (v_R (some a)) = .ref q := by
            show va_rf (ad_ G a) = _
            rw [ha]; rfl
          rw [List.map_cons, ht]
          rcases hb9 with ⟨-, rfl⟩ | ⟨hf, rfl⟩
          · exact lv_ifnonnull hx hb hd hj (k H locs L hW hS hL)
          · cases hf
    · cases h
  · cases h
theorem a_tableswitch {dflt lo hi : Int} {offs : Array Int} {len : Nat} (C : Cx_ p l R s m args meth c G w0 zE mi d) (hz : zE ≤ w_z w) (hsl : sE ≤ w_s w) (hr : w_z w1 - zE ≤ R.cells ∧ w_s w1 - sE ≤ R.slots) (hd : decode (m_c mi) pc = .ok (.tableswitch dflt lo hi offs, len)) (h : s_1 mi (.tableswitch dflt lo hi offs) pc ls st w = some (pc1, ls1, st1, w1)) (k : WW_ p l e R s m args below meth c D G w0 Q (m_l mi) zE sE w1 ls1 st1 pc1) : WW_ p l e R s m args below meth c D G w0 Q (m_l mi) zE sE w ls st pc := by
  have C2 := C
  obtain ⟨hx, hb, hrt, hml, hown, hts, hlk, hini, hht, hN, hI, hst0, hRf, hRl, hE, hE0⟩ := C2
  intro H locs L hW hS hL
  simp only [s_1] at h
  split at h
  · split at h
    · rename_i hts9
      obtain ⟨hj, rfl, rfl, rfl, ⟨-, rfl⟩ | ⟨hf, -⟩⟩ := g_oi h
      · unfold t_s at hts9
        split at hts9
        · rename_i hc
          cases hts9
          exact lv_tableOut hx hb hd hc hj (k H locs L hW hS hL)
        · rename_i hc
          exact lv_tableIn hx hb hd (fun z => hc (Or.inl z)) (fun z => hc (Or.inr z)) hts9 hj (k H locs L hW hS hL)
      · cases hf
    · cases h
  · cases h
end
