/-! THE STEPS ON ARRAYS AND CONSTANTS (by program, wip/gen/genarms3.py) -/
set_option maxRecDepth 100000
theorem c_at {ci : Nat} (h : ci < 22) : cL_[ci]? = some (c_e ci) := by
  unfold c_e
  rw [List.getD_eq_getElem?_getD]
  have h2 : ci < cL_.length := h
  rw [List.getElem?_eq_getElem h2]
  rfl
theorem c_cast {ci : Nat} (h : ci < 22) : ((c_e ci).1, "java/lang/Object") ∈ nC_L := by
  have : ∀ i, i < 22 → ((c_e i).1, "java/lang/Object") ∈ nC_L := by decide +kernel
  exact this ci h
section
variable {p : Program} {l : Launch} {e : Env} {R : Room} {s : State} {m : MethodId} {args : Array Value} {below : List Frame} {meth : Method} {c : Code} {D : va_G} {G : GG_} {w0 : Wd} {Q : State → Prop} {zE sE mi d pc pc1 : Nat} {ls ls1 : List (Option Vl)} {st st1 : List Vl} {w w1 : Wd}

theorem ar_i {a : Nat} (h : w_t w a ≤ 3) : ar_ G w a = (w_n w a, .inl (w_i w a)) := by
  unfold ar_
  rw [if_neg (by omega), if_pos h]
theorem ar_l {a : Nat} (h : w_t w a = 4) : ar_ G w a = (w_n w a, .inr (.inl (w_l w a))) := by
  unfold ar_
  rw [if_pos h]
theorem ar_r {a : Nat} (h : 5 ≤ w_t w a) : ar_ G w a = (w_n w a, .inr (.inr (.inr (.inr (fun j => (w_r w a j).bind (ad_ G)))))) := by
  unfold ar_
  rw [if_neg (by omega), if_neg (by omega)]
theorem ty_1 {t : Nat} (h : t = 1) : ty_ t = .int := by subst h; rfl
theorem ty_2 {t : Nat} (h : t = 2) : ty_ t = .byte := by subst h; rfl
theorem ty_3 {t : Nat} (h : t = 3) : ty_ t = .boolean := by subst h; rfl
theorem ty_4 {t : Nat} (h : t = 4) : ty_ t = .long := by subst h; rfl
theorem ty_5 {t : Nat} (h : t = 5) : ty_ t = .object "java/lang/Object" := by subst h; rfl
theorem ty_6 {t : Nat} (h : t = 6) : ty_ t = .object "java/lang/String" := by subst h; rfl
/-- a constant cell's facts -/
theorem GC_.get (hI : GI_ G w0 s s.heap) : GC_ G w0 s s.heap := hI.2.2.2.2.2.2.2.2.2.2.2.2.1
/-- an array's row of ints changed -/
theorem put_i {H H1 : Heap} {ws : va_W} {tys : List (ClassId × FieldType)} {a q t0 j : Nat} {x : Int32} {cA : ClassId} {n : Nat} {f : Nat → Int32} (hX : RX_ D G w0 w s H ws tys) (ha : 1000 ≤ a) (haz : a < w_z w) (h1 : 1 ≤ w_t w a) (h3 : w_t w a ≤ 3) (hq : ws[q]? = some (G.1 + (a - 1000), .inl (cA, ar_ G w a))) (ht : tys[t0]? = some (cA, ty_ (w_t w a))) (hby : w_t w a = 2 → ∀ j, (w_i w a j).toInt8.toInt32 = w_i w a j) (hx2 : w_t w a = 2 → x.toInt8.toInt32 = x)
    (hP : va_P D cL_ (ws.set q (G.1 + (a - 1000), .inl (cA, w_n w a, .inl (upd (w_i w a) j x)))) H1) (hD : va_D (A_ G) (ws.set q (G.1 + (a - 1000), .inl (cA, w_n w a, .inl (upd (w_i w a) j x))))) : RX_ D G w0 (s_i w a j x) s H1 (ws.set q (G.1 + (a - 1000), .inl (cA, w_n w a, .inl (upd (w_i w a) j x)))) tys := by
  have hrow : w_i (s_i w a j x) a = upd (w_i w a) j x := by
    funext b
    rw [i_si]
    unfold upd
    by_cases hb : b = j
    · rw [if_pos ⟨rfl, hb⟩, if_pos hb]
    · rw [if_neg (fun z => hb z.2), if_neg hb]
  refine hX.put ha haz hq hP hD rfl (fun _ _ => rfl) (fun _ _ => rfl) (fun b i hb => ?_) (fun _ _ _ => rfl) (fun _ _ _ => rfl) (Or.inr <| Or.inl ⟨h1, by show w_t w a ≤ 6; omega, ⟨cA, t0, ?_, ht⟩, fun t2 i => ?_⟩)
  · rw [i_si, if_neg (fun z => hb z.1)]
  · rw [List.getElem?_set_self (List.getElem?_eq_some_iff.mp hq).1, ar_i (w := s_i w a j x) h3, hrow]
    rfl
  · rw [hrow]
    unfold upd
    split
    · exact hx2 t2
    · exact hby t2 i
theorem put_I {H H1 : Heap} {ws : va_W} {tys : List (ClassId × FieldType)} {a q t0 : Nat} {g : Nat → Int32} {cA : ClassId} (hX : RX_ D G w0 w s H ws tys) (ha : 1000 ≤ a) (haz : a < w_z w) (h1 : 1 ≤ w_t w a) (h3 : w_t w a ≤ 3) (hq : ws[q]? = some (G.1 + (a - 1000), .inl (cA, ar_ G w a))) (ht : tys[t0]? = some (cA, ty_ (w_t w a))) (hx2 : w_t w a = 2 → ∀ j, (g j).toInt8.toInt32 = g j)
    (hP : va_P D cL_ (ws.set q (G.1 + (a - 1000), .inl (cA, w_n w a, .inl g))) H1) (hD : va_D (A_ G) (ws.set q (G.1 + (a - 1000), .inl (cA, w_n w a, .inl g)))) : RX_ D G w0 (s_I w a g) s H1 (ws.set q (G.1 + (a - 1000), .inl (cA, w_n w a, .inl g))) tys := by
  have hrow : w_i (s_I w a g) a = g := by
    funext b
    rw [i_sI, if_pos rfl]
  refine hX.put ha haz hq hP hD rfl (fun _ _ => rfl) (fun _ _ => rfl) (fun b i hb => ?_) (fun _ _ _ => rfl) (fun _ _ _ => rfl) (Or.inr <| Or.inl ⟨h1, by show w_t w a ≤ 6; omega, ⟨cA, t0, ?_, ht⟩, fun t2 i => ?_⟩)
  · rw [i_sI, if_neg hb]
  · rw [List.getElem?_set_self (List.getElem?_eq_some_iff.mp hq).1, ar_i (w := s_I w a g) h3, hrow]
    rfl
  · rw [hrow]
    exact hx2 t2 i
theorem put_l {H H1 : Heap} {ws : va_W} {tys : List (ClassId × FieldType)} {a q t0 j : Nat} {x : Int64} {cA : ClassId} (hX : RX_ D G w0 w s H ws tys) (ha : 1000 ≤ a) (haz : a < w_z w) (h4 : w_t w a = 4) (hq : ws[q]? = some (G.1 + (a - 1000), .inl (cA, ar_ G w a))) (ht : tys[t0]? = some (cA, ty_ (w_t w a)))
    (hP : va_P D cL_ (ws.set q (G.1 + (a - 1000), .inl (cA, w_n w a, .inr (.inl (vp_updL (w_l w a) j x))))) H1) (hD : va_D (A_ G) (ws.set q (G.1 + (a - 1000), .inl (cA, w_n w a, .inr (.inl (vp_updL (w_l w a) j x)))))) : RX_ D G w0 (s_l w a j x) s H1 (ws.set q (G.1 + (a - 1000), .inl (cA, w_n w a, .inr (.inl (vp_updL (w_l w a) j x))))) tys := by
  have hrow : w_l (s_l w a j x) a = vp_updL (w_l w a) j x := by
    funext b
    rw [l_sl]
    unfold vp_updL
    by_cases hb : b = j
    · rw [if_pos ⟨rfl, hb⟩, if_pos hb]
    · rw [if_neg (fun z => hb z.2), if_neg hb]
  refine hX.put ha haz hq hP hD rfl (fun _ _ => rfl) (fun _ _ => rfl) (fun _ _ _ => rfl) (fun b i hb => ?_) (fun _ _ _ => rfl) (Or.inr <| Or.inl ⟨by show 1 ≤ w_t w a; omega, by show w_t w a ≤ 6; omega, ⟨cA, t0, ?_, ht⟩, fun t2 i => ?_⟩)
  · rw [l_sl, if_neg (fun z => hb z.1)]
  · rw [List.getElem?_set_self (List.getElem?_eq_some_iff.mp hq).1, ar_l (w := s_l w a j x) h4, hrow]
    rfl
  · have : w_t w a = 2 := t2
    omega
theorem put_R {H H1 : Heap} {ws : va_W} {tys : List (ClassId × FieldType)} {a q t0 : Nat} {g : Nat → Option Nat} {g2 : Nat → Option Nat} {cA : ClassId} {w1 : Wd} (hX : RX_ D G w0 w s H ws tys) (ha : 1000 ≤ a) (haz : a < w_z w) (h5 : 5 ≤ w_t w a) (h7 : w_t w a ≤ 6) (hq : ws[q]? = some (G.1 + (a - 1000), .inl (cA, ar_ G w a))) (ht : tys[t0]? = some (cA, ty_ (w_t w a)))
    (hw : w1 = s_R w a g) (hg : ∀ j, (g j).bind (ad_ G) = g2 j)
    (hP : va_P D cL_ (ws.set q (G.1 + (a - 1000), .inl (cA, w_n w a, .inr (.inr (.inr (.inr g2)))))) H1) (hD : va_D (A_ G) (ws.set q (G.1 + (a - 1000), .inl (cA, w_n w a, .inr (.inr (.inr (.inr g2))))))) : RX_ D G w0 w1 s H1 (ws.set q (G.1 + (a - 1000), .inl (cA, w_n w a, .inr (.inr (.inr (.inr g2)))))) tys := by
  subst hw
  have hrow : (fun j => (w_r (s_R w a g) a j).bind (ad_ G)) = g2 := by
    funext b
    rw [r_sR, if_pos rfl]
    exact hg b
  refine hX.put ha haz hq hP hD rfl (fun _ _ => rfl) (fun _ _ => rfl) (fun _ _ _ => rfl) (fun _ _ _ => rfl) (fun b i hb => ?_) (Or.inr <| Or.inl ⟨by show 1 ≤ w_t w a; omega, h7, ⟨cA, t0, ?_, ht⟩, fun t2 i => ?_⟩)
  · rw [r_sR, if_neg hb]
  · rw [List.getElem?_set_self (List.getElem?_eq_some_iff.mp hq).1, ar_r (w := s_R w a g) h5, hrow]
    rfl
  · have : w_t w a = 2 := t2
    omega
theorem up_b {f : Nat → Option Nat} {j b q : Nat} (h : ad_ G b = some q) (i : Nat) : (va_up f j (some b) i).bind (ad_ G) = va_up (fun i => (f i).bind (ad_ G)) j (some q) i := by
  unfold va_up
  by_cases hi : i = j
  · rw [if_pos hi, if_pos hi]; exact h
  · rw [if_neg hi, if_neg hi]
theorem s_r_R (w : Wd) (a j : Nat) (o : Option Nat) : s_r w a j o = s_R w a (va_up (w_r w a) j o) := by
  unfold s_r s_R
  congr 1
  congr 1
  congr 1
  congr 1
  congr 1
  funext b i
  unfold u_2 u_1 va_up
  by_cases hb : b = a
  · subst hb
    by_cases hi : i = j
    · rw [if_pos ⟨rfl, hi⟩, if_pos rfl, if_pos hi]
    · rw [if_neg (fun z => hi z.2), if_pos rfl, if_neg hi]
      rfl
  · rw [if_neg (fun z => hb z.1), if_neg hb]
theorem a_getstatic {idx : Nat} (C : Cx_ p l R s m args meth c G w0 zE mi d) (hz : zE ≤ w_z w) (hsl : sE ≤ w_s w) (hr : w_z w1 - zE ≤ R.cells ∧ w_s w1 - sE ≤ R.slots) (hd : decode (m_c mi) pc = .ok (.getstatic idx, 3)) (h : s_1 mi (.getstatic idx) pc ls st w = some (pc1, ls1, st1, w1)) (k : WW_ p l e R s m args below meth c D G w0 Q (m_l mi) zE sE w1 ls1 st1 pc1) : WW_ p l e R s m args below meth c D G w0 Q (m_l mi) zE sE w ls st pc := by
  have C2 := C
  obtain ⟨hx, hb, hrt, hml, hown, hts, hlk, hini, hht, hN, hI, hst0, hRf, hRl, hE, hE0⟩ := C2
  intro H locs L hW hS hL
  simp only [s_1] at h
  split at h
  · rename_i v hlk9
    obtain ⟨rfl, rfl, rfl, rfl⟩ := s4 h
    obtain ⟨CC, n, d9, hm, hlnk⟩ := g_oo hlk9
    have hZ := hI.2.2.2.2.1 _ hm
    exact va_gets hx hb hZ hS hown (hts _ hlnk) (fun _ h => h) hd (k H locs L hW hS hL)
  · cases h
theorem ldc_wS {H : Heap} {locs : List Loc} {cells slots : Nat} {L : Array Slot} {rest : List Value} {cc : ByteArray} (hexec : p.tables.exec = Jvm.exec) (hb : c.code = cc) {own tx : String} {index q : Nat} (hown : s.vm.findClass own = some m.cls) (hZ : vk_R own index tx q s) (hdg : decode cc pc = .ok (.ldc_w index, 3))
    (k : W p l e R s m args below meth c H locs cells slots Q (F0 m (pc + 3) L (.ref q :: rest))) : W p l e R s m args below meth c H locs cells slots Q (F0 m pc L rest) := by
  intro T hT X
  obtain ⟨t, a1, b1⟩ := k T hT X
  exact ⟨t, X.ldcStringW hexec (own := own) (text := tx) (index := index) (a := q) hown hZ.1 hZ.2 (g := F0 m pc L rest) rfl (by rw [hb]; exact hdg) t a1, b1⟩
theorem a_ldc {idx : Nat} (C : Cx_ p l R s m args meth c G w0 zE mi d) (hz : zE ≤ w_z w) (hsl : sE ≤ w_s w) (hr : w_z w1 - zE ≤ R.cells ∧ w_s w1 - sE ≤ R.slots) (hd : decode (m_c mi) pc = .ok (.ldc idx, 2)) (h : s_1 mi (.ldc idx) pc ls st w = some (pc1, ls1, st1, w1)) (k : WW_ p l e R s m args below meth c D G w0 Q (m_l mi) zE sE w1 ls1 st1 pc1) : WW_ p l e R s m args below meth c D G w0 Q (m_l mi) zE sE w ls st pc := by
  have C2 := C
  obtain ⟨hx, hb, hrt, hml, hown, hts, hlk, hini, hht, hN, hI, hst0, hRf, hRl, hE, hE0⟩ := C2
  intro H locs L hW hS hL
  simp only [s_1] at h
  split at h
  · rename_i v hlk9
    split at h
    · rename_i hv1
      obtain ⟨rfl, rfl, rfl, rfl⟩ := s4 h
      have hkk := k H locs L hW hS hL
      rcases l_oo hlk9 with ⟨x, rfl, hc9⟩ | ⟨x, rfl, hc9⟩ | ⟨a, tx, rfl, ha, hm⟩ | ⟨rfl, hm⟩
      · exact lv_ldc hx hb hown (hts _ hc9) hd hkk
      · first | exact absurd hv1 (by decide : ¬ (2 = 1)) | exact absurd hv1.1 (by decide : ¬ (2 = 1))
      · obtain ⟨q, hq, hR9⟩ := hI.2.2.2.2.2.1 _ hm
        have hq : G.2 a = some q := hq
        rw [List.map_cons, tv_con ha hq] at hkk
        exact va_ldcS hx hb hown hR9 hd hkk
      · obtain ⟨mi9, hq, hM⟩ := hI.2.2.2.2.2.2.2.2.1
        rw [List.map_cons, tv_con (by decide) hq] at hkk
        exact va_ldcM hx hb hown (hts _ hm) hM hd hkk
    · cases h
  · cases h
theorem a_ldc_w {idx : Nat} (C : Cx_ p l R s m args meth c G w0 zE mi d) (hz : zE ≤ w_z w) (hsl : sE ≤ w_s w) (hr : w_z w1 - zE ≤ R.cells ∧ w_s w1 - sE ≤ R.slots) (hd : decode (m_c mi) pc = .ok (.ldc_w idx, 3)) (h : s_1 mi (.ldc_w idx) pc ls st w = some (pc1, ls1, st1, w1)) (k : WW_ p l e R s m args below meth c D G w0 Q (m_l mi) zE sE w1 ls1 st1 pc1) : WW_ p l e R s m args below meth c D G w0 Q (m_l mi) zE sE w ls st pc := by
  have C2 := C
  obtain ⟨hx, hb, hrt, hml, hown, hts, hlk, hini, hht, hN, hI, hst0, hRf, hRl, hE, hE0⟩ := C2
  intro H locs L hW hS hL
  simp only [s_1] at h
  split at h
  · rename_i v hlk9
    split at h
    · rename_i hv1
      obtain ⟨rfl, rfl, rfl, rfl⟩ := s4 h
      have hkk := k H locs L hW hS hL
      rcases l_oo hlk9 with ⟨x, rfl, hc9⟩ | ⟨x, rfl, hc9⟩ | ⟨a, tx, rfl, ha, hm⟩ | ⟨rfl, hm⟩
      · exact lv_ldcw hx hb hown (hts _ hc9) hd hkk
      · first | exact absurd hv1 (by decide : ¬ (2 = 1)) | exact absurd hv1.1 (by decide : ¬ (2 = 1))
      · obtain ⟨q, hq, hR9⟩ := hI.2.2.2.2.2.1 _ hm
        have hq : G.2 a = some q := hq
        rw [List.map_cons, tv_con ha hq] at hkk
        exact ldc_wS hx hb hown hR9 hd hkk
      · obtain ⟨mi9, hq, hM⟩ := hI.2.2.2.2.2.2.2.2.1
        rw [List.map_cons, tv_con (by decide) hq] at hkk
        exact absurd rfl hv1.2
    · cases h
  · cases h
theorem a_ldc2_w {idx : Nat} (C : Cx_ p l R s m args meth c G w0 zE mi d) (hz : zE ≤ w_z w) (hsl : sE ≤ w_s w) (hr : w_z w1 - zE ≤ R.cells ∧ w_s w1 - sE ≤ R.slots) (hd : decode (m_c mi) pc = .ok (.ldc2_w idx, 3)) (h : s_1 mi (.ldc2_w idx) pc ls st w = some (pc1, ls1, st1, w1)) (k : WW_ p l e R s m args below meth c D G w0 Q (m_l mi) zE sE w1 ls1 st1 pc1) : WW_ p l e R s m args below meth c D G w0 Q (m_l mi) zE sE w ls st pc := by
  have C2 := C
  obtain ⟨hx, hb, hrt, hml, hown, hts, hlk, hini, hht, hN, hI, hst0, hRf, hRl, hE, hE0⟩ := C2
  intro H locs L hW hS hL
  simp only [s_1] at h
  split at h
  · rename_i v hlk9
    split at h
    · rename_i hv1
      obtain ⟨rfl, rfl, rfl, rfl⟩ := s4 h
      have hkk := k H locs L hW hS hL
      rcases l_oo hlk9 with ⟨x, rfl, hc9⟩ | ⟨x, rfl, hc9⟩ | ⟨a, tx, rfl, ha, hm⟩ | ⟨rfl, hm⟩
      · exact absurd hv1 (by decide : ¬ (1 = 2))
      · exact lv_ldc2 hx hb hown (hts _ hc9) hd hkk
      · exact absurd hv1 (by decide : ¬ (1 = 2))
      · exact absurd hv1 (by decide : ¬ (1 = 2))
    · cases h
  · cases h
theorem a_arraylength (C : Cx_ p l R s m args meth c G w0 zE mi d) (hz : zE ≤ w_z w) (hsl : sE ≤ w_s w) (hr : w_z w1 - zE ≤ R.cells ∧ w_s w1 - sE ≤ R.slots) (hd : decode (m_c mi) pc = .ok (.arraylength, 1)) (h : s_1 mi (.arraylength) pc ls st w = some (pc1, ls1, st1, w1)) (k : WW_ p l e R s m args below meth c D G w0 Q (m_l mi) zE sE w1 ls1 st1 pc1) : WW_ p l e R s m args below meth c D G w0 Q (m_l mi) zE sE w ls st pc := by
  have C2 := C
  obtain ⟨hx, hb, hrt, hml, hown, hts, hlk, hini, hht, hN, hI, hst0, hRf, hRl, hE, hE0⟩ := C2
  intro H locs L hW hS hL
  simp only [s_1] at h
  split at h
  · rename_i a r
    split at h
    · rename_i ht
      obtain ⟨rfl, rfl, rfl, rfl⟩ := s4 h
      obtain ⟨ws, tys, hX, hsz⟩ := hW.parts
      rw [List.map_cons]
      by_cases h7 : w_t w a ≤ 7
      · by_cases h77 : w_t w a = 7
        · obtain ⟨q, cA, ha, haz, hq, hG⟩ := hX.arr7 hN h77
          obtain ⟨cB, k1, k2, k3⟩ := hI.2.2.2.2.2.2.2.2.2.2.2.2.2.2.2
          cases hG.symm.trans k1
          rw [tv_dyn ha]
          rw [ar_r (by omega)] at hq
          exact W.alen (n := Int32.ofNat (w_n w a)) hx hb (hX.2.1 q _ hq) (k3 (w_n w a) (fun j => va_rf ((w_r w a j).bind (ad_ G)))) (by rw [vp_cell_q, arrV_size] <;> rfl) rfl rfl hd (k H locs L hW hS hL)
        · obtain ⟨q, cA, t0, ha, haz, hq, hty, hby⟩ := hX.arr hN ht.1 (by omega)
          rw [tv_dyn ha]
          exact va_alen hx hb hX.1 hX.2.1 q t0 hq hty rfl hd (k H locs L hW hS hL)
      · have ha := hX.con hN (a := a) (by omega) (by omega)
        obtain ⟨e1, e2, e3, e4⟩ := hX.2.2.2.2.2.2 a ha
        have hkk := k H locs L hW hS hL
        rw [e2] at hkk
        by_cases h8 : w_t w a = 8
        · obtain ⟨q, hq, hXs, hlt, hlt9⟩ := (GC_.get hI a ha).2.2.2.2 (by rw [← e1]; exact h8)
          rw [tv_con ha hq]
          have hno : ¬ A_ G q := fun z => Nat.lt_irrefl _ (Nat.lt_of_lt_of_le hlt9 z)
          exact va_slen hx hb hXs hlt hno hS hd hkk
        · obtain ⟨q, hq, hT9⟩ := (GC_.get hI a ha).2.2.2.1 (by rw [← e1]; omega)
          rw [tv_con ha hq]
          exact va_tlen hx hb hT9 hS rfl hd hkk
    · cases h
  · cases h
theorem a_iaload (C : Cx_ p l R s m args meth c G w0 zE mi d) (hz : zE ≤ w_z w) (hsl : sE ≤ w_s w) (hr : w_z w1 - zE ≤ R.cells ∧ w_s w1 - sE ≤ R.slots) (hd : decode (m_c mi) pc = .ok (.iaload, 1)) (h : s_1 mi (.iaload) pc ls st w = some (pc1, ls1, st1, w1)) (k : WW_ p l e R s m args below meth c D G w0 Q (m_l mi) zE sE w1 ls1 st1 pc1) : WW_ p l e R s m args below meth c D G w0 Q (m_l mi) zE sE w ls st pc := by
  have C2 := C
  obtain ⟨hx, hb, hrt, hml, hown, hts, hlk, hini, hht, hN, hI, hst0, hRf, hRl, hE, hE0⟩ := C2
  intro H locs L hW hS hL
  simp only [s_1] at h
  split at h
  · rename_i j a r
    split at h
    · rename_i ht
      obtain ⟨rfl, rfl, rfl, rfl⟩ := s4 h
      obtain ⟨ws, tys, hX, hsz⟩ := hW.parts
      obtain ⟨ht, hin⟩ := ht
      rw [List.map_cons, List.map_cons]
      rcases ht with ht | ht
      · obtain ⟨q, cA, t0, ha, haz, hq, hty, hby⟩ := hX.arr hN (a := a) (by omega) (by omega)
        rw [tv_dyn ha]
        rw [ar_i (by omega)] at hq
        rw [ty_1 ht] at hty
        exact va_iald hx hb hX.1 hX.2.1 q t0 hq hty (vp_of hin) hd (k H locs L hW hS hL)
      · have ha := hX.con hN (a := a) (by omega) (by omega)
        obtain ⟨e1, e2, e3, e4⟩ := hX.2.2.2.2.2.2 a ha
        have hkk := k H locs L hW hS hL
        rw [e3] at hkk
        rw [e2] at hin
        obtain ⟨q, hq, hXs, hlt, hlt9⟩ := (GC_.get hI a ha).2.2.2.2 (by rw [← e1]; exact ht)
        rw [tv_con ha hq]
        have hno : ¬ A_ G q := fun z => Nat.lt_irrefl _ (Nat.lt_of_lt_of_le hlt9 z)
        exact va_sld hx hb hXs hlt hno hS (vp_of hin) hd hkk
    · cases h
  · cases h
theorem a_baload (C : Cx_ p l R s m args meth c G w0 zE mi d) (hz : zE ≤ w_z w) (hsl : sE ≤ w_s w) (hr : w_z w1 - zE ≤ R.cells ∧ w_s w1 - sE ≤ R.slots) (hd : decode (m_c mi) pc = .ok (.baload, 1)) (h : s_1 mi (.baload) pc ls st w = some (pc1, ls1, st1, w1)) (k : WW_ p l e R s m args below meth c D G w0 Q (m_l mi) zE sE w1 ls1 st1 pc1) : WW_ p l e R s m args below meth c D G w0 Q (m_l mi) zE sE w ls st pc := by
  have C2 := C
  obtain ⟨hx, hb, hrt, hml, hown, hts, hlk, hini, hht, hN, hI, hst0, hRf, hRl, hE, hE0⟩ := C2
  intro H locs L hW hS hL
  simp only [s_1] at h
  split at h
  · rename_i j a r
    split at h
    · rename_i ht
      obtain ⟨rfl, rfl, rfl, rfl⟩ := s4 h
      obtain ⟨ws, tys, hX, hsz⟩ := hW.parts
      obtain ⟨ht, hin⟩ := ht
      rw [List.map_cons, List.map_cons]
      rcases ht with ht | ht | ht
      · obtain ⟨q, cA, t0, ha, haz, hq, hty, hby⟩ := hX.arr hN (a := a) (by omega) (by omega)
        rw [tv_dyn ha]
        rw [ar_i (by omega)] at hq
        rw [ty_2 ht] at hty
        exact va_bald hx hb hX.1 hX.2.1 q t0 hq hty (vp_of hin) hd (k H locs L hW hS hL)
      · obtain ⟨q, cA, t0, ha, haz, hq, hty, hby⟩ := hX.arr hN (a := a) (by omega) (by omega)
        rw [tv_dyn ha]
        rw [ar_i (by omega)] at hq
        rw [ty_3 ht] at hty
        exact va_zald hx hb hX.1 hX.2.1 q t0 hq hty (vp_of hin) hd (k H locs L hW hS hL)
      · have ha := hX.con hN (a := a) (by omega) (by omega)
        obtain ⟨e1, e2, e3, e4⟩ := hX.2.2.2.2.2.2 a ha
        have hkk := k H locs L hW hS hL
        rw [e3] at hkk
        rw [e2] at hin
        obtain ⟨q, hq, hT9⟩ := (GC_.get hI a ha).2.2.2.1 (by rw [← e1]; exact ht)
        rw [tv_con ha hq]
        exact va_tb hx hb hT9 hS (vp_of hin) rfl hd hkk
    · cases h
  · cases h
theorem a_laload (C : Cx_ p l R s m args meth c G w0 zE mi d) (hz : zE ≤ w_z w) (hsl : sE ≤ w_s w) (hr : w_z w1 - zE ≤ R.cells ∧ w_s w1 - sE ≤ R.slots) (hd : decode (m_c mi) pc = .ok (.laload, 1)) (h : s_1 mi (.laload) pc ls st w = some (pc1, ls1, st1, w1)) (k : WW_ p l e R s m args below meth c D G w0 Q (m_l mi) zE sE w1 ls1 st1 pc1) : WW_ p l e R s m args below meth c D G w0 Q (m_l mi) zE sE w ls st pc := by
  have C2 := C
  obtain ⟨hx, hb, hrt, hml, hown, hts, hlk, hini, hht, hN, hI, hst0, hRf, hRl, hE, hE0⟩ := C2
  intro H locs L hW hS hL
  simp only [s_1] at h
  split at h
  · rename_i j a r
    split at h
    · rename_i ht
      obtain ⟨rfl, rfl, rfl, rfl⟩ := s4 h
      obtain ⟨ws, tys, hX, hsz⟩ := hW.parts
      obtain ⟨ht, hin⟩ := ht
      rw [List.map_cons, List.map_cons]
      obtain ⟨q, cA, t0, ha, haz, hq, hty, hby⟩ := hX.arr hN (a := a) (by omega) (by omega)
      rw [tv_dyn ha]
      rw [ar_l ht] at hq
      rw [ty_4 ht] at hty
      exact va_lald hx hb hX.1 hX.2.1 q t0 hq hty (vp_of hin) hd (k H locs L hW hS hL)
    · cases h
  · cases h
theorem a_aaload (C : Cx_ p l R s m args meth c G w0 zE mi d) (hz : zE ≤ w_z w) (hsl : sE ≤ w_s w) (hr : w_z w1 - zE ≤ R.cells ∧ w_s w1 - sE ≤ R.slots) (hd : decode (m_c mi) pc = .ok (.aaload, 1)) (h : s_1 mi (.aaload) pc ls st w = some (pc1, ls1, st1, w1)) (k : WW_ p l e R s m args below meth c D G w0 Q (m_l mi) zE sE w1 ls1 st1 pc1) : WW_ p l e R s m args below meth c D G w0 Q (m_l mi) zE sE w ls st pc := by
  have C2 := C
  obtain ⟨hx, hb, hrt, hml, hown, hts, hlk, hini, hht, hN, hI, hst0, hRf, hRl, hE, hE0⟩ := C2
  intro H locs L hW hS hL
  simp only [s_1] at h
  split at h
  · rename_i j a r
    split at h
    · rename_i ht
      obtain ⟨rfl, rfl, rfl, rfl⟩ := s4 h
      obtain ⟨ws, tys, hX, hsz⟩ := hW.parts
      obtain ⟨ht, hin⟩ := ht
      rw [List.map_cons, List.map_cons]
      obtain ⟨q, cA, t0, ha, haz, hq, hty, hby⟩ := hX.arr hN (a := a) (by omega) (by omega)
      rw [tv_dyn ha]
      rw [ar_r (by omega)] at hq
      rcases ht with ht | ht
      · rw [ty_5 ht] at hty
        exact va_aldq hx hb hX.1 hX.2.1 q t0 hq hty (vp_of hin) hd (k H locs L hW hS hL)
      · rw [ty_6 ht] at hty
        exact va_aldq hx hb hX.1 hX.2.1 q t0 hq hty (vp_of hin) hd (k H locs L hW hS hL)
    · cases h
  · cases h
theorem a_iastore (C : Cx_ p l R s m args meth c G w0 zE mi d) (hz : zE ≤ w_z w) (hsl : sE ≤ w_s w) (hr : w_z w1 - zE ≤ R.cells ∧ w_s w1 - sE ≤ R.slots) (hd : decode (m_c mi) pc = .ok (.iastore, 1)) (h : s_1 mi (.iastore) pc ls st w = some (pc1, ls1, st1, w1)) (k : WW_ p l e R s m args below meth c D G w0 Q (m_l mi) zE sE w1 ls1 st1 pc1) : WW_ p l e R s m args below meth c D G w0 Q (m_l mi) zE sE w ls st pc := by
  have C2 := C
  obtain ⟨hx, hb, hrt, hml, hown, hts, hlk, hini, hht, hN, hI, hst0, hRf, hRl, hE, hE0⟩ := C2
  intro H locs L hW hS hL
  simp only [s_1] at h
  split at h
  · rename_i x j a r
    split at h
    · rename_i ht
      obtain ⟨rfl, rfl, rfl, rfl⟩ := s4 h
      obtain ⟨ws, tys, hX, hsz⟩ := hW.parts
      obtain ⟨ht, hin⟩ := ht
      rw [List.map_cons, List.map_cons, List.map_cons]
      obtain ⟨q, cA, t0, ha, haz, hq, hty, hby⟩ := hX.arr hN (a := a) (by omega) (by omega)
      rw [tv_dyn ha]
      have hq2 := hq
      have hty2 := hty
      rw [ar_i (by omega)] at hq2
      rw [ty_1 ht] at hty2
      exact va_iast hx hb hX.1 hX.2.1 hX.2.2.1 hS q t0 hq2 hty2 (vp_of hin) hd (fun H1 locs1 hP1 hD1 hS1 => fin_ C k hz (put_i (f := w_i w a) (n := w_n w a) hX ha haz (by omega) (by omega) hq hty hby (fun t2 => by omega) hP1 hD1) hS1 hL)
    · cases h
  · cases h
theorem a_bastore (C : Cx_ p l R s m args meth c G w0 zE mi d) (hz : zE ≤ w_z w) (hsl : sE ≤ w_s w) (hr : w_z w1 - zE ≤ R.cells ∧ w_s w1 - sE ≤ R.slots) (hd : decode (m_c mi) pc = .ok (.bastore, 1)) (h : s_1 mi (.bastore) pc ls st w = some (pc1, ls1, st1, w1)) (k : WW_ p l e R s m args below meth c D G w0 Q (m_l mi) zE sE w1 ls1 st1 pc1) : WW_ p l e R s m args below meth c D G w0 Q (m_l mi) zE sE w ls st pc := by
  have C2 := C
  obtain ⟨hx, hb, hrt, hml, hown, hts, hlk, hini, hht, hN, hI, hst0, hRf, hRl, hE, hE0⟩ := C2
  intro H locs L hW hS hL
  simp only [s_1] at h
  split at h
  · rename_i x j a r
    rw [List.map_cons, List.map_cons, List.map_cons]
    obtain ⟨ws, tys, hX, hsz⟩ := hW.parts
    split at h
    · rename_i ht
      obtain ⟨rfl, rfl, rfl, rfl⟩ := s4 h
      obtain ⟨ht, hin⟩ := ht
      obtain ⟨q, cA, t0, ha, haz, hq, hty, hby⟩ := hX.arr hN (a := a) (by omega) (by omega)
      rw [tv_dyn ha]
      have hq2 := hq
      have hty2 := hty
      rw [ar_i (by omega)] at hq2
      rw [ty_2 ht] at hty2
      exact va_bast hx hb hX.1 hX.2.1 hX.2.2.1 hS q t0 hq2 hty2 (vp_of hin) hd (fun H1 locs1 hP1 hD1 hS1 => fin_ C k hz (put_i (f := w_i w a) (n := w_n w a) hX ha haz (by omega) (by omega) hq hty hby (fun t2 => by rw [vp_nar_byte]; simp) hP1 hD1) hS1 hL)
    · split at h
      · rename_i ht
        obtain ⟨rfl, rfl, rfl, rfl⟩ := s4 h
        obtain ⟨ht, hin⟩ := ht
        obtain ⟨q, cA, t0, ha, haz, hq, hty, hby⟩ := hX.arr hN (a := a) (by omega) (by omega)
        rw [tv_dyn ha]
        have hq2 := hq
        have hty2 := hty
        rw [ar_i (by omega)] at hq2
        rw [ty_3 ht] at hty2
        exact va_zast hx hb hX.1 hX.2.1 hX.2.2.1 hS q t0 hq2 hty2 (vp_of hin) hd (fun H1 locs1 hP1 hD1 hS1 => fin_ C k hz (put_i (f := w_i w a) (n := w_n w a) hX ha haz (by omega) (by omega) hq hty hby (fun t2 => by omega) hP1 hD1) hS1 hL)
      · cases h
  · cases h
theorem a_lastore (C : Cx_ p l R s m args meth c G w0 zE mi d) (hz : zE ≤ w_z w) (hsl : sE ≤ w_s w) (hr : w_z w1 - zE ≤ R.cells ∧ w_s w1 - sE ≤ R.slots) (hd : decode (m_c mi) pc = .ok (.lastore, 1)) (h : s_1 mi (.lastore) pc ls st w = some (pc1, ls1, st1, w1)) (k : WW_ p l e R s m args below meth c D G w0 Q (m_l mi) zE sE w1 ls1 st1 pc1) : WW_ p l e R s m args below meth c D G w0 Q (m_l mi) zE sE w ls st pc := by
  have C2 := C
  obtain ⟨hx, hb, hrt, hml, hown, hts, hlk, hini, hht, hN, hI, hst0, hRf, hRl, hE, hE0⟩ := C2
  intro H locs L hW hS hL
  simp only [s_1] at h
  split at h
  · rename_i x j a r
    split at h
    · rename_i ht
      obtain ⟨rfl, rfl, rfl, rfl⟩ := s4 h
      obtain ⟨ws, tys, hX, hsz⟩ := hW.parts
      obtain ⟨ht, hin⟩ := ht
      rw [List.map_cons, List.map_cons, List.map_cons]
      obtain ⟨q, cA, t0, ha, haz, hq, hty, hby⟩ := hX.arr hN (a := a) (by omega) (by omega)
      rw [tv_dyn ha]
      have hq2 := hq
      have hty2 := hty
      rw [ar_l ht] at hq2
      rw [ty_4 ht] at hty2
      exact va_last hx hb hX.1 hX.2.1 hX.2.2.1 hS q t0 hq2 hty2 (vp_of hin) hd (fun H1 locs1 hP1 hD1 hS1 => fin_ C k hz (put_l hX ha haz ht hq hty hP1 hD1) hS1 hL)
    · cases h
  · cases h
theorem a_aastore (C : Cx_ p l R s m args meth c G w0 zE mi d) (hz : zE ≤ w_z w) (hsl : sE ≤ w_s w) (hr : w_z w1 - zE ≤ R.cells ∧ w_s w1 - sE ≤ R.slots) (hd : decode (m_c mi) pc = .ok (.aastore, 1)) (h : s_1 mi (.aastore) pc ls st w = some (pc1, ls1, st1, w1)) (k : WW_ p l e R s m args below meth c D G w0 Q (m_l mi) zE sE w1 ls1 st1 pc1) : WW_ p l e R s m args below meth c D G w0 Q (m_l mi) zE sE w ls st pc := by
  have C2 := C
  obtain ⟨hx, hb, hrt, hml, hown, hts, hlk, hini, hht, hN, hI, hst0, hRf, hRl, hE, hE0⟩ := C2
  intro H locs L hW hS hL
  simp only [s_1] at h
  split at h
  · rename_i j a r
    split at h
    · rename_i ht
      obtain ⟨rfl, rfl, rfl, rfl⟩ := s4 h
      obtain ⟨ws, tys, hX, hsz⟩ := hW.parts
      obtain ⟨ht, hin⟩ := ht
      rw [List.map_cons, List.map_cons, List.map_cons]
      obtain ⟨q, cA, t0, ha, haz, hq, hty, hby⟩ := hX.arr hN (a := a) (by omega) (by omega)
      rw [tv_dyn ha]
      have hq2 := hq
      have hty2 := hty
      rw [ar_r (by omega)] at hq2
      rw [ty_5 ht] at hty2
      exact va_astqN hx hb hX.1 hX.2.1 hX.2.2.1 hS q t0 hq2 hty2 (vp_of hin) hd (fun H1 locs1 hP1 hD1 hS1 => fin_ C k hz (put_R hX ha haz (by omega) (by omega) hq hty (s_r_R w a _ none) (fun i => by unfold va_up; split <;> rfl) hP1 hD1) hS1 hL)
    · cases h
  · rename_i b j a r
    split at h
    · rename_i ht
      obtain ⟨rfl, rfl, rfl, rfl⟩ := s4 h
      obtain ⟨ws, tys, hX, hsz⟩ := hW.parts
      obtain ⟨ht, hin⟩ := ht
      rw [List.map_cons, List.map_cons, List.map_cons]
      rcases ht with ⟨ht, hb20⟩ | ⟨ht, hb18⟩
      · obtain ⟨q, cA, t0, ha, haz, hq, hty, hby⟩ := hX.arr hN (a := a) (by omega) (by omega)
        obtain ⟨qb, hba, hbz, hb41, hqb⟩ := hX.obj hN hb20
        rw [tv_dyn ha, tv_dyn hba]
        have hq2 := hq
        have hty2 := hty
        rw [ar_r (by omega)] at hq2
        rw [ty_5 ht] at hty2
        have hcl : cL_[w_t w b - 20]? = some (c_e (w_t w b - 20)) := c_at (by omega)
        have hca := hI.2.2.1 _ (c_cast (by omega : w_t w b - 20 < 22))
        exact vb_astq (C := (c_e (w_t w b - 20)).1) hx hb hX.1 hX.2.1 hX.2.2.1 hS q t0 hq2 hty2 (va_recv hX.1 hX.2.1 hcl hqb) (vb_asgC hca) (vp_of hin) hd (fun H1 locs1 hP1 hD1 hS1 => fin_ C k hz (put_R hX ha haz (by omega) (by omega) hq hty (s_r_R w a _ (some b)) (up_b (ad_dyn hba)) hP1 hD1) hS1 hL)
      · obtain ⟨q, cA, t0, ha, haz, hq, hty, hby⟩ := hX.arr hN (a := a) (by omega) (by omega)
        have hba := hX.con hN (a := b) (by omega) (by omega)
        obtain ⟨e1, e2, e3, e4⟩ := hX.2.2.2.2.2.2 b hba
        obtain ⟨qb, hqb, hO, -⟩ := (GC_.get hI b hba).1 (by rw [← e1]; exact hb18)
        rw [tv_dyn ha, tv_con hba hqb]
        have hq2 := hq
        have hty2 := hty
        rw [ar_r (by omega)] at hq2
        rw [ty_6 ht] at hty2
        exact vb_astq hx hb hX.1 hX.2.1 hX.2.2.1 hS q t0 hq2 hty2 (va_Orecv hO hS) vb_asgS (vp_of hin) hd (fun H1 locs1 hP1 hD1 hS1 => fin_ C k hz (put_R hX ha haz (by omega) (by omega) hq hty (s_r_R w a _ (some b)) (up_b (by unfold ad_; rw [if_pos hba]; exact hqb)) hP1 hD1) hS1 hL)
    · cases h
  · cases h
theorem a_checkcast {idx : Nat} (C : Cx_ p l R s m args meth c G w0 zE mi d) (hz : zE ≤ w_z w) (hsl : sE ≤ w_s w) (hr : w_z w1 - zE ≤ R.cells ∧ w_s w1 - sE ≤ R.slots) (hd : decode (m_c mi) pc = .ok (.checkcast idx, 3)) (h : s_1 mi (.checkcast idx) pc ls st w = some (pc1, ls1, st1, w1)) (k : WW_ p l e R s m args below meth c D G w0 Q (m_l mi) zE sE w1 ls1 st1 pc1) : WW_ p l e R s m args below meth c D G w0 Q (m_l mi) zE sE w ls st pc := by
  have C2 := C
  obtain ⟨hx, hb, hrt, hml, hown, hts, hlk, hini, hht, hN, hI, hst0, hRf, hRl, hE, hE0⟩ := C2
  intro H locs L hW hS hL
  simp only [s_1] at h
  split at h
  · rename_i r
    obtain ⟨rfl, rfl, rfl, rfl⟩ := s4 h
    exact lv_castN hx hb hd (k H locs L hW hS hL)
  · rename_i a r
    split at h
    · rename_i u hlk9
      obtain ⟨rfl, rfl, rfl, rfl⟩ := s4 h
      obtain ⟨ws, tys, hX, hsz⟩ := hW.parts
      have hkk := k H locs L hW hS hL
      rw [List.map_cons] at hkk ⊢
      rcases c_oo hlk9 with ⟨h20, CC, T, N, nm, hc, hlnk, hcast⟩ | ⟨h18, hlnk⟩ | ⟨hta, hlnk⟩
      · obtain ⟨q, ha, haz, h41, hq⟩ := hX.obj hN h20
        rw [tv_dyn ha] at hkk ⊢
        have hr9 := va_recv hX.1 hX.2.1 hc hq
        rcases hcast with rfl | hcast
        · exact va_castE hx hb hown (hts _ hlnk) hr9 hd hkk
        · exact va_castY hx hb hown (hts _ hlnk) (hI.2.2.1 _ hcast) hr9 hd hkk
      · have h18' : w_t w a = 18 := h18
        have ha := hX.con hN (a := a) (by omega) (by omega)
        obtain ⟨e1, e2, e3, e4⟩ := hX.2.2.2.2.2.2 a ha
        obtain ⟨q, hq, hO, -⟩ := (GC_.get hI a ha).1 (by rw [← e1]; exact h18')
        rw [tv_con ha hq] at hkk ⊢
        exact va_castE hx hb hown (hts _ hlnk) (va_Orecv hO hS) hd hkk
      · by_cases h77 : w_t w a = 7
        · obtain ⟨q, cA, ha, haz, hq, hG⟩ := hX.arr7 hN h77
          obtain ⟨cB, k1, k2, k3⟩ := hI.2.2.2.2.2.2.2.2.2.2.2.2.2.2.2
          cases hG.symm.trans k1
          rw [tv_dyn ha] at hkk ⊢
          have t7 : "[" ++ (ty_ (w_t w a)).toString = "[LTableTower$Value;" := by rw [h77]; decide +kernel
          rw [t7] at hlnk
          exact va_castA hx hb hown (hts _ hlnk) hX.2.1 q hq k2 hd hkk
        · obtain ⟨q, cA, t0, ha, haz, hq, hty, hby⟩ := hX.arr hN (a := a) (by omega) (by omega)
          rw [tv_dyn ha] at hkk ⊢
          have hra := (hX.1.2 _ _ hty).2
          have hfc : s.vm.findClass ("[" ++ (ty_ (w_t w a)).toString) = some cA := by
            rcases hta with t | t | t
            · rw [ty_2 t] at hra ⊢; exact hra
            · rw [ty_5 t] at hra ⊢
              obtain ⟨_, _, _, _, _, hz9⟩ := hra
              exact hz9
            · exact absurd t h77
          exact va_castA hx hb hown (hts _ hlnk) hX.2.1 q hq hfc hd hkk
    · cases h
  · cases h
theorem a_instanceof {idx : Nat} (C : Cx_ p l R s m args meth c G w0 zE mi d) (hz : zE ≤ w_z w) (hsl : sE ≤ w_s w) (hr : w_z w1 - zE ≤ R.cells ∧ w_s w1 - sE ≤ R.slots) (hd : decode (m_c mi) pc = .ok (.instanceof idx, 3)) (h : s_1 mi (.instanceof idx) pc ls st w = some (pc1, ls1, st1, w1)) (k : WW_ p l e R s m args below meth c D G w0 Q (m_l mi) zE sE w1 ls1 st1 pc1) : WW_ p l e R s m args below meth c D G w0 Q (m_l mi) zE sE w ls st pc := by
  have C2 := C
  obtain ⟨hx, hb, hrt, hml, hown, hts, hlk, hini, hht, hN, hI, hst0, hRf, hRl, hE, hE0⟩ := C2
  intro H locs L hW hS hL
  simp only [s_1] at h
  split at h
  · rename_i a r
    split at h
    · rename_i u hlk9
      split at h
      case isFalse => cases h
      rename_i h8
      obtain ⟨rfl, rfl, rfl, rfl⟩ := s4 h
      obtain ⟨ws, tys, hX, hsz⟩ := hW.parts
      have hkk := k H locs L hW hS hL
      rw [List.map_cons]
      rcases c_oo hlk9 with ⟨h20, CC, T, N, nm, hc, hlnk, hcast⟩ | ⟨h18, hlnk⟩ | ⟨hta, hlnk⟩
      · obtain ⟨q, ha, haz, h41, hq⟩ := hX.obj hN h20
        rw [tv_dyn ha]
        have hr9 := va_recv hX.1 hX.2.1 hc hq
        rcases hcast with rfl | hcast
        · exact va_instE hx hb hown (hts _ hlnk) hr9 hd hkk
        · exact va_instY hx hb hown (hts _ hlnk) (hI.2.2.1 _ hcast) hr9 hd hkk
      · have h18' : w_t w a = 18 := h18
        have ha := hX.con hN (a := a) (by omega) (by omega)
        obtain ⟨e1, e2, e3, e4⟩ := hX.2.2.2.2.2.2 a ha
        obtain ⟨q, hq, hO, -⟩ := (GC_.get hI a ha).1 (by rw [← e1]; exact h18')
        rw [tv_con ha hq]
        exact va_instE hx hb hown (hts _ hlnk) (va_Orecv hO hS) hd hkk
      · omega
    · cases h
  · cases h
end
