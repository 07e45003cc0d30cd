/-! NATIVES: copies, array clones, getClass, Math, Object's constructor -/
set_option maxRecDepth 100000
theorem n_max : Lib.Math.max.code = prog_32_method_65_code := by decide +kernel
theorem n_min : Lib.Math.min.code = prog_32_method_69_code := by decide +kernel
theorem n_abs : Lib.Math.abs.code = prog_32_method_59_code := by decide +kernel
theorem n_oi : (⟨#[0xb1]⟩ : ByteArray) = object_method_1_code := by decide +kernel
theorem n_fw : nativeFrameWords "java/lang/System" "arraycopy" 5 = 7 := by decide +kernel
section
variable {p : Program} {l : Launch} {e : Env} {R : Room} {s : State} {m : MethodId} {args : Array Value} {below : List Frame} {meth : Method} {c : Code} {D : va_G} {G : GG_} {w0 : Wd} {Q : State → Prop} {zE sE mi d pc pc1 : Nat} {ls ls1 : List (Option Vl)} {st st1 : List Vl} {w w1 : Wd}
theorem n_2i {rs : Option (List Vl × Wd)} {b : Bool} (h : n_2 pc ls rs b = some (pc1, ls1, st1, w1)) : rs = some (st1, w1) ∧ b = true ∧ pc + 3 = pc1 ∧ ls = ls1 := by
  unfold n_2 at h
  split at h
  · split at h
    · rename_i hb
      obtain ⟨a1, a2, a3, a4⟩ := s4 h
      exact ⟨by rw [a3, a4], hb, a1, a2⟩
    · cases h
  · cases h
theorem put_T {H H1 : Heap} {ws : va_W} {tys : List (ClassId × FieldType)} {a q t0 : Nat} {cA : ClassId} {x : va_E} (hX : RX_ D G w0 w s H ws tys) : True := trivial
theorem a_copy {idx : Nat} (C : Cx_ p l R s m args meth c G w0 zE mi d) (hz : zE ≤ w_z w) (hsl : sE ≤ w_s w) (hr : w_z w1 - zE ≤ R.cells ∧ w_s w1 - sE ≤ R.slots) (hd : decode (m_c mi) pc = .ok (.invokestatic idx, 3)) (hlnk : Cond.methodLink (o_s (o_m mi)) idx arraycopyName ∈ lw_all)
    (h : na_1 st w = some (st1, w1)) (hs8 : s_8 (st.drop 5) = true) (k : WW_ p l e R s m args below meth c D G w0 Q (m_l mi) zE sE w1 ls st1 (pc + 3)) : WW_ p l e R s m args below meth c D G w0 Q (m_l mi) zE sE w ls st pc := by
  have C2 := C
  obtain ⟨hx, hb, hrt, hml, hown, hts, hlk, hini, hht, hN, hI, hst0, hRf, hRl, hE, hE0⟩ := C2
  intro H locs L hW hS hL
  obtain ⟨ws, tys, hX, hsz⟩ := hW.parts
  unfold na_1 at h
  split at h
  case h_2 => cases h
  rename_i n dp d9 sp s9 r
  split at h
  case h_2 => cases h
  rename_i w9 hcp
  cases h
  rw [List.map_cons, List.map_cons, List.map_cons, List.map_cons, List.map_cons]
  have hs9 := s8_ (G := G) hs8
  unfold cp_ at hcp
  split at hcp
  case isFalse => cases hcp
  rename_i hc
  obtain ⟨h1, h2, h3, h4, h5⟩ := hc
  split at hcp
  · rename_i htt
    cases hcp
    obtain ⟨q0, c0, t0, ha0, haz0, hq0, hty0, hby0⟩ := hX.arr hN (a := s9) (by omega) (by omega)
    obtain ⟨q1, c1, t1, ha1, haz1, hq1, hty1, hby1⟩ := hX.arr hN (a := d9) (by omega) (by omega)
    rw [tv_dyn ha0, tv_dyn ha1]
    have hq0' := hq0
    have hq1' := hq1
    rw [ar_i (by omega)] at hq0' hq1'
    have htye : w_t w d9 = w_t w s9 := by omega
    have hty1' := hty1
    rw [htye] at hty1'
    have hprim : refKind (ty_ (w_t w s9)) = false := by
      rcases htt with ⟨t, -⟩ | ⟨t, -⟩ <;> rw [t] <;> rfl
    have hfit : ∀ i, i < n.toNatClampNeg → fits (ty_ (w_t w s9)) (.int (w_i w s9 (sp.toNatClampNeg + i))) = true := fun i _ => by
      rcases htt with ⟨t, -⟩ | ⟨t, -⟩
      · rw [t]; rfl
      · rw [← hby0 t (sp.toNatClampNeg + i), t]
        exact pk_fb _
    refine va_copyi hx hb (by rw [hml]; exact hL.1.1.symm) hown (hts _ hlnk) (hts _ q297) (hts _ q296) (hts _ q123) hX.1 hX.2.1 hX.2.2.1 hS q0 q1 t0 t1 hq0' hq1' hty0 hty1' hprim h1 h2 h3 h4 h5 hfit (by omega) (by rw [n_fw]; show _ + 18 ≤ _; exact Nat.le_trans (Nat.add_le_add_right hs9 18) (by omega)) hd (fun H1 locs1 hP1 hD1 hS1 => ?_)
    exact fin_ C k hz (put_I hX ha1 haz1 (by omega) (by omega) hq1 hty1 (fun t2 j => by
      unfold va_cpy
      split
      · exact hby0 (by omega) _
      · exact hby1 t2 _) hP1 hD1) hS1 hL
  · split at hcp
    case isFalse => cases hcp
    rename_i htt
    cases hcp
    obtain ⟨hts5, htd5, hall⟩ := htt
    obtain ⟨q0, c0, t0, ha0, haz0, hq0, hty0, hby0⟩ := hX.arr hN (a := s9) (by omega) (by omega)
    obtain ⟨q1, c1, t1, ha1, haz1, hq1, hty1, hby1⟩ := hX.arr hN (a := d9) (by omega) (by omega)
    rw [tv_dyn ha0, tv_dyn ha1]
    have hq0' := hq0
    have hq1' := hq1
    rw [ar_r (by omega)] at hq0' hq1'
    have hty0' := hty0
    have hty1' := hty1
    rw [ty_5 hts5] at hty0'
    rw [ty_5 htd5] at hty1'
    have hel : ∀ i : Nat, i < n.toNatClampNeg → ∀ y : Nat, (w_r w s9 (sp.toNatClampNeg + i)).bind (ad_ G) = some y → va_Any "java/lang/Object" s H y := fun i hi y hy => by
      have h9 := List.all_eq_true.mp hall i (List.mem_range.mpr hi)
      cases hr9 : w_r w s9 (sp.toNatClampNeg + i) with
      | none => rw [hr9] at hy; cases hy
      | some b =>
        rw [hr9] at hy h9
        have hb20 : 20 ≤ w_t w b := of_decide_eq_true h9
        obtain ⟨qb, hba, hbz, hb41, hqb⟩ := hX.obj hN hb20
        have hy2 : ad_ G b = some y := hy
        rw [ad_dyn hba] at hy2
        cases hy2
        have hcl : cL_[w_t w b - 20]? = some (c_e (w_t w b - 20)) := c_at (by omega)
        have hca := hI.2.2.1 _ (c_cast (by omega : w_t w b - 20 < 22))
        obtain ⟨cell, g1, g2, g3⟩ := va_recv hX.1 hX.2.1 hcl hqb
        obtain ⟨-, kC, hkC, -⟩ := (hX.1.1 _ _ hcl).2
        have hcc := (hX.1.1 _ _ hcl).2.1
        have : cell.cls = D.1 (w_t w b - 20) := Option.some.inj (g3.symm.trans hcc)
        exact ⟨cell, g1, g2, ⟨kC, by rw [this]; exact hkC⟩, fun comp hcomp => vb_asgC hca comp cell.cls hcomp g3⟩
    refine va_copyM hx hb (by rw [hml]; exact hL.1.1.symm) hown (hts _ hlnk) (hts _ q297) (hts _ q296) (hts _ q123) hX.1 hX.2.1 hX.2.2.1 hS q0 q1 t0 t1 hq0' hq1' hty0' hty1' h1 h2 h3 h4 h5 hel (by omega) (by rw [n_fw]; show _ + 18 ≤ _; exact Nat.le_trans (Nat.add_le_add_right hs9 18) (by omega)) hd (fun H1 locs1 hP1 hD1 hS1 => ?_)
    exact fin_ C k hz (put_R hX ha1 haz1 (by omega) (by omega) hq1 hty1 rfl (fun j => by
      unfold va_cpy
      split <;> rfl) hP1 hD1) hS1 hL
theorem a_invokestatic {idx : Nat} (C : Cx_ p l R s m args meth c G w0 zE mi d) (hz : zE ≤ w_z w) (hsl : sE ≤ w_s w) (hr : w_z w1 - zE ≤ R.cells ∧ w_s w1 - sE ≤ R.slots) (hd : decode (m_c mi) pc = .ok (.invokestatic idx, 3)) (h : s_1 mi (.invokestatic idx) pc ls st w = some (pc1, ls1, st1, w1)) (k : WW_ p l e R s m args below meth c D G w0 Q (m_l mi) zE sE w1 ls1 st1 pc1) : WW_ p l e R s m args below meth c D G w0 Q (m_l mi) zE sE w ls st pc := by
  simp only [s_1] at h
  split at h
  case h_2 => cases h
  rename_i b hlk9
  obtain ⟨g, hs8, rfl, rfl⟩ := n_2i h
  clear h
  split at g
  case isFalse => cases g
  rename_i hbb
  have hB := b_oo hlk9
  rcases hB with ⟨rfl, hl9⟩ | ⟨rfl, hl9⟩ | ⟨rfl, hl9⟩ | ⟨rfl, hl9⟩ | ⟨rfl, hl9⟩ | ⟨rfl, hl9⟩ | ⟨rfl, hl9⟩ | ⟨rfl, hl9⟩ | ⟨rfl, hl9⟩
  · exact a_copy C hz hsl hr hd hl9 g hs8 k
  · omega
  · omega
  · omega
  · omega
  all_goals first | omega | skip
  all_goals
    have C2 := C
    obtain ⟨hx, hb, hrt, hml, hown, hts, hlk, hini, hht, hN, hI, hst0, hRf, hRl, hE, hE0⟩ := C2
    intro H locs L hW hS hL
  · have h : na_6 st w = some (st1, w1) := g
    clear g
    unfold na_6 at h
    split at h
    case h_2 => cases h
    cases h
    rw [List.map_cons, List.map_cons]
    have hs9 := s8_ (G := G) hs8
    exact va_mmax hx hb (by rw [hml]; exact hL.1.1.symm) hown (hts _ hl9) (hts _ q275) (hts _ q121) (hts _ (by rw [n_max]; exact q276)) (by omega) (Nat.le_trans (Nat.add_le_add_right hs9 13) (by omega)) hr.1 hr.2 hd (k H locs L hW hS hL)
  · have h : na_7 st w = some (st1, w1) := g
    clear g
    unfold na_7 at h
    split at h
    case h_2 => cases h
    cases h
    rw [List.map_cons, List.map_cons]
    have hs9 := s8_ (G := G) hs8
    exact va_mmin hx hb (by rw [hml]; exact hL.1.1.symm) hown (hts _ hl9) (hts _ q293) (hts _ q121) (hts _ (by rw [n_min]; exact q294)) (by omega) (Nat.le_trans (Nat.add_le_add_right hs9 13) (by omega)) hr.1 hr.2 hd (k H locs L hW hS hL)
  · have h : na_8 st w = some (st1, w1) := g
    clear g
    unfold na_8 at h
    split at h
    case h_2 => cases h
    cases h
    rw [List.map_cons]
    have hs9 := s8_ (G := G) hs8
    exact va_mabs hx hb (by rw [hml]; exact hL.1.1.symm) hown (hts _ hl9) (hts _ q977) (hts _ q121) (hts _ (by rw [n_abs]; exact q978)) (by omega) (Nat.le_trans (Nat.add_le_add_right hs9 13) (by omega)) hr.1 hr.2 hd (k H locs L hW hS hL)
theorem a_invokevirtual {idx : Nat} (C : Cx_ p l R s m args meth c G w0 zE mi d) (hz : zE ≤ w_z w) (hsl : sE ≤ w_s w) (hr : w_z w1 - zE ≤ R.cells ∧ w_s w1 - sE ≤ R.slots) (hd : decode (m_c mi) pc = .ok (.invokevirtual idx, 3)) (h : s_1 mi (.invokevirtual idx) pc ls st w = some (pc1, ls1, st1, w1)) (k : WW_ p l e R s m args below meth c D G w0 Q (m_l mi) zE sE w1 ls1 st1 pc1) : WW_ p l e R s m args below meth c D G w0 Q (m_l mi) zE sE w ls st pc := by
  simp only [s_1] at h
  split at h
  case h_2 => cases h
  rename_i b hlk9
  obtain ⟨g, hs8, rfl, rfl⟩ := n_2i h
  clear h
  split at g
  case isFalse => cases g
  rename_i hbb
  have C2 := C
  obtain ⟨hx, hb, hrt, hml, hown, hts, hlk, hini, hht, hN, hI, hst0, hRf, hRl, hE, hE0⟩ := C2
  intro H locs L hW hS hL
  have hA : ∀ q : Nat, s.heap.size ≤ q → A_ G q := fun q hq => by show G.1 ≤ q; omega
  obtain ⟨ws, tys, hX, hsz⟩ := hW.parts
  have hB := b_oo hlk9
  rcases hB with ⟨rfl, hl9⟩ | ⟨rfl, hl9⟩ | ⟨rfl, hl9⟩ | ⟨rfl, hl9⟩ | ⟨rfl, hl9⟩ | ⟨rfl, hl9⟩ | ⟨rfl, hl9⟩ | ⟨rfl, hl9⟩ | ⟨rfl, hl9⟩
  · omega
  · omega
  · have h : na_3 st w = some (st1, w1) := g
    clear g
    unfold na_3 at h
    split at h
    case h_2 => cases h
    rename_i a r
    split at h
    case isFalse => cases h
    rename_i ht
    cases h
    have hs9 := s8_ (G := G) hs8
    obtain ⟨q, cA, t0, ha, haz, hq, hty, hby⟩ := hX.arr hN (a := a) (by omega) (by omega)
    obtain ⟨mi9, hmq, hM⟩ := hI.2.2.2.2.2.2.2.2.1
    have hkk := k H locs L hW hS hL
    rw [List.map_cons, tv_con (by decide) hmq] at hkk
    rw [List.map_cons, tv_dyn ha]
    have hra := (hX.1.2 _ _ hty).2
    rw [ty_5 ht] at hra
    obtain ⟨_, _, _, _, _, hfc⟩ := hra
    refine va_getC hx hb (by rw [hml]; exact hL.1.1.symm) hown (hts _ hl9) (va_Nw.use rfl (hI.2.2.2.1 _ (by decide +kernel))) (hts _ q2417) (hts _ q616) (hts _ q641) hM ⟨vp_cell cA (ar_ G w a), hX.2.1 q _ hq, ?_, ?_⟩ (by omega) (Nat.le_trans (Nat.add_le_add_right hs9 14) (by omega)) hd hkk
    · rw [ar_r (by omega)]; rfl
    · rw [ar_r (by omega)]; exact hfc
  · have h : na_4 st w = some (st1, w1) := g
    clear g
    unfold na_4 at h
    split at h
    case h_2 => cases h
    rename_i a r
    split at h
    case isFalse => cases h
    rename_i ht
    cases h
    have hs9 := s8_ (G := G) hs8
    obtain ⟨q, cA, t0, ha, haz, hq, hty, hby⟩ := hX.arr hN (a := a) (by omega) (by omega)
    rw [List.map_cons, tv_dyn ha]
    have hra := (hX.1.2 _ _ hty).2
    have hq' := hq
    have hty' := hty
    rw [ar_i (by omega)] at hq'
    rw [ty_2 ht] at hty' hra
    have hw1 : w_z (s_I (s_n w 2 (w_n w a)) (w_z w) (w_i w a)) = w_z w + 1 := rfl
    have hw2 : w_s (s_I (s_n w 2 (w_n w a)) (w_z w) (w_i w a)) = w_s w + w_n w a := rfl
    have hne : ∀ b j, b ≠ w_z w → w_i (s_I (s_n w 2 (w_n w a)) (w_z w) (w_i w a)) b j = w_i w b j := fun b j hb => by rw [i_sI, if_neg hb, i_sn, if_neg hb]
    have har : ar_ G (s_I (s_n w 2 (w_n w a)) (w_z w) (w_i w a)) (w_z w) = (w_n w a, .inl (w_i w a)) := by
      have e1 : w_i (s_I (s_n w 2 (w_n w a)) (w_z w) (w_i w a)) (w_z w) = w_i w a := by funext j; rw [i_sI, if_pos rfl]
      rw [ar_i (by rw [t_sI, t_sn, if_pos rfl]; decide), e1, n_sI, n_sn, if_pos rfl]
    refine va_clone (ad := "[B") hx hb (by rw [hml]; exact hL.1.1.symm) hown (hts _ hl9) (hts _ q286) (hts _ q287) (hts _ q288) (hts _ q289) (hI.2.2.1 ("[B", "java/lang/Cloneable") (by decide +kernel)) hX.1 hX.2.1 hX.2.2.1 hS hA q t0 hq' hty' hra (fun i v hv => ?_) (by omega) (Nat.le_trans (Nat.add_le_add_right hs9 14) (by omega)) (by have := hr.1; rw [hw1] at this; omega) (by have := hr.2; rw [hw2] at this; show _ + w_n w a ≤ _; omega) hd (fun q9 H1 hK1 hP1 hD1 hS1 => ?_)
    · have hlt : i < w_n w a := by
        rcases Nat.lt_or_ge i (w_n w a) with z | z
        · exact z
        · have hv2 : (arrV cA (w_n w a) (fun j => .int (w_i w a j))).slots[i]? = some v := hv
          have := (Array.getElem?_eq_some_iff.mp hv2).1
          rw [arrV_size] at this
          exact this
      have hv2 : (arrV cA (w_n w a) (fun j => .int (w_i w a j))).slots[i]? = some v := hv
      rw [arrV_read _ _ hlt] at hv2
      cases hv2
      rw [← hby ht i]
      exact pk_fb _
    · rw [← har] at hP1 hD1
      refine fin_n (w1 := s_I (s_n w 2 (w_n w a)) (w_z w) (w_i w a)) (tys1 := tys ++ [(cA, .byte)]) C k hz hX hsz hP1 hD1 hS1 hL (by rw [hw1]; omega) (by rw [hw2]; show _ + w_n w a = _; omega) hw1 (fun hq9 => ?_)
      refine hX.push hP1 hD1 hK1 (fun i x hx => tys_in i x hx) rfl (fun b hb => by rw [t_sI, t_sn, if_neg hb]) (fun b hb => by rw [n_sI, n_sn, if_neg hb]) hne (fun b j hb => by rw [l_sI, l_sn, if_neg hb]) (fun b j hb => by rw [r_sI, r_sn, if_neg hb]) (Or.inr <| Or.inl ⟨by rw [t_sI, t_sn, if_pos rfl]; decide, by rw [t_sI, t_sn, if_pos rfl]; decide, ⟨cA, tys.length, ?_, ?_⟩, fun t2 j => ?_⟩)
      · rw [← hq9]; simp
      · rw [t_sI, t_sn, if_pos rfl]; simp [ty_]
      · rw [i_sI, if_pos rfl]; exact hby ht j
  · omega
  · omega
  · omega
  · omega
  · have h : na_9 st w = some (st1, w1) := g
    clear g
    unfold na_9 at h
    split at h
    case h_2 => cases h
    rename_i a r
    split at h
    case isFalse => cases h
    rename_i ht
    cases h
    have hs9 := s8_ (G := G) hs8
    have ha := hX.con hN (a := a) (by omega) (by omega)
    obtain ⟨e1, e2, e3, e4⟩ := hX.2.2.2.2.2.2 a ha
    obtain ⟨q, hq, hO, cell, g1, g2, g3, g4, g5, g6⟩ := (GC_.get hI a ha).2.2.1 (by rw [← e1]; exact ht)
    obtain ⟨cell', o1, o2, o3, o4⟩ := hO
    cases o1.symm.trans g1
    obtain ⟨cB, k1, k2, k3⟩ := hI.2.2.2.2.2.2.2.2.2.2.2.2.2.2.2
    have hcls : cell.cls = cB := Option.some.inj (o3.symm.trans k2)
    have g2' := g2
    obtain ⟨hns, kA, hkA, comp, hkind⟩ := g2'
    have hw1 : w_z (s_R (s_n w 7 (w_n w a)) (w_z w) (w_r w a)) = w_z w + 1 := rfl
    have hw2 : w_s (s_R (s_n w 7 (w_n w a)) (w_z w) (w_r w a)) = w_s w + w_n w a := rfl
    have hne : ∀ b j, b ≠ w_z w → w_r (s_R (s_n w 7 (w_n w a)) (w_z w) (w_r w a)) b j = w_r w b j := fun b j hb => by rw [r_sR, if_neg hb, r_sn, if_neg hb]
    have har : ar_ G (s_R (s_n w 7 (w_n w a)) (w_z w) (w_r w a)) (w_z w) = (w_n w a, .inr (.inr (.inr (.inr (fun j => (w_r w a j).bind (ad_ G)))))) := by
      have e1 : w_r (s_R (s_n w 7 (w_n w a)) (w_z w) (w_r w a)) (w_z w) = w_r w a := by funext j; rw [r_sR, if_pos rfl]
      rw [ar_r (by rw [t_sR, t_sn, if_pos rfl]; decide), e1, n_sR, n_sn, if_pos rfl]
    have hfr : (fun j => va_rf ((w_r w0 a j).bind (ad_ G))) = fun j => va_rf ((w_r w a j).bind (ad_ G)) := by
      funext j
      rw [e4 j]
    have hcellE : ({ cls := cell.cls, slots := cell.slots } : Cell) = vp_cell cB (ar_ G (s_R (s_n w 7 (w_n w a)) (w_z w) (w_r w a)) (w_z w)) := by
      rw [har, vp_cell_q, hcls]
      have hsl : cell.slots = (arrV cB (w_n w a) (fun j => va_rf ((w_r w a j).bind (ad_ G)))).slots := by
        refine Array.ext (by rw [arrV_size, g4, e2]) (fun i h1 h2 => ?_)
        have hi : i < w_n w0 a := by rw [← g4]; exact h1
        have r1 := g5 i hi
        have r2 := arrV_read cB (N := w_n w a) (fun j => va_rf ((w_r w a j).bind (ad_ G))) (by rw [e2]; exact hi)
        rw [Array.getElem?_eq_getElem h1] at r1
        rw [Array.getElem?_eq_getElem h2] at r2
        rw [Option.some.inj r1, Option.some.inj r2, e4 i]
      rw [hsl]
      rfl
    have hlt : q < s.heap.size := (Array.getElem?_eq_some_iff.mp g1).1
    intro T hT X
    rw [List.map_cons, tv_con ha hq]
    have hcellT : T.heap[q]? = some cell := by rw [hT, hS.2.1 q hlt g6]; exact g1
    have hcastN := va_Nw.use (A := args) rfl (hI.2.2.1 ("[LTableTower$Value;", "java/lang/Cloneable") (by decide +kernel))
    obtain ⟨c0, t0', f1, f2, f3⟩ := Cond.castable_spec hcastN
    cases o3.symm.trans f1
    obtain ⟨-, kT, hkT, compT, hkindT⟩ := State.isArrayOf_alike X.warmed.alike g2
    obtain ⟨vm', X', stp⟩ := X.cloneArray hx hown (hts _ hl9) (hts _ q514) (hts _ q287) (hts _ q288) (hts _ q515) (a := q) (cell := cell) hcellT hns g3 o3 f2 f3
      (fun i v hv => by
        have hk' : T.vm.classes[cell.cls]? = some kT := hkT
        have hi : i < w_n w0 a := by rw [← g4]; exact (Array.getElem?_eq_some_iff.mp hv).1
        have hv2 := (g5 i hi).symm.trans hv
        have hfit : fits (.object "TableTower$Value") v = true := by
          rw [← Option.some.inj hv2]
          show fits _ (va_rf ((w_r w0 a i).bind (ad_ G))) = true
          cases (w_r w0 a i).bind (ad_ G) <;> rfl
        simpa [State.fitsSlot, State.slotType?, hk', hkindT] using hfit)
      (g := F0 m pc L (.ref q :: r.map (tv_ G))) rfl (by rw [hml]; exact hL.1.1) rfl (by rw [hb]; exact hd) (by omega) (by have h9 : ((r.map (tv_ G)).map (fun v => v.category)).sum ≤ 8 := hs9; show 2 * 0 + ((r.map (tv_ G)).map (fun v => v.category)).sum + 14 ≤ _; omega) (by have := hr.1; rw [hw1] at this; omega) (by have := hr.2; rw [hw2] at this; show _ + cell.slots.size ≤ _; omega) (hloader := Vm.clonesLoader_of_array hkA hkind)
    rw [hcellE, g4, ← e2] at X'
    generalize hH1 : H.push (vp_cell cB (ar_ G (s_R (s_n w 7 (w_n w a)) (w_z w) (w_r w a)) (w_z w))) = H1
    have z1 : H1.size = H.size + 1 := by rw [← hH1, Array.size_push]
    have y1 : H1[H.size]? = some (vp_cell cB (ar_ G (s_R (s_n w 7 (w_n w a)) (w_z w) (w_r w a)) (w_z w))) := by rw [← hH1, Array.getElem?_push_size]
    have o1 : ∀ q : Nat, q < H.size → H1[q]? = H[q]? := fun q hq => by rw [← hH1, Array.getElem?_push, if_neg (Nat.ne_of_lt hq)]
    have hk : ∀ (k : Nat) (y : Nat × va_E), ws[k]? = some y → H1[y.1]? = H[y.1]? := fun k y hy => o1 y.1 ((hX.2.1 k y hy).lt)
    have hP1 : va_P D cL_ (ws ++ [(H.size, .inl (cB, ar_ G (s_R (s_n w 7 (w_n w a)) (w_z w) (w_r w a)) (w_z w)))]) H1 := (hX.2.1.kept hk).app (fun k y hy => by
      have hz : k < 1 := (List.getElem?_eq_some_iff.mp hy).1
      rw [show k = 0 by omega] at hy
      cases hy
      exact y1)
    have hD1 := hX.2.2.1.push (e := .inl (cB, ar_ G (s_R (s_n w 7 (w_n w a)) (w_z w) (w_r w a)) (w_z w))) hX.2.1 (rfl : H.size = H.size) (hA _ hS.1)
    have hS1 : va_S (A_ G) s.heap H1 locs := ⟨Nat.le_trans hS.1 (by omega), fun y h1 h2 => (o1 y (Nat.lt_of_lt_of_le h1 hS.1)).trans (hS.2.1 y h1 h2), hS.2.2⟩
    have kk := fin_n (w1 := s_R (s_n w 7 (w_n w a)) (w_z w) (w_r w a)) (tys1 := tys) (cells1 := w_z w - zE + 1) (slots1 := w_s w - sE + w_n w a) C k hz hX hsz hP1 hD1 hS1 hL (by rw [hw1]; omega) (by rw [hw2]; omega) hw1 (fun hq9 => by
      refine hX.push hP1 hD1 hX.1 (fun i x hx => hx) rfl (fun b hb => by rw [t_sR, t_sn, if_neg hb]) (fun b hb => by rw [n_sR, n_sn, if_neg hb]) (fun b j hb => by rw [i_sR, i_sn, if_neg hb]) (fun b j hb => by rw [l_sR, l_sn, if_neg hb]) hne (Or.inr (Or.inr ⟨by rw [t_sR, t_sn, if_pos rfl], cB, ?_, k1⟩))
      rw [← hq9]; simp)
    obtain ⟨t, b1, b2⟩ := kk ((T.setVm vm').pushCell (vp_cell cB (ar_ G (s_R (s_n w 7 (w_n w a)) (w_z w) (w_r w a)) (w_z w)))) (by rw [← hH1, ← hT]; rfl) X'
    refine ⟨t, stp t ?_, b2⟩
    rw [hcellE, hT]
    exact b1
theorem a_invokespecial {idx : Nat} (C : Cx_ p l R s m args meth c G w0 zE mi d) (hz : zE ≤ w_z w) (hsl : sE ≤ w_s w) (hr : w_z w1 - zE ≤ R.cells ∧ w_s w1 - sE ≤ R.slots) (hd : decode (m_c mi) pc = .ok (.invokespecial idx, 3)) (h : s_1 mi (.invokespecial idx) pc ls st w = some (pc1, ls1, st1, w1)) (k : WW_ p l e R s m args below meth c D G w0 Q (m_l mi) zE sE w1 ls1 st1 pc1) : WW_ p l e R s m args below meth c D G w0 Q (m_l mi) zE sE w ls st pc := by
  simp only [s_1] at h
  split at h
  case h_2 => cases h
  rename_i b hlk9
  obtain ⟨g, hs8, rfl, rfl⟩ := n_2i h
  clear h
  split at g
  case isFalse => cases g
  rename_i hbb
  have C2 := C
  obtain ⟨hx, hb, hrt, hml, hown, hts, hlk, hini, hht, hN, hI, hst0, hRf, hRl, hE, hE0⟩ := C2
  intro H locs L hW hS hL
  obtain ⟨ws, tys, hX, hsz⟩ := hW.parts
  have hB := b_oo hlk9
  rcases hB with ⟨rfl, hl9⟩ | ⟨rfl, hl9⟩ | ⟨rfl, hl9⟩ | ⟨rfl, hl9⟩ | ⟨rfl, hl9⟩ | ⟨rfl, hl9⟩ | ⟨rfl, hl9⟩ | ⟨rfl, hl9⟩ | ⟨rfl, hl9⟩
  · omega
  · have h : na_2 st w = some (st1, w1) := g
    clear g
    unfold na_2 at h
    split at h
    case h_2 => cases h
    rename_i a r
    split at h
    case isFalse => cases h
    rename_i ht
    cases h
    have hs9 : ((st1.map (tv_ G)).map (fun v => v.category)).sum ≤ 8 := s8_ (G := G) hs8
    obtain ⟨q, ha, haz, h41, hq⟩ := hX.obj hN ht
    rw [List.map_cons, tv_dyn ha]
    exact W.objInit hx hb hown (hts _ hl9) (hts _ q154) (hts _ (by rw [n_oi]; exact q155)) rfl (by rw [hml]; exact hL.1.1) rfl hd (by omega) (by show 2 * 0 + _ + 12 ≤ _; omega) (k H locs L hW hS hL)
  · omega
  · omega
  · omega
  · omega
  · omega
  · omega
  · omega
end
