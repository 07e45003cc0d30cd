/-! THE STEPS THAT MAKE CELLS, AND THE NATIVES (by program, wip/gen/genarms4.py) -/
set_option maxRecDepth 100000
def x_B : List Cond := nD_L.map Cond.declares ++ nC_L.map (fun e => Cond.castable e.1 e.2)
theorem x_gI : ∀ w ∈ (vx_at0 "TableTower" 69 "java/lang/IllegalArgumentException" ["java/lang/RuntimeException", "java/lang/Exception"]).filter goodWord, w ∈ lw_all := lw_in _ [112, 200, 209, 213, 216, 218, 201, 202, 154, 155, 203, 208, 214, 454, 190, 455, 192, 456, 194, 204, 206, 196, 1143, 1144, 1145, 1146, 1146, 1147, 1148, 1149, 1149, 1150, 1151, 201, 1142, 179, 187, 188, 189, 191, 193, 195, 199, 198, 197] (by decide +kernel) (by decide +kernel)
theorem x_bI : ∀ w ∈ (vx_at0 "TableTower" 69 "java/lang/IllegalArgumentException" ["java/lang/RuntimeException", "java/lang/Exception"]).filter (fun w => !goodWord w), w ∈ x_B := by decide +kernel
theorem x_oI : ∀ w ∈ Cond.classLink "TableTower" 67 "java/lang/IllegalArgumentException" :: Cond.initialized "java/lang/IllegalArgumentException" :: vx_at0 "TableTower" 69 "java/lang/IllegalArgumentException" ["java/lang/RuntimeException", "java/lang/Exception"], vx_ot w = true := by decide +kernel
theorem x_cI : m_c 66 = cX1_right := rfl
theorem x_gN : ∀ w ∈ (vx_at0 "TableTower" 72 "java/util/NoSuchElementException" ["java/lang/RuntimeException", "java/lang/Exception"]).filter goodWord, w ∈ lw_all := lw_in _ [112, 200, 209, 213, 216, 218, 201, 202, 154, 155, 203, 208, 214, 454, 190, 455, 192, 456, 194, 204, 206, 196, 1515, 1516, 1517, 1146, 1146, 1147, 1148, 1149, 1149, 1150, 1151, 201, 1514, 1506, 1508, 212, 1509, 1510, 1511, 1512, 199, 198, 1513] (by decide +kernel) (by decide +kernel)
theorem x_bN : ∀ w ∈ (vx_at0 "TableTower" 72 "java/util/NoSuchElementException" ["java/lang/RuntimeException", "java/lang/Exception"]).filter (fun w => !goodWord w), w ∈ x_B := by decide +kernel
theorem x_oN : ∀ w ∈ Cond.classLink "TableTower" 70 "java/util/NoSuchElementException" :: Cond.initialized "java/util/NoSuchElementException" :: vx_at0 "TableTower" 72 "java/util/NoSuchElementException" ["java/lang/RuntimeException", "java/lang/Exception"], vx_ot w = true := by decide +kernel
theorem x_cN : m_c 68 = cX1_there := rfl
theorem cl_9 {ci : Nat} {C : String} {T : u_T} {N : Nat} (h : cL_[ci]? = some (C, T, N)) (j : Nat) (hj : j < N) {ty : FieldType} (hty : parseFieldDescriptor (T j).2.2.1 = some ty) : k_d ty ≠ 9 := by
  have hlt : ci < 22 := (List.getElem?_eq_some_iff.mp h).1
  have hce := cL_e h
  have all : ∀ i, i < 22 → ∀ k, k < (c_e i).2.2 → kd_ i k ≠ 9 := by decide +kernel
  have h1 := all ci hlt j (by rw [hce]; exact hj)
  unfold kd_ at h1
  rw [hce, hty] at h1
  exact h1
section
variable {p : Program} {l : Launch} {e : Env} {R : Room} {s : State} {m : MethodId} {args : Array Value} {below : List Frame} {meth : Method} {c : Code} {D : va_G} {G : GG_} {w0 : Wd} {Q : State → Prop} {zE sE mi d pc pc1 : Nat} {ls ls1 : List (Option Vl)} {st st1 : List Vl} {w w1 : Wd}

theorem x_Bh (hI : GI_ G w0 s s.heap) : ∀ w ∈ x_B, w.before args s = true := by
  intro w hw
  rcases List.mem_append.mp hw with h | h
  · obtain ⟨e, he, rfl⟩ := List.mem_map.mp h
    exact va_Nw.use rfl (hI.2.2.2.1 e he)
  · obtain ⟨e, he, rfl⟩ := List.mem_map.mp h
    exact va_Nw.use rfl (hI.2.2.1 e he)
theorem cat_8 (r : List Vl) : ((r.map (tv_ G)).map (fun v => v.category)).sum = (r.map v_c).sum := by
  induction r with
  | nil => rfl
  | cons a r ih => simp only [List.map_cons, List.sum_cons, tv_c, ih]
theorem s8_ {r : List Vl} (h : s_8 r = true) : ((r.map (tv_ G)).map (fun v => v.category)).sum ≤ 8 := by
  rw [cat_8]
  exact of_decide_eq_true h
theorem tys_in {tys : List (ClassId × FieldType)} {x : ClassId × FieldType} (i : Nat) (y : ClassId × FieldType) (h : tys[i]? = some y) : (tys ++ [x])[i]? = some y := by
  rw [List.getElem?_append_left (List.getElem?_eq_some_iff.mp h).1]; exact h
/-- a cell more: what a fresh one leaves alone -/
theorem new_o {H H1 : Heap} {ws : va_W} {tys : List (ClassId × FieldType)} {q t n ci : Nat} (h : RX_ D G w0 w s H ws tys) (hci : t = ci + 20) (hc : ci < 22) (hq : q = G.1 + (w_z w - 1000)) (hP : va_P D cL_ (ws ++ [(q, .inr (ci, fl_ G (s_n w t n) (w_z w) ci))]) H1) (hD : va_D (A_ G) (ws ++ [(q, .inr (ci, fl_ G (s_n w t n) (w_z w) ci))])) : RX_ D G w0 (s_n w t n) s H1 (ws ++ [(q, .inr (ci, fl_ G (s_n w t n) (w_z w) ci))]) tys := by
  have ht : w_t (s_n w t n) (w_z w) = t := by rw [t_sn, if_pos rfl]
  refine h.push hP hD h.1 (fun _ _ h => h) rfl (fun b hb => ?_) (fun b hb => ?_) (fun b j hb => ?_) (fun b j hb => ?_) (fun b j hb => ?_) (Or.inl ⟨by omega, by omega, ?_⟩)
  · rw [t_sn, if_neg hb]
  · rw [n_sn, if_neg hb]
  · rw [i_sn, if_neg hb]
  · rw [l_sn, if_neg hb]
  · rw [r_sn, if_neg hb]
  · rw [ht, show t - 20 = ci by omega, ← hq]
    simp
theorem new_a {H H1 : Heap} {ws : va_W} {tys : List (ClassId × FieldType)} {q t n : Nat} {cA : ClassId} (h : RX_ D G w0 w s H ws tys) (h1 : 1 ≤ t) (h7 : t ≤ 6) (hq : q = G.1 + (w_z w - 1000)) (hK : va_K D cL_ (tys ++ [(cA, ty_ t)]) s) (hP : va_P D cL_ (ws ++ [(q, .inl (cA, ar_ G (s_n w t n) (w_z w)))]) H1) (hD : va_D (A_ G) (ws ++ [(q, .inl (cA, ar_ G (s_n w t n) (w_z w)))])) : RX_ D G w0 (s_n w t n) s H1 (ws ++ [(q, .inl (cA, ar_ G (s_n w t n) (w_z w)))]) (tys ++ [(cA, ty_ t)]) := by
  have ht : w_t (s_n w t n) (w_z w) = t := by rw [t_sn, if_pos rfl]
  refine h.push hP hD hK (fun i x hx => tys_in i x hx) rfl (fun b hb => ?_) (fun b hb => ?_) (fun b j hb => ?_) (fun b j hb => ?_) (fun b j hb => ?_) (Or.inr <| Or.inl ⟨by omega, by omega, ⟨cA, tys.length, ?_, ?_⟩, fun t2 j => ?_⟩)
  · rw [t_sn, if_neg hb]
  · rw [n_sn, if_neg hb]
  · rw [i_sn, if_neg hb]
  · rw [l_sn, if_neg hb]
  · rw [r_sn, if_neg hb]
  · rw [← hq]
    simp
  · rw [ht]
    simp
  · rw [i_sn, if_pos rfl]
    decide
theorem ar_n (t n : Nat) : ar_ G (s_n w t n) (w_z w) = (n, if t = 4 then .inr (.inl (fun _ => 0)) else if t ≤ 3 then .inl (fun _ => 0) else .inr (.inr (.inr (.inr (fun _ => none))))) := by
  have e1 : w_i (s_n w t n) (w_z w) = fun _ => 0 := by funext j; rw [i_sn, if_pos rfl]
  have e2 : w_l (s_n w t n) (w_z w) = fun _ => 0 := by funext j; rw [l_sn, if_pos rfl]
  have e3 : (fun j => (w_r (s_n w t n) (w_z w) j).bind (ad_ G)) = fun _ => none := by funext j; rw [r_sn, if_pos rfl]; rfl
  unfold ar_
  rw [t_sn, if_pos rfl, n_sn, if_pos rfl, e1, e2, e3]
theorem a_newarray {t : ArrayType} (C : Cx_ p l R s m args meth c G w0 zE mi d) (hz : zE ≤ w_z w) (hsl : sE ≤ w_s w) (hr : w_z w1 - zE ≤ R.cells ∧ w_s w1 - sE ≤ R.slots) (hd : decode (m_c mi) pc = .ok (.newarray t, 2)) (h : s_1 mi (.newarray t) pc ls st w = some (pc1, ls1, st1, w1)) (k : WW_ p l e R s m args below meth c D G w0 Q (m_l mi) zE sE w1 ls1 st1 pc1) : WW_ p l e R s m args below meth c D G w0 Q (m_l mi) zE sE w ls st pc := by
  have C2 := C
  obtain ⟨hx, hb, hrt, hml, hown, hts, hlk, hini, hht, hN, hI, hst0, hRf, hRl, hE, hE0⟩ := C2
  intro H locs L hW hS hL
  have hA : ∀ q : Nat, s.heap.size ≤ q → A_ G q := fun q hq => by show G.1 ≤ q; omega
  simp only [s_1] at h
  split at h
  · rename_i n r
    split at h
    · rename_i hc
      obtain ⟨rfl, rfl, rfl, rfl⟩ := s4 h
      obtain ⟨ws, tys, hX, hsz⟩ := hW.parts
      rw [List.map_cons]
      cases t with
      | int =>
        have hw1 : w_z (s_n w 1 n.toNatClampNeg) = w_z w + 1 := rfl
        have hw2 : w_s (s_n w 1 n.toNatClampNeg) = w_s w + n.toNatClampNeg := rfl
        exact va_newa (atype := .int) (ty := ty_ 1) (N' := n.toNatClampNeg) (a0 := ar_ G (s_n w 1 n.toNatClampNeg) (w_z w)) hx hb (hts _ q524) rfl hX.1 hX.2.1 hX.2.2.1 hS hA (fun cA => by rw [ar_n]; rfl) hc.1 rfl (by show n.toNatClampNeg * 4 ≤ _; omega) (by have := hr.1; rw [show w_z (s_n w (a_t ArrayType.int) n.toNatClampNeg) = _ from hw1] at this; omega) (by have := hr.2; rw [show w_s (s_n w (a_t ArrayType.int) n.toNatClampNeg) = _ from hw2] at this; omega) hd (fun q cA H1 hK1 hP1 hD1 hS1 => fin_n (w1 := s_n w 1 n.toNatClampNeg) C k hz hX hsz hP1 hD1 hS1 hL (by rw [hw1]; omega) (by rw [hw2]; omega) hw1 (fun hq => new_a hX (by decide) (by decide) hq hK1 hP1 hD1))
        | byte =>
        have hw1 : w_z (s_n w 2 n.toNatClampNeg) = w_z w + 1 := rfl
        have hw2 : w_s (s_n w 2 n.toNatClampNeg) = w_s w + n.toNatClampNeg := rfl
        exact va_newa (atype := .byte) (ty := ty_ 2) (N' := n.toNatClampNeg) (a0 := ar_ G (s_n w 2 n.toNatClampNeg) (w_z w)) hx hb (hts _ q250) rfl hX.1 hX.2.1 hX.2.2.1 hS hA (fun cA => by rw [ar_n]; rfl) hc.1 rfl (by show n.toNatClampNeg * 1 ≤ _; omega) (by have := hr.1; rw [show w_z (s_n w (a_t ArrayType.byte) n.toNatClampNeg) = _ from hw1] at this; omega) (by have := hr.2; rw [show w_s (s_n w (a_t ArrayType.byte) n.toNatClampNeg) = _ from hw2] at this; omega) hd (fun q cA H1 hK1 hP1 hD1 hS1 => fin_n (w1 := s_n w 2 n.toNatClampNeg) C k hz hX hsz hP1 hD1 hS1 hL (by rw [hw1]; omega) (by rw [hw2]; omega) hw1 (fun hq => new_a hX (by decide) (by decide) hq hK1 hP1 hD1))
        | boolean =>
        have hw1 : w_z (s_n w 3 n.toNatClampNeg) = w_z w + 1 := rfl
        have hw2 : w_s (s_n w 3 n.toNatClampNeg) = w_s w + n.toNatClampNeg := rfl
        exact va_newa (atype := .boolean) (ty := ty_ 3) (N' := n.toNatClampNeg) (a0 := ar_ G (s_n w 3 n.toNatClampNeg) (w_z w)) hx hb (hts _ q749) rfl hX.1 hX.2.1 hX.2.2.1 hS hA (fun cA => by rw [ar_n]; rfl) hc.1 rfl (by show n.toNatClampNeg * 1 ≤ _; omega) (by have := hr.1; rw [show w_z (s_n w (a_t ArrayType.boolean) n.toNatClampNeg) = _ from hw1] at this; omega) (by have := hr.2; rw [show w_s (s_n w (a_t ArrayType.boolean) n.toNatClampNeg) = _ from hw2] at this; omega) hd (fun q cA H1 hK1 hP1 hD1 hS1 => fin_n (w1 := s_n w 3 n.toNatClampNeg) C k hz hX hsz hP1 hD1 hS1 hL (by rw [hw1]; omega) (by rw [hw2]; omega) hw1 (fun hq => new_a hX (by decide) (by decide) hq hK1 hP1 hD1))
        | long =>
        have hw1 : w_z (s_n w 4 n.toNatClampNeg) = w_z w + 1 := rfl
        have hw2 : w_s (s_n w 4 n.toNatClampNeg) = w_s w + n.toNatClampNeg := rfl
        exact va_newa (atype := .long) (ty := ty_ 4) (N' := n.toNatClampNeg) (a0 := ar_ G (s_n w 4 n.toNatClampNeg) (w_z w)) hx hb (hts _ q748) rfl hX.1 hX.2.1 hX.2.2.1 hS hA (fun cA => by rw [ar_n]; rfl) hc.1 rfl (by show n.toNatClampNeg * 8 ≤ _; omega) (by have := hr.1; rw [show w_z (s_n w (a_t ArrayType.long) n.toNatClampNeg) = _ from hw1] at this; omega) (by have := hr.2; rw [show w_s (s_n w (a_t ArrayType.long) n.toNatClampNeg) = _ from hw2] at this; omega) hd (fun q cA H1 hK1 hP1 hD1 hS1 => fin_n (w1 := s_n w 4 n.toNatClampNeg) C k hz hX hsz hP1 hD1 hS1 hL (by rw [hw1]; omega) (by rw [hw2]; omega) hw1 (fun hq => new_a hX (by decide) (by decide) hq hK1 hP1 hD1))
    
      | _ => exact absurd hc.2.2 (by decide)
    · cases h
  · cases h
theorem a_anewarray {idx : Nat} (C : Cx_ p l R s m args meth c G w0 zE mi d) (hz : zE ≤ w_z w) (hsl : sE ≤ w_s w) (hr : w_z w1 - zE ≤ R.cells ∧ w_s w1 - sE ≤ R.slots) (hd : decode (m_c mi) pc = .ok (.anewarray idx, 3)) (h : s_1 mi (.anewarray idx) pc ls st w = some (pc1, ls1, st1, w1)) (k : WW_ p l e R s m args below meth c D G w0 Q (m_l mi) zE sE w1 ls1 st1 pc1) : WW_ p l e R s m args below meth c D G w0 Q (m_l mi) zE sE w ls st pc := by
  have C2 := C
  obtain ⟨hx, hb, hrt, hml, hown, hts, hlk, hini, hht, hN, hI, hst0, hRf, hRl, hE, hE0⟩ := C2
  intro H locs L hW hS hL
  have hA : ∀ q : Nat, s.heap.size ≤ q → A_ G q := fun q hq => by show G.1 ≤ q; omega
  simp only [s_1] at h
  split at h
  · rename_i n r
    split at h
    · rename_i t hlk9
      split at h
      · rename_i hc
        obtain ⟨rfl, rfl, rfl, rfl⟩ := s4 h
        obtain ⟨ws, tys, hX, hsz⟩ := hW.parts
        rw [List.map_cons]
        have hw1 : w_z (s_n w t n.toNatClampNeg) = w_z w + 1 := rfl
        have hw2 : w_s (s_n w t n.toNatClampNeg) = w_s w + n.toNatClampNeg := rfl
        obtain ⟨ht, CC, hty, hlnk⟩ := an_oo hlk9
        have hAO : va_AO CC s := by
          rcases ht with rfl | rfl
          · have : CC = "java/lang/Object" := (FieldType.object.inj hty).symm
            rw [this]; exact hI.2.2.2.2.2.2.1
          · have : CC = "java/lang/String" := (FieldType.object.inj hty).symm
            rw [this]; exact hI.2.2.2.2.2.2.2.1
        have har : ar_ G (s_n w t n.toNatClampNeg) (w_z w) = (n.toNatClampNeg, .inr (.inr (.inr (.inr (fun _ => none))))) := by
          rw [ar_n, if_neg (by omega), if_neg (by omega)]
        refine va_newq hx hb hown (hts _ hlnk) hAO hX.1 hX.2.1 hX.2.2.1 hS hA hc.1 rfl (by omega) (by have := hr.1; rw [hw1] at this; omega) (by have := hr.2; rw [hw2] at this; omega) hd (fun q cA H1 hK1 hP1 hD1 hS1 => ?_)
        rw [← har] at hP1 hD1
        rw [← hty] at hK1
        exact fin_n (w1 := s_n w t n.toNatClampNeg) C k hz hX hsz hP1 hD1 hS1 hL (by rw [hw1]; omega) (by rw [hw2]; omega) hw1 (fun hq => new_a hX (by omega) (by omega) hq hK1 hP1 hD1)
      · cases h
    · cases h
  · cases h
theorem a_new {idx : Nat} (C : Cx_ p l R s m args meth c G w0 zE mi d) (hz : zE ≤ w_z w) (hsl : sE ≤ w_s w) (hr : w_z w1 - zE ≤ R.cells ∧ w_s w1 - sE ≤ R.slots) (hd : decode (m_c mi) pc = .ok (.new idx, 3)) (h : s_1 mi (.new idx) pc ls st w = some (pc1, ls1, st1, w1)) (k : WW_ p l e R s m args below meth c D G w0 Q (m_l mi) zE sE w1 ls1 st1 pc1) : WW_ p l e R s m args below meth c D G w0 Q (m_l mi) zE sE w ls st pc := by
  have C2 := C
  obtain ⟨hx, hb, hrt, hml, hown, hts, hlk, hini, hht, hN, hI, hst0, hRf, hRl, hE, hE0⟩ := C2
  intro H locs L hW hS hL
  have hA : ∀ q : Nat, s.heap.size ≤ q → A_ G q := fun q hq => by show G.1 ≤ q; omega
  simp only [s_1] at h
  split at h
  · rename_i hh9
    obtain ⟨rfl, rfl⟩ := hh9
    exact a_fault C hz hsl hr h k H locs L hW hS hL
  split at h
  · rename_i t hlk9
    split at h
    · rename_i hs8
      obtain ⟨rfl, rfl, rfl, rfl⟩ := s4 h
      obtain ⟨ws, tys, hX, hsz⟩ := hW.parts
      have hmem := lk_2m hlk9
      simp only [x_T, List.mem_cons, List.not_mem_nil, or_false, Prod.mk.injEq] at hmem
      rcases hmem with hk | hk
      · have e1 : mi = 66 := hk.1
        have e2 : pc = 4 := hk.2.1
        have e3 : t = 39 := hk.2.2
        subst e1; subst e2; subst e3
        have hc9 : cL_[19]? = some ("java/lang/IllegalArgumentException", TJ6, 0) := rfl
        have hd0 : decode (m_c 66) 4 = .ok (.new 67, 3) := by rw [x_cI]; exact dX1_right_4
        have hw1 : w_z (s_n w 39 6) = w_z w + 1 := rfl
        have hw2 : w_s (s_n w 39 6) = w_s w + 6 := rfl
        exact vx_make0 hx hb hst0 (own := "TableTower") (names := ["java/lang/RuntimeException", "java/lang/Exception"]) (ik := 67) (ic := 69) hown (by decide +kernel) (by decide +kernel) (hts _ q1141) (hts _ q115) (vx_hat (fun w hw => hts _ (x_gI w hw)) x_bI (x_Bh hI)) x_oI hI.2.2.2.2.2.2.2.2.2.2.1 hI.2.2.2.2.2.2.2.2.2.2.2.1 hS (by rw [hml]; exact hL.1.1) hd0 (by rw [x_cI]; exact dX1_right_7) (by rw [x_cI]; exact dX1_right_8) hX.1 hX.2.1 hX.2.2.1 hA hc9 (by show 2 + 3 < _; omega) (by have := s8_ (G := G) hs8; show _ + (13 * (2 + 1) + 42) ≤ _; omega) (by have := hr.1; rw [hw1] at this; omega) (by have := hr.2; rw [hw2] at this; omega) (fun q H1 hP1 hD1 hS1 => fin_n (w1 := s_n w 39 6) C k hz hX hsz hP1 hD1 hS1 hL (by rw [hw1]; omega) (by rw [hw2]; omega) hw1 (fun hq => new_o (ci := 19) hX rfl (by decide) hq hP1 hD1))
      · have e1 : mi = 68 := hk.1
        have e2 : pc = 4 := hk.2.1
        have e3 : t = 40 := hk.2.2
        subst e1; subst e2; subst e3
        have hc9 : cL_[20]? = some ("java/util/NoSuchElementException", TJ19, 0) := rfl
        have hd0 : decode (m_c 68) 4 = .ok (.new 70, 3) := by rw [x_cN]; exact dX1_there_4
        have hw1 : w_z (s_n w 40 6) = w_z w + 1 := rfl
        have hw2 : w_s (s_n w 40 6) = w_s w + 6 := rfl
        exact vx_make0 hx hb hst0 (own := "TableTower") (names := ["java/lang/RuntimeException", "java/lang/Exception"]) (ik := 70) (ic := 72) hown (by decide +kernel) (by decide +kernel) (hts _ q1505) (hts _ q147) (vx_hat (fun w hw => hts _ (x_gN w hw)) x_bN (x_Bh hI)) x_oN hI.2.2.2.2.2.2.2.2.2.2.1 hI.2.2.2.2.2.2.2.2.2.2.2.1 hS (by rw [hml]; exact hL.1.1) hd0 (by rw [x_cN]; exact dX1_there_7) (by rw [x_cN]; exact dX1_there_8) hX.1 hX.2.1 hX.2.2.1 hA hc9 (by show 2 + 3 < _; omega) (by have := s8_ (G := G) hs8; show _ + (13 * (2 + 1) + 42) ≤ _; omega) (by have := hr.1; rw [hw1] at this; omega) (by have := hr.2; rw [hw2] at this; omega) (fun q H1 hP1 hD1 hS1 => fin_n (w1 := s_n w 40 6) C k hz hX hsz hP1 hD1 hS1 hL (by rw [hw1]; omega) (by rw [hw2]; omega) hw1 (fun hq => new_o (ci := 20) hX rfl (by decide) hq hP1 hD1))
    · cases h
  · split at h
    · rename_i t n hlk9
      obtain ⟨rfl, rfl, rfl, rfl⟩ := s4 h
      obtain ⟨ws, tys, hX, hsz⟩ := hW.parts
      obtain ⟨h20, CC, T, hc, hlnk, hins, hinit⟩ := n_oo hlk9
      obtain ⟨hin, ty0, hty, hnm⟩ := cl_ok _ _ _ _ hc
      have hce := cL_e hc
      have hlt : t - 20 < 22 := (List.getElem?_eq_some_iff.mp hc).1
      have hw1 : w_z (s_n w t n) = w_z w + 1 := rfl
      have hw2 : w_s (s_n w t n) = w_s w + n := rfl
      have hfs : ∀ j, j < n → defaultValue (ty0 j) = vp_V (fl_ G (s_n w t n) (w_z w) (t - 20)) j := fun j hj => by
        have hg := fl_at (G := G) (w := s_n w t n) (a := w_z w) (ci := t - 20) (k := j) (by rw [hce]; exact hj)
        unfold vp_V
        rw [List.getD_eq_getElem?_getD, hg]
        show _ = tv_ G (f_v _ _ _ _)
        have hkd : kd_ (t - 20) j = k_d (ty0 j) := by
          unfold kd_
          rw [hce, hty j hj]
        rw [hkd]
        have hk9 := cl_9 hc j hj (hty j hj)
        unfold f_v
        rw [l_sn, if_pos rfl, r_sn, if_pos rfl, i_sn, if_pos rfl]
        cases hy : ty0 j <;> rw [hy] at hk9 <;> first | rfl | exact absurd rfl hk9
      exact va_new hx hb hts hin ty0 hty hown (hts _ hlnk) (hts _ hins) (hts _ hinit) hX.1 hX.2.1 hX.2.2.1 hS hA hc hfs (by have := hr.1; rw [hw1] at this; omega) (by have := hr.2; rw [hw2] at this; omega) hd (fun q H1 hP1 hD1 hS1 => fin_n (w1 := s_n w t n) C k hz hX hsz hP1 hD1 hS1 hL (by rw [hw1]; omega) (by rw [hw2]; omega) hw1 (fun hq => new_o hX (by omega) hlt hq hP1 hD1))
    · cases h
end
