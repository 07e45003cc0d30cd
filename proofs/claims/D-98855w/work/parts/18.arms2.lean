/-! THE STEPS ON THE HEAP (by program, wip/gen/genarms2.py) -/
set_option maxRecDepth 100000
theorem in_F : ∀ w ∈ u_ws RX9 TXF 2, w ∈ lw_all := lw_in (u_ws RX9 TXF 2) [1297, 1299] (by decide +kernel) (by decide +kernel)
theorem cl_ok : ∀ (ci : Nat) (C : String) (T : u_T) (N : Nat), cL_[ci]? = some (C, T, N) → (∀ w ∈ u_ws C T N, w ∈ lw_all) ∧ ∃ ty0 : Nat → FieldType, (∀ k, k < N → parseFieldDescriptor (T k).2.2.1 = some (ty0 k)) ∧ ∀ a, a < N → ∀ b, b < N → a ≠ b → (T a).2.1 ≠ (T b).2.1 := by
  intro ci C T N h
  match ci, h with
  | 0, h => cases h; exact ⟨in_X1, tyX1, tyX1_ok, nmX1⟩
  | 1, h => cases h; exact ⟨in_X2, tyX2, tyX2_ok, nmX2⟩
  | 2, h => cases h; exact ⟨in_X3, tyX3, tyX3_ok, nmX3⟩
  | 3, h => cases h; exact ⟨in_X5, tyX5, tyX5_ok, nmX5⟩
  | 4, h => cases h; exact ⟨in_X6, tyX6, tyX6_ok, nmX6⟩
  | 5, h => cases h; exact ⟨in_X7, tyX7, tyX7_ok, nmX7⟩
  | 6, h => cases h; exact ⟨in_X8, tyX8, tyX8_ok, nmX8⟩
  | 7, h => cases h; exact ⟨in_X9, tyX9, tyX9_ok, nmX9⟩
  | 8, h => cases h; exact ⟨in_X11, tyX11, tyX11_ok, nmX11⟩
  | 9, h => cases h; exact ⟨in_X12, tyX12, tyX12_ok, nmX12⟩
  | 10, h => cases h; exact ⟨in_X13, tyX13, tyX13_ok, nmX13⟩
  | 11, h => cases h; exact ⟨in_X14, tyX14, tyX14_ok, nmX14⟩
  | 12, h => cases h; exact ⟨in_X15, tyX15, tyX15_ok, nmX15⟩
  | 13, h => cases h; exact ⟨in_X16, tyX16, tyX16_ok, nmX16⟩
  | 14, h => cases h; exact ⟨in_X17, tyX17, tyX17_ok, nmX17⟩
  | 15, h => cases h; exact ⟨in_X18, tyX18, tyX18_ok, nmX18⟩
  | 16, h => cases h; exact ⟨in_J2, tyJ2, tyJ2_ok, nmJ2⟩
  | 17, h => cases h; exact ⟨in_J8, tyJ8, tyJ8_ok, nmJ8⟩
  | 18, h => cases h; exact ⟨in_J9, tyJ9, tyJ9_ok, nmJ9⟩
  | 19, h => cases h; exact ⟨fun _ h => absurd h List.not_mem_nil, fun _ => .int, fun k h => absurd h (Nat.not_lt_zero k), fun k h => absurd h (Nat.not_lt_zero k)⟩
  | 20, h => cases h; exact ⟨fun _ h => absurd h List.not_mem_nil, fun _ => .int, fun k h => absurd h (Nat.not_lt_zero k), fun k h => absurd h (Nat.not_lt_zero k)⟩
  | 21, h => cases h; exact ⟨in_F, fun _ => .int, fun k h => by match k, h with | 0, _ => decide +kernel | 1, _ => decide +kernel, by decide +kernel⟩
  | k + 22, h => exact absurd h (by simp [cL_])
section
variable {p : Program} {l : Launch} {e : Env} {R : Room} {s : State} {m : MethodId} {args : Array Value} {below : List Frame} {meth : Method} {c : Code} {D : va_G} {G : GG_} {w0 : Wd} {Q : State → Prop} {zE sE mi d pc pc1 : Nat} {ls ls1 : List (Option Vl)} {st st1 : List Vl} {w w1 : Wd}

theorem RX_.con (hN : GN_ G w0) {H : Heap} {ws : va_W} {tys : List (ClassId × FieldType)} (h : RX_ D G w0 w s H ws tys) {a : Nat} (h8 : 8 ≤ w_t w a) (h19 : w_t w a ≤ 19) : a < 1000 := by
  obtain ⟨h1, h2, h3, h4, h6, h7, hk⟩ := h
  rcases Nat.lt_or_ge a 1000 with hl | hl
  · exact hl
  · exfalso
    rcases Nat.lt_or_ge a (w_z w) with hz | hz
    · obtain ⟨q, hq⟩ := h4 a hl hz
      rcases hq with ⟨x, -⟩ | ⟨-, x, -⟩ <;> omega
    · have := h7 a hz
      omega
theorem tv_con {a q : Nat} (ha : a < 1000) (hq : G.2 a = some q) : tv_ G (v_R (some a)) = .ref q := by
  show va_rf (ad_ G a) = _
  unfold ad_
  rw [if_pos ha, hq]
  rfl
theorem nar_k (k : Nat) (x : Int32) : narrow (k_f k) (.int x) = .int (vp_nar (k_f k) x) := by
  unfold k_f
  split <;> rfl
/-- what is stored fits -/
theorem p_vi {a k kd : Nat} {v : Vl} {ty : FieldType} (hk : k_d ty = kd) (h : p_v w a k kd v = some w1) : narrow ty (tv_ G v) = tv_ G v ∧ fits ty (tv_ G v) = true ∧ w_z w1 = w_z w ∧ w_s w1 = w_s w ∧ (∀ b, w_t w1 b = w_t w b) ∧ (∀ b, w_n w1 b = w_n w b) ∧ (∀ b j, b ≠ a → w_i w1 b j = w_i w b j) ∧ (∀ b j, b ≠ a → w_l w1 b j = w_l w b j) ∧ (∀ b j, b ≠ a → w_r w1 b j = w_r w b j) ∧
    (∀ j kj, j ≠ k → f_v w1 a j kj = f_v w a j kj) ∧ f_v w1 a k kd = v := by
  rcases v with x | x | o
  · have hw : w1 = s_i w a k x ∧ narrow ty (.int x) = .int x ∧ fits ty (.int x) = true ∧ kd ≠ 1 ∧ kd ≠ 2 := by
      simp only [p_v] at h
      split at h
      · rename_i hk0
        cases h
        cases ty <;> simp [k_d] at hk <;> first | exact ⟨rfl, rfl, rfl, by omega, by omega⟩ | (exfalso; omega)
      · split at h
        · rename_i hh
          cases h
          obtain ⟨h3, ho⟩ := hh
          simp only [k_o, Bool.and_eq_true, decide_eq_true_eq] at ho
          have hn := nar_k kd x
          rw [ho.1] at hn
          have hty : k_f kd = ty := by
            cases ty <;> simp [k_d] at hk <;> subst hk <;> first | rfl | (exfalso; omega)
          rw [hty] at hn ho
          exact ⟨rfl, hn, ho.2, by omega, by omega⟩
        · cases h
    obtain ⟨rfl, h1, h2, h3, h4⟩ := hw
    refine ⟨h1, h2, rfl, rfl, fun _ => rfl, fun _ => rfl, fun b j hb => ?_, fun _ _ _ => rfl, fun _ _ _ => rfl, fun j kj hj => ?_, ?_⟩
    · rw [i_si, if_neg (fun z => hb z.1)]
    · have e1 : w_i (s_i w a k x) a j = w_i w a j := by rw [i_si, if_neg (fun z => hj z.2)]
      unfold f_v
      rw [e1, l_si, r_si]
    · unfold f_v
      have e1 : w_i (s_i w a k x) a k = x := by rw [i_si, if_pos ⟨rfl, rfl⟩]
      rw [if_neg h3, if_neg h4, e1]
  · have hw : w1 = s_l w a k x ∧ kd = 1 := by
      simp only [p_v] at h
      split at h
      · rename_i hk0; cases h; exact ⟨rfl, hk0⟩
      · cases h
    obtain ⟨rfl, h3⟩ := hw
    have hty : ty = .long := by cases ty <;> simp [k_d] at hk <;> first | rfl | (exfalso; omega)
    subst hty
    refine ⟨rfl, rfl, rfl, rfl, fun _ => rfl, fun _ => rfl, fun _ _ _ => rfl, fun b j hb => ?_, fun _ _ _ => rfl, fun j kj hj => ?_, ?_⟩
    · rw [l_sl, if_neg (fun z => hb z.1)]
    · have e1 : w_l (s_l w a k x) a j = w_l w a j := by rw [l_sl, if_neg (fun z => hj z.2)]
      unfold f_v
      rw [e1, i_sl, r_sl]
    · unfold f_v
      have e1 : w_l (s_l w a k x) a k = x := by rw [l_sl, if_pos ⟨rfl, rfl⟩]
      rw [if_pos h3, e1]
  · have hw : w1 = s_r w a k o ∧ kd = 2 := by
      simp only [p_v] at h
      split at h
      · rename_i hk0; cases h; exact ⟨rfl, hk0⟩
      · cases h
    obtain ⟨rfl, h3⟩ := hw
    have hv := tv_ref G o
    refine ⟨?_, ?_, rfl, rfl, fun _ => rfl, fun _ => rfl, fun _ _ _ => rfl, fun _ _ _ => rfl, fun b j hb => ?_, fun j kj hj => ?_, ?_⟩
    · rcases hv with hv | ⟨q, hv⟩ <;> rw [show tv_ G (Sum.inr (Sum.inr o)) = _ from hv] <;> cases ty <;> rfl
    · rcases hv with hv | ⟨q, hv⟩ <;> rw [show tv_ G (Sum.inr (Sum.inr o)) = _ from hv] <;> cases ty <;> simp [k_d] at hk <;> first | rfl | (exfalso; omega)
    · rw [r_sr, if_neg (fun z => hb z.1)]
    · have e1 : w_r (s_r w a k o) a j = w_r w a j := by rw [r_sr, if_neg (fun z => hj z.2)]
      unfold f_v
      rw [e1, i_sr, l_sr]
    · unfold f_v
      have e1 : w_r (s_r w a k o) a k = o := by rw [r_sr, if_pos ⟨rfl, rfl⟩]
      rw [h3, if_neg (by omega), if_pos rfl, e1]
theorem vp_of {j : Int32} {n : Nat} (h : in_r j n = true) : vp_in j n := by
  unfold in_r at h
  have h2 := of_decide_eq_true h
  exact h2
theorem f_oo {o i t k kd : Nat} {fin : Bool} (h : lk_3 f_T o i t = some (k, kd, fin)) : F_ok o i t k kd fin := f_ok _ (lk_3m h)
theorem g_oo {o i : Nat} {v : Vl} (h : lk_2 g_T o i = some v) : G_ok o i v := g_ok _ (lk_2m h)
theorem l_oo {o i : Nat} {v : Vl} (h : lk_2 l_T o i = some v) : L_ok o i v := l_ok _ (lk_2m h)
theorem n_oo {o i t n : Nat} (h : lk_2 n_T o i = some (t, n)) : N_ok o i t n := n_ok _ (lk_2m h)
theorem an_oo {o i t : Nat} (h : lk_2 a_T o i = some t) : AN_ok o i t := an_ok _ (lk_2m h)
theorem c_oo {o i t : Nat} {u : Unit} (h : lk_3 c_T o i t = some u) : C_ok o i t := c_ok _ (lk_3m h)
theorem s_oo {o i t : Nat} (h : lk_2 s_T o i = some t) : S_ok o i t := s_ok _ (lk_2m h)
theorem p_oo {o i t : Nat} (h : lk_2 p_T o i = some t) : P_ok o i t := p_ok _ (lk_2m h)
theorem v_oo {o i g t : Nat} (h : lk_3 v_T o i g = some t) : V_ok o i g t := v_ok _ (lk_3m h)
theorem b_oo {o i b : Nat} (h : lk_2 b_T o i = some b) : B_ok o i b := b_ok _ (lk_2m h)
theorem a_getfield {idx : Nat} (C : Cx_ p l R s m args meth c G w0 zE mi d) (hz : zE ≤ w_z w) (hsl : sE ≤ w_s w) (hr : w_z w1 - zE ≤ R.cells ∧ w_s w1 - sE ≤ R.slots) (hd : decode (m_c mi) pc = .ok (.getfield idx, 3)) (h : s_1 mi (.getfield idx) pc ls st w = some (pc1, ls1, st1, w1)) (k : WW_ p l e R s m args below meth c D G w0 Q (m_l mi) zE sE w1 ls1 st1 pc1) : WW_ p l e R s m args below meth c D G w0 Q (m_l mi) zE sE w ls st pc := by
  have C2 := C
  obtain ⟨hx, hb, hrt, hml, hown, hts, hlk, hini, hht, hN, hI, hst0, hRf, hRl, hE, hE0⟩ := C2
  intro H locs L hW hS hL
  simp only [s_1] at h
  split at h
  · rename_i a r
    split at h
    · rename_i kk kd fin hlk9
      obtain ⟨rfl, rfl, rfl, rfl⟩ := s4 h
      obtain ⟨ws, tys, hX, hsz⟩ := hW.parts
      rcases f_oo hlk9 with ⟨h20, CC, T, N, ref, hc, hk, hkd, hfin, hsame, hlnk⟩ | ⟨h18, hf⟩ | ⟨h17, rfl, rfl, hf⟩
      · obtain ⟨q, ha, haz, h41, hq⟩ := hX.obj hN h20
        have hce := cL_e hc
        have hv : (fl_ G w a (w_t w a - 20))[kk]? = some (tv_ G (f_v w a kk kd)) := by
          rw [fl_at (by rw [hce]; exact hk), hkd]
        have hin := (cl_ok _ _ _ _ hc).1
        rw [List.map_cons, tv_dyn ha]
        rcases hlnk with h1 | ⟨host, h2, hno⟩
        · exact va_get hx hb hts hin hown hX.1 hX.2.1 q hq hc kk hk (hts _ h1) (hsame s args hts) hv hd (k H locs L hW hS hL)
        · have hnw := hI.1 _ h2
          exact va_getN hx hb hts hin hown hX.1 hX.2.1 q hq hc kk hk (va_Nw.use rfl hnw) (hsame s args hts) hv hd (k H locs L hW hS hL)
      · have h18' : w_t w a = 18 := h18
        have ha := hX.con hN (a := a) (by omega) (by omega)
        obtain ⟨e1, e2, e3, e4⟩ := hX.2.2.2.2.2.2 a ha
        obtain ⟨q, hq, hO, hV, hCo⟩ := (hI.2.2.2.2.2.2.2.2.2.2.2.2.1 a ha).1 (by rw [← e1]; exact h18')
        have hkk := k H locs L hW hS hL
        rw [List.map_cons, tv_con ha hq]
        rcases hf with ⟨rfl, rfl, hf⟩ | ⟨rfl, rfl, hf⟩
        · have hv : f_v w a 0 2 = v_R (w_r w0 a 0) := by rw [← e4 0]; rfl
          rw [List.map_cons, hv] at hkk
          exact vk_getf hx hb hV hS hown (hts _ hf) (fun _ h => h) hd hkk
        · have hv : f_v w a 1 4 = v_I (w_i w0 a 1) := by rw [← e3 1]; rfl
          rw [List.map_cons, hv] at hkk
          exact vk_getf hx hb hCo hS hown (hts _ hf) (fun _ h => h) hd hkk
      · have h17' : w_t w a = 17 := h17
        have ha := hX.con hN (a := a) (by omega) (by omega)
        obtain ⟨e1, e2, e3, e4⟩ := hX.2.2.2.2.2.2 a ha
        obtain ⟨q, hq, hO, hV⟩ := (hI.2.2.2.2.2.2.2.2.2.2.2.2.1 a ha).2.1 (by rw [← e1]; exact h17')
        have hkk := k H locs L hW hS hL
        rw [List.map_cons, tv_con ha hq]
        have hv : f_v w a 0 0 = v_I (w_i w0 a 0) := by rw [← e3 0]; rfl
        rw [List.map_cons, hv] at hkk
        exact vk_getf hx hb hV hS hown (hts _ hf) (fun _ h => h) hd hkk
    · cases h
  · cases h
theorem a_putfield {idx : Nat} (C : Cx_ p l R s m args meth c G w0 zE mi d) (hz : zE ≤ w_z w) (hsl : sE ≤ w_s w) (hr : w_z w1 - zE ≤ R.cells ∧ w_s w1 - sE ≤ R.slots) (hd : decode (m_c mi) pc = .ok (.putfield idx, 3)) (h : s_1 mi (.putfield idx) pc ls st w = some (pc1, ls1, st1, w1)) (k : WW_ p l e R s m args below meth c D G w0 Q (m_l mi) zE sE w1 ls1 st1 pc1) : WW_ p l e R s m args below meth c D G w0 Q (m_l mi) zE sE w ls st pc := by
  have C2 := C
  obtain ⟨hx, hb, hrt, hml, hown, hts, hlk, hini, hht, hN, hI, hst0, hRf, hRl, hE, hE0⟩ := C2
  intro H locs L hW hS hL
  simp only [s_1] at h
  split at h
  · rename_i v a r
    split at h
    · rename_i kk kd fin hlk9
      split at h
      · rename_i hcond
        split at h
        · rename_i w9 hp9
          obtain ⟨rfl, rfl, rfl, rfl⟩ := s4 h
          obtain ⟨ws, tys, hX, hsz⟩ := hW.parts
          rcases f_oo hlk9 with ⟨h20, CC, T, N, ref, hc, hk, hkd, hfin, hsame, hlnk⟩ | ⟨h18, hf⟩ | ⟨h17, rfl, rfl, hf⟩
          · obtain ⟨q, ha, haz, h41, hq⟩ := hX.obj hN h20
            have hce := cL_e hc
            obtain ⟨hin, ty0, hty, hnm⟩ := cl_ok _ _ _ _ hc
            have hkd2 : k_d (ty0 kk) = kd := by
              rw [← hkd]
              unfold kd_
              rw [hce, hty kk hk]
            obtain ⟨hn1, hf1, gz, gs, gt, gn, gi, gl, gr, gf, gv⟩ := p_vi (G := G) hkd2 hp9
            have hfl : fl_ G w9 a (w_t w a - 20) = (fl_ G w a (w_t w a - 20)).set kk (tv_ G v) := fl_set (by rw [hce]; exact hk) (fun j hj => gf j _ hj) (by rw [hkd]; exact gv)
            have hlen : kk < (fl_ G w a (w_t w a - 20)).length := by rw [fl_len, hce]; exact hk
            have K2 : ∀ (H1 : Heap) (locs1 : List Loc), va_P D cL_ (ws.set q (G.1 + (a - 1000), .inr (w_t w a - 20, (fl_ G w a (w_t w a - 20)).set kk (tv_ G v)))) H1 → va_D (A_ G) (ws.set q (G.1 + (a - 1000), .inr (w_t w a - 20, (fl_ G w a (w_t w a - 20)).set kk (tv_ G v)))) → va_S (A_ G) s.heap H1 locs1 → W p l e R s m args below meth c H1 locs1 (w_z w - zE) (w_s w - sE) Q (F0 m (pc + 3) L (r.map (tv_ G))) := fun H1 locs1 hP1 hD1 hS1 => by
              have := fin_ C k (by rw [gz]; exact hz) (hX.put (w1 := w9) ha haz hq hP1 hD1 gz (fun b _ => gt b) (fun b _ => gn b) gi gl gr (Or.inl ⟨by rw [gt]; exact h20, by rw [gt]; exact h41, by rw [gt, hfl, List.getElem?_set_self (List.getElem?_eq_some_iff.mp hq).1]⟩)) hS1 hL
              rw [gz, gs] at this
              exact this
            rw [List.map_cons, List.map_cons, tv_dyn ha]
            cases fin with
            | false =>
              rcases hlnk with h1 | ⟨host, h2, hno⟩
              · exact va_put hx hb hts hin ty0 hty hnm hown hX.1 hX.2.1 hX.2.2.1 hS q hq hc kk hk (hts _ h1) (hsame s args hts) hfin (hty kk hk) hn1 hf1 hlen hd K2
              · have hnw := hI.1 _ h2
                exact va_putN hx hb hts hin ty0 hty hnm hown hX.1 hX.2.1 hX.2.2.1 hS q hq hc kk hk (va_Nw.use rfl hnw) (hsame s args hts) hfin (hty kk hk) hn1 hf1 hlen hd K2
            | true =>
              have hdecl : (T kk).1 = o_s (o_m mi) := by
                have := (hcond.1 rfl).2
                rw [hce] at this
                exact this
              rcases hlnk with h1 | ⟨host, h2, hno⟩
              · exact va_putF hx hb hts hin ty0 hty hnm hown hX.1 hX.2.1 hX.2.2.1 hS q hq hc kk hk (hts _ h1) (hsame s args hts) hfin (hini (hcond.1 rfl).1) hdecl (hty kk hk) hn1 hf1 hlen hd K2
              · exact absurd hdecl hno
          · have : w_t w a = 18 := h18
            omega
          · have : w_t w a = 17 := h17
            omega
        · cases h
      · cases h
    · cases h
  · cases h
end
