/-! THE RUN IS SOUND: what the run says, the machine does -/
set_option maxRecDepth 100000
/-- behind a throw -/
def Th_ (n d m pc : Nat) (ls : List (Option Vl)) (q : Nat) (w : Wd) (res : Rs × Wd) : Prop := (∃ h, h_m m pc (w_t w q) = some (some h) ∧ ex_ n d m h ls [v_R (some q)] w = some res) ∨ (h_m m pc (w_t w q) = some none ∧ res = (Sum.inr q, w))
theorem th_of {n d m pc : Nat} {ls : List (Option Vl)} {q : Nat} {w : Wd} {res : Rs × Wd} (h : (match h_m m pc (w_t w q) with
    | some (some h) => ex_ n d m h ls [v_R (some q)] w
    | some none => some (Sum.inr q, w)
    | none => none) = some res) : Th_ n d m pc ls q w res := by
  split at h
  · rename_i x hx
    exact Or.inl ⟨x, hx, h⟩
  · rename_i hx
    exact Or.inr ⟨hx, (Option.some.inj h).symm⟩
  · cases h
theorem ex_inv {n d m pc : Nat} {ls : List (Option Vl)} {st : List Vl} {w : Wd} {res : Rs × Wd} (h : ex_ (n + 1) d m pc ls st w = some res) : ∃ i len, decode (m_c m) pc = .ok (i, len) ∧ l_k i len = true ∧
    ((∃ pc1 ls1 st1 w1, s_1 m i pc ls st w = some (pc1, ls1, st1, w1) ∧ ex_ n d m pc1 ls1 st1 w1 = some res) ∨
     (∃ t as r d1 r1, s_c m i st w = some (t, as, r) ∧ d = d1 + 1 ∧ (e_a as).length ≤ m_l t ∧ ex_ n d1 t 0 (e_l (m_l t) as) [] w = some r1 ∧ ((∃ v : Option Vl, r1.1 = Sum.inl v ∧ ex_ n d m (pc + 3) ls (v.toList ++ r) r1.2 = some res) ∨ (∃ q, r1.1 = Sum.inr q ∧ Th_ n d m pc ls q r1.2 res))) ∨
     (∃ r, s_e m i st w = some (Sum.inl r) ∧ res = (Sum.inl r, w)) ∨ (∃ q, s_e m i st w = some (Sum.inr q) ∧ Th_ n d m pc ls q w res)) := by
  rw [ex_] at h
  split at h
  · rename_i i len hd
    split at h
    · rename_i hl
      refine ⟨i, len, hd, hl, ?_⟩
      split at h
      · rename_i pc1 ls1 st1 w1 h1
        exact Or.inl ⟨pc1, ls1, st1, w1, h1, h⟩
      · split at h
        · rename_i t as r hc
          refine Or.inr (Or.inl ⟨t, as, r, ?_⟩)
          cases d with
          | zero => cases h
          | succ d1 =>
            dsimp only at h
            split at h
            · rename_i hlen
              split at h
              · rename_i v w1 hx
                exact ⟨d1, (Sum.inl (some v), w1), hc, rfl, hlen, hx, Or.inl ⟨some v, rfl, h⟩⟩
              · rename_i w1 hx
                exact ⟨d1, (Sum.inl none, w1), hc, rfl, hlen, hx, Or.inl ⟨none, rfl, h⟩⟩
              · rename_i q w1 hx
                exact ⟨d1, (Sum.inr q, w1), hc, rfl, hlen, hx, Or.inr ⟨q, rfl, th_of h⟩⟩
              · cases h
            · cases h
        · split at h
          · rename_i r he
            exact Or.inr (Or.inr (Or.inl ⟨r, he, (Option.some.inj h).symm⟩))
          · rename_i q he
            exact Or.inr (Or.inr (Or.inr ⟨q, he, th_of h⟩))
          · cases h
    · cases h
  · cases h
theorem ex_m : ∀ (n d m pc : Nat) (ls : List (Option Vl)) (st : List Vl) (w : Wd) (res : Rs × Wd), ex_ n d m pc ls st w = some res → w_z w ≤ w_z res.2 ∧ w_s w ≤ w_s res.2 := by
  intro n
  induction n with
  | zero => intro d m pc ls st w res h; rw [ex_] at h; cases h
  | succ n ih =>
    intro d m pc ls st w res h
    have hth : ∀ {q w9}, Th_ n d m pc ls q w9 res → w_z w9 ≤ w_z res.2 ∧ w_s w9 ≤ w_s res.2 := fun {q w9} ht => by
      rcases ht with ⟨h9, -, he⟩ | ⟨-, he⟩
      · exact ih _ _ _ _ _ _ _ he
      · subst he; exact ⟨Nat.le_refl _, Nat.le_refl _⟩
    obtain ⟨i, len, hd, hl, hh⟩ := ex_inv h
    rcases hh with ⟨pc1, ls1, st1, w1, h1, h2⟩ | ⟨t, as, r, d1, r1, hc, hd1, hlen, hx, hh⟩ | ⟨r, he, hr⟩ | ⟨q, he, ht⟩
    · have a := s_1m h1
      have b := ih _ _ _ _ _ _ _ h2
      omega
    · have a := ih _ _ _ _ _ _ _ hx
      rcases hh with ⟨v, -, he⟩ | ⟨q, -, ht⟩
      · have b := ih _ _ _ _ _ _ _ he
        omega
      · have b := hth ht
        omega
    · subst hr; exact ⟨Nat.le_refl _, Nat.le_refl _⟩
    · exact hth ht
theorem h_fc {m pc t h : Nat} : ∀ {hh : List (Nat × Nat × Nat × Nat)}, h_f m pc t hh = some (some h) → ∃ pre x suf, hh = pre ++ x :: suf ∧ (∀ z ∈ pre, ¬ (z.1 ≤ pc ∧ pc < z.2.1) ∨ h_p m z.2.2.2 t = true) ∧ (x.1 ≤ pc ∧ pc < x.2.1) ∧ h_c m x.2.2.2 t = true ∧ x.2.2.1 = h := by
  intro hh
  induction hh with
  | nil => intro z; rw [h_f] at z; cases z
  | cons a r ih =>
    intro z
    rw [h_f] at z
    split at z
    · rename_i hr
      split at z
      · rename_i hc
        exact ⟨[], a, r, rfl, (by intro y hy; cases hy), hr, hc, Option.some.inj (Option.some.inj z)⟩
      · split at z
        · rename_i hp
          obtain ⟨pre, x, suf, e1, e2, e3⟩ := ih z
          refine ⟨a :: pre, x, suf, by rw [e1]; rfl, fun y hy => ?_, e3⟩
          rcases List.mem_cons.mp hy with rfl | hy
          · exact Or.inr hp
          · exact e2 y hy
        · cases z
    · rename_i hr
      obtain ⟨pre, x, suf, e1, e2, e3⟩ := ih z
      refine ⟨a :: pre, x, suf, by rw [e1]; rfl, fun y hy => ?_, e3⟩
      rcases List.mem_cons.mp hy with rfl | hy
      · exact Or.inl hr
      · exact e2 y hy
theorem h_fn {m pc t : Nat} : ∀ {hh : List (Nat × Nat × Nat × Nat)}, h_f m pc t hh = some none → ∀ z ∈ hh, ¬ (z.1 ≤ pc ∧ pc < z.2.1) ∨ h_p m z.2.2.2 t = true := by
  intro hh
  induction hh with
  | nil => intro _ z hz; cases hz
  | cons a r ih =>
    intro z y hy
    rw [h_f] at z
    split at z
    · split at z
      · cases z
      · split at z
        · rename_i hp
          rcases List.mem_cons.mp hy with rfl | hy
          · exact Or.inr hp
          · exact ih z y hy
        · cases z
    · rename_i hr
      rcases List.mem_cons.mp hy with rfl | hy
      · exact Or.inl hr
      · exact ih z y hy
section
variable {p : Program} {l : Launch} {e : Env} {R : Room} {s : State} {m : MethodId} {args : Array Value} {below : List Frame} {meth : Method} {c : Code} {D : va_G} {G : GG_} {w0 : Wd} {Q : State → Prop} {zE sE mi d pc : Nat} {ls : List (Option Vl)} {st r as : List Vl} {w : Wd} {res : Rs × Wd} {H : Heap} {locs : List Loc} {L : Array Slot} {cells slots : Nat} {rest : List Value} {q : Addr} {ce : Cell}
theorem cov_of {z : Nat × Nat × Nat × Nat} (h : ¬ (z.1 ≤ pc ∧ pc < z.2.1)) : covers ⟨z.1, z.2.1, z.2.2.1, z.2.2.2⟩ pc = false := by
  unfold covers
  by_cases a : z.1 ≤ pc
  · have b : ¬ pc < z.2.1 := fun b => h ⟨a, b⟩
    simp [b]
  · simp [a]
theorem cov_on {z : Nat × Nat × Nat × Nat} (h : z.1 ≤ pc ∧ pc < z.2.1) : covers ⟨z.1, z.2.1, z.2.2.1, z.2.2.2⟩ pc = true := by
  unfold covers
  simp [h.1, h.2]
theorem pass_ (C : Cx_ p l R s m args meth c G w0 zE mi d) {t : Nat} {z : Nat × Nat × Nat × Nat} (h : ¬ (z.1 ≤ pc ∧ pc < z.2.1) ∨ h_p mi z.2.2.2 t = true) : covers ⟨z.1, z.2.1, z.2.2.1, z.2.2.2⟩ pc = false ∨ ((⟨z.1, z.2.1, z.2.2.1, z.2.2.2⟩ : ExceptionTableEntry).catchType ≠ 0 ∧ ∃ nm : String, (Cond.classLink (o_s (o_m mi)) (⟨z.1, z.2.1, z.2.2.1, z.2.2.2⟩ : ExceptionTableEntry).catchType nm).before args s = true ∧ va_Nc (c_n t) nm s) := by
  obtain ⟨hx, hb, hrt, hml, hown, hts, hlk, hini, hht, hN, hI, hst0, hRf, hRl, hE, hE0⟩ := C
  rcases h with h | h
  · exact Or.inl (cov_of h)
  · unfold h_p at h
    obtain ⟨h1, h2, h3⟩ := of_decide_eq_true h
    refine Or.inr ⟨by show z.2.2.2 ≠ 0; omega, "java/util/NoSuchElementException", ?_, ?_⟩
    · rw [h1]
      show (Cond.classLink (o_s 0) z.2.2.2 _).before args s = true
      rw [h2]
      exact hts _ q1497
    · rw [h3]
      exact hI.2.2.2.2.2.2.2.2.2.1
/-- thrown, and caught here -/
theorem catch_ (C : Cx_ p l R s m args meth c G w0 zE mi d) {t h : Nat} (hh : h_m mi pc t = some (some h)) (hce : H[q]? = some ce) (hcv : ce.vm = .none) (hcl : s.vm.findClass (c_n t) = some ce.cls)
    (kk : W p l e R s m args below meth c H locs cells slots Q (F0 m h L [.ref q])) : vx_W p l e R s m args below meth c H locs cells slots Q (F0 m pc L rest) q := by
  have C0 := C
  obtain ⟨hx, hb, hrt, hml, hown, hts, hlk, hini, hht, hN, hI, hst0, hRf, hRl, hE, hE0⟩ := C
  unfold h_m at hh
  cases hm : m_h mi with
  | none => rw [hm] at hh; cases hh
  | some tb =>
    rw [hm] at hh hht
    obtain ⟨pre, x, suf, e1, e2, e3, e4, e5⟩ := h_fc hh
    subst e5
    unfold h_c at e4
    have e4 := of_decide_eq_true e4
    have hsp : c.exceptionTable.toList = tableOf pre ++ ⟨x.1, x.2.1, x.2.2.1, x.2.2.2⟩ :: tableOf suf := by
      rw [hht, e1]
      unfold tableOf
      rw [List.map_append, List.map_cons]
    have hps : ∀ z ∈ tableOf pre, covers z pc = false ∨ (z.catchType ≠ 0 ∧ ∃ nm : String, (Cond.classLink (o_s (o_m mi)) z.catchType nm).before args s = true ∧ va_Nc (c_n t) nm s) := by
      intro z hz
      unfold tableOf at hz
      obtain ⟨z0, hz0, rfl⟩ := List.mem_map.mp hz
      exact pass_ C0 (e2 z0 hz0)
    have key : ∀ nm : String, (Cond.classLink (o_s (o_m mi)) x.2.2.2 nm).before args s = true → (c_n t, nm) ∈ nC_L → x.2.2.2 ≠ 0 → vx_W p l e R s m args below meth c H locs cells slots Q (F0 m pc L rest) q := fun nm hl hn h0 =>
      vx_catch (own := o_s (o_m mi)) (name := nm) (E := c_n t) hown (tableOf pre) ⟨x.1, x.2.1, x.2.2.1, x.2.2.2⟩ (tableOf suf) hsp hps (cov_on e3) h0 hl ((hI.2.2.1 _ hn).use rfl) hce hcv hcl kk
    rcases e4 with ⟨a1, a2, a3⟩ | ⟨a1, a2, a3⟩ | ⟨a1, a2, a3⟩
    · refine key "java/lang/IllegalArgumentException" (by rw [a1, a2]; exact hts _ q1132) (by rw [a3]; decide +kernel) (by omega)
    · refine key "java/util/NoSuchElementException" (by rw [a1, a2]; exact hts _ q1497) (by rw [a3]; decide +kernel) (by omega)
    · refine key "TableTower$Fault" (by rw [a1, a2]; exact hts _ q1137) (by rw [a3]; decide +kernel) (by omega)
/-- thrown, and not caught here -/
theorem leave_ (C : Cx_ p l R s m args meth c G w0 zE mi d) {t : Nat} {Qc : Array Value → State → Outcome → State → Prop} {XC : String → Addr → State → State → Prop} {free : Addr → Prop} {mc ms : Nat} (hh : h_m mi pc t = some none) (hce : H[q]? = some ce) (hcv : ce.vm = .none) (hcl : s.vm.findClass (c_n t) = some ce.cls)
    (hx : ∀ U : State, U.heap = H → s.vm.Alike U.vm → XC (c_n t) q s U) (hf : ∀ z ∈ locs, free z.base) (hc : cells ≤ mc) (hs : slots ≤ ms) : vx_W p l e R s m args below meth c H locs cells slots (vx_MQ below Qc XC args s mc ms free) (F0 m pc L rest) q := by
  have C0 := C
  obtain ⟨hex, hb, hrt, hml, hown, hts, hlk, hini, hht, hN, hI, hst0, hRf, hRl, hE, hE0⟩ := C
  refine vx_outP (own := o_s (o_m mi)) (E := c_n t) hown hlk ?_ hce hcv hcl hx hf hc hs
  intro z hz
  unfold h_m at hh
  cases hm : m_h mi with
  | none =>
    rw [hm] at hht
    exact (hht z hz).elim
  | some tb =>
    rw [hm] at hh hht
    rw [hht] at hz
    unfold tableOf at hz
    obtain ⟨z0, hz0, rfl⟩ := List.mem_map.mp hz
    exact pass_ C0 (h_fn hh z0 hz0)
theorem ret_ (C : Cx_ p l R s m args meth c G w0 zE mi d) {i : Instr} {len : Nat} (hd : decode (m_c mi) pc = .ok (i, len)) (hl : l_k i len = true) {v : Option Vl} (h : s_e mi i st w = some (Sum.inl v)) : WW_ p l e R s m args below meth c D G w0 (vx_MQ below (Qc_ D G w0 (Sum.inl v, w)) (XC_ D G w0 (Sum.inl v, w)) args s (w_z w - zE) (w_s w - sE) (A_ G)) (m_l mi) zE sE w ls st pc := by
  obtain ⟨hex, hb, hrt, hml, hown, hts, hlk, hini, hht, hN, hI, hst0, hRf, hRl, hE, hE0⟩ := C
  obtain ⟨hpl, hdd, hl30, how, hk⟩ := m_okp mi
  intro H locs L hW hS hL
  have hq : ∀ t : State, t.heap = H → s.WarmedH t.vm → Qc_ D G w0 (Sum.inl v, w) args s (.returned (v.map (tv_ G))) t := fun t ht hw => ⟨⟨v, rfl, rfl⟩, by rw [ht]; exact hW.moved hw.alike, hS.F ht⟩
  refine vx_ret ?_
  cases i
  case ireturn =>
    have e9 : len = 1 := by simpa [l_k] using hl
    subst e9
    simp only [s_e] at h
    split at h
    · rename_i x
      split at h
      · rename_i hk0
        cases h
        have hr : meth.sig.returnType = some .int := by
          rw [hrt]
          rw [hk0] at hk
          revert hk
          cases m_r mi with
          | none => intro z; exact absurd z (by decide)
          | some ty => cases ty <;> intro z <;> first | rfl | (exfalso; simp [k_d] at z; done)
        exact W.iret hex hb hr hq hS.2.2 hd hlk
      · split at h
        · rename_i hh
          cases h
          obtain ⟨h3, ho⟩ := hh
          simp only [k_o, Bool.and_eq_true, decide_eq_true_eq] at ho
          have hn := nar_k (m_k mi) x
          rw [ho.1] at hn
          have hr : meth.sig.returnType = some (k_f (m_k mi)) := by
            rw [hrt]
            revert hk
            cases m_r mi with
            | none => intro z; dsimp only at z; omega
            | some ty =>
              intro z
              dsimp only at z
              rw [← z]
              rw [← z] at h3
              cases ty <;> first | rfl | (exfalso; simp [k_d] at h3; done)
          exact W.zret hex hb hr hn hq hS.2.2 hd hlk
        · cases h
    · cases h
  case lreturn =>
    have e9 : len = 1 := by simpa [l_k] using hl
    subst e9
    simp only [s_e] at h
    split at h
    · split at h
      · rename_i x hk0
        cases h
        have hr : meth.sig.returnType = some .long := by
          rw [hrt]
          rw [hk0] at hk
          revert hk
          cases m_r mi with
          | none => intro z; exact absurd z (by decide)
          | some ty => cases ty <;> intro z <;> first | rfl | (exfalso; simp [k_d] at z; done)
        exact W.lret hex hb hr hq hS.2.2 hd hlk
      · cases h
    · cases h
  case areturn =>
    have e9 : len = 1 := by simpa [l_k] using hl
    subst e9
    simp only [s_e] at h
    split at h
    · split at h
      · rename_i o hk0
        cases h
        rw [hk0] at hk
        cases hm : m_r mi with
        | none => rw [hm] at hk; exact absurd hk (by decide)
        | some ty =>
          rw [hm] at hk hrt
          have hty : (∃ n, ty = .object n) ∨ ∃ t, ty = .array t := by
            revert hk
            cases ty <;> intro z <;> first | exact Or.inl ⟨_, rfl⟩ | exact Or.inr ⟨_, rfl⟩ | (exfalso; simp [k_d] at z; done)
          refine W.aret hex hb hrt hty ?_ hq hS.2.2 hd hlk
          show va_rf (o.bind (ad_ G)) = .null ∨ ∃ a, va_rf (o.bind (ad_ G)) = .ref a
          cases o.bind (ad_ G) with
          | none => exact Or.inl rfl
          | some a => exact Or.inr ⟨a, rfl⟩
      · cases h
    · cases h
  case return_ =>
    have e9 : len = 1 := by simpa [l_k] using hl
    subst e9
    simp only [s_e] at h
    split at h
    · split at h
      · rename_i hk0
        cases h
        have hr : meth.sig.returnType = none := by
          rw [hrt]
          rw [hk0] at hk
          revert hk
          cases m_r mi with
          | none => intro _; rfl
          | some ty => cases ty <;> intro z <;> (exfalso; simp [k_d] at z; done)
        exact W.vret hex hb hr hq hS.2.2 hd hlk
      · cases h
    · cases h
  all_goals
    first
    | (simp only [s_e] at h; cases h; done)
    | (simp only [s_e] at h; split at h <;> (try split at h) <;> cases h)
end
/-- the run is sound -/
theorem run_ {l : Launch} {D : va_G} {G : GG_} {w0 : Wd} (hst : l.stackTraces = false) (hN : GN_ G w0) : ∀ (n d mi pc : Nat) (ls : List (Option Vl)) (st : List Vl) (w : Wd) (res : Rs × Wd), ex_ n d mi pc ls st w = some res → Run_ l D G w0 d mi pc ls st w res := by
  intro n
  induction n with
  | zero => intro d mi pc ls st w res h; rw [ex_] at h; cases h
  | succ n ih =>
    intro d mi pc ls st w res h p e R s m args below meth c zE sE C hz hsl hrz hrs
    obtain ⟨i, len, hd, hl, hh⟩ := ex_inv h
    have hI := C.2.2.2.2.2.2.2.2.2.2.1
    have hthrow : ∀ {q : Nat} {w9 : Wd} {H : Heap} {locs : List Loc} {L : Array Slot} {ce : Cell} {rest : List Value}, Th_ n d mi pc ls q w9 res → zE ≤ w_z w9 → sE ≤ w_s w9 → RW_ D G w0 w9 s H → va_S (A_ G) s.heap H locs → LH_ G L ls (m_l mi) → 1000 ≤ q → 39 ≤ w_t w9 q → w_t w9 q ≤ 41 → H[G.1 + (q - 1000)]? = some ce → ce.vm = .none → s.vm.findClass (c_n (w_t w9 q)) = some ce.cls →
        vx_W p l e R s m args below meth c H locs (w_z w9 - zE) (w_s w9 - sE) (vx_MQ below (Qc_ D G w0 res) (XC_ D G w0 res) args s (w_z res.2 - zE) (w_s res.2 - sE) (A_ G)) (F0 m pc L rest) (G.1 + (q - 1000)) := by
      intro q w9 H locs L ce rest ht hz9 hs9 hW hS hL hq h39 h41 hce hcv hcl
      rcases ht with ⟨h9, hh9, he⟩ | ⟨hh9, he⟩
      · refine catch_ C hh9 hce hcv hcl ?_
        have kk := ih _ _ _ _ _ _ _ he p e R s m args below meth c zE sE C hz9 hs9 hrz hrs H locs L hW hS hL
        rw [List.map_cons, tv_dyn hq] at kk
        exact kk
      · subst he
        exact leave_ C hh9 hce hcv hcl (fun U hU hA => ⟨⟨q, rfl, hq, rfl, rfl, h39, h41⟩, by rw [hU]; exact hW.moved hA, hS.F hU⟩) hS.2.2 (Nat.le_refl _) (Nat.le_refl _)
    rcases hh with ⟨pc1, ls1, st1, w1, h1, h2⟩ | ⟨t, as, r, d1, r1, hc, rfl, hlen, hx, hh⟩ | ⟨r, he, rfl⟩ | ⟨q, he, ht⟩
    · have a := s_1m h1
      have b := ex_m _ _ _ _ _ _ _ _ h2
      exact st_1 C hz hsl ⟨by omega, by omega⟩ hd hl h1 (ih _ _ _ _ _ _ _ h2 p e R s m args below meth c zE sE C (by omega) (by omega) hrz hrs)
    · have a := ex_m _ _ _ _ _ _ _ _ hx
      have b := ex_m _ _ _ _ _ _ _ _ h
      have b2 : w_z r1.2 ≤ w_z res.2 ∧ w_s r1.2 ≤ w_s res.2 := by
        rcases hh with ⟨v, -, he⟩ | ⟨q, -, ⟨h9, -, he⟩ | ⟨-, he⟩⟩
        · exact ex_m _ _ _ _ _ _ _ _ he
        · exact ex_m _ _ _ _ _ _ _ _ he
        · subst he; exact ⟨Nat.le_refl _, Nat.le_refl _⟩
      have hM : Met_ l D G w0 d1 t as w r1 := met_of hst hN hlen (ih _ _ _ _ _ _ _ hx)
      intro H locs L hW hS hL
      have hv : VR_ p l e R s m args below meth c D G w0 zE sE pc L st r as w r1 H locs := by
        cases i
        case invokestatic idx =>
          have e9 : len = 3 := by simpa [l_k] using hl
          subst e9
          simp only [s_c] at hc
          split at hc
          · rename_i t9 ht9
            split at hc
            · rename_i hh9
              cases hc
              exact run_S C hW hS hL hd (s_ok _ (lk_2m ht9)) hM hh9.1 hh9.2 ⟨by omega, by omega⟩
            · cases hc
          · cases hc
        case invokespecial idx =>
          have e9 : len = 3 := by simpa [l_k] using hl
          subst e9
          simp only [s_c] at hc
          split at hc
          · rename_i t9 ht9
            split at hc
            · rename_i a9 r9 hdr
              split at hc
              · rename_i hh9
                cases hc
                exact run_P C hW hS hL hd (p_ok _ (lk_2m ht9)) hM hdr hh9.1 hh9.2 ⟨by omega, by omega⟩
              · cases hc
            · cases hc
          · cases hc
        case invokevirtual idx =>
          have e9 : len = 3 := by simpa [l_k] using hl
          subst e9
          simp only [s_c] at hc
          split at hc
          · rename_i n9 hn9
            split at hc
            · rename_i a9 r9 hdr
              split at hc
              · rename_i t9 ht9
                split at hc
                · rename_i hh9
                  cases hc
                  obtain ⟨hh8, rfl⟩ := hh9
                  exact run_V C hW hS hL hd (v_ok _ (lk_3m ht9)) hM hdr hh8 ⟨by omega, by omega⟩
                · cases hc
              · cases hc
            · cases hc
          · cases hc
        all_goals exact absurd hc (by simp [s_c])
      refine call_f C hz hsl a hS hL hv ?_ ?_
      · intro v hv1
        rcases hh with ⟨v2, hv2, he⟩ | ⟨q, hq, -⟩
        · cases hv1.symm.trans hv2
          exact ih _ _ _ _ _ _ _ he p e R s m args below meth c zE sE C (by omega) (by omega) hrz hrs
        · cases hv1.symm.trans hq
      · intro a9 hv1 ha h39 h41 H1 locs1 ce hW1 hS1 hce hcv hcl
        rcases hh with ⟨v2, hv2, he⟩ | ⟨q, hq, ht⟩
        · cases hv1.symm.trans hv2
        · cases hv1.symm.trans hq
          exact hthrow ht (by omega) (by omega) hW1 hS1 hL ha h39 h41 hce hcv hcl
    · exact ret_ C hd hl he
    · intro H locs L hW hS hL
      cases i
      case athrow =>
        have e9 : len = 1 := by simpa [l_k] using hl
        subst e9
        simp only [s_e] at he
        split at he
        · split at he
          · rename_i q9 r9 h9
            cases he
            obtain ⟨ws, tys, hX, hsz⟩ := hW.parts
            obtain ⟨q0, ha, haz, h41, hq⟩ := hX.obj hN (a := q) (by omega)
            rw [List.map_cons, tv_dyn ha]
            obtain ⟨q', g0, cell, g1, g2, g3, -⟩ := hX.2.1 q0 _ hq
            have hcn : c_n (w_t w q) = (c_e (w_t w q - 20)).1 := by
              unfold c_n
              rw [if_neg (by omega), if_neg (by omega)]
            have hcat := c_at (show w_t w q - 20 < 22 by omega)
            refine vx_athrow C.1 C.2.1 hd (hthrow ht hz hsl hW hS hL ha h9.1 h9.2 g1 g3 ?_)
            rw [hcn, g2]
            exact (hX.1.1 _ _ hcat).2.1
          · cases he
        · cases he
      all_goals
        first
        | (simp only [s_e] at he; cases he; done)
        | (simp only [s_e] at he; split at he <;> (try split at he) <;> (try split at he) <;> cases he)
