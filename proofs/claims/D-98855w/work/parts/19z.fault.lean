/-! A FAULT IS MADE: its cell, and its constructor with the one above it -/
set_option maxRecDepth 100000
def y_B : List Cond := nD_L.map Cond.declares ++ nC_L.map (fun e => Cond.castable e.1 e.2)
def at9 (own : String) (ic : Nat) (K : String) (names : List String) (X : String) (N : Nat) : List Cond := Bundle.throwableAtoms ++ Bundle.chain0Atoms K names ++
  [.methodLink own ic (Bundle.init0 K), .instantiable X N, .selects X Bundle.tFill0 Bundle.tFill0, .selects X Bundle.tFill Bundle.tFill,
   .lays X Bundle.tN "cause" "Ljava/lang/Throwable;", .lays X Bundle.tN "stackTrace" Bundle.steD, .lays X Bundle.tN "suppressedExceptions" Bundle.listD,
   .isRef (.static Bundle.tN "UNASSIGNED_STACK" Bundle.steD), .isRef (.static Bundle.tN "SUPPRESSED_SENTINEL" Bundle.listD),
   .fieldLink Bundle.tN 198 Bundle.tN "backtrace" "Ljava/lang/Object;", .lays Bundle.tN Bundle.tN "backtrace" "Ljava/lang/Object;", .lays X Bundle.tN "backtrace" "Ljava/lang/Object;"]
abbrev at_F : List Cond := at9 "TableTower$Fault" 1 "java/lang/Exception" [] "TableTower$Fault" 8
theorem y_gF : ∀ w ∈ (at_F.filter vx_no).filter goodWord, w ∈ lw_all := lw_in _ [112, 200, 209, 213, 216, 218, 201, 202, 154, 155, 203, 208, 214, 454, 190, 455, 192, 456, 194, 204, 206, 196, 1149, 1150, 1151, 201, 1292, 1281, 1283, 211, 1284, 1285, 1286, 199, 198, 1288] (by decide +kernel) (by decide +kernel)
theorem y_bF : ∀ w ∈ (at_F.filter vx_no).filter (fun w => !goodWord w), w ∈ y_B := by decide +kernel
section
variable {p : Program} {l : Launch} {e : Env} {R : Room} {s : State} {m₀ : MethodId} {args : Array Value} {below : List Frame} {meth : Method} {c : Code} {W : State} {locs : List Loc} {cells slots : Nat}
set_option maxHeartbeats 1000000 in
theorem vx_ctor9 (X : Stand p l e R s m₀ args below meth c W locs cells slots) (hexec : p.tables.exec = Jvm.exec) (htr : e.platform.stackTraces = false) {own K cls : String} {names : List String} {ic N : Nat}
    (hown : s.vm.findClass own = some m₀.cls) (hK : Bundle.fit K = true) (hnames : ∀ n ∈ names, Bundle.fit n = true)
    (h : ∀ a ∈ at9 own ic K names cls N, a.before args s = true)
    (hlocs : ∀ x ∈ locs, ∀ cell, s.heap[x.base]? = some cell → cell.vm.isStatics = false)
    {a : Addr} {cX : ClassId} {cell : Cell} (hfoundX : s.vm.findClass cls = some cX) (hcell : W.heap[a]? = some cell) (hcC : cell.cls = cX) (hcV : cell.vm = .none) (hmo : cell.monitor.owner = none) (hmc : cell.monitor.count = 0) {c0 : Cell} (hs0 : s.heap[a]? = some c0) (hs1 : c0.vm.isStatics = false)
    {iC iS iP iB : Nat} (sC : SlotIs s Bundle.tN "cause" "Ljava/lang/Throwable;" iC) (sS : SlotIs s Bundle.tN "stackTrace" Bundle.steD iS) (sP : SlotIs s Bundle.tN "suppressedExceptions" Bundle.listD iP) (sB : SlotIs s Bundle.tN "backtrace" "Ljava/lang/Object;" iB)
    (lC : iC < cell.slots.size) (lS : iS < cell.slots.size) (lP : iP < cell.slots.size) (lB : cell.slots[iB]? = some .null)
    {g : JFrame} (hg : g.method = m₀) (hsize : g.locals.size = c.maxLocals) {rest : List Value} (hstack : g.stack = .ref a :: rest)
    (hd6 : decode c.code g.pc = .ok (.invokespecial ic, 3))
    (hRframes : names.length + 3 < R.frames) (hRlocals : 2 * g.monitorRoom + (rest.map fun v => v.category).sum + (13 * (names.length + 1) + 41) ≤ R.locals) :
    ∃ (V : State) (ce : Cell) (L : List Loc), Stand p l e R s m₀ args below meth c (V.setCell a ce) (locs ++ L) cells slots ∧ (∀ y ∈ L, y.base = a) ∧ V.heap = W.heap ∧ ce.cls = cX ∧ ce.vm = .none ∧ (∀ i, i ≠ iC → i ≠ iS → i ≠ iP → ce.slots[i]? = cell.slots[i]?) ∧
      ∀ target, Steps p.tables e below ((V.setCell a ce).setTop { g with stack := rest, pc := g.pc + 3 }) target → Steps p.tables e below (W.setTop g) target := by
  have howns : e.platform.frameOwnsMonitors = true := by rw [X.admits.platform]
  have hfin : e.platform.finalization = false := by rw [X.admits.platform]
  have hpl : e.platform.magicAccessors = ({} : Platform).magicAccessors := by rw [X.admits.platform]
  have a' : ∀ x, x ∈ at9 own ic K names cls N → x.holds args s none s [] = true := fun x hx => h x hx
  obtain ⟨T, Z, L, LZ, Y⟩ := ThrowableC.of_atoms (args := args) howns hfin hpl (fun x hx => h x (by simp [at9, hx]))
  obtain ⟨P1, Ps, hlen, L1, hL, hP1m, hlink1, hlink⟩ := Bundle.chain0 (args := args) hpl Y.init0 names K hK hnames (fun x hx => h x (by simp [at9, hx]))
  obtain ⟨c1, kX, hc1, hk, hord, -, -, hn6⟩ := Cond.instantiable_spec (a' (.instantiable cls N) (by simp [at9]))
  cases Option.some.inj (hc1.symm.trans hfoundX)
  have hsel0 : selectMethod e.platform s.vm cX T.fill0 = .method T.fill0 := by
    obtain ⟨c2, r2, m2, q1, q2, q3, q4, -⟩ := Cond.selects_spec (a' (.selects cls Bundle.tFill0 Bundle.tFill0) (by simp [at9]))
    cases Option.some.inj (q1.symm.trans hfoundX)
    cases Option.some.inj (q2.symm.trans (State.methodFound?_of_named Y.fill0 (by decide)))
    cases Option.some.inj (q3.symm.trans Y.fill0)
    rw [Launch.admits_selectMethod X.admits]; exact q4
  have hselF : selectMethod e.platform s.vm cX T.fill = .method T.fill := by
    obtain ⟨c2, r2, m2, q1, q2, q3, q4, -⟩ := Cond.selects_spec (a' (.selects cls Bundle.tFill Bundle.tFill) (by simp [at9]))
    cases Option.some.inj (q1.symm.trans hfoundX)
    cases Option.some.inj (q2.symm.trans (State.methodFound?_of_named Y.fill (by decide)))
    cases Option.some.inj (q3.symm.trans Y.fill)
    rw [Launch.admits_selectMethod X.admits]; exact q4
  obtain ⟨cellS0, hcS0, hiss⟩ := Y.statics
  obtain ⟨u0, hu0⟩ := Cond.staticRefV Y.unassigned L.unassignedStatic L.statics hcS0 hiss (a' (.isRef (.static Bundle.tN "UNASSIGNED_STACK" Bundle.steD)) (by simp [at9]))
  obtain ⟨sen, hsen⟩ := Cond.staticRefV Y.sentinel L.sentinelStatic L.statics hcS0 hiss (a' (.isRef (.static Bundle.tN "SUPPRESSED_SENTINEL" Bundle.listD)) (by simp [at9]))
  obtain ⟨ci198, i198, fB, hk198, hg198, ha198, hsB, -, hnB, htB, hffB⟩ := Cond.ownField (t := .object "java/lang/Object") Y.found L.cls (by decide +kernel) (a' (.fieldLink Bundle.tN 198 Bundle.tN "backtrace" "Ljava/lang/Object;") (by simp [at9])) (a' (.lays Bundle.tN Bundle.tN "backtrace" "Ljava/lang/Object;") (by simp [at9])) e.platform hpl
  obtain ⟨cellS, hcS', heS, -, hkeep⟩ := X.same.2.2.2.2.2 T.aS cellS0 hcS0
  have hcellS : W.heap[T.aS]? = some cellS := hcS'
  have hout' : ∀ i, (⟨T.aS, i⟩ : Loc) ∉ locs := fun i hmem => by
    have := hlocs _ hmem cellS0 hcS0
    rw [hiss] at this; cases this
  have hknownS : cellS.vm ≠ .unknown := by
    rw [heS]; intro hu
    rw [show cellS0.vm = .unknown from hu] at hiss
    cases hiss
  have hneS : T.aS ≠ a := fun z => by
    rw [z] at hcS0
    cases Option.some.inj (hcS0.symm.trans hs0)
    rw [hiss] at hs1
    cases hs1
  obtain ⟨tyC, dC, hdC, hdnC⟩ := Cond.laysAt hfoundX hk Y.cause (a' (.lays cls Bundle.tN "cause" "Ljava/lang/Throwable;") (by simp [at9]))
  obtain ⟨tyS, dS, hdS, hdnS⟩ := Cond.laysAt hfoundX hk Y.stack (a' (.lays cls Bundle.tN "stackTrace" Bundle.steD) (by simp [at9]))
  obtain ⟨tyP, dP, hdP, hdnP⟩ := Cond.laysAt hfoundX hk Y.supp (a' (.lays cls Bundle.tN "suppressedExceptions" Bundle.listD) (by simp [at9]))
  obtain ⟨tyB, dB, hdB, hdnB⟩ := Cond.laysAt hfoundX hk hffB (a' (.lays cls Bundle.tN "backtrace" "Ljava/lang/Object;") (by simp [at9]))
  have bC := Cond.laysApart hdB hdC hdnB hdnC (by rw [hnB, Y.causeName]; decide)
  have bS := Cond.laysApart hdB hdS hdnB hdnS (by rw [hnB, Y.stackName]; decide)
  have bP := Cond.laysApart hdB hdP hdnB hdnP (by rw [hnB, Y.suppName]; decide)
  obtain ⟨_, _, _, _, hfC, rfl⟩ := sC
  cases Option.some.inj (hfC.symm.trans Y.cause)
  obtain ⟨_, _, _, _, hfS, rfl⟩ := sS
  cases Option.some.inj (hfS.symm.trans Y.stack)
  obtain ⟨_, _, _, _, hfP, rfl⟩ := sP
  cases Option.some.inj (hfP.symm.trans Y.supp)
  obtain ⟨_, _, _, _, hfB, rfl⟩ := sB
  cases Option.some.inj (hfB.symm.trans hffB)
  have tk : ∀ {f : Field} {v : Value}, kX.instanceTypes[f.slot]? = some f.type → f.slot < cell.slots.size → fits f.type v = true → Takes s cell f v := fun {f v} hty hl hv => ⟨hl, by rw [hcC, hcV]; simp [State.fitsSlot, State.slotType?, hk, hord, hty, hv]⟩
  have hskip : SkipFacts T e.platform s (fun u => u) u0 ((preparedCellV T.toThrowableT cell a u0 sen).withEntry W.cur) :=
    ⟨{ ci198 := ci198, i198 := i198, fBack := fB }, ⟨hk198, hg198, ha198, hsB⟩, by
      simpa [preparedCellV, Cell.setSlot, Cell.withEntry, Array.getElem?_setIfInBounds, bC, bS, bP, bC.symm, bS.symm, bP.symm] using lB, fun _ _ => rfl⟩
  obtain ⟨tm, methC, cdC, kC, vm₁, hnC, -, -, -, -, -, -, -, hW₁, st1⟩ := Steps.initCold (tb := p.tables) (e := e) (below := below) (s := s) (U := W) X.here hexec X.warmed hpl hown (t := Bundle.init0 K) rfl rfl (Bundle.fit_spec hK).2
    (a' (.methodLink own ic (Bundle.init0 K)) (by simp [at9])) (h (.instanceMethod (Bundle.init0 K)) (by cases names <;> simp [at9, Bundle.chain0Atoms, Bundle.passAtoms])) (bytes := Bundle.five) (maxL := 1) (h (.code (Bundle.init0 K) Bundle.five 1 none) (by cases names <;> simp [at9, Bundle.chain0Atoms, Bundle.passAtoms]))
    (f := g) hg (a := a) (rest := rest) hstack hd6
  cases Option.some.inj (hnC.symm.trans hP1m)
  have X₁ := X.noted hW₁
  obtain ⟨vm₂, X₂, st2⟩ := X₁.ctorPlainOffV hexec (g := { g with stack := rest }) hg hsize T L Z LZ (P1 :: Ps)
    (fun P hP => by rcases List.mem_cons.mp hP with rfl | hP; exact L1; exact hL P hP) ⟨hlink1, hlink⟩ (u0 := u0) (sen := sen) (self := a) (cell := cell) (cellS := cellS)
    hcell (fun k => by rw [hcV]; simp) (by rw [hcV]; simp) hmo hmc (by rw [hcC]; exact hsel0) (by rw [hcC]; exact hselF) hcellS hneS hknownS (by rw [hkeep _ (hout' _)]; exact hu0) (by rw [hkeep _ (hout' _)]; exact hsen)
    (tk tyC lC (by rw [Y.causeType]; rfl)) (tk tyS lS (by rw [Y.stackType]; exact fits_refV_array _ u0)) (tk tyP lP (by rw [Y.suppType]; exact fits_refV_object _ sen)) Y.objLocals hskip htr [] hd6
    (by simp only [List.length_cons, hlen]; omega) (by simp only [List.length_cons, hlen]; exact hRlocals)
  refine ⟨(W.setVm vm₁).setVm vm₂, _, _, X₂, fun y hy => ?_, rfl, hcC, hcV, fun i h1 h2 h3 => ?_, fun target hwalk => st1 _ (fun acts => ?_)⟩
  · simp only [List.mem_cons, List.not_mem_nil, or_false] at hy
    rcases hy with rfl | rfl | rfl | rfl <;> rfl
  · simp [preparedCellV, Cell.setSlot, Array.getElem?_setIfInBounds, h1.symm, h2.symm, h3.symm]
  · rw [doInvoke_state]
    exact st2 _ hwalk
end
def PcF (D : va_G) (G : GG_) (w0 : Wd) (a : Nat) (k pl : Int32) : Array Value → State → Prop := fun av U => av = ([v_R (some a), v_I k, v_I pl].map (tv_ G)).toArray ∧ GI_ G w0 U U.heap ∧ va_K D cL_ [] U ∧ ∃ cell : Cell, U.heap[G.1 + (a - 1000)]? = some cell ∧ cell.cls = D.1 7 ∧ cell.vm = .none ∧ cell.monitor.owner = none ∧ cell.monitor.count = 0 ∧ ∀ j, j < 8 → cell.slots[D.2 7 j]? = some (defaultValue (tyX9 j))
def QcF (D : va_G) (G : GG_) (a : Nat) (k pl : Int32) : Array Value → State → Outcome → State → Prop := fun _ st o t => o = .returned none ∧ t_OB (G.1 + (a - 1000)) (D.1 21) 2 (D.2 21) t.heap (vp_V [.int k, .int pl]) ∧ va_F (fun z => z = G.1 + (a - 1000)) st t
def rmF : Room := { frames := 6, cells := 0, slots := 0, locals := 200 }
theorem slotIs_eq {s : State} {C f d : String} {i j : Nat} (h1 : SlotIs s C f d i) (h2 : SlotIs s C f d j) : i = j := by
  obtain ⟨_, _, _, _, e1, rfl⟩ := h1
  obtain ⟨_, _, _, _, e2, rfl⟩ := h2
  cases Option.some.inj (e1.symm.trans e2)
  rfl
theorem y_Bh {s : State} {args : Array Value} {G : GG_} {w0 : Wd} (hI : GI_ G w0 s s.heap) : ∀ w ∈ y_B, w.before args s = true := by
  intro w hw
  rcases List.mem_append.mp hw with h | h
  · obtain ⟨e, he, rfl⟩ := List.mem_map.mp h
    exact va_Nw.use rfl (hI.2.2.2.1 e he)
  · obtain ⟨e, he, rfl⟩ := List.mem_map.mp h
    exact va_Nw.use rfl (hI.2.2.1 e he)
theorem c_7 : cL_[7]? = some (RX9, TX9, 8) := rfl
theorem c_21 : cL_[21]? = some (RX9, TXF, 2) := rfl
set_option maxHeartbeats 1000000 in
theorem met_F {l : Launch} {D : va_G} {G : GG_} {w0 : Wd} {a : Nat} {k pl : Int32} (hst : l.stackTraces = false) (hN : GN_ G w0) (ha : 1000 ≤ a) : vx_Met l (m_y 284) (ws_ (m_y 284) (m_c 284) (m_l 284) (m_r 284)) rmF (PcF D G w0 a k pl) (QcF D G a k pl) (fun _ _ _ _ => False) 0 0 (fun z => z = G.1 + (a - 1000)) := by
  refine vx_ofW (cc := m_c 284) (maxL := m_l 284) (ret := m_r 284) (by decide +kernel) rfl ?_
  intro p e s m args below meth c s₁ B hml hno hv
  obtain ⟨rfl, hI, hK, cell, hcell, hcC, hcV, hmo, hmc, hsl⟩ := hv
  have hts0 := atoms_spec (ws := ws_ (m_y 284) (m_c 284) (m_l 284) (m_r 284)) B.pre
  have hts : ∀ w ∈ lw_all, w.before _ s = true := fun w h => hts0 w (List.mem_cons_of_mem _ h)
  have hown : s.vm.findClass "TableTower$Fault" = some m.cls := findClass_of_methodNamed B.named
  have hx := B.exec
  have hb : c.code = cX9_init := B.bytes
  have hL := LH_.entry G [v_R (some a), v_I k, v_I pl] (n := 3) (Nat.le_refl 3)
  have htv : tv_ G (v_R (some a)) = .ref (G.1 + (a - 1000)) := by
    show va_rf (ad_ G a) = _
    unfold ad_
    rw [if_neg (by omega)]
    rfl
  rw [lg_entry_eq]
  obtain ⟨L, hLd⟩ : ∃ z, z = (lg_sl ([v_R (some a), v_I k, v_I pl].map (tv_ G)) ++ List.replicate (3 - (lg_sl ([v_R (some a), v_I k, v_I pl].map (tv_ G))).length) Slot.unset).toArray := ⟨_, rfl⟩
  rw [← hLd] at hL
  show W p l e (headSpec _ rmF).room s m _ below meth c s.heap [] 0 0 _ (F0 m 0 (lg_sl ([v_R (some a), v_I k, v_I pl].map (tv_ G)) ++ List.replicate (3 - (lg_sl ([v_R (some a), v_I k, v_I pl].map (tv_ G))).length) Slot.unset).toArray [])
  rw [← hLd]
  have h0 : L[0]? = some (.val (.ref (G.1 + (a - 1000)))) := by rw [← htv]; exact hL.get rfl
  have h1 : L[1]? = some (.val (.int k)) := hL.get (v := v_I k) rfl
  have h2 : L[2]? = some (.val (.int pl)) := hL.get (v := v_I pl) rfl
  have hsz : L.size = c.maxLocals := by rw [hml]; exact hL.1.1
  refine lv_aload_n hx hb dX9_init_0 rfl h0 ?_
  intro T hT X
  have htr : e.platform.stackTraces = false := (show e.platform.stackTraces = l.stackTraces by rw [X.admits.platform]).trans hst
  have hU := hI.2.2.2.2.2.2.2.2.2.2.1
  have hSn := hI.2.2.2.2.2.2.2.2.2.2.2.1
  have hat := vx_own (L := at_F) (vx_hat (fun w hw => hts _ (y_gF w hw)) y_bF (y_Bh hI)) (vx_isRefq hU.1) (vx_isRefq hSn.1) hU.2.word hSn.2.word
  have hK7 := hK.1 7 _ c_7
  have hK21 := hK.1 21 _ c_21
  have hcl : D.1 21 = D.1 7 := Option.some.inj (hK21.2.1.symm.trans hK7.2.1)
  have hap := va_apart (own := "TableTower$Fault") hts in_X9 tyX9 tyX9_ok nmX9 hK c_7
  have i6 : D.2 21 0 = D.2 7 6 := slotIs_eq (hK21.1 0 (by decide)) (hK7.1 6 (by decide))
  have i7 : D.2 21 1 = D.2 7 7 := slotIs_eq (hK21.1 1 (by decide)) (hK7.1 7 (by decide))
  have lt : ∀ j, j < 8 → D.2 7 j < cell.slots.size := fun j hj => (Array.getElem?_eq_some_iff.mp (hsl j hj)).1
  obtain ⟨V, ce, L9, X', hL9, hVh, hceC, hceV, hceS, stp⟩ := vx_ctor9 X hx htr (own := "TableTower$Fault") (K := "java/lang/Exception") (names := []) (ic := 1) (cls := "TableTower$Fault") (N := 8) hown (by decide +kernel) (fun _ h => nomatch h) hat (fun _ h => nomatch h) (a := G.1 + (a - 1000)) (cell := cell) hK7.2.1 (by rw [hT]; exact hcell) hcC hcV hmo hmc hcell (by rw [hcV]; rfl)
    (hK7.1 0 (by decide)) (hK7.1 1 (by decide)) (hK7.1 2 (by decide)) (hK7.1 4 (by decide)) (lt 0 (by decide)) (lt 1 (by decide)) (lt 2 (by decide)) (hsl 4 (by decide))
    (g := F0 m 1 L [.ref (G.1 + (a - 1000))]) rfl hsz (rest := []) rfl (by rw [hb]; exact dX9_init_1) (by decide) (by show 2 * 0 + 0 + (13 * (0 + 1) + 41) ≤ 200; decide)
  have hltH : G.1 + (a - 1000) < V.heap.size := by rw [hVh, hT]; exact (Array.getElem?_eq_some_iff.mp hcell).1
  have hHc : (V.setCell (G.1 + (a - 1000)) ce).heap[G.1 + (a - 1000)]? = some ce := heapAt_setCell_self (s := V) ce hltH
  have hHo : ∀ q : Nat, q ≠ G.1 + (a - 1000) → (V.setCell (G.1 + (a - 1000)) ce).heap[q]? = s.heap[q]? := fun q hq => by rw [heapAt_setCell_ne ce hq.symm, hVh, hT]
  have hHz : (V.setCell (G.1 + (a - 1000)) ce).heap.size = s.heap.size := by
    show (V.heap.setIfInBounds _ _).size = _
    rw [Array.size_setIfInBounds, hVh, hT]
  have hP1 : va_P D cL_ [(G.1 + (a - 1000), .inr (21, [.int 0, .int 0]))] (V.setCell (G.1 + (a - 1000)) ce).heap := fun j x hx => by
    have hz : j < 1 := (List.getElem?_eq_some_iff.mp hx).1
    rw [show j = 0 by omega] at hx
    cases hx
    refine ⟨_, c_21, ce, hHc, by rw [hceC]; exact hcl.symm, hceV, fun j hj => ?_⟩
    have hj : j < 2 := hj
    rcases (show j = 0 ∨ j = 1 by omega) with rfl | rfl
    · show ce.slots[D.2 21 0]? = some (.int 0)
      rw [i6, hceS _ (hap 6 0 (by decide) (by decide) (by decide)) (hap 6 1 (by decide) (by decide) (by decide)) (hap 6 2 (by decide) (by decide) (by decide))]
      exact hsl 6 (by decide)
    · show ce.slots[D.2 21 1]? = some (.int 0)
      rw [i7, hceS _ (hap 7 0 (by decide) (by decide) (by decide)) (hap 7 1 (by decide) (by decide) (by decide)) (hap 7 2 (by decide) (by decide) (by decide))]
      exact hsl 7 (by decide)
  have hD1 : va_D (fun z => z = G.1 + (a - 1000)) [(G.1 + (a - 1000), (.inr (21, [.int 0, .int 0]) : va_E))] := ⟨fun i j x y hx hy _ => by
      have hz : i < 1 := (List.getElem?_eq_some_iff.mp hx).1
      have hz : j < 1 := (List.getElem?_eq_some_iff.mp hy).1
      omega, fun j x hx => by
      have hz : j < 1 := (List.getElem?_eq_some_iff.mp hx).1
      rw [show j = 0 by omega] at hx
      cases hx
      rfl⟩
  have hS1 : va_S (fun z => z = G.1 + (a - 1000)) s.heap (V.setCell (G.1 + (a - 1000)) ce).heap ([] ++ L9) := ⟨by rw [hHz]; exact Nat.le_refl _, fun q _ hq => hHo q hq, fun z hz => hL9 z hz⟩
  have key : W p l e (headSpec (ws_ (m_y 284) (m_c 284) (m_l 284) (m_r 284)) rmF).room s m ([v_R (some a), v_I k, v_I pl].map (tv_ G)).toArray below meth c (V.setCell (G.1 + (a - 1000)) ce).heap ([] ++ L9) 0 0 (vx_MQ below (QcF D G a k pl) (fun _ _ _ _ => False) ([v_R (some a), v_I k, v_I pl].map (tv_ G)).toArray s 0 0 (fun z => z = G.1 + (a - 1000))) (F0 m 4 L []) := by
    have nmF : ∀ x, x < 2 → ∀ b, b < 2 → x ≠ b → (TXF x).2.1 ≠ (TXF b).2.1 := (cl_ok 21 _ _ _ c_21).2.choose_spec.2
    obtain ⟨inF, tyF, tyFo, -⟩ := cl_ok 21 _ _ _ c_21
    have hnmI : meth.name = "<init>" := (name_of_methodNamed B.named B.method).1
    refine lv_aload_n hx hb dX9_init_4 rfl h0 (lv_iload_n hx hb dX9_init_5 rfl h1 ?_)
    refine va_putF hx hb hts inF tyF tyFo nmF hown hK hP1 hD1 hS1 0 rfl c_21 0 (by decide) (hts _ q1293) (fun _ h => h) rfl hnmI rfl (ty := .int) (by decide +kernel) rfl rfl (by show 0 < 2; decide) dX9_init_6 (fun H2 l2 hP2 hD2 hS2 => ?_)
    refine lv_aload_n hx hb dX9_init_9 rfl h0 (lv_iload_n hx hb dX9_init_10 rfl h2 ?_)
    refine va_putF hx hb hts inF tyF tyFo nmF hown hK hP2 hD2 hS2 0 rfl c_21 1 (by decide) (hts _ q1295) (fun _ h => h) rfl hnmI rfl (ty := .int) (by decide +kernel) rfl rfl (by show 1 < 2; decide) dX9_init_11 (fun H3 l3 hP3 hD3 hS3 => ?_)
    refine vx_ret (W.vret hx hb B.returns (fun t ht hw => ⟨rfl, ?_, hS3.F ht⟩) hS3.2.2 dX9_init_14 B.notSynchronized)
    obtain ⟨r, hr, ho⟩ := hP3 0 _ rfl
    cases hr.symm.trans c_21
    rw [ht]
    exact ho
  obtain ⟨t, s1, s2⟩ := key (V.setCell (G.1 + (a - 1000)) ce) rfl X'
  exact ⟨t, stp t s1, s2⟩
theorem c_6 : cL_[6]? = some (RX8, TX8, 9) := rfl
section
variable {p : Program} {l : Launch} {e : Env} {R : Room} {s : State} {m : MethodId} {args : Array Value} {below : List Frame} {meth : Method} {c : Code} {D : va_G} {G : GG_} {w0 : Wd} {Q : State → Prop} {zE sE mi d pc pc1 : Nat} {ls ls1 : List (Option Vl)} {st st1 : List Vl} {w w1 : Wd}
theorem f_fl (a : Nat) (k pl : Int32) (n : Nat) : fl_ G (s_i (s_i (s_n w 41 n) a 0 k) a 1 pl) a 21 = [.int k, .int pl] := by
  have h0 : kd_ 21 0 = 0 := by decide +kernel
  have h1 : kd_ 21 1 = 0 := by decide +kernel
  show (List.range 2).map (fun j => tv_ G (f_v (s_i (s_i (s_n w 41 n) a 0 k) a 1 pl) a j (kd_ 21 j))) = _
  have e0 : f_v (s_i (s_i (s_n w 41 n) a 0 k) a 1 pl) a 0 (kd_ 21 0) = v_I k := by
    rw [h0]
    show v_I (w_i _ a 0) = _
    rw [i_si, if_neg (fun z => Nat.zero_ne_one z.2), i_si, if_pos ⟨rfl, rfl⟩]
  have e1 : f_v (s_i (s_i (s_n w 41 n) a 0 k) a 1 pl) a 1 (kd_ 21 1) = v_I pl := by
    rw [h1]
    show v_I (w_i _ a 1) = _
    rw [i_si, if_pos ⟨rfl, rfl⟩]
  show [tv_ G (f_v _ a 0 (kd_ 21 0)), tv_ G (f_v _ a 1 (kd_ 21 1))] = _
  rw [e0, e1]
  rfl
set_option maxHeartbeats 1000000 in
theorem a_fault (C : Cx_ p l R s m args meth c G w0 zE 273 d) (hz : zE ≤ w_z w) (hsl : sE ≤ w_s w) (hr : w_z w1 - zE ≤ R.cells ∧ w_s w1 - sE ≤ R.slots) (h : f_n ls st w = some (pc1, ls1, st1, w1)) (k : WW_ p l e R s m args below meth c D G w0 Q (m_l 273) zE sE w1 ls1 st1 pc1) : WW_ p l e R s m args below meth c D G w0 Q (m_l 273) zE sE w ls st 4 := by
  have C2 := C
  obtain ⟨hx, hb, hrt, hml, hown, hts, hlk, hini, hht, hN, hI, hst0, hRf, hRl, hE, hE0⟩ := C2
  intro H locs L hW hS hL
  have hA : ∀ q : Nat, s.heap.size ≤ q → A_ G q := fun q hq => by show G.1 ≤ q; omega
  unfold f_n at h
  split at h
  case h_2 => cases h
  rename_i k9 a hl2 hl0
  split at h
  case isFalse => cases h
  rename_i ht
  cases h
  obtain ⟨ws, tys, hX, hsz⟩ := hW.parts
  have hb : c.code = cX8_check := hb
  have hown : s.vm.findClass "TableTower$Reader" = some m.cls := hown
  have hK7 := hX.1.1 7 _ c_7
  obtain ⟨qa, ha, haz, h41, hqa⟩ := hX.obj hN (a := a) (by omega)
  have hw1 : w_z (s_i (s_i (s_n w 41 8) (w_z w) 0 k9) (w_z w) 1 (w_i w a 3)) = w_z w + 1 := rfl
  have hw2 : w_s (s_i (s_i (s_n w 41 8) (w_z w) 0 k9) (w_z w) 1 (w_i w a 3)) = w_s w + 8 := rfl
  have hg := hX.2.2.2.2.1
  show W p l e R s m args below meth c H locs (w_z w - zE) (w_s w - sE) Q (F0 m 4 L [])
  refine W.newcK hx hb hown (hts _ q1280) (hts _ q1281) (hts _ q137) (g := F0 m 4 L []) rfl dX8_check_4 (by have := hr.1; rw [hw1] at this; omega) (by have := hr.2; rw [hw2] at this; omega) hK7.2.1 rfl (fun H1 kC hkC e1 z1 o1 => ?_)
  have hk1 : ∀ (k : Nat) (y : Nat × va_E), ws[k]? = some y → H1[y.1]? = H[y.1]? := fun k y hy => o1 y.1 ((hX.2.1 k y hy).lt)
  have hS1 : va_S (A_ G) s.heap H1 locs := ⟨Nat.le_trans hS.1 (by omega), fun y h1 h2 => (o1 y (Nat.lt_of_lt_of_le h1 hS.1)).trans (hS.2.1 y h1 h2), hS.2.2⟩
  refine lv_dup hx hb dX8_check_7 rfl (lv_iload_n hx hb dX8_check_8 rfl (hL.get hl2) ?_)
  have h0 := hL.get hl0
  rw [tv_dyn ha] at h0
  refine lv_aload_n hx hb dX8_check_9 rfl h0 ?_
  have hrow : ws[qa]? = some (G.1 + (a - 1000), .inr (6, fl_ G w a 6)) := by
    rw [ht] at hqa
    exact hqa
  have hpl : (fl_ G w a 6)[3]? = some (.int (w_i w a 3)) := by
    rw [fl_at (by decide +kernel), show kd_ 6 3 = 0 by decide +kernel]
    rfl
  refine va_get hx hb hts in_X8 hown hX.1 (hX.2.1.kept hk1) qa hrow c_6 3 (by decide) (hts _ q1229) (fun _ h => h) hpl dX8_check_10 ?_
  have hq : H.size = G.1 + (w_z w - 1000) := hsz
  have htv : tv_ G (v_R (some (w_z w))) = .ref H.size := by rw [tv_dyn hg, hq]
  have hbl : FrameBlind (PcF D G w0 (w_z w) k9 (w_i w a 3)) := by
    intro a9 U g mk h
    obtain ⟨h1, h2, h3, h4⟩ := h
    exact ⟨h1, GI_.moved (s := U) (U := U.calling g mk a9) hN (State.WarmedH.refl U) (Nat.le_refl _) (fun _ _ _ => rfl) h2, va_K.moved (u := U) (U := U.calling g mk a9) (Vm.Alike.refl U.vm) h3, h4⟩
  obtain ⟨cell, r1, r2, r3, r4⟩ := u_born (o := H.size) tyX9 hts in_X9 hK7 hkC e1 tyX9_ok
  cases Option.some.inj (r1.symm.trans e1)
  have hpre : PreS s H1 (PcF D G w0 (w_z w) k9 (w_i w a 3)) [.ref H.size, .int k9, .int (w_i w a 3)] := ⟨hbl, fun U hU hw => ⟨by rw [← htv]; rfl, by rw [hU]; exact GI_.moved hN hw hS1.1 hS1.2.1 hI, va_K.moved hw.alike ⟨hX.1.1, fun j x hx => by simp at hx⟩, ⟨_, by rw [hU, ← hq]; exact e1, r2, r3, rfl, rfl, r4⟩⟩⟩
  have hv := vx_runI (p := p) (l := l) (e := e) (R := R) (s := s) (m := m) (args := args) (below := below) (meth := meth) (c := c) (H := H1) (locs := locs) (cells := w_z w - zE + 1) (slots := w_s w - sE + 8) (Ts := lw_all) (cc := cX8_check) (nL := m_l 273) (own := "TableTower$Reader") (index := 109) ⟨hx, hb, hml, hown, hts⟩ (met_F (D := D) (a := w_z w) (k := k9) (pl := w_i w a 3) hst0 hN hg)
    (cwI 2 hts (lw_meth q1291) rfl rfl rfl (hts _ q137) (hts _ q1289) (hts _ q1290) rfl (by decide +kernel) ⟨by show 6 + 1 ≤ R.frames; omega, by show 8 + (3 + 11) + 200 ≤ R.locals; omega⟩) hpre (g := F0 m 13 L [.int (w_i w a 3), .int k9, .ref H.size, .ref H.size]) rfl rfl hL.1.1 (rest := [.ref H.size]) rfl (by show 2 * 0 + (1 + 0) ≤ 8; decide) dX8_check_13 ⟨by have := hr.1; rw [hw1] at this; omega, by have := hr.2; rw [hw2] at this; omega⟩
  intro T hT X
  rcases hv T hT X with ⟨v, st₀, t, T', L', h0', X', hL', e1', e2', ⟨hvr, hOB, hF⟩, stp⟩ | ⟨q9, st₀, t, T', L', E, ce, h0', X', hL', e1', e2', hfl, -⟩
  · cases hvr
    obtain ⟨f1, f2⟩ := hF
    rw [h0'] at f1 f2
    have hTo : ∀ y : Nat, y < H.size → T'.heap[y]? = H[y]? := fun y hy => by
      rw [e1', f2 y (by omega) (fun z => by have z : y = G.1 + (w_z w - 1000) := z; omega), o1 y hy]
    have hP9 : va_P D cL_ (ws ++ [(G.1 + (w_z w - 1000), .inr (21, [.int k9, .int (w_i w a 3)]))]) T'.heap := (hX.2.1.kept (fun k y hy => hTo y.1 ((hX.2.1 k y hy).lt))).app (fun j y hy => by
      have hz9 : j < 1 := (List.getElem?_eq_some_iff.mp hy).1
      rw [show j = 0 by omega] at hy
      cases hy
      exact ⟨_, c_21, by rw [e1']; exact hOB⟩)
    have hD9 := hX.2.2.1.push (e := .inr (21, [.int k9, .int (w_i w a 3)])) hX.2.1 (rfl : H.size = H.size) (hA _ hS.1)
    rw [hq] at hD9
    have hS9 : va_S (A_ G) s.heap T'.heap (locs ++ L') := ⟨Nat.le_trans hS1.1 (by rw [e1']; exact f1), fun y h1 h2 => (hTo y (Nat.lt_of_lt_of_le h1 hS.1)).trans (hS.2.1 y h1 h2), fun z hz9 => by
      rcases List.mem_append.mp hz9 with h | h
      · exact hS.2.2 z h
      · have hz8 : z.base = G.1 + (w_z w - 1000) := hL' z h
        show G.1 ≤ z.base
        rw [hz8]
        exact Nat.le_add_right _ _⟩
    have kk := fin_n (w1 := s_i (s_i (s_n w 41 8) (w_z w) 0 k9) (w_z w) 1 (w_i w a 3)) (tys1 := tys) (cells1 := w_z w - zE + 1) (slots1 := w_s w - sE + 8) (r := []) C k hz hX hsz hP9 hD9 hS9 hL (by rw [hw1]; omega) (by rw [hw2]; omega) hw1 (fun _ => by
      refine hX.push hP9 hD9 hX.1 (fun i x hx => hx) rfl (fun b hb => ?_) (fun b hb => ?_) (fun b j hb => ?_) (fun b j hb => ?_) (fun b j hb => ?_) (Or.inl ⟨?_, ?_, ?_⟩)
      · show w_t (s_n w 41 8) b = _
        rw [t_sn, if_neg hb]
      · show w_n (s_n w 41 8) b = _
        rw [n_sn, if_neg hb]
      · rw [i_si, if_neg (fun z => hb z.1), i_si, if_neg (fun z => hb z.1), i_sn, if_neg hb]
      · show w_l (s_n w 41 8) b j = _
        rw [l_sn, if_neg hb]
      · show w_r (s_n w 41 8) b j = _
        rw [r_sn, if_neg hb]
      · show 20 ≤ w_t (s_n w 41 8) (w_z w)
        rw [t_sn, if_pos rfl]; decide
      · show w_t (s_n w 41 8) (w_z w) ≤ 41
        rw [t_sn, if_pos rfl]; decide
      · have ht41 : w_t (s_i (s_i (s_n w 41 8) (w_z w) 0 k9) (w_z w) 1 (w_i w a 3)) (w_z w) = 41 := by
          show w_t (s_n w 41 8) (w_z w) = 41
          rw [t_sn, if_pos rfl]
        rw [ht41]
        show _ = some (_, Sum.inr (21, fl_ G _ (w_z w) 21))
        rw [f_fl]
        simp)
    obtain ⟨t2, a1, b1⟩ := kk T' rfl X'
    refine ⟨t2, stp t2 ?_, b1⟩
    rw [← hq] at a1
    exact a1
  · exact hfl.elim
end
theorem f_nm {ls ls1 : List (Option Vl)} {st st1 : List Vl} {w w1 : Wd} {pc1 : Nat} (h : f_n ls st w = some (pc1, ls1, st1, w1)) : w_z w ≤ w_z w1 ∧ w_s w ≤ w_s w1 := by
  unfold f_n at h
  split at h
  · split at h
    · cases h
      exact ⟨Nat.le_succ _, Nat.le_add_right _ _⟩
    · cases h
  · cases h
