/-! the constructor of a Throwable above an own one -/
set_option maxRecDepth 100000
def siAtoms (own : String) (ic : Nat) (up : String) (names : List String) (cls : String) : List Cond :=
  Bundle.throwableAtoms ++ (Bundle.chain0Atoms up names ++
  [.methodLink own ic (Bundle.init0 up), .instanceMethod (Bundle.init0 up), .code (Bundle.init0 up) Bundle.five 1 none, .selects cls Bundle.tFill0 Bundle.tFill0, .selects cls Bundle.tFill Bundle.tFill,
   .lays cls Bundle.tN "cause" "Ljava/lang/Throwable;", .lays cls Bundle.tN "stackTrace" Bundle.steD, .lays cls Bundle.tN "suppressedExceptions" Bundle.listD,
   .isRef (.static Bundle.tN "UNASSIGNED_STACK" Bundle.steD), .isRef (.static Bundle.tN "SUPPRESSED_SENTINEL" Bundle.listD),
   .fieldLink Bundle.tN 198 Bundle.tN "backtrace" "Ljava/lang/Object;", .lays Bundle.tN Bundle.tN "backtrace" "Ljava/lang/Object;", .lays cls Bundle.tN "backtrace" "Ljava/lang/Object;"])
section
variable {p : Program} {l : Launch} {e : Env} {R : Room} {s : State} {m : MethodId} {args : Array Value} {below : List Frame} {meth : Method} {c : Code} {W : State} {locs : List Loc} {cells slots : Nat}
set_option maxHeartbeats 2000000 in
theorem superInit (X : Stand p l e R s m args below meth c W locs cells slots) (hexec : p.tables.exec = Jvm.exec) (htr : e.platform.stackTraces = false) {own up cls : String} {names : List String} {ic : Nat}
    (hown : s.vm.findClass own = some m.cls) (hup : Bundle.fit up = true) (hnames : ∀ n ∈ names, Bundle.fit n = true) (h : ∀ a ∈ siAtoms own ic up names cls, a.before args s = true)
    (hlocs : ∀ x ∈ locs, ∀ cell, s.heap[x.base]? = some cell → cell.vm.isStatics = false)
    {a : Addr} {cX : ClassId} {kX : Class} (hfX : s.vm.findClass cls = some cX) (hkX : s.vm.classes[cX]? = some kX) (hord : kX.kind = .ordinary) (hcell : W.heap[a]? = some (freshCell cX kX))
    {g : JFrame} (hg : g.method = m) (hsize : g.locals.size = c.maxLocals) {rest : List Value} (hstack : g.stack = .ref a :: rest) (hd : decode c.code g.pc = .ok (.invokespecial ic, 3))
    (hRframes : names.length + 3 < R.frames) (hRlocals : 2 * g.monitorRoom + (rest.map fun v => v.category).sum + (13 * (names.length + 1) + 41) ≤ R.locals) :
    ∃ (vm' : Vm) (C2 : Cell) (L : List Loc), Stand p l e R s m args below meth c ((W.setVm vm').setCell a C2) (locs ++ L) cells slots ∧ (∀ q ∈ L, q.base = a) ∧ C2.cls = cX ∧ C2.vm = .none ∧
      (∀ fd : Field, kX.instanceTypes[fd.slot]? = some fd.type → (∃ dd, Jmm.declares? s.vm fd.slot (cX + 1) cX = some dd ∧ dd.2.name = fd.name) → fd.name ≠ "cause" → fd.name ≠ "stackTrace" → fd.name ≠ "suppressedExceptions" → C2.slots[fd.slot]? = some (defaultValue fd.type)) ∧
      ∀ target, Steps p.tables e below (((W.setVm vm').setCell a C2).setTop { g with pc := g.pc + 3, stack := rest }) target → Steps p.tables e below (W.setTop g) target := by
  have howns : e.platform.frameOwnsMonitors = true := by rw [X.admits.platform]
  have hfin : e.platform.finalization = false := by rw [X.admits.platform]
  have hpl : e.platform.magicAccessors = ({} : Platform).magicAccessors := by rw [X.admits.platform]
  have hb : ∀ x, x ∈ siAtoms own ic up names cls → x.holds args s none s [] = true := fun x hx => h x hx
  have mem1 : ∀ x ∈ Bundle.throwableAtoms, x ∈ siAtoms own ic up names cls := fun x hx => List.mem_append_left _ hx
  have mem2 : ∀ x ∈ Bundle.chain0Atoms up names, x ∈ siAtoms own ic up names cls := fun x hx => List.mem_append_right _ (List.mem_append_left _ hx)
  have mem3 : ∀ i x, ([.methodLink own ic (Bundle.init0 up), .instanceMethod (Bundle.init0 up), .code (Bundle.init0 up) Bundle.five 1 none, .selects cls Bundle.tFill0 Bundle.tFill0, .selects cls Bundle.tFill Bundle.tFill,
   .lays cls Bundle.tN "cause" "Ljava/lang/Throwable;", .lays cls Bundle.tN "stackTrace" Bundle.steD, .lays cls Bundle.tN "suppressedExceptions" Bundle.listD,
   .isRef (.static Bundle.tN "UNASSIGNED_STACK" Bundle.steD), .isRef (.static Bundle.tN "SUPPRESSED_SENTINEL" Bundle.listD),
   .fieldLink Bundle.tN 198 Bundle.tN "backtrace" "Ljava/lang/Object;", .lays Bundle.tN Bundle.tN "backtrace" "Ljava/lang/Object;", .lays cls Bundle.tN "backtrace" "Ljava/lang/Object;"] : List Cond)[i]? = some x → x ∈ siAtoms own ic up names cls := fun i x hx => List.mem_append_right _ (List.mem_append_right _ (List.mem_of_getElem? hx))
  obtain ⟨T, Z, L, LZ, Y⟩ := ThrowableC.of_atoms (args := args) howns hfin hpl (fun x hx => h x (mem1 x hx))
  obtain ⟨P1, Ps, hlen, L1, hL, hP1m, hlink1, hlink⟩ := Bundle.chain0 (args := args) hpl Y.init0 names up hup hnames (fun x hx => h x (mem2 x hx))
  have hsel0 : selectMethod e.platform s.vm cX T.fill0 = .method T.fill0 := by
    obtain ⟨c2, r2, m2, q1, q2, q3, q4, -⟩ := Cond.selects_spec (hb _ (mem3 3 _ rfl))
    cases Option.some.inj (q1.symm.trans hfX)
    cases Option.some.inj (q2.symm.trans (State.methodFound?_of_named Y.fill0 (by decide)))
    cases Option.some.inj (q3.symm.trans Y.fill0)
    rw [Launch.admits_selectMethod X.admits]; exact q4
  have hselF : selectMethod e.platform s.vm cX T.fill = .method T.fill := by
    obtain ⟨c2, r2, m2, q1, q2, q3, q4, -⟩ := Cond.selects_spec (hb _ (mem3 4 _ rfl))
    cases Option.some.inj (q1.symm.trans hfX)
    cases Option.some.inj (q2.symm.trans (State.methodFound?_of_named Y.fill (by decide)))
    cases Option.some.inj (q3.symm.trans Y.fill)
    rw [Launch.admits_selectMethod X.admits]; exact q4
  obtain ⟨cellS0, hcS0, hiss⟩ := Y.statics
  obtain ⟨u0, hu0⟩ := Cond.staticRefV Y.unassigned L.unassignedStatic L.statics hcS0 hiss (hb _ (mem3 8 _ rfl))
  obtain ⟨sen, hsen⟩ := Cond.staticRefV Y.sentinel L.sentinelStatic L.statics hcS0 hiss (hb _ (mem3 9 _ rfl))
  obtain ⟨ci198, i198, fB, hk198, hg198, ha198, hsB, -, hnB, htB, hffB⟩ := Cond.ownField (t := .object "java/lang/Object") Y.found L.cls (by decide +kernel) (hb _ (mem3 10 _ rfl)) (hb _ (mem3 11 _ rfl)) e.platform hpl
  obtain ⟨cellS, hcS', heS, -, hkeep⟩ := X.same.2.2.2.2.2 T.aS cellS0 hcS0
  have hcellS : W.heap[T.aS]? = some cellS := hcS'
  have hout' : ∀ i, (⟨T.aS, i⟩ : Loc) ∉ locs := fun i hmem => by
    have := hlocs _ hmem cellS0 hcS0
    rw [hiss] at this; cases this
  have hissS : cellS.vm.isStatics = true := by rw [heS]; exact hiss
  have hknownS : cellS.vm ≠ .unknown := by
    intro hu
    rw [hu] at hissS
    cases hissS
  have hneS : T.aS ≠ a := by
    intro z
    rw [z, hcell] at hcellS
    cases hcellS
    cases hissS
  obtain ⟨tyC, dC, hdC, hdnC⟩ := Cond.laysAt hfX hkX Y.cause (hb _ (mem3 5 _ rfl))
  obtain ⟨tyS, dS, hdS, hdnS⟩ := Cond.laysAt hfX hkX Y.stack (hb _ (mem3 6 _ rfl))
  obtain ⟨tyP, dP, hdP, hdnP⟩ := Cond.laysAt hfX hkX Y.supp (hb _ (mem3 7 _ rfl))
  obtain ⟨tyB, dB, hdB, hdnB⟩ := Cond.laysAt hfX hkX hffB (hb _ (mem3 12 _ rfl))
  have bC := Cond.laysApart hdB hdC hdnB hdnC (by rw [hnB, Y.causeName]; decide)
  have bS := Cond.laysApart hdB hdS hdnB hdnS (by rw [hnB, Y.stackName]; decide)
  have bP := Cond.laysApart hdB hdP hdnB hdnP (by rw [hnB, Y.suppName]; decide)
  have hskip : SkipFacts T e.platform s (fun u => u) u0 ((preparedCellV T.toThrowableT (freshCell cX kX) a u0 sen).withEntry W.cur) :=
    ⟨{ ci198 := ci198, i198 := i198, fBack := fB }, ⟨hk198, hg198, ha198, hsB⟩, by
      have := fresh_default (c := cX) tyB
      rw [htB] at this
      simpa [preparedCellV, Cell.setSlot, Cell.withEntry, Array.getElem?_setIfInBounds, bC, bS, bP, bC.symm, bS.symm, bP.symm, defaultValue] using this, fun _ _ => rfl⟩
  obtain ⟨tm, methC, cdC, kC, vm₁, hnC, -, -, -, -, -, -, -, hW₁, st1⟩ := Steps.initCold (tb := p.tables) (e := e) (below := below) (s := s) (U := W) X.here hexec X.warmed hpl hown (t := Bundle.init0 up) rfl rfl (Bundle.fit_spec hup).2
    (hb _ (mem3 0 _ rfl)) (h _ (mem3 1 _ rfl)) (bytes := Bundle.five) (maxL := 1) (h _ (mem3 2 _ rfl)) (f := g) hg (a := a) (rest := rest) hstack hd
  cases Option.some.inj (hnC.symm.trans hP1m)
  have X₁ := X.noted hW₁
  obtain ⟨vm₂, X₂, st2⟩ := X₁.ctorPlainOffV hexec (g := { g with stack := rest }) hg hsize T L Z LZ (P1 :: Ps)
    (fun P hP => by rcases List.mem_cons.mp hP with rfl | hP; exact L1; exact hL P hP) ⟨hlink1, hlink⟩ (u0 := u0) (sen := sen) (self := a) (cell := freshCell cX kX) (cellS := cellS)
    hcell (fun _ => by simp) (by simp) rfl rfl hsel0 hselF hcellS hneS hknownS (by rw [hkeep _ (hout' _)]; exact hu0) (by rw [hkeep _ (hout' _)]; exact hsen)
    (Takes.of_laid hkX hord tyC (by rw [Y.causeType]; rfl)) (Takes.of_laid hkX hord tyS (by rw [Y.stackType]; exact fits_refV_array _ u0)) (Takes.of_laid hkX hord tyP (by rw [Y.suppType]; exact fits_refV_object _ sen)) Y.objLocals hskip htr [] hd
    (by simp only [List.length_cons, hlen]; omega) (by simp only [List.length_cons, hlen]; exact hRlocals)
  refine ⟨vm₂, (preparedCellV T.toThrowableT (freshCell cX kX) a u0 sen).setSlot T.fStack.slot u0.v, _, X₂, ?_, rfl, rfl, ?_, fun target ht => st1 _ (fun acts => ?_)⟩
  · intro q hq
    simp only [List.mem_cons, List.not_mem_nil, or_false] at hq
    rcases hq with rfl | rfl | rfl | rfl <;> rfl
  · intro fd ty hy n1 n2 n3
    obtain ⟨dd, hdd, hddn⟩ := hy
    have m1 := Cond.laysApart hdd hdC hddn hdnC (by rw [Y.causeName]; exact n1)
    have m2 := Cond.laysApart hdd hdS hddn hdnS (by rw [Y.stackName]; exact n2)
    have m3 := Cond.laysApart hdd hdP hddn hdnP (by rw [Y.suppName]; exact n3)
    have := fresh_default (c := cX) ty
    simpa [preparedCellV, Cell.setSlot, Array.getElem?_setIfInBounds, m1, m2, m3, m1.symm, m2.symm, m3.symm] using this
  · rw [doInvoke_state]
    exact st2 _ ht
end
