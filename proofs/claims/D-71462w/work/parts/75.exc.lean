/-! THROWS: a stand is laid anew from where it stands; contracts of methods that throw -/
set_option maxRecDepth 100000
/-- the start that a stand could have had: the same frames, the heap and the tables of now -/
def rb (s T : State) : State := ({ s with heap := T.heap, slotsUsed := T.slotsUsed } : State).setVm T.vm
section RB
variable {p : Program} {l : Launch} {e : Env} {R : Room} {s : State} {m : MethodId} {args : Array Value} {below : List Frame} {meth : Method} {c : Code} {T : State} {locs : List Loc} {cells slots : Nat}
theorem rb_hears (hW : s.WarmedH T.vm) (h : s.hears m below = true) : (rb s T).hears m below = true := by
  have hm : ∀ x, (rb s T).vm.method? x = s.vm.method? x := fun x => hW.alike.method? x
  unfold State.hears at h ⊢
  split at h
  · rename_i g r
    have hc : ∀ x, (rb s T).code? x = s.code? x := fun x => by
      have := hm x
      simp only [State.code?, Vm.method?] at this ⊢
      have e : ∀ o : Option Class, (do let k ← o; let z ← k.methods[x.idx]?; z.code) = (do let k ← o; k.methods[x.idx]?).bind Method.code := fun o => by cases o <;> rfl
      exact (e _).trans ((congrArg (fun o => o.bind Method.code) this).trans (e _).symm)
    simp only [hc]
    exact h
  · rfl
  · rfl
  · rename_i h1 h2 h3
    simp only [hm]
    exact h
theorem rebase (X : Stand p l e R s m args below meth c T locs cells slots) (R' : Room) (hf : R'.frames ≤ R.frames) (hlo : R'.locals ≤ R.locals) (hc : cells + R'.cells ≤ R.cells) (hs : slots + R'.slots ≤ R.slots) : Stand p l e R' (rb s T) m args below meth c T [] 0 0 := by
  have hroom := X.room
  have h1 := X.heapSize
  have h2 := X.used
  have h3 := X.book
  have hlu : (rb s T).localsInUse = s.localsInUse := by
    have hm : ∀ x, (rb s T).vm.method? x = s.vm.method? x := fun x => X.warmed.alike.method? x
    have hfr : (rb s T).frames = s.frames := rfl
    unfold State.localsInUse
    rw [hfr, X.frames]
    simp only [hm]
  refine ⟨X.admits, X.cas, X.clock, X.frames, ?_, rb_hears X.warmed X.hears, X.method', X.code, X.here, X.tail, State.WarmedH.refl (rb s T), X.limits, X.bytes, ?_⟩
  · simp only [State.hasRoom, Bool.and_eq_true, decide_eq_true_eq] at hroom ⊢
    obtain ⟨⟨⟨⟨a1, a2, a3, a4, a5, a6⟩, a7⟩, a8⟩, a9⟩ := hroom
    rw [hlu]
    have e1 : (rb s T).frames.length = s.frames.length := rfl
    have e2 : (rb s T).me = s.me := rfl
    have e3 : (rb s T).heap.size = T.heap.size := rfl
    have e4 : (rb s T).slotsUsed = T.slotsUsed := rfl
    rw [e1, e2, e3, e4]
    exact ⟨⟨⟨⟨by omega, by omega, by omega, by omega, by omega, a6⟩, by omega⟩, by omega⟩, h3⟩
  · have hsm := X.same
    obtain ⟨b1, -⟩ := hsm
    refine ⟨?_, Nat.le_refl _, Nat.le_refl _, ?_, ?_, fun a c h => ⟨c, h, rfl, rfl, fun _ _ => rfl⟩⟩
    · have := congrArg (fun z : State => z.setVm T.vm) b1
      exact this
    · show T.slotsUsed = T.slotsUsed + ((T.heap.toList.drop T.heap.size).map (·.slots.size)).sum
      rw [List.drop_eq_nil_iff.mpr (by simp)]
      simp
    · show ((T.heap.toList.drop T.heap.size).map (·.slots.size)).sum ≤ 0
      rw [List.drop_eq_nil_iff.mpr (by simp)]
      simp
/-- what ends as the new stand says, ends as the old one says -/
theorem rb_same (X : Stand p l e R s m args below meth c T locs cells slots) {U : State} {k n : Nat} (h : (rb s T).sameButNew ({ U with vm := (rb s T).vm } : State) [] k n) : s.sameButNew ({ U with vm := s.vm } : State) locs (cells + k) (slots + n) := by
  have h0 : (T.setVm s.vm).sameButNew ({ U with vm := s.vm } : State) [] k n := by
    obtain ⟨b1, -⟩ := X.same
    obtain ⟨c1, c2⟩ := h
    refine ⟨?_, c2⟩
    have hsf : ∀ (z : State) (F G : List Frame), (z.setFrames F).setFrames G = z.setFrames G := fun z F G => State.setFrames_setFrames z F G
    have k1 : (T.setVm s.vm).setFrames U.frames = ({ s.setFrames U.frames with heap := T.heap, slotsUsed := T.slotsUsed } : State) := by
      have := congrArg (fun z : State => z.setFrames U.frames) b1
      refine this.trans ?_
      show ({ (s.setFrames T.frames).setFrames U.frames with heap := T.heap, slotsUsed := T.slotsUsed } : State) = _
      rw [hsf]
    have k2 : (rb s T).setFrames U.frames = (({ s.setFrames U.frames with heap := T.heap, slotsUsed := T.slotsUsed } : State)).setVm T.vm := rfl
    have c1' : ({ U with vm := T.vm } : State) = ({ (rb s T).setFrames U.frames with heap := U.heap, slotsUsed := U.slotsUsed } : State) := c1
    rw [k2] at c1'
    have k3 := congrArg (fun z : State => z.setVm s.vm) c1'
    refine Eq.trans ?_ (k3.trans ?_)
    · rfl
    · show _ = ({ (T.setVm s.vm).setFrames U.frames with heap := U.heap, slotsUsed := U.slotsUsed } : State)
      rw [k1]
      rfl
  have := X.same.trans h0
  rwa [List.append_nil] at this
end RB
theorem same_nil {s U : State} {k n : Nat} (h : s.sameButNew U [] k n) : ∀ (a : Nat) (c : Cell), s.heap[a]? = some c → U.heap[a]? = some c := by
  intro a c ha
  obtain ⟨c', h1, h2, h3, h4⟩ := h.2.2.2.2.2 a c ha
  have e : c'.slots = c.slots := by
    apply Array.ext_getElem?
    intro i
    exact h4 i (by simp)
  rw [h1, h2, e]
/-- it threw; the tables are warmer; nothing has moved but the frames, the slots L, and k new cells of n slots -/
def FEndT (first : State) (o : Outcome) (t : State) (L : List Loc) (k n : Nat) : Prop := (∃ x, o = .threw x) ∧ first.WarmedH t.vm ∧ first.sameButNew ({ t with vm := first.vm } : State) L k n
/-! contracts of methods that throw -/
def XC (C : String) (s t : State) (x : Nat) : Prop := ∃ ce : Cell, t.heap[x]? = some ce ∧ s.vm.findClass C = some ce.cls ∧ ce.vm.isStatics = false
def MQT (below : List Frame) (Qc : Array Value → State → Outcome → State → Prop) (a : Array Value) (s : State) (mc ms : Nat) (free : Addr → Prop) : State → Prop := fun t =>
  ∃ o, t.status = .running ∧ Ended t below o ∧ Qc a s o t ∧ ∃ L, FEndT s o t L mc ms ∧ ∀ q ∈ L, free q.base
def QT (D : va_G) (A : Nat → Prop) (Po : String → Nat → va_W → Prop) : Array Value → State → Outcome → State → Prop :=
  fun _ s o t => (∃ (C : String) (x : Nat) (w : va_W), o = .threw x ∧ Po C x w ∧ XC C s t x ∧ va_P D vwCl w t.heap ∧ va_D A w) ∧ va_F A s t
/-- a contract: from the world ws with arguments av the method y throws; Po of the class, the object and the world then -/
def CtT (l : Launch) (y : MethodName) (cc : ByteArray) (nL : Nat) (ret : Option FieldType) (fr lo mc ms : Nat) (D : va_G) (E : Ety) (av : List Value) (ws : va_W) (Po : String → Nat → va_W → Prop) : Prop :=
  ∀ sz : Nat, MetFree l y (headSpec (ws_ y cc nL ret) ({ frames := fr, cells := mc, slots := ms, locals := lo })) (va_Pc av (fun U => U.heap.size = sz ∧ va_P D vwCl ws U.heap ∧ KK D E U ∧ va_D (fun _ => True) ws ∧ HH E (va_A ws sz) U)) (fun _ _ _ _ _ => True)
    (fun a s o t => QT D (va_A ws sz) Po a s o t ∧ ∃ L, FEndT s o t L mc ms ∧ ∀ q ∈ L, va_A ws sz q.base)
def FinT (X : Cx) (mc ms : Nat) (Po : String → Nat → va_W → Prop) : Prop := X.Q = MQT X.below (QT X.D X.A Po) X.args X.s mc ms X.A
theorem ct_ofT {l : Launch} {y : MethodName} {cc : ByteArray} {nL : Nat} {ret : Option FieldType} {fr lo mc ms : Nat} {D : va_G} {E : Ety} {av : List Value} {ws : va_W} {Po : String → Nat → va_W → Prop} {lv : LV} {own : String} (hy : plainFor y = true) (ho : y.cls = own) (hn : (lg_sl av).length ≤ nL) (hlv : lv_args 0 av = lv)
    (body : ∀ X : Cx, X.l = l → X.D = D → X.E = E → X.nL = nL → X.F = [] → Ok X cc own → Rm X fr lo mc ms → FinT X mc ms Po → X.c.exceptionTable.toList = [] → G X ws lv 0 0 0 []) : CtT l y cc nL ret fr lo mc ms D E av ws Po := by
  intro sz
  subst ho
  refine MetFree.of_bodySF (code := cc) (maxLocals := nL) (ret := ret) hy ?_ ?_
  · intro args s m h hn
    obtain ⟨meth, c, h1, h2, h3, h4, h5, h6, -, -⟩ := Cond.code_spec hn (atoms_spec (ws := ws_ y cc nL ret) h _ List.mem_cons_self)
    exact ⟨meth, c, h1, h2, h3, h4, h5, h6⟩
  · intro p e s m args below meth c s₁ B hml hv _
    obtain ⟨rfl, hsz, hP, hK, hD0, hH⟩ := hv
    subst hsz
    have hts0 := atoms_spec (ws := ws_ y cc nL ret) B.pre
    have hts : ∀ w ∈ lw_all, w.before _ s = true := fun w h => hts0 w (List.mem_cons_of_mem _ h)
    have hD := hD0.self (sz := s.heap.size)
    have hl := lv_entry av (n := nL) hn
    have hh0 : s₁.heap = s.heap := by rw [B.state]; rfl
    have hex : c.exceptionTable.toList = [] := by
      have := B.noHandlers (hts0 _ List.mem_cons_self)
      simpa using this
    have g : W p l e (headSpec (ws_ y cc nL ret) ({ frames := fr, cells := mc, slots := ms, locals := lo })).room s m av.toArray below meth c s.heap [] 0 0 (MQT below (QT D (va_A ws s.heap.size) Po) av.toArray s mc ms (va_A ws s.heap.size)) (entryFrame m av.toArray nL) := by
      rw [lg_entry_eq]
      exact body ((p, l, e, _, s, m, av.toArray), (below, meth, c), (D, E), (va_A ws s.heap.size, nL, MQT below (QT D (va_A ws s.heap.size) Po) av.toArray s mc ms (va_A ws s.heap.size), [])) rfl rfl rfl rfl rfl ⟨B.exec, B.bytes, hml, findClass_of_methodNamed B.named, hts, hK, fun q h => Or.inr h, B.notSynchronized, hH, ns_of hP⟩ ⟨Nat.le_refl _, Nat.le_refl _, Nat.le_refl _, Nat.le_refl _⟩ (Eq.refl _) hex s.heap [] _ (by rw [List.append_nil]; exact hP) (by rw [List.append_nil]; exact hD) va_S.rf (hlv ▸ hl)
    obtain ⟨t, a1, o, b1, b2, b3⟩ := g s₁ hh0 (Stand.of_body B)
    exact ⟨t, o, a1, b1, b2, ⟨b3.1, b3.2⟩⟩
section TH
variable {X : Cx} {cc : ByteArray} {own : String} {ws w : va_W} {lv : LV} {ce sl pc mc ms fr lo : Nat} {st : List Value} {Po : String → Nat → va_W → Prop}
theorem hlocs_of (h : Ok X cc own) {H : Heap} {locs : List Loc} (hS : va_S X.A X.s.heap H locs) : ∀ x ∈ locs, ∀ cell, X.s.heap[x.base]? = some cell → cell.vm.isStatics = false :=
  fun x hx cell hc => h.ns _ cell (hS.2.2 x hx) hc
/-- it has been thrown out of the method: the end -/
theorem leaveQ (hF : FinT X mc ms Po) {H : Heap} {locs : List Loc} (hP : va_P X.D vwCl (ws ++ X.F) H) (hD : va_D X.A (ws ++ X.F)) (hS : va_S X.A X.s.heap H locs) {T : State} (hT : T.heap = H)
    (Z : Stand X.p X.l X.e X.R X.s X.m X.args X.below X.meth X.c T locs ce sl) {U : State} {x k n : Nat} {C : String} (hrun : U.status = .running) (hend : Ended U X.below (.threw x)) (hW : (rb X.s T).WarmedH U.vm) (hsm : (rb X.s T).sameButNew ({ U with vm := (rb X.s T).vm } : State) [] k n)
    (hx : ∃ c' : Cell, U.heap[x]? = some c' ∧ X.s.vm.findClass C = some c'.cls ∧ c'.vm.isStatics = false) (is : List Nat) (hn : va_nd is = true) (hs : is.map (fun i => ws[i]?) = w.map some) (hq : Po C x w) (h1 : ce + k ≤ mc) (h2 : sl + n ≤ ms) : X.Q U := by
  rw [hF]
  have hkeep : ∀ (a : Nat) (c : Cell), H[a]? = some c → U.heap[a]? = some c := fun a c ha => same_nil hsm a c (by show T.heap[a]? = some c; rw [hT]; exact ha)
  have hkq : ∀ q : Nat, q < H.size → U.heap[q]? = H[q]? := fun q hq => by
    obtain ⟨c, hc⟩ : ∃ c, H[q]? = some c := ⟨_, Array.getElem?_eq_getElem hq⟩
    rw [hc]; exact hkeep q c hc
  have hsz : H.size ≤ U.heap.size := by have := hsm.2.1; rw [← hT]; exact this
  have hWs : X.s.WarmedH U.vm := State.WarmedH.trans Z.warmed hW
  refine ⟨.threw x, hrun, hend, ⟨⟨C, x, w, rfl, hq, hx, ?_, lD (subD hn hs hD)⟩, ?_, ?_⟩, locs, ⟨⟨x, rfl⟩, hWs, (rb_same Z hsm).mono h1 h2⟩, hS.2.2⟩
  · intro i q hq
    have := lP (subP hs hP) i q hq
    refine this.kept (hkq _ ?_)
    obtain ⟨q1, q2⟩ := q
    cases q2 with
    | inl a => exact (Array.getElem?_eq_some_iff.mp this).1
    | inr o =>
      obtain ⟨r, -, cell', g1, -⟩ := this
      exact (Array.getElem?_eq_some_iff.mp g1).1
  · exact Nat.le_trans hS.1 hsz
  · intro q hq1 hq2
    rw [hkq q (Nat.lt_of_lt_of_le hq1 hS.1)]
    exact hS.2.1 q hq1 hq2
end TH
/-! catching: the search through the rows of the table, links cold or warm -/
def FT (e : Env) (s : State) (f : JFrame) (a : Addr) (h : Handler) (vm' : Vm) : Prop :=
  ∀ (Q : Handler → Pre) (E : CtlPost) (d : Bool) (acts : List Action), wp (findHandler f a) Q E e d acts s ↔ Q h d acts (s.setVm vm')
theorem go_row {Q : Handler → Pre} {E : CtlPost} {e : Env} {d : Bool} {acts : List Action} {s : State} {f : JFrame} {a : Addr} {x : ExceptionTableEntry} {t : List ExceptionTableEntry} {c : ClassId} {cell : Cell} {b : Bool}
    (hx : covers x f.pc = true) (h0 : x.catchType ≠ 0) (hl : s.vm.ClassLinks e.platform f.method.cls x.catchType c) (hcell : s.heap[a]? = some cell) (hobj : ∀ k, cell.vm ≠ .statics k)
    (hk : ∃ k, s.vm.classes[cell.cls]? = some k) (hc : ∃ k, s.vm.classes[c]? = some k) (hfit : s.vm.assignable cell.cls c = b) :
    wp (findHandler.go f a (x :: t)) Q E e d acts s ↔ (if b = true then Q (.found x.handlerPc) d acts (s.setVm (s.vm.noted f.method.cls x.catchType (.cls c))) else wp (findHandler.go f a t) Q E e d acts (s.setVm (s.vm.noted f.method.cls x.catchType (.cls c)))) := by
  simp only [covers] at hx
  obtain ⟨ha, ht⟩ := (resolveClass_links e.toSetting hl).op (op := VmOp.resolveClass f.method.cls x.catchType) rfl
  have hal : s.vm.Alike (s.vm.noted f.method.cls x.catchType (.cls c)) := (Vm.Alike.refl s.vm).noted _ _ _
  obtain ⟨k1, hk1⟩ := hk
  obtain ⟨k2, hk2⟩ := hc
  obtain ⟨k1', hk1', -⟩ := hal.2.2 _ _ hk1
  obtain ⟨k2', hk2', -⟩ := hal.2.2 _ _ hk2
  have hfit' : (s.vm.noted f.method.cls x.catchType (.cls c)).assignable cell.cls c = b := by rw [hal.assignable]; exact hfit
  cases b <;> simp [findHandler.go, hx, h0, ha, ht, hcell, hobj, hk1', hk2', hfit', VmOp.dirties, VmOp.acts]
/-- a row names a class by a word; the thrown class can be assigned to it, or not -/
def Row (pl : Platform) (s₀ : State) (d thrown : ClassId) (b : Bool) (y : ExceptionTableEntry) : Prop := y.catchType ≠ 0 ∧ ∃ c, s₀.vm.ClassLinks pl d y.catchType c ∧ s₀.vm.assignable thrown c = b
theorem go_all {e : Env} {s₀ : State} {f : JFrame} {a : Addr} {cell : Cell} (hobj : ∀ k, cell.vm ≠ .statics k) (hk0 : ∃ k, s₀.vm.classes[cell.cls]? = some k) (x : ExceptionTableEntry) (rest : List ExceptionTableEntry) (hx : covers x f.pc = true) (hend : Row e.platform s₀ f.method.cls cell.cls true x) :
    ∀ (pre : List ExceptionTableEntry) (S : State), s₀.WarmedH S.vm → S.heap[a]? = some cell → (∀ y ∈ pre, covers y f.pc = true ∧ Row e.platform s₀ f.method.cls cell.cls false y) →
      ∃ vm', s₀.WarmedH vm' ∧ ∀ (Q : Handler → Pre) (E : CtlPost) (d : Bool) (acts : List Action), wp (findHandler.go f a (pre ++ x :: rest)) Q E e d acts S ↔ Q (.found x.handlerPc) d acts (S.setVm vm') := by
  obtain ⟨k0, hk0⟩ := hk0
  intro pre
  induction pre with
  | nil =>
    intro S hW hcell _
    obtain ⟨k0', hk0', -⟩ := hW.alike.2.2 _ _ hk0
    obtain ⟨h0, c, hl, hfit⟩ := hend
    obtain ⟨dk, _, _, kt, hd, _, _, _, _, hkt, _, hopen⟩ := hl.here
    obtain ⟨kt', hkt', -⟩ := hW.alike.2.2 _ _ hkt
    refine ⟨_, hW.noted hd hopen (State.rightAt_cls hl), fun Q E d acts => ?_⟩
    rw [List.nil_append, go_row (b := true) hx h0 (hW.classLinks hl) hcell hobj ⟨k0', hk0'⟩ ⟨kt', hkt'⟩ (by rw [hW.alike.assignable]; exact hfit), if_pos rfl]
  | cons y ys ih =>
    intro S hW hcell hpass
    obtain ⟨k0', hk0', -⟩ := hW.alike.2.2 _ _ hk0
    obtain ⟨hcov, h0, c, hl, hno⟩ := hpass y List.mem_cons_self
    obtain ⟨dk, _, _, kt, hd, _, _, _, _, hkt, _, hopen⟩ := hl.here
    obtain ⟨kt', hkt', -⟩ := hW.alike.2.2 _ _ hkt
    obtain ⟨vm', hW', hq⟩ := ih (S.setVm (S.vm.noted f.method.cls y.catchType (.cls c))) (hW.noted hd hopen (State.rightAt_cls hl)) hcell (fun z hz => hpass z (List.mem_cons_of_mem _ hz))
    refine ⟨vm', hW', fun Q E d acts => ?_⟩
    rw [List.cons_append, go_row (b := false) hcov h0 (hW.classLinks hl) hcell hobj ⟨k0', hk0'⟩ ⟨kt', hkt'⟩ (by rw [hW.alike.assignable]; exact hno), if_neg (by decide)]
    exact hq Q E d acts
theorem caughtF {tb : Tables} {e : Env} {s target : State} {g : JFrame} {c : Code} {below : List Frame} {a : Addr} (h : At s g.method c below) {pc : Nat} {vm' : Vm}
    (hfind : FT e ((s.setTop g).pushFrame (.throwing a)) g a (.found pc) vm') (hrest : Steps tb e below ((s.setVm vm').setTop { g with pc := pc, stack := [.ref a] }) target) :
    Steps tb e below ((s.setTop g).pushFrame (.throwing a)) target := by
  obtain ⟨hgo, hw⟩ := h.throwing a
  refine Steps.head hgo hw ?_
  have hst : (stepThrowing e ((s.setTop g).pushFrame (.throwing a)) a (.java g :: s.frames.tail)).Is (((((s.setTop g).pushFrame (.throwing a)).setVm vm')).setFrames (.java { g with pc := pc, stack := [.ref a] } :: s.frames.tail)) [] := by
    simp only [stepThrowing, searchFrame, vmDo]
    generalize hr : Sem.go _ e false [] ((s.setTop g).pushFrame (.throwing a)) = res
    obtain ⟨as, rfl, ha⟩ := Sem.eq_ok_of hr (a := Handler.found pc) (s' := ((s.setTop g).pushFrame (.throwing a)).setVm vm') (acts' := []) (by simp [hfind _ _ _ _])
    exact ⟨rfl, ha⟩
  rw [stepThread_throwing (frames_entered h.top _), hst.1]
  obtain ⟨g₀, hg⟩ := Option.isSome_iff_exists.mp h.top
  obtain ⟨r, hr⟩ := State.topJava?_eq_some.mp hg
  have hr' : (s.setVm vm').frames = .java g₀ :: r := hr
  rw [State.setTop_of_frames _ hr'] at hrest
  have hfs : ∀ (u : State) (F G' : List Frame), ((u.setFrames F).setVm vm').setFrames G' = (u.setVm vm').setFrames G' := fun u F G' => by
    have h1 : (u.setFrames F).setVm vm' = (u.setVm vm').setFrames F := rfl
    rw [h1, State.setFrames_setFrames]
  rw [hr, List.tail_cons, State.pushFrame, hfs, State.setTop_of_frames _ hr, hfs]
  exact hrest
theorem caughtR {p : Program} {l : Launch} {e : Env} {R : Room} {s : State} {m : MethodId} {args : Array Value} {below : List Frame} {meth : Method} {c : Code} {T : State} {locs : List Loc} {cells slots : Nat}
    (X : Stand p l e R s m args below meth c T locs cells slots) (a : Addr) {g : JFrame} (hg : g.method = m) {cell : Cell} (hcell : T.heap[a]? = some cell) (hobj : cell.vm.isStatics = false) (hk0 : ∃ k, s.vm.classes[cell.cls]? = some k)
    (pre : List ExceptionTableEntry) (x : ExceptionTableEntry) (rest : List ExceptionTableEntry) (hsplit : c.exceptionTable.toList = pre ++ x :: rest)
    (hpass : ∀ y ∈ pre, covers y g.pc = true ∧ Row e.platform s m.cls cell.cls false y) (hx : covers x g.pc = true) (hend : Row e.platform s m.cls cell.cls true x) :
    ∃ vm', Stand p l e R s m args below meth c (T.setVm vm') locs cells slots ∧ ∀ target, Steps p.tables e below ((T.setVm vm').setTop { g with pc := x.handlerPc, stack := [.ref a] }) target → Steps p.tables e below ((T.setTop g).pushFrame (.throwing a)) target := by
  subst hg
  obtain ⟨vm', hW', hq⟩ := go_all (e := e) (f := g) (a := a) (VmData.ne_statics_of hobj) hk0 x rest hx hend pre ((T.setTop g).pushFrame (.throwing a)) X.warmed hcell hpass
  refine ⟨vm', X.noted hW', fun target hrest => caughtF X.here (fun Q E d acts => ?_) hrest⟩
  rw [W.findHandler_eq (s := (T.setTop g).pushFrame (.throwing a)) (meth := meth) (code := c) X.method' X.code, hsplit]
  exact hq Q E d acts
theorem row_of {s : State} {args : Array Value} {pl : Platform} (hpl : pl.magicAccessors = ({} : Platform).magicAccessors) {d thrown cT : ClassId} {y : ExceptionTableEntry} {own name : String} {b : Bool} (hown : s.vm.findClass own = some d) (h0 : y.catchType ≠ 0)
    (hlink : (Cond.classLink own y.catchType name).before args s = true) (hcT : s.vm.findClass name = some cT) (hfit : s.vm.assignable thrown cT = b) : Row pl s d thrown b y := by
  obtain ⟨c', hc', hcl⟩ := Cond.classLink_spec hown hlink pl hpl
  cases hcT.symm.trans hc'
  exact ⟨h0, cT, hcl, hfit⟩
/-! a callee that throws -/
theorem callT {p : Program} {l : Launch} {e : Env} {R : Room} {s : State} {m : MethodId} {sargs : Array Value} {below : List Frame} {meth : Method} {c : Code} {T : State} {locs : List Loc} {cells slots : Nat} {y : MethodName} {S : Spec} {P : Array Value → State → Prop} {Qc : Array Value → State → Outcome → State → Prop} {bytes : ByteArray} {maxL : Nat} {ret : Option FieldType} {W mc ms : Nat} {free : Addr → Prop}
    (hM : MetFree l y S P (fun _ _ _ _ _ => True) (fun a st o t => Qc a st o t ∧ ∃ L, FEndT st o t L mc ms ∧ ∀ q ∈ L, free q.base)) (X : Stand p l e R s m sargs below meth c T locs cells slots) {g : JFrame} (hg : g.method = m) (hsize : g.locals.size = c.maxLocals) {ig : Instr} {len : Nat} (hdg : decode c.code g.pc = .ok (ig, len))
    (hW : 2 * g.monitorRoom + (g.stack.map fun v => v.category).sum ≤ W) {mk : MethodId} {a : Array Value} (hn : T.methodNamed? y = some mk) (hframes : S.room.frames + 1 ≤ R.frames) (hlocals : W + (maxL + 11) + S.room.locals ≤ R.locals)
    (hpre : S.pre.before a T = true) (hcode : (Cond.code y bytes maxL ret).before a T = true) (hinit : (Cond.initialized y.cls).before a T = true) (hc : cells + S.room.cells ≤ R.cells) (hs : slots + S.room.slots ≤ R.slots) (hP : P a (T.calling g mk a)) :
    ∃ (x : Addr) (t T' : State) (L : List Loc), Stand p l e R s m sargs below meth c T' (locs ++ L) (cells + mc) (slots + ms) ∧ Qc a (T.calling g mk a) (.threw x) t ∧ (∀ q ∈ L, free q.base) ∧ T'.heap = t.heap ∧ T'.vm = t.vm ∧
      Steps p.tables e below (doInvoke e (T.setTop g) [] mk a).1 ((T'.setTop g).pushFrame (.throwing x)) := by
  obtain ⟨methY, cY, hmY, hcY, -, hlY, -, -, -, -⟩ := Cond.code_spec hn hcode
  obtain ⟨kY, hkY, -⟩ := className_of_methodNamed hn
  have hinitY : kY.init = .initialized := Cond.initialized_spec (findClass_of_methodNamed hn) hkY hinit
  have h : At T g.method c below := by rw [hg]; exact X.here
  have happ : S.appliesLoose y e.platform (T.calling g mk a) = true :=
    Spec.appliesLoose_calling (g := g) h hdg hn hkY hinitY (X.room_calling (g := g) (R' := S.room) hsize hmY hcY hframes (by rw [hlY]; omega) hc hs) hpre
  obtain ⟨mid, hmid⟩ := h.above
  have hfr : (T.setTop g).frames = (.java g :: mid) ++ below := by rw [State.frames_setTop' g h.top, hmid]; rfl
  obtain ⟨o, t, hsteps, -, hend, hq, L, hE, hL⟩ := Steps.callFree hM p X.admits X.cas X.clock (acts := []) hfr happ hP trivial
  rw [State.frames_setTop' g h.top, X.tail] at hend
  obtain ⟨⟨x, rfl⟩, hW2, hsm⟩ := hE
  obtain ⟨T', X', -, hsame, rfl⟩ := X.outOfThrown hg hend hW2 hsm
  obtain ⟨g₀, hfrT⟩ := X'.frames_eq
  have hh : ((T'.setTop g).pushFrame (.throwing x)).heap = T'.heap := by simp [State.pushFrame, State.setFrames, State.setTop, State.modifyTopJava]
  have hv : ((T'.setTop g).pushFrame (.throwing x)).vm = T'.vm := by simp [State.pushFrame, State.setFrames, State.setTop, State.modifyTopJava]
  exact ⟨x, _, T', L, X', hq, hL, hh.symm, hv.symm, hsteps⟩
