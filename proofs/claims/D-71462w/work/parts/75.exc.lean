/-! THROWS: a stand is laid anew from where it stands; contracts of methods that throw -/
set_option maxRecDepth 100000
/-- the start that a stand could have had: the same frames, the heap and the tables of now -/
def rb (s T : State) : State := ({ s with heap := T.heap, slotsUsed := T.slotsUsed } : State).setVm T.vm
section RB
variable {p : Program} {l : Launch} {e : Env} {R : Room} {s : State} {m : MethodId} {args : Array Value} {below : List Frame} {meth : Method} {c : Code} {T : State} {locs : List Loc} {cells slots : Nat}
theorem rb_hears (hW : s.WarmedH T.vm) (h : s.hears m below = true) : (rb s T).hears m below = true := by
  have hm : ∀ x, (rb s T).vm.method? x = s.vm.method? x := fun x => hW.alike.method? x
  unfold State.hears at h ⊢
  split at h
  · rename_i g r
    simp only [State.code?, hm] at h ⊢
    exact h
  · rfl
  · rfl
  · rename_i h1 h2 h3
    simp only [hm]
    exact h
theorem rebase (X : Stand p l e R s m args below meth c T locs cells slots) (R' : Room) (hf : R'.frames ≤ R.frames) (hlo : R'.locals ≤ R.locals) (hc : cells + R'.cells ≤ R.cells) (hs : slots + R'.slots ≤ R.slots) : Stand p l e R' (rb s T) m args below meth c T [] 0 0 := by
  have hroom := X.room
  have h1 := X.heapSize
  have h2 := X.used
  have h3 := X.book
  have hlu : (rb s T).localsInUse = s.localsInUse := by
    have hm : ∀ x, (rb s T).vm.method? x = s.vm.method? x := fun x => X.warmed.alike.method? x
    have hfr : (rb s T).frames = s.frames := rfl
    unfold State.localsInUse
    rw [hfr, X.frames]
    simp only [hm]
  refine ⟨X.admits, X.cas, X.clock, X.frames, ?_, rb_hears X.warmed X.hears, X.method', X.code, X.here, X.tail, State.WarmedH.refl (rb s T), X.limits, X.bytes, ?_⟩
  · simp only [State.hasRoom, Bool.and_eq_true, decide_eq_true_eq] at hroom ⊢
    obtain ⟨⟨⟨⟨a1, a2, a3, a4, a5, a6⟩, a7⟩, a8⟩, a9⟩ := hroom
    rw [hlu]
    have e1 : (rb s T).frames.length = s.frames.length := rfl
    have e2 : (rb s T).me = s.me := rfl
    have e3 : (rb s T).heap.size = T.heap.size := rfl
    have e4 : (rb s T).slotsUsed = T.slotsUsed := rfl
    rw [e1, e2, e3, e4]
    exact ⟨⟨⟨⟨by omega, by omega, by omega, by omega, by omega, a6⟩, by omega⟩, by omega⟩, h3⟩
  · have hsm := X.same
    obtain ⟨b1, -⟩ := hsm
    refine ⟨?_, Nat.le_refl _, Nat.le_refl _, ?_, ?_, fun a c h => ⟨c, h, rfl, rfl, fun _ _ => rfl⟩⟩
    · have := congrArg (fun z : State => z.setVm T.vm) b1
      exact this
    · show T.slotsUsed = T.slotsUsed + ((T.heap.toList.drop T.heap.size).map (·.slots.size)).sum
      rw [List.drop_eq_nil_iff.mpr (by simp)]
      simp
    · show ((T.heap.toList.drop T.heap.size).map (·.slots.size)).sum ≤ 0
      rw [List.drop_eq_nil_iff.mpr (by simp)]
      simp
/-- what ends as the new stand says, ends as the old one says -/
theorem rb_same (X : Stand p l e R s m args below meth c T locs cells slots) {U : State} {k n : Nat} (h : (rb s T).sameButNew ({ U with vm := (rb s T).vm } : State) [] k n) : s.sameButNew ({ U with vm := s.vm } : State) locs (cells + k) (slots + n) := by
  have h0 : (T.setVm s.vm).sameButNew ({ U with vm := s.vm } : State) [] k n := by
    obtain ⟨b1, -⟩ := X.same
    obtain ⟨c1, c2⟩ := h
    refine ⟨?_, c2⟩
    have e1 : ({ U with vm := s.vm } : State) = (({ U with vm := (rb s T).vm } : State)).setVm s.vm := rfl
    rw [e1, c1]
    have e2 : (T.setVm s.vm).setFrames U.frames = (({ s.setFrames T.frames with heap := T.heap, slotsUsed := T.slotsUsed } : State)).setFrames U.frames := by rw [← b1]; rfl
    show _ = ({ (T.setVm s.vm).setFrames U.frames with heap := U.heap, slotsUsed := U.slotsUsed } : State)
    rw [e2]
    obtain ⟨g₀, hfr⟩ := X.frames_eq
    simp [rb, State.setFrames, State.setVm]
  have := X.same.trans h0
  rwa [List.append_nil] at this
end RB
theorem same_nil {s U : State} {k n : Nat} (h : s.sameButNew U [] k n) : ∀ (a : Nat) (c : Cell), s.heap[a]? = some c → U.heap[a]? = some c := by
  intro a c ha
  obtain ⟨c', h1, h2, h3, h4⟩ := h.2.2.2.2.2 a c ha
  have e : c'.slots = c.slots := by
    apply Array.ext_getElem?
    intro i
    exact h4 i (by simp)
  rw [h1, h2, e]
/-! contracts of methods that throw -/
def XC (C : String) (s t : State) (x : Nat) : Prop := ∃ ce : Cell, t.heap[x]? = some ce ∧ s.vm.findClass C = some ce.cls ∧ ce.vm.isStatics = false
def MQT (below : List Frame) (Qc : Array Value → State → Outcome → State → Prop) (a : Array Value) (s : State) (mc ms : Nat) (free : Addr → Prop) : State → Prop := fun t =>
  ∃ o, t.status = .running ∧ Ended t below o ∧ Qc a s o t ∧ ∃ L, FrameEndT s o t L mc ms ∧ ∀ q ∈ L, free q.base
def QT (D : va_G) (A : Nat → Prop) (Po : String → Nat → va_W → Prop) : Array Value → State → Outcome → State → Prop :=
  fun _ s o t => (∃ (C : String) (x : Nat) (w : va_W), o = .threw x ∧ Po C x w ∧ XC C s t x ∧ va_P D vwCl w t.heap ∧ va_D A w) ∧ va_F A s t
/-- a contract: from the world ws with arguments av the method y throws; Po of the class, the object and the world then -/
def CtT (l : Launch) (y : MethodName) (cc : ByteArray) (nL : Nat) (ret : Option FieldType) (fr lo mc ms : Nat) (D : va_G) (E : Ety) (av : List Value) (ws : va_W) (Po : String → Nat → va_W → Prop) : Prop :=
  ∀ sz : Nat, MetFree l y (headSpec (ws_ y cc nL ret) ({ frames := fr, cells := mc, slots := ms, locals := lo })) (va_Pc av (fun U => U.heap.size = sz ∧ va_P D vwCl ws U.heap ∧ KK D E U ∧ va_D (fun _ => True) ws ∧ HH E (va_A ws sz) U)) (fun _ _ _ _ _ => True)
    (fun a s o t => QT D (va_A ws sz) Po a s o t ∧ ∃ L, FrameEndT s o t L mc ms ∧ ∀ q ∈ L, va_A ws sz q.base)
def FinT (X : Cx) (mc ms : Nat) (Po : String → Nat → va_W → Prop) : Prop := X.Q = MQT X.below (QT X.D X.A Po) X.args X.s mc ms X.A
theorem ct_ofT {l : Launch} {y : MethodName} {cc : ByteArray} {nL : Nat} {ret : Option FieldType} {fr lo mc ms : Nat} {D : va_G} {E : Ety} {av : List Value} {ws : va_W} {Po : String → Nat → va_W → Prop} {lv : LV} {own : String} (hy : plainFor y = true) (ho : y.cls = own) (hn : (lg_sl av).length ≤ nL) (hlv : lv_args 0 av = lv)
    (body : ∀ X : Cx, X.l = l → X.D = D → X.E = E → X.nL = nL → X.F = [] → Ok X cc own → Rm X fr lo mc ms → FinT X mc ms Po → X.c.exceptionTable.toList = [] → G X ws lv 0 0 0 []) : CtT l y cc nL ret fr lo mc ms D E av ws Po := by
  intro sz
  subst ho
  refine MetFree.of_bodySF (code := cc) (maxLocals := nL) (ret := ret) hy ?_ ?_
  · intro args s m h hn
    obtain ⟨meth, c, h1, h2, h3, h4, h5, h6, -, -⟩ := Cond.code_spec hn (atoms_spec (ws := ws_ y cc nL ret) h _ List.mem_cons_self)
    exact ⟨meth, c, h1, h2, h3, h4, h5, h6⟩
  · intro p e s m args below meth c s₁ B hml hv _
    obtain ⟨rfl, hsz, hP, hK, hD0, hH⟩ := hv
    subst hsz
    have hts0 := atoms_spec (ws := ws_ y cc nL ret) B.pre
    have hts : ∀ w ∈ lw_all, w.before _ s = true := fun w h => hts0 w (List.mem_cons_of_mem _ h)
    have hD := hD0.self (sz := s.heap.size)
    have hl := lv_entry av (n := nL) hn
    have hh0 : s₁.heap = s.heap := by rw [B.state]; rfl
    have hex : c.exceptionTable.toList = [] := by
      have := B.noHandlers (hts0 _ List.mem_cons_self)
      simpa using this
    have g : W p l e (headSpec (ws_ y cc nL ret) ({ frames := fr, cells := mc, slots := ms, locals := lo })).room s m av.toArray below meth c s.heap [] 0 0 (MQT below (QT D (va_A ws s.heap.size) Po) av.toArray s mc ms (va_A ws s.heap.size)) (entryFrame m av.toArray nL) := by
      rw [lg_entry_eq]
      exact body ((p, l, e, _, s, m, av.toArray), (below, meth, c), (D, E), (va_A ws s.heap.size, nL, _, [])) rfl rfl rfl rfl rfl ⟨B.exec, B.bytes, hml, findClass_of_methodNamed B.named, hts, hK, fun q h => Or.inr h, B.notSynchronized, hH, ns_of hP⟩ ⟨Nat.le_refl _, Nat.le_refl _, Nat.le_refl _, Nat.le_refl _⟩ rfl hex s.heap [] _ (by rw [List.append_nil]; exact hP) (by rw [List.append_nil]; exact hD) va_S.rf (hlv ▸ hl)
    obtain ⟨t, a1, o, b1, b2, b3⟩ := g s₁ hh0 (Stand.of_body B)
    exact ⟨t, o, a1, b1, b2, ⟨b3.1, b3.2⟩⟩
section TH
variable {X : Cx} {cc : ByteArray} {own : String} {ws w : va_W} {lv : LV} {ce sl pc mc ms fr lo : Nat} {st : List Value} {Po : String → Nat → va_W → Prop}
theorem hlocs_of (h : Ok X cc own) {H : Heap} {locs : List Loc} (hS : va_S X.A X.s.heap H locs) : ∀ x ∈ locs, ∀ cell, X.s.heap[x.base]? = some cell → cell.vm.isStatics = false :=
  fun x hx cell hc => h.ns _ cell (hS.2.2 x hx) hc
/-- it has been thrown out of the method: the end -/
theorem leaveQ (hF : FinT X mc ms Po) {H : Heap} {locs : List Loc} (hP : va_P X.D vwCl (ws ++ X.F) H) (hD : va_D X.A (ws ++ X.F)) (hS : va_S X.A X.s.heap H locs) {T : State} (hT : T.heap = H)
    (Z : Stand X.p X.l X.e X.R X.s X.m X.args X.below X.meth X.c T locs ce sl) {U : State} {x k n : Nat} {C : String} (hrun : U.status = .running) (hend : Ended U X.below (.threw x)) (hW : (rb X.s T).WarmedH U.vm) (hsm : (rb X.s T).sameButNew ({ U with vm := (rb X.s T).vm } : State) [] k n)
    (hx : ∃ c' : Cell, U.heap[x]? = some c' ∧ X.s.vm.findClass C = some c'.cls ∧ c'.vm.isStatics = false) (is : List Nat) (hn : va_nd is = true) (hs : is.map (fun i => ws[i]?) = w.map some) (hq : Po C x w) (h1 : ce + k ≤ mc) (h2 : sl + n ≤ ms) : X.Q U := by
  rw [hF]
  have hkeep : ∀ (a : Nat) (c : Cell), H[a]? = some c → U.heap[a]? = some c := fun a c ha => same_nil hsm a c (by show T.heap[a]? = some c; rw [hT]; exact ha)
  have hkq : ∀ q : Nat, q < H.size → U.heap[q]? = H[q]? := fun q hq => by
    obtain ⟨c, hc⟩ : ∃ c, H[q]? = some c := ⟨_, Array.getElem?_eq_getElem hq⟩
    rw [hc]; exact hkeep q c hc
  have hsz : H.size ≤ U.heap.size := by have := hsm.2.1; rw [← hT]; exact this
  have hWs : X.s.WarmedH U.vm := State.WarmedH.trans Z.warmed hW
  refine ⟨.threw x, hrun, hend, ⟨⟨C, x, w, rfl, hq, hx, ?_, lD (subD hn hs hD)⟩, ?_, ?_⟩, locs, ⟨⟨x, rfl⟩, hWs, (rb_same Z hsm).mono h1 h2⟩, hS.2.2⟩
  · intro i q hq
    have := lP (subP hs hP) i q hq
    refine this.kept (hkq _ ?_)
    obtain ⟨q1, q2⟩ := q
    cases q2 with
    | inl a => exact (Array.getElem?_eq_some_iff.mp this).1
    | inr o =>
      obtain ⟨r, -, cell', g1, -⟩ := this
      exact (Array.getElem?_eq_some_iff.mp g1).1
  · exact Nat.le_trans hS.1 hsz
  · intro q hq1 hq2
    rw [hkq q (Nat.lt_of_lt_of_le hq1 hS.1)]
    exact hS.2.1 q hq1 hq2
end TH
