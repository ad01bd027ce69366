/-! rows of layer G for throws -/
set_option maxRecDepth 100000
theorem no_trace {l : Launch} {e : Env} (ha : l.admits e) (hfl : l.flags = flags0) : e.platform.stackTraces = false := by
  rw [ha.platform]
  show l.stackTraces = false
  unfold Launch.stackTraces
  rw [hfl]
  decide
def RunT (p : Program) (l : Launch) (e : Env) (R : Room) (s : State) (m : MethodId) (args : Array Value) (below : List Frame) (meth : Method) (c : Code) (H : Heap) (locs : List Loc) (cells slots mc ms : Nat) (g : JFrame) (rest : List Value) (Qa : State → Outcome → State → Prop) (free : Addr → Prop) : Prop :=
  ∀ T : State, T.heap = H → Stand p l e R s m args below meth c T locs cells slots → ∃ (x : Addr) (st₀ t T' : State) (L : List Loc), st₀.heap = H ∧ s.WarmedH st₀.vm ∧ Stand p l e R s m args below meth c T' (locs ++ L) (cells + mc) (slots + ms) ∧ (∀ q ∈ L, free q.base) ∧ T'.heap = t.heap ∧ T'.vm = t.vm ∧ Qa st₀ (.threw x) t ∧
    ∀ target, Steps p.tables e below ((T'.setTop { g with stack := rest }).pushFrame (.throwing x)) target → Steps p.tables e below (T.setTop g) target
section
variable {p : Program} {l : Launch} {e : Env} {R : Room} {s : State} {m : MethodId} {args : Array Value} {below : List Frame} {meth : Method} {c : Code} {H : Heap} {locs : List Loc} {cells slots : Nat}
variable {y : MethodName} {bytes cc : ByteArray} {maxL nL mc ms n index : Nat} {ret : Option FieldType} {ws : List Cond} {rm : Room} {Pc : Array Value → State → Prop} {Qc : Array Value → State → Outcome → State → Prop} {free : Addr → Prop} {Ts : List Cond} {own C : String} {b : Addr} {As rest : List Value} {g : JFrame}
theorem runTV (S : CallFix p m c cc nL s args Ts own) (hM : MetFree l y (headSpec ws rm) Pc (fun _ _ _ _ _ => True) (fun a st o t => Qc a st o t ∧ ∃ L, FEndT st o t L mc ms ∧ ∀ q ∈ L, free q.base)) (cw : CallW R s args own C index y bytes maxL ret ws rm mc ms n) (hp : PreV s H C b Pc As)
    (hg : g.method = m) (hn : As.length = n) (hsize : g.locals.size = nL) (hstack : g.stack = As.reverse ++ .ref b :: rest) (hW : 2 * g.monitorRoom + (rest.map fun v => v.category).sum ≤ 8) (hdg : decode cc g.pc = .ok (.invokevirtual index, 3)) (hf : cells + mc ≤ R.cells ∧ slots + ms ≤ R.slots) :
    RunT p l e R s m args below meth c H locs cells slots mc ms g rest (Qc (Value.ref b :: As).toArray) free := by
  obtain ⟨⟨hrc, hrs, hfr, hlo, hws, hcw, hcode, hini, hy, hlen, hl⟩, hin, hse⟩ := cw
  obtain ⟨hx, hb, hml, ho, -⟩ := S
  obtain ⟨hbl, ⟨cellB, hcB, hoB, hclB⟩, hPc⟩ := hp
  intro T hT X
  obtain ⟨mk, methM, hnamed, hmethM, hstM, habM⟩ := Cond.instanceMethod_spec hin
  obtain ⟨methM', cM, hmethM', -, -, -, -, -, -, hsigM⟩ := Cond.code_spec hnamed hcode
  cases hmethM.symm.trans hmethM'
  obtain ⟨c2, r2, m2, q1, q2, q3, q4, kP, hkP, hkPi⟩ := Cond.selects_spec hse
  cases hclB.symm.trans q1
  cases (State.methodFound?_of_named hnamed hy).symm.trans q2
  cases hnamed.symm.trans q3
  have hselP : selectMethod e.platform s.vm cellB.cls mk = .method mk := by rw [Launch.admits_selectMethod X.admits]; exact q4
  obtain ⟨vm₁, X₁, hstep₁⟩ := X.invokevirtual hx ho hl hnamed hmethM hstM hkP hkPi hy (a := b) (cell := cellB) (by rw [hT]; exact hcB) (fun z h => by rw [h] at hoB; cases hoB) hselP hmethM habM hkP hkPi (g := g) hg (argsL := As) (rest := rest) (hn.trans (hlen _ hsigM)) hstack (by rw [hb]; exact hdg)
  obtain ⟨x, t, T', L, X', hq, hL, e1, e2, hsteps⟩ := callT (bytes := bytes) (maxL := maxL) (ret := ret) (W := 8) hM X₁ (g := { g with stack := rest }) hg (hsize.trans hml.symm) (ig := .invokevirtual index) (len := 3) (by rw [hb]; exact hdg) hW (mk := mk) (a := (Value.ref b :: As).toArray) (X₁.named hnamed) hfr hlo (atoms_intro fun w hw => hws w hw _ _ X₁.warmed) (hws _ hcw _ _ X₁.warmed) (word_at X₁.warmed (Or.inl rfl) hini) (by show cells + rm.cells ≤ _; rw [hrc]; exact hf.1) (by show slots + rm.slots ≤ _; rw [hrs]; exact hf.2) (hbl _ _ _ _ (hPc (T.setVm vm₁) hT X₁.warmed))
  exact ⟨x, (T.setVm vm₁).calling { g with stack := rest } mk (Value.ref b :: As).toArray, t, T', L, hT, X₁.warmed, X', hL, e1, e2, hq, fun target h => hstep₁ _ fun acts => by rw [doInvoke_state]; exact hsteps.trans h⟩
theorem runTS (S : CallFix p m c cc nL s args Ts own) (hM : MetFree l y (headSpec ws rm) Pc (fun _ _ _ _ _ => True) (fun a st o t => Qc a st o t ∧ ∃ L, FEndT st o t L mc ms ∧ ∀ q ∈ L, free q.base)) (cw : CallB R s args own index y bytes maxL ret ws rm mc ms n ∧ (Cond.static y).before args s = true) (hp : PreS s H Pc As)
    (hg : g.method = m) (hn : As.length = n) (hsize : g.locals.size = nL) (hstack : g.stack = As.reverse ++ rest) (hW : 2 * g.monitorRoom + (rest.map fun v => v.category).sum ≤ 8) (hdg : decode cc g.pc = .ok (.invokestatic index, 3)) (hf : cells + mc ≤ R.cells ∧ slots + ms ≤ R.slots) :
    RunT p l e R s m args below meth c H locs cells slots mc ms g rest (Qc As.toArray) free := by
  obtain ⟨⟨hrc, hrs, hfr, hlo, hws, hcw, hcode, hini, hy, hlen, hl⟩, hstat⟩ := cw
  obtain ⟨hx, hb, hml, ho, -⟩ := S
  obtain ⟨hbl, hPc⟩ := hp
  intro T hT X
  obtain ⟨mk, hnamed⟩ := Cond.code_named hcode
  obtain ⟨methM, cM, hmethM, -, -, -, -, -, -, hsigM⟩ := Cond.code_spec hnamed hcode
  have hstatic : methM.isStatic = true := Cond.static_spec hnamed hmethM hstat
  obtain ⟨kP, hkP, -⟩ := className_of_methodNamed hnamed
  have hinitP : kP.init = .initialized := Cond.initialized_spec (findClass_of_methodNamed hnamed) hkP hini
  obtain ⟨vm₁, X₁, hstep₁⟩ := X.invokestatic hx ho hl hnamed hmethM hstatic hkP hinitP hy (g := g) hg (argsL := As) (rest := rest) (hn.trans (hlen _ hsigM)) hstack (by rw [hb]; exact hdg)
  obtain ⟨x, t, T', L, X', hq, hL, e1, e2, hsteps⟩ := callT (bytes := bytes) (maxL := maxL) (ret := ret) (W := 8) hM X₁ (g := { g with stack := rest }) hg (hsize.trans hml.symm) (ig := .invokestatic index) (len := 3) (by rw [hb]; exact hdg) hW (mk := mk) (a := As.toArray) (X₁.named hnamed) hfr hlo (atoms_intro fun w hw => hws w hw _ _ X₁.warmed) (hws _ hcw _ _ X₁.warmed) (word_at X₁.warmed (Or.inl rfl) hini) (by show cells + rm.cells ≤ _; rw [hrc]; exact hf.1) (by show slots + rm.slots ≤ _; rw [hrs]; exact hf.2) (hbl _ _ _ _ (hPc (T.setVm vm₁) hT X₁.warmed))
  exact ⟨x, (T.setVm vm₁).calling { g with stack := rest } mk As.toArray, t, T', L, hT, X₁.warmed, X', hL, e1, e2, hq, fun target h => hstep₁ _ fun acts => by rw [doInvoke_state]; exact hsteps.trans h⟩
end
section
variable {X : Cx} {cc : ByteArray} {own : String} {ws wc wr w : va_W} {lv : LV} {ce sl pc fr lo mc ms : Nat} {st : List Value}
variable {y : MethodName} {cy : ByteArray} {nLy : Nat} {ry : Option FieldType} {fry loy mcy msy idx n : Nat} {As : List Value} {Po Po' : String → Nat → va_W → Prop}
/-- behind a callee that threw -/
theorem thr_gon {v0 : List Value} {isC isR : List Nat} (h : Ok X cc own) (hC : isC.map (fun i => ws[i]?) = wc.map some) (hW : isR.map (fun i => ws[i]?) = wr.map some) (hn : va_nd isR = true) (hd : ∀ i ∈ isR, i ∉ isC)
    {H : Heap} {locs : List Loc} {ls : Array Slot} (hP : va_P X.D vwCl (ws ++ X.F) H) (hD : va_D X.A (ws ++ X.F)) (hS : va_S X.A X.s.heap H locs)
    (hr : RunT X.p X.l X.e X.R X.s X.m X.args X.below X.meth X.c H locs ce sl mcy msy (F0 X.m pc ls v0) st (fun s o t => QT X.D (va_A wc H.size) Po' (#[] : Array Value) s o t) (va_A wc H.size))
    (k : ∀ (C : String) (x : Nat) (w : va_W) (T1 : State) (locs1 : List Loc), Po' C x w → XC C X.s T1 x → va_P X.D vwCl ((wr ++ w) ++ X.F) T1.heap → va_D X.A ((wr ++ w) ++ X.F) → va_S X.A X.s.heap T1.heap locs1 → Stand X.p X.l X.e X.R X.s X.m X.args X.below X.meth X.c T1 locs1 (ce + mcy) (sl + msy) →
      ∃ t, Steps X.p.tables X.e X.below ((T1.setTop (F0 X.m pc ls st)).pushFrame (.throwing x)) t ∧ X.Q t) : W X.p X.l X.e X.R X.s X.m X.args X.below X.meth X.c H locs ce sl X.Q (F0 X.m pc ls v0) := by
  intro T hT Z
  have hF := va_free (wc := wc) hD hS h.a isC (pl_L hC)
  obtain ⟨x, s0, t, T', L, hs0, hWs, Z', hL, hh, hvm, ⟨⟨C, x', w, he, hPo, hXC, hP1, hD1⟩, hF1⟩, hgo⟩ := hr T hT Z
  cases he
  obtain ⟨hP2, hD2⟩ := va_join (wr := wr ++ X.F) (w1 := w) hP hD isC (isR ++ List.range' ws.length X.F.length) (pl_L hC) (by rw [List.map_append, List.map_append, pl_L hW, pl_rng]) (by
      rw [vnd_iff, List.nodup_append]
      refine ⟨(vnd_iff isR).mp hn, List.nodup_range', ?_⟩
      intro a ha b hb e
      have h1 := pl_lt hW a ha
      have h2 := List.mem_range'_1.mp hb
      omega) (by
      intro i hi z
      rcases List.mem_append.mp hi with y | y
      · exact hd i y z
      · have h1 := pl_lt hC i z
        have h2 := List.mem_range'_1.mp y
        omega) (H1 := t.heap) (fun q h1 h2 => by have := hF1.2 q (by rw [hs0]; exact h1) h2; rw [hs0] at this; exact this) hF hP1 hD1
  have hP2 := pPp (pmv _ _ _) hP2
  have hD2 := pD (pmv _ _ _) hD2
  have hS2 : va_S X.A X.s.heap t.heap (locs ++ L) := by
    refine ⟨Nat.le_trans hS.1 (by have := hF1.1; rw [hs0] at this; exact this), fun q h1 h2 => ?_, fun q hq => ?_⟩
    · have h3 : q < H.size := Nat.lt_of_lt_of_le h1 hS.1
      have := hF1.2 q (by rw [hs0]; exact h3) (fun z => h2 (hF q z))
      rw [hs0] at this
      rw [this]
      exact hS.2.1 q h1 h2
    · rcases List.mem_append.mp hq with z | z
      · exact hS.2.2 q z
      · exact hF _ (hL q z)
  have hXC' : XC C X.s T' x := by
    obtain ⟨c', g1, g2, g3⟩ := hXC
    exact ⟨c', by rw [hh]; exact g1, by rw [← hWs.alike.findClass]; exact g2, g3⟩
  obtain ⟨t2, a1, b1⟩ := k C x w T' (locs ++ L) hPo hXC' (by rw [hh]; exact hP2) hD2 (by rw [hh]; exact hS2) Z'
  exact ⟨t2, hgo _ a1, b1⟩
/-- it leaves the method -/
theorem thr_out (h : Ok X cc own) (hF : FinT X mc ms Po) (hx : X.c.exceptionTable.toList = []) {T1 : State} {locs1 : List Loc} {C : String} {x : Nat} {ls : Array Slot} (hXC : XC C X.s T1 x) (hP : va_P X.D vwCl (ws ++ X.F) T1.heap) (hD : va_D X.A (ws ++ X.F)) (hS : va_S X.A X.s.heap T1.heap locs1)
    (Z : Stand X.p X.l X.e X.R X.s X.m X.args X.below X.meth X.c T1 locs1 ce sl) (is : List Nat) (hn : va_nd is = true) (hs : is.map (fun i => ws[i]?) = w.map some) (hq : Po C x w) (h1 : ce ≤ mc) (h2 : sl ≤ ms) :
    ∃ t, Steps X.p.tables X.e X.below ((T1.setTop (F0 X.m pc ls st)).pushFrame (.throwing x)) t ∧ X.Q t := by
  obtain ⟨a1, a2, a3, a4, a5⟩ := Z.leaveThrown x (g := F0 X.m pc ls st) rfl rfl rfl (by rw [hx]; intro z hz; exact nomatch hz) h.lk
  refine ⟨_, a1, ?_⟩
  rw [hF]
  exact ⟨.threw x, a2, a3, ⟨⟨C, x, w, rfl, hq, hXC, lP (subP hs hP), lD (subD hn hs hD)⟩, hS.1, hS.2.1⟩, locs1, ⟨⟨x, rfl⟩, a4, a5.mono h1 h2⟩, hS.2.2⟩
theorem g_callVT {isC isR : List Nat} {stk : List Value} {b ci q0 : Nat} {r : vw_C} {fs : List Value} (h : Ok X cc own) (hR : Rm X fr lo mc ms) (hF : FinT X mc ms Po) (hx : X.c.exceptionTable.toList = []) (hM : CtT X.l y cy nLy ry fry loy mcy msy X.D X.E (.ref b :: As) wc Po') (hc : vwCl[ci]? = some r) (hb0 : ws[q0]? = some (b, .inr (ci, fs))) (w : GoodIn lw_all (wsV own idx r.1 y (ws_ y cy nLy ry))) (hd : y.cls = r.1 ∧ Dsc y n) (hn : As.length = n) (hp : Pla ws wc wr isC isR) (hf : Fits ce sl mcy msy mc ms fry loy nLy fr lo st) (hstk : As.reverse ++ .ref b :: st = stk) (d : decode cc pc = .ok (.invokevirtual idx, 3))
    (k : ∀ (C : String) (x : Nat) (w' : va_W), Po' C x w' → ∃ (is : List Nat) (w : va_W), va_nd is = true ∧ is.map (fun i => (wr ++ w')[i]?) = w.map some ∧ Po C x w) : G X ws lv ce sl pc stk := by
  intro H locs ls hP hD hS hl
  obtain ⟨p0, p1, p2, p3, p4⟩ := hp
  obtain ⟨f1, f2, f3, f4, f5⟩ := hf
  subst hstk
  have hpre := pre_S (av := .ref b :: As) h p0 p1 hP hD hS
  refine thr_gon h p1 p2 p3 p4 hP hD hS (runTV (As := As) (rest := st) (Qc := QT X.D (va_A wc H.size) Po') ⟨h.x, h.b, h.ml, h.own, h.ts⟩ (hM H.size) (cwV n h.ts w rfl rfl rfl hd ⟨Nat.le_trans f3 hR.1, Nat.le_trans f4 hR.2.1⟩) ⟨hpre.1, va_recv h.k hP hc (apL hb0), hpre.2⟩ rfl hn hl.1 rfl (lv_room f5) d ⟨Nat.le_trans f1 hR.2.2.1, Nat.le_trans f2 hR.2.2.2⟩) ?_
  intro C x w' T1 locs1 hq hXC hP2 hD2 hS2 Z
  obtain ⟨is, w2, i1, i2, i3⟩ := k C x w' hq
  exact thr_out h hF hx hXC hP2 hD2 hS2 Z is i1 i2 i3 f1 f2
theorem g_callST {isC isR : List Nat} {stk : List Value} (h : Ok X cc own) (hR : Rm X fr lo mc ms) (hF : FinT X mc ms Po) (hx : X.c.exceptionTable.toList = []) (hM : CtT X.l y cy nLy ry fry loy mcy msy X.D X.E As wc Po') (w : GoodIn lw_all (va_wsS own idx y (ws_ y cy nLy ry))) (hd : Dsc y n) (hn : As.length = n) (hp : Pla ws wc wr isC isR) (hf : Fits ce sl mcy msy mc ms fry loy nLy fr lo st) (hstk : As.reverse ++ st = stk) (d : decode cc pc = .ok (.invokestatic idx, 3))
    (k : ∀ (C : String) (x : Nat) (w' : va_W), Po' C x w' → ∃ (is : List Nat) (w : va_W), va_nd is = true ∧ is.map (fun i => (wr ++ w')[i]?) = w.map some ∧ Po C x w) : G X ws lv ce sl pc stk := by
  intro H locs ls hP hD hS hl
  obtain ⟨p0, p1, p2, p3, p4⟩ := hp
  obtain ⟨f1, f2, f3, f4, f5⟩ := hf
  subst hstk
  refine thr_gon h p1 p2 p3 p4 hP hD hS (runTS (As := As) (rest := st) (Qc := QT X.D (va_A wc H.size) Po') ⟨h.x, h.b, h.ml, h.own, h.ts⟩ (hM H.size) (va_cwS n h.ts w rfl rfl rfl hd ⟨Nat.le_trans f3 hR.1, Nat.le_trans f4 hR.2.1⟩) (pre_S h p0 p1 hP hD hS) rfl hn hl.1 rfl (lv_room f5) d ⟨Nat.le_trans f1 hR.2.2.1, Nat.le_trans f2 hR.2.2.2⟩) ?_
  intro C x w' T1 locs1 hq hXC hP2 hD2 hS2 Z
  obtain ⟨is, w2, i1, i2, i3⟩ := k C x w' hq
  exact thr_out h hF hx hXC hP2 hD2 hS2 Z is i1 i2 i3 f1 f2
/-- athrow of an object of the world -/
theorem g_athrow (h : Ok X cc own) (hF : FinT X mc ms Po) (hx : X.c.exceptionTable.toList = []) {a ci : Nat} {r : vw_C} {fs : List Value} (q0 : Nat) (he : ws[q0]? = some (a, .inr (ci, fs))) (hc : vwCl[ci]? = some r) (is : List Nat) (hn : va_nd is = true) (hs : is.map (fun i => ws[i]?) = w.map some) (hq : Po r.1 a w) (h1 : ce ≤ mc) (h2 : sl ≤ ms) (d : decode cc pc = .ok (.athrow, 1)) : G X ws lv ce sl pc (.ref a :: st) := by
  intro H locs ls hP hD hS hl T hT Z
  obtain ⟨cell, g1, g2, g3⟩ := va_recv h.k hP hc (apL he)
  obtain ⟨a1, a2, a3, a4, a5⟩ := Z.athrowLeaves h.x (g := F0 X.m pc ls (.ref a :: st)) rfl rfl rfl (by rw [hx]; intro z hz; exact nomatch hz) (a := a) (rest := st) rfl (by rw [h.b]; exact d) h.lk
  refine ⟨_, a1, ?_⟩
  rw [hF]
  have hh : (T.setFrames (.throwing a :: X.below)).heap = H := hT
  exact ⟨.threw a, a2, a3, ⟨⟨r.1, a, w, rfl, hq, ⟨cell, by rw [hh]; exact g1, g3, g2⟩, by rw [hh]; exact lP (subP hs hP), lD (subD hn hs hD)⟩, by rw [hh]; exact hS.1, by rw [hh]; exact hS.2.1⟩, locs, ⟨⟨a, rfl⟩, a4, a5.mono h1 h2⟩, hS.2.2⟩
end
