/-! calls of methods with handlers -/
set_option maxRecDepth 100000
theorem pre1 {α : Type} {P : α → Prop} {a : α} (h : P a) : ∀ z ∈ [a], P z := fun z hz => by rw [List.mem_singleton.mp hz]; exact h
theorem pre2 {α : Type} {P : α → Prop} {a b : α} (h1 : P a) (h2 : P b) : ∀ z ∈ [a, b], P z := fun z hz => by
  rcases List.mem_cons.mp hz with e | e
  · rw [e]; exact h1
  · rw [List.mem_singleton.mp e]; exact h2
section
variable {p : Program} {l : Launch} {e : Env} {R : Room} {s : State} {m : MethodId} {args : Array Value} {below : List Frame} {meth : Method} {c : Code} {H : Heap} {locs : List Loc} {cells slots : Nat}
variable {y : MethodName} {bytes cc : ByteArray} {maxL nL mc ms n index : Nat} {ret : Option FieldType} {hh : List (Nat × Nat × Nat × Nat)} {ws : List Cond} {rm : Room} {Pc : Array Value → State → Prop} {Qc : Array Value → State → Outcome → State → Prop} {free : Addr → Prop} {Ts : List Cond} {own C : String} {b : Addr} {As rest : List Value} {g : JFrame}
theorem runVW (S : CallFix p m c cc nL s args Ts own) (hM : Met l y ws rm Pc Qc mc ms free) (hrc : rm.cells = mc) (hrs : rm.slots = ms) (hfr : rm.frames + 1 ≤ R.frames) (hlo : 8 + (maxL + 11) + rm.locals ≤ R.locals) (hws : ∀ w ∈ ws, ∀ (a' : Array Value) (U : State), s.WarmedH U.vm → w.before a' U = true) (hcw : Cond.codeWith y bytes maxL ret hh ∈ ws)
    (hcode : (Cond.codeWith y bytes maxL ret hh).before args s = true) (hini : (Cond.initialized y.cls).before args s = true) (hy : y.cls ≠ "java/lang/invoke/MethodHandle" ∧ y.cls ≠ "java/lang/invoke/VarHandle") (hlen : ∀ sig, parseMethodDescriptor y.desc = some sig → n = sig.parameters.length) (hl : (Cond.methodLink own index y).before args s = true) (hin : (Cond.instanceMethod y).before args s = true) (hse : (Cond.selects C y y).before args s = true)
    (hp : PreV s H C b Pc As) (hg : g.method = m) (hn : As.length = n) (hsize : g.locals.size = nL) (hstack : g.stack = As.reverse ++ .ref b :: rest) (hW : 2 * g.monitorRoom + (rest.map fun v => v.category).sum ≤ 8) (hdg : decode cc g.pc = .ok (.invokevirtual index, 3)) (hf : cells + mc ≤ R.cells ∧ slots + ms ≤ R.slots) :
    va_Run p l e R s m args below meth c H locs cells slots mc ms g rest (Qc (Value.ref b :: As).toArray) free := by
  have hK : Back l R p e below s args y 3 8 (PreOf R mc ms Pc) (PostOf Qc mc ms free) := va_backW (hh := hh) hM hp.1 hrc hrs hfr hlo hws hcw (fun a' U hW => word_at hW (Or.inl rfl) hini)
  obtain ⟨hx, hb, hml, ho, -⟩ := S
  obtain ⟨-, ⟨cellB, hcB, hoB, hclB⟩, hPc⟩ := hp
  intro T hT X
  obtain ⟨mk, methM, hnamed, hmethM, hstM, habM⟩ := Cond.instanceMethod_spec hin
  obtain ⟨m9, methM', cM, hn9, hmethM', -, -, -, -, -, -, hsigM⟩ := Cond.codeWith_spec hcode
  cases hnamed.symm.trans hn9
  cases hmethM.symm.trans hmethM'
  obtain ⟨c2, r2, m2, q1, q2, q3, q4, kP, hkP, hkPi⟩ := Cond.selects_spec hse
  cases hclB.symm.trans q1
  cases (State.methodFound?_of_named hnamed hy).symm.trans q2
  cases hnamed.symm.trans q3
  have hselP : selectMethod e.platform s.vm cellB.cls mk = .method mk := by rw [Launch.admits_selectMethod X.admits]; exact q4
  obtain ⟨vm₁, X₁, hstep₁⟩ := X.invokevirtual hx ho hl hnamed hmethM hstM hkP hkPi hy (a := b) (cell := cellB) (by rw [hT]; exact hcB) (fun z h => by rw [h] at hoB; cases hoB) hselP hmethM habM hkP hkPi (g := g) hg (argsL := As) (rest := rest) (hn.trans (hlen _ hsigM)) hstack (by rw [hb]; exact hdg)
  obtain ⟨v, ⟨U', l2, c2', s2⟩, X', ⟨g', mk', t, L, e1, e2, hq, h1, hL, h2, h3⟩, hsteps⟩ := hK m meth c ⟨T.setVm vm₁, locs, cells, slots⟩ { g with stack := rest } (.invokevirtual index) mk (Value.ref b :: As).toArray X₁ hg (hsize.trans hml.symm) (by rw [hb]; exact hdg) hW (X₁.named hnamed) ⟨hf.1, hf.2, hPc (T.setVm vm₁) hT X₁.warmed⟩
  dsimp only [Pt.U, Pt.locs, Pt.cells, Pt.slots] at X' e1 e2 h1 h2 h3 hsteps
  subst h1; subst h2; subst h3
  exact ⟨v, (T.setVm vm₁).calling g' mk' (Value.ref b :: As).toArray, t, U', L, hT, X', hL, e1, e2, hq, fun target h => hstep₁ _ fun acts => by rw [doInvoke_state]; exact hsteps.trans h⟩
end
section
variable {X : Cx} {cc : ByteArray} {own : String} {ws wc wr : va_W} {lv : LV} {ce sl pc fr lo mc ms : Nat} {st : List Value}
variable {y : MethodName} {cy : ByteArray} {nLy : Nat} {ry : Option FieldType} {hh : List (Nat × Nat × Nat × Nat)} {fry loy mcy msy idx n : Nat} {As : List Value} {Po : Option Value → va_W → Prop}
theorem g_callVW {isC isR : List Nat} {stk : List Value} {b ci q0 : Nat} {r : vw_C} {fs : List Value} (h : Ok X cc own) (hR : Rm X fr lo mc ms) (hM : CtW X.l y cy nLy ry hh fry loy mcy msy X.D X.E (.ref b :: As) wc Po) (hc : vwCl[ci]? = some r) (hb0 : ws[q0]? = some (b, .inr (ci, fs))) (w1 : Cond.methodLink own idx y ∈ lw_all) (w2 : Cond.instanceMethod y ∈ lw_all) (w3 : Cond.selects r.1 y y ∈ lw_all) (w4 : Cond.initialized y.cls ∈ lw_all) (w5 : Cond.codeWith y cy nLy ry hh ∈ lw_all) (hd : Dsc y n) (hn : As.length = n) (hp : Pla ws wc wr isC isR) (hf : Fits ce sl mcy msy mc ms fry loy nLy fr lo st) (hstk : As.reverse ++ .ref b :: st = stk) (d : decode cc pc = .ok (.invokevirtual idx, 3))
    (k : ∀ (v : Option Value) (w : va_W), Po v w → G X (wr ++ w) lv (ce + mcy) (sl + msy) (pc + 3) (v.toList ++ st)) : G X ws lv ce sl pc stk := by
  intro H locs ls hP hD hS hl
  obtain ⟨p0, p1, p2, p3, p4⟩ := hp
  obtain ⟨f1, f2, f3, f4, f5⟩ := hf
  subst hstk
  have hpre := pre_S (av := .ref b :: As) h p0 p1 hP hD hS
  have hlen : ∀ sig, parseMethodDescriptor y.desc = some sig → n = sig.parameters.length := by
    intro sig hsig
    have := hd.2.2
    rw [hsig] at this
    exact (Option.some.inj this).symm
  exact va_gon h p1 p2 p3 p4 hP hD hS hl (runVW (As := As) (rest := st) ⟨h.x, h.b, h.ml, h.own, h.ts⟩ (hM H.size) rfl rfl (Nat.le_trans f3 hR.1) (Nat.le_trans f4 hR.2.1) (fun w hw a' U hW => word_at hW ((lw_methW w5) w hw).2 (h.ts w ((lw_methW w5) w hw).1)) List.mem_cons_self (h.ts _ w5) (h.ts _ w4) ⟨hd.1, hd.2.1⟩ hlen (h.ts _ w1) (h.ts _ w2) (h.ts _ w3) ⟨hpre.1, va_recv h.k hP hc (apL hb0), hpre.2⟩ rfl hn hl.1 rfl (lv_room f5) d ⟨Nat.le_trans f1 hR.2.2.1, Nat.le_trans f2 hR.2.2.2⟩) k
end
