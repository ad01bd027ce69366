/-! more of the machine's throws; catches; methods with handlers -/
set_option maxRecDepth 100000
section
variable {X : Cx} {cc : ByteArray} {own : String} {ws wc wr w : va_W} {lv : LV} {ce sl pc fr lo mc ms : Nat} {st : List Value} {Po Po' : String → Nat → va_W → Prop}
theorem t_neg (h : Ok X cc own) (hR : Rm X fr lo mc ms) (hfl : X.l.flags = flags0) (hx : X.c.exceptionTable.toList = []) (hF : FinT X mc ms Po) {n : Int32} {at0 : ArrayType} (hn0 : n < 0) (hfr : 6 < fr) (hlo : (st.map fun v => v.category).sum + 10240 ≤ lo) (hce : ce + 3 ≤ mc) (hsl : sl + (44 + 10) ≤ ms) (is : List Nat) (hn : va_nd is = true) (hs : is.map (fun i => ws[i]?) = w.map some) (hq : ∀ x, Po "java/lang/NegativeArraySizeException" x w) (d : decode cc pc = .ok (.newarray at0, 2)) : G X ws lv ce sl pc (.int n :: st) := by
  refine t_msg (cls := "java/lang/NegativeArraySizeException") (names := ["java/lang/RuntimeException", "java/lang/Exception"]) (nb := 44) (st' := st) h hR hfl hx hF (by decide +kernel) (by decide +kernel) (by decide) (by decide) (fun s args A h1 h2 h3 h4 => at_nas h1 h2 h3 h4) (by decide) hfr hlo (by decide) hce hsl is hn hs hq ?_
  intro H locs ls T hP hT Z
  exact ⟨T, _, hT, Z, neg_mod n hn0, txt_bytes (int32_print n), Z.newarrayNegative h.x (g := F0 X.m pc ls (.int n :: st)) rfl hn0 (rest := st) rfl (by rw [h.b]; exact d)⟩
theorem t_idxb (h : Ok X cc own) (hR : Rm X fr lo mc ms) (hfl : X.l.flags = flags0) (hx : X.c.exceptionTable.toList = []) (hF : FinT X mc ms Po) {a n q0 : Nat} {f : Nat → Int32} {i v : Int32} (he : ws[q0]? = some (a, .inl (X.E 0, n, .inl f))) (hn31 : n < 2 ^ 31) (hout : i < 0 ∨ n ≤ i.toNatClampNeg) (hfr : 7 < fr) (hlo : (st.map fun v => v.category).sum + 10240 ≤ lo) (hce : ce + 3 ≤ mc) (hsl : sl + (212 + 10) ≤ ms) (is : List Nat) (hn : va_nd is = true) (hs : is.map (fun i => ws[i]?) = w.map some) (hq : ∀ x, Po "java/lang/ArrayIndexOutOfBoundsException" x w) (d : decode cc pc = .ok (.bastore, 1)) : G X ws lv ce sl pc (.int v :: .int i :: .ref a :: st) := by
  refine t_msg (cls := "java/lang/ArrayIndexOutOfBoundsException") (names := ["java/lang/IndexOutOfBoundsException", "java/lang/RuntimeException", "java/lang/Exception"]) (nb := 212) (st' := st) h hR hfl hx hF (by decide +kernel) (by decide +kernel) (by decide) (by decide) (fun s args A h1 h2 h3 h4 => at_idx h1 h2 h3 h4) (by decide) hfr hlo (by decide) hce hsl is hn hs hq ?_
  intro H locs ls T hP hT Z
  have hc : T.heap[a]? = some (arrV (X.E 0) n (fun j => .int (f j))) := by rw [hT]; exact hP q0 _ (apL he)
  exact ⟨T, _, hT, Z, index_text_modelled _ _, by rw [arrV_size]; exact index_text_bytes i hn31, Z.bastoreOut h.x hc ((h.k.2 0 _ rfl).1 n _) (by rw [arrV_size]; exact hout) (g := F0 X.m pc ls (.int v :: .int i :: .ref a :: st)) rfl rfl (by rw [h.b]; exact d)⟩
theorem t_idxs (h : Ok X cc own) (hR : Rm X fr lo mc ms) (hfl : X.l.flags = flags0) (hx : X.c.exceptionTable.toList = []) (hF : FinT X mc ms Po) {a n q0 : Nat} {f : Nat → Int32} {i v : Int32} (he : ws[q0]? = some (a, .inl (X.E 3, n, .inl f))) (hn31 : n < 2 ^ 31) (hout : i < 0 ∨ n ≤ i.toNatClampNeg) (hfr : 7 < fr) (hlo : (st.map fun v => v.category).sum + 10240 ≤ lo) (hce : ce + 3 ≤ mc) (hsl : sl + (212 + 10) ≤ ms) (is : List Nat) (hn : va_nd is = true) (hs : is.map (fun i => ws[i]?) = w.map some) (hq : ∀ x, Po "java/lang/ArrayIndexOutOfBoundsException" x w) (d : decode cc pc = .ok (.sastore, 1)) : G X ws lv ce sl pc (.int v :: .int i :: .ref a :: st) := by
  refine t_msg (cls := "java/lang/ArrayIndexOutOfBoundsException") (names := ["java/lang/IndexOutOfBoundsException", "java/lang/RuntimeException", "java/lang/Exception"]) (nb := 212) (st' := st) h hR hfl hx hF (by decide +kernel) (by decide +kernel) (by decide) (by decide) (fun s args A h1 h2 h3 h4 => at_idx h1 h2 h3 h4) (by decide) hfr hlo (by decide) hce hsl is hn hs hq ?_
  intro H locs ls T hP hT Z
  have hc : T.heap[a]? = some (arrV (X.E 3) n (fun j => .int (f j))) := by rw [hT]; exact hP q0 _ (apL he)
  exact ⟨T, _, hT, Z, index_text_modelled _ _, by rw [arrV_size]; exact index_text_bytes i hn31, Z.sastoreOut h.x hc ((h.k.2 3 _ rfl).1 n _) (by rw [arrV_size]; exact hout) (g := F0 X.m pc ls (.int v :: .int i :: .ref a :: st)) rfl rfl (by rw [h.b]; exact d)⟩
theorem t_idxi (h : Ok X cc own) (hR : Rm X fr lo mc ms) (hfl : X.l.flags = flags0) (hx : X.c.exceptionTable.toList = []) (hF : FinT X mc ms Po) {a n q0 : Nat} {f : Nat → Int32} {i v : Int32} (he : ws[q0]? = some (a, .inl (X.E 1, n, .inl f))) (hn31 : n < 2 ^ 31) (hout : i < 0 ∨ n ≤ i.toNatClampNeg) (hfr : 7 < fr) (hlo : (st.map fun v => v.category).sum + 10240 ≤ lo) (hce : ce + 3 ≤ mc) (hsl : sl + (212 + 10) ≤ ms) (is : List Nat) (hn : va_nd is = true) (hs : is.map (fun i => ws[i]?) = w.map some) (hq : ∀ x, Po "java/lang/ArrayIndexOutOfBoundsException" x w) (d : decode cc pc = .ok (.iastore, 1)) : G X ws lv ce sl pc (.int v :: .int i :: .ref a :: st) := by
  refine t_msg (cls := "java/lang/ArrayIndexOutOfBoundsException") (names := ["java/lang/IndexOutOfBoundsException", "java/lang/RuntimeException", "java/lang/Exception"]) (nb := 212) (st' := st) h hR hfl hx hF (by decide +kernel) (by decide +kernel) (by decide) (by decide) (fun s args A h1 h2 h3 h4 => at_idx h1 h2 h3 h4) (by decide) hfr hlo (by decide) hce hsl is hn hs hq ?_
  intro H locs ls T hP hT Z
  have hc : T.heap[a]? = some (arrV (X.E 1) n (fun j => .int (f j))) := by rw [hT]; exact hP q0 _ (apL he)
  exact ⟨T, _, hT, Z, index_text_modelled _ _, by rw [arrV_size]; exact index_text_bytes i hn31, Z.iastoreOut h.x hc ((h.k.2 1 _ rfl).1 n _) (by rw [arrV_size]; exact hout) (g := F0 X.m pc ls (.int v :: .int i :: .ref a :: st)) rfl rfl (by rw [h.b]; exact d)⟩
theorem t_idxl (h : Ok X cc own) (hR : Rm X fr lo mc ms) (hfl : X.l.flags = flags0) (hx : X.c.exceptionTable.toList = []) (hF : FinT X mc ms Po) {a n q0 : Nat} {f : Nat → Int64} {i : Int32} {v : Int64} (he : ws[q0]? = some (a, .inl (X.E 2, n, .inr (.inl f)))) (hn31 : n < 2 ^ 31) (hout : i < 0 ∨ n ≤ i.toNatClampNeg) (hfr : 7 < fr) (hlo : (st.map fun v => v.category).sum + 10240 ≤ lo) (hce : ce + 3 ≤ mc) (hsl : sl + (212 + 10) ≤ ms) (is : List Nat) (hn : va_nd is = true) (hs : is.map (fun i => ws[i]?) = w.map some) (hq : ∀ x, Po "java/lang/ArrayIndexOutOfBoundsException" x w) (d : decode cc pc = .ok (.lastore, 1)) : G X ws lv ce sl pc (.long v :: .int i :: .ref a :: st) := by
  refine t_msg (cls := "java/lang/ArrayIndexOutOfBoundsException") (names := ["java/lang/IndexOutOfBoundsException", "java/lang/RuntimeException", "java/lang/Exception"]) (nb := 212) (st' := st) h hR hfl hx hF (by decide +kernel) (by decide +kernel) (by decide) (by decide) (fun s args A h1 h2 h3 h4 => at_idx h1 h2 h3 h4) (by decide) hfr hlo (by decide) hce hsl is hn hs hq ?_
  intro H locs ls T hP hT Z
  have hc : T.heap[a]? = some (arrV (X.E 2) n (fun j => .long (f j))) := by rw [hT]; exact hP q0 _ (apL he)
  exact ⟨T, _, hT, Z, index_text_modelled _ _, by rw [arrV_size]; exact index_text_bytes i hn31, Z.lastoreOut h.x hc ((h.k.2 2 _ rfl).1 n _) (by rw [arrV_size]; exact hout) (g := F0 X.m pc ls (.long v :: .int i :: .ref a :: st)) rfl rfl (by rw [h.b]; exact d)⟩
theorem t_nulb (h : Ok X cc own) (hR : Rm X fr lo mc ms) (hfl : X.l.flags = flags0) (hx : X.c.exceptionTable.toList = []) (hF : FinT X mc ms Po) {i v : Int32} (hfr : 7 < fr) (hlo : (st.map fun v => v.category).sum + 10240 ≤ lo) (hce : ce + 1 ≤ mc) (hsl : sl + 8 ≤ ms) (is : List Nat) (hn : va_nd is = true) (hs : is.map (fun i => ws[i]?) = w.map some) (hq : ∀ x, Po "java/lang/NullPointerException" x w) (d : decode cc pc = .ok (.bastore, 1)) : G X ws lv ce sl pc (.int v :: .int i :: .null :: st) :=
  t_npe (st' := st) h hR hfl hx hF hfr hlo hce hsl is hn hs hq (fun ls T locs Z => Z.bastoreNull h.x (g := F0 X.m pc ls (.int v :: .int i :: .null :: st)) rfl rfl (by rw [h.b]; exact d))
theorem t_nuls (h : Ok X cc own) (hR : Rm X fr lo mc ms) (hfl : X.l.flags = flags0) (hx : X.c.exceptionTable.toList = []) (hF : FinT X mc ms Po) {i v : Int32} (hfr : 7 < fr) (hlo : (st.map fun v => v.category).sum + 10240 ≤ lo) (hce : ce + 1 ≤ mc) (hsl : sl + 8 ≤ ms) (is : List Nat) (hn : va_nd is = true) (hs : is.map (fun i => ws[i]?) = w.map some) (hq : ∀ x, Po "java/lang/NullPointerException" x w) (d : decode cc pc = .ok (.sastore, 1)) : G X ws lv ce sl pc (.int v :: .int i :: .null :: st) :=
  t_npe (st' := st) h hR hfl hx hF hfr hlo hce hsl is hn hs hq (fun ls T locs Z => Z.sastoreNull h.x (g := F0 X.m pc ls (.int v :: .int i :: .null :: st)) rfl rfl (by rw [h.b]; exact d))
theorem t_nuli (h : Ok X cc own) (hR : Rm X fr lo mc ms) (hfl : X.l.flags = flags0) (hx : X.c.exceptionTable.toList = []) (hF : FinT X mc ms Po) {i v : Int32} (hfr : 7 < fr) (hlo : (st.map fun v => v.category).sum + 10240 ≤ lo) (hce : ce + 1 ≤ mc) (hsl : sl + 8 ≤ ms) (is : List Nat) (hn : va_nd is = true) (hs : is.map (fun i => ws[i]?) = w.map some) (hq : ∀ x, Po "java/lang/NullPointerException" x w) (d : decode cc pc = .ok (.iastore, 1)) : G X ws lv ce sl pc (.int v :: .int i :: .null :: st) :=
  t_npe (st' := st) h hR hfl hx hF hfr hlo hce hsl is hn hs hq (fun ls T locs Z => Z.iastoreNull h.x (g := F0 X.m pc ls (.int v :: .int i :: .null :: st)) rfl rfl (by rw [h.b]; exact d))
theorem t_null (h : Ok X cc own) (hR : Rm X fr lo mc ms) (hfl : X.l.flags = flags0) (hx : X.c.exceptionTable.toList = []) (hF : FinT X mc ms Po) {i : Int32} {v : Int64} (hfr : 7 < fr) (hlo : (st.map fun v => v.category).sum + 10240 ≤ lo) (hce : ce + 1 ≤ mc) (hsl : sl + 8 ≤ ms) (is : List Nat) (hn : va_nd is = true) (hs : is.map (fun i => ws[i]?) = w.map some) (hq : ∀ x, Po "java/lang/NullPointerException" x w) (d : decode cc pc = .ok (.lastore, 1)) : G X ws lv ce sl pc (.long v :: .int i :: .null :: st) :=
  t_npe (st' := st) h hR hfl hx hF hfr hlo hce hsl is hn hs hq (fun ls T locs Z => Z.lastoreNull h.x (g := F0 X.m pc ls (.long v :: .int i :: .null :: st)) rfl rfl (by rw [h.b]; exact d))
theorem t_alenN (h : Ok X cc own) (hR : Rm X fr lo mc ms) (hfl : X.l.flags = flags0) (hx : X.c.exceptionTable.toList = []) (hF : FinT X mc ms Po) (hfr : 7 < fr) (hlo : (st.map fun v => v.category).sum + 10240 ≤ lo) (hce : ce + 1 ≤ mc) (hsl : sl + 8 ≤ ms) (is : List Nat) (hn : va_nd is = true) (hs : is.map (fun i => ws[i]?) = w.map some) (hq : ∀ x, Po "java/lang/NullPointerException" x w) (d : decode cc pc = .ok (.arraylength, 1)) : G X ws lv ce sl pc (.null :: st) :=
  t_npe (st' := st) h hR hfl hx hF hfr hlo hce hsl is hn hs hq (fun ls T locs Z => Z.arraylengthNull h.x (g := F0 X.m pc ls (.null :: st)) rfl rfl (by rw [h.b]; exact d))
/-- caught in this method -/
theorem catch_at (h : Ok X cc own) {pre rest : List ExceptionTableEntry} {row : ExceptionTableEntry} (hT : X.c.exceptionTable.toList = pre ++ row :: rest) {C : String} {x : Nat} (hpre : ∀ y ∈ pre, covers y pc = true ∧ y.catchType ≠ 0 ∧ ∃ nm, Cond.classLink own y.catchType nm ∈ lw_all ∧ va_Nc C nm X.s)
    (hc1 : covers row pc = true) (hc2 : row.catchType ≠ 0) {nm : String} (hlk : Cond.classLink own row.catchType nm ∈ lw_all) (hca : Cond.castable C nm ∈ lw_tbl) {T1 : State} {locs1 : List Loc} {ls : Array Slot} (hXC : XC C X.s T1 x) (hP : va_P X.D vwCl (ws ++ X.F) T1.heap) (hD : va_D X.A (ws ++ X.F)) (hS : va_S X.A X.s.heap T1.heap locs1) (hl : lv_has ls X.nL lv)
    (Z : Stand X.p X.l X.e X.R X.s X.m X.args X.below X.meth X.c T1 locs1 ce sl) (k : G X ws lv ce sl row.handlerPc [.ref x]) : ∃ t, Steps X.p.tables X.e X.below ((T1.setTop (F0 X.m pc ls st)).pushFrame (.throwing x)) t ∧ X.Q t := by
  have hpl : X.e.platform.magicAccessors = ({} : Platform).magicAccessors := by rw [Z.admits.platform]
  obtain ⟨cell, g1, g2, g3⟩ := hXC
  obtain ⟨c3, c4, hc3, hc4, hasg⟩ := Cond.castable_spec (args := X.args) (va_Nw.use rfl (h.nw.1 _ hca rfl))
  cases hc3.symm.trans g2
  have hend : Row X.e.platform X.s X.m.cls cell.cls true row := row_of hpl h.own hc2 (h.ts _ hlk) hc4 hasg
  obtain ⟨_, c', hcl, hfit⟩ := id hend
  obtain ⟨dk, _, _, kt, hd, _, _, _, _, hkt, _, hopen⟩ := hcl.here
  obtain ⟨vm', Z', hst⟩ := caughtR Z x (g := F0 X.m pc ls st) rfl g1 g3 (Vm.classAt_of_assignable hfit ⟨kt, hkt⟩) pre row rest hT (fun y hy => by
    obtain ⟨a1, a2, nm', a3, c0, t0, b1, b2, b3⟩ := hpre y hy
    cases g2.symm.trans b1
    exact ⟨a1, row_of hpl h.own a2 (h.ts _ a3) b2 b3⟩) hc1 hend
  obtain ⟨t, a1, b1⟩ := k T1.heap locs1 ls hP hD hS hl (T1.setVm vm') rfl Z'
  exact ⟨t, hst t a1, b1⟩
end
section
variable {X : Cx} {cc : ByteArray} {own : String} {ws wc wr : va_W} {lv : LV} {ce sl pc fr lo mc ms : Nat} {st : List Value}
variable {y : MethodName} {cy : ByteArray} {nLy : Nat} {ry : Option FieldType} {fry loy mcy msy idx n : Nat} {As : List Value} {Po' : String → Nat → va_W → Prop}
/-- what a throw finds in this method's table -/
def Caught (X : Cx) (own : String) (pc : Nat) (C : String) (hpc : Nat) : Prop := ∃ (pre rest : List ExceptionTableEntry) (row : ExceptionTableEntry) (nm : String), X.c.exceptionTable.toList = pre ++ row :: rest ∧ (∀ y ∈ pre, covers y pc = true ∧ y.catchType ≠ 0 ∧ ∃ nm, Cond.classLink own y.catchType nm ∈ lw_all ∧ va_Nc C nm X.s) ∧ covers row pc = true ∧ row.catchType ≠ 0 ∧ Cond.classLink own row.catchType nm ∈ lw_all ∧ Cond.castable C nm ∈ lw_tbl ∧ row.handlerPc = hpc
theorem g_callVC {isC isR : List Nat} {stk : List Value} {b ci q0 : Nat} {r : vw_C} {fs : List Value} (h : Ok X cc own) (hR : Rm X fr lo mc ms) (hM : CtT X.l y cy nLy ry fry loy mcy msy X.D X.E (.ref b :: As) wc Po') (hc : vwCl[ci]? = some r) (hb0 : ws[q0]? = some (b, .inr (ci, fs))) (w : GoodIn lw_all (wsV own idx r.1 y (ws_ y cy nLy ry))) (hd : y.cls = r.1 ∧ Dsc y n) (hn : As.length = n) (hp : Pla ws wc wr isC isR) (hf : Fits ce sl mcy msy mc ms fry loy nLy fr lo st) (hstk : As.reverse ++ .ref b :: st = stk) (d : decode cc pc = .ok (.invokevirtual idx, 3))
    (k : ∀ (C : String) (x : Nat) (w' : va_W), Po' C x w' → ∃ hpc, Caught X own pc C hpc ∧ G X (wr ++ w') lv (ce + mcy) (sl + msy) hpc [.ref x]) : G X ws lv ce sl pc stk := by
  intro H locs ls hP hD hS hl
  obtain ⟨p0, p1, p2, p3, p4⟩ := hp
  obtain ⟨f1, f2, f3, f4, f5⟩ := hf
  subst hstk
  have hpre := pre_S (av := .ref b :: As) h p0 p1 hP hD hS
  refine thr_gon h p1 p2 p3 p4 hP hD hS (runTV (As := As) (rest := st) (Qc := QT X.D (va_A wc H.size) Po') ⟨h.x, h.b, h.ml, h.own, h.ts⟩ (hM H.size) (cwV n h.ts w rfl rfl rfl hd ⟨Nat.le_trans f3 hR.1, Nat.le_trans f4 hR.2.1⟩) ⟨hpre.1, va_recv h.k hP hc (apL hb0), hpre.2⟩ rfl hn hl.1 rfl (lv_room f5) d ⟨Nat.le_trans f1 hR.2.2.1, Nat.le_trans f2 hR.2.2.2⟩) ?_
  intro C x w' T1 locs1 hq hXC hP2 hD2 hS2 Z
  obtain ⟨hpc, ⟨pre, rest, row, nm, c1, c2, c3, c4, c5, c6, rfl⟩, kG⟩ := k C x w' hq
  exact catch_at h c1 c2 c3 c4 c5 c6 hXC hP2 hD2 hS2 hl Z kG
theorem g_callSC {isC isR : List Nat} {stk : List Value} (h : Ok X cc own) (hR : Rm X fr lo mc ms) (hM : CtT X.l y cy nLy ry fry loy mcy msy X.D X.E As wc Po') (w : GoodIn lw_all (va_wsS own idx y (ws_ y cy nLy ry))) (hd : Dsc y n) (hn : As.length = n) (hp : Pla ws wc wr isC isR) (hf : Fits ce sl mcy msy mc ms fry loy nLy fr lo st) (hstk : As.reverse ++ st = stk) (d : decode cc pc = .ok (.invokestatic idx, 3))
    (k : ∀ (C : String) (x : Nat) (w' : va_W), Po' C x w' → ∃ hpc, Caught X own pc C hpc ∧ G X (wr ++ w') lv (ce + mcy) (sl + msy) hpc [.ref x]) : G X ws lv ce sl pc stk := by
  intro H locs ls hP hD hS hl
  obtain ⟨p0, p1, p2, p3, p4⟩ := hp
  obtain ⟨f1, f2, f3, f4, f5⟩ := hf
  subst hstk
  refine thr_gon h p1 p2 p3 p4 hP hD hS (runTS (As := As) (rest := st) (Qc := QT X.D (va_A wc H.size) Po') ⟨h.x, h.b, h.ml, h.own, h.ts⟩ (hM H.size) (va_cwS n h.ts w rfl rfl rfl hd ⟨Nat.le_trans f3 hR.1, Nat.le_trans f4 hR.2.1⟩) (pre_S h p0 p1 hP hD hS) rfl hn hl.1 rfl (lv_room f5) d ⟨Nat.le_trans f1 hR.2.2.1, Nat.le_trans f2 hR.2.2.2⟩) ?_
  intro C x w' T1 locs1 hq hXC hP2 hD2 hS2 Z
  obtain ⟨hpc, ⟨pre, rest, row, nm, c1, c2, c3, c4, c5, c6, rfl⟩, kG⟩ := k C x w' hq
  exact catch_at h c1 c2 c3 c4 c5 c6 hXC hP2 hD2 hS2 hl Z kG
end
/-! methods with handlers -/
def CtW (l : Launch) (y : MethodName) (cc : ByteArray) (nL : Nat) (ret : Option FieldType) (hh : List (Nat × Nat × Nat × Nat)) (fr lo mc ms : Nat) (D : va_G) (E : Ety) (av : List Value) (ws : va_W) (Po : Option Value → va_W → Prop) : Prop :=
  ∀ sz : Nat, Met l y (wsW_ y cc nL ret hh) ({ frames := fr, cells := mc, slots := ms, locals := lo }) (va_Pc av (fun U => U.heap.size = sz ∧ va_P D vwCl ws U.heap ∧ KK D E U ∧ va_D (fun _ => True) ws ∧ HH E (va_A ws sz) U))
    (fun _ s o t => (∃ (v : Option Value) (w : va_W), o = .returned v ∧ Po v w ∧ va_P D vwCl w t.heap ∧ va_D (va_A ws sz) w) ∧ va_F (va_A ws sz) s t) mc ms (va_A ws sz)
theorem ct_ofW {l : Launch} {y : MethodName} {cc : ByteArray} {nL : Nat} {ret : Option FieldType} {hh : List (Nat × Nat × Nat × Nat)} {fr lo mc ms : Nat} {D : va_G} {E : Ety} {av : List Value} {ws : va_W} {Po : Option Value → va_W → Prop} {F wsF : va_W} {lv : LV} {own : String} (hwF : ws ++ F = wsF) (hy : plainName y.cls = true) (ho : y.cls = own) (hn : (lg_sl av).length ≤ nL) (hlv : lv_args 0 av = lv)
    (body : ∀ X : Cx, X.l = l → X.D = D → X.E = E → X.nL = nL → X.F = F → Ok X cc own → Rm X fr lo mc ms → FinQ X ret mc ms Po → X.c.exceptionTable.toList = hh.map (fun q => ⟨q.1, q.2.1, q.2.2.1, q.2.2.2⟩) → G X ws lv 0 0 0 []) : CtW l y cc nL ret hh fr lo mc ms D E av wsF Po := by
  intro sz
  subst ho
  subst hwF
  refine va_MetW (cc := cc) (maxL := nL) (ret := ret) (hh := hh) hy rfl ?_
  intro p e s m args below meth c s₁ B hml hv
  obtain ⟨rfl, hsz, hP, hK, hD0, hH⟩ := hv
  subst hsz
  have hts0 := atoms_spec (ws := wsW_ y cc nL ret hh) B.pre
  have hts : ∀ w ∈ lw_all, w.before _ s = true := fun w h => hts0 w (List.mem_cons_of_mem _ h)
  have hD := hD0.self (sz := s.heap.size)
  obtain ⟨m9, meth9, c9, hn9, q1, q2, -, -, q5, -⟩ := Cond.codeWith_spec (hts0 _ List.mem_cons_self)
  cases B.named.symm.trans hn9
  cases B.method.symm.trans q1
  cases (Stand.of_body B).code.symm.trans q2
  have htab : c.exceptionTable.toList = hh.map (fun q => ⟨q.1, q.2.1, q.2.2.1, q.2.2.2⟩) := by
    rw [← q5, List.map_map]
    conv => lhs; rw [← List.map_id c.exceptionTable.toList]
    rfl
  rw [lg_entry_eq]
  have hl := lv_entry av (n := nL) hn
  exact body ((p, l, e, _, s, m, av.toArray), (below, meth, c), (D, E), (va_A (ws ++ F) s.heap.size, nL, _, F)) rfl rfl rfl rfl rfl ⟨B.exec, B.bytes, hml, findClass_of_methodNamed B.named, hts, hK, fun q h => Or.inr h, B.notSynchronized, hH, ns_of hP⟩ ⟨Nat.le_refl _, Nat.le_refl _, Nat.le_refl _, Nat.le_refl _⟩ ⟨B.returns, rfl⟩ htab s.heap [] _ hP hD va_S.rf (hlv ▸ hl)
