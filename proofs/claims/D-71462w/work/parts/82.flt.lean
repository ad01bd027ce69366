/-! own throws: new ArrayIndexOutOfBoundsException(), new Fault(place) -/
set_option maxRecDepth 100000
theorem P_kept {D : va_G} {cl : List vw_C} {w : va_W} {H H' : Heap} (hP : va_P D cl w H) (hk : ∀ q : Nat, q < H.size → H'[q]? = H[q]?) : va_P D cl w H' := by
  intro i q hq
  have := hP i q hq
  refine this.kept (hk _ ?_)
  obtain ⟨q1, q2⟩ := q
  cases q2 with
  | inl a => exact (Array.getElem?_eq_some_iff.mp this).1
  | inr o =>
    obtain ⟨r, -, cell', g1, -⟩ := this
    exact (Array.getElem?_eq_some_iff.mp g1).1
section
variable {X : Cx} {cc : ByteArray} {own : String} {ws w : va_W} {lv : LV} {ce sl pc fr lo mc ms : Nat} {st : List Value} {Po : String → Nat → va_W → Prop}
theorem ok_nw (h : Ok X cc own) : ∀ w ∈ lw_tbl, nwk w = true → w.before X.args X.s = true := fun w hw hk => by
  have h1 := h.nw.1 w hw hk
  cases w <;> first
    | exact absurd (show false = true from hk) Bool.false_ne_true
    | exact va_Nw.use rfl h1
theorem t_own (h : Ok X cc RX0) (hR : Rm X fr lo mc ms) (hfl : X.l.flags = flags0) (hx : X.c.exceptionTable.toList = []) (hF : FinT X mc ms Po) (hfr : 6 < fr) (hlo : (st.map fun v => v.category).sum + 120 ≤ lo) (hce : ce + 1 ≤ mc) (hsl : sl + 6 ≤ ms) (is : List Nat) (hn : va_nd is = true) (hs : is.map (fun i => ws[i]?) = w.map some) (hq : ∀ x, Po "java/lang/ArrayIndexOutOfBoundsException" x w)
    (d0 : decode cc pc = .ok (.new 379, 3)) (d1 : decode cc (pc + 3) = .ok (.dup, 1)) (d2 : decode cc (pc + 3 + 1) = .ok (.invokespecial 385, 3)) (d3 : decode cc (pc + 3 + 1 + 3) = .ok (.athrow, 1)) : G X ws lv ce sl pc st := by
  intro H locs ls hP hD hS hl
  obtain ⟨cC, kC0, hfc, hk0, hord, -⟩ := Cond.instantiable_spec (h.ts _ q958)
  refine W.newcK h.x h.b h.own (h.ts _ q957) (h.ts _ q958) (h.ts _ q99) rfl d0 (Nat.le_trans hce hR.2.2.1) (Nat.le_trans hsl hR.2.2.2) hfc rfl fun H1 kC hkC e1 z1 o1 => ?_
  cases hk0.symm.trans hkC
  refine lv_dup h.x h.b d1 rfl ?_
  intro T hT Z
  have hcell : T.heap[H.size]? = some (freshCell cC kC0) := by rw [hT]; exact e1
  obtain ⟨vm', C2, L, Z2, hLb, hc2, hv2, -, hst⟩ := superInit Z h.x (no_trace Z.admits hfl) (own := "OneElastic") (up := "java/lang/ArrayIndexOutOfBoundsException") (names := ["java/lang/IndexOutOfBoundsException", "java/lang/RuntimeException", "java/lang/Exception"]) (cls := "java/lang/ArrayIndexOutOfBoundsException") (ic := 385) h.own (by decide +kernel) (by decide +kernel) (at_own h.ts (ok_nw h) h.hh.2.2.2.1 h.hh.2.2.2.2) (hlocs_of h hS) hfc hkC hord hcell
    (g := F0 X.m (pc + 3 + 1) ls (.ref H.size :: .ref H.size :: st)) rfl (hl.1.trans h.ml.symm) (rest := .ref H.size :: st) rfl (by rw [h.b]; exact d2) (by show 3 + 3 < X.R.frames; have := hR.1; omega) (by
      show 2 * 0 + ((Value.ref H.size :: st).map fun v => v.category).sum + (13 * (3 + 1) + 41) ≤ X.R.locals
      have := hR.2.1
      simp only [List.map_cons, List.sum_cons, Value.category] at *
      omega)
  obtain ⟨a1, a2, a3, a4, a5⟩ := Z2.athrowLeaves h.x (g := F0 X.m (pc + 3 + 1 + 3) ls (.ref H.size :: st)) rfl rfl rfl (by rw [hx]; intro z hz; exact nomatch hz) (a := H.size) (rest := st) rfl (by rw [h.b]; exact d3) h.lk
  refine ⟨_, hst _ a1, ?_⟩
  have hlt : H.size < (T.setVm vm').heap.size := by show H.size < T.heap.size; rw [hT, z1]; omega
  have hkq : ∀ q : Nat, q < H.size → (((T.setVm vm').setCell H.size C2).setFrames (.throwing H.size :: X.below)).heap[q]? = H[q]? := fun q hq => by
    show ((T.setVm vm').setCell H.size C2).heap[q]? = _
    rw [State.heap_setCell_other (Nat.ne_of_gt hq)]
    show T.heap[q]? = _
    rw [hT]; exact o1 q hq
  have hsz : H.size ≤ (((T.setVm vm').setCell H.size C2).setFrames (.throwing H.size :: X.below)).heap.size := by
    have h2 := (Array.getElem?_eq_some_iff.mp (heapAt_setCell_self (s := T.setVm vm') C2 hlt)).1
    exact Nat.le_of_lt h2
  rw [hF]
  refine ⟨.threw H.size, a2, a3, ⟨⟨_, H.size, w, rfl, hq _, ⟨C2, heapAt_setCell_self (s := T.setVm vm') C2 hlt, by rw [hc2]; exact hfc, by rw [hv2]; rfl⟩, P_kept (lP (subP hs hP)) hkq, lD (subD hn hs hD)⟩, Nat.le_trans hS.1 hsz, fun q h1 h2 => ?_⟩, locs ++ L, ⟨⟨_, rfl⟩, a4, a5.mono hce hsl⟩, ?_⟩
  · rw [hkq q (Nat.lt_of_lt_of_le h1 hS.1)]; exact hS.2.1 q h1 h2
  · intro q hq
    rcases List.mem_append.mp hq with z | z
    · exact hS.2.2 q z
    · rw [hLb q z]; exact h.a _ hS.1
end
/-! Fault -/
theorem in_F : ∀ w ∈ u_ws RX10 TP 1, w ∈ lw_all := by
  intro w hw
  have : w = .laysFinal "OneElastic$Fault" "OneElastic$Fault" "place" "I" := by simpa [u_ws, u_lay, TP, RX10, List.range, List.range.loop] using hw
  rw [this]; exact q412
def tyF : Nat → FieldType := fun _ => .int
theorem tyF_ok : ∀ k, k < 1 → parseFieldDescriptor (TP k).2.2.1 = some (tyF k) := fun k _ => by show parseFieldDescriptor "I" = some .int; decide +kernel
theorem nmF : ∀ a, a < 1 → ∀ b, b < 1 → a ≠ b → (TP a).2.1 ≠ (TP b).2.1 := fun a ha b hb h => by omega
/-- the contract of Fault's constructor, on a cell just made -/
def CtF (l : Launch) (D : va_G) (E : Ety) (a : Nat) (v : Int32) : Prop :=
  ∀ sz : Nat, Met l yX10_init (ws_ yX10_init cX10_init 2 none) ({ frames := 4, cells := 0, slots := 0, locals := 80 }) (va_Pc [.ref a, .int v] (fun U => (U.heap.size = sz ∧ va_P D vwCl [(a, .inr (13, [.int 0]))] U.heap ∧ KK D E U ∧ va_D (fun _ => True) [(a, .inr (13, [.int 0]))] ∧ HH E (va_A [(a, .inr (13, [.int 0]))] sz) U) ∧ ∃ kC, U.vm.classes[D.1 13]? = some kC ∧ U.heap[a]? = some (freshCell (D.1 13) kC)))
    (fun _ s o t => (∃ (v' : Option Value) (w : va_W), o = .returned v' ∧ Pn none [(a, .inr (13, [.int v]))] v' w ∧ va_P D vwCl w t.heap ∧ va_D (va_A [(a, .inr (13, [.int 0]))] sz) w) ∧ va_F (va_A [(a, .inr (13, [.int 0]))] sz) s t) 0 0 (va_A [(a, .inr (13, [.int 0]))] sz)
theorem ct_X10_init {l : Launch} {D : va_G} {E : Ety} {a : Nat} {v : Int32} (hfl : l.flags = flags0) : CtF l D E a v := by
  intro sz
  refine va_MetF (cc := cX10_init) (maxL := 2) (ret := none) (plainFor_of_name (by decide)) rfl ?_
  intro p e s m args below meth c s₁ B hml hv
  obtain ⟨rfl, ⟨hsz, hP, hK, hD0, hH⟩, kC, hkC, hcell⟩ := hv
  subst hsz
  have hts := atoms_spec (ws := ws_ yX10_init cX10_init 2 none) B.pre
  have hts : ∀ w ∈ lw_all, w.before _ s = true := fun w h => hts w (List.mem_cons_of_mem _ h)
  have hD := hD0.self (sz := s.heap.size)
  rw [lg_entry_eq]
  have hl := lv_entry [.ref a, .int v] (n := 2) (fle rfl)
  have h : Ok ((p, l, e, (headSpec (ws_ yX10_init cX10_init 2 none) ({ frames := 4, cells := 0, slots := 0, locals := 80 })).room, s, m, [Value.ref a, .int v].toArray), (below, meth, c), (D, E), (va_A [(a, .inr (13, [.int 0]))] s.heap.size, 2, MQ below (fun _ s' o t => (∃ (v' : Option Value) (w : va_W), o = .returned v' ∧ Pn none [(a, .inr (13, [.int v]))] v' w ∧ va_P D vwCl w t.heap ∧ va_D (va_A [(a, .inr (13, [.int 0]))] s.heap.size) w) ∧ va_F (va_A [(a, .inr (13, [.int 0]))] s.heap.size) s' t) [Value.ref a, .int v].toArray s 0 0 (va_A [(a, .inr (13, [.int 0]))] s.heap.size), [])) cX10_init RX10 :=
    ⟨B.exec, B.bytes, hml, findClass_of_methodNamed B.named, hts, hK, fun q h => Or.inr h, B.notSynchronized, hH, ns_of hP⟩
  refine lv_aload_n h.x h.b dX10_init_0 rfl (lv_at hl 0 rfl) ?_
  intro T hT Z
  have hcls := h.k.1 13 _ rfl
  obtain ⟨hfc, kC1, hk1, hord⟩ := hcls.2
  cases hk1.symm.trans hkC
  obtain ⟨vm', C2, L, Z2, hLb, hc2, hv2, hslot, hst⟩ := superInit Z h.x (no_trace Z.admits hfl) (own := "OneElastic$Fault") (up := "java/lang/Exception") (names := []) (cls := "OneElastic$Fault") (ic := 1) h.own (by decide +kernel) (by decide +kernel) (at_flt h.ts (ok_nw h) h.hh.2.2.2.1 h.hh.2.2.2.2) (fun x hx => nomatch hx) hfc hkC hord (by rw [hT]; exact hcell)
    (g := F0 m 1 _ [.ref a]) rfl (hl.1.trans h.ml.symm) (rest := []) rfl (by rw [B.bytes]; exact dX10_init_1) (by show 0 + 3 < 4; decide) (by show 2 * 0 + 0 + (13 * (0 + 1) + 41) ≤ 80; decide)
  have halt : a < s.heap.size := (Array.getElem?_eq_some_iff.mp hcell).1
  have hlt : a < (T.setVm vm').heap.size := by show a < T.heap.size; rw [hT]; exact halt
  have hself := heapAt_setCell_self (s := T.setVm vm') C2 hlt
  have hP2 : va_P D vwCl [(a, .inr (13, [.int 0]))] ((T.setVm vm').setCell a C2).heap := by
    intro i q hi
    have hz : i < 1 := (List.getElem?_eq_some_iff.mp hi).1
    rw [show i = 0 by omega] at hi
    cases hi
    refine ⟨(RX10, TP, 1), rfl, C2, hself, hc2, hv2, fun k hk => ?_⟩
    have hk1 : k < 1 := hk
    rw [show k = 0 by omega]
    obtain ⟨cf, kf, fi, fd, hff, hsl⟩ := hcls.1 0 (by decide)
    obtain ⟨c1, k1, c2, k2, i2, f2, g1, g2, g3, g4, g5, g6, g7, g8, dd, g9, g10, g11, g12⟩ := Cond.laysFinal_spec (h.ts _ q412)
    cases hff.symm.trans g3
    cases hfc.symm.trans g1
    cases hkC.symm.trans g2
    have hnm := State.fieldFound?_type g3 (t := .int) (by decide +kernel)
    have := hslot fd g8 ⟨dd, g9, g11⟩ (by rw [hnm.1]; decide) (by rw [hnm.1]; decide) (by rw [hnm.1]; decide)
    rw [← hsl, this, hnm.2]
    rfl
  have hS2 : va_S (va_A [(a, .inr (13, [.int 0]))] s.heap.size) s.heap ((T.setVm vm').setCell a C2).heap ([] ++ L) := by
    refine ⟨?_, fun q h1 h2 => ?_, fun q hq => ?_⟩
    · have := Z2.same.2.1
      exact this
    · rw [State.heap_setCell_other (fun z => h2 (Or.inl ⟨0, _, by rw [← z]; rfl⟩))]
      show T.heap[q]? = _
      rw [hT]
    · rcases List.mem_append.mp hq with z | z
      · exact nomatch z
      · rw [hLb q z]; exact Or.inl ⟨0, _, rfl⟩
  have hG : G ((p, l, e, (headSpec (ws_ yX10_init cX10_init 2 none) ({ frames := 4, cells := 0, slots := 0, locals := 80 })).room, s, m, [Value.ref a, .int v].toArray), (below, meth, c), (D, E), (va_A [(a, .inr (13, [.int 0]))] s.heap.size, 2, MQ below (fun _ s' o t => (∃ (v' : Option Value) (w : va_W), o = .returned v' ∧ Pn none [(a, .inr (13, [.int v]))] v' w ∧ va_P D vwCl w t.heap ∧ va_D (va_A [(a, .inr (13, [.int 0]))] s.heap.size) w) ∧ va_F (va_A [(a, .inr (13, [.int 0]))] s.heap.size) s' t) [Value.ref a, .int v].toArray s 0 0 (va_A [(a, .inr (13, [.int 0]))] s.heap.size), [])) [(a, .inr (13, [.int 0]))] [(0, .ref a), (1, .int v)] 0 0 4 [] := by
    refine g_aload_n h 0 dX10_init_4 rfl rfl ?_
    refine g_iload_n h 1 dX10_init_5 rfl rfl ?_
    refine g_putF (ci := 13) (ty := .int) (ws' := [(a, .inr (13, [.int v]))]) h in_F tyF tyF_ok nmF (name_of_methodNamed B.named B.method).1 0 0 rfl rfl (by decide) ⟨rfl, rfl, rfl⟩ q405 rfl rfl rfl (by decide) rfl dX10_init_6 ?_
    exact g_vret h ⟨B.returns, rfl⟩ [0] rfl rfl ⟨rfl, rfl⟩ (Nat.le_refl _) (Nat.le_refl _) dX10_init_9
  obtain ⟨t, a1, b1⟩ := hG _ _ _ (by rw [List.append_nil]; exact hP2) (by rw [List.append_nil]; exact hD) hS2 hl _ rfl Z2
  exact ⟨t, hst t a1, b1⟩
