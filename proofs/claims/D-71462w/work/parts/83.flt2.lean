/-! throw new Fault(v) -/
set_option maxRecDepth 100000
section
variable {X : Cx} {cc : ByteArray} {ws w : va_W} {lv : LV} {ce sl pc pc2 fr lo mc ms : Nat} {st : List Value} {Po : String → Nat → va_W → Prop}
theorem t_fault (h : Ok X cc RX0) (hR : Rm X fr lo mc ms) (hfl : X.l.flags = flags0) (hx : X.c.exceptionTable.toList = []) (hF : FinT X mc ms Po) {v : Int32} (hfr : 5 ≤ fr) (hlo : 120 ≤ lo) (hst8 : ((Value.ref 0 :: st).map fun v => v.category).sum ≤ 8) (hce : ce + 1 ≤ mc) (hsl : sl + 7 ≤ ms) (is : List Nat) (hn : va_nd is = true) (hs : is.map (fun i => ws[i]?) = w.map some) (hq : ∀ x, Po "OneElastic$Fault" x (w ++ [(x, .inr (13, [.int v]))]))
    (d0 : decode cc pc = .ok (.new 170, 3)) (d1 : decode cc (pc + 3) = .ok (.dup, 1))
    (mid : ∀ (H : Heap) (locs : List Loc) (ls : Array Slot) (q ce sl : Nat), va_P X.D vwCl (ws ++ X.F) H → lv_has ls X.nL lv → W X.p X.l X.e X.R X.s X.m X.args X.below X.meth X.c H locs ce sl X.Q (F0 X.m pc2 ls (.int v :: .ref q :: .ref q :: st)) → W X.p X.l X.e X.R X.s X.m X.args X.below X.meth X.c H locs ce sl X.Q (F0 X.m (pc + 3 + 1) ls (.ref q :: .ref q :: st)))
    (d2 : decode cc pc2 = .ok (.invokespecial 172, 3)) (d3 : decode cc (pc2 + 3) = .ok (.athrow, 1)) : G X ws lv ce sl pc st := by
  intro H locs ls hP hD hS hl
  have hcls := h.k.1 13 _ rfl
  obtain ⟨hfc, kC0, hk0, hord⟩ := hcls.2
  refine W.newcK h.x h.b h.own (h.ts _ q333) (h.ts _ q344) (h.ts _ q85) rfl d0 (Nat.le_trans hce hR.2.2.1) (Nat.le_trans hsl hR.2.2.2) hfc rfl fun H1 kC hkC e1 z1 o1 => ?_
  cases hk0.symm.trans hkC
  refine lv_dup h.x h.b d1 rfl ?_
  have hP1 : va_P X.D vwCl (ws ++ X.F) H1 := P_kept hP o1
  refine mid H1 locs ls H.size _ _ hP1 hl ?_
  -- the object as a cell of the world, all else in the frame
  have hnew : va_P X.D vwCl [(H.size, .inr (13, [.int 0]))] H1 := by
    intro i q hi
    have hz : i < 1 := (List.getElem?_eq_some_iff.mp hi).1
    rw [show i = 0 by omega] at hi
    cases hi
    exact ⟨_, rfl, (u_born tyF h.ts in_F hcls hkC e1 tyF_ok).to (V' := vp_V [.int 0]) (fun j hj => by rw [show j = 0 by omega]; rfl)⟩
  have hPall : va_P X.D vwCl ([(H.size, .inr (13, [.int 0]))] ++ (ws ++ X.F)) H1 := hnew.app hP1
  have hDall0 := hD.push (e := .inr (13, [.int 0])) hP rfl (h.a _ hS.1)
  have hDall : va_D X.A ([(H.size, .inr (13, [.int 0]))] ++ (ws ++ X.F)) := pD List.perm_append_comm hDall0
  have hS1 : va_S X.A X.s.heap H1 locs := ⟨Nat.le_trans hS.1 (by omega), fun x h1 h2 => (o1 x (Nat.lt_of_lt_of_le h1 hS.1)).trans (hS.2.1 x h1 h2), hS.2.2⟩
  have h' : Ok (X.wF (ws ++ X.F)) cc RX0 := h.wF _
  have hfb : FrameBlind (va_Pc [.ref H.size, .int v] (fun U => (U.heap.size = H1.size ∧ va_P X.D vwCl [(H.size, .inr (13, [.int 0]))] U.heap ∧ KK X.D X.E U ∧ va_D (fun _ => True) [(H.size, .inr (13, [.int 0]))] ∧ HH X.E (va_A [(H.size, .inr (13, [.int 0]))] H1.size) U) ∧ ∃ kC, U.vm.classes[X.D.1 13]? = some kC ∧ U.heap[H.size]? = some (freshCell (X.D.1 13) kC))) := by
    intro a U g mk q
    obtain ⟨q0, q1, q2⟩ := q
    obtain ⟨b0, b1⟩ := fb_pc (av := [.ref H.size, .int v]) a U g mk ⟨q0, q1⟩
    exact ⟨b0, b1, q2⟩
  have hpre0 := pre_S (X := X.wF (ws ++ X.F)) (av := [.ref H.size, .int v]) (isC := [0]) (wc := [(H.size, .inr (13, [.int 0]))]) h' rfl rfl hPall hDall hS1
  have hpre : PreS X.s H1 (va_Pc [.ref H.size, .int v] (fun U => (U.heap.size = H1.size ∧ va_P X.D vwCl [(H.size, .inr (13, [.int 0]))] U.heap ∧ KK X.D X.E U ∧ va_D (fun _ => True) [(H.size, .inr (13, [.int 0]))] ∧ HH X.E (va_A [(H.size, .inr (13, [.int 0]))] H1.size) U) ∧ ∃ kC, U.vm.classes[X.D.1 13]? = some kC ∧ U.heap[H.size]? = some (freshCell (X.D.1 13) kC))) [.ref H.size, .int v] := by
    refine ⟨hfb, fun U hU hW => ?_⟩
    obtain ⟨c0, c1⟩ := hpre0.2 U hU hW
    obtain ⟨k', hk', he⟩ := hW.alike.2.2 _ _ hkC
    refine ⟨c0, c1, k', hk', ?_⟩
    rw [hU, e1, he]
    rfl
  refine va_gon (X := X.wF (ws ++ X.F)) (ws := [(H.size, .inr (13, [.int 0]))]) (wc := [(H.size, .inr (13, [.int 0]))]) (wr := []) (isC := [0]) (isR := []) (Po := Pn none [(H.size, .inr (13, [.int v]))]) (st := .ref H.size :: st) (lv := lv) h' rfl rfl rfl (fun i hi => nomatch hi) hPall hDall hS1 hl
    (va_runI (As := [.int v]) (rest := .ref H.size :: st) ⟨h.x, h.b, h.ml, h.own, h.ts⟩ (ct_X10_init (l := X.l) (D := X.D) (E := X.E) (a := H.size) (v := v) hfl H1.size) (cwI 1 h.ts (lw_meth q400) rfl rfl rfl (h.ts _ q85) (h.ts _ q398) (h.ts _ q399) rfl (by decide +kernel) ⟨by show 4 + 1 ≤ X.R.frames; have := hR.1; omega, by show 8 + (2 + 11) + 80 ≤ X.R.locals; have := hR.2.1; omega⟩) hpre rfl rfl hl.1 rfl (lv_room hst8) d2 ⟨by show ce + 1 + 0 ≤ _; exact Nat.le_trans hce hR.2.2.1, by show sl + 7 + 0 ≤ _; exact Nat.le_trans hsl hR.2.2.2⟩) ?_
  rintro _ _ ⟨rfl, rfl⟩
  show G (X.wF (ws ++ X.F)) [(H.size, .inr (13, [.int v]))] lv (ce + 1 + 0) (sl + 7 + 0) (pc2 + 3) (.ref H.size :: st)
  refine G.pm (X := X.wF (ws ++ X.F)) (ws' := ws ++ [(H.size, .inr (13, [.int v]))]) (F' := X.F) ?_ ?_
  · show (([(H.size, .inr (13, [.int v]))] : va_W) ++ (ws ++ X.F)).Perm _
    rw [← List.append_assoc]
    exact List.perm_append_comm.append_right _
  · refine g_athrow (X := X) (own := RX0) (w := w ++ ([(H.size, .inr (13, [.int v]))] : va_W)) h hF hx (ci := 13) (r := (RX10, TP, 1)) (fs := [.int v]) ws.length (by rw [List.getElem?_append_right (Nat.le_refl _), Nat.sub_self]; rfl) rfl (is ++ [ws.length]) ?_ ?_ (show Po RX10 H.size _ from hq H.size) hce hsl d3
    · rw [vnd_iff, List.nodup_append]
      refine ⟨(vnd_iff is).mp hn, by simp, ?_⟩
      intro a ha b hb e
      have h1 := pl_lt hs a ha
      simp at hb
      omega
    · rw [List.map_append, List.map_append, pl_L hs]
      simp
end
