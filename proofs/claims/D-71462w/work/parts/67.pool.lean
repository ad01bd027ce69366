set_option maxRecDepth 100000
def f_X0_notes (Us : List TV) (town_n : Int32) (town_holders : Int32) (town_cuts : Int32) (town_hour : Int32) (town_bears : Int32) (town_draw : Int32) (town_kind : Nat → Int32) (town_strength : Nat → Int32) (town_place : Nat → Int32) (town_length : Nat → Int32) (town_gives : Nat → Int32) : Option (List TV) :=
  if fitB town_kind = false then none else
  if fitB town_strength = false then none else
  if fitB town_place = false then none else
  if fitB town_length = false then none else
  if fitB town_gives = false then none else
  some ((if Us.length = 8 then Us.tail else Us) ++ [(town_kind, town_strength, town_place, town_length, town_gives, town_n, town_holders, town_cuts, town_hour, town_bears, town_draw)])
/-- an end with a frame: the world ws beside cells F' with Q, and leavings J -/
def PD (v0 : Option Value) (ws : va_W) (Q : va_W → Prop) : Option Value → va_W → Prop := fun v w => ∃ F' J : va_W, v = v0 ∧ w.Perm (ws ++ (F' ++ J)) ∧ Q F'
theorem PD.of {v : Option Value} {ws w F : va_W} {Q : va_W → Prop} (h : w.Perm (ws ++ F)) (hq : Q F) : PD v ws Q v w := ⟨F, [], rfl, by rw [List.append_nil]; exact h, hq⟩
theorem perm_places {L1 L2 : va_W} (n : Nat) (hn : L1.length = n) (is : List Nat) (hp : is.Perm (List.range n)) (hs : is.map (fun i => L1[i]?) = L2.map some) : L1.Perm L2 := by
  subst hn
  have h1 : (List.range L1.length).map (fun i => L1[i]?) = L1.map some := by
    apply List.ext_getElem
    · simp
    · intro j h1 h2
      simp at h1 h2
      simp [h1]
  have h2 := hp.map (fun i => L1[i]?)
  rw [h1, hs] at h2
  have h3 := h2.filterMap id
  simpa [List.filterMap_map, Function.comp_def] using h3.symm
theorem takes_ok {k s p l g tk ts tp tl tg : Nat → Int32} {n h c r b d : Int32} (h1 : ¬ fitB tk = false) (h2 : ¬ fitB ts = false) (h3 : ¬ fitB tp = false) (h4 : ¬ fitB tl = false) (h5 : ¬ fitB tg = false) : f_X6_takes k s p l g n h c r b d tk ts tp tl tg = some (n, h, c, r, b, d, va_cpy tk k 0 0 8, va_cpy ts s 0 0 8, va_cpy tp p 0 0 8, va_cpy tl l 0 0 8, va_cpy tg g 0 0 8) := by
  unfold f_X6_takes
  rw [if_neg h1, if_neg h2, if_neg h3, if_neg h4, if_neg h5]
theorem DQ.push {E : Ety} {x ad ae hd : Nat} {el : Nat → Option Nat} {U : List TU} {t : TU} {Us : List TV} {v : TV} {F : va_W} (hp : F.Perm ((ad, .inr (11, [.ref ae, .int (nI hd), .int (nI ((hd + U.length + 1) % 17))])) :: (ae, .inl (E 4, 17, .inr (.inr (.inr (.inr (va_up el ((hd + U.length) % 17) (some t.1.1))))))) :: (tc E x t ++ pool E x U))) (hhd : hd < 17) (hlen : U.length ≤ 7) (hel : ∀ (i : Nat) (t : TU), U[i]? = some t → el ((hd + i) % 17) = some t.1.1) (hUs : U.length = Us.length) (htv : ∀ (i : Nat) (t : TU) (v : TV), U[i]? = some t → Us[i]? = some v → tveq t.2.1 v) (hv : tveq t.2.1 v) : DQ E x ad (Us ++ [v]) F := by
  refine ⟨ae, va_up el ((hd + U.length) % 17) (some t.1.1), hd, U ++ [t], ?_, hhd, by simp; omega, ?_, by simp [hUs], ?_⟩
  · refine hp.trans ?_
    rw [pool_app]
    simp only [List.length_append, List.length_singleton]
    rw [show hd + (U.length + 1) = hd + U.length + 1 by omega]
    refine List.Perm.cons _ (List.Perm.cons _ ?_)
    have : pool E x [t] = tc E x t := by simp [pool]
    rw [this]
    exact List.perm_append_comm
  · intro i s hs
    by_cases hi : i < U.length
    · rw [List.getElem?_append_left hi] at hs
      rw [show va_up el ((hd + U.length) % 17) (some t.1.1) ((hd + i) % 17) = el ((hd + i) % 17) from if_neg (by omega)]
      exact hel i s hs
    · rw [List.getElem?_append_right (by omega)] at hs
      have h0 : i - U.length = 0 := by
        have := (List.getElem?_eq_some_iff.mp hs).1
        simp at this; omega
      rw [h0] at hs
      cases hs
      rw [show i = U.length by omega]
      exact if_pos rfl
  · intro i s w hs hw
    by_cases hi : i < U.length
    · rw [List.getElem?_append_left hi] at hs
      rw [List.getElem?_append_left (by omega)] at hw
      exact htv i s w hs hw
    · rw [List.getElem?_append_right (by omega)] at hs
      rw [List.getElem?_append_right (by omega)] at hw
      have h0 : i - U.length = 0 := by
        have := (List.getElem?_eq_some_iff.mp hs).1
        simp at this; omega
      rw [h0] at hs
      rw [← hUs, h0] at hw
      cases hs; cases hw
      exact hv
set_option maxHeartbeats 4000000 in
theorem ct_X0_notes {l : Launch} {D : va_G} {E : Ety} {a a_kinds a_town a_tried a_fell a_tape a_read a_undos a_kept a_keptUndos a_sheets a_taken a_town_kind a_town_strength a_town_place a_town_length a_town_gives a_town_over a_town_under : Nat} {falls tears typed place isKept : Int32} {town_n town_holders town_cuts town_hour town_bears town_draw : Int32} {town_kind town_strength town_place town_length town_gives : Nat → Int32} {Us Us_ : List TV} {F : va_W} (hdq : DQ E a a_undos Us F) (hf : f_X0_notes Us town_n town_holders town_cuts town_hour town_bears town_draw town_kind town_strength town_place town_length town_gives = some Us_) : Ct l yX0_notes cX0_notes 2 none 3 140 8 70 D E [.ref a] ([(a, .inr (0, [.ref a_kinds, .ref a_town, .ref a_tried, .ref a_fell, .int falls, .int tears, .ref a_tape, .int typed, .int place, .ref a_read, .ref a_undos, .ref a_kept, .ref a_keptUndos, .int isKept, .ref a_sheets, .ref a_taken])), (a_town, .inr (6, [.ref a_town_kind, .ref a_town_strength, .ref a_town_place, .ref a_town_length, .ref a_town_gives, .ref a_town_over, .ref a_town_under, .int town_n, .int town_holders, .int town_cuts, .int town_hour, .int town_bears, .int town_draw, .ref a])), (a_town_kind, .inl (E 0, 8, .inl town_kind)), (a_town_strength, .inl (E 0, 8, .inl town_strength)), (a_town_place, .inl (E 0, 8, .inl town_place)), (a_town_length, .inl (E 0, 8, .inl town_length)), (a_town_gives, .inl (E 0, 8, .inl town_gives))] ++ F) (PD none [(a, .inr (0, [.ref a_kinds, .ref a_town, .ref a_tried, .ref a_fell, .int falls, .int tears, .ref a_tape, .int typed, .int place, .ref a_read, .ref a_undos, .ref a_kept, .ref a_keptUndos, .int isKept, .ref a_sheets, .ref a_taken])), (a_town, .inr (6, [.ref a_town_kind, .ref a_town_strength, .ref a_town_place, .ref a_town_length, .ref a_town_gives, .ref a_town_over, .ref a_town_under, .int town_n, .int town_holders, .int town_cuts, .int town_hour, .int town_bears, .int town_draw, .ref a])), (a_town_kind, .inl (E 0, 8, .inl town_kind)), (a_town_strength, .inl (E 0, 8, .inl town_strength)), (a_town_place, .inl (E 0, 8, .inl town_place)), (a_town_length, .inl (E 0, 8, .inl town_length)), (a_town_gives, .inl (E 0, 8, .inl town_gives))] (DQ E a a_undos Us_)) := by
  obtain ⟨ae, el, hd, U, hpF, hhd, hlen, hel, hUs, htv⟩ := hdq
  refine Ct.perm (hpF.append_left _) ?_
  refine ct_ofF (own := RX0) (F := pool E a U) (ws := [(a, .inr (0, [.ref a_kinds, .ref a_town, .ref a_tried, .ref a_fell, .int falls, .int tears, .ref a_tape, .int typed, .int place, .ref a_read, .ref a_undos, .ref a_kept, .ref a_keptUndos, .int isKept, .ref a_sheets, .ref a_taken])), (a_town, .inr (6, [.ref a_town_kind, .ref a_town_strength, .ref a_town_place, .ref a_town_length, .ref a_town_gives, .ref a_town_over, .ref a_town_under, .int town_n, .int town_holders, .int town_cuts, .int town_hour, .int town_bears, .int town_draw, .ref a])), (a_town_kind, .inl (E 0, 8, .inl town_kind)), (a_town_strength, .inl (E 0, 8, .inl town_strength)), (a_town_place, .inl (E 0, 8, .inl town_place)), (a_town_length, .inl (E 0, 8, .inl town_length)), (a_town_gives, .inl (E 0, 8, .inl town_gives)), (a_undos, .inr (11, [.ref ae, .int (nI hd), .int (nI ((hd + U.length) % 17))])), (ae, .inl (E 4, 17, .inr (.inr (.inr (.inr el)))))]) rfl (plainFor_of_name (by decide)) rfl (fle rfl) rfl ?_
  intro X hl hD hE hnL hXF h hR hF hnm
  subst hl; subst hD; subst hE
  have hL : ∀ i, i < 2 → i < X.nL := fun i hi => by rw [hnL]; exact hi
  unfold f_X0_notes at hf
  obtain ⟨hb1, hf⟩ := gn hf
  obtain ⟨hb2, hf⟩ := gn hf
  obtain ⟨hb3, hf⟩ := gn hf
  obtain ⟨hb4, hf⟩ := gn hf
  obtain ⟨hb5, hf⟩ := gn hf
  obtain rfl := sj1 hf
  clear hf
  refine G.sub (ws' := [(a, .inr (0, [.ref a_kinds, .ref a_town, .ref a_tried, .ref a_fell, .int falls, .int tears, .ref a_tape, .int typed, .int place, .ref a_read, .ref a_undos, .ref a_kept, .ref a_keptUndos, .int isKept, .ref a_sheets, .ref a_taken])), (a_undos, .inr (11, [.ref ae, .int (nI hd), .int (nI ((hd + U.length) % 17))])), (ae, .inl (X.E 4, 17, .inr (.inr (.inr (.inr el)))))] ++ [(a_town, .inr (6, [.ref a_town_kind, .ref a_town_strength, .ref a_town_place, .ref a_town_length, .ref a_town_gives, .ref a_town_over, .ref a_town_under, .int town_n, .int town_holders, .int town_cuts, .int town_hour, .int town_bears, .int town_draw, .ref a])), (a_town_kind, .inl (X.E 0, 8, .inl town_kind)), (a_town_strength, .inl (X.E 0, 8, .inl town_strength)), (a_town_place, .inl (X.E 0, 8, .inl town_place)), (a_town_length, .inl (X.E 0, 8, .inl town_length)), (a_town_gives, .inl (X.E 0, 8, .inl town_gives))]) [0, 7, 8, 1, 2, 3, 4, 5, 6] rfl rfl ?_
  refine G.sp ?_
  refine sg_notes0 (h.wF _) (Rm.less (hR.wF _) (fle rfl) (fle rfl) (Nat.le_refl _) (Nat.le_refl _)) hL (fle rfl) (fle rfl) (show fs_notes0 (nI hd) (nI ((hd + U.length) % 17)) = some (nI U.length) by unfold fs_notes0; rw [j1_size hhd (by omega), b1_s]) ?_
  refine g_bipush (v := 8) (h.wF _) dX0_notes_7 kbipush_8 ?_
  refine b_icmp_ne (tgt := 25) (h.wF _) dX0_notes_9 rfl (fun c1 => ?_) (fun c1 => ?_)
  · have hl8 : U.length = 8 := (nI_eq (by omega) (by decide)).mp (show nI U.length = nI 8 from c1)
    obtain ⟨u0, U, rfl⟩ : ∃ u0 U0, U = u0 :: U0 := by cases U with | nil => simp at hl8 | cons u0 U0 => exact ⟨u0, U0, rfl⟩
    rcases u0 with ⟨⟨y0, y1, y2, y3, y4, y5, y6, y7⟩, ⟨k0, k1, k2, k3, k4, i0, i1, i2, i3, i4, i5⟩, o0, v0⟩
    have he0 : el hd = some y0 := by have := hel 0 _ rfl; rwa [Nat.add_zero, Nat.mod_eq_of_lt hhd] at this
    refine sg_notes12 (o_undos_head := nI ((hd + 1) % 17)) (o_undos_elements := va_up el hd none) (s_0 := y0) (h.wF _) (Rm.less (hR.wF _) (fle rfl) (fle rfl) (Nat.le_refl _) (Nat.le_refl _)) hL (fle rfl) (fle rfl) (by unfold fs_notes12; rw [j1_removeFirst hhd he0, b3_s]) ?_
    refine G.mg (b := [(a_town, .inr (6, [.ref a_town_kind, .ref a_town_strength, .ref a_town_place, .ref a_town_length, .ref a_town_gives, .ref a_town_over, .ref a_town_under, .int town_n, .int town_holders, .int town_cuts, .int town_hour, .int town_bears, .int town_draw, .ref a])), (a_town_kind, .inl (X.E 0, 8, .inl town_kind)), (a_town_strength, .inl (X.E 0, 8, .inl town_strength)), (a_town_place, .inl (X.E 0, 8, .inl town_place)), (a_town_length, .inl (X.E 0, 8, .inl town_length)), (a_town_gives, .inl (X.E 0, 8, .inl town_gives)), (y0, .inr (6, [.ref y1, .ref y2, .ref y3, .ref y4, .ref y5, .ref y6, .ref y7, .int i0, .int i1, .int i2, .int i3, .int i4, .int i5, .ref a])), (y1, .inl (X.E 0, 8, .inl k0)), (y2, .inl (X.E 0, 8, .inl k1)), (y3, .inl (X.E 0, 8, .inl k2)), (y4, .inl (X.E 0, 8, .inl k3)), (y5, .inl (X.E 0, 8, .inl k4)), (y6, .inl (X.E 1, 8, .inl o0)), (y7, .inl (X.E 1, 8, .inl v0))]) (F := pool X.E a U) (by show _ ++ X.F = _; rw [hXF]; rfl) ?_
    refine G.sub (ws' := [(a, .inr (0, [.ref a_kinds, .ref a_town, .ref a_tried, .ref a_fell, .int falls, .int tears, .ref a_tape, .int typed, .int place, .ref a_read, .ref a_undos, .ref a_kept, .ref a_keptUndos, .int isKept, .ref a_sheets, .ref a_taken])), (a_town, .inr (6, [.ref a_town_kind, .ref a_town_strength, .ref a_town_place, .ref a_town_length, .ref a_town_gives, .ref a_town_over, .ref a_town_under, .int town_n, .int town_holders, .int town_cuts, .int town_hour, .int town_bears, .int town_draw, .ref a])), (a_town_kind, .inl (X.E 0, 8, .inl town_kind)), (a_town_strength, .inl (X.E 0, 8, .inl town_strength)), (a_town_place, .inl (X.E 0, 8, .inl town_place)), (a_town_length, .inl (X.E 0, 8, .inl town_length)), (a_town_gives, .inl (X.E 0, 8, .inl town_gives)), (a_undos, .inr (11, [.ref ae, .int (nI ((hd + 1) % 17)), .int (nI ((hd + (U.length + 1)) % 17))])), (ae, .inl (X.E 4, 17, .inr (.inr (.inr (.inr (va_up el hd none)))))), (y0, .inr (6, [.ref y1, .ref y2, .ref y3, .ref y4, .ref y5, .ref y6, .ref y7, .int i0, .int i1, .int i2, .int i3, .int i4, .int i5, .ref a])), (y1, .inl (X.E 0, 8, .inl k0)), (y2, .inl (X.E 0, 8, .inl k1)), (y3, .inl (X.E 0, 8, .inl k2)), (y4, .inl (X.E 0, 8, .inl k3)), (y5, .inl (X.E 0, 8, .inl k4))] ++ [(y6, .inl (X.E 1, 8, .inl o0)), (y7, .inl (X.E 1, 8, .inl v0))]) [0, 3, 4, 5, 6, 7, 8, 1, 2, 9, 10, 11, 12, 13, 14, 15, 16] rfl rfl ?_
    refine G.sp ?_
    refine g_castT (h.wF _) 9 rfl q544 dX0_notes_19 ?_
    refine g_goto (tgt := 33) (h.wF _) dX0_notes_22 rfl ?_
    have hUl : U.length = 7 := by simpa using hl8
    have hUs1 : ∃ v0 Vs, Us = v0 :: Vs := by cases Us with | nil => simp at hUs | cons v0 Vs => exact ⟨v0, Vs, rfl⟩
    obtain ⟨z0, Us, rfl⟩ := hUs1
    rw [if_pos (show (z0 :: Us).length = 8 by rw [← hUs]; exact hl8)] at *
    refine sg_notes33 (h.wF _) (Rm.less (hR.wF _) (fle rfl) (fle rfl) (Nat.le_refl _) (Nat.le_refl _)) hL (fle rfl) (fle rfl) (by unfold fs_notes33; rw [takes_ok hb1 hb2 hb3 hb4 hb5, b11_s, j1_addLast (Nat.mod_lt _ (by decide)) (Nat.mod_lt _ (by decide)) (by omega), b2_s]) (hF.wF _) ?_
    refine PD.of (List.Perm.refl _) ?_
    refine DQ.push (ae := ae) (hd := (hd + 1) % 17) (el := va_up el hd none) (U := U) (t := ((y0, y1, y2, y3, y4, y5, y6, y7), (va_cpy town_kind k0 0 0 8, va_cpy town_strength k1 0 0 8, va_cpy town_place k2 0 0 8, va_cpy town_length k3 0 0 8, va_cpy town_gives k4 0 0 8, town_n, town_holders, town_cuts, town_hour, town_bears, town_draw), o0, v0)) ?_ (Nat.mod_lt _ (by decide)) (by omega) ?_ (by simpa using hUs) (fun i t v h1 h2 => htv (i + 1) t v h1 h2) ⟨eq8_cpy _ _, eq8_cpy _ _, eq8_cpy _ _, eq8_cpy _ _, eq8_cpy _ _, rfl, rfl, rfl, rfl, rfl, rfl⟩
    · rw [show ((hd + 1) % 17 + U.length + 1) % 17 = ((hd + (U.length + 1)) % 17 + 1) % 17 by omega, show ((hd + 1) % 17 + U.length) % 17 = (hd + (U.length + 1)) % 17 by omega]
      exact List.Perm.refl _
    · intro i t ht
      have hi : i < U.length := (List.getElem?_eq_some_iff.mp ht).1
      rw [show va_up el hd none (((hd + 1) % 17 + i) % 17) = el (((hd + 1) % 17 + i) % 17) from if_neg (by omega), show ((hd + 1) % 17 + i) % 17 = (hd + (i + 1)) % 17 by omega]
      exact hel (i + 1) t ht
  · have hl8 : ¬ U.length = 8 := fun z => c1 (show nI U.length = nI 8 by rw [z])
    rw [if_neg (show ¬ Us.length = 8 by rw [← hUs]; exact hl8)] at *
    refine G.mg (b := [(a_town, .inr (6, [.ref a_town_kind, .ref a_town_strength, .ref a_town_place, .ref a_town_length, .ref a_town_gives, .ref a_town_over, .ref a_town_under, .int town_n, .int town_holders, .int town_cuts, .int town_hour, .int town_bears, .int town_draw, .ref a])), (a_town_kind, .inl (X.E 0, 8, .inl town_kind)), (a_town_strength, .inl (X.E 0, 8, .inl town_strength)), (a_town_place, .inl (X.E 0, 8, .inl town_place)), (a_town_length, .inl (X.E 0, 8, .inl town_length)), (a_town_gives, .inl (X.E 0, 8, .inl town_gives))]) (F := pool X.E a U) (by show _ ++ X.F = _; rw [hXF]) ?_
    refine G.sub (ws' := [] ++ [(a, .inr (0, [.ref a_kinds, .ref a_town, .ref a_tried, .ref a_fell, .int falls, .int tears, .ref a_tape, .int typed, .int place, .ref a_read, .ref a_undos, .ref a_kept, .ref a_keptUndos, .int isKept, .ref a_sheets, .ref a_taken])), (a_undos, .inr (11, [.ref ae, .int (nI hd), .int (nI ((hd + U.length) % 17))])), (ae, .inl (X.E 4, 17, .inr (.inr (.inr (.inr el))))), (a_town, .inr (6, [.ref a_town_kind, .ref a_town_strength, .ref a_town_place, .ref a_town_length, .ref a_town_gives, .ref a_town_over, .ref a_town_under, .int town_n, .int town_holders, .int town_cuts, .int town_hour, .int town_bears, .int town_draw, .ref a])), (a_town_kind, .inl (X.E 0, 8, .inl town_kind)), (a_town_strength, .inl (X.E 0, 8, .inl town_strength)), (a_town_place, .inl (X.E 0, 8, .inl town_place)), (a_town_length, .inl (X.E 0, 8, .inl town_length)), (a_town_gives, .inl (X.E 0, 8, .inl town_gives))]) [0, 1, 2, 3, 4, 5, 6, 7, 8] rfl rfl ?_
    refine G.sp ?_
    refine sg_notes25 (h.wF _) (Rm.less (hR.wF _) (fle rfl) (fle rfl) (Nat.le_refl _) (Nat.le_refl _)) hL (fle rfl) (fle rfl) (by unfold fs_notes25 f_X6_init; rfl) (fun q1 q2 q3 q4 q5 q6 q7 q8 => ?_)
    refine G.mg (b := [(a, .inr (0, [.ref a_kinds, .ref a_town, .ref a_tried, .ref a_fell, .int falls, .int tears, .ref a_tape, .int typed, .int place, .ref a_read, .ref a_undos, .ref a_kept, .ref a_keptUndos, .int isKept, .ref a_sheets, .ref a_taken])), (a_undos, .inr (11, [.ref ae, .int (nI hd), .int (nI ((hd + U.length) % 17))])), (ae, .inl (X.E 4, 17, .inr (.inr (.inr (.inr el))))), (a_town, .inr (6, [.ref a_town_kind, .ref a_town_strength, .ref a_town_place, .ref a_town_length, .ref a_town_gives, .ref a_town_over, .ref a_town_under, .int town_n, .int town_holders, .int town_cuts, .int town_hour, .int town_bears, .int town_draw, .ref a])), (a_town_kind, .inl (X.E 0, 8, .inl town_kind)), (a_town_strength, .inl (X.E 0, 8, .inl town_strength)), (a_town_place, .inl (X.E 0, 8, .inl town_place)), (a_town_length, .inl (X.E 0, 8, .inl town_length)), (a_town_gives, .inl (X.E 0, 8, .inl town_gives))]) (F := pool X.E a U) rfl ?_
    refine G.sub (ws' := [(a, .inr (0, [.ref a_kinds, .ref a_town, .ref a_tried, .ref a_fell, .int falls, .int tears, .ref a_tape, .int typed, .int place, .ref a_read, .ref a_undos, .ref a_kept, .ref a_keptUndos, .int isKept, .ref a_sheets, .ref a_taken])), (a_town, .inr (6, [.ref a_town_kind, .ref a_town_strength, .ref a_town_place, .ref a_town_length, .ref a_town_gives, .ref a_town_over, .ref a_town_under, .int town_n, .int town_holders, .int town_cuts, .int town_hour, .int town_bears, .int town_draw, .ref a])), (a_town_kind, .inl (X.E 0, 8, .inl town_kind)), (a_town_strength, .inl (X.E 0, 8, .inl town_strength)), (a_town_place, .inl (X.E 0, 8, .inl town_place)), (a_town_length, .inl (X.E 0, 8, .inl town_length)), (a_town_gives, .inl (X.E 0, 8, .inl town_gives)), (a_undos, .inr (11, [.ref ae, .int (nI hd), .int (nI ((hd + U.length) % 17))])), (ae, .inl (X.E 4, 17, .inr (.inr (.inr (.inr el))))), (q1, .inr (6, [.ref q2, .ref q3, .ref q4, .ref q5, .ref q6, .ref q7, .ref q8, .int 0, .int 0, .int 0, .int 0, .int 0, .int 0, .ref a])), (q2, .inl (X.E 0, 8, .inl (fun _ => 0))), (q3, .inl (X.E 0, 8, .inl (fun _ => 0))), (q4, .inl (X.E 0, 8, .inl (fun _ => 0))), (q5, .inl (X.E 0, 8, .inl (fun _ => 0))), (q6, .inl (X.E 0, 8, .inl (fun _ => 0)))] ++ [(q7, .inl (X.E 1, 8, .inl (fun _ => 0))), (q8, .inl (X.E 1, 8, .inl (fun _ => 0)))]) [8, 11, 12, 13, 14, 15, 16, 9, 10, 0, 1, 2, 3, 4, 5, 6, 7] rfl rfl ?_
    refine G.sp ?_
    refine sg_notes33 (h.wF _) (Rm.less (hR.wF _) (fle rfl) (fle rfl) (Nat.le_refl _) (Nat.le_refl _)) hL (fle rfl) (fle rfl) (by unfold fs_notes33; rw [takes_ok hb1 hb2 hb3 hb4 hb5, b11_s, j1_addLast (Nat.mod_lt _ (by decide)) hhd (by omega), b2_s]) (hF.wF _) ?_
    refine PD.of (List.Perm.refl _) ?_
    refine DQ.push (ae := ae) (hd := hd) (el := el) (U := U) (t := ((q1, q2, q3, q4, q5, q6, q7, q8), (va_cpy town_kind (fun _ => 0) 0 0 8, va_cpy town_strength (fun _ => 0) 0 0 8, va_cpy town_place (fun _ => 0) 0 0 8, va_cpy town_length (fun _ => 0) 0 0 8, va_cpy town_gives (fun _ => 0) 0 0 8, town_n, town_holders, town_cuts, town_hour, town_bears, town_draw), (fun _ => 0), (fun _ => 0))) ?_ hhd (by omega) hel hUs htv ⟨eq8_cpy _ _, eq8_cpy _ _, eq8_cpy _ _, eq8_cpy _ _, eq8_cpy _ _, rfl, rfl, rfl, rfl, rfl, rfl⟩
    rw [show ((hd + U.length) % 17 + 1) % 17 = (hd + U.length + 1) % 17 by omega]
    exact List.Perm.refl _
