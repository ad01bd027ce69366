set_option maxRecDepth 100000
theorem perm_cnt {α : Type} {l1 l2 : List α} (h : ∀ [DecidableEq α] (x : α), l1.count x = l2.count x) : l1.Perm l2 := by
  classical
  exact List.perm_iff_count.mpr (fun x => h x)
def fitV : TV → Prop
  | (k, s, p, l, g, _) => ¬ fitB k = false ∧ ¬ fitB s = false ∧ ¬ fitB p = false ∧ ¬ fitB l = false ∧ ¬ fitB g = false
theorem ne8 {f f' : Nat → Int32} (h : eq8 f f') (h1 : ¬ fitB f' = false) : ¬ fitB f = false := by rw [fitB_eq8 h]; exact h1
theorem G.dropF {X : Cx} {ws : va_W} {lv : LV} {ce sl pc : Nat} {st : List Value} {F J : va_W} (hF : X.F = F ++ J) (k : G (X.wF F) ws lv ce sl pc st) : G X ws lv ce sl pc st := by
  intro H locs ls hP hD hS hl
  rw [hF, ← List.append_assoc] at hP hD
  exact k H locs ls (lP hP) (lD hD) hS hl
theorem j1_clearL {e : Nat} (he : e < 17) : ∀ (fu i t : Nat) (el : Nat → Option Nat), i ≤ t → t ≤ 17 → (t - i) + (if t = e then 0 else e + 1) < fu → ∃ el', f_J1_circularClear_L12 (nI e) fu (nI i) (nI t) el = some el' := by
  intro fu
  induction fu with
  | zero => intro i t el h1 h2 h3; omega
  | succ fu ih =>
    intro i t el h1 h2 h3
    show ∃ el', t_J1_circularClear_L12 (nI e) (f_J1_circularClear_L12 (nI e) fu) (nI i) (nI t) el = some el'
    unfold t_J1_circularClear_L12
    by_cases h : t ≤ i
    · rw [if_pos (nI_le h (by omega))]
      by_cases h4 : t = e
      · rw [if_pos (by rw [h4])]; exact ⟨_, rfl⟩
      · rw [if_neg (fun z => h4 ((nI_eq (by omega) (by omega)).mp z))]
        rw [if_neg h4] at h3
        exact ih 0 e el (Nat.zero_le _) (by omega) (by rw [if_pos rfl]; omega)
    · rw [if_neg (nI_ge (by omega) (by omega)), if_neg (nI_in (by omega) (by decide)), nI_1]
      exact ih (i + 1) t _ (by omega) h2 (by split at h3 <;> split <;> omega)
theorem j1_clear {hd tl : Nat} (h : hd < 17) (ht : tl < 17) (el : Nat → Option Nat) : ∃ el', f_J1_clear (nI hd) (nI tl) el = some (0, 0, el') := by
  unfold f_J1_clear f_J1_circularClear
  by_cases h1 : tl < hd
  · rw [if_pos (nI_lt h1 (by omega)), b1_s]
    obtain ⟨el', e1⟩ := j1_clearL ht FU hd 17 el (by omega) (by omega) (by unfold FU; split <;> omega)
    exact ⟨el', by rw [show (17 : Int32) = nI 17 from rfl, e1, b1_s, b1_s]⟩
  · rw [if_neg (nI_nlt (by omega) (by omega)), b1_s]
    obtain ⟨el', e1⟩ := j1_clearL ht FU hd tl el (by omega) (by omega) (by unfold FU; rw [if_pos rfl]; omega)
    exact ⟨el', by rw [e1, b1_s, b1_s]⟩
set_option maxHeartbeats 4000000 in
theorem copies_loop {X : Cx} {a a1 a2 b1_ b2_ hd1 q : Nat} {el1 : Nat → Option Nat} {U1 : List TU} {Us : List TV} {mc ms : Nat} (h : Ok X cX0_copies RX0) (hR : Rm X 4 140 mc ms) (hL : ∀ i, i < 5 → i < X.nL) (hF : FinQ X none mc ms (fun v w => ∃ G1 G2 J : va_W, v = none ∧ w.Perm (G1 ++ (G2 ++ J)) ∧ DQ X.E a a1 Us G1 ∧ DQ X.E a a2 Us G2)) (hhd : hd1 < 17) (hlen : U1.length ≤ 8) (hel : ∀ (i : Nat) (t : TU), U1[i]? = some t → el1 ((hd1 + i) % 17) = some t.1.1) (hUs : U1.length = Us.length) (htv : ∀ (i : Nat) (t : TU) (v : TV), U1[i]? = some t → Us[i]? = some v → tveq t.2.1 v) (hfit : ∀ v ∈ Us, fitV v) :
    ∀ (m i : Nat) (V : List TU) (el2 : Nat → Option Nat) (lr : Int32) (ce sl : Nat), i + m = U1.length → V.length = i → (∀ (k : Nat) (t : TU), V[k]? = some t → el2 k = some t.1.1) → (∀ (k : Nat) (t : TU) (v : TV), V[k]? = some t → Us[k]? = some v → tveq t.2.1 v) → ce + 8 * m ≤ mc → sl + 70 * m ≤ ms →
      G (X.wF (pool X.E a U1 ++ pool X.E a V)) ([(a1, .inr (11, [.ref b1_, .int (nI hd1), .int (nI ((hd1 + U1.length) % 17))])), (b1_, .inl (X.E 4, 17, .inr (.inr (.inr (.inr el1))))), (a2, .inr (11, [.ref b2_, .int (nI 0), .int (nI i)])), (b2_, .inl (X.E 4, 17, .inr (.inr (.inr (.inr el2))))), (q, .inr (12, [.int (nI ((hd1 + i) % 17)), .int (nI m), .int lr, .ref a1]))] : va_W) [(0, .ref a), (2, .ref a2), (3, .ref q)] ce sl 9 [] := by
  intro m
  induction m with
  | zero =>
    intro i V el2 lr ce sl him hV hel2 hV2 hce hsl
    refine G.sub (ws' := ([(q, .inr (12, [.int (nI ((hd1 + i) % 17)), .int (nI 0), .int lr, .ref a1]))] : va_W) ++ ([(a1, .inr (11, [.ref b1_, .int (nI hd1), .int (nI ((hd1 + U1.length) % 17))])), (b1_, .inl (X.E 4, 17, .inr (.inr (.inr (.inr el1))))), (a2, .inr (11, [.ref b2_, .int (nI 0), .int (nI i)])), (b2_, .inl (X.E 4, 17, .inr (.inr (.inr (.inr el2)))))] : va_W)) [4, 0, 1, 2, 3] rfl rfl ?_
    refine G.sp ?_
    refine sg_copies9 (h.wF _) (Rm.less (hR.wF _) (fle rfl) (fle rfl) (Nat.le_refl _) (Nat.le_refl _)) hL (by omega) (by omega) (show fs_copies9 (nI 0) = some 0 by rfl) ?_
    refine b_if_eq (tgt := 49) (h.wF _) dX0_copies_15 rfl (fun _ => ?_) (fun c0 => absurd rfl c0)
    refine g_vretA (h.wF _) (hF.wF _) [0] rfl (w := ([(q, .inr (12, [.int (nI ((hd1 + i) % 17)), .int (nI 0), .int lr, .ref a1]))] : va_W)) rfl ?_ (by omega) (by omega) dX0_copies_49
    refine ⟨([(a1, .inr (11, [.ref b1_, .int (nI hd1), .int (nI ((hd1 + U1.length) % 17))])), (b1_, .inl (X.E 4, 17, .inr (.inr (.inr (.inr el1)))))] : va_W) ++ pool X.E a U1, ([(a2, .inr (11, [.ref b2_, .int (nI 0), .int (nI i)])), (b2_, .inl (X.E 4, 17, .inr (.inr (.inr (.inr el2)))))] : va_W) ++ pool X.E a V, ([(q, .inr (12, [.int (nI ((hd1 + i) % 17)), .int (nI 0), .int lr, .ref a1]))] : va_W), rfl, ?_, ?_, ?_⟩
    · show (([(q, .inr (12, [.int (nI ((hd1 + i) % 17)), .int (nI 0), .int lr, .ref a1])), (a1, .inr (11, [.ref b1_, .int (nI hd1), .int (nI ((hd1 + U1.length) % 17))])), (b1_, .inl (X.E 4, 17, .inr (.inr (.inr (.inr el1))))), (a2, .inr (11, [.ref b2_, .int (nI 0), .int (nI i)])), (b2_, .inl (X.E 4, 17, .inr (.inr (.inr (.inr el2)))))] : va_W) ++ (pool X.E a U1 ++ pool X.E a V)).Perm _
      show (([(q, .inr (12, [.int (nI ((hd1 + i) % 17)), .int (nI 0), .int lr, .ref a1]))] : va_W) ++ (([(a1, .inr (11, [.ref b1_, .int (nI hd1), .int (nI ((hd1 + U1.length) % 17))])), (b1_, .inl (X.E 4, 17, .inr (.inr (.inr (.inr el1)))))] : va_W) ++ (([(a2, .inr (11, [.ref b2_, .int (nI 0), .int (nI i)])), (b2_, .inl (X.E 4, 17, .inr (.inr (.inr (.inr el2)))))] : va_W) ++ (pool X.E a U1 ++ pool X.E a V)))).Perm ((([(a1, .inr (11, [.ref b1_, .int (nI hd1), .int (nI ((hd1 + U1.length) % 17))])), (b1_, .inl (X.E 4, 17, .inr (.inr (.inr (.inr el1)))))] : va_W) ++ pool X.E a U1) ++ ((([(a2, .inr (11, [.ref b2_, .int (nI 0), .int (nI i)])), (b2_, .inl (X.E 4, 17, .inr (.inr (.inr (.inr el2)))))] : va_W) ++ pool X.E a V) ++ ([(q, .inr (12, [.int (nI ((hd1 + i) % 17)), .int (nI 0), .int lr, .ref a1]))] : va_W)))
      refine perm_cnt (fun x => ?_)
      simp only [List.count_append]
      omega
    · exact ⟨b1_, el1, hd1, U1, List.Perm.refl _, hhd, hlen, hel, hUs, htv⟩
    · have hi : V.length = Us.length := by omega
      refine ⟨b2_, el2, 0, V, ?_, by decide, by omega, fun k t hk => ?_, hi, hV2⟩
      · rw [Nat.zero_add, hV, Nat.mod_eq_of_lt (by omega)]; exact List.Perm.refl _
      · have := (List.getElem?_eq_some_iff.mp hk).1
        rw [Nat.zero_add, Nat.mod_eq_of_lt (by omega)]; exact hel2 k t hk
  | succ m ih =>
    intro i V el2 lr ce sl him hV hel2 hV2 hce hsl
    have hi : i < U1.length := by omega
    refine G.sub (ws' := ([(q, .inr (12, [.int (nI ((hd1 + i) % 17)), .int (nI (m + 1)), .int lr, .ref a1]))] : va_W) ++ ([(a1, .inr (11, [.ref b1_, .int (nI hd1), .int (nI ((hd1 + U1.length) % 17))])), (b1_, .inl (X.E 4, 17, .inr (.inr (.inr (.inr el1))))), (a2, .inr (11, [.ref b2_, .int (nI 0), .int (nI i)])), (b2_, .inl (X.E 4, 17, .inr (.inr (.inr (.inr el2)))))] : va_W)) [4, 0, 1, 2, 3] rfl rfl ?_
    refine G.sp ?_
    refine sg_copies9 (h.wF _) (Rm.less (hR.wF _) (fle rfl) (fle rfl) (Nat.le_refl _) (Nat.le_refl _)) hL (by omega) (by omega) (show fs_copies9 (nI (m + 1)) = some 1 by unfold fs_copies9 f_J14_hasNext; rw [if_neg (nI_nle (by omega) (by omega))]; rfl) ?_
    refine b_if_eq (tgt := 49) (h.wF _) dX0_copies_15 rfl (fun c0 => absurd c0 (by decide)) (fun _ => ?_)
    refine G.mg (b := ([(a1, .inr (11, [.ref b1_, .int (nI hd1), .int (nI ((hd1 + U1.length) % 17))])), (b1_, .inl (X.E 4, 17, .inr (.inr (.inr (.inr el1)))))] : va_W)) (F := ([(a2, .inr (11, [.ref b2_, .int (nI 0), .int (nI i)])), (b2_, .inl (X.E 4, 17, .inr (.inr (.inr (.inr el2)))))] : va_W) ++ (pool X.E a U1 ++ pool X.E a V)) rfl ?_
    obtain ⟨u0, hu0⟩ : ∃ u0, U1[i]? = some u0 := ⟨_, List.getElem?_eq_getElem hi⟩
    obtain ⟨z0, hz0⟩ : ∃ z0, Us[i]? = some z0 := ⟨_, List.getElem?_eq_getElem (by omega)⟩
    have hzz := htv i u0 z0 hu0 hz0
    have hzf := hfit z0 (List.mem_of_getElem? hz0)
    have hUsplit : U1 = U1.take i ++ u0 :: U1.drop (i + 1) := by
      have e0 : U1[i] = u0 := (List.getElem?_eq_some_iff.mp hu0).2
      rw [← e0, List.getElem_cons_drop, List.take_append_drop]
    have hp0 := hel i u0 hu0
    rcases u0 with ⟨⟨y0, y1, y2, y3, y4, y5, y6, y7⟩, ⟨k0, k1, k2, k3, k4, i0, i1, i2, i3, i4, i5⟩, o0, v0⟩
    rcases z0 with ⟨k, s, p, l, g, n, h9, c, r, b, d⟩
    obtain ⟨z1, z2, z3, z4, z5, z6, z7, z8, z9, z10, z11⟩ := hzz
    subst z6; subst z7; subst z8; subst z9; subst z10; subst z11
    obtain ⟨hb1, hb2, hb3, hb4, hb5⟩ := hzf
    have hm17 : (hd1 + i) % 17 < 17 := Nat.mod_lt _ (by decide)
    refine sg_copies18 (o_t3_cursor := nI ((hd1 + (i + 1)) % 17)) (o_t3_remaining := nI m) (o_t3_lastRet := nI ((hd1 + i) % 17)) (s_0 := y0) (h.wF _) (Rm.less (hR.wF _) (fle rfl) (fle rfl) (Nat.le_refl _) (Nat.le_refl _)) hL (by omega) (by omega) (by
      unfold fs_copies18 f_J14_next f_J1_nonNullElementAt
      rw [if_pos (show (0 : Int32) < nI (m + 1) from nI_lt (a := 0) (by omega) (by omega)), if_neg (nI_in hm17 (by decide)), nI_clamp (by omega), hp0]
      show b4 (b1 (some y0) _) _ = _
      rw [b1_s, j1_inc hm17, b1_s, nI_pred, b4_s, show ((hd1 + i) % 17 + 1) % 17 = (hd1 + (i + 1)) % 17 by omega]) ?_
    refine G.pm (ws' := ([(y0, .inr (6, [.ref y1, .ref y2, .ref y3, .ref y4, .ref y5, .ref y6, .ref y7, .int i0, .int i1, .int i2, .int i3, .int i4, .int i5, .ref a])), (y1, .inl (X.E 0, 8, .inl k0)), (y2, .inl (X.E 0, 8, .inl k1)), (y3, .inl (X.E 0, 8, .inl k2)), (y4, .inl (X.E 0, 8, .inl k3)), (y5, .inl (X.E 0, 8, .inl k4))] : va_W) ++ ([(y6, .inl (X.E 1, 8, .inl o0)), (y7, .inl (X.E 1, 8, .inl v0)), (q, .inr (12, [.int (nI ((hd1 + (i + 1)) % 17)), .int (nI m), .int (nI ((hd1 + i) % 17)), .ref a1])), (a1, .inr (11, [.ref b1_, .int (nI hd1), .int (nI ((hd1 + U1.length) % 17))])), (b1_, .inl (X.E 4, 17, .inr (.inr (.inr (.inr el1))))), (a2, .inr (11, [.ref b2_, .int (nI 0), .int (nI i)])), (b2_, .inl (X.E 4, 17, .inr (.inr (.inr (.inr el2)))))] : va_W)) (F' := (pool X.E a (U1.take i) ++ pool X.E a (U1.drop (i + 1)) ++ pool X.E a V)) ?_ ?_
    · show (([(q, .inr (12, [.int (nI ((hd1 + (i + 1)) % 17)), .int (nI m), .int (nI ((hd1 + i) % 17)), .ref a1])), (a1, .inr (11, [.ref b1_, .int (nI hd1), .int (nI ((hd1 + U1.length) % 17))])), (b1_, .inl (X.E 4, 17, .inr (.inr (.inr (.inr el1)))))] : va_W) ++ (([(a2, .inr (11, [.ref b2_, .int (nI 0), .int (nI i)])), (b2_, .inl (X.E 4, 17, .inr (.inr (.inr (.inr el2)))))] : va_W) ++ (pool X.E a U1 ++ pool X.E a V))).Perm _
      have e3 : pool X.E a U1 = pool X.E a (U1.take i) ++ (([(y0, .inr (6, [.ref y1, .ref y2, .ref y3, .ref y4, .ref y5, .ref y6, .ref y7, .int i0, .int i1, .int i2, .int i3, .int i4, .int i5, .ref a])), (y1, .inl (X.E 0, 8, .inl k0)), (y2, .inl (X.E 0, 8, .inl k1)), (y3, .inl (X.E 0, 8, .inl k2)), (y4, .inl (X.E 0, 8, .inl k3)), (y5, .inl (X.E 0, 8, .inl k4)), (y6, .inl (X.E 1, 8, .inl o0)), (y7, .inl (X.E 1, 8, .inl v0))] : va_W) ++ pool X.E a (U1.drop (i + 1))) := by
        conv => lhs; rw [hUsplit]
        rw [pool_app, pool_cons]; rfl
      rw [e3]
      refine List.Perm.trans (l₂ := ([(q, .inr (12, [.int (nI ((hd1 + (i + 1)) % 17)), .int (nI m), .int (nI ((hd1 + i) % 17)), .ref a1])), (a1, .inr (11, [.ref b1_, .int (nI hd1), .int (nI ((hd1 + U1.length) % 17))])), (b1_, .inl (X.E 4, 17, .inr (.inr (.inr (.inr el1))))), (a2, .inr (11, [.ref b2_, .int (nI 0), .int (nI i)])), (b2_, .inl (X.E 4, 17, .inr (.inr (.inr (.inr el2)))))] : va_W) ++ (([(y0, .inr (6, [.ref y1, .ref y2, .ref y3, .ref y4, .ref y5, .ref y6, .ref y7, .int i0, .int i1, .int i2, .int i3, .int i4, .int i5, .ref a])), (y1, .inl (X.E 0, 8, .inl k0)), (y2, .inl (X.E 0, 8, .inl k1)), (y3, .inl (X.E 0, 8, .inl k2)), (y4, .inl (X.E 0, 8, .inl k3)), (y5, .inl (X.E 0, 8, .inl k4)), (y6, .inl (X.E 1, 8, .inl o0)), (y7, .inl (X.E 1, 8, .inl v0))] : va_W) ++ (pool X.E a (U1.take i) ++ pool X.E a (U1.drop (i + 1)) ++ pool X.E a V))) ?_ ?_
      · refine List.Perm.trans (l₂ := ([(q, .inr (12, [.int (nI ((hd1 + (i + 1)) % 17)), .int (nI m), .int (nI ((hd1 + i) % 17)), .ref a1])), (a1, .inr (11, [.ref b1_, .int (nI hd1), .int (nI ((hd1 + U1.length) % 17))])), (b1_, .inl (X.E 4, 17, .inr (.inr (.inr (.inr el1))))), (a2, .inr (11, [.ref b2_, .int (nI 0), .int (nI i)])), (b2_, .inl (X.E 4, 17, .inr (.inr (.inr (.inr el2)))))] : va_W) ++ ((pool X.E a (U1.take i) ++ (([(y0, .inr (6, [.ref y1, .ref y2, .ref y3, .ref y4, .ref y5, .ref y6, .ref y7, .int i0, .int i1, .int i2, .int i3, .int i4, .int i5, .ref a])), (y1, .inl (X.E 0, 8, .inl k0)), (y2, .inl (X.E 0, 8, .inl k1)), (y3, .inl (X.E 0, 8, .inl k2)), (y4, .inl (X.E 0, 8, .inl k3)), (y5, .inl (X.E 0, 8, .inl k4)), (y6, .inl (X.E 1, 8, .inl o0)), (y7, .inl (X.E 1, 8, .inl v0))] : va_W) ++ pool X.E a (U1.drop (i + 1)))) ++ pool X.E a V)) (List.Perm.refl _) ?_
        refine List.Perm.append_left _ ?_
        simp only [← List.append_assoc]
        refine List.Perm.append_right _ (List.Perm.append_right _ List.perm_append_comm)
      · rw [← List.append_assoc]
        exact List.Perm.append_right _ (perm_places 13 rfl [5, 6, 7, 8, 9, 10, 11, 12, 0, 1, 2, 3, 4] (by decide) rfl)
    refine G.sp ?_
    refine g_castT (h.wF _) 0 rfl q544 dX0_copies_24 ?_
    refine sg_copies27 (h.wF _) (Rm.less (hR.wF _) (fle rfl) (fle rfl) (Nat.le_refl _) (Nat.le_refl _)) hL (by omega) (by omega) (by unfold fs_copies27 f_X6_init; rw [b1_s, takes_ok (ne8 z1 hb1) (ne8 z2 hb2) (ne8 z3 hb3) (ne8 z4 hb4) (ne8 z5 hb5), b11_s]) (fun q1 q3 q4 q5 q6 q7 q8 q9 => ?_)
    refine G.mg (b := ([(y6, .inl (X.E 1, 8, .inl o0)), (y7, .inl (X.E 1, 8, .inl v0)), (q, .inr (12, [.int (nI ((hd1 + (i + 1)) % 17)), .int (nI m), .int (nI ((hd1 + i) % 17)), .ref a1])), (a1, .inr (11, [.ref b1_, .int (nI hd1), .int (nI ((hd1 + U1.length) % 17))])), (b1_, .inl (X.E 4, 17, .inr (.inr (.inr (.inr el1))))), (a2, .inr (11, [.ref b2_, .int (nI 0), .int (nI i)])), (b2_, .inl (X.E 4, 17, .inr (.inr (.inr (.inr el2)))))] : va_W)) (F := (pool X.E a (U1.take i) ++ pool X.E a (U1.drop (i + 1)) ++ pool X.E a V)) rfl ?_
    refine G.sub (ws' := ([(a2, .inr (11, [.ref b2_, .int (nI 0), .int (nI i)])), (b2_, .inl (X.E 4, 17, .inr (.inr (.inr (.inr el2))))), (q1, .inr (6, [.ref q3, .ref q4, .ref q5, .ref q6, .ref q7, .ref q8, .ref q9, .int i0, .int i1, .int i2, .int i3, .int i4, .int i5, .ref a]))] : va_W) ++ ([(q, .inr (12, [.int (nI ((hd1 + (i + 1)) % 17)), .int (nI m), .int (nI ((hd1 + i) % 17)), .ref a1])), (a1, .inr (11, [.ref b1_, .int (nI hd1), .int (nI ((hd1 + U1.length) % 17))])), (b1_, .inl (X.E 4, 17, .inr (.inr (.inr (.inr el1))))), (y0, .inr (6, [.ref y1, .ref y2, .ref y3, .ref y4, .ref y5, .ref y6, .ref y7, .int i0, .int i1, .int i2, .int i3, .int i4, .int i5, .ref a])), (y1, .inl (X.E 0, 8, .inl k0)), (y2, .inl (X.E 0, 8, .inl k1)), (y3, .inl (X.E 0, 8, .inl k2)), (y4, .inl (X.E 0, 8, .inl k3)), (y5, .inl (X.E 0, 8, .inl k4)), (y6, .inl (X.E 1, 8, .inl o0)), (y7, .inl (X.E 1, 8, .inl v0)), (q3, .inl (X.E 0, 8, .inl (va_cpy k0 (fun _ => 0) 0 0 8))), (q4, .inl (X.E 0, 8, .inl (va_cpy k1 (fun _ => 0) 0 0 8))), (q5, .inl (X.E 0, 8, .inl (va_cpy k2 (fun _ => 0) 0 0 8))), (q6, .inl (X.E 0, 8, .inl (va_cpy k3 (fun _ => 0) 0 0 8))), (q7, .inl (X.E 0, 8, .inl (va_cpy k4 (fun _ => 0) 0 0 8))), (q8, .inl (X.E 1, 8, .inl (fun _ => 0))), (q9, .inl (X.E 1, 8, .inl (fun _ => 0)))] : va_W)) [19, 20, 6, 16, 17, 18, 0, 1, 2, 3, 4, 5, 14, 15, 7, 8, 9, 10, 11, 12, 13] rfl rfl ?_
    refine G.sp ?_
    refine sg_copies43 (o_t2_tail := nI (i + 1)) (o_t2_elements := va_up el2 i (some q1)) (h.wF _) (Rm.less (hR.wF _) (fle rfl) (fle rfl) (Nat.le_refl _) (Nat.le_refl _)) hL (by omega) (by omega) (by unfold fs_copies43; rw [j1_addLast (by omega) (by decide) (by omega), b2_s, Nat.mod_eq_of_lt (by omega)]) ?_
    refine G.pm (ws' := ([(a1, .inr (11, [.ref b1_, .int (nI hd1), .int (nI ((hd1 + U1.length) % 17))])), (b1_, .inl (X.E 4, 17, .inr (.inr (.inr (.inr el1))))), (a2, .inr (11, [.ref b2_, .int (nI 0), .int (nI (i + 1))])), (b2_, .inl (X.E 4, 17, .inr (.inr (.inr (.inr (va_up el2 i (some q1))))))), (q, .inr (12, [.int (nI ((hd1 + (i + 1)) % 17)), .int (nI m), .int (nI ((hd1 + i) % 17)), .ref a1]))] : va_W)) (F' := pool X.E a U1 ++ pool X.E a (V ++ [((q1, q3, q4, q5, q6, q7, q8, q9), ((va_cpy k0 (fun _ => 0) 0 0 8), (va_cpy k1 (fun _ => 0) 0 0 8), (va_cpy k2 (fun _ => 0) 0 0 8), (va_cpy k3 (fun _ => 0) 0 0 8), (va_cpy k4 (fun _ => 0) 0 0 8), i0, i1, i2, i3, i4, i5), (fun _ => 0), (fun _ => 0))])) ?_ ?_
    · show (([(a2, .inr (11, [.ref b2_, .int (nI 0), .int (nI (i + 1))])), (b2_, .inl (X.E 4, 17, .inr (.inr (.inr (.inr (va_up el2 i (some q1))))))), (q1, .inr (6, [.ref q3, .ref q4, .ref q5, .ref q6, .ref q7, .ref q8, .ref q9, .int i0, .int i1, .int i2, .int i3, .int i4, .int i5, .ref a]))] : va_W) ++ (([(q, .inr (12, [.int (nI ((hd1 + (i + 1)) % 17)), .int (nI m), .int (nI ((hd1 + i) % 17)), .ref a1])), (a1, .inr (11, [.ref b1_, .int (nI hd1), .int (nI ((hd1 + U1.length) % 17))])), (b1_, .inl (X.E 4, 17, .inr (.inr (.inr (.inr el1))))), (y0, .inr (6, [.ref y1, .ref y2, .ref y3, .ref y4, .ref y5, .ref y6, .ref y7, .int i0, .int i1, .int i2, .int i3, .int i4, .int i5, .ref a])), (y1, .inl (X.E 0, 8, .inl k0)), (y2, .inl (X.E 0, 8, .inl k1)), (y3, .inl (X.E 0, 8, .inl k2)), (y4, .inl (X.E 0, 8, .inl k3)), (y5, .inl (X.E 0, 8, .inl k4)), (y6, .inl (X.E 1, 8, .inl o0)), (y7, .inl (X.E 1, 8, .inl v0)), (q3, .inl (X.E 0, 8, .inl (va_cpy k0 (fun _ => 0) 0 0 8))), (q4, .inl (X.E 0, 8, .inl (va_cpy k1 (fun _ => 0) 0 0 8))), (q5, .inl (X.E 0, 8, .inl (va_cpy k2 (fun _ => 0) 0 0 8))), (q6, .inl (X.E 0, 8, .inl (va_cpy k3 (fun _ => 0) 0 0 8))), (q7, .inl (X.E 0, 8, .inl (va_cpy k4 (fun _ => 0) 0 0 8))), (q8, .inl (X.E 1, 8, .inl (fun _ => 0))), (q9, .inl (X.E 1, 8, .inl (fun _ => 0)))] : va_W) ++ (pool X.E a (U1.take i) ++ pool X.E a (U1.drop (i + 1)) ++ pool X.E a V))).Perm _
      have e3 : pool X.E a U1 = pool X.E a (U1.take i) ++ (([(y0, .inr (6, [.ref y1, .ref y2, .ref y3, .ref y4, .ref y5, .ref y6, .ref y7, .int i0, .int i1, .int i2, .int i3, .int i4, .int i5, .ref a])), (y1, .inl (X.E 0, 8, .inl k0)), (y2, .inl (X.E 0, 8, .inl k1)), (y3, .inl (X.E 0, 8, .inl k2)), (y4, .inl (X.E 0, 8, .inl k3)), (y5, .inl (X.E 0, 8, .inl k4)), (y6, .inl (X.E 1, 8, .inl o0)), (y7, .inl (X.E 1, 8, .inl v0))] : va_W) ++ pool X.E a (U1.drop (i + 1))) := by
        conv => lhs; rw [hUsplit]
        rw [pool_app, pool_cons]; rfl
      rw [e3, pool_app, show pool X.E a [((q1, q3, q4, q5, q6, q7, q8, q9), ((va_cpy k0 (fun _ => 0) 0 0 8), (va_cpy k1 (fun _ => 0) 0 0 8), (va_cpy k2 (fun _ => 0) 0 0 8), (va_cpy k3 (fun _ => 0) 0 0 8), (va_cpy k4 (fun _ => 0) 0 0 8), i0, i1, i2, i3, i4, i5), (fun _ => 0), (fun _ => 0))] = ([(q1, .inr (6, [.ref q3, .ref q4, .ref q5, .ref q6, .ref q7, .ref q8, .ref q9, .int i0, .int i1, .int i2, .int i3, .int i4, .int i5, .ref a])), (q3, .inl (X.E 0, 8, .inl (va_cpy k0 (fun _ => 0) 0 0 8))), (q4, .inl (X.E 0, 8, .inl (va_cpy k1 (fun _ => 0) 0 0 8))), (q5, .inl (X.E 0, 8, .inl (va_cpy k2 (fun _ => 0) 0 0 8))), (q6, .inl (X.E 0, 8, .inl (va_cpy k3 (fun _ => 0) 0 0 8))), (q7, .inl (X.E 0, 8, .inl (va_cpy k4 (fun _ => 0) 0 0 8))), (q8, .inl (X.E 1, 8, .inl (fun _ => 0))), (q9, .inl (X.E 1, 8, .inl (fun _ => 0)))] : va_W) from rfl]
      show ((([(a2, .inr (11, [.ref b2_, .int (nI 0), .int (nI (i + 1))])), (b2_, .inl (X.E 4, 17, .inr (.inr (.inr (.inr (va_up el2 i (some q1)))))))] : va_W) ++ ([(q1, .inr (6, [.ref q3, .ref q4, .ref q5, .ref q6, .ref q7, .ref q8, .ref q9, .int i0, .int i1, .int i2, .int i3, .int i4, .int i5, .ref a]))] : va_W)) ++ ((([(q, .inr (12, [.int (nI ((hd1 + (i + 1)) % 17)), .int (nI m), .int (nI ((hd1 + i) % 17)), .ref a1]))] : va_W) ++ (([(a1, .inr (11, [.ref b1_, .int (nI hd1), .int (nI ((hd1 + U1.length) % 17))])), (b1_, .inl (X.E 4, 17, .inr (.inr (.inr (.inr el1)))))] : va_W) ++ (([(y0, .inr (6, [.ref y1, .ref y2, .ref y3, .ref y4, .ref y5, .ref y6, .ref y7, .int i0, .int i1, .int i2, .int i3, .int i4, .int i5, .ref a])), (y1, .inl (X.E 0, 8, .inl k0)), (y2, .inl (X.E 0, 8, .inl k1)), (y3, .inl (X.E 0, 8, .inl k2)), (y4, .inl (X.E 0, 8, .inl k3)), (y5, .inl (X.E 0, 8, .inl k4)), (y6, .inl (X.E 1, 8, .inl o0)), (y7, .inl (X.E 1, 8, .inl v0))] : va_W) ++ ([(q3, .inl (X.E 0, 8, .inl (va_cpy k0 (fun _ => 0) 0 0 8))), (q4, .inl (X.E 0, 8, .inl (va_cpy k1 (fun _ => 0) 0 0 8))), (q5, .inl (X.E 0, 8, .inl (va_cpy k2 (fun _ => 0) 0 0 8))), (q6, .inl (X.E 0, 8, .inl (va_cpy k3 (fun _ => 0) 0 0 8))), (q7, .inl (X.E 0, 8, .inl (va_cpy k4 (fun _ => 0) 0 0 8))), (q8, .inl (X.E 1, 8, .inl (fun _ => 0))), (q9, .inl (X.E 1, 8, .inl (fun _ => 0)))] : va_W)))) ++ (pool X.E a (U1.take i) ++ pool X.E a (U1.drop (i + 1)) ++ pool X.E a V))).Perm ((([(a1, .inr (11, [.ref b1_, .int (nI hd1), .int (nI ((hd1 + U1.length) % 17))])), (b1_, .inl (X.E 4, 17, .inr (.inr (.inr (.inr el1)))))] : va_W) ++ (([(a2, .inr (11, [.ref b2_, .int (nI 0), .int (nI (i + 1))])), (b2_, .inl (X.E 4, 17, .inr (.inr (.inr (.inr (va_up el2 i (some q1)))))))] : va_W) ++ ([(q, .inr (12, [.int (nI ((hd1 + (i + 1)) % 17)), .int (nI m), .int (nI ((hd1 + i) % 17)), .ref a1]))] : va_W))) ++ ((pool X.E a (U1.take i) ++ (([(y0, .inr (6, [.ref y1, .ref y2, .ref y3, .ref y4, .ref y5, .ref y6, .ref y7, .int i0, .int i1, .int i2, .int i3, .int i4, .int i5, .ref a])), (y1, .inl (X.E 0, 8, .inl k0)), (y2, .inl (X.E 0, 8, .inl k1)), (y3, .inl (X.E 0, 8, .inl k2)), (y4, .inl (X.E 0, 8, .inl k3)), (y5, .inl (X.E 0, 8, .inl k4)), (y6, .inl (X.E 1, 8, .inl o0)), (y7, .inl (X.E 1, 8, .inl v0))] : va_W) ++ pool X.E a (U1.drop (i + 1)))) ++ (pool X.E a V ++ (([(q1, .inr (6, [.ref q3, .ref q4, .ref q5, .ref q6, .ref q7, .ref q8, .ref q9, .int i0, .int i1, .int i2, .int i3, .int i4, .int i5, .ref a]))] : va_W) ++ ([(q3, .inl (X.E 0, 8, .inl (va_cpy k0 (fun _ => 0) 0 0 8))), (q4, .inl (X.E 0, 8, .inl (va_cpy k1 (fun _ => 0) 0 0 8))), (q5, .inl (X.E 0, 8, .inl (va_cpy k2 (fun _ => 0) 0 0 8))), (q6, .inl (X.E 0, 8, .inl (va_cpy k3 (fun _ => 0) 0 0 8))), (q7, .inl (X.E 0, 8, .inl (va_cpy k4 (fun _ => 0) 0 0 8))), (q8, .inl (X.E 1, 8, .inl (fun _ => 0))), (q9, .inl (X.E 1, 8, .inl (fun _ => 0)))] : va_W)))))
      refine perm_cnt (fun x => ?_)
      simp only [List.count_append]
      omega
    refine ih (i + 1) (V ++ [((q1, q3, q4, q5, q6, q7, q8, q9), ((va_cpy k0 (fun _ => 0) 0 0 8), (va_cpy k1 (fun _ => 0) 0 0 8), (va_cpy k2 (fun _ => 0) 0 0 8), (va_cpy k3 (fun _ => 0) 0 0 8), (va_cpy k4 (fun _ => 0) 0 0 8), i0, i1, i2, i3, i4, i5), (fun _ => 0), (fun _ => 0))]) (va_up el2 i (some q1)) (nI ((hd1 + i) % 17)) (ce + 8) (sl + 70) (by omega) (by simp [hV]) ?_ ?_ (by omega) (by omega)
    · intro j t ht
      by_cases hj : j < V.length
      · rw [List.getElem?_append_left hj] at ht
        rw [show va_up el2 i (some q1) j = el2 j from if_neg (by omega)]
        exact hel2 j t ht
      · rw [List.getElem?_append_right (by omega)] at ht
        have h0 : j - V.length = 0 := by
          have := (List.getElem?_eq_some_iff.mp ht).1
          simp at this; omega
        rw [h0] at ht
        cases ht
        rw [show j = i by omega]
        exact if_pos rfl
    · intro j t v ht hv
      by_cases hj : j < V.length
      · rw [List.getElem?_append_left hj] at ht
        exact hV2 j t v ht hv
      · rw [List.getElem?_append_right (by omega)] at ht
        have h0 : j - V.length = 0 := by
          have := (List.getElem?_eq_some_iff.mp ht).1
          simp at this; omega
        rw [h0] at ht
        cases ht
        rw [show j = i by omega, hz0] at hv
        cases hv
        exact ⟨fun x hx => (eq8_cpy _ _ x hx).trans (z1 x hx), fun x hx => (eq8_cpy _ _ x hx).trans (z2 x hx), fun x hx => (eq8_cpy _ _ x hx).trans (z3 x hx), fun x hx => (eq8_cpy _ _ x hx).trans (z4 x hx), fun x hx => (eq8_cpy _ _ x hx).trans (z5 x hx), rfl, rfl, rfl, rfl, rfl, rfl⟩
set_option maxHeartbeats 4000000 in
theorem ct_X0_copies {l : Launch} {D : va_G} {E : Ety} {a a1 a2 : Nat} {Us Ks : List TV} {F1 F2 : va_W} (hd1 : DQ E a a1 Us F1) (hd2 : DQ E a a2 Ks F2) (hfit : ∀ v ∈ Us, fitV v) : Ct l yX0_copies cX0_copies 5 none 4 140 65 564 D E [.ref a, .ref a1, .ref a2] (F1 ++ F2) (fun v w => ∃ G1 G2 J : va_W, v = none ∧ w.Perm (G1 ++ (G2 ++ J)) ∧ DQ E a a1 Us G1 ∧ DQ E a a2 Us G2) := by
  obtain ⟨b1_, el1, hd1, U1, hp1, hhd, hlen, hel, hUs, htv⟩ := hd1
  obtain ⟨b2_, el2, hd2, U2, hp2, hhd2, hlen2, -, -, -⟩ := hd2
  refine Ct.perm (ws' := ([(a1, .inr (11, [.ref b1_, .int (nI hd1), .int (nI ((hd1 + U1.length) % 17))])), (b1_, .inl (E 4, 17, .inr (.inr (.inr (.inr el1))))), (a2, .inr (11, [.ref b2_, .int (nI hd2), .int (nI ((hd2 + U2.length) % 17))])), (b2_, .inl (E 4, 17, .inr (.inr (.inr (.inr el2)))))] : va_W) ++ (pool E a U1 ++ pool E a U2)) ?_ ?_
  · refine (List.Perm.append hp1 hp2).trans ?_
    refine List.Perm.trans (l₂ := ([(a1, .inr (11, [.ref b1_, .int (nI hd1), .int (nI ((hd1 + U1.length) % 17))])), (b1_, .inl (E 4, 17, .inr (.inr (.inr (.inr el1)))))] : va_W) ++ ((pool E a U1 ++ ([(a2, .inr (11, [.ref b2_, .int (nI hd2), .int (nI ((hd2 + U2.length) % 17))])), (b2_, .inl (E 4, 17, .inr (.inr (.inr (.inr el2)))))] : va_W)) ++ pool E a U2)) (by simp) ?_
    refine List.Perm.trans (List.Perm.append_left _ (List.Perm.append_right _ List.perm_append_comm)) ?_
    simp
  refine ct_ofF (own := RX0) rfl (plainFor_of_name (by decide)) rfl (fle rfl) rfl ?_
  intro X hl hD hE hnL hXF h hR hF hnm
  subst hl; subst hD; subst hE
  have hL : ∀ i, i < 5 → i < X.nL := fun i hi => by rw [hnL]; exact hi
  obtain ⟨el3, hcl⟩ := j1_clear hhd2 (Nat.mod_lt (hd2 + U2.length) (by decide : 17 > 0)) el2
  refine sg_copies0 (o_t2_head := 0) (o_t2_tail := 0) (o_t2_elements := el3) (w_0 := nI hd1) (w_1 := nI U1.length) (w_2 := (-1)) h (Rm.less hR (fle rfl) (fle rfl) (Nat.le_refl _) (Nat.le_refl _)) hL (fle rfl) (fle rfl) (by unfold fs_copies0 f_J1_iterator f_J14_init; rw [hcl, b3_s, j1_size hhd (by omega), b1_s, b3_s, b3_s]) (fun q => ?_)
  refine g_astore_n (lv' := [(3, .ref q), (0, .ref a), (2, .ref a2)]) h dX0_copies_8 rfl (hL 3 (fle rfl)) rfl ?_
  refine G.lsub (lv' := [(0, .ref a), (2, .ref a2), (3, .ref q)]) [1, 2, 0] rfl ?_
  refine G.dropF hXF ?_
  have hlp := copies_loop (X := X) (q := q) (b1_ := b1_) (b2_ := b2_) (el1 := el1) h (Rm.less hR (fle rfl) (fle rfl) (Nat.le_refl _) (Nat.le_refl _)) hL hF hhd hlen hel hUs htv hfit U1.length 0 [] el3 (-1) 1 4 (by omega) rfl (fun k t hk => by simp at hk) (fun k t v hk => by simp at hk) (by omega) (by omega)
  rw [Nat.add_zero, Nat.mod_eq_of_lt hhd, show pool X.E a [] = [] from rfl, List.append_nil] at hlp
  exact hlp
